/-! java/lang/Exception -/
set_option maxRecDepth 100000
def RJ12 : String := "java/lang/Exception"
abbrev cJ12_init : ByteArray := prog_30_method_2_code
def yJ12_init : MethodName := ⟨RJ12, "<init>", "(Ljava/lang/String;)V"⟩
def dkwJ12_init_0 : List UInt8 := [42, 43, 183, 0, 7, 177]
abbrev dktJ12_init_0 : List UInt8 := dkwJ12_init_0 ++ []
theorem dksJ12_init_0 : cJ12_init.data.toList.drop 0 = dktJ12_init_0 := by decide +kernel
theorem dJ12_init_0 : decode cJ12_init 0 = .ok (.aload_n 0, 1) := dk_42 (dk_at dksJ12_init_0 0 rfl rfl)
theorem dJ12_init_1 : decode cJ12_init 1 = .ok (.aload_n 1, 1) := dk_43 (dk_at dksJ12_init_0 1 rfl rfl)
theorem dJ12_init_2 : decode cJ12_init 2 = .ok (.invokespecial 7, 3) := dk_183 0 7 (dk_at dksJ12_init_0 2 rfl rfl)
theorem dJ12_init_5 : decode cJ12_init 5 = .ok (.return_, 1) := dk_177 (dk_at dksJ12_init_0 5 rfl rfl)
abbrev cJ12_init_2 : ByteArray := prog_30_method_1_code
def yJ12_init_2 : MethodName := ⟨RJ12, "<init>", "()V"⟩
theorem dJ12_init_2_0 : decode cJ12_init_2 0 = .ok (.aload_n 0, 1) := by decide +kernel
theorem dJ12_init_2_1 : decode cJ12_init_2 1 = .ok (.invokespecial 1, 3) := by decide +kernel
theorem dJ12_init_2_4 : decode cJ12_init_2 4 = .ok (.return_, 1) := by decide +kernel
abbrev cJ12_init_3 : ByteArray := prog_30_method_4_code
def yJ12_init_3 : MethodName := ⟨RJ12, "<init>", "(Ljava/lang/Throwable;)V"⟩
def dkwJ12_init_3_0 : List UInt8 := [42, 43, 183, 0, 13, 177]
abbrev dktJ12_init_3_0 : List UInt8 := dkwJ12_init_3_0 ++ []
theorem dksJ12_init_3_0 : cJ12_init_3.data.toList.drop 0 = dktJ12_init_3_0 := by decide +kernel
theorem dJ12_init_3_0 : decode cJ12_init_3 0 = .ok (.aload_n 0, 1) := dk_42 (dk_at dksJ12_init_3_0 0 rfl rfl)
theorem dJ12_init_3_1 : decode cJ12_init_3 1 = .ok (.aload_n 1, 1) := dk_43 (dk_at dksJ12_init_3_0 1 rfl rfl)
theorem dJ12_init_3_2 : decode cJ12_init_3 2 = .ok (.invokespecial 13, 3) := dk_183 0 13 (dk_at dksJ12_init_3_0 2 rfl rfl)
theorem dJ12_init_3_5 : decode cJ12_init_3 5 = .ok (.return_, 1) := dk_177 (dk_at dksJ12_init_3_0 5 rfl rfl)
abbrev cJ12_init_4 : ByteArray := prog_30_method_3_code
def yJ12_init_4 : MethodName := ⟨RJ12, "<init>", "(Ljava/lang/String;Ljava/lang/Throwable;)V"⟩
def dkwJ12_init_4_0 : List UInt8 := [42, 43, 44, 183, 0, 10, 177]
abbrev dktJ12_init_4_0 : List UInt8 := dkwJ12_init_4_0 ++ []
theorem dksJ12_init_4_0 : cJ12_init_4.data.toList.drop 0 = dktJ12_init_4_0 := by decide +kernel
theorem dJ12_init_4_0 : decode cJ12_init_4 0 = .ok (.aload_n 0, 1) := dk_42 (dk_at dksJ12_init_4_0 0 rfl rfl)
theorem dJ12_init_4_1 : decode cJ12_init_4 1 = .ok (.aload_n 1, 1) := dk_43 (dk_at dksJ12_init_4_0 1 rfl rfl)
theorem dJ12_init_4_2 : decode cJ12_init_4 2 = .ok (.aload_n 2, 1) := dk_44 (dk_at dksJ12_init_4_0 2 rfl rfl)
theorem dJ12_init_4_3 : decode cJ12_init_4 3 = .ok (.invokespecial 10, 3) := dk_183 0 10 (dk_at dksJ12_init_4_0 3 rfl rfl)
theorem dJ12_init_4_6 : decode cJ12_init_4 6 = .ok (.return_, 1) := dk_177 (dk_at dksJ12_init_4_0 6 rfl rfl)
theorem q140 : (Jvm.Cond.initialized "java/lang/Exception") ∈ lw_all := lw_g (lw_at lw_m1 16 rfl) rfl
theorem q502 : (Jvm.Cond.declares ({ cls := "java/lang/Exception", name := "<init>", desc := "()V" } : Jvm.MethodName)) ∈ lw_tbl := lw_at lw_m2 138 rfl
theorem q503 : (Jvm.Cond.declares ({ cls := "java/lang/Exception", name := "<init>", desc := "(Ljava/lang/String;)V" } : Jvm.MethodName)) ∈ lw_tbl := lw_at lw_m2 139 rfl
theorem q757 : (Jvm.Cond.instanceMethod ({ cls := "java/lang/Exception", name := "<init>", desc := "(Ljava/lang/String;)V" } : Jvm.MethodName)) ∈ lw_all := lw_g (lw_at lw_m3 153 rfl) rfl
theorem q758 : (Jvm.Cond.code ({ cls := "java/lang/Exception", name := "<init>", desc := "(Ljava/lang/String;)V" } : Jvm.MethodName) prog_30_method_2_code (2 : Nat) (Option.none : Option Jvm.ClassFile.FieldType)) ∈ lw_all := lw_g (lw_at lw_m3 154 rfl) rfl
theorem q759 : (Jvm.Cond.methodLink "java/lang/Exception" (7 : Nat) ({ cls := "java/lang/Throwable", name := "<init>", desc := "(Ljava/lang/String;)V" } : Jvm.MethodName)) ∈ lw_all := lw_g (lw_at lw_m3 155 rfl) rfl
theorem q867 : (Jvm.Cond.instanceMethod ({ cls := "java/lang/Exception", name := "<init>", desc := "()V" } : Jvm.MethodName)) ∈ lw_all := lw_g (lw_at lw_m4 23 rfl) rfl
theorem q868 : (Jvm.Cond.code ({ cls := "java/lang/Exception", name := "<init>", desc := "()V" } : Jvm.MethodName) prog_30_method_1_code (1 : Nat) (Option.none : Option Jvm.ClassFile.FieldType)) ∈ lw_all := lw_g (lw_at lw_m4 24 rfl) rfl
theorem q869 : (Jvm.Cond.methodLink "java/lang/Exception" (1 : Nat) ({ cls := "java/lang/Throwable", name := "<init>", desc := "()V" } : Jvm.MethodName)) ∈ lw_all := lw_g (lw_at lw_m4 25 rfl) rfl
theorem q1431 : (Jvm.Cond.instanceMethod ({ cls := "java/lang/Exception", name := "<init>", desc := "(Ljava/lang/Throwable;)V" } : Jvm.MethodName)) ∈ lw_all := lw_g (lw_at lw_m6 107 rfl) rfl
theorem q1432 : (Jvm.Cond.code ({ cls := "java/lang/Exception", name := "<init>", desc := "(Ljava/lang/Throwable;)V" } : Jvm.MethodName) prog_30_method_4_code (2 : Nat) (Option.none : Option Jvm.ClassFile.FieldType)) ∈ lw_all := lw_g (lw_at lw_m6 108 rfl) rfl
theorem q1433 : (Jvm.Cond.methodLink "java/lang/Exception" (13 : Nat) ({ cls := "java/lang/Throwable", name := "<init>", desc := "(Ljava/lang/Throwable;)V" } : Jvm.MethodName)) ∈ lw_all := lw_g (lw_at lw_m6 109 rfl) rfl
theorem q2173 : (Jvm.Cond.instanceMethod ({ cls := "java/lang/Exception", name := "<init>", desc := "(Ljava/lang/String;Ljava/lang/Throwable;)V" } : Jvm.MethodName)) ∈ lw_all := lw_g (lw_at lw_m9 129 rfl) rfl
theorem q2174 : (Jvm.Cond.code ({ cls := "java/lang/Exception", name := "<init>", desc := "(Ljava/lang/String;Ljava/lang/Throwable;)V" } : Jvm.MethodName) prog_30_method_3_code (3 : Nat) (Option.none : Option Jvm.ClassFile.FieldType)) ∈ lw_all := lw_g (lw_at lw_m9 130 rfl) rfl
theorem q2175 : (Jvm.Cond.methodLink "java/lang/Exception" (10 : Nat) ({ cls := "java/lang/Throwable", name := "<init>", desc := "(Ljava/lang/String;Ljava/lang/Throwable;)V" } : Jvm.MethodName)) ∈ lw_all := lw_g (lw_at lw_m9 131 rfl) rfl

/-! java/lang/Number -/
set_option maxRecDepth 100000
def RJ13 : String := "java/lang/Number"
abbrev cJ13_init : ByteArray := prog_39_method_1_code
def yJ13_init : MethodName := ⟨RJ13, "<init>", "()V"⟩
theorem dJ13_init_0 : decode cJ13_init 0 = .ok (.aload_n 0, 1) := by decide +kernel
theorem dJ13_init_1 : decode cJ13_init 1 = .ok (.invokespecial 1, 3) := by decide +kernel
theorem dJ13_init_4 : decode cJ13_init 4 = .ok (.return_, 1) := by decide +kernel
theorem q143 : (Jvm.Cond.initialized "java/lang/Number") ∈ lw_all := lw_g (lw_at lw_m1 19 rfl) rfl
theorem q1789 : (Jvm.Cond.instanceMethod ({ cls := "java/lang/Number", name := "<init>", desc := "()V" } : Jvm.MethodName)) ∈ lw_all := lw_g (lw_at lw_m7 225 rfl) rfl
theorem q1790 : (Jvm.Cond.code ({ cls := "java/lang/Number", name := "<init>", desc := "()V" } : Jvm.MethodName) prog_39_method_1_code (1 : Nat) (Option.none : Option Jvm.ClassFile.FieldType)) ∈ lw_all := lw_g (lw_at lw_m7 226 rfl) rfl
theorem q1791 : (Jvm.Cond.methodLink "java/lang/Number" (1 : Nat) ({ cls := "java/lang/Object", name := "<init>", desc := "()V" } : Jvm.MethodName)) ∈ lw_all := lw_g (lw_at lw_m7 227 rfl) rfl

/-! java/lang/Integer -/
set_option maxRecDepth 100000
def RJ14 : String := "java/lang/Integer"
def TJ14 : u_T := fun k => match k with
  | _ => ("java/lang/Integer", "value", "I", true)
def tyJ14 : Nat → FieldType := fun k => match k with
  | _ => .int
abbrev wsJ140 : List Cond := u_ws RJ14 TJ14 1
theorem nmJ14 : ∀ a, a < 1 → ∀ b, b < 1 → a ≠ b → (TJ14 a).2.1 ≠ (TJ14 b).2.1 := by decide +kernel
theorem tyJ14_ok : ∀ k, k < 1 → parseFieldDescriptor (TJ14 k).2.2.1 = some (tyJ14 k) := by decide +kernel
abbrev cJ14_stringSize : ByteArray := prog_34_method_13_code
def yJ14_stringSize : MethodName := ⟨RJ14, "stringSize", "(I)I"⟩
def dkwJ14_stringSize_1 : List UInt8 := [164, 0, 7, 29, 27, 96, 172, 16, 10, 28, 104, 61, 132, 3, 1, 167, 255, 233, 16, 10, 27, 96, 172]
abbrev dktJ14_stringSize_1 : List UInt8 := dkwJ14_stringSize_1 ++ []
def dkwJ14_stringSize_0 : List UInt8 := [4, 60, 26, 155, 0, 8, 3, 60, 26, 116, 59, 16, 246, 61, 4, 62, 29, 16, 10, 162, 0, 23, 26, 28]
abbrev dktJ14_stringSize_0 : List UInt8 := dkwJ14_stringSize_0 ++ dktJ14_stringSize_1
theorem dksJ14_stringSize_0 : cJ14_stringSize.data.toList.drop 0 = dktJ14_stringSize_0 := by decide +kernel
theorem dksJ14_stringSize_1 : cJ14_stringSize.data.toList.drop 24 = dktJ14_stringSize_1 := dk_seg dksJ14_stringSize_0 24 rfl rfl
theorem dJ14_stringSize_0 : decode cJ14_stringSize 0 = .ok (.iconst 1, 1) := dk_4 (dk_at dksJ14_stringSize_0 0 rfl rfl)
theorem dJ14_stringSize_1 : decode cJ14_stringSize 1 = .ok (.istore_n 1, 1) := dk_60 (dk_at dksJ14_stringSize_0 1 rfl rfl)
theorem dJ14_stringSize_2 : decode cJ14_stringSize 2 = .ok (.iload_n 0, 1) := dk_26 (dk_at dksJ14_stringSize_0 2 rfl rfl)
theorem dJ14_stringSize_3 : decode cJ14_stringSize 3 = .ok (.ifCond .lt 8, 3) := dk_155 0 8 (dk_at dksJ14_stringSize_0 3 rfl rfl)
theorem dJ14_stringSize_6 : decode cJ14_stringSize 6 = .ok (.iconst 0, 1) := dk_3 (dk_at dksJ14_stringSize_0 6 rfl rfl)
theorem dJ14_stringSize_7 : decode cJ14_stringSize 7 = .ok (.istore_n 1, 1) := dk_60 (dk_at dksJ14_stringSize_0 7 rfl rfl)
theorem dJ14_stringSize_8 : decode cJ14_stringSize 8 = .ok (.iload_n 0, 1) := dk_26 (dk_at dksJ14_stringSize_0 8 rfl rfl)
theorem dJ14_stringSize_9 : decode cJ14_stringSize 9 = .ok (.ineg, 1) := dk_116 (dk_at dksJ14_stringSize_0 9 rfl rfl)
theorem dJ14_stringSize_10 : decode cJ14_stringSize 10 = .ok (.istore_n 0, 1) := dk_59 (dk_at dksJ14_stringSize_0 10 rfl rfl)
theorem dJ14_stringSize_11 : decode cJ14_stringSize 11 = .ok (.bipush (-10), 2) := dk_16 246 (dk_at dksJ14_stringSize_0 11 rfl rfl)
theorem dJ14_stringSize_13 : decode cJ14_stringSize 13 = .ok (.istore_n 2, 1) := dk_61 (dk_at dksJ14_stringSize_0 13 rfl rfl)
theorem dJ14_stringSize_14 : decode cJ14_stringSize 14 = .ok (.iconst 1, 1) := dk_4 (dk_at dksJ14_stringSize_0 14 rfl rfl)
theorem dJ14_stringSize_15 : decode cJ14_stringSize 15 = .ok (.istore_n 3, 1) := dk_62 (dk_at dksJ14_stringSize_0 15 rfl rfl)
theorem dJ14_stringSize_16 : decode cJ14_stringSize 16 = .ok (.iload_n 3, 1) := dk_29 (dk_at dksJ14_stringSize_0 16 rfl rfl)
theorem dJ14_stringSize_17 : decode cJ14_stringSize 17 = .ok (.bipush 10, 2) := dk_16 10 (dk_at dksJ14_stringSize_0 17 rfl rfl)
theorem dJ14_stringSize_19 : decode cJ14_stringSize 19 = .ok (.if_icmp .ge 23, 3) := dk_162 0 23 (dk_at dksJ14_stringSize_0 19 rfl rfl)
theorem dJ14_stringSize_22 : decode cJ14_stringSize 22 = .ok (.iload_n 0, 1) := dk_26 (dk_at dksJ14_stringSize_0 22 rfl rfl)
theorem dJ14_stringSize_23 : decode cJ14_stringSize 23 = .ok (.iload_n 2, 1) := dk_28 (dk_at dksJ14_stringSize_0 23 rfl rfl)
theorem dJ14_stringSize_24 : decode cJ14_stringSize 24 = .ok (.if_icmp .le 7, 3) := dk_164 0 7 (dk_at dksJ14_stringSize_1 0 rfl rfl)
theorem dJ14_stringSize_27 : decode cJ14_stringSize 27 = .ok (.iload_n 3, 1) := dk_29 (dk_at dksJ14_stringSize_1 3 rfl rfl)
theorem dJ14_stringSize_28 : decode cJ14_stringSize 28 = .ok (.iload_n 1, 1) := dk_27 (dk_at dksJ14_stringSize_1 4 rfl rfl)
theorem dJ14_stringSize_29 : decode cJ14_stringSize 29 = .ok (.iadd, 1) := dk_96 (dk_at dksJ14_stringSize_1 5 rfl rfl)
theorem dJ14_stringSize_30 : decode cJ14_stringSize 30 = .ok (.ireturn, 1) := dk_172 (dk_at dksJ14_stringSize_1 6 rfl rfl)
theorem dJ14_stringSize_31 : decode cJ14_stringSize 31 = .ok (.bipush 10, 2) := dk_16 10 (dk_at dksJ14_stringSize_1 7 rfl rfl)
theorem dJ14_stringSize_33 : decode cJ14_stringSize 33 = .ok (.iload_n 2, 1) := dk_28 (dk_at dksJ14_stringSize_1 9 rfl rfl)
theorem dJ14_stringSize_34 : decode cJ14_stringSize 34 = .ok (.imul, 1) := dk_104 (dk_at dksJ14_stringSize_1 10 rfl rfl)
theorem dJ14_stringSize_35 : decode cJ14_stringSize 35 = .ok (.istore_n 2, 1) := dk_61 (dk_at dksJ14_stringSize_1 11 rfl rfl)
theorem dJ14_stringSize_36 : decode cJ14_stringSize 36 = .ok (.iinc 3 1, 3) := dk_132 3 1 (dk_at dksJ14_stringSize_1 12 rfl rfl)
theorem dJ14_stringSize_39 : decode cJ14_stringSize 39 = .ok (.goto (-23), 3) := dk_167 255 233 (dk_at dksJ14_stringSize_1 15 rfl rfl)
theorem dJ14_stringSize_42 : decode cJ14_stringSize 42 = .ok (.bipush 10, 2) := dk_16 10 (dk_at dksJ14_stringSize_1 18 rfl rfl)
theorem dJ14_stringSize_44 : decode cJ14_stringSize 44 = .ok (.iload_n 1, 1) := dk_27 (dk_at dksJ14_stringSize_1 20 rfl rfl)
theorem dJ14_stringSize_45 : decode cJ14_stringSize 45 = .ok (.iadd, 1) := dk_96 (dk_at dksJ14_stringSize_1 21 rfl rfl)
theorem dJ14_stringSize_46 : decode cJ14_stringSize 46 = .ok (.ireturn, 1) := dk_172 (dk_at dksJ14_stringSize_1 22 rfl rfl)
abbrev cJ14_getChars : ByteArray := prog_34_method_12_code
def yJ14_getChars : MethodName := ⟨RJ14, "getChars", "(II[B)I"⟩
def dkwJ14_getChars_5 : List UInt8 := [16, 45, 84, 21, 5, 172]
abbrev dktJ14_getChars_5 : List UInt8 := dkwJ14_getChars_5 ++ []
def dkwJ14_getChars_4 : List UInt8 := [132, 5, 255, 21, 5, 178, 0, 87, 26, 116, 51, 84, 21, 6, 153, 0, 12, 44, 132, 5, 255, 21, 5]
abbrev dktJ14_getChars_4 : List UInt8 := dkwJ14_getChars_4 ++ dktJ14_getChars_5
def dkwJ14_getChars_3 : List UInt8 := [167, 255, 209, 44, 132, 5, 255, 21, 5, 178, 0, 83, 26, 116, 51, 84, 26, 16, 247, 162, 0, 16, 44]
abbrev dktJ14_getChars_3 : List UInt8 := dkwJ14_getChars_3 ++ dktJ14_getChars_4
def dkwJ14_getChars_2 : List UInt8 := [21, 5, 178, 0, 83, 21, 4, 51, 84, 44, 132, 5, 255, 21, 5, 178, 0, 87, 21, 4, 51, 84]
abbrev dktJ14_getChars_2 : List UInt8 := dkwJ14_getChars_2 ++ dktJ14_getChars_3
def dkwJ14_getChars_1 : List UInt8 := [16, 156, 163, 0, 47, 26, 16, 100, 108, 62, 29, 16, 100, 104, 26, 100, 54, 4, 29, 59, 44, 132, 5, 255]
abbrev dktJ14_getChars_1 : List UInt8 := dkwJ14_getChars_1 ++ dktJ14_getChars_2
def dkwJ14_getChars_0 : List UInt8 := [27, 54, 5, 26, 156, 0, 7, 4, 167, 0, 4, 3, 54, 6, 21, 6, 154, 0, 6, 26, 116, 59, 26]
abbrev dktJ14_getChars_0 : List UInt8 := dkwJ14_getChars_0 ++ dktJ14_getChars_1
theorem dksJ14_getChars_0 : cJ14_getChars.data.toList.drop 0 = dktJ14_getChars_0 := by decide +kernel
theorem dksJ14_getChars_1 : cJ14_getChars.data.toList.drop 23 = dktJ14_getChars_1 := dk_seg dksJ14_getChars_0 23 rfl rfl
theorem dksJ14_getChars_2 : cJ14_getChars.data.toList.drop 47 = dktJ14_getChars_2 := dk_seg dksJ14_getChars_1 24 rfl rfl
theorem dksJ14_getChars_3 : cJ14_getChars.data.toList.drop 69 = dktJ14_getChars_3 := dk_seg dksJ14_getChars_2 22 rfl rfl
theorem dksJ14_getChars_4 : cJ14_getChars.data.toList.drop 92 = dktJ14_getChars_4 := dk_seg dksJ14_getChars_3 23 rfl rfl
theorem dksJ14_getChars_5 : cJ14_getChars.data.toList.drop 115 = dktJ14_getChars_5 := dk_seg dksJ14_getChars_4 23 rfl rfl
theorem dJ14_getChars_0 : decode cJ14_getChars 0 = .ok (.iload_n 1, 1) := dk_27 (dk_at dksJ14_getChars_0 0 rfl rfl)
theorem dJ14_getChars_1 : decode cJ14_getChars 1 = .ok (.istore 5, 2) := dk_54 5 (dk_at dksJ14_getChars_0 1 rfl rfl)
theorem dJ14_getChars_3 : decode cJ14_getChars 3 = .ok (.iload_n 0, 1) := dk_26 (dk_at dksJ14_getChars_0 3 rfl rfl)
theorem dJ14_getChars_4 : decode cJ14_getChars 4 = .ok (.ifCond .ge 7, 3) := dk_156 0 7 (dk_at dksJ14_getChars_0 4 rfl rfl)
theorem dJ14_getChars_7 : decode cJ14_getChars 7 = .ok (.iconst 1, 1) := dk_4 (dk_at dksJ14_getChars_0 7 rfl rfl)
theorem dJ14_getChars_8 : decode cJ14_getChars 8 = .ok (.goto 4, 3) := dk_167 0 4 (dk_at dksJ14_getChars_0 8 rfl rfl)
theorem dJ14_getChars_11 : decode cJ14_getChars 11 = .ok (.iconst 0, 1) := dk_3 (dk_at dksJ14_getChars_0 11 rfl rfl)
theorem dJ14_getChars_12 : decode cJ14_getChars 12 = .ok (.istore 6, 2) := dk_54 6 (dk_at dksJ14_getChars_0 12 rfl rfl)
theorem dJ14_getChars_14 : decode cJ14_getChars 14 = .ok (.iload 6, 2) := dk_21 6 (dk_at dksJ14_getChars_0 14 rfl rfl)
theorem dJ14_getChars_16 : decode cJ14_getChars 16 = .ok (.ifCond .ne 6, 3) := dk_154 0 6 (dk_at dksJ14_getChars_0 16 rfl rfl)
theorem dJ14_getChars_19 : decode cJ14_getChars 19 = .ok (.iload_n 0, 1) := dk_26 (dk_at dksJ14_getChars_0 19 rfl rfl)
theorem dJ14_getChars_20 : decode cJ14_getChars 20 = .ok (.ineg, 1) := dk_116 (dk_at dksJ14_getChars_0 20 rfl rfl)
theorem dJ14_getChars_21 : decode cJ14_getChars 21 = .ok (.istore_n 0, 1) := dk_59 (dk_at dksJ14_getChars_0 21 rfl rfl)
theorem dJ14_getChars_22 : decode cJ14_getChars 22 = .ok (.iload_n 0, 1) := dk_26 (dk_at dksJ14_getChars_0 22 rfl rfl)
theorem dJ14_getChars_23 : decode cJ14_getChars 23 = .ok (.bipush (-100), 2) := dk_16 156 (dk_at dksJ14_getChars_1 0 rfl rfl)
theorem dJ14_getChars_25 : decode cJ14_getChars 25 = .ok (.if_icmp .gt 47, 3) := dk_163 0 47 (dk_at dksJ14_getChars_1 2 rfl rfl)
theorem dJ14_getChars_28 : decode cJ14_getChars 28 = .ok (.iload_n 0, 1) := dk_26 (dk_at dksJ14_getChars_1 5 rfl rfl)
theorem dJ14_getChars_29 : decode cJ14_getChars 29 = .ok (.bipush 100, 2) := dk_16 100 (dk_at dksJ14_getChars_1 6 rfl rfl)
theorem dJ14_getChars_31 : decode cJ14_getChars 31 = .ok (.idiv, 1) := dk_108 (dk_at dksJ14_getChars_1 8 rfl rfl)
theorem dJ14_getChars_32 : decode cJ14_getChars 32 = .ok (.istore_n 3, 1) := dk_62 (dk_at dksJ14_getChars_1 9 rfl rfl)
theorem dJ14_getChars_33 : decode cJ14_getChars 33 = .ok (.iload_n 3, 1) := dk_29 (dk_at dksJ14_getChars_1 10 rfl rfl)
theorem dJ14_getChars_34 : decode cJ14_getChars 34 = .ok (.bipush 100, 2) := dk_16 100 (dk_at dksJ14_getChars_1 11 rfl rfl)
theorem dJ14_getChars_36 : decode cJ14_getChars 36 = .ok (.imul, 1) := dk_104 (dk_at dksJ14_getChars_1 13 rfl rfl)
theorem dJ14_getChars_37 : decode cJ14_getChars 37 = .ok (.iload_n 0, 1) := dk_26 (dk_at dksJ14_getChars_1 14 rfl rfl)
theorem dJ14_getChars_38 : decode cJ14_getChars 38 = .ok (.isub, 1) := dk_100 (dk_at dksJ14_getChars_1 15 rfl rfl)
theorem dJ14_getChars_39 : decode cJ14_getChars 39 = .ok (.istore 4, 2) := dk_54 4 (dk_at dksJ14_getChars_1 16 rfl rfl)
theorem dJ14_getChars_41 : decode cJ14_getChars 41 = .ok (.iload_n 3, 1) := dk_29 (dk_at dksJ14_getChars_1 18 rfl rfl)
theorem dJ14_getChars_42 : decode cJ14_getChars 42 = .ok (.istore_n 0, 1) := dk_59 (dk_at dksJ14_getChars_1 19 rfl rfl)
theorem dJ14_getChars_43 : decode cJ14_getChars 43 = .ok (.aload_n 2, 1) := dk_44 (dk_at dksJ14_getChars_1 20 rfl rfl)
theorem dJ14_getChars_44 : decode cJ14_getChars 44 = .ok (.iinc 5 (-1), 3) := dk_132 5 255 (dk_at dksJ14_getChars_1 21 rfl rfl)
theorem dJ14_getChars_47 : decode cJ14_getChars 47 = .ok (.iload 5, 2) := dk_21 5 (dk_at dksJ14_getChars_2 0 rfl rfl)
theorem dJ14_getChars_49 : decode cJ14_getChars 49 = .ok (.getstatic 83, 3) := dk_178 0 83 (dk_at dksJ14_getChars_2 2 rfl rfl)
theorem dJ14_getChars_52 : decode cJ14_getChars 52 = .ok (.iload 4, 2) := dk_21 4 (dk_at dksJ14_getChars_2 5 rfl rfl)
theorem dJ14_getChars_54 : decode cJ14_getChars 54 = .ok (.baload, 1) := dk_51 (dk_at dksJ14_getChars_2 7 rfl rfl)
theorem dJ14_getChars_55 : decode cJ14_getChars 55 = .ok (.bastore, 1) := dk_84 (dk_at dksJ14_getChars_2 8 rfl rfl)
theorem dJ14_getChars_56 : decode cJ14_getChars 56 = .ok (.aload_n 2, 1) := dk_44 (dk_at dksJ14_getChars_2 9 rfl rfl)
theorem dJ14_getChars_57 : decode cJ14_getChars 57 = .ok (.iinc 5 (-1), 3) := dk_132 5 255 (dk_at dksJ14_getChars_2 10 rfl rfl)
theorem dJ14_getChars_60 : decode cJ14_getChars 60 = .ok (.iload 5, 2) := dk_21 5 (dk_at dksJ14_getChars_2 13 rfl rfl)
theorem dJ14_getChars_62 : decode cJ14_getChars 62 = .ok (.getstatic 87, 3) := dk_178 0 87 (dk_at dksJ14_getChars_2 15 rfl rfl)
theorem dJ14_getChars_65 : decode cJ14_getChars 65 = .ok (.iload 4, 2) := dk_21 4 (dk_at dksJ14_getChars_2 18 rfl rfl)
theorem dJ14_getChars_67 : decode cJ14_getChars 67 = .ok (.baload, 1) := dk_51 (dk_at dksJ14_getChars_2 20 rfl rfl)
theorem dJ14_getChars_68 : decode cJ14_getChars 68 = .ok (.bastore, 1) := dk_84 (dk_at dksJ14_getChars_2 21 rfl rfl)
theorem dJ14_getChars_69 : decode cJ14_getChars 69 = .ok (.goto (-47), 3) := dk_167 255 209 (dk_at dksJ14_getChars_3 0 rfl rfl)
theorem dJ14_getChars_72 : decode cJ14_getChars 72 = .ok (.aload_n 2, 1) := dk_44 (dk_at dksJ14_getChars_3 3 rfl rfl)
theorem dJ14_getChars_73 : decode cJ14_getChars 73 = .ok (.iinc 5 (-1), 3) := dk_132 5 255 (dk_at dksJ14_getChars_3 4 rfl rfl)
theorem dJ14_getChars_76 : decode cJ14_getChars 76 = .ok (.iload 5, 2) := dk_21 5 (dk_at dksJ14_getChars_3 7 rfl rfl)
theorem dJ14_getChars_78 : decode cJ14_getChars 78 = .ok (.getstatic 83, 3) := dk_178 0 83 (dk_at dksJ14_getChars_3 9 rfl rfl)
theorem dJ14_getChars_81 : decode cJ14_getChars 81 = .ok (.iload_n 0, 1) := dk_26 (dk_at dksJ14_getChars_3 12 rfl rfl)
theorem dJ14_getChars_82 : decode cJ14_getChars 82 = .ok (.ineg, 1) := dk_116 (dk_at dksJ14_getChars_3 13 rfl rfl)
theorem dJ14_getChars_83 : decode cJ14_getChars 83 = .ok (.baload, 1) := dk_51 (dk_at dksJ14_getChars_3 14 rfl rfl)
theorem dJ14_getChars_84 : decode cJ14_getChars 84 = .ok (.bastore, 1) := dk_84 (dk_at dksJ14_getChars_3 15 rfl rfl)
theorem dJ14_getChars_85 : decode cJ14_getChars 85 = .ok (.iload_n 0, 1) := dk_26 (dk_at dksJ14_getChars_3 16 rfl rfl)
theorem dJ14_getChars_86 : decode cJ14_getChars 86 = .ok (.bipush (-9), 2) := dk_16 247 (dk_at dksJ14_getChars_3 17 rfl rfl)
theorem dJ14_getChars_88 : decode cJ14_getChars 88 = .ok (.if_icmp .ge 16, 3) := dk_162 0 16 (dk_at dksJ14_getChars_3 19 rfl rfl)
theorem dJ14_getChars_91 : decode cJ14_getChars 91 = .ok (.aload_n 2, 1) := dk_44 (dk_at dksJ14_getChars_3 22 rfl rfl)
theorem dJ14_getChars_92 : decode cJ14_getChars 92 = .ok (.iinc 5 (-1), 3) := dk_132 5 255 (dk_at dksJ14_getChars_4 0 rfl rfl)
theorem dJ14_getChars_95 : decode cJ14_getChars 95 = .ok (.iload 5, 2) := dk_21 5 (dk_at dksJ14_getChars_4 3 rfl rfl)
theorem dJ14_getChars_97 : decode cJ14_getChars 97 = .ok (.getstatic 87, 3) := dk_178 0 87 (dk_at dksJ14_getChars_4 5 rfl rfl)
theorem dJ14_getChars_100 : decode cJ14_getChars 100 = .ok (.iload_n 0, 1) := dk_26 (dk_at dksJ14_getChars_4 8 rfl rfl)
theorem dJ14_getChars_101 : decode cJ14_getChars 101 = .ok (.ineg, 1) := dk_116 (dk_at dksJ14_getChars_4 9 rfl rfl)
theorem dJ14_getChars_102 : decode cJ14_getChars 102 = .ok (.baload, 1) := dk_51 (dk_at dksJ14_getChars_4 10 rfl rfl)
theorem dJ14_getChars_103 : decode cJ14_getChars 103 = .ok (.bastore, 1) := dk_84 (dk_at dksJ14_getChars_4 11 rfl rfl)
theorem dJ14_getChars_104 : decode cJ14_getChars 104 = .ok (.iload 6, 2) := dk_21 6 (dk_at dksJ14_getChars_4 12 rfl rfl)
theorem dJ14_getChars_106 : decode cJ14_getChars 106 = .ok (.ifCond .eq 12, 3) := dk_153 0 12 (dk_at dksJ14_getChars_4 14 rfl rfl)
theorem dJ14_getChars_109 : decode cJ14_getChars 109 = .ok (.aload_n 2, 1) := dk_44 (dk_at dksJ14_getChars_4 17 rfl rfl)
theorem dJ14_getChars_110 : decode cJ14_getChars 110 = .ok (.iinc 5 (-1), 3) := dk_132 5 255 (dk_at dksJ14_getChars_4 18 rfl rfl)
theorem dJ14_getChars_113 : decode cJ14_getChars 113 = .ok (.iload 5, 2) := dk_21 5 (dk_at dksJ14_getChars_4 21 rfl rfl)
theorem dJ14_getChars_115 : decode cJ14_getChars 115 = .ok (.bipush 45, 2) := dk_16 45 (dk_at dksJ14_getChars_5 0 rfl rfl)
theorem dJ14_getChars_117 : decode cJ14_getChars 117 = .ok (.bastore, 1) := dk_84 (dk_at dksJ14_getChars_5 2 rfl rfl)
theorem dJ14_getChars_118 : decode cJ14_getChars 118 = .ok (.iload 5, 2) := dk_21 5 (dk_at dksJ14_getChars_5 3 rfl rfl)
theorem dJ14_getChars_120 : decode cJ14_getChars 120 = .ok (.ireturn, 1) := dk_172 (dk_at dksJ14_getChars_5 5 rfl rfl)
abbrev cJ14_compare : ByteArray := prog_34_method_40_code
def yJ14_compare : MethodName := ⟨RJ14, "compare", "(II)I"⟩
def dkwJ14_compare_0 : List UInt8 := [26, 27, 162, 0, 7, 2, 167, 0, 13, 26, 27, 160, 0, 7, 3, 167, 0, 4, 4, 172]
abbrev dktJ14_compare_0 : List UInt8 := dkwJ14_compare_0 ++ []
theorem dksJ14_compare_0 : cJ14_compare.data.toList.drop 0 = dktJ14_compare_0 := by decide +kernel
theorem dJ14_compare_0 : decode cJ14_compare 0 = .ok (.iload_n 0, 1) := dk_26 (dk_at dksJ14_compare_0 0 rfl rfl)
theorem dJ14_compare_1 : decode cJ14_compare 1 = .ok (.iload_n 1, 1) := dk_27 (dk_at dksJ14_compare_0 1 rfl rfl)
theorem dJ14_compare_2 : decode cJ14_compare 2 = .ok (.if_icmp .ge 7, 3) := dk_162 0 7 (dk_at dksJ14_compare_0 2 rfl rfl)
theorem dJ14_compare_5 : decode cJ14_compare 5 = .ok (.iconst (-1), 1) := dk_2 (dk_at dksJ14_compare_0 5 rfl rfl)
theorem dJ14_compare_6 : decode cJ14_compare 6 = .ok (.goto 13, 3) := dk_167 0 13 (dk_at dksJ14_compare_0 6 rfl rfl)
theorem dJ14_compare_9 : decode cJ14_compare 9 = .ok (.iload_n 0, 1) := dk_26 (dk_at dksJ14_compare_0 9 rfl rfl)
theorem dJ14_compare_10 : decode cJ14_compare 10 = .ok (.iload_n 1, 1) := dk_27 (dk_at dksJ14_compare_0 10 rfl rfl)
theorem dJ14_compare_11 : decode cJ14_compare 11 = .ok (.if_icmp .ne 7, 3) := dk_160 0 7 (dk_at dksJ14_compare_0 11 rfl rfl)
theorem dJ14_compare_14 : decode cJ14_compare 14 = .ok (.iconst 0, 1) := dk_3 (dk_at dksJ14_compare_0 14 rfl rfl)
theorem dJ14_compare_15 : decode cJ14_compare 15 = .ok (.goto 4, 3) := dk_167 0 4 (dk_at dksJ14_compare_0 15 rfl rfl)
theorem dJ14_compare_18 : decode cJ14_compare 18 = .ok (.iconst 1, 1) := dk_4 (dk_at dksJ14_compare_0 18 rfl rfl)
theorem dJ14_compare_19 : decode cJ14_compare 19 = .ok (.ireturn, 1) := dk_172 (dk_at dksJ14_compare_0 19 rfl rfl)
abbrev cJ14_compareTo : ByteArray := prog_34_method_63_code
def yJ14_compareTo : MethodName := ⟨RJ14, "compareTo", "(Ljava/lang/Object;)I"⟩
def dkwJ14_compareTo_0 : List UInt8 := [42, 43, 192, 0, 1, 182, 1, 28, 172]
abbrev dktJ14_compareTo_0 : List UInt8 := dkwJ14_compareTo_0 ++ []
theorem dksJ14_compareTo_0 : cJ14_compareTo.data.toList.drop 0 = dktJ14_compareTo_0 := by decide +kernel
theorem dJ14_compareTo_0 : decode cJ14_compareTo 0 = .ok (.aload_n 0, 1) := dk_42 (dk_at dksJ14_compareTo_0 0 rfl rfl)
theorem dJ14_compareTo_1 : decode cJ14_compareTo 1 = .ok (.aload_n 1, 1) := dk_43 (dk_at dksJ14_compareTo_0 1 rfl rfl)
theorem dJ14_compareTo_2 : decode cJ14_compareTo 2 = .ok (.checkcast 1, 3) := dk_192 0 1 (dk_at dksJ14_compareTo_0 2 rfl rfl)
theorem dJ14_compareTo_5 : decode cJ14_compareTo 5 = .ok (.invokevirtual 284, 3) := dk_182 1 28 (dk_at dksJ14_compareTo_0 5 rfl rfl)
theorem dJ14_compareTo_8 : decode cJ14_compareTo 8 = .ok (.ireturn, 1) := dk_172 (dk_at dksJ14_compareTo_0 8 rfl rfl)
abbrev cJ14_compareTo_2 : ByteArray := prog_34_method_39_code
def yJ14_compareTo_2 : MethodName := ⟨RJ14, "compareTo", "(Ljava/lang/Integer;)I"⟩
def dkwJ14_compareTo_2_0 : List UInt8 := [42, 180, 0, 205, 43, 180, 0, 205, 184, 1, 3, 172]
abbrev dktJ14_compareTo_2_0 : List UInt8 := dkwJ14_compareTo_2_0 ++ []
theorem dksJ14_compareTo_2_0 : cJ14_compareTo_2.data.toList.drop 0 = dktJ14_compareTo_2_0 := by decide +kernel
theorem dJ14_compareTo_2_0 : decode cJ14_compareTo_2 0 = .ok (.aload_n 0, 1) := dk_42 (dk_at dksJ14_compareTo_2_0 0 rfl rfl)
theorem dJ14_compareTo_2_1 : decode cJ14_compareTo_2 1 = .ok (.getfield 205, 3) := dk_180 0 205 (dk_at dksJ14_compareTo_2_0 1 rfl rfl)
theorem dJ14_compareTo_2_4 : decode cJ14_compareTo_2 4 = .ok (.aload_n 1, 1) := dk_43 (dk_at dksJ14_compareTo_2_0 4 rfl rfl)
theorem dJ14_compareTo_2_5 : decode cJ14_compareTo_2 5 = .ok (.getfield 205, 3) := dk_180 0 205 (dk_at dksJ14_compareTo_2_0 5 rfl rfl)
theorem dJ14_compareTo_2_8 : decode cJ14_compareTo_2 8 = .ok (.invokestatic 259, 3) := dk_184 1 3 (dk_at dksJ14_compareTo_2_0 8 rfl rfl)
theorem dJ14_compareTo_2_11 : decode cJ14_compareTo_2 11 = .ok (.ireturn, 1) := dk_172 (dk_at dksJ14_compareTo_2_0 11 rfl rfl)
abbrev cJ14_numberOfLeadingZeros : ByteArray := prog_34_method_47_code
def yJ14_numberOfLeadingZeros : MethodName := ⟨RJ14, "numberOfLeadingZeros", "(I)I"⟩
def dkwJ14_numberOfLeadingZeros_3 : List UInt8 := [5, 124, 59, 27, 26, 4, 124, 100, 172]
abbrev dktJ14_numberOfLeadingZeros_3 : List UInt8 := dkwJ14_numberOfLeadingZeros_3 ++ []
def dkwJ14_numberOfLeadingZeros_2 : List UInt8 := [124, 59, 26, 16, 16, 161, 0, 10, 132, 1, 252, 26, 7, 124, 59, 26, 7, 161, 0, 10, 132, 1, 254, 26]
abbrev dktJ14_numberOfLeadingZeros_2 : List UInt8 := dkwJ14_numberOfLeadingZeros_2 ++ dktJ14_numberOfLeadingZeros_3
def dkwJ14_numberOfLeadingZeros_1 : List UInt8 := [161, 0, 11, 132, 1, 240, 26, 16, 16, 124, 59, 26, 17, 1, 0, 161, 0, 11, 132, 1, 248, 26, 16, 8]
abbrev dktJ14_numberOfLeadingZeros_1 : List UInt8 := dkwJ14_numberOfLeadingZeros_1 ++ dktJ14_numberOfLeadingZeros_2
def dkwJ14_numberOfLeadingZeros_0 : List UInt8 := [26, 157, 0, 14, 26, 154, 0, 8, 16, 32, 167, 0, 4, 3, 172, 16, 31, 60, 26, 19, 1, 8]
abbrev dktJ14_numberOfLeadingZeros_0 : List UInt8 := dkwJ14_numberOfLeadingZeros_0 ++ dktJ14_numberOfLeadingZeros_1
theorem dksJ14_numberOfLeadingZeros_0 : cJ14_numberOfLeadingZeros.data.toList.drop 0 = dktJ14_numberOfLeadingZeros_0 := by decide +kernel
theorem dksJ14_numberOfLeadingZeros_1 : cJ14_numberOfLeadingZeros.data.toList.drop 22 = dktJ14_numberOfLeadingZeros_1 := dk_seg dksJ14_numberOfLeadingZeros_0 22 rfl rfl
theorem dksJ14_numberOfLeadingZeros_2 : cJ14_numberOfLeadingZeros.data.toList.drop 46 = dktJ14_numberOfLeadingZeros_2 := dk_seg dksJ14_numberOfLeadingZeros_1 24 rfl rfl
theorem dksJ14_numberOfLeadingZeros_3 : cJ14_numberOfLeadingZeros.data.toList.drop 70 = dktJ14_numberOfLeadingZeros_3 := dk_seg dksJ14_numberOfLeadingZeros_2 24 rfl rfl
theorem dJ14_numberOfLeadingZeros_0 : decode cJ14_numberOfLeadingZeros 0 = .ok (.iload_n 0, 1) := dk_26 (dk_at dksJ14_numberOfLeadingZeros_0 0 rfl rfl)
theorem dJ14_numberOfLeadingZeros_1 : decode cJ14_numberOfLeadingZeros 1 = .ok (.ifCond .gt 14, 3) := dk_157 0 14 (dk_at dksJ14_numberOfLeadingZeros_0 1 rfl rfl)
theorem dJ14_numberOfLeadingZeros_4 : decode cJ14_numberOfLeadingZeros 4 = .ok (.iload_n 0, 1) := dk_26 (dk_at dksJ14_numberOfLeadingZeros_0 4 rfl rfl)
theorem dJ14_numberOfLeadingZeros_5 : decode cJ14_numberOfLeadingZeros 5 = .ok (.ifCond .ne 8, 3) := dk_154 0 8 (dk_at dksJ14_numberOfLeadingZeros_0 5 rfl rfl)
theorem dJ14_numberOfLeadingZeros_8 : decode cJ14_numberOfLeadingZeros 8 = .ok (.bipush 32, 2) := dk_16 32 (dk_at dksJ14_numberOfLeadingZeros_0 8 rfl rfl)
theorem dJ14_numberOfLeadingZeros_10 : decode cJ14_numberOfLeadingZeros 10 = .ok (.goto 4, 3) := dk_167 0 4 (dk_at dksJ14_numberOfLeadingZeros_0 10 rfl rfl)
theorem dJ14_numberOfLeadingZeros_13 : decode cJ14_numberOfLeadingZeros 13 = .ok (.iconst 0, 1) := dk_3 (dk_at dksJ14_numberOfLeadingZeros_0 13 rfl rfl)
theorem dJ14_numberOfLeadingZeros_14 : decode cJ14_numberOfLeadingZeros 14 = .ok (.ireturn, 1) := dk_172 (dk_at dksJ14_numberOfLeadingZeros_0 14 rfl rfl)
theorem dJ14_numberOfLeadingZeros_15 : decode cJ14_numberOfLeadingZeros 15 = .ok (.bipush 31, 2) := dk_16 31 (dk_at dksJ14_numberOfLeadingZeros_0 15 rfl rfl)
theorem dJ14_numberOfLeadingZeros_17 : decode cJ14_numberOfLeadingZeros 17 = .ok (.istore_n 1, 1) := dk_60 (dk_at dksJ14_numberOfLeadingZeros_0 17 rfl rfl)
theorem dJ14_numberOfLeadingZeros_18 : decode cJ14_numberOfLeadingZeros 18 = .ok (.iload_n 0, 1) := dk_26 (dk_at dksJ14_numberOfLeadingZeros_0 18 rfl rfl)
theorem dJ14_numberOfLeadingZeros_19 : decode cJ14_numberOfLeadingZeros 19 = .ok (.ldc_w 264, 3) := dk_19 1 8 (dk_at dksJ14_numberOfLeadingZeros_0 19 rfl rfl)
theorem dJ14_numberOfLeadingZeros_22 : decode cJ14_numberOfLeadingZeros 22 = .ok (.if_icmp .lt 11, 3) := dk_161 0 11 (dk_at dksJ14_numberOfLeadingZeros_1 0 rfl rfl)
theorem dJ14_numberOfLeadingZeros_25 : decode cJ14_numberOfLeadingZeros 25 = .ok (.iinc 1 (-16), 3) := dk_132 1 240 (dk_at dksJ14_numberOfLeadingZeros_1 3 rfl rfl)
theorem dJ14_numberOfLeadingZeros_28 : decode cJ14_numberOfLeadingZeros 28 = .ok (.iload_n 0, 1) := dk_26 (dk_at dksJ14_numberOfLeadingZeros_1 6 rfl rfl)
theorem dJ14_numberOfLeadingZeros_29 : decode cJ14_numberOfLeadingZeros 29 = .ok (.bipush 16, 2) := dk_16 16 (dk_at dksJ14_numberOfLeadingZeros_1 7 rfl rfl)
theorem dJ14_numberOfLeadingZeros_31 : decode cJ14_numberOfLeadingZeros 31 = .ok (.iushr, 1) := dk_124 (dk_at dksJ14_numberOfLeadingZeros_1 9 rfl rfl)
theorem dJ14_numberOfLeadingZeros_32 : decode cJ14_numberOfLeadingZeros 32 = .ok (.istore_n 0, 1) := dk_59 (dk_at dksJ14_numberOfLeadingZeros_1 10 rfl rfl)
theorem dJ14_numberOfLeadingZeros_33 : decode cJ14_numberOfLeadingZeros 33 = .ok (.iload_n 0, 1) := dk_26 (dk_at dksJ14_numberOfLeadingZeros_1 11 rfl rfl)
theorem dJ14_numberOfLeadingZeros_34 : decode cJ14_numberOfLeadingZeros 34 = .ok (.sipush 256, 3) := dk_17 1 0 (dk_at dksJ14_numberOfLeadingZeros_1 12 rfl rfl)
theorem dJ14_numberOfLeadingZeros_37 : decode cJ14_numberOfLeadingZeros 37 = .ok (.if_icmp .lt 11, 3) := dk_161 0 11 (dk_at dksJ14_numberOfLeadingZeros_1 15 rfl rfl)
theorem dJ14_numberOfLeadingZeros_40 : decode cJ14_numberOfLeadingZeros 40 = .ok (.iinc 1 (-8), 3) := dk_132 1 248 (dk_at dksJ14_numberOfLeadingZeros_1 18 rfl rfl)
theorem dJ14_numberOfLeadingZeros_43 : decode cJ14_numberOfLeadingZeros 43 = .ok (.iload_n 0, 1) := dk_26 (dk_at dksJ14_numberOfLeadingZeros_1 21 rfl rfl)
theorem dJ14_numberOfLeadingZeros_44 : decode cJ14_numberOfLeadingZeros 44 = .ok (.bipush 8, 2) := dk_16 8 (dk_at dksJ14_numberOfLeadingZeros_1 22 rfl rfl)
theorem dJ14_numberOfLeadingZeros_46 : decode cJ14_numberOfLeadingZeros 46 = .ok (.iushr, 1) := dk_124 (dk_at dksJ14_numberOfLeadingZeros_2 0 rfl rfl)
theorem dJ14_numberOfLeadingZeros_47 : decode cJ14_numberOfLeadingZeros 47 = .ok (.istore_n 0, 1) := dk_59 (dk_at dksJ14_numberOfLeadingZeros_2 1 rfl rfl)
theorem dJ14_numberOfLeadingZeros_48 : decode cJ14_numberOfLeadingZeros 48 = .ok (.iload_n 0, 1) := dk_26 (dk_at dksJ14_numberOfLeadingZeros_2 2 rfl rfl)
theorem dJ14_numberOfLeadingZeros_49 : decode cJ14_numberOfLeadingZeros 49 = .ok (.bipush 16, 2) := dk_16 16 (dk_at dksJ14_numberOfLeadingZeros_2 3 rfl rfl)
theorem dJ14_numberOfLeadingZeros_51 : decode cJ14_numberOfLeadingZeros 51 = .ok (.if_icmp .lt 10, 3) := dk_161 0 10 (dk_at dksJ14_numberOfLeadingZeros_2 5 rfl rfl)
theorem dJ14_numberOfLeadingZeros_54 : decode cJ14_numberOfLeadingZeros 54 = .ok (.iinc 1 (-4), 3) := dk_132 1 252 (dk_at dksJ14_numberOfLeadingZeros_2 8 rfl rfl)
theorem dJ14_numberOfLeadingZeros_57 : decode cJ14_numberOfLeadingZeros 57 = .ok (.iload_n 0, 1) := dk_26 (dk_at dksJ14_numberOfLeadingZeros_2 11 rfl rfl)
theorem dJ14_numberOfLeadingZeros_58 : decode cJ14_numberOfLeadingZeros 58 = .ok (.iconst 4, 1) := dk_7 (dk_at dksJ14_numberOfLeadingZeros_2 12 rfl rfl)
theorem dJ14_numberOfLeadingZeros_59 : decode cJ14_numberOfLeadingZeros 59 = .ok (.iushr, 1) := dk_124 (dk_at dksJ14_numberOfLeadingZeros_2 13 rfl rfl)
theorem dJ14_numberOfLeadingZeros_60 : decode cJ14_numberOfLeadingZeros 60 = .ok (.istore_n 0, 1) := dk_59 (dk_at dksJ14_numberOfLeadingZeros_2 14 rfl rfl)
theorem dJ14_numberOfLeadingZeros_61 : decode cJ14_numberOfLeadingZeros 61 = .ok (.iload_n 0, 1) := dk_26 (dk_at dksJ14_numberOfLeadingZeros_2 15 rfl rfl)
theorem dJ14_numberOfLeadingZeros_62 : decode cJ14_numberOfLeadingZeros 62 = .ok (.iconst 4, 1) := dk_7 (dk_at dksJ14_numberOfLeadingZeros_2 16 rfl rfl)
theorem dJ14_numberOfLeadingZeros_63 : decode cJ14_numberOfLeadingZeros 63 = .ok (.if_icmp .lt 10, 3) := dk_161 0 10 (dk_at dksJ14_numberOfLeadingZeros_2 17 rfl rfl)
theorem dJ14_numberOfLeadingZeros_66 : decode cJ14_numberOfLeadingZeros 66 = .ok (.iinc 1 (-2), 3) := dk_132 1 254 (dk_at dksJ14_numberOfLeadingZeros_2 20 rfl rfl)
theorem dJ14_numberOfLeadingZeros_69 : decode cJ14_numberOfLeadingZeros 69 = .ok (.iload_n 0, 1) := dk_26 (dk_at dksJ14_numberOfLeadingZeros_2 23 rfl rfl)
theorem dJ14_numberOfLeadingZeros_70 : decode cJ14_numberOfLeadingZeros 70 = .ok (.iconst 2, 1) := dk_5 (dk_at dksJ14_numberOfLeadingZeros_3 0 rfl rfl)
theorem dJ14_numberOfLeadingZeros_71 : decode cJ14_numberOfLeadingZeros 71 = .ok (.iushr, 1) := dk_124 (dk_at dksJ14_numberOfLeadingZeros_3 1 rfl rfl)
theorem dJ14_numberOfLeadingZeros_72 : decode cJ14_numberOfLeadingZeros 72 = .ok (.istore_n 0, 1) := dk_59 (dk_at dksJ14_numberOfLeadingZeros_3 2 rfl rfl)
theorem dJ14_numberOfLeadingZeros_73 : decode cJ14_numberOfLeadingZeros 73 = .ok (.iload_n 1, 1) := dk_27 (dk_at dksJ14_numberOfLeadingZeros_3 3 rfl rfl)
theorem dJ14_numberOfLeadingZeros_74 : decode cJ14_numberOfLeadingZeros 74 = .ok (.iload_n 0, 1) := dk_26 (dk_at dksJ14_numberOfLeadingZeros_3 4 rfl rfl)
theorem dJ14_numberOfLeadingZeros_75 : decode cJ14_numberOfLeadingZeros 75 = .ok (.iconst 1, 1) := dk_4 (dk_at dksJ14_numberOfLeadingZeros_3 5 rfl rfl)
theorem dJ14_numberOfLeadingZeros_76 : decode cJ14_numberOfLeadingZeros 76 = .ok (.iushr, 1) := dk_124 (dk_at dksJ14_numberOfLeadingZeros_3 6 rfl rfl)
theorem dJ14_numberOfLeadingZeros_77 : decode cJ14_numberOfLeadingZeros 77 = .ok (.isub, 1) := dk_100 (dk_at dksJ14_numberOfLeadingZeros_3 7 rfl rfl)
theorem dJ14_numberOfLeadingZeros_78 : decode cJ14_numberOfLeadingZeros 78 = .ok (.ireturn, 1) := dk_172 (dk_at dksJ14_numberOfLeadingZeros_3 8 rfl rfl)
abbrev cJ14_numberOfTrailingZeros : ByteArray := prog_34_method_48_code
def yJ14_numberOfTrailingZeros : MethodName := ⟨RJ14, "numberOfTrailingZeros", "(I)I"⟩
def dkwJ14_numberOfTrailingZeros_3 : List UInt8 := [5, 124, 59, 27, 26, 4, 124, 96, 172]
abbrev dktJ14_numberOfTrailingZeros_3 : List UInt8 := dkwJ14_numberOfTrailingZeros_3 ++ []
def dkwJ14_numberOfTrailingZeros_2 : List UInt8 := [124, 59, 26, 16, 16, 164, 0, 10, 132, 1, 4, 26, 7, 124, 59, 26, 7, 164, 0, 10, 132, 1, 2, 26]
abbrev dktJ14_numberOfTrailingZeros_2 : List UInt8 := dkwJ14_numberOfTrailingZeros_2 ++ dktJ14_numberOfTrailingZeros_3
def dkwJ14_numberOfTrailingZeros_1 : List UInt8 := [164, 0, 11, 132, 1, 16, 26, 16, 16, 124, 59, 26, 17, 1, 0, 164, 0, 11, 132, 1, 8, 26, 16, 8]
abbrev dktJ14_numberOfTrailingZeros_1 : List UInt8 := dkwJ14_numberOfTrailingZeros_1 ++ dktJ14_numberOfTrailingZeros_2
def dkwJ14_numberOfTrailingZeros_0 : List UInt8 := [26, 2, 130, 26, 4, 100, 126, 59, 26, 157, 0, 8, 26, 16, 32, 126, 172, 4, 60, 26, 19, 1, 8]
abbrev dktJ14_numberOfTrailingZeros_0 : List UInt8 := dkwJ14_numberOfTrailingZeros_0 ++ dktJ14_numberOfTrailingZeros_1
theorem dksJ14_numberOfTrailingZeros_0 : cJ14_numberOfTrailingZeros.data.toList.drop 0 = dktJ14_numberOfTrailingZeros_0 := by decide +kernel
theorem dksJ14_numberOfTrailingZeros_1 : cJ14_numberOfTrailingZeros.data.toList.drop 23 = dktJ14_numberOfTrailingZeros_1 := dk_seg dksJ14_numberOfTrailingZeros_0 23 rfl rfl
theorem dksJ14_numberOfTrailingZeros_2 : cJ14_numberOfTrailingZeros.data.toList.drop 47 = dktJ14_numberOfTrailingZeros_2 := dk_seg dksJ14_numberOfTrailingZeros_1 24 rfl rfl
theorem dksJ14_numberOfTrailingZeros_3 : cJ14_numberOfTrailingZeros.data.toList.drop 71 = dktJ14_numberOfTrailingZeros_3 := dk_seg dksJ14_numberOfTrailingZeros_2 24 rfl rfl
theorem dJ14_numberOfTrailingZeros_0 : decode cJ14_numberOfTrailingZeros 0 = .ok (.iload_n 0, 1) := dk_26 (dk_at dksJ14_numberOfTrailingZeros_0 0 rfl rfl)
theorem dJ14_numberOfTrailingZeros_1 : decode cJ14_numberOfTrailingZeros 1 = .ok (.iconst (-1), 1) := dk_2 (dk_at dksJ14_numberOfTrailingZeros_0 1 rfl rfl)
theorem dJ14_numberOfTrailingZeros_2 : decode cJ14_numberOfTrailingZeros 2 = .ok (.ixor, 1) := dk_130 (dk_at dksJ14_numberOfTrailingZeros_0 2 rfl rfl)
theorem dJ14_numberOfTrailingZeros_3 : decode cJ14_numberOfTrailingZeros 3 = .ok (.iload_n 0, 1) := dk_26 (dk_at dksJ14_numberOfTrailingZeros_0 3 rfl rfl)
theorem dJ14_numberOfTrailingZeros_4 : decode cJ14_numberOfTrailingZeros 4 = .ok (.iconst 1, 1) := dk_4 (dk_at dksJ14_numberOfTrailingZeros_0 4 rfl rfl)
theorem dJ14_numberOfTrailingZeros_5 : decode cJ14_numberOfTrailingZeros 5 = .ok (.isub, 1) := dk_100 (dk_at dksJ14_numberOfTrailingZeros_0 5 rfl rfl)
theorem dJ14_numberOfTrailingZeros_6 : decode cJ14_numberOfTrailingZeros 6 = .ok (.iand, 1) := dk_126 (dk_at dksJ14_numberOfTrailingZeros_0 6 rfl rfl)
theorem dJ14_numberOfTrailingZeros_7 : decode cJ14_numberOfTrailingZeros 7 = .ok (.istore_n 0, 1) := dk_59 (dk_at dksJ14_numberOfTrailingZeros_0 7 rfl rfl)
theorem dJ14_numberOfTrailingZeros_8 : decode cJ14_numberOfTrailingZeros 8 = .ok (.iload_n 0, 1) := dk_26 (dk_at dksJ14_numberOfTrailingZeros_0 8 rfl rfl)
theorem dJ14_numberOfTrailingZeros_9 : decode cJ14_numberOfTrailingZeros 9 = .ok (.ifCond .gt 8, 3) := dk_157 0 8 (dk_at dksJ14_numberOfTrailingZeros_0 9 rfl rfl)
theorem dJ14_numberOfTrailingZeros_12 : decode cJ14_numberOfTrailingZeros 12 = .ok (.iload_n 0, 1) := dk_26 (dk_at dksJ14_numberOfTrailingZeros_0 12 rfl rfl)
theorem dJ14_numberOfTrailingZeros_13 : decode cJ14_numberOfTrailingZeros 13 = .ok (.bipush 32, 2) := dk_16 32 (dk_at dksJ14_numberOfTrailingZeros_0 13 rfl rfl)
theorem dJ14_numberOfTrailingZeros_15 : decode cJ14_numberOfTrailingZeros 15 = .ok (.iand, 1) := dk_126 (dk_at dksJ14_numberOfTrailingZeros_0 15 rfl rfl)
theorem dJ14_numberOfTrailingZeros_16 : decode cJ14_numberOfTrailingZeros 16 = .ok (.ireturn, 1) := dk_172 (dk_at dksJ14_numberOfTrailingZeros_0 16 rfl rfl)
theorem dJ14_numberOfTrailingZeros_17 : decode cJ14_numberOfTrailingZeros 17 = .ok (.iconst 1, 1) := dk_4 (dk_at dksJ14_numberOfTrailingZeros_0 17 rfl rfl)
theorem dJ14_numberOfTrailingZeros_18 : decode cJ14_numberOfTrailingZeros 18 = .ok (.istore_n 1, 1) := dk_60 (dk_at dksJ14_numberOfTrailingZeros_0 18 rfl rfl)
theorem dJ14_numberOfTrailingZeros_19 : decode cJ14_numberOfTrailingZeros 19 = .ok (.iload_n 0, 1) := dk_26 (dk_at dksJ14_numberOfTrailingZeros_0 19 rfl rfl)
theorem dJ14_numberOfTrailingZeros_20 : decode cJ14_numberOfTrailingZeros 20 = .ok (.ldc_w 264, 3) := dk_19 1 8 (dk_at dksJ14_numberOfTrailingZeros_0 20 rfl rfl)
theorem dJ14_numberOfTrailingZeros_23 : decode cJ14_numberOfTrailingZeros 23 = .ok (.if_icmp .le 11, 3) := dk_164 0 11 (dk_at dksJ14_numberOfTrailingZeros_1 0 rfl rfl)
theorem dJ14_numberOfTrailingZeros_26 : decode cJ14_numberOfTrailingZeros 26 = .ok (.iinc 1 16, 3) := dk_132 1 16 (dk_at dksJ14_numberOfTrailingZeros_1 3 rfl rfl)
theorem dJ14_numberOfTrailingZeros_29 : decode cJ14_numberOfTrailingZeros 29 = .ok (.iload_n 0, 1) := dk_26 (dk_at dksJ14_numberOfTrailingZeros_1 6 rfl rfl)
theorem dJ14_numberOfTrailingZeros_30 : decode cJ14_numberOfTrailingZeros 30 = .ok (.bipush 16, 2) := dk_16 16 (dk_at dksJ14_numberOfTrailingZeros_1 7 rfl rfl)
theorem dJ14_numberOfTrailingZeros_32 : decode cJ14_numberOfTrailingZeros 32 = .ok (.iushr, 1) := dk_124 (dk_at dksJ14_numberOfTrailingZeros_1 9 rfl rfl)
theorem dJ14_numberOfTrailingZeros_33 : decode cJ14_numberOfTrailingZeros 33 = .ok (.istore_n 0, 1) := dk_59 (dk_at dksJ14_numberOfTrailingZeros_1 10 rfl rfl)
theorem dJ14_numberOfTrailingZeros_34 : decode cJ14_numberOfTrailingZeros 34 = .ok (.iload_n 0, 1) := dk_26 (dk_at dksJ14_numberOfTrailingZeros_1 11 rfl rfl)
theorem dJ14_numberOfTrailingZeros_35 : decode cJ14_numberOfTrailingZeros 35 = .ok (.sipush 256, 3) := dk_17 1 0 (dk_at dksJ14_numberOfTrailingZeros_1 12 rfl rfl)
theorem dJ14_numberOfTrailingZeros_38 : decode cJ14_numberOfTrailingZeros 38 = .ok (.if_icmp .le 11, 3) := dk_164 0 11 (dk_at dksJ14_numberOfTrailingZeros_1 15 rfl rfl)
theorem dJ14_numberOfTrailingZeros_41 : decode cJ14_numberOfTrailingZeros 41 = .ok (.iinc 1 8, 3) := dk_132 1 8 (dk_at dksJ14_numberOfTrailingZeros_1 18 rfl rfl)
theorem dJ14_numberOfTrailingZeros_44 : decode cJ14_numberOfTrailingZeros 44 = .ok (.iload_n 0, 1) := dk_26 (dk_at dksJ14_numberOfTrailingZeros_1 21 rfl rfl)
theorem dJ14_numberOfTrailingZeros_45 : decode cJ14_numberOfTrailingZeros 45 = .ok (.bipush 8, 2) := dk_16 8 (dk_at dksJ14_numberOfTrailingZeros_1 22 rfl rfl)
theorem dJ14_numberOfTrailingZeros_47 : decode cJ14_numberOfTrailingZeros 47 = .ok (.iushr, 1) := dk_124 (dk_at dksJ14_numberOfTrailingZeros_2 0 rfl rfl)
theorem dJ14_numberOfTrailingZeros_48 : decode cJ14_numberOfTrailingZeros 48 = .ok (.istore_n 0, 1) := dk_59 (dk_at dksJ14_numberOfTrailingZeros_2 1 rfl rfl)
theorem dJ14_numberOfTrailingZeros_49 : decode cJ14_numberOfTrailingZeros 49 = .ok (.iload_n 0, 1) := dk_26 (dk_at dksJ14_numberOfTrailingZeros_2 2 rfl rfl)
theorem dJ14_numberOfTrailingZeros_50 : decode cJ14_numberOfTrailingZeros 50 = .ok (.bipush 16, 2) := dk_16 16 (dk_at dksJ14_numberOfTrailingZeros_2 3 rfl rfl)
theorem dJ14_numberOfTrailingZeros_52 : decode cJ14_numberOfTrailingZeros 52 = .ok (.if_icmp .le 10, 3) := dk_164 0 10 (dk_at dksJ14_numberOfTrailingZeros_2 5 rfl rfl)
theorem dJ14_numberOfTrailingZeros_55 : decode cJ14_numberOfTrailingZeros 55 = .ok (.iinc 1 4, 3) := dk_132 1 4 (dk_at dksJ14_numberOfTrailingZeros_2 8 rfl rfl)
theorem dJ14_numberOfTrailingZeros_58 : decode cJ14_numberOfTrailingZeros 58 = .ok (.iload_n 0, 1) := dk_26 (dk_at dksJ14_numberOfTrailingZeros_2 11 rfl rfl)
theorem dJ14_numberOfTrailingZeros_59 : decode cJ14_numberOfTrailingZeros 59 = .ok (.iconst 4, 1) := dk_7 (dk_at dksJ14_numberOfTrailingZeros_2 12 rfl rfl)
theorem dJ14_numberOfTrailingZeros_60 : decode cJ14_numberOfTrailingZeros 60 = .ok (.iushr, 1) := dk_124 (dk_at dksJ14_numberOfTrailingZeros_2 13 rfl rfl)
theorem dJ14_numberOfTrailingZeros_61 : decode cJ14_numberOfTrailingZeros 61 = .ok (.istore_n 0, 1) := dk_59 (dk_at dksJ14_numberOfTrailingZeros_2 14 rfl rfl)
theorem dJ14_numberOfTrailingZeros_62 : decode cJ14_numberOfTrailingZeros 62 = .ok (.iload_n 0, 1) := dk_26 (dk_at dksJ14_numberOfTrailingZeros_2 15 rfl rfl)
theorem dJ14_numberOfTrailingZeros_63 : decode cJ14_numberOfTrailingZeros 63 = .ok (.iconst 4, 1) := dk_7 (dk_at dksJ14_numberOfTrailingZeros_2 16 rfl rfl)
theorem dJ14_numberOfTrailingZeros_64 : decode cJ14_numberOfTrailingZeros 64 = .ok (.if_icmp .le 10, 3) := dk_164 0 10 (dk_at dksJ14_numberOfTrailingZeros_2 17 rfl rfl)
theorem dJ14_numberOfTrailingZeros_67 : decode cJ14_numberOfTrailingZeros 67 = .ok (.iinc 1 2, 3) := dk_132 1 2 (dk_at dksJ14_numberOfTrailingZeros_2 20 rfl rfl)
theorem dJ14_numberOfTrailingZeros_70 : decode cJ14_numberOfTrailingZeros 70 = .ok (.iload_n 0, 1) := dk_26 (dk_at dksJ14_numberOfTrailingZeros_2 23 rfl rfl)
theorem dJ14_numberOfTrailingZeros_71 : decode cJ14_numberOfTrailingZeros 71 = .ok (.iconst 2, 1) := dk_5 (dk_at dksJ14_numberOfTrailingZeros_3 0 rfl rfl)
theorem dJ14_numberOfTrailingZeros_72 : decode cJ14_numberOfTrailingZeros 72 = .ok (.iushr, 1) := dk_124 (dk_at dksJ14_numberOfTrailingZeros_3 1 rfl rfl)
theorem dJ14_numberOfTrailingZeros_73 : decode cJ14_numberOfTrailingZeros 73 = .ok (.istore_n 0, 1) := dk_59 (dk_at dksJ14_numberOfTrailingZeros_3 2 rfl rfl)
theorem dJ14_numberOfTrailingZeros_74 : decode cJ14_numberOfTrailingZeros 74 = .ok (.iload_n 1, 1) := dk_27 (dk_at dksJ14_numberOfTrailingZeros_3 3 rfl rfl)
theorem dJ14_numberOfTrailingZeros_75 : decode cJ14_numberOfTrailingZeros 75 = .ok (.iload_n 0, 1) := dk_26 (dk_at dksJ14_numberOfTrailingZeros_3 4 rfl rfl)
theorem dJ14_numberOfTrailingZeros_76 : decode cJ14_numberOfTrailingZeros 76 = .ok (.iconst 1, 1) := dk_4 (dk_at dksJ14_numberOfTrailingZeros_3 5 rfl rfl)
theorem dJ14_numberOfTrailingZeros_77 : decode cJ14_numberOfTrailingZeros 77 = .ok (.iushr, 1) := dk_124 (dk_at dksJ14_numberOfTrailingZeros_3 6 rfl rfl)
theorem dJ14_numberOfTrailingZeros_78 : decode cJ14_numberOfTrailingZeros 78 = .ok (.iadd, 1) := dk_96 (dk_at dksJ14_numberOfTrailingZeros_3 7 rfl rfl)
theorem dJ14_numberOfTrailingZeros_79 : decode cJ14_numberOfTrailingZeros 79 = .ok (.ireturn, 1) := dk_172 (dk_at dksJ14_numberOfTrailingZeros_3 8 rfl rfl)
abbrev cJ14_intValue : ByteArray := prog_34_method_27_code
def yJ14_intValue : MethodName := ⟨RJ14, "intValue", "()I"⟩
theorem dJ14_intValue_0 : decode cJ14_intValue 0 = .ok (.aload_n 0, 1) := by decide +kernel
theorem dJ14_intValue_1 : decode cJ14_intValue 1 = .ok (.getfield 205, 3) := by decide +kernel
theorem dJ14_intValue_4 : decode cJ14_intValue 4 = .ok (.ireturn, 1) := by decide +kernel
abbrev cJ14_valueOf : ByteArray := prog_34_method_22_code
def yJ14_valueOf : MethodName := ⟨RJ14, "valueOf", "(I)Ljava/lang/Integer;"⟩
def dkwJ14_valueOf_1 : List UInt8 := [187, 0, 1, 89, 26, 183, 0, 199, 176]
abbrev dktJ14_valueOf_1 : List UInt8 := dkwJ14_valueOf_1 ++ []
def dkwJ14_valueOf_0 : List UInt8 := [26, 16, 128, 161, 0, 20, 26, 178, 0, 191, 163, 0, 13, 178, 0, 195, 26, 17, 0, 128, 96, 50, 176]
abbrev dktJ14_valueOf_0 : List UInt8 := dkwJ14_valueOf_0 ++ dktJ14_valueOf_1
theorem dksJ14_valueOf_0 : cJ14_valueOf.data.toList.drop 0 = dktJ14_valueOf_0 := by decide +kernel
theorem dksJ14_valueOf_1 : cJ14_valueOf.data.toList.drop 23 = dktJ14_valueOf_1 := dk_seg dksJ14_valueOf_0 23 rfl rfl
theorem dJ14_valueOf_0 : decode cJ14_valueOf 0 = .ok (.iload_n 0, 1) := dk_26 (dk_at dksJ14_valueOf_0 0 rfl rfl)
theorem dJ14_valueOf_1 : decode cJ14_valueOf 1 = .ok (.bipush (-128), 2) := dk_16 128 (dk_at dksJ14_valueOf_0 1 rfl rfl)
theorem dJ14_valueOf_3 : decode cJ14_valueOf 3 = .ok (.if_icmp .lt 20, 3) := dk_161 0 20 (dk_at dksJ14_valueOf_0 3 rfl rfl)
theorem dJ14_valueOf_6 : decode cJ14_valueOf 6 = .ok (.iload_n 0, 1) := dk_26 (dk_at dksJ14_valueOf_0 6 rfl rfl)
theorem dJ14_valueOf_7 : decode cJ14_valueOf 7 = .ok (.getstatic 191, 3) := dk_178 0 191 (dk_at dksJ14_valueOf_0 7 rfl rfl)
theorem dJ14_valueOf_10 : decode cJ14_valueOf 10 = .ok (.if_icmp .gt 13, 3) := dk_163 0 13 (dk_at dksJ14_valueOf_0 10 rfl rfl)
theorem dJ14_valueOf_13 : decode cJ14_valueOf 13 = .ok (.getstatic 195, 3) := dk_178 0 195 (dk_at dksJ14_valueOf_0 13 rfl rfl)
theorem dJ14_valueOf_16 : decode cJ14_valueOf 16 = .ok (.iload_n 0, 1) := dk_26 (dk_at dksJ14_valueOf_0 16 rfl rfl)
theorem dJ14_valueOf_17 : decode cJ14_valueOf 17 = .ok (.sipush 128, 3) := dk_17 0 128 (dk_at dksJ14_valueOf_0 17 rfl rfl)
theorem dJ14_valueOf_20 : decode cJ14_valueOf 20 = .ok (.iadd, 1) := dk_96 (dk_at dksJ14_valueOf_0 20 rfl rfl)
theorem dJ14_valueOf_21 : decode cJ14_valueOf 21 = .ok (.aaload, 1) := dk_50 (dk_at dksJ14_valueOf_0 21 rfl rfl)
theorem dJ14_valueOf_22 : decode cJ14_valueOf 22 = .ok (.areturn, 1) := dk_176 (dk_at dksJ14_valueOf_0 22 rfl rfl)
theorem dJ14_valueOf_23 : decode cJ14_valueOf 23 = .ok (.new 1, 3) := dk_187 0 1 (dk_at dksJ14_valueOf_1 0 rfl rfl)
theorem dJ14_valueOf_26 : decode cJ14_valueOf 26 = .ok (.dup, 1) := dk_89 (dk_at dksJ14_valueOf_1 3 rfl rfl)
theorem dJ14_valueOf_27 : decode cJ14_valueOf 27 = .ok (.iload_n 0, 1) := dk_26 (dk_at dksJ14_valueOf_1 4 rfl rfl)
theorem dJ14_valueOf_28 : decode cJ14_valueOf 28 = .ok (.invokespecial 199, 3) := dk_183 0 199 (dk_at dksJ14_valueOf_1 5 rfl rfl)
theorem dJ14_valueOf_31 : decode cJ14_valueOf 31 = .ok (.areturn, 1) := dk_176 (dk_at dksJ14_valueOf_1 8 rfl rfl)
abbrev cJ14_init : ByteArray := prog_34_method_23_code
def yJ14_init : MethodName := ⟨RJ14, "<init>", "(I)V"⟩
def dkwJ14_init_0 : List UInt8 := [42, 183, 0, 202, 42, 27, 181, 0, 205, 177]
abbrev dktJ14_init_0 : List UInt8 := dkwJ14_init_0 ++ []
theorem dksJ14_init_0 : cJ14_init.data.toList.drop 0 = dktJ14_init_0 := by decide +kernel
theorem dJ14_init_0 : decode cJ14_init 0 = .ok (.aload_n 0, 1) := dk_42 (dk_at dksJ14_init_0 0 rfl rfl)
theorem dJ14_init_1 : decode cJ14_init 1 = .ok (.invokespecial 202, 3) := dk_183 0 202 (dk_at dksJ14_init_0 1 rfl rfl)
theorem dJ14_init_4 : decode cJ14_init 4 = .ok (.aload_n 0, 1) := dk_42 (dk_at dksJ14_init_0 4 rfl rfl)
theorem dJ14_init_5 : decode cJ14_init 5 = .ok (.iload_n 1, 1) := dk_27 (dk_at dksJ14_init_0 5 rfl rfl)
theorem dJ14_init_6 : decode cJ14_init 6 = .ok (.putfield 205, 3) := dk_181 0 205 (dk_at dksJ14_init_0 6 rfl rfl)
theorem dJ14_init_9 : decode cJ14_init 9 = .ok (.return_, 1) := dk_177 (dk_at dksJ14_init_0 9 rfl rfl)
abbrev cJ14_toString : ByteArray := prog_34_method_31_code
def yJ14_toString : MethodName := ⟨RJ14, "toString", "()Ljava/lang/String;"⟩
def dkwJ14_toString_0 : List UInt8 := [42, 180, 0, 205, 184, 0, 9, 176]
abbrev dktJ14_toString_0 : List UInt8 := dkwJ14_toString_0 ++ []
theorem dksJ14_toString_0 : cJ14_toString.data.toList.drop 0 = dktJ14_toString_0 := by decide +kernel
theorem dJ14_toString_0 : decode cJ14_toString 0 = .ok (.aload_n 0, 1) := dk_42 (dk_at dksJ14_toString_0 0 rfl rfl)
theorem dJ14_toString_1 : decode cJ14_toString 1 = .ok (.getfield 205, 3) := dk_180 0 205 (dk_at dksJ14_toString_0 1 rfl rfl)
theorem dJ14_toString_4 : decode cJ14_toString 4 = .ok (.invokestatic 9, 3) := dk_184 0 9 (dk_at dksJ14_toString_0 4 rfl rfl)
theorem dJ14_toString_7 : decode cJ14_toString 7 = .ok (.areturn, 1) := dk_176 (dk_at dksJ14_toString_0 7 rfl rfl)
abbrev cJ14_toString_2 : ByteArray := prog_34_method_10_code
def yJ14_toString_2 : MethodName := ⟨RJ14, "toString", "(I)Ljava/lang/String;"⟩
def dkwJ14_toString_2_2 : List UInt8 := [187, 0, 5, 89, 44, 4, 183, 0, 65, 176]
abbrev dktJ14_toString_2_2 : List UInt8 := dkwJ14_toString_2_2 ++ []
def dkwJ14_toString_2_1 : List UInt8 := [187, 0, 5, 89, 44, 3, 183, 0, 65, 176, 27, 5, 104, 188, 8, 77, 26, 27, 44, 184, 0, 79, 87]
abbrev dktJ14_toString_2_1 : List UInt8 := dkwJ14_toString_2_1 ++ dktJ14_toString_2_2
def dkwJ14_toString_2_0 : List UInt8 := [26, 184, 0, 72, 60, 178, 0, 13, 153, 0, 24, 27, 188, 8, 77, 26, 27, 44, 184, 0, 75, 87]
abbrev dktJ14_toString_2_0 : List UInt8 := dkwJ14_toString_2_0 ++ dktJ14_toString_2_1
theorem dksJ14_toString_2_0 : cJ14_toString_2.data.toList.drop 0 = dktJ14_toString_2_0 := by decide +kernel
theorem dksJ14_toString_2_1 : cJ14_toString_2.data.toList.drop 22 = dktJ14_toString_2_1 := dk_seg dksJ14_toString_2_0 22 rfl rfl
theorem dksJ14_toString_2_2 : cJ14_toString_2.data.toList.drop 45 = dktJ14_toString_2_2 := dk_seg dksJ14_toString_2_1 23 rfl rfl
theorem dJ14_toString_2_0 : decode cJ14_toString_2 0 = .ok (.iload_n 0, 1) := dk_26 (dk_at dksJ14_toString_2_0 0 rfl rfl)
theorem dJ14_toString_2_1 : decode cJ14_toString_2 1 = .ok (.invokestatic 72, 3) := dk_184 0 72 (dk_at dksJ14_toString_2_0 1 rfl rfl)
theorem dJ14_toString_2_4 : decode cJ14_toString_2 4 = .ok (.istore_n 1, 1) := dk_60 (dk_at dksJ14_toString_2_0 4 rfl rfl)
theorem dJ14_toString_2_5 : decode cJ14_toString_2 5 = .ok (.getstatic 13, 3) := dk_178 0 13 (dk_at dksJ14_toString_2_0 5 rfl rfl)
theorem dJ14_toString_2_8 : decode cJ14_toString_2 8 = .ok (.ifCond .eq 24, 3) := dk_153 0 24 (dk_at dksJ14_toString_2_0 8 rfl rfl)
theorem dJ14_toString_2_11 : decode cJ14_toString_2 11 = .ok (.iload_n 1, 1) := dk_27 (dk_at dksJ14_toString_2_0 11 rfl rfl)
theorem dJ14_toString_2_12 : decode cJ14_toString_2 12 = .ok (.newarray .byte, 2) := dk_188_8 (dk_at dksJ14_toString_2_0 12 rfl rfl)
theorem dJ14_toString_2_14 : decode cJ14_toString_2 14 = .ok (.astore_n 2, 1) := dk_77 (dk_at dksJ14_toString_2_0 14 rfl rfl)
theorem dJ14_toString_2_15 : decode cJ14_toString_2 15 = .ok (.iload_n 0, 1) := dk_26 (dk_at dksJ14_toString_2_0 15 rfl rfl)
theorem dJ14_toString_2_16 : decode cJ14_toString_2 16 = .ok (.iload_n 1, 1) := dk_27 (dk_at dksJ14_toString_2_0 16 rfl rfl)
theorem dJ14_toString_2_17 : decode cJ14_toString_2 17 = .ok (.aload_n 2, 1) := dk_44 (dk_at dksJ14_toString_2_0 17 rfl rfl)
theorem dJ14_toString_2_18 : decode cJ14_toString_2 18 = .ok (.invokestatic 75, 3) := dk_184 0 75 (dk_at dksJ14_toString_2_0 18 rfl rfl)
theorem dJ14_toString_2_21 : decode cJ14_toString_2 21 = .ok (.pop, 1) := dk_87 (dk_at dksJ14_toString_2_0 21 rfl rfl)
theorem dJ14_toString_2_22 : decode cJ14_toString_2 22 = .ok (.new 5, 3) := dk_187 0 5 (dk_at dksJ14_toString_2_1 0 rfl rfl)
theorem dJ14_toString_2_25 : decode cJ14_toString_2 25 = .ok (.dup, 1) := dk_89 (dk_at dksJ14_toString_2_1 3 rfl rfl)
theorem dJ14_toString_2_26 : decode cJ14_toString_2 26 = .ok (.aload_n 2, 1) := dk_44 (dk_at dksJ14_toString_2_1 4 rfl rfl)
theorem dJ14_toString_2_27 : decode cJ14_toString_2 27 = .ok (.iconst 0, 1) := dk_3 (dk_at dksJ14_toString_2_1 5 rfl rfl)
theorem dJ14_toString_2_28 : decode cJ14_toString_2 28 = .ok (.invokespecial 65, 3) := dk_183 0 65 (dk_at dksJ14_toString_2_1 6 rfl rfl)
theorem dJ14_toString_2_31 : decode cJ14_toString_2 31 = .ok (.areturn, 1) := dk_176 (dk_at dksJ14_toString_2_1 9 rfl rfl)
theorem dJ14_toString_2_32 : decode cJ14_toString_2 32 = .ok (.iload_n 1, 1) := dk_27 (dk_at dksJ14_toString_2_1 10 rfl rfl)
theorem dJ14_toString_2_33 : decode cJ14_toString_2 33 = .ok (.iconst 2, 1) := dk_5 (dk_at dksJ14_toString_2_1 11 rfl rfl)
theorem dJ14_toString_2_34 : decode cJ14_toString_2 34 = .ok (.imul, 1) := dk_104 (dk_at dksJ14_toString_2_1 12 rfl rfl)
theorem dJ14_toString_2_35 : decode cJ14_toString_2 35 = .ok (.newarray .byte, 2) := dk_188_8 (dk_at dksJ14_toString_2_1 13 rfl rfl)
theorem dJ14_toString_2_37 : decode cJ14_toString_2 37 = .ok (.astore_n 2, 1) := dk_77 (dk_at dksJ14_toString_2_1 15 rfl rfl)
theorem dJ14_toString_2_38 : decode cJ14_toString_2 38 = .ok (.iload_n 0, 1) := dk_26 (dk_at dksJ14_toString_2_1 16 rfl rfl)
theorem dJ14_toString_2_39 : decode cJ14_toString_2 39 = .ok (.iload_n 1, 1) := dk_27 (dk_at dksJ14_toString_2_1 17 rfl rfl)
theorem dJ14_toString_2_40 : decode cJ14_toString_2 40 = .ok (.aload_n 2, 1) := dk_44 (dk_at dksJ14_toString_2_1 18 rfl rfl)
theorem dJ14_toString_2_41 : decode cJ14_toString_2 41 = .ok (.invokestatic 79, 3) := dk_184 0 79 (dk_at dksJ14_toString_2_1 19 rfl rfl)
theorem dJ14_toString_2_44 : decode cJ14_toString_2 44 = .ok (.pop, 1) := dk_87 (dk_at dksJ14_toString_2_1 22 rfl rfl)
theorem dJ14_toString_2_45 : decode cJ14_toString_2 45 = .ok (.new 5, 3) := dk_187 0 5 (dk_at dksJ14_toString_2_2 0 rfl rfl)
theorem dJ14_toString_2_48 : decode cJ14_toString_2 48 = .ok (.dup, 1) := dk_89 (dk_at dksJ14_toString_2_2 3 rfl rfl)
theorem dJ14_toString_2_49 : decode cJ14_toString_2 49 = .ok (.aload_n 2, 1) := dk_44 (dk_at dksJ14_toString_2_2 4 rfl rfl)
theorem dJ14_toString_2_50 : decode cJ14_toString_2 50 = .ok (.iconst 1, 1) := dk_4 (dk_at dksJ14_toString_2_2 5 rfl rfl)
theorem dJ14_toString_2_51 : decode cJ14_toString_2 51 = .ok (.invokespecial 65, 3) := dk_183 0 65 (dk_at dksJ14_toString_2_2 6 rfl rfl)
theorem dJ14_toString_2_54 : decode cJ14_toString_2 54 = .ok (.areturn, 1) := dk_176 (dk_at dksJ14_toString_2_2 9 rfl rfl)
theorem q144 : (Jvm.Cond.initialized "java/lang/Integer") ∈ lw_all := lw_g (lw_at lw_m1 20 rfl) rfl
theorem q681 : (Jvm.Cond.static ({ cls := "java/lang/Integer", name := "stringSize", desc := "(I)I" } : Jvm.MethodName)) ∈ lw_all := lw_g (lw_at lw_m3 77 rfl) rfl
theorem q682 : (Jvm.Cond.code ({ cls := "java/lang/Integer", name := "stringSize", desc := "(I)I" } : Jvm.MethodName) prog_34_method_13_code (4 : Nat) (Option.some Jvm.ClassFile.FieldType.int)) ∈ lw_all := lw_g (lw_at lw_m3 78 rfl) rfl
theorem q684 : (Jvm.Cond.static ({ cls := "java/lang/Integer", name := "getChars", desc := "(II[B)I" } : Jvm.MethodName)) ∈ lw_all := lw_g (lw_at lw_m3 80 rfl) rfl
theorem q685 : (Jvm.Cond.code ({ cls := "java/lang/Integer", name := "getChars", desc := "(II[B)I" } : Jvm.MethodName) prog_34_method_12_code (7 : Nat) (Option.some Jvm.ClassFile.FieldType.int)) ∈ lw_all := lw_g (lw_at lw_m3 81 rfl) rfl
theorem q686 : (Jvm.Cond.fieldLink "java/lang/Integer" (83 : Nat) "java/lang/Integer" "DigitOnes" "[B") ∈ lw_all := lw_g (lw_at lw_m3 82 rfl) rfl
theorem q687 : (Jvm.Cond.laysStatic "java/lang/Integer" "DigitOnes" "[B") ∈ lw_tbl := lw_at lw_m3 83 rfl
theorem q688 : (Jvm.Cond.fieldLink "java/lang/Integer" (87 : Nat) "java/lang/Integer" "DigitTens" "[B") ∈ lw_all := lw_g (lw_at lw_m3 84 rfl) rfl
theorem q689 : (Jvm.Cond.laysStatic "java/lang/Integer" "DigitTens" "[B") ∈ lw_tbl := lw_at lw_m3 85 rfl
theorem q941 : (Jvm.Cond.selects "java/lang/Integer" ({ cls := "java/lang/Object", name := "getClass", desc := "()Ljava/lang/Class;" } : Jvm.MethodName) ({ cls := "java/lang/Object", name := "getClass", desc := "()Ljava/lang/Class;" } : Jvm.MethodName)) ∈ lw_all := lw_g (lw_at lw_m4 97 rfl) rfl
theorem q993 : (Jvm.Cond.static ({ cls := "java/lang/Integer", name := "compare", desc := "(II)I" } : Jvm.MethodName)) ∈ lw_all := lw_g (lw_at lw_m4 149 rfl) rfl
theorem q994 : (Jvm.Cond.code ({ cls := "java/lang/Integer", name := "compare", desc := "(II)I" } : Jvm.MethodName) prog_34_method_40_code (2 : Nat) (Option.some Jvm.ClassFile.FieldType.int)) ∈ lw_all := lw_g (lw_at lw_m4 150 rfl) rfl
theorem q1027 : (Jvm.Cond.castable "java/lang/Integer" "java/lang/Comparable") ∈ lw_tbl := lw_at lw_m4 183 rfl
theorem q1028 : (Jvm.Cond.selects "java/lang/Integer" ({ cls := "java/lang/Comparable", name := "compareTo", desc := "(Ljava/lang/Object;)I" } : Jvm.MethodName) ({ cls := "java/lang/Integer", name := "compareTo", desc := "(Ljava/lang/Object;)I" } : Jvm.MethodName)) ∈ lw_all := lw_g (lw_at lw_m4 184 rfl) rfl
theorem q1029 : (Jvm.Cond.unhidden "java/lang/Integer" "compareTo" "(Ljava/lang/Object;)I") ∈ lw_tbl := lw_at lw_m4 185 rfl
theorem q1030 : (Jvm.Cond.instanceMethod ({ cls := "java/lang/Integer", name := "compareTo", desc := "(Ljava/lang/Object;)I" } : Jvm.MethodName)) ∈ lw_all := lw_g (lw_at lw_m4 186 rfl) rfl
theorem q1031 : (Jvm.Cond.publicMethod ({ cls := "java/lang/Integer", name := "compareTo", desc := "(Ljava/lang/Object;)I" } : Jvm.MethodName)) ∈ lw_tbl := lw_at lw_m4 187 rfl
theorem q1032 : (Jvm.Cond.code ({ cls := "java/lang/Integer", name := "compareTo", desc := "(Ljava/lang/Object;)I" } : Jvm.MethodName) prog_34_method_63_code (2 : Nat) (Option.some Jvm.ClassFile.FieldType.int)) ∈ lw_all := lw_g (lw_at lw_m4 188 rfl) rfl
theorem q1033 : (Jvm.Cond.classLink "java/lang/Integer" (1 : Nat) "java/lang/Integer") ∈ lw_all := lw_g (lw_at lw_m4 189 rfl) rfl
theorem q1034 : (Jvm.Cond.methodLink "java/lang/Integer" (284 : Nat) ({ cls := "java/lang/Integer", name := "compareTo", desc := "(Ljava/lang/Integer;)I" } : Jvm.MethodName)) ∈ lw_all := lw_g (lw_at lw_m4 190 rfl) rfl
theorem q1035 : (Jvm.Cond.instanceMethod ({ cls := "java/lang/Integer", name := "compareTo", desc := "(Ljava/lang/Integer;)I" } : Jvm.MethodName)) ∈ lw_all := lw_g (lw_at lw_m4 191 rfl) rfl
theorem q1036 : (Jvm.Cond.selects "java/lang/Integer" ({ cls := "java/lang/Integer", name := "compareTo", desc := "(Ljava/lang/Integer;)I" } : Jvm.MethodName) ({ cls := "java/lang/Integer", name := "compareTo", desc := "(Ljava/lang/Integer;)I" } : Jvm.MethodName)) ∈ lw_all := lw_g (lw_at lw_m4 192 rfl) rfl
theorem q1037 : (Jvm.Cond.code ({ cls := "java/lang/Integer", name := "compareTo", desc := "(Ljava/lang/Integer;)I" } : Jvm.MethodName) prog_34_method_39_code (2 : Nat) (Option.some Jvm.ClassFile.FieldType.int)) ∈ lw_all := lw_g (lw_at lw_m4 193 rfl) rfl
theorem q1038 : (Jvm.Cond.methodLink "java/lang/Integer" (259 : Nat) ({ cls := "java/lang/Integer", name := "compare", desc := "(II)I" } : Jvm.MethodName)) ∈ lw_all := lw_g (lw_at lw_m4 194 rfl) rfl
theorem q1129 : (Jvm.Cond.static ({ cls := "java/lang/Integer", name := "numberOfLeadingZeros", desc := "(I)I" } : Jvm.MethodName)) ∈ lw_all := lw_g (lw_at lw_m5 45 rfl) rfl
theorem q1130 : (Jvm.Cond.code ({ cls := "java/lang/Integer", name := "numberOfLeadingZeros", desc := "(I)I" } : Jvm.MethodName) prog_34_method_47_code (2 : Nat) (Option.some Jvm.ClassFile.FieldType.int)) ∈ lw_all := lw_g (lw_at lw_m5 46 rfl) rfl
theorem q1131 : (Jvm.Cond.constant "java/lang/Integer" (264 : Nat) (65536 : Int32)) ∈ lw_all := lw_g (lw_at lw_m5 47 rfl) rfl
theorem q1138 : (Jvm.Cond.static ({ cls := "java/lang/Integer", name := "numberOfTrailingZeros", desc := "(I)I" } : Jvm.MethodName)) ∈ lw_all := lw_g (lw_at lw_m5 54 rfl) rfl
theorem q1139 : (Jvm.Cond.code ({ cls := "java/lang/Integer", name := "numberOfTrailingZeros", desc := "(I)I" } : Jvm.MethodName) prog_34_method_48_code (2 : Nat) (Option.some Jvm.ClassFile.FieldType.int)) ∈ lw_all := lw_g (lw_at lw_m5 55 rfl) rfl
theorem q1770 : (Jvm.Cond.instanceMethod ({ cls := "java/lang/Integer", name := "intValue", desc := "()I" } : Jvm.MethodName)) ∈ lw_all := lw_g (lw_at lw_m7 206 rfl) rfl
theorem q1771 : (Jvm.Cond.selects "java/lang/Integer" ({ cls := "java/lang/Integer", name := "intValue", desc := "()I" } : Jvm.MethodName) ({ cls := "java/lang/Integer", name := "intValue", desc := "()I" } : Jvm.MethodName)) ∈ lw_all := lw_g (lw_at lw_m7 207 rfl) rfl
theorem q1772 : (Jvm.Cond.code ({ cls := "java/lang/Integer", name := "intValue", desc := "()I" } : Jvm.MethodName) prog_34_method_27_code (1 : Nat) (Option.some Jvm.ClassFile.FieldType.int)) ∈ lw_all := lw_g (lw_at lw_m7 208 rfl) rfl
theorem q1778 : (Jvm.Cond.static ({ cls := "java/lang/Integer", name := "valueOf", desc := "(I)Ljava/lang/Integer;" } : Jvm.MethodName)) ∈ lw_all := lw_g (lw_at lw_m7 214 rfl) rfl
theorem q1779 : (Jvm.Cond.code ({ cls := "java/lang/Integer", name := "valueOf", desc := "(I)Ljava/lang/Integer;" } : Jvm.MethodName) prog_34_method_22_code (1 : Nat) (Option.some (Jvm.ClassFile.FieldType.object "java/lang/Integer"))) ∈ lw_all := lw_g (lw_at lw_m7 215 rfl) rfl
theorem q1780 : (Jvm.Cond.fieldLink "java/lang/Integer" (191 : Nat) "java/lang/Integer$IntegerCache" "high" "I") ∈ lw_all := lw_g (lw_at lw_m7 216 rfl) rfl
theorem q1782 : (Jvm.Cond.fieldLink "java/lang/Integer" (195 : Nat) "java/lang/Integer$IntegerCache" "cache" "[Ljava/lang/Integer;") ∈ lw_all := lw_g (lw_at lw_m7 218 rfl) rfl
theorem q1784 : (Jvm.Cond.instantiable "java/lang/Integer" (1 : Nat)) ∈ lw_all := lw_g (lw_at lw_m7 220 rfl) rfl
theorem q1785 : (Jvm.Cond.methodLink "java/lang/Integer" (199 : Nat) ({ cls := "java/lang/Integer", name := "<init>", desc := "(I)V" } : Jvm.MethodName)) ∈ lw_all := lw_g (lw_at lw_m7 221 rfl) rfl
theorem q1786 : (Jvm.Cond.instanceMethod ({ cls := "java/lang/Integer", name := "<init>", desc := "(I)V" } : Jvm.MethodName)) ∈ lw_all := lw_g (lw_at lw_m7 222 rfl) rfl
theorem q1787 : (Jvm.Cond.code ({ cls := "java/lang/Integer", name := "<init>", desc := "(I)V" } : Jvm.MethodName) prog_34_method_23_code (2 : Nat) (Option.none : Option Jvm.ClassFile.FieldType)) ∈ lw_all := lw_g (lw_at lw_m7 223 rfl) rfl
theorem q1788 : (Jvm.Cond.methodLink "java/lang/Integer" (202 : Nat) ({ cls := "java/lang/Number", name := "<init>", desc := "()V" } : Jvm.MethodName)) ∈ lw_all := lw_g (lw_at lw_m7 224 rfl) rfl
theorem q1792 : (Jvm.Cond.fieldLink "java/lang/Integer" (205 : Nat) "java/lang/Integer" "value" "I") ∈ lw_all := lw_g (lw_at lw_m7 228 rfl) rfl
theorem q1793 : (Jvm.Cond.laysFinal "java/lang/Integer" "java/lang/Integer" "value" "I") ∈ lw_all := lw_g (lw_at lw_m7 229 rfl) rfl
theorem q1794 : (Jvm.Cond.soleField "java/lang/Integer" "value") ∈ lw_all := lw_g (lw_at lw_m7 230 rfl) rfl
theorem q1795 : (Jvm.Cond.superclass "java/lang/Integer" "java/lang/Number") ∈ lw_all := lw_g (lw_at lw_m7 231 rfl) rfl
theorem q2870 : (Jvm.Cond.selects "java/lang/Integer" ({ cls := "java/lang/Object", name := "toString", desc := "()Ljava/lang/String;" } : Jvm.MethodName) ({ cls := "java/lang/Integer", name := "toString", desc := "()Ljava/lang/String;" } : Jvm.MethodName)) ∈ lw_all := lw_g (lw_at lw_m12 106 rfl) rfl
theorem q2871 : (Jvm.Cond.instanceMethod ({ cls := "java/lang/Integer", name := "toString", desc := "()Ljava/lang/String;" } : Jvm.MethodName)) ∈ lw_all := lw_g (lw_at lw_m12 107 rfl) rfl
theorem q2872 : (Jvm.Cond.code ({ cls := "java/lang/Integer", name := "toString", desc := "()Ljava/lang/String;" } : Jvm.MethodName) prog_34_method_31_code (1 : Nat) (Option.some (Jvm.ClassFile.FieldType.object "java/lang/String"))) ∈ lw_all := lw_g (lw_at lw_m12 108 rfl) rfl
theorem q2873 : (Jvm.Cond.methodLink "java/lang/Integer" (9 : Nat) ({ cls := "java/lang/Integer", name := "toString", desc := "(I)Ljava/lang/String;" } : Jvm.MethodName)) ∈ lw_all := lw_g (lw_at lw_m12 109 rfl) rfl
theorem q2874 : (Jvm.Cond.static ({ cls := "java/lang/Integer", name := "toString", desc := "(I)Ljava/lang/String;" } : Jvm.MethodName)) ∈ lw_all := lw_g (lw_at lw_m12 110 rfl) rfl
theorem q2875 : (Jvm.Cond.code ({ cls := "java/lang/Integer", name := "toString", desc := "(I)Ljava/lang/String;" } : Jvm.MethodName) prog_34_method_10_code (3 : Nat) (Option.some (Jvm.ClassFile.FieldType.object "java/lang/String"))) ∈ lw_all := lw_g (lw_at lw_m12 111 rfl) rfl
theorem q2876 : (Jvm.Cond.methodLink "java/lang/Integer" (72 : Nat) ({ cls := "java/lang/Integer", name := "stringSize", desc := "(I)I" } : Jvm.MethodName)) ∈ lw_all := lw_g (lw_at lw_m12 112 rfl) rfl
theorem q2877 : (Jvm.Cond.fieldLink "java/lang/Integer" (13 : Nat) "java/lang/String" "COMPACT_STRINGS" "Z") ∈ lw_all := lw_g (lw_at lw_m12 113 rfl) rfl
theorem q2878 : (Jvm.Cond.methodLink "java/lang/Integer" (75 : Nat) ({ cls := "java/lang/Integer", name := "getChars", desc := "(II[B)I" } : Jvm.MethodName)) ∈ lw_all := lw_g (lw_at lw_m12 114 rfl) rfl
theorem q2879 : (Jvm.Cond.classLink "java/lang/Integer" (5 : Nat) "java/lang/String") ∈ lw_all := lw_g (lw_at lw_m12 115 rfl) rfl
theorem q2880 : (Jvm.Cond.methodLink "java/lang/Integer" (65 : Nat) ({ cls := "java/lang/String", name := "<init>", desc := "([BB)V" } : Jvm.MethodName)) ∈ lw_all := lw_g (lw_at lw_m12 116 rfl) rfl
theorem q2883 : (Jvm.Cond.methodLink "java/lang/Integer" (79 : Nat) ({ cls := "java/lang/StringUTF16", name := "getChars", desc := "(II[B)I" } : Jvm.MethodName)) ∈ lw_all := lw_g (lw_at lw_m12 119 rfl) rfl
theorem q4036 : (Jvm.Cond.castable "java/lang/Integer" "java/lang/Object") ∈ lw_tbl := lw_at lw_m17 72 rfl
theorem in_J14 : ∀ w ∈ wsJ140, w ∈ lw_all := lw_in wsJ140 [1793] (by decide +kernel) (by decide +kernel)

/-! java/lang/StringLatin1 -/
set_option maxRecDepth 100000
def RJ15 : String := "java/lang/StringLatin1"
abbrev cJ15_inflate : ByteArray := prog_44_method_50_code
def yJ15_inflate : MethodName := ⟨RJ15, "inflate", "([BI[BII)V"⟩
def dkwJ15_inflate_0 : List UInt8 := [42, 27, 44, 29, 21, 4, 184, 0, 240, 177]
abbrev dktJ15_inflate_0 : List UInt8 := dkwJ15_inflate_0 ++ []
theorem dksJ15_inflate_0 : cJ15_inflate.data.toList.drop 0 = dktJ15_inflate_0 := by decide +kernel
theorem dJ15_inflate_0 : decode cJ15_inflate 0 = .ok (.aload_n 0, 1) := dk_42 (dk_at dksJ15_inflate_0 0 rfl rfl)
theorem dJ15_inflate_1 : decode cJ15_inflate 1 = .ok (.iload_n 1, 1) := dk_27 (dk_at dksJ15_inflate_0 1 rfl rfl)
theorem dJ15_inflate_2 : decode cJ15_inflate 2 = .ok (.aload_n 2, 1) := dk_44 (dk_at dksJ15_inflate_0 2 rfl rfl)
theorem dJ15_inflate_3 : decode cJ15_inflate 3 = .ok (.iload_n 3, 1) := dk_29 (dk_at dksJ15_inflate_0 3 rfl rfl)
theorem dJ15_inflate_4 : decode cJ15_inflate 4 = .ok (.iload 4, 2) := dk_21 4 (dk_at dksJ15_inflate_0 4 rfl rfl)
theorem dJ15_inflate_6 : decode cJ15_inflate 6 = .ok (.invokestatic 240, 3) := dk_184 0 240 (dk_at dksJ15_inflate_0 6 rfl rfl)
theorem dJ15_inflate_9 : decode cJ15_inflate 9 = .ok (.return_, 1) := dk_177 (dk_at dksJ15_inflate_0 9 rfl rfl)
abbrev cJ15_compareTo : ByteArray := prog_44_method_14_code
def yJ15_compareTo : MethodName := ⟨RJ15, "compareTo", "([B[B)I"⟩
def dkwJ15_compareTo_0 : List UInt8 := [42, 190, 61, 43, 190, 62, 42, 43, 28, 29, 184, 0, 34, 172]
abbrev dktJ15_compareTo_0 : List UInt8 := dkwJ15_compareTo_0 ++ []
theorem dksJ15_compareTo_0 : cJ15_compareTo.data.toList.drop 0 = dktJ15_compareTo_0 := by decide +kernel
theorem dJ15_compareTo_0 : decode cJ15_compareTo 0 = .ok (.aload_n 0, 1) := dk_42 (dk_at dksJ15_compareTo_0 0 rfl rfl)
theorem dJ15_compareTo_1 : decode cJ15_compareTo 1 = .ok (.arraylength, 1) := dk_190 (dk_at dksJ15_compareTo_0 1 rfl rfl)
theorem dJ15_compareTo_2 : decode cJ15_compareTo 2 = .ok (.istore_n 2, 1) := dk_61 (dk_at dksJ15_compareTo_0 2 rfl rfl)
theorem dJ15_compareTo_3 : decode cJ15_compareTo 3 = .ok (.aload_n 1, 1) := dk_43 (dk_at dksJ15_compareTo_0 3 rfl rfl)
theorem dJ15_compareTo_4 : decode cJ15_compareTo 4 = .ok (.arraylength, 1) := dk_190 (dk_at dksJ15_compareTo_0 4 rfl rfl)
theorem dJ15_compareTo_5 : decode cJ15_compareTo 5 = .ok (.istore_n 3, 1) := dk_62 (dk_at dksJ15_compareTo_0 5 rfl rfl)
theorem dJ15_compareTo_6 : decode cJ15_compareTo 6 = .ok (.aload_n 0, 1) := dk_42 (dk_at dksJ15_compareTo_0 6 rfl rfl)
theorem dJ15_compareTo_7 : decode cJ15_compareTo 7 = .ok (.aload_n 1, 1) := dk_43 (dk_at dksJ15_compareTo_0 7 rfl rfl)
theorem dJ15_compareTo_8 : decode cJ15_compareTo 8 = .ok (.iload_n 2, 1) := dk_28 (dk_at dksJ15_compareTo_0 8 rfl rfl)
theorem dJ15_compareTo_9 : decode cJ15_compareTo 9 = .ok (.iload_n 3, 1) := dk_29 (dk_at dksJ15_compareTo_0 9 rfl rfl)
theorem dJ15_compareTo_10 : decode cJ15_compareTo 10 = .ok (.invokestatic 34, 3) := dk_184 0 34 (dk_at dksJ15_compareTo_0 10 rfl rfl)
theorem dJ15_compareTo_13 : decode cJ15_compareTo 13 = .ok (.ireturn, 1) := dk_172 (dk_at dksJ15_compareTo_0 13 rfl rfl)
abbrev cJ15_compareTo_2 : ByteArray := prog_44_method_15_code
def yJ15_compareTo_2 : MethodName := ⟨RJ15, "compareTo", "([B[BII)I"⟩
def dkwJ15_compareTo_2_1 : List UInt8 := [167, 0, 16, 42, 21, 5, 184, 0, 50, 43, 21, 5, 184, 0, 50, 100, 172]
abbrev dktJ15_compareTo_2_1 : List UInt8 := dkwJ15_compareTo_2_1 ++ []
def dkwJ15_compareTo_2_0 : List UInt8 := [28, 29, 184, 0, 38, 54, 4, 42, 43, 21, 4, 184, 0, 44, 54, 5, 21, 5, 156, 0, 9, 28, 29, 100]
abbrev dktJ15_compareTo_2_0 : List UInt8 := dkwJ15_compareTo_2_0 ++ dktJ15_compareTo_2_1
theorem dksJ15_compareTo_2_0 : cJ15_compareTo_2.data.toList.drop 0 = dktJ15_compareTo_2_0 := by decide +kernel
theorem dksJ15_compareTo_2_1 : cJ15_compareTo_2.data.toList.drop 24 = dktJ15_compareTo_2_1 := dk_seg dksJ15_compareTo_2_0 24 rfl rfl
theorem dJ15_compareTo_2_0 : decode cJ15_compareTo_2 0 = .ok (.iload_n 2, 1) := dk_28 (dk_at dksJ15_compareTo_2_0 0 rfl rfl)
theorem dJ15_compareTo_2_1 : decode cJ15_compareTo_2 1 = .ok (.iload_n 3, 1) := dk_29 (dk_at dksJ15_compareTo_2_0 1 rfl rfl)
theorem dJ15_compareTo_2_2 : decode cJ15_compareTo_2 2 = .ok (.invokestatic 38, 3) := dk_184 0 38 (dk_at dksJ15_compareTo_2_0 2 rfl rfl)
theorem dJ15_compareTo_2_5 : decode cJ15_compareTo_2 5 = .ok (.istore 4, 2) := dk_54 4 (dk_at dksJ15_compareTo_2_0 5 rfl rfl)
theorem dJ15_compareTo_2_7 : decode cJ15_compareTo_2 7 = .ok (.aload_n 0, 1) := dk_42 (dk_at dksJ15_compareTo_2_0 7 rfl rfl)
theorem dJ15_compareTo_2_8 : decode cJ15_compareTo_2 8 = .ok (.aload_n 1, 1) := dk_43 (dk_at dksJ15_compareTo_2_0 8 rfl rfl)
theorem dJ15_compareTo_2_9 : decode cJ15_compareTo_2 9 = .ok (.iload 4, 2) := dk_21 4 (dk_at dksJ15_compareTo_2_0 9 rfl rfl)
theorem dJ15_compareTo_2_11 : decode cJ15_compareTo_2 11 = .ok (.invokestatic 44, 3) := dk_184 0 44 (dk_at dksJ15_compareTo_2_0 11 rfl rfl)
theorem dJ15_compareTo_2_14 : decode cJ15_compareTo_2 14 = .ok (.istore 5, 2) := dk_54 5 (dk_at dksJ15_compareTo_2_0 14 rfl rfl)
theorem dJ15_compareTo_2_16 : decode cJ15_compareTo_2 16 = .ok (.iload 5, 2) := dk_21 5 (dk_at dksJ15_compareTo_2_0 16 rfl rfl)
theorem dJ15_compareTo_2_18 : decode cJ15_compareTo_2 18 = .ok (.ifCond .ge 9, 3) := dk_156 0 9 (dk_at dksJ15_compareTo_2_0 18 rfl rfl)
theorem dJ15_compareTo_2_21 : decode cJ15_compareTo_2 21 = .ok (.iload_n 2, 1) := dk_28 (dk_at dksJ15_compareTo_2_0 21 rfl rfl)
theorem dJ15_compareTo_2_22 : decode cJ15_compareTo_2 22 = .ok (.iload_n 3, 1) := dk_29 (dk_at dksJ15_compareTo_2_0 22 rfl rfl)
theorem dJ15_compareTo_2_23 : decode cJ15_compareTo_2 23 = .ok (.isub, 1) := dk_100 (dk_at dksJ15_compareTo_2_0 23 rfl rfl)
theorem dJ15_compareTo_2_24 : decode cJ15_compareTo_2 24 = .ok (.goto 16, 3) := dk_167 0 16 (dk_at dksJ15_compareTo_2_1 0 rfl rfl)
theorem dJ15_compareTo_2_27 : decode cJ15_compareTo_2 27 = .ok (.aload_n 0, 1) := dk_42 (dk_at dksJ15_compareTo_2_1 3 rfl rfl)
theorem dJ15_compareTo_2_28 : decode cJ15_compareTo_2 28 = .ok (.iload 5, 2) := dk_21 5 (dk_at dksJ15_compareTo_2_1 4 rfl rfl)
theorem dJ15_compareTo_2_30 : decode cJ15_compareTo_2 30 = .ok (.invokestatic 50, 3) := dk_184 0 50 (dk_at dksJ15_compareTo_2_1 6 rfl rfl)
theorem dJ15_compareTo_2_33 : decode cJ15_compareTo_2 33 = .ok (.aload_n 1, 1) := dk_43 (dk_at dksJ15_compareTo_2_1 9 rfl rfl)
theorem dJ15_compareTo_2_34 : decode cJ15_compareTo_2 34 = .ok (.iload 5, 2) := dk_21 5 (dk_at dksJ15_compareTo_2_1 10 rfl rfl)
theorem dJ15_compareTo_2_36 : decode cJ15_compareTo_2 36 = .ok (.invokestatic 50, 3) := dk_184 0 50 (dk_at dksJ15_compareTo_2_1 12 rfl rfl)
theorem dJ15_compareTo_2_39 : decode cJ15_compareTo_2 39 = .ok (.isub, 1) := dk_100 (dk_at dksJ15_compareTo_2_1 15 rfl rfl)
theorem dJ15_compareTo_2_40 : decode cJ15_compareTo_2 40 = .ok (.ireturn, 1) := dk_172 (dk_at dksJ15_compareTo_2_1 16 rfl rfl)
abbrev cJ15_getChar : ByteArray := prog_44_method_44_code
def yJ15_getChar : MethodName := ⟨RJ15, "getChar", "([BI)C"⟩
def dkwJ15_getChar_0 : List UInt8 := [42, 27, 51, 17, 0, 255, 126, 146, 172]
abbrev dktJ15_getChar_0 : List UInt8 := dkwJ15_getChar_0 ++ []
theorem dksJ15_getChar_0 : cJ15_getChar.data.toList.drop 0 = dktJ15_getChar_0 := by decide +kernel
theorem dJ15_getChar_0 : decode cJ15_getChar 0 = .ok (.aload_n 0, 1) := dk_42 (dk_at dksJ15_getChar_0 0 rfl rfl)
theorem dJ15_getChar_1 : decode cJ15_getChar 1 = .ok (.iload_n 1, 1) := dk_27 (dk_at dksJ15_getChar_0 1 rfl rfl)
theorem dJ15_getChar_2 : decode cJ15_getChar 2 = .ok (.baload, 1) := dk_51 (dk_at dksJ15_getChar_0 2 rfl rfl)
theorem dJ15_getChar_3 : decode cJ15_getChar 3 = .ok (.sipush 255, 3) := dk_17 0 255 (dk_at dksJ15_getChar_0 3 rfl rfl)
theorem dJ15_getChar_6 : decode cJ15_getChar 6 = .ok (.iand, 1) := dk_126 (dk_at dksJ15_getChar_0 6 rfl rfl)
theorem dJ15_getChar_7 : decode cJ15_getChar 7 = .ok (.i2c, 1) := dk_146 (dk_at dksJ15_getChar_0 7 rfl rfl)
theorem dJ15_getChar_8 : decode cJ15_getChar 8 = .ok (.ireturn, 1) := dk_172 (dk_at dksJ15_getChar_0 8 rfl rfl)
abbrev cJ15_compareToUTF16 : ByteArray := prog_44_method_16_code
def yJ15_compareToUTF16 : MethodName := ⟨RJ15, "compareToUTF16", "([B[B)I"⟩
def dkwJ15_compareToUTF16_0 : List UInt8 := [42, 184, 0, 54, 61, 43, 184, 0, 58, 62, 42, 43, 28, 29, 184, 0, 59, 172]
abbrev dktJ15_compareToUTF16_0 : List UInt8 := dkwJ15_compareToUTF16_0 ++ []
theorem dksJ15_compareToUTF16_0 : cJ15_compareToUTF16.data.toList.drop 0 = dktJ15_compareToUTF16_0 := by decide +kernel
theorem dJ15_compareToUTF16_0 : decode cJ15_compareToUTF16 0 = .ok (.aload_n 0, 1) := dk_42 (dk_at dksJ15_compareToUTF16_0 0 rfl rfl)
theorem dJ15_compareToUTF16_1 : decode cJ15_compareToUTF16 1 = .ok (.invokestatic 54, 3) := dk_184 0 54 (dk_at dksJ15_compareToUTF16_0 1 rfl rfl)
theorem dJ15_compareToUTF16_4 : decode cJ15_compareToUTF16 4 = .ok (.istore_n 2, 1) := dk_61 (dk_at dksJ15_compareToUTF16_0 4 rfl rfl)
theorem dJ15_compareToUTF16_5 : decode cJ15_compareToUTF16 5 = .ok (.aload_n 1, 1) := dk_43 (dk_at dksJ15_compareToUTF16_0 5 rfl rfl)
theorem dJ15_compareToUTF16_6 : decode cJ15_compareToUTF16 6 = .ok (.invokestatic 58, 3) := dk_184 0 58 (dk_at dksJ15_compareToUTF16_0 6 rfl rfl)
theorem dJ15_compareToUTF16_9 : decode cJ15_compareToUTF16 9 = .ok (.istore_n 3, 1) := dk_62 (dk_at dksJ15_compareToUTF16_0 9 rfl rfl)
theorem dJ15_compareToUTF16_10 : decode cJ15_compareToUTF16 10 = .ok (.aload_n 0, 1) := dk_42 (dk_at dksJ15_compareToUTF16_0 10 rfl rfl)
theorem dJ15_compareToUTF16_11 : decode cJ15_compareToUTF16 11 = .ok (.aload_n 1, 1) := dk_43 (dk_at dksJ15_compareToUTF16_0 11 rfl rfl)
theorem dJ15_compareToUTF16_12 : decode cJ15_compareToUTF16 12 = .ok (.iload_n 2, 1) := dk_28 (dk_at dksJ15_compareToUTF16_0 12 rfl rfl)
theorem dJ15_compareToUTF16_13 : decode cJ15_compareToUTF16 13 = .ok (.iload_n 3, 1) := dk_29 (dk_at dksJ15_compareToUTF16_0 13 rfl rfl)
theorem dJ15_compareToUTF16_14 : decode cJ15_compareToUTF16 14 = .ok (.invokestatic 59, 3) := dk_184 0 59 (dk_at dksJ15_compareToUTF16_0 14 rfl rfl)
theorem dJ15_compareToUTF16_17 : decode cJ15_compareToUTF16 17 = .ok (.ireturn, 1) := dk_172 (dk_at dksJ15_compareToUTF16_0 17 rfl rfl)
abbrev cJ15_length : ByteArray := prog_44_method_5_code
def yJ15_length : MethodName := ⟨RJ15, "length", "([B)I"⟩
theorem dJ15_length_0 : decode cJ15_length 0 = .ok (.aload_n 0, 1) := by decide +kernel
theorem dJ15_length_1 : decode cJ15_length 1 = .ok (.arraylength, 1) := by decide +kernel
theorem dJ15_length_2 : decode cJ15_length 2 = .ok (.ireturn, 1) := by decide +kernel
abbrev cJ15_compareToUTF16Values : ByteArray := prog_44_method_18_code
def yJ15_compareToUTF16Values : MethodName := ⟨RJ15, "compareToUTF16Values", "([B[BII)I"⟩
def dkwJ15_compareToUTF16Values_2 : List UInt8 := [132, 5, 1, 167, 255, 217, 28, 29, 100, 172]
abbrev dktJ15_compareToUTF16Values_2 : List UInt8 := dkwJ15_compareToUTF16Values_2 ++ []
def dkwJ15_compareToUTF16Values_1 : List UInt8 := [54, 6, 43, 21, 5, 184, 0, 65, 54, 7, 21, 6, 21, 7, 159, 0, 9, 21, 6, 21, 7, 100, 172]
abbrev dktJ15_compareToUTF16Values_1 : List UInt8 := dkwJ15_compareToUTF16Values_1 ++ dktJ15_compareToUTF16Values_2
def dkwJ15_compareToUTF16Values_0 : List UInt8 := [28, 29, 184, 0, 38, 54, 4, 3, 54, 5, 21, 5, 21, 4, 162, 0, 38, 42, 21, 5, 184, 0, 50]
abbrev dktJ15_compareToUTF16Values_0 : List UInt8 := dkwJ15_compareToUTF16Values_0 ++ dktJ15_compareToUTF16Values_1
theorem dksJ15_compareToUTF16Values_0 : cJ15_compareToUTF16Values.data.toList.drop 0 = dktJ15_compareToUTF16Values_0 := by decide +kernel
theorem dksJ15_compareToUTF16Values_1 : cJ15_compareToUTF16Values.data.toList.drop 23 = dktJ15_compareToUTF16Values_1 := dk_seg dksJ15_compareToUTF16Values_0 23 rfl rfl
theorem dksJ15_compareToUTF16Values_2 : cJ15_compareToUTF16Values.data.toList.drop 46 = dktJ15_compareToUTF16Values_2 := dk_seg dksJ15_compareToUTF16Values_1 23 rfl rfl
theorem dJ15_compareToUTF16Values_0 : decode cJ15_compareToUTF16Values 0 = .ok (.iload_n 2, 1) := dk_28 (dk_at dksJ15_compareToUTF16Values_0 0 rfl rfl)
theorem dJ15_compareToUTF16Values_1 : decode cJ15_compareToUTF16Values 1 = .ok (.iload_n 3, 1) := dk_29 (dk_at dksJ15_compareToUTF16Values_0 1 rfl rfl)
theorem dJ15_compareToUTF16Values_2 : decode cJ15_compareToUTF16Values 2 = .ok (.invokestatic 38, 3) := dk_184 0 38 (dk_at dksJ15_compareToUTF16Values_0 2 rfl rfl)
theorem dJ15_compareToUTF16Values_5 : decode cJ15_compareToUTF16Values 5 = .ok (.istore 4, 2) := dk_54 4 (dk_at dksJ15_compareToUTF16Values_0 5 rfl rfl)
theorem dJ15_compareToUTF16Values_7 : decode cJ15_compareToUTF16Values 7 = .ok (.iconst 0, 1) := dk_3 (dk_at dksJ15_compareToUTF16Values_0 7 rfl rfl)
theorem dJ15_compareToUTF16Values_8 : decode cJ15_compareToUTF16Values 8 = .ok (.istore 5, 2) := dk_54 5 (dk_at dksJ15_compareToUTF16Values_0 8 rfl rfl)
theorem dJ15_compareToUTF16Values_10 : decode cJ15_compareToUTF16Values 10 = .ok (.iload 5, 2) := dk_21 5 (dk_at dksJ15_compareToUTF16Values_0 10 rfl rfl)
theorem dJ15_compareToUTF16Values_12 : decode cJ15_compareToUTF16Values 12 = .ok (.iload 4, 2) := dk_21 4 (dk_at dksJ15_compareToUTF16Values_0 12 rfl rfl)
theorem dJ15_compareToUTF16Values_14 : decode cJ15_compareToUTF16Values 14 = .ok (.if_icmp .ge 38, 3) := dk_162 0 38 (dk_at dksJ15_compareToUTF16Values_0 14 rfl rfl)
theorem dJ15_compareToUTF16Values_17 : decode cJ15_compareToUTF16Values 17 = .ok (.aload_n 0, 1) := dk_42 (dk_at dksJ15_compareToUTF16Values_0 17 rfl rfl)
theorem dJ15_compareToUTF16Values_18 : decode cJ15_compareToUTF16Values 18 = .ok (.iload 5, 2) := dk_21 5 (dk_at dksJ15_compareToUTF16Values_0 18 rfl rfl)
theorem dJ15_compareToUTF16Values_20 : decode cJ15_compareToUTF16Values 20 = .ok (.invokestatic 50, 3) := dk_184 0 50 (dk_at dksJ15_compareToUTF16Values_0 20 rfl rfl)
theorem dJ15_compareToUTF16Values_23 : decode cJ15_compareToUTF16Values 23 = .ok (.istore 6, 2) := dk_54 6 (dk_at dksJ15_compareToUTF16Values_1 0 rfl rfl)
theorem dJ15_compareToUTF16Values_25 : decode cJ15_compareToUTF16Values 25 = .ok (.aload_n 1, 1) := dk_43 (dk_at dksJ15_compareToUTF16Values_1 2 rfl rfl)
theorem dJ15_compareToUTF16Values_26 : decode cJ15_compareToUTF16Values 26 = .ok (.iload 5, 2) := dk_21 5 (dk_at dksJ15_compareToUTF16Values_1 3 rfl rfl)
theorem dJ15_compareToUTF16Values_28 : decode cJ15_compareToUTF16Values 28 = .ok (.invokestatic 65, 3) := dk_184 0 65 (dk_at dksJ15_compareToUTF16Values_1 5 rfl rfl)
theorem dJ15_compareToUTF16Values_31 : decode cJ15_compareToUTF16Values 31 = .ok (.istore 7, 2) := dk_54 7 (dk_at dksJ15_compareToUTF16Values_1 8 rfl rfl)
theorem dJ15_compareToUTF16Values_33 : decode cJ15_compareToUTF16Values 33 = .ok (.iload 6, 2) := dk_21 6 (dk_at dksJ15_compareToUTF16Values_1 10 rfl rfl)
theorem dJ15_compareToUTF16Values_35 : decode cJ15_compareToUTF16Values 35 = .ok (.iload 7, 2) := dk_21 7 (dk_at dksJ15_compareToUTF16Values_1 12 rfl rfl)
theorem dJ15_compareToUTF16Values_37 : decode cJ15_compareToUTF16Values 37 = .ok (.if_icmp .eq 9, 3) := dk_159 0 9 (dk_at dksJ15_compareToUTF16Values_1 14 rfl rfl)
theorem dJ15_compareToUTF16Values_40 : decode cJ15_compareToUTF16Values 40 = .ok (.iload 6, 2) := dk_21 6 (dk_at dksJ15_compareToUTF16Values_1 17 rfl rfl)
theorem dJ15_compareToUTF16Values_42 : decode cJ15_compareToUTF16Values 42 = .ok (.iload 7, 2) := dk_21 7 (dk_at dksJ15_compareToUTF16Values_1 19 rfl rfl)
theorem dJ15_compareToUTF16Values_44 : decode cJ15_compareToUTF16Values 44 = .ok (.isub, 1) := dk_100 (dk_at dksJ15_compareToUTF16Values_1 21 rfl rfl)
theorem dJ15_compareToUTF16Values_45 : decode cJ15_compareToUTF16Values 45 = .ok (.ireturn, 1) := dk_172 (dk_at dksJ15_compareToUTF16Values_1 22 rfl rfl)
theorem dJ15_compareToUTF16Values_46 : decode cJ15_compareToUTF16Values 46 = .ok (.iinc 5 1, 3) := dk_132 5 1 (dk_at dksJ15_compareToUTF16Values_2 0 rfl rfl)
theorem dJ15_compareToUTF16Values_49 : decode cJ15_compareToUTF16Values 49 = .ok (.goto (-39), 3) := dk_167 255 217 (dk_at dksJ15_compareToUTF16Values_2 3 rfl rfl)
theorem dJ15_compareToUTF16Values_52 : decode cJ15_compareToUTF16Values 52 = .ok (.iload_n 2, 1) := dk_28 (dk_at dksJ15_compareToUTF16Values_2 6 rfl rfl)
theorem dJ15_compareToUTF16Values_53 : decode cJ15_compareToUTF16Values 53 = .ok (.iload_n 3, 1) := dk_29 (dk_at dksJ15_compareToUTF16Values_2 7 rfl rfl)
theorem dJ15_compareToUTF16Values_54 : decode cJ15_compareToUTF16Values 54 = .ok (.isub, 1) := dk_100 (dk_at dksJ15_compareToUTF16Values_2 8 rfl rfl)
theorem dJ15_compareToUTF16Values_55 : decode cJ15_compareToUTF16Values 55 = .ok (.ireturn, 1) := dk_172 (dk_at dksJ15_compareToUTF16Values_2 9 rfl rfl)
abbrev cJ15_compareToUTF16_2 : ByteArray := prog_44_method_17_code
def yJ15_compareToUTF16_2 : MethodName := ⟨RJ15, "compareToUTF16", "([B[BII)I"⟩
def dkwJ15_compareToUTF16_2_0 : List UInt8 := [28, 42, 184, 0, 54, 184, 0, 62, 29, 43, 184, 0, 58, 184, 0, 62, 42, 43, 28, 29, 184, 0, 59, 172]
abbrev dktJ15_compareToUTF16_2_0 : List UInt8 := dkwJ15_compareToUTF16_2_0 ++ []
theorem dksJ15_compareToUTF16_2_0 : cJ15_compareToUTF16_2.data.toList.drop 0 = dktJ15_compareToUTF16_2_0 := by decide +kernel
theorem dJ15_compareToUTF16_2_0 : decode cJ15_compareToUTF16_2 0 = .ok (.iload_n 2, 1) := dk_28 (dk_at dksJ15_compareToUTF16_2_0 0 rfl rfl)
theorem dJ15_compareToUTF16_2_1 : decode cJ15_compareToUTF16_2 1 = .ok (.aload_n 0, 1) := dk_42 (dk_at dksJ15_compareToUTF16_2_0 1 rfl rfl)
theorem dJ15_compareToUTF16_2_2 : decode cJ15_compareToUTF16_2 2 = .ok (.invokestatic 54, 3) := dk_184 0 54 (dk_at dksJ15_compareToUTF16_2_0 2 rfl rfl)
theorem dJ15_compareToUTF16_2_5 : decode cJ15_compareToUTF16_2 5 = .ok (.invokestatic 62, 3) := dk_184 0 62 (dk_at dksJ15_compareToUTF16_2_0 5 rfl rfl)
theorem dJ15_compareToUTF16_2_8 : decode cJ15_compareToUTF16_2 8 = .ok (.iload_n 3, 1) := dk_29 (dk_at dksJ15_compareToUTF16_2_0 8 rfl rfl)
theorem dJ15_compareToUTF16_2_9 : decode cJ15_compareToUTF16_2 9 = .ok (.aload_n 1, 1) := dk_43 (dk_at dksJ15_compareToUTF16_2_0 9 rfl rfl)
theorem dJ15_compareToUTF16_2_10 : decode cJ15_compareToUTF16_2 10 = .ok (.invokestatic 58, 3) := dk_184 0 58 (dk_at dksJ15_compareToUTF16_2_0 10 rfl rfl)
theorem dJ15_compareToUTF16_2_13 : decode cJ15_compareToUTF16_2 13 = .ok (.invokestatic 62, 3) := dk_184 0 62 (dk_at dksJ15_compareToUTF16_2_0 13 rfl rfl)
theorem dJ15_compareToUTF16_2_16 : decode cJ15_compareToUTF16_2 16 = .ok (.aload_n 0, 1) := dk_42 (dk_at dksJ15_compareToUTF16_2_0 16 rfl rfl)
theorem dJ15_compareToUTF16_2_17 : decode cJ15_compareToUTF16_2 17 = .ok (.aload_n 1, 1) := dk_43 (dk_at dksJ15_compareToUTF16_2_0 17 rfl rfl)
theorem dJ15_compareToUTF16_2_18 : decode cJ15_compareToUTF16_2 18 = .ok (.iload_n 2, 1) := dk_28 (dk_at dksJ15_compareToUTF16_2_0 18 rfl rfl)
theorem dJ15_compareToUTF16_2_19 : decode cJ15_compareToUTF16_2 19 = .ok (.iload_n 3, 1) := dk_29 (dk_at dksJ15_compareToUTF16_2_0 19 rfl rfl)
theorem dJ15_compareToUTF16_2_20 : decode cJ15_compareToUTF16_2 20 = .ok (.invokestatic 59, 3) := dk_184 0 59 (dk_at dksJ15_compareToUTF16_2_0 20 rfl rfl)
theorem dJ15_compareToUTF16_2_23 : decode cJ15_compareToUTF16_2 23 = .ok (.ireturn, 1) := dk_172 (dk_at dksJ15_compareToUTF16_2_0 23 rfl rfl)
abbrev cJ15_canEncode : ByteArray := prog_44_method_3_code
def yJ15_canEncode : MethodName := ⟨RJ15, "canEncode", "(C)Z"⟩
def dkwJ15_canEncode_0 : List UInt8 := [26, 17, 0, 255, 163, 0, 7, 4, 167, 0, 4, 3, 172]
abbrev dktJ15_canEncode_0 : List UInt8 := dkwJ15_canEncode_0 ++ []
theorem dksJ15_canEncode_0 : cJ15_canEncode.data.toList.drop 0 = dktJ15_canEncode_0 := by decide +kernel
theorem dJ15_canEncode_0 : decode cJ15_canEncode 0 = .ok (.iload_n 0, 1) := dk_26 (dk_at dksJ15_canEncode_0 0 rfl rfl)
theorem dJ15_canEncode_1 : decode cJ15_canEncode 1 = .ok (.sipush 255, 3) := dk_17 0 255 (dk_at dksJ15_canEncode_0 1 rfl rfl)
theorem dJ15_canEncode_4 : decode cJ15_canEncode 4 = .ok (.if_icmp .gt 7, 3) := dk_163 0 7 (dk_at dksJ15_canEncode_0 4 rfl rfl)
theorem dJ15_canEncode_7 : decode cJ15_canEncode 7 = .ok (.iconst 1, 1) := dk_4 (dk_at dksJ15_canEncode_0 7 rfl rfl)
theorem dJ15_canEncode_8 : decode cJ15_canEncode 8 = .ok (.goto 4, 3) := dk_167 0 4 (dk_at dksJ15_canEncode_0 8 rfl rfl)
theorem dJ15_canEncode_11 : decode cJ15_canEncode 11 = .ok (.iconst 0, 1) := dk_3 (dk_at dksJ15_canEncode_0 11 rfl rfl)
theorem dJ15_canEncode_12 : decode cJ15_canEncode 12 = .ok (.ireturn, 1) := dk_172 (dk_at dksJ15_canEncode_0 12 rfl rfl)
abbrev cJ15_charAt : ByteArray := prog_44_method_2_code
def yJ15_charAt : MethodName := ⟨RJ15, "charAt", "([BI)C"⟩
def dkwJ15_charAt_0 : List UInt8 := [27, 42, 190, 184, 0, 9, 42, 27, 51, 17, 0, 255, 126, 146, 172]
abbrev dktJ15_charAt_0 : List UInt8 := dkwJ15_charAt_0 ++ []
theorem dksJ15_charAt_0 : cJ15_charAt.data.toList.drop 0 = dktJ15_charAt_0 := by decide +kernel
theorem dJ15_charAt_0 : decode cJ15_charAt 0 = .ok (.iload_n 1, 1) := dk_27 (dk_at dksJ15_charAt_0 0 rfl rfl)
theorem dJ15_charAt_1 : decode cJ15_charAt 1 = .ok (.aload_n 0, 1) := dk_42 (dk_at dksJ15_charAt_0 1 rfl rfl)
theorem dJ15_charAt_2 : decode cJ15_charAt 2 = .ok (.arraylength, 1) := dk_190 (dk_at dksJ15_charAt_0 2 rfl rfl)
theorem dJ15_charAt_3 : decode cJ15_charAt 3 = .ok (.invokestatic 9, 3) := dk_184 0 9 (dk_at dksJ15_charAt_0 3 rfl rfl)
theorem dJ15_charAt_6 : decode cJ15_charAt 6 = .ok (.aload_n 0, 1) := dk_42 (dk_at dksJ15_charAt_0 6 rfl rfl)
theorem dJ15_charAt_7 : decode cJ15_charAt 7 = .ok (.iload_n 1, 1) := dk_27 (dk_at dksJ15_charAt_0 7 rfl rfl)
theorem dJ15_charAt_8 : decode cJ15_charAt 8 = .ok (.baload, 1) := dk_51 (dk_at dksJ15_charAt_0 8 rfl rfl)
theorem dJ15_charAt_9 : decode cJ15_charAt 9 = .ok (.sipush 255, 3) := dk_17 0 255 (dk_at dksJ15_charAt_0 9 rfl rfl)
theorem dJ15_charAt_12 : decode cJ15_charAt 12 = .ok (.iand, 1) := dk_126 (dk_at dksJ15_charAt_0 12 rfl rfl)
theorem dJ15_charAt_13 : decode cJ15_charAt 13 = .ok (.i2c, 1) := dk_146 (dk_at dksJ15_charAt_0 13 rfl rfl)
theorem dJ15_charAt_14 : decode cJ15_charAt 14 = .ok (.ireturn, 1) := dk_172 (dk_at dksJ15_charAt_0 14 rfl rfl)
abbrev cJ15_indexOf : ByteArray := prog_44_method_24_code
def yJ15_indexOf : MethodName := ⟨RJ15, "indexOf", "([B[B)I"⟩
def dkwJ15_indexOf_1 : List UInt8 := [172]
abbrev dktJ15_indexOf_1 : List UInt8 := dkwJ15_indexOf_1 ++ []
def dkwJ15_indexOf_0 : List UInt8 := [43, 190, 154, 0, 5, 3, 172, 42, 190, 154, 0, 5, 2, 172, 42, 42, 190, 43, 43, 190, 3, 184, 0, 99]
abbrev dktJ15_indexOf_0 : List UInt8 := dkwJ15_indexOf_0 ++ dktJ15_indexOf_1
theorem dksJ15_indexOf_0 : cJ15_indexOf.data.toList.drop 0 = dktJ15_indexOf_0 := by decide +kernel
theorem dksJ15_indexOf_1 : cJ15_indexOf.data.toList.drop 24 = dktJ15_indexOf_1 := dk_seg dksJ15_indexOf_0 24 rfl rfl
theorem dJ15_indexOf_0 : decode cJ15_indexOf 0 = .ok (.aload_n 1, 1) := dk_43 (dk_at dksJ15_indexOf_0 0 rfl rfl)
theorem dJ15_indexOf_1 : decode cJ15_indexOf 1 = .ok (.arraylength, 1) := dk_190 (dk_at dksJ15_indexOf_0 1 rfl rfl)
theorem dJ15_indexOf_2 : decode cJ15_indexOf 2 = .ok (.ifCond .ne 5, 3) := dk_154 0 5 (dk_at dksJ15_indexOf_0 2 rfl rfl)
theorem dJ15_indexOf_5 : decode cJ15_indexOf 5 = .ok (.iconst 0, 1) := dk_3 (dk_at dksJ15_indexOf_0 5 rfl rfl)
theorem dJ15_indexOf_6 : decode cJ15_indexOf 6 = .ok (.ireturn, 1) := dk_172 (dk_at dksJ15_indexOf_0 6 rfl rfl)
theorem dJ15_indexOf_7 : decode cJ15_indexOf 7 = .ok (.aload_n 0, 1) := dk_42 (dk_at dksJ15_indexOf_0 7 rfl rfl)
theorem dJ15_indexOf_8 : decode cJ15_indexOf 8 = .ok (.arraylength, 1) := dk_190 (dk_at dksJ15_indexOf_0 8 rfl rfl)
theorem dJ15_indexOf_9 : decode cJ15_indexOf 9 = .ok (.ifCond .ne 5, 3) := dk_154 0 5 (dk_at dksJ15_indexOf_0 9 rfl rfl)
theorem dJ15_indexOf_12 : decode cJ15_indexOf 12 = .ok (.iconst (-1), 1) := dk_2 (dk_at dksJ15_indexOf_0 12 rfl rfl)
theorem dJ15_indexOf_13 : decode cJ15_indexOf 13 = .ok (.ireturn, 1) := dk_172 (dk_at dksJ15_indexOf_0 13 rfl rfl)
theorem dJ15_indexOf_14 : decode cJ15_indexOf 14 = .ok (.aload_n 0, 1) := dk_42 (dk_at dksJ15_indexOf_0 14 rfl rfl)
theorem dJ15_indexOf_15 : decode cJ15_indexOf 15 = .ok (.aload_n 0, 1) := dk_42 (dk_at dksJ15_indexOf_0 15 rfl rfl)
theorem dJ15_indexOf_16 : decode cJ15_indexOf 16 = .ok (.arraylength, 1) := dk_190 (dk_at dksJ15_indexOf_0 16 rfl rfl)
theorem dJ15_indexOf_17 : decode cJ15_indexOf 17 = .ok (.aload_n 1, 1) := dk_43 (dk_at dksJ15_indexOf_0 17 rfl rfl)
theorem dJ15_indexOf_18 : decode cJ15_indexOf 18 = .ok (.aload_n 1, 1) := dk_43 (dk_at dksJ15_indexOf_0 18 rfl rfl)
theorem dJ15_indexOf_19 : decode cJ15_indexOf 19 = .ok (.arraylength, 1) := dk_190 (dk_at dksJ15_indexOf_0 19 rfl rfl)
theorem dJ15_indexOf_20 : decode cJ15_indexOf 20 = .ok (.iconst 0, 1) := dk_3 (dk_at dksJ15_indexOf_0 20 rfl rfl)
theorem dJ15_indexOf_21 : decode cJ15_indexOf 21 = .ok (.invokestatic 99, 3) := dk_184 0 99 (dk_at dksJ15_indexOf_0 21 rfl rfl)
theorem dJ15_indexOf_24 : decode cJ15_indexOf 24 = .ok (.ireturn, 1) := dk_172 (dk_at dksJ15_indexOf_1 0 rfl rfl)
abbrev cJ15_indexOf_2 : ByteArray := prog_44_method_25_code
def yJ15_indexOf_2 : MethodName := ⟨RJ15, "indexOf", "([BI[BII)I"⟩
def dkwJ15_indexOf_2_5 : List UInt8 := [167, 255, 154, 2, 172]
abbrev dktJ15_indexOf_2_5 : List UInt8 := dkwJ15_indexOf_2_5 ++ []
def dkwJ15_indexOf_2_4 : List UInt8 := [132, 8, 1, 132, 10, 1, 167, 255, 232, 21, 8, 21, 9, 160, 0, 6, 21, 7, 172, 132, 7, 1]
abbrev dktJ15_indexOf_2_4 : List UInt8 := dkwJ15_indexOf_2_4 ++ dktJ15_indexOf_2_5
def dkwJ15_indexOf_2_3 : List UInt8 := [100, 54, 9, 4, 54, 10, 21, 8, 21, 9, 162, 0, 23, 42, 21, 8, 51, 44, 21, 10, 51, 160, 0, 12]
abbrev dktJ15_indexOf_2_3 : List UInt8 := dkwJ15_indexOf_2_3 ++ dktJ15_indexOf_2_4
def dkwJ15_indexOf_2_2 : List UInt8 := [159, 0, 6, 167, 255, 237, 21, 7, 21, 6, 163, 0, 57, 21, 7, 4, 96, 54, 8, 21, 8, 29, 96, 4]
abbrev dktJ15_indexOf_2_2 : List UInt8 := dkwJ15_indexOf_2_2 ++ dktJ15_indexOf_2_3
def dkwJ15_indexOf_2_1 : List UInt8 := [51, 21, 5, 159, 0, 25, 132, 7, 1, 21, 7, 21, 6, 163, 0, 15, 42, 21, 7, 51, 21, 5]
abbrev dktJ15_indexOf_2_1 : List UInt8 := dkwJ15_indexOf_2_1 ++ dktJ15_indexOf_2_2
def dkwJ15_indexOf_2_0 : List UInt8 := [44, 3, 51, 54, 5, 27, 29, 100, 54, 6, 21, 4, 54, 7, 21, 7, 21, 6, 163, 0, 101, 42, 21, 7]
abbrev dktJ15_indexOf_2_0 : List UInt8 := dkwJ15_indexOf_2_0 ++ dktJ15_indexOf_2_1
theorem dksJ15_indexOf_2_0 : cJ15_indexOf_2.data.toList.drop 0 = dktJ15_indexOf_2_0 := by decide +kernel
theorem dksJ15_indexOf_2_1 : cJ15_indexOf_2.data.toList.drop 24 = dktJ15_indexOf_2_1 := dk_seg dksJ15_indexOf_2_0 24 rfl rfl
theorem dksJ15_indexOf_2_2 : cJ15_indexOf_2.data.toList.drop 46 = dktJ15_indexOf_2_2 := dk_seg dksJ15_indexOf_2_1 22 rfl rfl
theorem dksJ15_indexOf_2_3 : cJ15_indexOf_2.data.toList.drop 70 = dktJ15_indexOf_2_3 := dk_seg dksJ15_indexOf_2_2 24 rfl rfl
theorem dksJ15_indexOf_2_4 : cJ15_indexOf_2.data.toList.drop 94 = dktJ15_indexOf_2_4 := dk_seg dksJ15_indexOf_2_3 24 rfl rfl
theorem dksJ15_indexOf_2_5 : cJ15_indexOf_2.data.toList.drop 116 = dktJ15_indexOf_2_5 := dk_seg dksJ15_indexOf_2_4 22 rfl rfl
theorem dJ15_indexOf_2_0 : decode cJ15_indexOf_2 0 = .ok (.aload_n 2, 1) := dk_44 (dk_at dksJ15_indexOf_2_0 0 rfl rfl)
theorem dJ15_indexOf_2_1 : decode cJ15_indexOf_2 1 = .ok (.iconst 0, 1) := dk_3 (dk_at dksJ15_indexOf_2_0 1 rfl rfl)
theorem dJ15_indexOf_2_2 : decode cJ15_indexOf_2 2 = .ok (.baload, 1) := dk_51 (dk_at dksJ15_indexOf_2_0 2 rfl rfl)
theorem dJ15_indexOf_2_3 : decode cJ15_indexOf_2 3 = .ok (.istore 5, 2) := dk_54 5 (dk_at dksJ15_indexOf_2_0 3 rfl rfl)
theorem dJ15_indexOf_2_5 : decode cJ15_indexOf_2 5 = .ok (.iload_n 1, 1) := dk_27 (dk_at dksJ15_indexOf_2_0 5 rfl rfl)
theorem dJ15_indexOf_2_6 : decode cJ15_indexOf_2 6 = .ok (.iload_n 3, 1) := dk_29 (dk_at dksJ15_indexOf_2_0 6 rfl rfl)
theorem dJ15_indexOf_2_7 : decode cJ15_indexOf_2 7 = .ok (.isub, 1) := dk_100 (dk_at dksJ15_indexOf_2_0 7 rfl rfl)
theorem dJ15_indexOf_2_8 : decode cJ15_indexOf_2 8 = .ok (.istore 6, 2) := dk_54 6 (dk_at dksJ15_indexOf_2_0 8 rfl rfl)
theorem dJ15_indexOf_2_10 : decode cJ15_indexOf_2 10 = .ok (.iload 4, 2) := dk_21 4 (dk_at dksJ15_indexOf_2_0 10 rfl rfl)
theorem dJ15_indexOf_2_12 : decode cJ15_indexOf_2 12 = .ok (.istore 7, 2) := dk_54 7 (dk_at dksJ15_indexOf_2_0 12 rfl rfl)
theorem dJ15_indexOf_2_14 : decode cJ15_indexOf_2 14 = .ok (.iload 7, 2) := dk_21 7 (dk_at dksJ15_indexOf_2_0 14 rfl rfl)
theorem dJ15_indexOf_2_16 : decode cJ15_indexOf_2 16 = .ok (.iload 6, 2) := dk_21 6 (dk_at dksJ15_indexOf_2_0 16 rfl rfl)
theorem dJ15_indexOf_2_18 : decode cJ15_indexOf_2 18 = .ok (.if_icmp .gt 101, 3) := dk_163 0 101 (dk_at dksJ15_indexOf_2_0 18 rfl rfl)
theorem dJ15_indexOf_2_21 : decode cJ15_indexOf_2 21 = .ok (.aload_n 0, 1) := dk_42 (dk_at dksJ15_indexOf_2_0 21 rfl rfl)
theorem dJ15_indexOf_2_22 : decode cJ15_indexOf_2 22 = .ok (.iload 7, 2) := dk_21 7 (dk_at dksJ15_indexOf_2_0 22 rfl rfl)
theorem dJ15_indexOf_2_24 : decode cJ15_indexOf_2 24 = .ok (.baload, 1) := dk_51 (dk_at dksJ15_indexOf_2_1 0 rfl rfl)
theorem dJ15_indexOf_2_25 : decode cJ15_indexOf_2 25 = .ok (.iload 5, 2) := dk_21 5 (dk_at dksJ15_indexOf_2_1 1 rfl rfl)
theorem dJ15_indexOf_2_27 : decode cJ15_indexOf_2 27 = .ok (.if_icmp .eq 25, 3) := dk_159 0 25 (dk_at dksJ15_indexOf_2_1 3 rfl rfl)
theorem dJ15_indexOf_2_30 : decode cJ15_indexOf_2 30 = .ok (.iinc 7 1, 3) := dk_132 7 1 (dk_at dksJ15_indexOf_2_1 6 rfl rfl)
theorem dJ15_indexOf_2_33 : decode cJ15_indexOf_2 33 = .ok (.iload 7, 2) := dk_21 7 (dk_at dksJ15_indexOf_2_1 9 rfl rfl)
theorem dJ15_indexOf_2_35 : decode cJ15_indexOf_2 35 = .ok (.iload 6, 2) := dk_21 6 (dk_at dksJ15_indexOf_2_1 11 rfl rfl)
theorem dJ15_indexOf_2_37 : decode cJ15_indexOf_2 37 = .ok (.if_icmp .gt 15, 3) := dk_163 0 15 (dk_at dksJ15_indexOf_2_1 13 rfl rfl)
theorem dJ15_indexOf_2_40 : decode cJ15_indexOf_2 40 = .ok (.aload_n 0, 1) := dk_42 (dk_at dksJ15_indexOf_2_1 16 rfl rfl)
theorem dJ15_indexOf_2_41 : decode cJ15_indexOf_2 41 = .ok (.iload 7, 2) := dk_21 7 (dk_at dksJ15_indexOf_2_1 17 rfl rfl)
theorem dJ15_indexOf_2_43 : decode cJ15_indexOf_2 43 = .ok (.baload, 1) := dk_51 (dk_at dksJ15_indexOf_2_1 19 rfl rfl)
theorem dJ15_indexOf_2_44 : decode cJ15_indexOf_2 44 = .ok (.iload 5, 2) := dk_21 5 (dk_at dksJ15_indexOf_2_1 20 rfl rfl)
theorem dJ15_indexOf_2_46 : decode cJ15_indexOf_2 46 = .ok (.if_icmp .eq 6, 3) := dk_159 0 6 (dk_at dksJ15_indexOf_2_2 0 rfl rfl)
theorem dJ15_indexOf_2_49 : decode cJ15_indexOf_2 49 = .ok (.goto (-19), 3) := dk_167 255 237 (dk_at dksJ15_indexOf_2_2 3 rfl rfl)
theorem dJ15_indexOf_2_52 : decode cJ15_indexOf_2 52 = .ok (.iload 7, 2) := dk_21 7 (dk_at dksJ15_indexOf_2_2 6 rfl rfl)
theorem dJ15_indexOf_2_54 : decode cJ15_indexOf_2 54 = .ok (.iload 6, 2) := dk_21 6 (dk_at dksJ15_indexOf_2_2 8 rfl rfl)
theorem dJ15_indexOf_2_56 : decode cJ15_indexOf_2 56 = .ok (.if_icmp .gt 57, 3) := dk_163 0 57 (dk_at dksJ15_indexOf_2_2 10 rfl rfl)
theorem dJ15_indexOf_2_59 : decode cJ15_indexOf_2 59 = .ok (.iload 7, 2) := dk_21 7 (dk_at dksJ15_indexOf_2_2 13 rfl rfl)
theorem dJ15_indexOf_2_61 : decode cJ15_indexOf_2 61 = .ok (.iconst 1, 1) := dk_4 (dk_at dksJ15_indexOf_2_2 15 rfl rfl)
theorem dJ15_indexOf_2_62 : decode cJ15_indexOf_2 62 = .ok (.iadd, 1) := dk_96 (dk_at dksJ15_indexOf_2_2 16 rfl rfl)
theorem dJ15_indexOf_2_63 : decode cJ15_indexOf_2 63 = .ok (.istore 8, 2) := dk_54 8 (dk_at dksJ15_indexOf_2_2 17 rfl rfl)
theorem dJ15_indexOf_2_65 : decode cJ15_indexOf_2 65 = .ok (.iload 8, 2) := dk_21 8 (dk_at dksJ15_indexOf_2_2 19 rfl rfl)
theorem dJ15_indexOf_2_67 : decode cJ15_indexOf_2 67 = .ok (.iload_n 3, 1) := dk_29 (dk_at dksJ15_indexOf_2_2 21 rfl rfl)
theorem dJ15_indexOf_2_68 : decode cJ15_indexOf_2 68 = .ok (.iadd, 1) := dk_96 (dk_at dksJ15_indexOf_2_2 22 rfl rfl)
theorem dJ15_indexOf_2_69 : decode cJ15_indexOf_2 69 = .ok (.iconst 1, 1) := dk_4 (dk_at dksJ15_indexOf_2_2 23 rfl rfl)
theorem dJ15_indexOf_2_70 : decode cJ15_indexOf_2 70 = .ok (.isub, 1) := dk_100 (dk_at dksJ15_indexOf_2_3 0 rfl rfl)
theorem dJ15_indexOf_2_71 : decode cJ15_indexOf_2 71 = .ok (.istore 9, 2) := dk_54 9 (dk_at dksJ15_indexOf_2_3 1 rfl rfl)
theorem dJ15_indexOf_2_73 : decode cJ15_indexOf_2 73 = .ok (.iconst 1, 1) := dk_4 (dk_at dksJ15_indexOf_2_3 3 rfl rfl)
theorem dJ15_indexOf_2_74 : decode cJ15_indexOf_2 74 = .ok (.istore 10, 2) := dk_54 10 (dk_at dksJ15_indexOf_2_3 4 rfl rfl)
theorem dJ15_indexOf_2_76 : decode cJ15_indexOf_2 76 = .ok (.iload 8, 2) := dk_21 8 (dk_at dksJ15_indexOf_2_3 6 rfl rfl)
theorem dJ15_indexOf_2_78 : decode cJ15_indexOf_2 78 = .ok (.iload 9, 2) := dk_21 9 (dk_at dksJ15_indexOf_2_3 8 rfl rfl)
theorem dJ15_indexOf_2_80 : decode cJ15_indexOf_2 80 = .ok (.if_icmp .ge 23, 3) := dk_162 0 23 (dk_at dksJ15_indexOf_2_3 10 rfl rfl)
theorem dJ15_indexOf_2_83 : decode cJ15_indexOf_2 83 = .ok (.aload_n 0, 1) := dk_42 (dk_at dksJ15_indexOf_2_3 13 rfl rfl)
theorem dJ15_indexOf_2_84 : decode cJ15_indexOf_2 84 = .ok (.iload 8, 2) := dk_21 8 (dk_at dksJ15_indexOf_2_3 14 rfl rfl)
theorem dJ15_indexOf_2_86 : decode cJ15_indexOf_2 86 = .ok (.baload, 1) := dk_51 (dk_at dksJ15_indexOf_2_3 16 rfl rfl)
theorem dJ15_indexOf_2_87 : decode cJ15_indexOf_2 87 = .ok (.aload_n 2, 1) := dk_44 (dk_at dksJ15_indexOf_2_3 17 rfl rfl)
theorem dJ15_indexOf_2_88 : decode cJ15_indexOf_2 88 = .ok (.iload 10, 2) := dk_21 10 (dk_at dksJ15_indexOf_2_3 18 rfl rfl)
theorem dJ15_indexOf_2_90 : decode cJ15_indexOf_2 90 = .ok (.baload, 1) := dk_51 (dk_at dksJ15_indexOf_2_3 20 rfl rfl)
theorem dJ15_indexOf_2_91 : decode cJ15_indexOf_2 91 = .ok (.if_icmp .ne 12, 3) := dk_160 0 12 (dk_at dksJ15_indexOf_2_3 21 rfl rfl)
theorem dJ15_indexOf_2_94 : decode cJ15_indexOf_2 94 = .ok (.iinc 8 1, 3) := dk_132 8 1 (dk_at dksJ15_indexOf_2_4 0 rfl rfl)
theorem dJ15_indexOf_2_97 : decode cJ15_indexOf_2 97 = .ok (.iinc 10 1, 3) := dk_132 10 1 (dk_at dksJ15_indexOf_2_4 3 rfl rfl)
theorem dJ15_indexOf_2_100 : decode cJ15_indexOf_2 100 = .ok (.goto (-24), 3) := dk_167 255 232 (dk_at dksJ15_indexOf_2_4 6 rfl rfl)
theorem dJ15_indexOf_2_103 : decode cJ15_indexOf_2 103 = .ok (.iload 8, 2) := dk_21 8 (dk_at dksJ15_indexOf_2_4 9 rfl rfl)
theorem dJ15_indexOf_2_105 : decode cJ15_indexOf_2 105 = .ok (.iload 9, 2) := dk_21 9 (dk_at dksJ15_indexOf_2_4 11 rfl rfl)
theorem dJ15_indexOf_2_107 : decode cJ15_indexOf_2 107 = .ok (.if_icmp .ne 6, 3) := dk_160 0 6 (dk_at dksJ15_indexOf_2_4 13 rfl rfl)
theorem dJ15_indexOf_2_110 : decode cJ15_indexOf_2 110 = .ok (.iload 7, 2) := dk_21 7 (dk_at dksJ15_indexOf_2_4 16 rfl rfl)
theorem dJ15_indexOf_2_112 : decode cJ15_indexOf_2 112 = .ok (.ireturn, 1) := dk_172 (dk_at dksJ15_indexOf_2_4 18 rfl rfl)
theorem dJ15_indexOf_2_113 : decode cJ15_indexOf_2 113 = .ok (.iinc 7 1, 3) := dk_132 7 1 (dk_at dksJ15_indexOf_2_4 19 rfl rfl)
theorem dJ15_indexOf_2_116 : decode cJ15_indexOf_2 116 = .ok (.goto (-102), 3) := dk_167 255 154 (dk_at dksJ15_indexOf_2_5 0 rfl rfl)
theorem dJ15_indexOf_2_119 : decode cJ15_indexOf_2 119 = .ok (.iconst (-1), 1) := dk_2 (dk_at dksJ15_indexOf_2_5 3 rfl rfl)
theorem dJ15_indexOf_2_120 : decode cJ15_indexOf_2 120 = .ok (.ireturn, 1) := dk_172 (dk_at dksJ15_indexOf_2_5 4 rfl rfl)
abbrev cJ15_hashCode : ByteArray := prog_44_method_21_code
def yJ15_hashCode : MethodName := ⟨RJ15, "hashCode", "([B)I"⟩
def dkwJ15_hashCode_2 : List UInt8 := [3, 167, 0, 22, 42, 3, 51, 17, 0, 255, 126, 167, 0, 12, 42, 3, 42, 190, 3, 7, 184, 0, 84, 172]
abbrev dktJ15_hashCode_2 : List UInt8 := dkwJ15_hashCode_2 ++ []
def dkwJ15_hashCode_1 : List UInt8 := [171, 0, 0, 0, 0, 40, 0, 0, 0, 2, 0, 0, 0, 0, 0, 0, 0, 26, 0, 0, 0, 1, 0, 0, 0, 30]
abbrev dktJ15_hashCode_1 : List UInt8 := dkwJ15_hashCode_1 ++ dktJ15_hashCode_2
def dkwJ15_hashCode_0 : List UInt8 := [42, 190]
abbrev dktJ15_hashCode_0 : List UInt8 := dkwJ15_hashCode_0 ++ dktJ15_hashCode_1
theorem dksJ15_hashCode_0 : cJ15_hashCode.data.toList.drop 0 = dktJ15_hashCode_0 := by decide +kernel
theorem dksJ15_hashCode_1 : cJ15_hashCode.data.toList.drop 2 = dktJ15_hashCode_1 := dk_seg dksJ15_hashCode_0 2 rfl rfl
theorem dksJ15_hashCode_2 : cJ15_hashCode.data.toList.drop 28 = dktJ15_hashCode_2 := dk_seg dksJ15_hashCode_1 26 rfl rfl
theorem dJ15_hashCode_0 : decode cJ15_hashCode 0 = .ok (.aload_n 0, 1) := dk_42 (dk_at dksJ15_hashCode_0 0 rfl rfl)
theorem dJ15_hashCode_1 : decode cJ15_hashCode 1 = .ok (.arraylength, 1) := dk_190 (dk_at dksJ15_hashCode_0 1 rfl rfl)
theorem dJ15_hashCode_2 : decode cJ15_hashCode 2 = .ok (.lookupswitch 40 #[(0, 26), (1, 30)], 26) := by decide +kernel
theorem dJ15_hashCode_28 : decode cJ15_hashCode 28 = .ok (.iconst 0, 1) := dk_3 (dk_at dksJ15_hashCode_2 0 rfl rfl)
theorem dJ15_hashCode_29 : decode cJ15_hashCode 29 = .ok (.goto 22, 3) := dk_167 0 22 (dk_at dksJ15_hashCode_2 1 rfl rfl)
theorem dJ15_hashCode_32 : decode cJ15_hashCode 32 = .ok (.aload_n 0, 1) := dk_42 (dk_at dksJ15_hashCode_2 4 rfl rfl)
theorem dJ15_hashCode_33 : decode cJ15_hashCode 33 = .ok (.iconst 0, 1) := dk_3 (dk_at dksJ15_hashCode_2 5 rfl rfl)
theorem dJ15_hashCode_34 : decode cJ15_hashCode 34 = .ok (.baload, 1) := dk_51 (dk_at dksJ15_hashCode_2 6 rfl rfl)
theorem dJ15_hashCode_35 : decode cJ15_hashCode 35 = .ok (.sipush 255, 3) := dk_17 0 255 (dk_at dksJ15_hashCode_2 7 rfl rfl)
theorem dJ15_hashCode_38 : decode cJ15_hashCode 38 = .ok (.iand, 1) := dk_126 (dk_at dksJ15_hashCode_2 10 rfl rfl)
theorem dJ15_hashCode_39 : decode cJ15_hashCode 39 = .ok (.goto 12, 3) := dk_167 0 12 (dk_at dksJ15_hashCode_2 11 rfl rfl)
theorem dJ15_hashCode_42 : decode cJ15_hashCode 42 = .ok (.aload_n 0, 1) := dk_42 (dk_at dksJ15_hashCode_2 14 rfl rfl)
theorem dJ15_hashCode_43 : decode cJ15_hashCode 43 = .ok (.iconst 0, 1) := dk_3 (dk_at dksJ15_hashCode_2 15 rfl rfl)
theorem dJ15_hashCode_44 : decode cJ15_hashCode 44 = .ok (.aload_n 0, 1) := dk_42 (dk_at dksJ15_hashCode_2 16 rfl rfl)
theorem dJ15_hashCode_45 : decode cJ15_hashCode 45 = .ok (.arraylength, 1) := dk_190 (dk_at dksJ15_hashCode_2 17 rfl rfl)
theorem dJ15_hashCode_46 : decode cJ15_hashCode 46 = .ok (.iconst 0, 1) := dk_3 (dk_at dksJ15_hashCode_2 18 rfl rfl)
theorem dJ15_hashCode_47 : decode cJ15_hashCode 47 = .ok (.iconst 4, 1) := dk_7 (dk_at dksJ15_hashCode_2 19 rfl rfl)
theorem dJ15_hashCode_48 : decode cJ15_hashCode 48 = .ok (.invokestatic 84, 3) := dk_184 0 84 (dk_at dksJ15_hashCode_2 20 rfl rfl)
theorem dJ15_hashCode_51 : decode cJ15_hashCode 51 = .ok (.ireturn, 1) := dk_172 (dk_at dksJ15_hashCode_2 23 rfl rfl)
abbrev cJ15_equals : ByteArray := prog_44_method_13_code
def yJ15_equals : MethodName := ⟨RJ15, "equals", "([B[B)Z"⟩
def dkwJ15_equals_1 : List UInt8 := [3, 172, 132, 2, 1, 167, 255, 236, 4, 172, 3, 172]
abbrev dktJ15_equals_1 : List UInt8 := dkwJ15_equals_1 ++ []
def dkwJ15_equals_0 : List UInt8 := [42, 190, 43, 190, 160, 0, 30, 3, 61, 28, 42, 190, 162, 0, 20, 42, 28, 51, 43, 28, 51, 159, 0, 5]
abbrev dktJ15_equals_0 : List UInt8 := dkwJ15_equals_0 ++ dktJ15_equals_1
theorem dksJ15_equals_0 : cJ15_equals.data.toList.drop 0 = dktJ15_equals_0 := by decide +kernel
theorem dksJ15_equals_1 : cJ15_equals.data.toList.drop 24 = dktJ15_equals_1 := dk_seg dksJ15_equals_0 24 rfl rfl
theorem dJ15_equals_0 : decode cJ15_equals 0 = .ok (.aload_n 0, 1) := dk_42 (dk_at dksJ15_equals_0 0 rfl rfl)
theorem dJ15_equals_1 : decode cJ15_equals 1 = .ok (.arraylength, 1) := dk_190 (dk_at dksJ15_equals_0 1 rfl rfl)
theorem dJ15_equals_2 : decode cJ15_equals 2 = .ok (.aload_n 1, 1) := dk_43 (dk_at dksJ15_equals_0 2 rfl rfl)
theorem dJ15_equals_3 : decode cJ15_equals 3 = .ok (.arraylength, 1) := dk_190 (dk_at dksJ15_equals_0 3 rfl rfl)
theorem dJ15_equals_4 : decode cJ15_equals 4 = .ok (.if_icmp .ne 30, 3) := dk_160 0 30 (dk_at dksJ15_equals_0 4 rfl rfl)
theorem dJ15_equals_7 : decode cJ15_equals 7 = .ok (.iconst 0, 1) := dk_3 (dk_at dksJ15_equals_0 7 rfl rfl)
theorem dJ15_equals_8 : decode cJ15_equals 8 = .ok (.istore_n 2, 1) := dk_61 (dk_at dksJ15_equals_0 8 rfl rfl)
theorem dJ15_equals_9 : decode cJ15_equals 9 = .ok (.iload_n 2, 1) := dk_28 (dk_at dksJ15_equals_0 9 rfl rfl)
theorem dJ15_equals_10 : decode cJ15_equals 10 = .ok (.aload_n 0, 1) := dk_42 (dk_at dksJ15_equals_0 10 rfl rfl)
theorem dJ15_equals_11 : decode cJ15_equals 11 = .ok (.arraylength, 1) := dk_190 (dk_at dksJ15_equals_0 11 rfl rfl)
theorem dJ15_equals_12 : decode cJ15_equals 12 = .ok (.if_icmp .ge 20, 3) := dk_162 0 20 (dk_at dksJ15_equals_0 12 rfl rfl)
theorem dJ15_equals_15 : decode cJ15_equals 15 = .ok (.aload_n 0, 1) := dk_42 (dk_at dksJ15_equals_0 15 rfl rfl)
theorem dJ15_equals_16 : decode cJ15_equals 16 = .ok (.iload_n 2, 1) := dk_28 (dk_at dksJ15_equals_0 16 rfl rfl)
theorem dJ15_equals_17 : decode cJ15_equals 17 = .ok (.baload, 1) := dk_51 (dk_at dksJ15_equals_0 17 rfl rfl)
theorem dJ15_equals_18 : decode cJ15_equals 18 = .ok (.aload_n 1, 1) := dk_43 (dk_at dksJ15_equals_0 18 rfl rfl)
theorem dJ15_equals_19 : decode cJ15_equals 19 = .ok (.iload_n 2, 1) := dk_28 (dk_at dksJ15_equals_0 19 rfl rfl)
theorem dJ15_equals_20 : decode cJ15_equals 20 = .ok (.baload, 1) := dk_51 (dk_at dksJ15_equals_0 20 rfl rfl)
theorem dJ15_equals_21 : decode cJ15_equals 21 = .ok (.if_icmp .eq 5, 3) := dk_159 0 5 (dk_at dksJ15_equals_0 21 rfl rfl)
theorem dJ15_equals_24 : decode cJ15_equals 24 = .ok (.iconst 0, 1) := dk_3 (dk_at dksJ15_equals_1 0 rfl rfl)
theorem dJ15_equals_25 : decode cJ15_equals 25 = .ok (.ireturn, 1) := dk_172 (dk_at dksJ15_equals_1 1 rfl rfl)
theorem dJ15_equals_26 : decode cJ15_equals 26 = .ok (.iinc 2 1, 3) := dk_132 2 1 (dk_at dksJ15_equals_1 2 rfl rfl)
theorem dJ15_equals_29 : decode cJ15_equals 29 = .ok (.goto (-20), 3) := dk_167 255 236 (dk_at dksJ15_equals_1 5 rfl rfl)
theorem dJ15_equals_32 : decode cJ15_equals 32 = .ok (.iconst 1, 1) := dk_4 (dk_at dksJ15_equals_1 8 rfl rfl)
theorem dJ15_equals_33 : decode cJ15_equals 33 = .ok (.ireturn, 1) := dk_172 (dk_at dksJ15_equals_1 9 rfl rfl)
theorem dJ15_equals_34 : decode cJ15_equals 34 = .ok (.iconst 0, 1) := dk_3 (dk_at dksJ15_equals_1 10 rfl rfl)
theorem dJ15_equals_35 : decode cJ15_equals 35 = .ok (.ireturn, 1) := dk_172 (dk_at dksJ15_equals_1 11 rfl rfl)
abbrev cJ15_fillNull : ByteArray := prog_44_method_48_code
def yJ15_fillNull : MethodName := ⟨RJ15, "fillNull", "([BII)V"⟩
def dkwJ15_fillNull_0 : List UInt8 := [42, 27, 28, 3, 184, 0, 236, 177]
abbrev dktJ15_fillNull_0 : List UInt8 := dkwJ15_fillNull_0 ++ []
theorem dksJ15_fillNull_0 : cJ15_fillNull.data.toList.drop 0 = dktJ15_fillNull_0 := by decide +kernel
theorem dJ15_fillNull_0 : decode cJ15_fillNull 0 = .ok (.aload_n 0, 1) := dk_42 (dk_at dksJ15_fillNull_0 0 rfl rfl)
theorem dJ15_fillNull_1 : decode cJ15_fillNull 1 = .ok (.iload_n 1, 1) := dk_27 (dk_at dksJ15_fillNull_0 1 rfl rfl)
theorem dJ15_fillNull_2 : decode cJ15_fillNull 2 = .ok (.iload_n 2, 1) := dk_28 (dk_at dksJ15_fillNull_0 2 rfl rfl)
theorem dJ15_fillNull_3 : decode cJ15_fillNull 3 = .ok (.iconst 0, 1) := dk_3 (dk_at dksJ15_fillNull_0 3 rfl rfl)
theorem dJ15_fillNull_4 : decode cJ15_fillNull 4 = .ok (.invokestatic 236, 3) := dk_184 0 236 (dk_at dksJ15_fillNull_0 4 rfl rfl)
theorem dJ15_fillNull_7 : decode cJ15_fillNull 7 = .ok (.return_, 1) := dk_177 (dk_at dksJ15_fillNull_0 7 rfl rfl)
theorem q147 : (Jvm.Cond.initialized "java/lang/StringLatin1") ∈ lw_all := lw_g (lw_at lw_m1 23 rfl) rfl
theorem q653 : (Jvm.Cond.static ({ cls := "java/lang/StringLatin1", name := "inflate", desc := "([BI[BII)V" } : Jvm.MethodName)) ∈ lw_all := lw_g (lw_at lw_m3 49 rfl) rfl
theorem q654 : (Jvm.Cond.code ({ cls := "java/lang/StringLatin1", name := "inflate", desc := "([BI[BII)V" } : Jvm.MethodName) prog_44_method_50_code (5 : Nat) (Option.none : Option Jvm.ClassFile.FieldType)) ∈ lw_all := lw_g (lw_at lw_m3 50 rfl) rfl
theorem q655 : (Jvm.Cond.methodLink "java/lang/StringLatin1" (240 : Nat) ({ cls := "java/lang/StringUTF16", name := "inflate", desc := "([BI[BII)V" } : Jvm.MethodName)) ∈ lw_all := lw_g (lw_at lw_m3 51 rfl) rfl
theorem q1051 : (Jvm.Cond.static ({ cls := "java/lang/StringLatin1", name := "compareTo", desc := "([B[B)I" } : Jvm.MethodName)) ∈ lw_all := lw_g (lw_at lw_m4 207 rfl) rfl
theorem q1052 : (Jvm.Cond.code ({ cls := "java/lang/StringLatin1", name := "compareTo", desc := "([B[B)I" } : Jvm.MethodName) prog_44_method_14_code (4 : Nat) (Option.some Jvm.ClassFile.FieldType.int)) ∈ lw_all := lw_g (lw_at lw_m4 208 rfl) rfl
theorem q1053 : (Jvm.Cond.methodLink "java/lang/StringLatin1" (34 : Nat) ({ cls := "java/lang/StringLatin1", name := "compareTo", desc := "([B[BII)I" } : Jvm.MethodName)) ∈ lw_all := lw_g (lw_at lw_m4 209 rfl) rfl
theorem q1054 : (Jvm.Cond.static ({ cls := "java/lang/StringLatin1", name := "compareTo", desc := "([B[BII)I" } : Jvm.MethodName)) ∈ lw_all := lw_g (lw_at lw_m4 210 rfl) rfl
theorem q1055 : (Jvm.Cond.code ({ cls := "java/lang/StringLatin1", name := "compareTo", desc := "([B[BII)I" } : Jvm.MethodName) prog_44_method_15_code (6 : Nat) (Option.some Jvm.ClassFile.FieldType.int)) ∈ lw_all := lw_g (lw_at lw_m4 211 rfl) rfl
theorem q1056 : (Jvm.Cond.methodLink "java/lang/StringLatin1" (38 : Nat) ({ cls := "java/lang/Math", name := "min", desc := "(II)I" } : Jvm.MethodName)) ∈ lw_all := lw_g (lw_at lw_m4 212 rfl) rfl
theorem q1057 : (Jvm.Cond.methodLink "java/lang/StringLatin1" (44 : Nat) ({ cls := "jdk/internal/util/ArraysSupport", name := "mismatch", desc := "([B[BI)I" } : Jvm.MethodName)) ∈ lw_all := lw_g (lw_at lw_m4 213 rfl) rfl
theorem q1161 : (Jvm.Cond.methodLink "java/lang/StringLatin1" (50 : Nat) ({ cls := "java/lang/StringLatin1", name := "getChar", desc := "([BI)C" } : Jvm.MethodName)) ∈ lw_all := lw_g (lw_at lw_m5 77 rfl) rfl
theorem q1162 : (Jvm.Cond.static ({ cls := "java/lang/StringLatin1", name := "getChar", desc := "([BI)C" } : Jvm.MethodName)) ∈ lw_all := lw_g (lw_at lw_m5 78 rfl) rfl
theorem q1163 : (Jvm.Cond.code ({ cls := "java/lang/StringLatin1", name := "getChar", desc := "([BI)C" } : Jvm.MethodName) prog_44_method_44_code (2 : Nat) (Option.some Jvm.ClassFile.FieldType.char)) ∈ lw_all := lw_g (lw_at lw_m5 79 rfl) rfl
theorem q1172 : (Jvm.Cond.static ({ cls := "java/lang/StringLatin1", name := "compareToUTF16", desc := "([B[B)I" } : Jvm.MethodName)) ∈ lw_all := lw_g (lw_at lw_m5 88 rfl) rfl
theorem q1173 : (Jvm.Cond.code ({ cls := "java/lang/StringLatin1", name := "compareToUTF16", desc := "([B[B)I" } : Jvm.MethodName) prog_44_method_16_code (4 : Nat) (Option.some Jvm.ClassFile.FieldType.int)) ∈ lw_all := lw_g (lw_at lw_m5 89 rfl) rfl
theorem q1174 : (Jvm.Cond.methodLink "java/lang/StringLatin1" (54 : Nat) ({ cls := "java/lang/StringLatin1", name := "length", desc := "([B)I" } : Jvm.MethodName)) ∈ lw_all := lw_g (lw_at lw_m5 90 rfl) rfl
theorem q1175 : (Jvm.Cond.static ({ cls := "java/lang/StringLatin1", name := "length", desc := "([B)I" } : Jvm.MethodName)) ∈ lw_all := lw_g (lw_at lw_m5 91 rfl) rfl
theorem q1176 : (Jvm.Cond.code ({ cls := "java/lang/StringLatin1", name := "length", desc := "([B)I" } : Jvm.MethodName) prog_44_method_5_code (1 : Nat) (Option.some Jvm.ClassFile.FieldType.int)) ∈ lw_all := lw_g (lw_at lw_m5 92 rfl) rfl
theorem q1177 : (Jvm.Cond.methodLink "java/lang/StringLatin1" (58 : Nat) ({ cls := "java/lang/StringUTF16", name := "length", desc := "([B)I" } : Jvm.MethodName)) ∈ lw_all := lw_g (lw_at lw_m5 93 rfl) rfl
theorem q1178 : (Jvm.Cond.methodLink "java/lang/StringLatin1" (59 : Nat) ({ cls := "java/lang/StringLatin1", name := "compareToUTF16Values", desc := "([B[BII)I" } : Jvm.MethodName)) ∈ lw_all := lw_g (lw_at lw_m5 94 rfl) rfl
theorem q1179 : (Jvm.Cond.static ({ cls := "java/lang/StringLatin1", name := "compareToUTF16Values", desc := "([B[BII)I" } : Jvm.MethodName)) ∈ lw_all := lw_g (lw_at lw_m5 95 rfl) rfl
theorem q1180 : (Jvm.Cond.code ({ cls := "java/lang/StringLatin1", name := "compareToUTF16Values", desc := "([B[BII)I" } : Jvm.MethodName) prog_44_method_18_code (8 : Nat) (Option.some Jvm.ClassFile.FieldType.int)) ∈ lw_all := lw_g (lw_at lw_m5 96 rfl) rfl
theorem q1181 : (Jvm.Cond.methodLink "java/lang/StringLatin1" (65 : Nat) ({ cls := "java/lang/StringUTF16", name := "getChar", desc := "([BI)C" } : Jvm.MethodName)) ∈ lw_all := lw_g (lw_at lw_m5 97 rfl) rfl
theorem q1211 : (Jvm.Cond.static ({ cls := "java/lang/StringLatin1", name := "compareToUTF16", desc := "([B[BII)I" } : Jvm.MethodName)) ∈ lw_all := lw_g (lw_at lw_m5 127 rfl) rfl
theorem q1212 : (Jvm.Cond.code ({ cls := "java/lang/StringLatin1", name := "compareToUTF16", desc := "([B[BII)I" } : Jvm.MethodName) prog_44_method_17_code (4 : Nat) (Option.some Jvm.ClassFile.FieldType.int)) ∈ lw_all := lw_g (lw_at lw_m5 128 rfl) rfl
theorem q1213 : (Jvm.Cond.methodLink "java/lang/StringLatin1" (62 : Nat) ({ cls := "java/lang/String", name := "checkOffset", desc := "(II)V" } : Jvm.MethodName)) ∈ lw_all := lw_g (lw_at lw_m5 129 rfl) rfl
theorem q2909 : (Jvm.Cond.static ({ cls := "java/lang/StringLatin1", name := "canEncode", desc := "(C)Z" } : Jvm.MethodName)) ∈ lw_all := lw_g (lw_at lw_m12 145 rfl) rfl
theorem q2910 : (Jvm.Cond.code ({ cls := "java/lang/StringLatin1", name := "canEncode", desc := "(C)Z" } : Jvm.MethodName) prog_44_method_3_code (1 : Nat) (Option.some Jvm.ClassFile.FieldType.boolean)) ∈ lw_all := lw_g (lw_at lw_m12 146 rfl) rfl
theorem q2938 : (Jvm.Cond.static ({ cls := "java/lang/StringLatin1", name := "charAt", desc := "([BI)C" } : Jvm.MethodName)) ∈ lw_all := lw_g (lw_at lw_m12 174 rfl) rfl
theorem q2939 : (Jvm.Cond.code ({ cls := "java/lang/StringLatin1", name := "charAt", desc := "([BI)C" } : Jvm.MethodName) prog_44_method_2_code (2 : Nat) (Option.some Jvm.ClassFile.FieldType.char)) ∈ lw_all := lw_g (lw_at lw_m12 175 rfl) rfl
theorem q2940 : (Jvm.Cond.methodLink "java/lang/StringLatin1" (9 : Nat) ({ cls := "java/lang/String", name := "checkIndex", desc := "(II)V" } : Jvm.MethodName)) ∈ lw_all := lw_g (lw_at lw_m12 176 rfl) rfl
theorem q3029 : (Jvm.Cond.static ({ cls := "java/lang/StringLatin1", name := "indexOf", desc := "([B[B)I" } : Jvm.MethodName)) ∈ lw_all := lw_g (lw_at lw_m13 25 rfl) rfl
theorem q3030 : (Jvm.Cond.code ({ cls := "java/lang/StringLatin1", name := "indexOf", desc := "([B[B)I" } : Jvm.MethodName) prog_44_method_24_code (2 : Nat) (Option.some Jvm.ClassFile.FieldType.int)) ∈ lw_all := lw_g (lw_at lw_m13 26 rfl) rfl
theorem q3031 : (Jvm.Cond.methodLink "java/lang/StringLatin1" (99 : Nat) ({ cls := "java/lang/StringLatin1", name := "indexOf", desc := "([BI[BII)I" } : Jvm.MethodName)) ∈ lw_all := lw_g (lw_at lw_m13 27 rfl) rfl
theorem q3032 : (Jvm.Cond.static ({ cls := "java/lang/StringLatin1", name := "indexOf", desc := "([BI[BII)I" } : Jvm.MethodName)) ∈ lw_all := lw_g (lw_at lw_m13 28 rfl) rfl
theorem q3033 : (Jvm.Cond.code ({ cls := "java/lang/StringLatin1", name := "indexOf", desc := "([BI[BII)I" } : Jvm.MethodName) prog_44_method_25_code (11 : Nat) (Option.some Jvm.ClassFile.FieldType.int)) ∈ lw_all := lw_g (lw_at lw_m13 29 rfl) rfl
theorem q3074 : (Jvm.Cond.static ({ cls := "java/lang/StringLatin1", name := "hashCode", desc := "([B)I" } : Jvm.MethodName)) ∈ lw_all := lw_g (lw_at lw_m13 70 rfl) rfl
theorem q3075 : (Jvm.Cond.code ({ cls := "java/lang/StringLatin1", name := "hashCode", desc := "([B)I" } : Jvm.MethodName) prog_44_method_21_code (1 : Nat) (Option.some Jvm.ClassFile.FieldType.int)) ∈ lw_all := lw_g (lw_at lw_m13 71 rfl) rfl
theorem q3076 : (Jvm.Cond.methodLink "java/lang/StringLatin1" (84 : Nat) ({ cls := "jdk/internal/util/ArraysSupport", name := "vectorizedHashCode", desc := "(Ljava/lang/Object;IIII)I" } : Jvm.MethodName)) ∈ lw_all := lw_g (lw_at lw_m13 72 rfl) rfl
theorem q3132 : (Jvm.Cond.static ({ cls := "java/lang/StringLatin1", name := "equals", desc := "([B[B)Z" } : Jvm.MethodName)) ∈ lw_all := lw_g (lw_at lw_m13 128 rfl) rfl
theorem q3133 : (Jvm.Cond.code ({ cls := "java/lang/StringLatin1", name := "equals", desc := "([B[B)Z" } : Jvm.MethodName) prog_44_method_13_code (3 : Nat) (Option.some Jvm.ClassFile.FieldType.boolean)) ∈ lw_all := lw_g (lw_at lw_m13 129 rfl) rfl
theorem q3273 : (Jvm.Cond.static ({ cls := "java/lang/StringLatin1", name := "fillNull", desc := "([BII)V" } : Jvm.MethodName)) ∈ lw_all := lw_g (lw_at lw_m14 29 rfl) rfl
theorem q3274 : (Jvm.Cond.code ({ cls := "java/lang/StringLatin1", name := "fillNull", desc := "([BII)V" } : Jvm.MethodName) prog_44_method_48_code (3 : Nat) (Option.none : Option Jvm.ClassFile.FieldType)) ∈ lw_all := lw_g (lw_at lw_m14 30 rfl) rfl
theorem q3275 : (Jvm.Cond.methodLink "java/lang/StringLatin1" (236 : Nat) ({ cls := "java/util/Arrays", name := "fill", desc := "([BIIB)V" } : Jvm.MethodName)) ∈ lw_all := lw_g (lw_at lw_m14 31 rfl) rfl

/-! java/lang/Math -/
set_option maxRecDepth 100000
def RJ16 : String := "java/lang/Math"
abbrev cJ16_max : ByteArray := prog_38_method_65_code
def yJ16_max : MethodName := ⟨RJ16, "max", "(II)I"⟩
def dkwJ16_max_0 : List UInt8 := [26, 27, 161, 0, 7, 26, 167, 0, 4, 27, 172]
abbrev dktJ16_max_0 : List UInt8 := dkwJ16_max_0 ++ []
theorem dksJ16_max_0 : cJ16_max.data.toList.drop 0 = dktJ16_max_0 := by decide +kernel
theorem dJ16_max_0 : decode cJ16_max 0 = .ok (.iload_n 0, 1) := dk_26 (dk_at dksJ16_max_0 0 rfl rfl)
theorem dJ16_max_1 : decode cJ16_max 1 = .ok (.iload_n 1, 1) := dk_27 (dk_at dksJ16_max_0 1 rfl rfl)
theorem dJ16_max_2 : decode cJ16_max 2 = .ok (.if_icmp .lt 7, 3) := dk_161 0 7 (dk_at dksJ16_max_0 2 rfl rfl)
theorem dJ16_max_5 : decode cJ16_max 5 = .ok (.iload_n 0, 1) := dk_26 (dk_at dksJ16_max_0 5 rfl rfl)
theorem dJ16_max_6 : decode cJ16_max 6 = .ok (.goto 4, 3) := dk_167 0 4 (dk_at dksJ16_max_0 6 rfl rfl)
theorem dJ16_max_9 : decode cJ16_max 9 = .ok (.iload_n 1, 1) := dk_27 (dk_at dksJ16_max_0 9 rfl rfl)
theorem dJ16_max_10 : decode cJ16_max 10 = .ok (.ireturn, 1) := dk_172 (dk_at dksJ16_max_0 10 rfl rfl)
abbrev cJ16_min : ByteArray := prog_38_method_69_code
def yJ16_min : MethodName := ⟨RJ16, "min", "(II)I"⟩
def dkwJ16_min_0 : List UInt8 := [26, 27, 163, 0, 7, 26, 167, 0, 4, 27, 172]
abbrev dktJ16_min_0 : List UInt8 := dkwJ16_min_0 ++ []
theorem dksJ16_min_0 : cJ16_min.data.toList.drop 0 = dktJ16_min_0 := by decide +kernel
theorem dJ16_min_0 : decode cJ16_min 0 = .ok (.iload_n 0, 1) := dk_26 (dk_at dksJ16_min_0 0 rfl rfl)
theorem dJ16_min_1 : decode cJ16_min 1 = .ok (.iload_n 1, 1) := dk_27 (dk_at dksJ16_min_0 1 rfl rfl)
theorem dJ16_min_2 : decode cJ16_min 2 = .ok (.if_icmp .gt 7, 3) := dk_163 0 7 (dk_at dksJ16_min_0 2 rfl rfl)
theorem dJ16_min_5 : decode cJ16_min 5 = .ok (.iload_n 0, 1) := dk_26 (dk_at dksJ16_min_0 5 rfl rfl)
theorem dJ16_min_6 : decode cJ16_min 6 = .ok (.goto 4, 3) := dk_167 0 4 (dk_at dksJ16_min_0 6 rfl rfl)
theorem dJ16_min_9 : decode cJ16_min 9 = .ok (.iload_n 1, 1) := dk_27 (dk_at dksJ16_min_0 9 rfl rfl)
theorem dJ16_min_10 : decode cJ16_min 10 = .ok (.ireturn, 1) := dk_172 (dk_at dksJ16_min_0 10 rfl rfl)
abbrev cJ16_abs : ByteArray := prog_38_method_61_code
def yJ16_abs : MethodName := ⟨RJ16, "abs", "(J)J"⟩
def dkwJ16_abs_0 : List UInt8 := [30, 9, 148, 156, 0, 8, 30, 117, 167, 0, 4, 30, 173]
abbrev dktJ16_abs_0 : List UInt8 := dkwJ16_abs_0 ++ []
theorem dksJ16_abs_0 : cJ16_abs.data.toList.drop 0 = dktJ16_abs_0 := by decide +kernel
theorem dJ16_abs_0 : decode cJ16_abs 0 = .ok (.lload_n 0, 1) := dk_30 (dk_at dksJ16_abs_0 0 rfl rfl)
theorem dJ16_abs_1 : decode cJ16_abs 1 = .ok (.lconst 0, 1) := dk_9 (dk_at dksJ16_abs_0 1 rfl rfl)
theorem dJ16_abs_2 : decode cJ16_abs 2 = .ok (.lcmp, 1) := dk_148 (dk_at dksJ16_abs_0 2 rfl rfl)
theorem dJ16_abs_3 : decode cJ16_abs 3 = .ok (.ifCond .ge 8, 3) := dk_156 0 8 (dk_at dksJ16_abs_0 3 rfl rfl)
theorem dJ16_abs_6 : decode cJ16_abs 6 = .ok (.lload_n 0, 1) := dk_30 (dk_at dksJ16_abs_0 6 rfl rfl)
theorem dJ16_abs_7 : decode cJ16_abs 7 = .ok (.lneg, 1) := dk_117 (dk_at dksJ16_abs_0 7 rfl rfl)
theorem dJ16_abs_8 : decode cJ16_abs 8 = .ok (.goto 4, 3) := dk_167 0 4 (dk_at dksJ16_abs_0 8 rfl rfl)
theorem dJ16_abs_11 : decode cJ16_abs 11 = .ok (.lload_n 0, 1) := dk_30 (dk_at dksJ16_abs_0 11 rfl rfl)
theorem dJ16_abs_12 : decode cJ16_abs 12 = .ok (.lreturn, 1) := dk_173 (dk_at dksJ16_abs_0 12 rfl rfl)
theorem q148 : (Jvm.Cond.initialized "java/lang/Math") ∈ lw_all := lw_g (lw_at lw_m1 24 rfl) rfl
theorem q576 : (Jvm.Cond.static ({ cls := "java/lang/Math", name := "max", desc := "(II)I" } : Jvm.MethodName)) ∈ lw_all := lw_g (lw_at lw_m2 212 rfl) rfl
theorem q577 : (Jvm.Cond.code ({ cls := "java/lang/Math", name := "max", desc := "(II)I" } : Jvm.MethodName) prog_38_method_65_code (2 : Nat) (Option.some Jvm.ClassFile.FieldType.int)) ∈ lw_all := lw_g (lw_at lw_m2 213 rfl) rfl
theorem q594 : (Jvm.Cond.static ({ cls := "java/lang/Math", name := "min", desc := "(II)I" } : Jvm.MethodName)) ∈ lw_all := lw_g (lw_at lw_m2 230 rfl) rfl
theorem q595 : (Jvm.Cond.code ({ cls := "java/lang/Math", name := "min", desc := "(II)I" } : Jvm.MethodName) prog_38_method_69_code (2 : Nat) (Option.some Jvm.ClassFile.FieldType.int)) ∈ lw_all := lw_g (lw_at lw_m2 231 rfl) rfl
theorem q1878 : (Jvm.Cond.static ({ cls := "java/lang/Math", name := "abs", desc := "(J)J" } : Jvm.MethodName)) ∈ lw_all := lw_g (lw_at lw_m8 74 rfl) rfl
theorem q1879 : (Jvm.Cond.code ({ cls := "java/lang/Math", name := "abs", desc := "(J)J" } : Jvm.MethodName) prog_38_method_61_code (2 : Nat) (Option.some Jvm.ClassFile.FieldType.long)) ∈ lw_all := lw_g (lw_at lw_m8 75 rfl) rfl

/-! jdk/internal/util/ArraysSupport -/
set_option maxRecDepth 100000
def RJ17 : String := "jdk/internal/util/ArraysSupport"
abbrev cJ17_newLength : ByteArray := prog_100_method_27_code
def yJ17_newLength : MethodName := ⟨RJ17, "newLength", "(III)I"⟩
def dkwJ17_newLength_1 : List UInt8 := [184, 0, 201, 172]
abbrev dktJ17_newLength_1 : List UInt8 := dkwJ17_newLength_1 ++ []
def dkwJ17_newLength_0 : List UInt8 := [26, 27, 28, 184, 0, 194, 96, 62, 3, 29, 162, 0, 11, 29, 18, 200, 163, 0, 5, 29, 172, 26, 27]
abbrev dktJ17_newLength_0 : List UInt8 := dkwJ17_newLength_0 ++ dktJ17_newLength_1
theorem dksJ17_newLength_0 : cJ17_newLength.data.toList.drop 0 = dktJ17_newLength_0 := by decide +kernel
theorem dksJ17_newLength_1 : cJ17_newLength.data.toList.drop 23 = dktJ17_newLength_1 := dk_seg dksJ17_newLength_0 23 rfl rfl
theorem dJ17_newLength_0 : decode cJ17_newLength 0 = .ok (.iload_n 0, 1) := dk_26 (dk_at dksJ17_newLength_0 0 rfl rfl)
theorem dJ17_newLength_1 : decode cJ17_newLength 1 = .ok (.iload_n 1, 1) := dk_27 (dk_at dksJ17_newLength_0 1 rfl rfl)
theorem dJ17_newLength_2 : decode cJ17_newLength 2 = .ok (.iload_n 2, 1) := dk_28 (dk_at dksJ17_newLength_0 2 rfl rfl)
theorem dJ17_newLength_3 : decode cJ17_newLength 3 = .ok (.invokestatic 194, 3) := dk_184 0 194 (dk_at dksJ17_newLength_0 3 rfl rfl)
theorem dJ17_newLength_6 : decode cJ17_newLength 6 = .ok (.iadd, 1) := dk_96 (dk_at dksJ17_newLength_0 6 rfl rfl)
theorem dJ17_newLength_7 : decode cJ17_newLength 7 = .ok (.istore_n 3, 1) := dk_62 (dk_at dksJ17_newLength_0 7 rfl rfl)
theorem dJ17_newLength_8 : decode cJ17_newLength 8 = .ok (.iconst 0, 1) := dk_3 (dk_at dksJ17_newLength_0 8 rfl rfl)
theorem dJ17_newLength_9 : decode cJ17_newLength 9 = .ok (.iload_n 3, 1) := dk_29 (dk_at dksJ17_newLength_0 9 rfl rfl)
theorem dJ17_newLength_10 : decode cJ17_newLength 10 = .ok (.if_icmp .ge 11, 3) := dk_162 0 11 (dk_at dksJ17_newLength_0 10 rfl rfl)
theorem dJ17_newLength_13 : decode cJ17_newLength 13 = .ok (.iload_n 3, 1) := dk_29 (dk_at dksJ17_newLength_0 13 rfl rfl)
theorem dJ17_newLength_14 : decode cJ17_newLength 14 = .ok (.ldc 200, 2) := dk_18 200 (dk_at dksJ17_newLength_0 14 rfl rfl)
theorem dJ17_newLength_16 : decode cJ17_newLength 16 = .ok (.if_icmp .gt 5, 3) := dk_163 0 5 (dk_at dksJ17_newLength_0 16 rfl rfl)
theorem dJ17_newLength_19 : decode cJ17_newLength 19 = .ok (.iload_n 3, 1) := dk_29 (dk_at dksJ17_newLength_0 19 rfl rfl)
theorem dJ17_newLength_20 : decode cJ17_newLength 20 = .ok (.ireturn, 1) := dk_172 (dk_at dksJ17_newLength_0 20 rfl rfl)
theorem dJ17_newLength_21 : decode cJ17_newLength 21 = .ok (.iload_n 0, 1) := dk_26 (dk_at dksJ17_newLength_0 21 rfl rfl)
theorem dJ17_newLength_22 : decode cJ17_newLength 22 = .ok (.iload_n 1, 1) := dk_27 (dk_at dksJ17_newLength_0 22 rfl rfl)
theorem dJ17_newLength_23 : decode cJ17_newLength 23 = .ok (.invokestatic 201, 3) := dk_184 0 201 (dk_at dksJ17_newLength_1 0 rfl rfl)
theorem dJ17_newLength_26 : decode cJ17_newLength 26 = .ok (.ireturn, 1) := dk_172 (dk_at dksJ17_newLength_1 3 rfl rfl)
abbrev cJ17_hugeLength : ByteArray := prog_100_method_28_code
def yJ17_hugeLength : MethodName := ⟨RJ17, "hugeLength", "(II)I"⟩
def dkwJ17_hugeLength_2 : List UInt8 := [191, 28, 18, 200, 163, 0, 6, 18, 200, 172, 28, 172]
abbrev dktJ17_hugeLength_2 : List UInt8 := dkwJ17_hugeLength_2 ++ []
def dkwJ17_hugeLength_1 : List UInt8 := [26, 182, 0, 98, 18, 208, 182, 0, 94, 27, 182, 0, 98, 18, 210, 182, 0, 94, 182, 0, 101, 183, 0, 212]
abbrev dktJ17_hugeLength_1 : List UInt8 := dkwJ17_hugeLength_1 ++ dktJ17_hugeLength_2
def dkwJ17_hugeLength_0 : List UInt8 := [26, 27, 96, 61, 28, 156, 0, 44, 187, 0, 204, 89, 187, 0, 89, 89, 183, 0, 91, 18, 206, 182, 0, 94]
abbrev dktJ17_hugeLength_0 : List UInt8 := dkwJ17_hugeLength_0 ++ dktJ17_hugeLength_1
theorem dksJ17_hugeLength_0 : cJ17_hugeLength.data.toList.drop 0 = dktJ17_hugeLength_0 := by decide +kernel
theorem dksJ17_hugeLength_1 : cJ17_hugeLength.data.toList.drop 24 = dktJ17_hugeLength_1 := dk_seg dksJ17_hugeLength_0 24 rfl rfl
theorem dksJ17_hugeLength_2 : cJ17_hugeLength.data.toList.drop 48 = dktJ17_hugeLength_2 := dk_seg dksJ17_hugeLength_1 24 rfl rfl
theorem dJ17_hugeLength_0 : decode cJ17_hugeLength 0 = .ok (.iload_n 0, 1) := dk_26 (dk_at dksJ17_hugeLength_0 0 rfl rfl)
theorem dJ17_hugeLength_1 : decode cJ17_hugeLength 1 = .ok (.iload_n 1, 1) := dk_27 (dk_at dksJ17_hugeLength_0 1 rfl rfl)
theorem dJ17_hugeLength_2 : decode cJ17_hugeLength 2 = .ok (.iadd, 1) := dk_96 (dk_at dksJ17_hugeLength_0 2 rfl rfl)
theorem dJ17_hugeLength_3 : decode cJ17_hugeLength 3 = .ok (.istore_n 2, 1) := dk_61 (dk_at dksJ17_hugeLength_0 3 rfl rfl)
theorem dJ17_hugeLength_4 : decode cJ17_hugeLength 4 = .ok (.iload_n 2, 1) := dk_28 (dk_at dksJ17_hugeLength_0 4 rfl rfl)
theorem dJ17_hugeLength_5 : decode cJ17_hugeLength 5 = .ok (.ifCond .ge 44, 3) := dk_156 0 44 (dk_at dksJ17_hugeLength_0 5 rfl rfl)
theorem dJ17_hugeLength_8 : decode cJ17_hugeLength 8 = .ok (.new 204, 3) := dk_187 0 204 (dk_at dksJ17_hugeLength_0 8 rfl rfl)
theorem dJ17_hugeLength_11 : decode cJ17_hugeLength 11 = .ok (.dup, 1) := dk_89 (dk_at dksJ17_hugeLength_0 11 rfl rfl)
theorem dJ17_hugeLength_12 : decode cJ17_hugeLength 12 = .ok (.new 89, 3) := dk_187 0 89 (dk_at dksJ17_hugeLength_0 12 rfl rfl)
theorem dJ17_hugeLength_15 : decode cJ17_hugeLength 15 = .ok (.dup, 1) := dk_89 (dk_at dksJ17_hugeLength_0 15 rfl rfl)
theorem dJ17_hugeLength_16 : decode cJ17_hugeLength 16 = .ok (.invokespecial 91, 3) := dk_183 0 91 (dk_at dksJ17_hugeLength_0 16 rfl rfl)
theorem dJ17_hugeLength_19 : decode cJ17_hugeLength 19 = .ok (.ldc 206, 2) := dk_18 206 (dk_at dksJ17_hugeLength_0 19 rfl rfl)
theorem dJ17_hugeLength_21 : decode cJ17_hugeLength 21 = .ok (.invokevirtual 94, 3) := dk_182 0 94 (dk_at dksJ17_hugeLength_0 21 rfl rfl)
theorem dJ17_hugeLength_24 : decode cJ17_hugeLength 24 = .ok (.iload_n 0, 1) := dk_26 (dk_at dksJ17_hugeLength_1 0 rfl rfl)
theorem dJ17_hugeLength_25 : decode cJ17_hugeLength 25 = .ok (.invokevirtual 98, 3) := dk_182 0 98 (dk_at dksJ17_hugeLength_1 1 rfl rfl)
theorem dJ17_hugeLength_28 : decode cJ17_hugeLength 28 = .ok (.ldc 208, 2) := dk_18 208 (dk_at dksJ17_hugeLength_1 4 rfl rfl)
theorem dJ17_hugeLength_30 : decode cJ17_hugeLength 30 = .ok (.invokevirtual 94, 3) := dk_182 0 94 (dk_at dksJ17_hugeLength_1 6 rfl rfl)
theorem dJ17_hugeLength_33 : decode cJ17_hugeLength 33 = .ok (.iload_n 1, 1) := dk_27 (dk_at dksJ17_hugeLength_1 9 rfl rfl)
theorem dJ17_hugeLength_34 : decode cJ17_hugeLength 34 = .ok (.invokevirtual 98, 3) := dk_182 0 98 (dk_at dksJ17_hugeLength_1 10 rfl rfl)
theorem dJ17_hugeLength_37 : decode cJ17_hugeLength 37 = .ok (.ldc 210, 2) := dk_18 210 (dk_at dksJ17_hugeLength_1 13 rfl rfl)
theorem dJ17_hugeLength_39 : decode cJ17_hugeLength 39 = .ok (.invokevirtual 94, 3) := dk_182 0 94 (dk_at dksJ17_hugeLength_1 15 rfl rfl)
theorem dJ17_hugeLength_42 : decode cJ17_hugeLength 42 = .ok (.invokevirtual 101, 3) := dk_182 0 101 (dk_at dksJ17_hugeLength_1 18 rfl rfl)
theorem dJ17_hugeLength_45 : decode cJ17_hugeLength 45 = .ok (.invokespecial 212, 3) := dk_183 0 212 (dk_at dksJ17_hugeLength_1 21 rfl rfl)
theorem dJ17_hugeLength_48 : decode cJ17_hugeLength 48 = .ok (.athrow, 1) := dk_191 (dk_at dksJ17_hugeLength_2 0 rfl rfl)
theorem dJ17_hugeLength_49 : decode cJ17_hugeLength 49 = .ok (.iload_n 2, 1) := dk_28 (dk_at dksJ17_hugeLength_2 1 rfl rfl)
theorem dJ17_hugeLength_50 : decode cJ17_hugeLength 50 = .ok (.ldc 200, 2) := dk_18 200 (dk_at dksJ17_hugeLength_2 2 rfl rfl)
theorem dJ17_hugeLength_52 : decode cJ17_hugeLength 52 = .ok (.if_icmp .gt 6, 3) := dk_163 0 6 (dk_at dksJ17_hugeLength_2 4 rfl rfl)
theorem dJ17_hugeLength_55 : decode cJ17_hugeLength 55 = .ok (.ldc 200, 2) := dk_18 200 (dk_at dksJ17_hugeLength_2 7 rfl rfl)
theorem dJ17_hugeLength_57 : decode cJ17_hugeLength 57 = .ok (.ireturn, 1) := dk_172 (dk_at dksJ17_hugeLength_2 9 rfl rfl)
theorem dJ17_hugeLength_58 : decode cJ17_hugeLength 58 = .ok (.iload_n 2, 1) := dk_28 (dk_at dksJ17_hugeLength_2 10 rfl rfl)
theorem dJ17_hugeLength_59 : decode cJ17_hugeLength 59 = .ok (.ireturn, 1) := dk_172 (dk_at dksJ17_hugeLength_2 11 rfl rfl)
abbrev cJ17_mismatch : ByteArray := prog_100_method_13_code
def yJ17_mismatch : MethodName := ⟨RJ17, "mismatch", "([B[BI)I"⟩
def dkwJ17_mismatch_3 : List UInt8 := [172]
abbrev dktJ17_mismatch_3 : List UInt8 := dkwJ17_mismatch_3 ++ []
def dkwJ17_mismatch_2 : List UInt8 := [62, 29, 28, 162, 0, 20, 42, 29, 51, 43, 29, 51, 159, 0, 5, 29, 172, 132, 3, 1, 167, 255, 237, 2]
abbrev dktJ17_mismatch_2 : List UInt8 := dkwJ17_mismatch_2 ++ dktJ17_mismatch_3
def dkwJ17_mismatch_1 : List UInt8 := [43, 178, 0, 126, 133, 28, 178, 0, 129, 184, 0, 122, 62, 29, 155, 0, 5, 29, 172, 28, 29, 2, 130, 100]
abbrev dktJ17_mismatch_1 : List UInt8 := dkwJ17_mismatch_1 ++ dktJ17_mismatch_2
def dkwJ17_mismatch_0 : List UInt8 := [3, 62, 28, 16, 7, 164, 0, 44, 42, 3, 51, 43, 3, 51, 159, 0, 5, 3, 172, 42, 178, 0, 126, 133]
abbrev dktJ17_mismatch_0 : List UInt8 := dkwJ17_mismatch_0 ++ dktJ17_mismatch_1
theorem dksJ17_mismatch_0 : cJ17_mismatch.data.toList.drop 0 = dktJ17_mismatch_0 := by decide +kernel
theorem dksJ17_mismatch_1 : cJ17_mismatch.data.toList.drop 24 = dktJ17_mismatch_1 := dk_seg dksJ17_mismatch_0 24 rfl rfl
theorem dksJ17_mismatch_2 : cJ17_mismatch.data.toList.drop 48 = dktJ17_mismatch_2 := dk_seg dksJ17_mismatch_1 24 rfl rfl
theorem dksJ17_mismatch_3 : cJ17_mismatch.data.toList.drop 72 = dktJ17_mismatch_3 := dk_seg dksJ17_mismatch_2 24 rfl rfl
theorem dJ17_mismatch_0 : decode cJ17_mismatch 0 = .ok (.iconst 0, 1) := dk_3 (dk_at dksJ17_mismatch_0 0 rfl rfl)
theorem dJ17_mismatch_1 : decode cJ17_mismatch 1 = .ok (.istore_n 3, 1) := dk_62 (dk_at dksJ17_mismatch_0 1 rfl rfl)
theorem dJ17_mismatch_2 : decode cJ17_mismatch 2 = .ok (.iload_n 2, 1) := dk_28 (dk_at dksJ17_mismatch_0 2 rfl rfl)
theorem dJ17_mismatch_3 : decode cJ17_mismatch 3 = .ok (.bipush 7, 2) := dk_16 7 (dk_at dksJ17_mismatch_0 3 rfl rfl)
theorem dJ17_mismatch_5 : decode cJ17_mismatch 5 = .ok (.if_icmp .le 44, 3) := dk_164 0 44 (dk_at dksJ17_mismatch_0 5 rfl rfl)
theorem dJ17_mismatch_8 : decode cJ17_mismatch 8 = .ok (.aload_n 0, 1) := dk_42 (dk_at dksJ17_mismatch_0 8 rfl rfl)
theorem dJ17_mismatch_9 : decode cJ17_mismatch 9 = .ok (.iconst 0, 1) := dk_3 (dk_at dksJ17_mismatch_0 9 rfl rfl)
theorem dJ17_mismatch_10 : decode cJ17_mismatch 10 = .ok (.baload, 1) := dk_51 (dk_at dksJ17_mismatch_0 10 rfl rfl)
theorem dJ17_mismatch_11 : decode cJ17_mismatch 11 = .ok (.aload_n 1, 1) := dk_43 (dk_at dksJ17_mismatch_0 11 rfl rfl)
theorem dJ17_mismatch_12 : decode cJ17_mismatch 12 = .ok (.iconst 0, 1) := dk_3 (dk_at dksJ17_mismatch_0 12 rfl rfl)
theorem dJ17_mismatch_13 : decode cJ17_mismatch 13 = .ok (.baload, 1) := dk_51 (dk_at dksJ17_mismatch_0 13 rfl rfl)
theorem dJ17_mismatch_14 : decode cJ17_mismatch 14 = .ok (.if_icmp .eq 5, 3) := dk_159 0 5 (dk_at dksJ17_mismatch_0 14 rfl rfl)
theorem dJ17_mismatch_17 : decode cJ17_mismatch 17 = .ok (.iconst 0, 1) := dk_3 (dk_at dksJ17_mismatch_0 17 rfl rfl)
theorem dJ17_mismatch_18 : decode cJ17_mismatch 18 = .ok (.ireturn, 1) := dk_172 (dk_at dksJ17_mismatch_0 18 rfl rfl)
theorem dJ17_mismatch_19 : decode cJ17_mismatch 19 = .ok (.aload_n 0, 1) := dk_42 (dk_at dksJ17_mismatch_0 19 rfl rfl)
theorem dJ17_mismatch_20 : decode cJ17_mismatch 20 = .ok (.getstatic 126, 3) := dk_178 0 126 (dk_at dksJ17_mismatch_0 20 rfl rfl)
theorem dJ17_mismatch_23 : decode cJ17_mismatch 23 = .ok (.i2l, 1) := dk_133 (dk_at dksJ17_mismatch_0 23 rfl rfl)
theorem dJ17_mismatch_24 : decode cJ17_mismatch 24 = .ok (.aload_n 1, 1) := dk_43 (dk_at dksJ17_mismatch_1 0 rfl rfl)
theorem dJ17_mismatch_25 : decode cJ17_mismatch 25 = .ok (.getstatic 126, 3) := dk_178 0 126 (dk_at dksJ17_mismatch_1 1 rfl rfl)
theorem dJ17_mismatch_28 : decode cJ17_mismatch 28 = .ok (.i2l, 1) := dk_133 (dk_at dksJ17_mismatch_1 4 rfl rfl)
theorem dJ17_mismatch_29 : decode cJ17_mismatch 29 = .ok (.iload_n 2, 1) := dk_28 (dk_at dksJ17_mismatch_1 5 rfl rfl)
theorem dJ17_mismatch_30 : decode cJ17_mismatch 30 = .ok (.getstatic 129, 3) := dk_178 0 129 (dk_at dksJ17_mismatch_1 6 rfl rfl)
theorem dJ17_mismatch_33 : decode cJ17_mismatch 33 = .ok (.invokestatic 122, 3) := dk_184 0 122 (dk_at dksJ17_mismatch_1 9 rfl rfl)
theorem dJ17_mismatch_36 : decode cJ17_mismatch 36 = .ok (.istore_n 3, 1) := dk_62 (dk_at dksJ17_mismatch_1 12 rfl rfl)
theorem dJ17_mismatch_37 : decode cJ17_mismatch 37 = .ok (.iload_n 3, 1) := dk_29 (dk_at dksJ17_mismatch_1 13 rfl rfl)
theorem dJ17_mismatch_38 : decode cJ17_mismatch 38 = .ok (.ifCond .lt 5, 3) := dk_155 0 5 (dk_at dksJ17_mismatch_1 14 rfl rfl)
theorem dJ17_mismatch_41 : decode cJ17_mismatch 41 = .ok (.iload_n 3, 1) := dk_29 (dk_at dksJ17_mismatch_1 17 rfl rfl)
theorem dJ17_mismatch_42 : decode cJ17_mismatch 42 = .ok (.ireturn, 1) := dk_172 (dk_at dksJ17_mismatch_1 18 rfl rfl)
theorem dJ17_mismatch_43 : decode cJ17_mismatch 43 = .ok (.iload_n 2, 1) := dk_28 (dk_at dksJ17_mismatch_1 19 rfl rfl)
theorem dJ17_mismatch_44 : decode cJ17_mismatch 44 = .ok (.iload_n 3, 1) := dk_29 (dk_at dksJ17_mismatch_1 20 rfl rfl)
theorem dJ17_mismatch_45 : decode cJ17_mismatch 45 = .ok (.iconst (-1), 1) := dk_2 (dk_at dksJ17_mismatch_1 21 rfl rfl)
theorem dJ17_mismatch_46 : decode cJ17_mismatch 46 = .ok (.ixor, 1) := dk_130 (dk_at dksJ17_mismatch_1 22 rfl rfl)
theorem dJ17_mismatch_47 : decode cJ17_mismatch 47 = .ok (.isub, 1) := dk_100 (dk_at dksJ17_mismatch_1 23 rfl rfl)
theorem dJ17_mismatch_48 : decode cJ17_mismatch 48 = .ok (.istore_n 3, 1) := dk_62 (dk_at dksJ17_mismatch_2 0 rfl rfl)
theorem dJ17_mismatch_49 : decode cJ17_mismatch 49 = .ok (.iload_n 3, 1) := dk_29 (dk_at dksJ17_mismatch_2 1 rfl rfl)
theorem dJ17_mismatch_50 : decode cJ17_mismatch 50 = .ok (.iload_n 2, 1) := dk_28 (dk_at dksJ17_mismatch_2 2 rfl rfl)
theorem dJ17_mismatch_51 : decode cJ17_mismatch 51 = .ok (.if_icmp .ge 20, 3) := dk_162 0 20 (dk_at dksJ17_mismatch_2 3 rfl rfl)
theorem dJ17_mismatch_54 : decode cJ17_mismatch 54 = .ok (.aload_n 0, 1) := dk_42 (dk_at dksJ17_mismatch_2 6 rfl rfl)
theorem dJ17_mismatch_55 : decode cJ17_mismatch 55 = .ok (.iload_n 3, 1) := dk_29 (dk_at dksJ17_mismatch_2 7 rfl rfl)
theorem dJ17_mismatch_56 : decode cJ17_mismatch 56 = .ok (.baload, 1) := dk_51 (dk_at dksJ17_mismatch_2 8 rfl rfl)
theorem dJ17_mismatch_57 : decode cJ17_mismatch 57 = .ok (.aload_n 1, 1) := dk_43 (dk_at dksJ17_mismatch_2 9 rfl rfl)
theorem dJ17_mismatch_58 : decode cJ17_mismatch 58 = .ok (.iload_n 3, 1) := dk_29 (dk_at dksJ17_mismatch_2 10 rfl rfl)
theorem dJ17_mismatch_59 : decode cJ17_mismatch 59 = .ok (.baload, 1) := dk_51 (dk_at dksJ17_mismatch_2 11 rfl rfl)
theorem dJ17_mismatch_60 : decode cJ17_mismatch 60 = .ok (.if_icmp .eq 5, 3) := dk_159 0 5 (dk_at dksJ17_mismatch_2 12 rfl rfl)
theorem dJ17_mismatch_63 : decode cJ17_mismatch 63 = .ok (.iload_n 3, 1) := dk_29 (dk_at dksJ17_mismatch_2 15 rfl rfl)
theorem dJ17_mismatch_64 : decode cJ17_mismatch 64 = .ok (.ireturn, 1) := dk_172 (dk_at dksJ17_mismatch_2 16 rfl rfl)
theorem dJ17_mismatch_65 : decode cJ17_mismatch 65 = .ok (.iinc 3 1, 3) := dk_132 3 1 (dk_at dksJ17_mismatch_2 17 rfl rfl)
theorem dJ17_mismatch_68 : decode cJ17_mismatch 68 = .ok (.goto (-19), 3) := dk_167 255 237 (dk_at dksJ17_mismatch_2 20 rfl rfl)
theorem dJ17_mismatch_71 : decode cJ17_mismatch 71 = .ok (.iconst (-1), 1) := dk_2 (dk_at dksJ17_mismatch_2 23 rfl rfl)
theorem dJ17_mismatch_72 : decode cJ17_mismatch 72 = .ok (.ireturn, 1) := dk_172 (dk_at dksJ17_mismatch_3 0 rfl rfl)
abbrev cJ17_vectorizedMismatch : ByteArray := prog_100_method_3_code
def yJ17_vectorizedMismatch : MethodName := ⟨RJ17, "vectorizedMismatch", "(Ljava/lang/Object;JLjava/lang/Object;JII)I"⟩
def dkwJ17_vectorizedMismatch_11 : List UInt8 := [54, 10, 21, 10, 2, 130, 172, 21, 10, 2, 130, 172]
abbrev dktJ17_vectorizedMismatch_11 : List UInt8 := dkwJ17_vectorizedMismatch_11 ++ []
def dkwJ17_vectorizedMismatch_10 : List UInt8 := [178, 0, 46, 21, 7, 96, 122, 54, 17, 21, 9, 21, 8, 120, 21, 17, 96, 172, 21, 10, 21, 11, 100]
abbrev dktJ17_vectorizedMismatch_10 : List UInt8 := dkwJ17_vectorizedMismatch_10 ++ dktJ17_vectorizedMismatch_11
def dkwJ17_vectorizedMismatch_9 : List UInt8 := [153, 0, 18, 21, 16, 184, 0, 58, 178, 0, 46, 21, 7, 96, 122, 167, 0, 15, 21, 16, 184, 0, 11]
abbrev dktJ17_vectorizedMismatch_9 : List UInt8 := dkwJ17_vectorizedMismatch_9 ++ dktJ17_vectorizedMismatch_10
def dkwJ17_vectorizedMismatch_8 : List UInt8 := [182, 0, 54, 54, 15, 21, 14, 21, 15, 159, 0, 54, 21, 14, 21, 15, 130, 54, 16, 178, 0, 36]
abbrev dktJ17_vectorizedMismatch_8 : List UInt8 := dkwJ17_vectorizedMismatch_8 ++ dktJ17_vectorizedMismatch_9
def dkwJ17_vectorizedMismatch_7 : List UInt8 := [55, 12, 178, 0, 26, 42, 31, 22, 12, 97, 182, 0, 54, 54, 14, 178, 0, 26, 45, 22, 4, 22, 12, 97]
abbrev dktJ17_vectorizedMismatch_7 : List UInt8 := dkwJ17_vectorizedMismatch_7 ++ dktJ17_vectorizedMismatch_8
def dkwJ17_vectorizedMismatch_6 : List UInt8 := [4, 178, 0, 51, 21, 7, 100, 120, 54, 11, 21, 10, 21, 11, 161, 0, 104, 21, 9, 133, 178, 0, 20, 121]
abbrev dktJ17_vectorizedMismatch_6 : List UInt8 := dkwJ17_vectorizedMismatch_6 ++ dktJ17_vectorizedMismatch_7
def dkwJ17_vectorizedMismatch_5 : List UInt8 := [132, 9, 1, 167, 255, 148, 21, 6, 21, 9, 21, 8, 120, 100, 54, 10, 21, 7, 178, 0, 51, 162, 0, 126]
abbrev dktJ17_vectorizedMismatch_5 : List UInt8 := dkwJ17_vectorizedMismatch_5 ++ dktJ17_vectorizedMismatch_6
def dkwJ17_vectorizedMismatch_4 : List UInt8 := [22, 16, 184, 0, 49, 178, 0, 46, 21, 7, 96, 122, 54, 18, 21, 9, 21, 8, 120, 21, 18, 96, 172]
abbrev dktJ17_vectorizedMismatch_4 : List UInt8 := dkwJ17_vectorizedMismatch_4 ++ dktJ17_vectorizedMismatch_5
def dkwJ17_vectorizedMismatch_3 : List UInt8 := [55, 16, 178, 0, 36, 153, 0, 18, 22, 16, 184, 0, 40, 178, 0, 46, 21, 7, 96, 122, 167, 0, 15]
abbrev dktJ17_vectorizedMismatch_3 : List UInt8 := dkwJ17_vectorizedMismatch_3 ++ dktJ17_vectorizedMismatch_4
def dkwJ17_vectorizedMismatch_2 : List UInt8 := [22, 4, 22, 10, 97, 182, 0, 30, 55, 14, 22, 12, 22, 14, 148, 153, 0, 54, 22, 12, 22, 14, 131]
abbrev dktJ17_vectorizedMismatch_2 : List UInt8 := dkwJ17_vectorizedMismatch_2 ++ dktJ17_vectorizedMismatch_3
def dkwJ17_vectorizedMismatch_1 : List UInt8 := [178, 0, 20, 121, 55, 10, 178, 0, 26, 42, 31, 22, 10, 97, 182, 0, 30, 55, 12, 178, 0, 26, 45]
abbrev dktJ17_vectorizedMismatch_1 : List UInt8 := dkwJ17_vectorizedMismatch_1 ++ dktJ17_vectorizedMismatch_2
def dkwJ17_vectorizedMismatch_0 : List UInt8 := [178, 0, 20, 21, 7, 100, 54, 8, 3, 54, 9, 21, 9, 21, 6, 21, 8, 122, 162, 0, 104, 21, 9, 133]
abbrev dktJ17_vectorizedMismatch_0 : List UInt8 := dkwJ17_vectorizedMismatch_0 ++ dktJ17_vectorizedMismatch_1
theorem dksJ17_vectorizedMismatch_0 : cJ17_vectorizedMismatch.data.toList.drop 0 = dktJ17_vectorizedMismatch_0 := by decide +kernel
theorem dksJ17_vectorizedMismatch_1 : cJ17_vectorizedMismatch.data.toList.drop 24 = dktJ17_vectorizedMismatch_1 := dk_seg dksJ17_vectorizedMismatch_0 24 rfl rfl
theorem dksJ17_vectorizedMismatch_2 : cJ17_vectorizedMismatch.data.toList.drop 47 = dktJ17_vectorizedMismatch_2 := dk_seg dksJ17_vectorizedMismatch_1 23 rfl rfl
theorem dksJ17_vectorizedMismatch_3 : cJ17_vectorizedMismatch.data.toList.drop 70 = dktJ17_vectorizedMismatch_3 := dk_seg dksJ17_vectorizedMismatch_2 23 rfl rfl
theorem dksJ17_vectorizedMismatch_4 : cJ17_vectorizedMismatch.data.toList.drop 93 = dktJ17_vectorizedMismatch_4 := dk_seg dksJ17_vectorizedMismatch_3 23 rfl rfl
theorem dksJ17_vectorizedMismatch_5 : cJ17_vectorizedMismatch.data.toList.drop 116 = dktJ17_vectorizedMismatch_5 := dk_seg dksJ17_vectorizedMismatch_4 23 rfl rfl
theorem dksJ17_vectorizedMismatch_6 : cJ17_vectorizedMismatch.data.toList.drop 140 = dktJ17_vectorizedMismatch_6 := dk_seg dksJ17_vectorizedMismatch_5 24 rfl rfl
theorem dksJ17_vectorizedMismatch_7 : cJ17_vectorizedMismatch.data.toList.drop 164 = dktJ17_vectorizedMismatch_7 := dk_seg dksJ17_vectorizedMismatch_6 24 rfl rfl
theorem dksJ17_vectorizedMismatch_8 : cJ17_vectorizedMismatch.data.toList.drop 188 = dktJ17_vectorizedMismatch_8 := dk_seg dksJ17_vectorizedMismatch_7 24 rfl rfl
theorem dksJ17_vectorizedMismatch_9 : cJ17_vectorizedMismatch.data.toList.drop 210 = dktJ17_vectorizedMismatch_9 := dk_seg dksJ17_vectorizedMismatch_8 22 rfl rfl
theorem dksJ17_vectorizedMismatch_10 : cJ17_vectorizedMismatch.data.toList.drop 233 = dktJ17_vectorizedMismatch_10 := dk_seg dksJ17_vectorizedMismatch_9 23 rfl rfl
theorem dksJ17_vectorizedMismatch_11 : cJ17_vectorizedMismatch.data.toList.drop 256 = dktJ17_vectorizedMismatch_11 := dk_seg dksJ17_vectorizedMismatch_10 23 rfl rfl
theorem dJ17_vectorizedMismatch_0 : decode cJ17_vectorizedMismatch 0 = .ok (.getstatic 20, 3) := dk_178 0 20 (dk_at dksJ17_vectorizedMismatch_0 0 rfl rfl)
theorem dJ17_vectorizedMismatch_3 : decode cJ17_vectorizedMismatch 3 = .ok (.iload 7, 2) := dk_21 7 (dk_at dksJ17_vectorizedMismatch_0 3 rfl rfl)
theorem dJ17_vectorizedMismatch_5 : decode cJ17_vectorizedMismatch 5 = .ok (.isub, 1) := dk_100 (dk_at dksJ17_vectorizedMismatch_0 5 rfl rfl)
theorem dJ17_vectorizedMismatch_6 : decode cJ17_vectorizedMismatch 6 = .ok (.istore 8, 2) := dk_54 8 (dk_at dksJ17_vectorizedMismatch_0 6 rfl rfl)
theorem dJ17_vectorizedMismatch_8 : decode cJ17_vectorizedMismatch 8 = .ok (.iconst 0, 1) := dk_3 (dk_at dksJ17_vectorizedMismatch_0 8 rfl rfl)
theorem dJ17_vectorizedMismatch_9 : decode cJ17_vectorizedMismatch 9 = .ok (.istore 9, 2) := dk_54 9 (dk_at dksJ17_vectorizedMismatch_0 9 rfl rfl)
theorem dJ17_vectorizedMismatch_11 : decode cJ17_vectorizedMismatch 11 = .ok (.iload 9, 2) := dk_21 9 (dk_at dksJ17_vectorizedMismatch_0 11 rfl rfl)
theorem dJ17_vectorizedMismatch_13 : decode cJ17_vectorizedMismatch 13 = .ok (.iload 6, 2) := dk_21 6 (dk_at dksJ17_vectorizedMismatch_0 13 rfl rfl)
theorem dJ17_vectorizedMismatch_15 : decode cJ17_vectorizedMismatch 15 = .ok (.iload 8, 2) := dk_21 8 (dk_at dksJ17_vectorizedMismatch_0 15 rfl rfl)
theorem dJ17_vectorizedMismatch_17 : decode cJ17_vectorizedMismatch 17 = .ok (.ishr, 1) := dk_122 (dk_at dksJ17_vectorizedMismatch_0 17 rfl rfl)
theorem dJ17_vectorizedMismatch_18 : decode cJ17_vectorizedMismatch 18 = .ok (.if_icmp .ge 104, 3) := dk_162 0 104 (dk_at dksJ17_vectorizedMismatch_0 18 rfl rfl)
theorem dJ17_vectorizedMismatch_21 : decode cJ17_vectorizedMismatch 21 = .ok (.iload 9, 2) := dk_21 9 (dk_at dksJ17_vectorizedMismatch_0 21 rfl rfl)
theorem dJ17_vectorizedMismatch_23 : decode cJ17_vectorizedMismatch 23 = .ok (.i2l, 1) := dk_133 (dk_at dksJ17_vectorizedMismatch_0 23 rfl rfl)
theorem dJ17_vectorizedMismatch_24 : decode cJ17_vectorizedMismatch 24 = .ok (.getstatic 20, 3) := dk_178 0 20 (dk_at dksJ17_vectorizedMismatch_1 0 rfl rfl)
theorem dJ17_vectorizedMismatch_27 : decode cJ17_vectorizedMismatch 27 = .ok (.lshl, 1) := dk_121 (dk_at dksJ17_vectorizedMismatch_1 3 rfl rfl)
theorem dJ17_vectorizedMismatch_28 : decode cJ17_vectorizedMismatch 28 = .ok (.lstore 10, 2) := dk_55 10 (dk_at dksJ17_vectorizedMismatch_1 4 rfl rfl)
theorem dJ17_vectorizedMismatch_30 : decode cJ17_vectorizedMismatch 30 = .ok (.getstatic 26, 3) := dk_178 0 26 (dk_at dksJ17_vectorizedMismatch_1 6 rfl rfl)
theorem dJ17_vectorizedMismatch_33 : decode cJ17_vectorizedMismatch 33 = .ok (.aload_n 0, 1) := dk_42 (dk_at dksJ17_vectorizedMismatch_1 9 rfl rfl)
theorem dJ17_vectorizedMismatch_34 : decode cJ17_vectorizedMismatch 34 = .ok (.lload_n 1, 1) := dk_31 (dk_at dksJ17_vectorizedMismatch_1 10 rfl rfl)
theorem dJ17_vectorizedMismatch_35 : decode cJ17_vectorizedMismatch 35 = .ok (.lload 10, 2) := dk_22 10 (dk_at dksJ17_vectorizedMismatch_1 11 rfl rfl)
theorem dJ17_vectorizedMismatch_37 : decode cJ17_vectorizedMismatch 37 = .ok (.ladd, 1) := dk_97 (dk_at dksJ17_vectorizedMismatch_1 13 rfl rfl)
theorem dJ17_vectorizedMismatch_38 : decode cJ17_vectorizedMismatch 38 = .ok (.invokevirtual 30, 3) := dk_182 0 30 (dk_at dksJ17_vectorizedMismatch_1 14 rfl rfl)
theorem dJ17_vectorizedMismatch_41 : decode cJ17_vectorizedMismatch 41 = .ok (.lstore 12, 2) := dk_55 12 (dk_at dksJ17_vectorizedMismatch_1 17 rfl rfl)
theorem dJ17_vectorizedMismatch_43 : decode cJ17_vectorizedMismatch 43 = .ok (.getstatic 26, 3) := dk_178 0 26 (dk_at dksJ17_vectorizedMismatch_1 19 rfl rfl)
theorem dJ17_vectorizedMismatch_46 : decode cJ17_vectorizedMismatch 46 = .ok (.aload_n 3, 1) := dk_45 (dk_at dksJ17_vectorizedMismatch_1 22 rfl rfl)
theorem dJ17_vectorizedMismatch_47 : decode cJ17_vectorizedMismatch 47 = .ok (.lload 4, 2) := dk_22 4 (dk_at dksJ17_vectorizedMismatch_2 0 rfl rfl)
theorem dJ17_vectorizedMismatch_49 : decode cJ17_vectorizedMismatch 49 = .ok (.lload 10, 2) := dk_22 10 (dk_at dksJ17_vectorizedMismatch_2 2 rfl rfl)
theorem dJ17_vectorizedMismatch_51 : decode cJ17_vectorizedMismatch 51 = .ok (.ladd, 1) := dk_97 (dk_at dksJ17_vectorizedMismatch_2 4 rfl rfl)
theorem dJ17_vectorizedMismatch_52 : decode cJ17_vectorizedMismatch 52 = .ok (.invokevirtual 30, 3) := dk_182 0 30 (dk_at dksJ17_vectorizedMismatch_2 5 rfl rfl)
theorem dJ17_vectorizedMismatch_55 : decode cJ17_vectorizedMismatch 55 = .ok (.lstore 14, 2) := dk_55 14 (dk_at dksJ17_vectorizedMismatch_2 8 rfl rfl)
theorem dJ17_vectorizedMismatch_57 : decode cJ17_vectorizedMismatch 57 = .ok (.lload 12, 2) := dk_22 12 (dk_at dksJ17_vectorizedMismatch_2 10 rfl rfl)
theorem dJ17_vectorizedMismatch_59 : decode cJ17_vectorizedMismatch 59 = .ok (.lload 14, 2) := dk_22 14 (dk_at dksJ17_vectorizedMismatch_2 12 rfl rfl)
theorem dJ17_vectorizedMismatch_61 : decode cJ17_vectorizedMismatch 61 = .ok (.lcmp, 1) := dk_148 (dk_at dksJ17_vectorizedMismatch_2 14 rfl rfl)
theorem dJ17_vectorizedMismatch_62 : decode cJ17_vectorizedMismatch 62 = .ok (.ifCond .eq 54, 3) := dk_153 0 54 (dk_at dksJ17_vectorizedMismatch_2 15 rfl rfl)
theorem dJ17_vectorizedMismatch_65 : decode cJ17_vectorizedMismatch 65 = .ok (.lload 12, 2) := dk_22 12 (dk_at dksJ17_vectorizedMismatch_2 18 rfl rfl)
theorem dJ17_vectorizedMismatch_67 : decode cJ17_vectorizedMismatch 67 = .ok (.lload 14, 2) := dk_22 14 (dk_at dksJ17_vectorizedMismatch_2 20 rfl rfl)
theorem dJ17_vectorizedMismatch_69 : decode cJ17_vectorizedMismatch 69 = .ok (.lxor, 1) := dk_131 (dk_at dksJ17_vectorizedMismatch_2 22 rfl rfl)
theorem dJ17_vectorizedMismatch_70 : decode cJ17_vectorizedMismatch 70 = .ok (.lstore 16, 2) := dk_55 16 (dk_at dksJ17_vectorizedMismatch_3 0 rfl rfl)
theorem dJ17_vectorizedMismatch_72 : decode cJ17_vectorizedMismatch 72 = .ok (.getstatic 36, 3) := dk_178 0 36 (dk_at dksJ17_vectorizedMismatch_3 2 rfl rfl)
theorem dJ17_vectorizedMismatch_75 : decode cJ17_vectorizedMismatch 75 = .ok (.ifCond .eq 18, 3) := dk_153 0 18 (dk_at dksJ17_vectorizedMismatch_3 5 rfl rfl)
theorem dJ17_vectorizedMismatch_78 : decode cJ17_vectorizedMismatch 78 = .ok (.lload 16, 2) := dk_22 16 (dk_at dksJ17_vectorizedMismatch_3 8 rfl rfl)
theorem dJ17_vectorizedMismatch_80 : decode cJ17_vectorizedMismatch 80 = .ok (.invokestatic 40, 3) := dk_184 0 40 (dk_at dksJ17_vectorizedMismatch_3 10 rfl rfl)
theorem dJ17_vectorizedMismatch_83 : decode cJ17_vectorizedMismatch 83 = .ok (.getstatic 46, 3) := dk_178 0 46 (dk_at dksJ17_vectorizedMismatch_3 13 rfl rfl)
theorem dJ17_vectorizedMismatch_86 : decode cJ17_vectorizedMismatch 86 = .ok (.iload 7, 2) := dk_21 7 (dk_at dksJ17_vectorizedMismatch_3 16 rfl rfl)
theorem dJ17_vectorizedMismatch_88 : decode cJ17_vectorizedMismatch 88 = .ok (.iadd, 1) := dk_96 (dk_at dksJ17_vectorizedMismatch_3 18 rfl rfl)
theorem dJ17_vectorizedMismatch_89 : decode cJ17_vectorizedMismatch 89 = .ok (.ishr, 1) := dk_122 (dk_at dksJ17_vectorizedMismatch_3 19 rfl rfl)
theorem dJ17_vectorizedMismatch_90 : decode cJ17_vectorizedMismatch 90 = .ok (.goto 15, 3) := dk_167 0 15 (dk_at dksJ17_vectorizedMismatch_3 20 rfl rfl)
theorem dJ17_vectorizedMismatch_93 : decode cJ17_vectorizedMismatch 93 = .ok (.lload 16, 2) := dk_22 16 (dk_at dksJ17_vectorizedMismatch_4 0 rfl rfl)
theorem dJ17_vectorizedMismatch_95 : decode cJ17_vectorizedMismatch 95 = .ok (.invokestatic 49, 3) := dk_184 0 49 (dk_at dksJ17_vectorizedMismatch_4 2 rfl rfl)
theorem dJ17_vectorizedMismatch_98 : decode cJ17_vectorizedMismatch 98 = .ok (.getstatic 46, 3) := dk_178 0 46 (dk_at dksJ17_vectorizedMismatch_4 5 rfl rfl)
theorem dJ17_vectorizedMismatch_101 : decode cJ17_vectorizedMismatch 101 = .ok (.iload 7, 2) := dk_21 7 (dk_at dksJ17_vectorizedMismatch_4 8 rfl rfl)
theorem dJ17_vectorizedMismatch_103 : decode cJ17_vectorizedMismatch 103 = .ok (.iadd, 1) := dk_96 (dk_at dksJ17_vectorizedMismatch_4 10 rfl rfl)
theorem dJ17_vectorizedMismatch_104 : decode cJ17_vectorizedMismatch 104 = .ok (.ishr, 1) := dk_122 (dk_at dksJ17_vectorizedMismatch_4 11 rfl rfl)
theorem dJ17_vectorizedMismatch_105 : decode cJ17_vectorizedMismatch 105 = .ok (.istore 18, 2) := dk_54 18 (dk_at dksJ17_vectorizedMismatch_4 12 rfl rfl)
theorem dJ17_vectorizedMismatch_107 : decode cJ17_vectorizedMismatch 107 = .ok (.iload 9, 2) := dk_21 9 (dk_at dksJ17_vectorizedMismatch_4 14 rfl rfl)
theorem dJ17_vectorizedMismatch_109 : decode cJ17_vectorizedMismatch 109 = .ok (.iload 8, 2) := dk_21 8 (dk_at dksJ17_vectorizedMismatch_4 16 rfl rfl)
theorem dJ17_vectorizedMismatch_111 : decode cJ17_vectorizedMismatch 111 = .ok (.ishl, 1) := dk_120 (dk_at dksJ17_vectorizedMismatch_4 18 rfl rfl)
theorem dJ17_vectorizedMismatch_112 : decode cJ17_vectorizedMismatch 112 = .ok (.iload 18, 2) := dk_21 18 (dk_at dksJ17_vectorizedMismatch_4 19 rfl rfl)
theorem dJ17_vectorizedMismatch_114 : decode cJ17_vectorizedMismatch 114 = .ok (.iadd, 1) := dk_96 (dk_at dksJ17_vectorizedMismatch_4 21 rfl rfl)
theorem dJ17_vectorizedMismatch_115 : decode cJ17_vectorizedMismatch 115 = .ok (.ireturn, 1) := dk_172 (dk_at dksJ17_vectorizedMismatch_4 22 rfl rfl)
theorem dJ17_vectorizedMismatch_116 : decode cJ17_vectorizedMismatch 116 = .ok (.iinc 9 1, 3) := dk_132 9 1 (dk_at dksJ17_vectorizedMismatch_5 0 rfl rfl)
theorem dJ17_vectorizedMismatch_119 : decode cJ17_vectorizedMismatch 119 = .ok (.goto (-108), 3) := dk_167 255 148 (dk_at dksJ17_vectorizedMismatch_5 3 rfl rfl)
theorem dJ17_vectorizedMismatch_122 : decode cJ17_vectorizedMismatch 122 = .ok (.iload 6, 2) := dk_21 6 (dk_at dksJ17_vectorizedMismatch_5 6 rfl rfl)
theorem dJ17_vectorizedMismatch_124 : decode cJ17_vectorizedMismatch 124 = .ok (.iload 9, 2) := dk_21 9 (dk_at dksJ17_vectorizedMismatch_5 8 rfl rfl)
theorem dJ17_vectorizedMismatch_126 : decode cJ17_vectorizedMismatch 126 = .ok (.iload 8, 2) := dk_21 8 (dk_at dksJ17_vectorizedMismatch_5 10 rfl rfl)
theorem dJ17_vectorizedMismatch_128 : decode cJ17_vectorizedMismatch 128 = .ok (.ishl, 1) := dk_120 (dk_at dksJ17_vectorizedMismatch_5 12 rfl rfl)
theorem dJ17_vectorizedMismatch_129 : decode cJ17_vectorizedMismatch 129 = .ok (.isub, 1) := dk_100 (dk_at dksJ17_vectorizedMismatch_5 13 rfl rfl)
theorem dJ17_vectorizedMismatch_130 : decode cJ17_vectorizedMismatch 130 = .ok (.istore 10, 2) := dk_54 10 (dk_at dksJ17_vectorizedMismatch_5 14 rfl rfl)
theorem dJ17_vectorizedMismatch_132 : decode cJ17_vectorizedMismatch 132 = .ok (.iload 7, 2) := dk_21 7 (dk_at dksJ17_vectorizedMismatch_5 16 rfl rfl)
theorem dJ17_vectorizedMismatch_134 : decode cJ17_vectorizedMismatch 134 = .ok (.getstatic 51, 3) := dk_178 0 51 (dk_at dksJ17_vectorizedMismatch_5 18 rfl rfl)
theorem dJ17_vectorizedMismatch_137 : decode cJ17_vectorizedMismatch 137 = .ok (.if_icmp .ge 126, 3) := dk_162 0 126 (dk_at dksJ17_vectorizedMismatch_5 21 rfl rfl)
theorem dJ17_vectorizedMismatch_140 : decode cJ17_vectorizedMismatch 140 = .ok (.iconst 1, 1) := dk_4 (dk_at dksJ17_vectorizedMismatch_6 0 rfl rfl)
theorem dJ17_vectorizedMismatch_141 : decode cJ17_vectorizedMismatch 141 = .ok (.getstatic 51, 3) := dk_178 0 51 (dk_at dksJ17_vectorizedMismatch_6 1 rfl rfl)
theorem dJ17_vectorizedMismatch_144 : decode cJ17_vectorizedMismatch 144 = .ok (.iload 7, 2) := dk_21 7 (dk_at dksJ17_vectorizedMismatch_6 4 rfl rfl)
theorem dJ17_vectorizedMismatch_146 : decode cJ17_vectorizedMismatch 146 = .ok (.isub, 1) := dk_100 (dk_at dksJ17_vectorizedMismatch_6 6 rfl rfl)
theorem dJ17_vectorizedMismatch_147 : decode cJ17_vectorizedMismatch 147 = .ok (.ishl, 1) := dk_120 (dk_at dksJ17_vectorizedMismatch_6 7 rfl rfl)
theorem dJ17_vectorizedMismatch_148 : decode cJ17_vectorizedMismatch 148 = .ok (.istore 11, 2) := dk_54 11 (dk_at dksJ17_vectorizedMismatch_6 8 rfl rfl)
theorem dJ17_vectorizedMismatch_150 : decode cJ17_vectorizedMismatch 150 = .ok (.iload 10, 2) := dk_21 10 (dk_at dksJ17_vectorizedMismatch_6 10 rfl rfl)
theorem dJ17_vectorizedMismatch_152 : decode cJ17_vectorizedMismatch 152 = .ok (.iload 11, 2) := dk_21 11 (dk_at dksJ17_vectorizedMismatch_6 12 rfl rfl)
theorem dJ17_vectorizedMismatch_154 : decode cJ17_vectorizedMismatch 154 = .ok (.if_icmp .lt 104, 3) := dk_161 0 104 (dk_at dksJ17_vectorizedMismatch_6 14 rfl rfl)
theorem dJ17_vectorizedMismatch_157 : decode cJ17_vectorizedMismatch 157 = .ok (.iload 9, 2) := dk_21 9 (dk_at dksJ17_vectorizedMismatch_6 17 rfl rfl)
theorem dJ17_vectorizedMismatch_159 : decode cJ17_vectorizedMismatch 159 = .ok (.i2l, 1) := dk_133 (dk_at dksJ17_vectorizedMismatch_6 19 rfl rfl)
theorem dJ17_vectorizedMismatch_160 : decode cJ17_vectorizedMismatch 160 = .ok (.getstatic 20, 3) := dk_178 0 20 (dk_at dksJ17_vectorizedMismatch_6 20 rfl rfl)
theorem dJ17_vectorizedMismatch_163 : decode cJ17_vectorizedMismatch 163 = .ok (.lshl, 1) := dk_121 (dk_at dksJ17_vectorizedMismatch_6 23 rfl rfl)
theorem dJ17_vectorizedMismatch_164 : decode cJ17_vectorizedMismatch 164 = .ok (.lstore 12, 2) := dk_55 12 (dk_at dksJ17_vectorizedMismatch_7 0 rfl rfl)
theorem dJ17_vectorizedMismatch_166 : decode cJ17_vectorizedMismatch 166 = .ok (.getstatic 26, 3) := dk_178 0 26 (dk_at dksJ17_vectorizedMismatch_7 2 rfl rfl)
theorem dJ17_vectorizedMismatch_169 : decode cJ17_vectorizedMismatch 169 = .ok (.aload_n 0, 1) := dk_42 (dk_at dksJ17_vectorizedMismatch_7 5 rfl rfl)
theorem dJ17_vectorizedMismatch_170 : decode cJ17_vectorizedMismatch 170 = .ok (.lload_n 1, 1) := dk_31 (dk_at dksJ17_vectorizedMismatch_7 6 rfl rfl)
theorem dJ17_vectorizedMismatch_171 : decode cJ17_vectorizedMismatch 171 = .ok (.lload 12, 2) := dk_22 12 (dk_at dksJ17_vectorizedMismatch_7 7 rfl rfl)
theorem dJ17_vectorizedMismatch_173 : decode cJ17_vectorizedMismatch 173 = .ok (.ladd, 1) := dk_97 (dk_at dksJ17_vectorizedMismatch_7 9 rfl rfl)
theorem dJ17_vectorizedMismatch_174 : decode cJ17_vectorizedMismatch 174 = .ok (.invokevirtual 54, 3) := dk_182 0 54 (dk_at dksJ17_vectorizedMismatch_7 10 rfl rfl)
theorem dJ17_vectorizedMismatch_177 : decode cJ17_vectorizedMismatch 177 = .ok (.istore 14, 2) := dk_54 14 (dk_at dksJ17_vectorizedMismatch_7 13 rfl rfl)
theorem dJ17_vectorizedMismatch_179 : decode cJ17_vectorizedMismatch 179 = .ok (.getstatic 26, 3) := dk_178 0 26 (dk_at dksJ17_vectorizedMismatch_7 15 rfl rfl)
theorem dJ17_vectorizedMismatch_182 : decode cJ17_vectorizedMismatch 182 = .ok (.aload_n 3, 1) := dk_45 (dk_at dksJ17_vectorizedMismatch_7 18 rfl rfl)
theorem dJ17_vectorizedMismatch_183 : decode cJ17_vectorizedMismatch 183 = .ok (.lload 4, 2) := dk_22 4 (dk_at dksJ17_vectorizedMismatch_7 19 rfl rfl)
theorem dJ17_vectorizedMismatch_185 : decode cJ17_vectorizedMismatch 185 = .ok (.lload 12, 2) := dk_22 12 (dk_at dksJ17_vectorizedMismatch_7 21 rfl rfl)
theorem dJ17_vectorizedMismatch_187 : decode cJ17_vectorizedMismatch 187 = .ok (.ladd, 1) := dk_97 (dk_at dksJ17_vectorizedMismatch_7 23 rfl rfl)
theorem dJ17_vectorizedMismatch_188 : decode cJ17_vectorizedMismatch 188 = .ok (.invokevirtual 54, 3) := dk_182 0 54 (dk_at dksJ17_vectorizedMismatch_8 0 rfl rfl)
theorem dJ17_vectorizedMismatch_191 : decode cJ17_vectorizedMismatch 191 = .ok (.istore 15, 2) := dk_54 15 (dk_at dksJ17_vectorizedMismatch_8 3 rfl rfl)
theorem dJ17_vectorizedMismatch_193 : decode cJ17_vectorizedMismatch 193 = .ok (.iload 14, 2) := dk_21 14 (dk_at dksJ17_vectorizedMismatch_8 5 rfl rfl)
theorem dJ17_vectorizedMismatch_195 : decode cJ17_vectorizedMismatch 195 = .ok (.iload 15, 2) := dk_21 15 (dk_at dksJ17_vectorizedMismatch_8 7 rfl rfl)
theorem dJ17_vectorizedMismatch_197 : decode cJ17_vectorizedMismatch 197 = .ok (.if_icmp .eq 54, 3) := dk_159 0 54 (dk_at dksJ17_vectorizedMismatch_8 9 rfl rfl)
theorem dJ17_vectorizedMismatch_200 : decode cJ17_vectorizedMismatch 200 = .ok (.iload 14, 2) := dk_21 14 (dk_at dksJ17_vectorizedMismatch_8 12 rfl rfl)
theorem dJ17_vectorizedMismatch_202 : decode cJ17_vectorizedMismatch 202 = .ok (.iload 15, 2) := dk_21 15 (dk_at dksJ17_vectorizedMismatch_8 14 rfl rfl)
theorem dJ17_vectorizedMismatch_204 : decode cJ17_vectorizedMismatch 204 = .ok (.ixor, 1) := dk_130 (dk_at dksJ17_vectorizedMismatch_8 16 rfl rfl)
theorem dJ17_vectorizedMismatch_205 : decode cJ17_vectorizedMismatch 205 = .ok (.istore 16, 2) := dk_54 16 (dk_at dksJ17_vectorizedMismatch_8 17 rfl rfl)
theorem dJ17_vectorizedMismatch_207 : decode cJ17_vectorizedMismatch 207 = .ok (.getstatic 36, 3) := dk_178 0 36 (dk_at dksJ17_vectorizedMismatch_8 19 rfl rfl)
theorem dJ17_vectorizedMismatch_210 : decode cJ17_vectorizedMismatch 210 = .ok (.ifCond .eq 18, 3) := dk_153 0 18 (dk_at dksJ17_vectorizedMismatch_9 0 rfl rfl)
theorem dJ17_vectorizedMismatch_213 : decode cJ17_vectorizedMismatch 213 = .ok (.iload 16, 2) := dk_21 16 (dk_at dksJ17_vectorizedMismatch_9 3 rfl rfl)
theorem dJ17_vectorizedMismatch_215 : decode cJ17_vectorizedMismatch 215 = .ok (.invokestatic 58, 3) := dk_184 0 58 (dk_at dksJ17_vectorizedMismatch_9 5 rfl rfl)
theorem dJ17_vectorizedMismatch_218 : decode cJ17_vectorizedMismatch 218 = .ok (.getstatic 46, 3) := dk_178 0 46 (dk_at dksJ17_vectorizedMismatch_9 8 rfl rfl)
theorem dJ17_vectorizedMismatch_221 : decode cJ17_vectorizedMismatch 221 = .ok (.iload 7, 2) := dk_21 7 (dk_at dksJ17_vectorizedMismatch_9 11 rfl rfl)
theorem dJ17_vectorizedMismatch_223 : decode cJ17_vectorizedMismatch 223 = .ok (.iadd, 1) := dk_96 (dk_at dksJ17_vectorizedMismatch_9 13 rfl rfl)
theorem dJ17_vectorizedMismatch_224 : decode cJ17_vectorizedMismatch 224 = .ok (.ishr, 1) := dk_122 (dk_at dksJ17_vectorizedMismatch_9 14 rfl rfl)
theorem dJ17_vectorizedMismatch_225 : decode cJ17_vectorizedMismatch 225 = .ok (.goto 15, 3) := dk_167 0 15 (dk_at dksJ17_vectorizedMismatch_9 15 rfl rfl)
theorem dJ17_vectorizedMismatch_228 : decode cJ17_vectorizedMismatch 228 = .ok (.iload 16, 2) := dk_21 16 (dk_at dksJ17_vectorizedMismatch_9 18 rfl rfl)
theorem dJ17_vectorizedMismatch_230 : decode cJ17_vectorizedMismatch 230 = .ok (.invokestatic 11, 3) := dk_184 0 11 (dk_at dksJ17_vectorizedMismatch_9 20 rfl rfl)
theorem dJ17_vectorizedMismatch_233 : decode cJ17_vectorizedMismatch 233 = .ok (.getstatic 46, 3) := dk_178 0 46 (dk_at dksJ17_vectorizedMismatch_10 0 rfl rfl)
theorem dJ17_vectorizedMismatch_236 : decode cJ17_vectorizedMismatch 236 = .ok (.iload 7, 2) := dk_21 7 (dk_at dksJ17_vectorizedMismatch_10 3 rfl rfl)
theorem dJ17_vectorizedMismatch_238 : decode cJ17_vectorizedMismatch 238 = .ok (.iadd, 1) := dk_96 (dk_at dksJ17_vectorizedMismatch_10 5 rfl rfl)
theorem dJ17_vectorizedMismatch_239 : decode cJ17_vectorizedMismatch 239 = .ok (.ishr, 1) := dk_122 (dk_at dksJ17_vectorizedMismatch_10 6 rfl rfl)
theorem dJ17_vectorizedMismatch_240 : decode cJ17_vectorizedMismatch 240 = .ok (.istore 17, 2) := dk_54 17 (dk_at dksJ17_vectorizedMismatch_10 7 rfl rfl)
theorem dJ17_vectorizedMismatch_242 : decode cJ17_vectorizedMismatch 242 = .ok (.iload 9, 2) := dk_21 9 (dk_at dksJ17_vectorizedMismatch_10 9 rfl rfl)
theorem dJ17_vectorizedMismatch_244 : decode cJ17_vectorizedMismatch 244 = .ok (.iload 8, 2) := dk_21 8 (dk_at dksJ17_vectorizedMismatch_10 11 rfl rfl)
theorem dJ17_vectorizedMismatch_246 : decode cJ17_vectorizedMismatch 246 = .ok (.ishl, 1) := dk_120 (dk_at dksJ17_vectorizedMismatch_10 13 rfl rfl)
theorem dJ17_vectorizedMismatch_247 : decode cJ17_vectorizedMismatch 247 = .ok (.iload 17, 2) := dk_21 17 (dk_at dksJ17_vectorizedMismatch_10 14 rfl rfl)
theorem dJ17_vectorizedMismatch_249 : decode cJ17_vectorizedMismatch 249 = .ok (.iadd, 1) := dk_96 (dk_at dksJ17_vectorizedMismatch_10 16 rfl rfl)
theorem dJ17_vectorizedMismatch_250 : decode cJ17_vectorizedMismatch 250 = .ok (.ireturn, 1) := dk_172 (dk_at dksJ17_vectorizedMismatch_10 17 rfl rfl)
theorem dJ17_vectorizedMismatch_251 : decode cJ17_vectorizedMismatch 251 = .ok (.iload 10, 2) := dk_21 10 (dk_at dksJ17_vectorizedMismatch_10 18 rfl rfl)
theorem dJ17_vectorizedMismatch_253 : decode cJ17_vectorizedMismatch 253 = .ok (.iload 11, 2) := dk_21 11 (dk_at dksJ17_vectorizedMismatch_10 20 rfl rfl)
theorem dJ17_vectorizedMismatch_255 : decode cJ17_vectorizedMismatch 255 = .ok (.isub, 1) := dk_100 (dk_at dksJ17_vectorizedMismatch_10 22 rfl rfl)
theorem dJ17_vectorizedMismatch_256 : decode cJ17_vectorizedMismatch 256 = .ok (.istore 10, 2) := dk_54 10 (dk_at dksJ17_vectorizedMismatch_11 0 rfl rfl)
theorem dJ17_vectorizedMismatch_258 : decode cJ17_vectorizedMismatch 258 = .ok (.iload 10, 2) := dk_21 10 (dk_at dksJ17_vectorizedMismatch_11 2 rfl rfl)
theorem dJ17_vectorizedMismatch_260 : decode cJ17_vectorizedMismatch 260 = .ok (.iconst (-1), 1) := dk_2 (dk_at dksJ17_vectorizedMismatch_11 4 rfl rfl)
theorem dJ17_vectorizedMismatch_261 : decode cJ17_vectorizedMismatch 261 = .ok (.ixor, 1) := dk_130 (dk_at dksJ17_vectorizedMismatch_11 5 rfl rfl)
theorem dJ17_vectorizedMismatch_262 : decode cJ17_vectorizedMismatch 262 = .ok (.ireturn, 1) := dk_172 (dk_at dksJ17_vectorizedMismatch_11 6 rfl rfl)
theorem dJ17_vectorizedMismatch_263 : decode cJ17_vectorizedMismatch 263 = .ok (.iload 10, 2) := dk_21 10 (dk_at dksJ17_vectorizedMismatch_11 7 rfl rfl)
theorem dJ17_vectorizedMismatch_265 : decode cJ17_vectorizedMismatch 265 = .ok (.iconst (-1), 1) := dk_2 (dk_at dksJ17_vectorizedMismatch_11 9 rfl rfl)
theorem dJ17_vectorizedMismatch_266 : decode cJ17_vectorizedMismatch 266 = .ok (.ixor, 1) := dk_130 (dk_at dksJ17_vectorizedMismatch_11 10 rfl rfl)
theorem dJ17_vectorizedMismatch_267 : decode cJ17_vectorizedMismatch 267 = .ok (.ireturn, 1) := dk_172 (dk_at dksJ17_vectorizedMismatch_11 11 rfl rfl)
abbrev cJ17_vectorizedHashCode : ByteArray := prog_100_method_4_code
def yJ17_vectorizedHashCode : MethodName := ⟨RJ17, "vectorizedHashCode", "(Ljava/lang/Object;IIII)I"⟩
def dkwJ17_vectorizedHashCode_6 : List UInt8 := [183, 0, 91, 18, 92, 182, 0, 94, 21, 4, 182, 0, 98, 182, 0, 101, 183, 0, 105, 191, 172]
abbrev dktJ17_vectorizedHashCode_6 : List UInt8 := dkwJ17_vectorizedHashCode_6 ++ []
def dkwJ17_vectorizedHashCode_5 : List UInt8 := [167, 0, 44, 29, 42, 192, 0, 82, 27, 28, 184, 0, 84, 167, 0, 31, 187, 0, 87, 89, 187, 0, 89, 89]
abbrev dktJ17_vectorizedHashCode_5 : List UInt8 := dkwJ17_vectorizedHashCode_5 ++ dktJ17_vectorizedHashCode_6
def dkwJ17_vectorizedHashCode_4 : List UInt8 := [29, 42, 192, 0, 60, 27, 28, 184, 0, 75, 167, 0, 57, 29, 42, 192, 0, 77, 27, 28, 184, 0, 79]
abbrev dktJ17_vectorizedHashCode_4 : List UInt8 := dkwJ17_vectorizedHashCode_4 ++ dktJ17_vectorizedHashCode_5
def dkwJ17_vectorizedHashCode_3 : List UInt8 := [192, 0, 60, 27, 28, 184, 0, 66, 167, 0, 83, 29, 42, 192, 0, 69, 27, 28, 184, 0, 71, 167, 0, 70]
abbrev dktJ17_vectorizedHashCode_3 : List UInt8 := dkwJ17_vectorizedHashCode_3 ++ dktJ17_vectorizedHashCode_4
def dkwJ17_vectorizedHashCode_2 : List UInt8 := [29, 42, 192, 0, 60, 27, 28, 184, 0, 62, 167, 0, 103, 42, 193, 0, 60, 153, 0, 16, 29, 42]
abbrev dktJ17_vectorizedHashCode_2 : List UInt8 := dkwJ17_vectorizedHashCode_2 ++ dktJ17_vectorizedHashCode_3
def dkwJ17_vectorizedHashCode_1 : List UInt8 := [170, 0, 0, 0, 0, 127, 0, 0, 0, 4, 0, 0, 0, 10, 0, 0, 0, 42, 0, 0, 0, 55, 0, 0, 0, 127, 0, 0, 0, 127, 0, 0, 0, 88, 0, 0, 0, 101, 0, 0, 0, 114]
abbrev dktJ17_vectorizedHashCode_1 : List UInt8 := dkwJ17_vectorizedHashCode_1 ++ dktJ17_vectorizedHashCode_2
def dkwJ17_vectorizedHashCode_0 : List UInt8 := [21, 4]
abbrev dktJ17_vectorizedHashCode_0 : List UInt8 := dkwJ17_vectorizedHashCode_0 ++ dktJ17_vectorizedHashCode_1
theorem dksJ17_vectorizedHashCode_0 : cJ17_vectorizedHashCode.data.toList.drop 0 = dktJ17_vectorizedHashCode_0 := by decide +kernel
theorem dksJ17_vectorizedHashCode_1 : cJ17_vectorizedHashCode.data.toList.drop 2 = dktJ17_vectorizedHashCode_1 := dk_seg dksJ17_vectorizedHashCode_0 2 rfl rfl
theorem dksJ17_vectorizedHashCode_2 : cJ17_vectorizedHashCode.data.toList.drop 44 = dktJ17_vectorizedHashCode_2 := dk_seg dksJ17_vectorizedHashCode_1 42 rfl rfl
theorem dksJ17_vectorizedHashCode_3 : cJ17_vectorizedHashCode.data.toList.drop 66 = dktJ17_vectorizedHashCode_3 := dk_seg dksJ17_vectorizedHashCode_2 22 rfl rfl
theorem dksJ17_vectorizedHashCode_4 : cJ17_vectorizedHashCode.data.toList.drop 90 = dktJ17_vectorizedHashCode_4 := dk_seg dksJ17_vectorizedHashCode_3 24 rfl rfl
theorem dksJ17_vectorizedHashCode_5 : cJ17_vectorizedHashCode.data.toList.drop 113 = dktJ17_vectorizedHashCode_5 := dk_seg dksJ17_vectorizedHashCode_4 23 rfl rfl
theorem dksJ17_vectorizedHashCode_6 : cJ17_vectorizedHashCode.data.toList.drop 137 = dktJ17_vectorizedHashCode_6 := dk_seg dksJ17_vectorizedHashCode_5 24 rfl rfl
theorem dJ17_vectorizedHashCode_0 : decode cJ17_vectorizedHashCode 0 = .ok (.iload 4, 2) := dk_21 4 (dk_at dksJ17_vectorizedHashCode_0 0 rfl rfl)
theorem dJ17_vectorizedHashCode_2 : decode cJ17_vectorizedHashCode 2 = .ok (.tableswitch 127 4 10 #[42, 55, 127, 127, 88, 101, 114], 42) := by decide +kernel
theorem dJ17_vectorizedHashCode_44 : decode cJ17_vectorizedHashCode 44 = .ok (.iload_n 3, 1) := dk_29 (dk_at dksJ17_vectorizedHashCode_2 0 rfl rfl)
theorem dJ17_vectorizedHashCode_45 : decode cJ17_vectorizedHashCode 45 = .ok (.aload_n 0, 1) := dk_42 (dk_at dksJ17_vectorizedHashCode_2 1 rfl rfl)
theorem dJ17_vectorizedHashCode_46 : decode cJ17_vectorizedHashCode 46 = .ok (.checkcast 60, 3) := dk_192 0 60 (dk_at dksJ17_vectorizedHashCode_2 2 rfl rfl)
theorem dJ17_vectorizedHashCode_49 : decode cJ17_vectorizedHashCode 49 = .ok (.iload_n 1, 1) := dk_27 (dk_at dksJ17_vectorizedHashCode_2 5 rfl rfl)
theorem dJ17_vectorizedHashCode_50 : decode cJ17_vectorizedHashCode 50 = .ok (.iload_n 2, 1) := dk_28 (dk_at dksJ17_vectorizedHashCode_2 6 rfl rfl)
theorem dJ17_vectorizedHashCode_51 : decode cJ17_vectorizedHashCode 51 = .ok (.invokestatic 62, 3) := dk_184 0 62 (dk_at dksJ17_vectorizedHashCode_2 7 rfl rfl)
theorem dJ17_vectorizedHashCode_54 : decode cJ17_vectorizedHashCode 54 = .ok (.goto 103, 3) := dk_167 0 103 (dk_at dksJ17_vectorizedHashCode_2 10 rfl rfl)
theorem dJ17_vectorizedHashCode_57 : decode cJ17_vectorizedHashCode 57 = .ok (.aload_n 0, 1) := dk_42 (dk_at dksJ17_vectorizedHashCode_2 13 rfl rfl)
theorem dJ17_vectorizedHashCode_58 : decode cJ17_vectorizedHashCode 58 = .ok (.instanceof 60, 3) := dk_193 0 60 (dk_at dksJ17_vectorizedHashCode_2 14 rfl rfl)
theorem dJ17_vectorizedHashCode_61 : decode cJ17_vectorizedHashCode 61 = .ok (.ifCond .eq 16, 3) := dk_153 0 16 (dk_at dksJ17_vectorizedHashCode_2 17 rfl rfl)
theorem dJ17_vectorizedHashCode_64 : decode cJ17_vectorizedHashCode 64 = .ok (.iload_n 3, 1) := dk_29 (dk_at dksJ17_vectorizedHashCode_2 20 rfl rfl)
theorem dJ17_vectorizedHashCode_65 : decode cJ17_vectorizedHashCode 65 = .ok (.aload_n 0, 1) := dk_42 (dk_at dksJ17_vectorizedHashCode_2 21 rfl rfl)
theorem dJ17_vectorizedHashCode_66 : decode cJ17_vectorizedHashCode 66 = .ok (.checkcast 60, 3) := dk_192 0 60 (dk_at dksJ17_vectorizedHashCode_3 0 rfl rfl)
theorem dJ17_vectorizedHashCode_69 : decode cJ17_vectorizedHashCode 69 = .ok (.iload_n 1, 1) := dk_27 (dk_at dksJ17_vectorizedHashCode_3 3 rfl rfl)
theorem dJ17_vectorizedHashCode_70 : decode cJ17_vectorizedHashCode 70 = .ok (.iload_n 2, 1) := dk_28 (dk_at dksJ17_vectorizedHashCode_3 4 rfl rfl)
theorem dJ17_vectorizedHashCode_71 : decode cJ17_vectorizedHashCode 71 = .ok (.invokestatic 66, 3) := dk_184 0 66 (dk_at dksJ17_vectorizedHashCode_3 5 rfl rfl)
theorem dJ17_vectorizedHashCode_74 : decode cJ17_vectorizedHashCode 74 = .ok (.goto 83, 3) := dk_167 0 83 (dk_at dksJ17_vectorizedHashCode_3 8 rfl rfl)
theorem dJ17_vectorizedHashCode_77 : decode cJ17_vectorizedHashCode 77 = .ok (.iload_n 3, 1) := dk_29 (dk_at dksJ17_vectorizedHashCode_3 11 rfl rfl)
theorem dJ17_vectorizedHashCode_78 : decode cJ17_vectorizedHashCode 78 = .ok (.aload_n 0, 1) := dk_42 (dk_at dksJ17_vectorizedHashCode_3 12 rfl rfl)
theorem dJ17_vectorizedHashCode_79 : decode cJ17_vectorizedHashCode 79 = .ok (.checkcast 69, 3) := dk_192 0 69 (dk_at dksJ17_vectorizedHashCode_3 13 rfl rfl)
theorem dJ17_vectorizedHashCode_82 : decode cJ17_vectorizedHashCode 82 = .ok (.iload_n 1, 1) := dk_27 (dk_at dksJ17_vectorizedHashCode_3 16 rfl rfl)
theorem dJ17_vectorizedHashCode_83 : decode cJ17_vectorizedHashCode 83 = .ok (.iload_n 2, 1) := dk_28 (dk_at dksJ17_vectorizedHashCode_3 17 rfl rfl)
theorem dJ17_vectorizedHashCode_84 : decode cJ17_vectorizedHashCode 84 = .ok (.invokestatic 71, 3) := dk_184 0 71 (dk_at dksJ17_vectorizedHashCode_3 18 rfl rfl)
theorem dJ17_vectorizedHashCode_87 : decode cJ17_vectorizedHashCode 87 = .ok (.goto 70, 3) := dk_167 0 70 (dk_at dksJ17_vectorizedHashCode_3 21 rfl rfl)
theorem dJ17_vectorizedHashCode_90 : decode cJ17_vectorizedHashCode 90 = .ok (.iload_n 3, 1) := dk_29 (dk_at dksJ17_vectorizedHashCode_4 0 rfl rfl)
theorem dJ17_vectorizedHashCode_91 : decode cJ17_vectorizedHashCode 91 = .ok (.aload_n 0, 1) := dk_42 (dk_at dksJ17_vectorizedHashCode_4 1 rfl rfl)
theorem dJ17_vectorizedHashCode_92 : decode cJ17_vectorizedHashCode 92 = .ok (.checkcast 60, 3) := dk_192 0 60 (dk_at dksJ17_vectorizedHashCode_4 2 rfl rfl)
theorem dJ17_vectorizedHashCode_95 : decode cJ17_vectorizedHashCode 95 = .ok (.iload_n 1, 1) := dk_27 (dk_at dksJ17_vectorizedHashCode_4 5 rfl rfl)
theorem dJ17_vectorizedHashCode_96 : decode cJ17_vectorizedHashCode 96 = .ok (.iload_n 2, 1) := dk_28 (dk_at dksJ17_vectorizedHashCode_4 6 rfl rfl)
theorem dJ17_vectorizedHashCode_97 : decode cJ17_vectorizedHashCode 97 = .ok (.invokestatic 75, 3) := dk_184 0 75 (dk_at dksJ17_vectorizedHashCode_4 7 rfl rfl)
theorem dJ17_vectorizedHashCode_100 : decode cJ17_vectorizedHashCode 100 = .ok (.goto 57, 3) := dk_167 0 57 (dk_at dksJ17_vectorizedHashCode_4 10 rfl rfl)
theorem dJ17_vectorizedHashCode_103 : decode cJ17_vectorizedHashCode 103 = .ok (.iload_n 3, 1) := dk_29 (dk_at dksJ17_vectorizedHashCode_4 13 rfl rfl)
theorem dJ17_vectorizedHashCode_104 : decode cJ17_vectorizedHashCode 104 = .ok (.aload_n 0, 1) := dk_42 (dk_at dksJ17_vectorizedHashCode_4 14 rfl rfl)
theorem dJ17_vectorizedHashCode_105 : decode cJ17_vectorizedHashCode 105 = .ok (.checkcast 77, 3) := dk_192 0 77 (dk_at dksJ17_vectorizedHashCode_4 15 rfl rfl)
theorem dJ17_vectorizedHashCode_108 : decode cJ17_vectorizedHashCode 108 = .ok (.iload_n 1, 1) := dk_27 (dk_at dksJ17_vectorizedHashCode_4 18 rfl rfl)
theorem dJ17_vectorizedHashCode_109 : decode cJ17_vectorizedHashCode 109 = .ok (.iload_n 2, 1) := dk_28 (dk_at dksJ17_vectorizedHashCode_4 19 rfl rfl)
theorem dJ17_vectorizedHashCode_110 : decode cJ17_vectorizedHashCode 110 = .ok (.invokestatic 79, 3) := dk_184 0 79 (dk_at dksJ17_vectorizedHashCode_4 20 rfl rfl)
theorem dJ17_vectorizedHashCode_113 : decode cJ17_vectorizedHashCode 113 = .ok (.goto 44, 3) := dk_167 0 44 (dk_at dksJ17_vectorizedHashCode_5 0 rfl rfl)
theorem dJ17_vectorizedHashCode_116 : decode cJ17_vectorizedHashCode 116 = .ok (.iload_n 3, 1) := dk_29 (dk_at dksJ17_vectorizedHashCode_5 3 rfl rfl)
theorem dJ17_vectorizedHashCode_117 : decode cJ17_vectorizedHashCode 117 = .ok (.aload_n 0, 1) := dk_42 (dk_at dksJ17_vectorizedHashCode_5 4 rfl rfl)
theorem dJ17_vectorizedHashCode_118 : decode cJ17_vectorizedHashCode 118 = .ok (.checkcast 82, 3) := dk_192 0 82 (dk_at dksJ17_vectorizedHashCode_5 5 rfl rfl)
theorem dJ17_vectorizedHashCode_121 : decode cJ17_vectorizedHashCode 121 = .ok (.iload_n 1, 1) := dk_27 (dk_at dksJ17_vectorizedHashCode_5 8 rfl rfl)
theorem dJ17_vectorizedHashCode_122 : decode cJ17_vectorizedHashCode 122 = .ok (.iload_n 2, 1) := dk_28 (dk_at dksJ17_vectorizedHashCode_5 9 rfl rfl)
theorem dJ17_vectorizedHashCode_123 : decode cJ17_vectorizedHashCode 123 = .ok (.invokestatic 84, 3) := dk_184 0 84 (dk_at dksJ17_vectorizedHashCode_5 10 rfl rfl)
theorem dJ17_vectorizedHashCode_126 : decode cJ17_vectorizedHashCode 126 = .ok (.goto 31, 3) := dk_167 0 31 (dk_at dksJ17_vectorizedHashCode_5 13 rfl rfl)
theorem dJ17_vectorizedHashCode_129 : decode cJ17_vectorizedHashCode 129 = .ok (.new 87, 3) := dk_187 0 87 (dk_at dksJ17_vectorizedHashCode_5 16 rfl rfl)
theorem dJ17_vectorizedHashCode_132 : decode cJ17_vectorizedHashCode 132 = .ok (.dup, 1) := dk_89 (dk_at dksJ17_vectorizedHashCode_5 19 rfl rfl)
theorem dJ17_vectorizedHashCode_133 : decode cJ17_vectorizedHashCode 133 = .ok (.new 89, 3) := dk_187 0 89 (dk_at dksJ17_vectorizedHashCode_5 20 rfl rfl)
theorem dJ17_vectorizedHashCode_136 : decode cJ17_vectorizedHashCode 136 = .ok (.dup, 1) := dk_89 (dk_at dksJ17_vectorizedHashCode_5 23 rfl rfl)
theorem dJ17_vectorizedHashCode_137 : decode cJ17_vectorizedHashCode 137 = .ok (.invokespecial 91, 3) := dk_183 0 91 (dk_at dksJ17_vectorizedHashCode_6 0 rfl rfl)
theorem dJ17_vectorizedHashCode_140 : decode cJ17_vectorizedHashCode 140 = .ok (.ldc 92, 2) := dk_18 92 (dk_at dksJ17_vectorizedHashCode_6 3 rfl rfl)
theorem dJ17_vectorizedHashCode_142 : decode cJ17_vectorizedHashCode 142 = .ok (.invokevirtual 94, 3) := dk_182 0 94 (dk_at dksJ17_vectorizedHashCode_6 5 rfl rfl)
theorem dJ17_vectorizedHashCode_145 : decode cJ17_vectorizedHashCode 145 = .ok (.iload 4, 2) := dk_21 4 (dk_at dksJ17_vectorizedHashCode_6 8 rfl rfl)
theorem dJ17_vectorizedHashCode_147 : decode cJ17_vectorizedHashCode 147 = .ok (.invokevirtual 98, 3) := dk_182 0 98 (dk_at dksJ17_vectorizedHashCode_6 10 rfl rfl)
theorem dJ17_vectorizedHashCode_150 : decode cJ17_vectorizedHashCode 150 = .ok (.invokevirtual 101, 3) := dk_182 0 101 (dk_at dksJ17_vectorizedHashCode_6 13 rfl rfl)
theorem dJ17_vectorizedHashCode_153 : decode cJ17_vectorizedHashCode 153 = .ok (.invokespecial 105, 3) := dk_183 0 105 (dk_at dksJ17_vectorizedHashCode_6 16 rfl rfl)
theorem dJ17_vectorizedHashCode_156 : decode cJ17_vectorizedHashCode 156 = .ok (.athrow, 1) := dk_191 (dk_at dksJ17_vectorizedHashCode_6 19 rfl rfl)
theorem dJ17_vectorizedHashCode_157 : decode cJ17_vectorizedHashCode 157 = .ok (.ireturn, 1) := dk_172 (dk_at dksJ17_vectorizedHashCode_6 20 rfl rfl)
abbrev cJ17_signedHashCode : ByteArray := prog_100_method_5_code
def yJ17_signedHashCode : MethodName := ⟨RJ17, "signedHashCode", "(I[BII)I"⟩
def dkwJ17_signedHashCode_1 : List UInt8 := [17, 0, 255, 126, 96, 59, 132, 5, 1, 167, 255, 232, 26, 172]
abbrev dktJ17_signedHashCode_1 : List UInt8 := dkwJ17_signedHashCode_1 ++ []
def dkwJ17_signedHashCode_0 : List UInt8 := [28, 29, 96, 54, 4, 28, 54, 5, 21, 5, 21, 4, 162, 0, 23, 16, 31, 26, 104, 43, 21, 5, 51]
abbrev dktJ17_signedHashCode_0 : List UInt8 := dkwJ17_signedHashCode_0 ++ dktJ17_signedHashCode_1
theorem dksJ17_signedHashCode_0 : cJ17_signedHashCode.data.toList.drop 0 = dktJ17_signedHashCode_0 := by decide +kernel
theorem dksJ17_signedHashCode_1 : cJ17_signedHashCode.data.toList.drop 23 = dktJ17_signedHashCode_1 := dk_seg dksJ17_signedHashCode_0 23 rfl rfl
theorem dJ17_signedHashCode_0 : decode cJ17_signedHashCode 0 = .ok (.iload_n 2, 1) := dk_28 (dk_at dksJ17_signedHashCode_0 0 rfl rfl)
theorem dJ17_signedHashCode_1 : decode cJ17_signedHashCode 1 = .ok (.iload_n 3, 1) := dk_29 (dk_at dksJ17_signedHashCode_0 1 rfl rfl)
theorem dJ17_signedHashCode_2 : decode cJ17_signedHashCode 2 = .ok (.iadd, 1) := dk_96 (dk_at dksJ17_signedHashCode_0 2 rfl rfl)
theorem dJ17_signedHashCode_3 : decode cJ17_signedHashCode 3 = .ok (.istore 4, 2) := dk_54 4 (dk_at dksJ17_signedHashCode_0 3 rfl rfl)
theorem dJ17_signedHashCode_5 : decode cJ17_signedHashCode 5 = .ok (.iload_n 2, 1) := dk_28 (dk_at dksJ17_signedHashCode_0 5 rfl rfl)
theorem dJ17_signedHashCode_6 : decode cJ17_signedHashCode 6 = .ok (.istore 5, 2) := dk_54 5 (dk_at dksJ17_signedHashCode_0 6 rfl rfl)
theorem dJ17_signedHashCode_8 : decode cJ17_signedHashCode 8 = .ok (.iload 5, 2) := dk_21 5 (dk_at dksJ17_signedHashCode_0 8 rfl rfl)
theorem dJ17_signedHashCode_10 : decode cJ17_signedHashCode 10 = .ok (.iload 4, 2) := dk_21 4 (dk_at dksJ17_signedHashCode_0 10 rfl rfl)
theorem dJ17_signedHashCode_12 : decode cJ17_signedHashCode 12 = .ok (.if_icmp .ge 23, 3) := dk_162 0 23 (dk_at dksJ17_signedHashCode_0 12 rfl rfl)
theorem dJ17_signedHashCode_15 : decode cJ17_signedHashCode 15 = .ok (.bipush 31, 2) := dk_16 31 (dk_at dksJ17_signedHashCode_0 15 rfl rfl)
theorem dJ17_signedHashCode_17 : decode cJ17_signedHashCode 17 = .ok (.iload_n 0, 1) := dk_26 (dk_at dksJ17_signedHashCode_0 17 rfl rfl)
theorem dJ17_signedHashCode_18 : decode cJ17_signedHashCode 18 = .ok (.imul, 1) := dk_104 (dk_at dksJ17_signedHashCode_0 18 rfl rfl)
theorem dJ17_signedHashCode_19 : decode cJ17_signedHashCode 19 = .ok (.aload_n 1, 1) := dk_43 (dk_at dksJ17_signedHashCode_0 19 rfl rfl)
theorem dJ17_signedHashCode_20 : decode cJ17_signedHashCode 20 = .ok (.iload 5, 2) := dk_21 5 (dk_at dksJ17_signedHashCode_0 20 rfl rfl)
theorem dJ17_signedHashCode_22 : decode cJ17_signedHashCode 22 = .ok (.baload, 1) := dk_51 (dk_at dksJ17_signedHashCode_0 22 rfl rfl)
theorem dJ17_signedHashCode_23 : decode cJ17_signedHashCode 23 = .ok (.sipush 255, 3) := dk_17 0 255 (dk_at dksJ17_signedHashCode_1 0 rfl rfl)
theorem dJ17_signedHashCode_26 : decode cJ17_signedHashCode 26 = .ok (.iand, 1) := dk_126 (dk_at dksJ17_signedHashCode_1 3 rfl rfl)
theorem dJ17_signedHashCode_27 : decode cJ17_signedHashCode 27 = .ok (.iadd, 1) := dk_96 (dk_at dksJ17_signedHashCode_1 4 rfl rfl)
theorem dJ17_signedHashCode_28 : decode cJ17_signedHashCode 28 = .ok (.istore_n 0, 1) := dk_59 (dk_at dksJ17_signedHashCode_1 5 rfl rfl)
theorem dJ17_signedHashCode_29 : decode cJ17_signedHashCode 29 = .ok (.iinc 5 1, 3) := dk_132 5 1 (dk_at dksJ17_signedHashCode_1 6 rfl rfl)
theorem dJ17_signedHashCode_32 : decode cJ17_signedHashCode 32 = .ok (.goto (-24), 3) := dk_167 255 232 (dk_at dksJ17_signedHashCode_1 9 rfl rfl)
theorem dJ17_signedHashCode_35 : decode cJ17_signedHashCode 35 = .ok (.iload_n 0, 1) := dk_26 (dk_at dksJ17_signedHashCode_1 12 rfl rfl)
theorem dJ17_signedHashCode_36 : decode cJ17_signedHashCode 36 = .ok (.ireturn, 1) := dk_172 (dk_at dksJ17_signedHashCode_1 13 rfl rfl)
abbrev cJ17_utf16hashCode : ByteArray := prog_100_method_10_code
def yJ17_utf16hashCode : MethodName := ⟨RJ17, "utf16hashCode", "(I[BII)I"⟩
def dkwJ17_utf16hashCode_1 : List UInt8 := [21, 5, 185, 0, 110, 3, 0, 96, 59, 132, 5, 1, 167, 255, 229, 26, 172]
abbrev dktJ17_utf16hashCode_1 : List UInt8 := dkwJ17_utf16hashCode_1 ++ []
def dkwJ17_utf16hashCode_0 : List UInt8 := [28, 29, 96, 54, 4, 28, 54, 5, 21, 5, 21, 4, 162, 0, 26, 16, 31, 26, 104, 178, 0, 106, 43]
abbrev dktJ17_utf16hashCode_0 : List UInt8 := dkwJ17_utf16hashCode_0 ++ dktJ17_utf16hashCode_1
theorem dksJ17_utf16hashCode_0 : cJ17_utf16hashCode.data.toList.drop 0 = dktJ17_utf16hashCode_0 := by decide +kernel
theorem dksJ17_utf16hashCode_1 : cJ17_utf16hashCode.data.toList.drop 23 = dktJ17_utf16hashCode_1 := dk_seg dksJ17_utf16hashCode_0 23 rfl rfl
theorem dJ17_utf16hashCode_0 : decode cJ17_utf16hashCode 0 = .ok (.iload_n 2, 1) := dk_28 (dk_at dksJ17_utf16hashCode_0 0 rfl rfl)
theorem dJ17_utf16hashCode_1 : decode cJ17_utf16hashCode 1 = .ok (.iload_n 3, 1) := dk_29 (dk_at dksJ17_utf16hashCode_0 1 rfl rfl)
theorem dJ17_utf16hashCode_2 : decode cJ17_utf16hashCode 2 = .ok (.iadd, 1) := dk_96 (dk_at dksJ17_utf16hashCode_0 2 rfl rfl)
theorem dJ17_utf16hashCode_3 : decode cJ17_utf16hashCode 3 = .ok (.istore 4, 2) := dk_54 4 (dk_at dksJ17_utf16hashCode_0 3 rfl rfl)
theorem dJ17_utf16hashCode_5 : decode cJ17_utf16hashCode 5 = .ok (.iload_n 2, 1) := dk_28 (dk_at dksJ17_utf16hashCode_0 5 rfl rfl)
theorem dJ17_utf16hashCode_6 : decode cJ17_utf16hashCode 6 = .ok (.istore 5, 2) := dk_54 5 (dk_at dksJ17_utf16hashCode_0 6 rfl rfl)
theorem dJ17_utf16hashCode_8 : decode cJ17_utf16hashCode 8 = .ok (.iload 5, 2) := dk_21 5 (dk_at dksJ17_utf16hashCode_0 8 rfl rfl)
theorem dJ17_utf16hashCode_10 : decode cJ17_utf16hashCode 10 = .ok (.iload 4, 2) := dk_21 4 (dk_at dksJ17_utf16hashCode_0 10 rfl rfl)
theorem dJ17_utf16hashCode_12 : decode cJ17_utf16hashCode 12 = .ok (.if_icmp .ge 26, 3) := dk_162 0 26 (dk_at dksJ17_utf16hashCode_0 12 rfl rfl)
theorem dJ17_utf16hashCode_15 : decode cJ17_utf16hashCode 15 = .ok (.bipush 31, 2) := dk_16 31 (dk_at dksJ17_utf16hashCode_0 15 rfl rfl)
theorem dJ17_utf16hashCode_17 : decode cJ17_utf16hashCode 17 = .ok (.iload_n 0, 1) := dk_26 (dk_at dksJ17_utf16hashCode_0 17 rfl rfl)
theorem dJ17_utf16hashCode_18 : decode cJ17_utf16hashCode 18 = .ok (.imul, 1) := dk_104 (dk_at dksJ17_utf16hashCode_0 18 rfl rfl)
theorem dJ17_utf16hashCode_19 : decode cJ17_utf16hashCode 19 = .ok (.getstatic 106, 3) := dk_178 0 106 (dk_at dksJ17_utf16hashCode_0 19 rfl rfl)
theorem dJ17_utf16hashCode_22 : decode cJ17_utf16hashCode 22 = .ok (.aload_n 1, 1) := dk_43 (dk_at dksJ17_utf16hashCode_0 22 rfl rfl)
theorem dJ17_utf16hashCode_23 : decode cJ17_utf16hashCode 23 = .ok (.iload 5, 2) := dk_21 5 (dk_at dksJ17_utf16hashCode_1 0 rfl rfl)
theorem dJ17_utf16hashCode_25 : decode cJ17_utf16hashCode 25 = .ok (.invokeinterface 110 3, 5) := by decide +kernel
theorem dJ17_utf16hashCode_30 : decode cJ17_utf16hashCode 30 = .ok (.iadd, 1) := dk_96 (dk_at dksJ17_utf16hashCode_1 7 rfl rfl)
theorem dJ17_utf16hashCode_31 : decode cJ17_utf16hashCode 31 = .ok (.istore_n 0, 1) := dk_59 (dk_at dksJ17_utf16hashCode_1 8 rfl rfl)
theorem dJ17_utf16hashCode_32 : decode cJ17_utf16hashCode 32 = .ok (.iinc 5 1, 3) := dk_132 5 1 (dk_at dksJ17_utf16hashCode_1 9 rfl rfl)
theorem dJ17_utf16hashCode_35 : decode cJ17_utf16hashCode 35 = .ok (.goto (-27), 3) := dk_167 255 229 (dk_at dksJ17_utf16hashCode_1 12 rfl rfl)
theorem dJ17_utf16hashCode_38 : decode cJ17_utf16hashCode 38 = .ok (.iload_n 0, 1) := dk_26 (dk_at dksJ17_utf16hashCode_1 15 rfl rfl)
theorem dJ17_utf16hashCode_39 : decode cJ17_utf16hashCode 39 = .ok (.ireturn, 1) := dk_172 (dk_at dksJ17_utf16hashCode_1 16 rfl rfl)
abbrev cJ17_hashCode : ByteArray := prog_100_method_7_code
def yJ17_hashCode : MethodName := ⟨RJ17, "hashCode", "(I[CII)I"⟩
def dkwJ17_hashCode_1 : List UInt8 := [59, 132, 5, 1, 167, 255, 236, 26, 172]
abbrev dktJ17_hashCode_1 : List UInt8 := dkwJ17_hashCode_1 ++ []
def dkwJ17_hashCode_0 : List UInt8 := [28, 29, 96, 54, 4, 28, 54, 5, 21, 5, 21, 4, 162, 0, 19, 16, 31, 26, 104, 43, 21, 5, 52, 96]
abbrev dktJ17_hashCode_0 : List UInt8 := dkwJ17_hashCode_0 ++ dktJ17_hashCode_1
theorem dksJ17_hashCode_0 : cJ17_hashCode.data.toList.drop 0 = dktJ17_hashCode_0 := by decide +kernel
theorem dksJ17_hashCode_1 : cJ17_hashCode.data.toList.drop 24 = dktJ17_hashCode_1 := dk_seg dksJ17_hashCode_0 24 rfl rfl
theorem dJ17_hashCode_0 : decode cJ17_hashCode 0 = .ok (.iload_n 2, 1) := dk_28 (dk_at dksJ17_hashCode_0 0 rfl rfl)
theorem dJ17_hashCode_1 : decode cJ17_hashCode 1 = .ok (.iload_n 3, 1) := dk_29 (dk_at dksJ17_hashCode_0 1 rfl rfl)
theorem dJ17_hashCode_2 : decode cJ17_hashCode 2 = .ok (.iadd, 1) := dk_96 (dk_at dksJ17_hashCode_0 2 rfl rfl)
theorem dJ17_hashCode_3 : decode cJ17_hashCode 3 = .ok (.istore 4, 2) := dk_54 4 (dk_at dksJ17_hashCode_0 3 rfl rfl)
theorem dJ17_hashCode_5 : decode cJ17_hashCode 5 = .ok (.iload_n 2, 1) := dk_28 (dk_at dksJ17_hashCode_0 5 rfl rfl)
theorem dJ17_hashCode_6 : decode cJ17_hashCode 6 = .ok (.istore 5, 2) := dk_54 5 (dk_at dksJ17_hashCode_0 6 rfl rfl)
theorem dJ17_hashCode_8 : decode cJ17_hashCode 8 = .ok (.iload 5, 2) := dk_21 5 (dk_at dksJ17_hashCode_0 8 rfl rfl)
theorem dJ17_hashCode_10 : decode cJ17_hashCode 10 = .ok (.iload 4, 2) := dk_21 4 (dk_at dksJ17_hashCode_0 10 rfl rfl)
theorem dJ17_hashCode_12 : decode cJ17_hashCode 12 = .ok (.if_icmp .ge 19, 3) := dk_162 0 19 (dk_at dksJ17_hashCode_0 12 rfl rfl)
theorem dJ17_hashCode_15 : decode cJ17_hashCode 15 = .ok (.bipush 31, 2) := dk_16 31 (dk_at dksJ17_hashCode_0 15 rfl rfl)
theorem dJ17_hashCode_17 : decode cJ17_hashCode 17 = .ok (.iload_n 0, 1) := dk_26 (dk_at dksJ17_hashCode_0 17 rfl rfl)
theorem dJ17_hashCode_18 : decode cJ17_hashCode 18 = .ok (.imul, 1) := dk_104 (dk_at dksJ17_hashCode_0 18 rfl rfl)
theorem dJ17_hashCode_19 : decode cJ17_hashCode 19 = .ok (.aload_n 1, 1) := dk_43 (dk_at dksJ17_hashCode_0 19 rfl rfl)
theorem dJ17_hashCode_20 : decode cJ17_hashCode 20 = .ok (.iload 5, 2) := dk_21 5 (dk_at dksJ17_hashCode_0 20 rfl rfl)
theorem dJ17_hashCode_22 : decode cJ17_hashCode 22 = .ok (.caload, 1) := dk_52 (dk_at dksJ17_hashCode_0 22 rfl rfl)
theorem dJ17_hashCode_23 : decode cJ17_hashCode 23 = .ok (.iadd, 1) := dk_96 (dk_at dksJ17_hashCode_0 23 rfl rfl)
theorem dJ17_hashCode_24 : decode cJ17_hashCode 24 = .ok (.istore_n 0, 1) := dk_59 (dk_at dksJ17_hashCode_1 0 rfl rfl)
theorem dJ17_hashCode_25 : decode cJ17_hashCode 25 = .ok (.iinc 5 1, 3) := dk_132 5 1 (dk_at dksJ17_hashCode_1 1 rfl rfl)
theorem dJ17_hashCode_28 : decode cJ17_hashCode 28 = .ok (.goto (-20), 3) := dk_167 255 236 (dk_at dksJ17_hashCode_1 4 rfl rfl)
theorem dJ17_hashCode_31 : decode cJ17_hashCode 31 = .ok (.iload_n 0, 1) := dk_26 (dk_at dksJ17_hashCode_1 7 rfl rfl)
theorem dJ17_hashCode_32 : decode cJ17_hashCode 32 = .ok (.ireturn, 1) := dk_172 (dk_at dksJ17_hashCode_1 8 rfl rfl)
abbrev cJ17_hashCode_2 : ByteArray := prog_100_method_6_code
def yJ17_hashCode_2 : MethodName := ⟨RJ17, "hashCode", "(I[BII)I"⟩
def dkwJ17_hashCode_2_1 : List UInt8 := [59, 132, 5, 1, 167, 255, 236, 26, 172]
abbrev dktJ17_hashCode_2_1 : List UInt8 := dkwJ17_hashCode_2_1 ++ []
def dkwJ17_hashCode_2_0 : List UInt8 := [28, 29, 96, 54, 4, 28, 54, 5, 21, 5, 21, 4, 162, 0, 19, 16, 31, 26, 104, 43, 21, 5, 51, 96]
abbrev dktJ17_hashCode_2_0 : List UInt8 := dkwJ17_hashCode_2_0 ++ dktJ17_hashCode_2_1
theorem dksJ17_hashCode_2_0 : cJ17_hashCode_2.data.toList.drop 0 = dktJ17_hashCode_2_0 := by decide +kernel
theorem dksJ17_hashCode_2_1 : cJ17_hashCode_2.data.toList.drop 24 = dktJ17_hashCode_2_1 := dk_seg dksJ17_hashCode_2_0 24 rfl rfl
theorem dJ17_hashCode_2_0 : decode cJ17_hashCode_2 0 = .ok (.iload_n 2, 1) := dk_28 (dk_at dksJ17_hashCode_2_0 0 rfl rfl)
theorem dJ17_hashCode_2_1 : decode cJ17_hashCode_2 1 = .ok (.iload_n 3, 1) := dk_29 (dk_at dksJ17_hashCode_2_0 1 rfl rfl)
theorem dJ17_hashCode_2_2 : decode cJ17_hashCode_2 2 = .ok (.iadd, 1) := dk_96 (dk_at dksJ17_hashCode_2_0 2 rfl rfl)
theorem dJ17_hashCode_2_3 : decode cJ17_hashCode_2 3 = .ok (.istore 4, 2) := dk_54 4 (dk_at dksJ17_hashCode_2_0 3 rfl rfl)
theorem dJ17_hashCode_2_5 : decode cJ17_hashCode_2 5 = .ok (.iload_n 2, 1) := dk_28 (dk_at dksJ17_hashCode_2_0 5 rfl rfl)
theorem dJ17_hashCode_2_6 : decode cJ17_hashCode_2 6 = .ok (.istore 5, 2) := dk_54 5 (dk_at dksJ17_hashCode_2_0 6 rfl rfl)
theorem dJ17_hashCode_2_8 : decode cJ17_hashCode_2 8 = .ok (.iload 5, 2) := dk_21 5 (dk_at dksJ17_hashCode_2_0 8 rfl rfl)
theorem dJ17_hashCode_2_10 : decode cJ17_hashCode_2 10 = .ok (.iload 4, 2) := dk_21 4 (dk_at dksJ17_hashCode_2_0 10 rfl rfl)
theorem dJ17_hashCode_2_12 : decode cJ17_hashCode_2 12 = .ok (.if_icmp .ge 19, 3) := dk_162 0 19 (dk_at dksJ17_hashCode_2_0 12 rfl rfl)
theorem dJ17_hashCode_2_15 : decode cJ17_hashCode_2 15 = .ok (.bipush 31, 2) := dk_16 31 (dk_at dksJ17_hashCode_2_0 15 rfl rfl)
theorem dJ17_hashCode_2_17 : decode cJ17_hashCode_2 17 = .ok (.iload_n 0, 1) := dk_26 (dk_at dksJ17_hashCode_2_0 17 rfl rfl)
theorem dJ17_hashCode_2_18 : decode cJ17_hashCode_2 18 = .ok (.imul, 1) := dk_104 (dk_at dksJ17_hashCode_2_0 18 rfl rfl)
theorem dJ17_hashCode_2_19 : decode cJ17_hashCode_2 19 = .ok (.aload_n 1, 1) := dk_43 (dk_at dksJ17_hashCode_2_0 19 rfl rfl)
theorem dJ17_hashCode_2_20 : decode cJ17_hashCode_2 20 = .ok (.iload 5, 2) := dk_21 5 (dk_at dksJ17_hashCode_2_0 20 rfl rfl)
theorem dJ17_hashCode_2_22 : decode cJ17_hashCode_2 22 = .ok (.baload, 1) := dk_51 (dk_at dksJ17_hashCode_2_0 22 rfl rfl)
theorem dJ17_hashCode_2_23 : decode cJ17_hashCode_2 23 = .ok (.iadd, 1) := dk_96 (dk_at dksJ17_hashCode_2_0 23 rfl rfl)
theorem dJ17_hashCode_2_24 : decode cJ17_hashCode_2 24 = .ok (.istore_n 0, 1) := dk_59 (dk_at dksJ17_hashCode_2_1 0 rfl rfl)
theorem dJ17_hashCode_2_25 : decode cJ17_hashCode_2 25 = .ok (.iinc 5 1, 3) := dk_132 5 1 (dk_at dksJ17_hashCode_2_1 1 rfl rfl)
theorem dJ17_hashCode_2_28 : decode cJ17_hashCode_2 28 = .ok (.goto (-20), 3) := dk_167 255 236 (dk_at dksJ17_hashCode_2_1 4 rfl rfl)
theorem dJ17_hashCode_2_31 : decode cJ17_hashCode_2 31 = .ok (.iload_n 0, 1) := dk_26 (dk_at dksJ17_hashCode_2_1 7 rfl rfl)
theorem dJ17_hashCode_2_32 : decode cJ17_hashCode_2 32 = .ok (.ireturn, 1) := dk_172 (dk_at dksJ17_hashCode_2_1 8 rfl rfl)
abbrev cJ17_hashCode_3 : ByteArray := prog_100_method_8_code
def yJ17_hashCode_3 : MethodName := ⟨RJ17, "hashCode", "(I[SII)I"⟩
def dkwJ17_hashCode_3_1 : List UInt8 := [59, 132, 5, 1, 167, 255, 236, 26, 172]
abbrev dktJ17_hashCode_3_1 : List UInt8 := dkwJ17_hashCode_3_1 ++ []
def dkwJ17_hashCode_3_0 : List UInt8 := [28, 29, 96, 54, 4, 28, 54, 5, 21, 5, 21, 4, 162, 0, 19, 16, 31, 26, 104, 43, 21, 5, 53, 96]
abbrev dktJ17_hashCode_3_0 : List UInt8 := dkwJ17_hashCode_3_0 ++ dktJ17_hashCode_3_1
theorem dksJ17_hashCode_3_0 : cJ17_hashCode_3.data.toList.drop 0 = dktJ17_hashCode_3_0 := by decide +kernel
theorem dksJ17_hashCode_3_1 : cJ17_hashCode_3.data.toList.drop 24 = dktJ17_hashCode_3_1 := dk_seg dksJ17_hashCode_3_0 24 rfl rfl
theorem dJ17_hashCode_3_0 : decode cJ17_hashCode_3 0 = .ok (.iload_n 2, 1) := dk_28 (dk_at dksJ17_hashCode_3_0 0 rfl rfl)
theorem dJ17_hashCode_3_1 : decode cJ17_hashCode_3 1 = .ok (.iload_n 3, 1) := dk_29 (dk_at dksJ17_hashCode_3_0 1 rfl rfl)
theorem dJ17_hashCode_3_2 : decode cJ17_hashCode_3 2 = .ok (.iadd, 1) := dk_96 (dk_at dksJ17_hashCode_3_0 2 rfl rfl)
theorem dJ17_hashCode_3_3 : decode cJ17_hashCode_3 3 = .ok (.istore 4, 2) := dk_54 4 (dk_at dksJ17_hashCode_3_0 3 rfl rfl)
theorem dJ17_hashCode_3_5 : decode cJ17_hashCode_3 5 = .ok (.iload_n 2, 1) := dk_28 (dk_at dksJ17_hashCode_3_0 5 rfl rfl)
theorem dJ17_hashCode_3_6 : decode cJ17_hashCode_3 6 = .ok (.istore 5, 2) := dk_54 5 (dk_at dksJ17_hashCode_3_0 6 rfl rfl)
theorem dJ17_hashCode_3_8 : decode cJ17_hashCode_3 8 = .ok (.iload 5, 2) := dk_21 5 (dk_at dksJ17_hashCode_3_0 8 rfl rfl)
theorem dJ17_hashCode_3_10 : decode cJ17_hashCode_3 10 = .ok (.iload 4, 2) := dk_21 4 (dk_at dksJ17_hashCode_3_0 10 rfl rfl)
theorem dJ17_hashCode_3_12 : decode cJ17_hashCode_3 12 = .ok (.if_icmp .ge 19, 3) := dk_162 0 19 (dk_at dksJ17_hashCode_3_0 12 rfl rfl)
theorem dJ17_hashCode_3_15 : decode cJ17_hashCode_3 15 = .ok (.bipush 31, 2) := dk_16 31 (dk_at dksJ17_hashCode_3_0 15 rfl rfl)
theorem dJ17_hashCode_3_17 : decode cJ17_hashCode_3 17 = .ok (.iload_n 0, 1) := dk_26 (dk_at dksJ17_hashCode_3_0 17 rfl rfl)
theorem dJ17_hashCode_3_18 : decode cJ17_hashCode_3 18 = .ok (.imul, 1) := dk_104 (dk_at dksJ17_hashCode_3_0 18 rfl rfl)
theorem dJ17_hashCode_3_19 : decode cJ17_hashCode_3 19 = .ok (.aload_n 1, 1) := dk_43 (dk_at dksJ17_hashCode_3_0 19 rfl rfl)
theorem dJ17_hashCode_3_20 : decode cJ17_hashCode_3 20 = .ok (.iload 5, 2) := dk_21 5 (dk_at dksJ17_hashCode_3_0 20 rfl rfl)
theorem dJ17_hashCode_3_22 : decode cJ17_hashCode_3 22 = .ok (.saload, 1) := dk_53 (dk_at dksJ17_hashCode_3_0 22 rfl rfl)
theorem dJ17_hashCode_3_23 : decode cJ17_hashCode_3 23 = .ok (.iadd, 1) := dk_96 (dk_at dksJ17_hashCode_3_0 23 rfl rfl)
theorem dJ17_hashCode_3_24 : decode cJ17_hashCode_3 24 = .ok (.istore_n 0, 1) := dk_59 (dk_at dksJ17_hashCode_3_1 0 rfl rfl)
theorem dJ17_hashCode_3_25 : decode cJ17_hashCode_3 25 = .ok (.iinc 5 1, 3) := dk_132 5 1 (dk_at dksJ17_hashCode_3_1 1 rfl rfl)
theorem dJ17_hashCode_3_28 : decode cJ17_hashCode_3 28 = .ok (.goto (-20), 3) := dk_167 255 236 (dk_at dksJ17_hashCode_3_1 4 rfl rfl)
theorem dJ17_hashCode_3_31 : decode cJ17_hashCode_3 31 = .ok (.iload_n 0, 1) := dk_26 (dk_at dksJ17_hashCode_3_1 7 rfl rfl)
theorem dJ17_hashCode_3_32 : decode cJ17_hashCode_3 32 = .ok (.ireturn, 1) := dk_172 (dk_at dksJ17_hashCode_3_1 8 rfl rfl)
abbrev cJ17_hashCode_4 : ByteArray := prog_100_method_9_code
def yJ17_hashCode_4 : MethodName := ⟨RJ17, "hashCode", "(I[III)I"⟩
def dkwJ17_hashCode_4_1 : List UInt8 := [59, 132, 5, 1, 167, 255, 236, 26, 172]
abbrev dktJ17_hashCode_4_1 : List UInt8 := dkwJ17_hashCode_4_1 ++ []
def dkwJ17_hashCode_4_0 : List UInt8 := [28, 29, 96, 54, 4, 28, 54, 5, 21, 5, 21, 4, 162, 0, 19, 16, 31, 26, 104, 43, 21, 5, 46, 96]
abbrev dktJ17_hashCode_4_0 : List UInt8 := dkwJ17_hashCode_4_0 ++ dktJ17_hashCode_4_1
theorem dksJ17_hashCode_4_0 : cJ17_hashCode_4.data.toList.drop 0 = dktJ17_hashCode_4_0 := by decide +kernel
theorem dksJ17_hashCode_4_1 : cJ17_hashCode_4.data.toList.drop 24 = dktJ17_hashCode_4_1 := dk_seg dksJ17_hashCode_4_0 24 rfl rfl
theorem dJ17_hashCode_4_0 : decode cJ17_hashCode_4 0 = .ok (.iload_n 2, 1) := dk_28 (dk_at dksJ17_hashCode_4_0 0 rfl rfl)
theorem dJ17_hashCode_4_1 : decode cJ17_hashCode_4 1 = .ok (.iload_n 3, 1) := dk_29 (dk_at dksJ17_hashCode_4_0 1 rfl rfl)
theorem dJ17_hashCode_4_2 : decode cJ17_hashCode_4 2 = .ok (.iadd, 1) := dk_96 (dk_at dksJ17_hashCode_4_0 2 rfl rfl)
theorem dJ17_hashCode_4_3 : decode cJ17_hashCode_4 3 = .ok (.istore 4, 2) := dk_54 4 (dk_at dksJ17_hashCode_4_0 3 rfl rfl)
theorem dJ17_hashCode_4_5 : decode cJ17_hashCode_4 5 = .ok (.iload_n 2, 1) := dk_28 (dk_at dksJ17_hashCode_4_0 5 rfl rfl)
theorem dJ17_hashCode_4_6 : decode cJ17_hashCode_4 6 = .ok (.istore 5, 2) := dk_54 5 (dk_at dksJ17_hashCode_4_0 6 rfl rfl)
theorem dJ17_hashCode_4_8 : decode cJ17_hashCode_4 8 = .ok (.iload 5, 2) := dk_21 5 (dk_at dksJ17_hashCode_4_0 8 rfl rfl)
theorem dJ17_hashCode_4_10 : decode cJ17_hashCode_4 10 = .ok (.iload 4, 2) := dk_21 4 (dk_at dksJ17_hashCode_4_0 10 rfl rfl)
theorem dJ17_hashCode_4_12 : decode cJ17_hashCode_4 12 = .ok (.if_icmp .ge 19, 3) := dk_162 0 19 (dk_at dksJ17_hashCode_4_0 12 rfl rfl)
theorem dJ17_hashCode_4_15 : decode cJ17_hashCode_4 15 = .ok (.bipush 31, 2) := dk_16 31 (dk_at dksJ17_hashCode_4_0 15 rfl rfl)
theorem dJ17_hashCode_4_17 : decode cJ17_hashCode_4 17 = .ok (.iload_n 0, 1) := dk_26 (dk_at dksJ17_hashCode_4_0 17 rfl rfl)
theorem dJ17_hashCode_4_18 : decode cJ17_hashCode_4 18 = .ok (.imul, 1) := dk_104 (dk_at dksJ17_hashCode_4_0 18 rfl rfl)
theorem dJ17_hashCode_4_19 : decode cJ17_hashCode_4 19 = .ok (.aload_n 1, 1) := dk_43 (dk_at dksJ17_hashCode_4_0 19 rfl rfl)
theorem dJ17_hashCode_4_20 : decode cJ17_hashCode_4 20 = .ok (.iload 5, 2) := dk_21 5 (dk_at dksJ17_hashCode_4_0 20 rfl rfl)
theorem dJ17_hashCode_4_22 : decode cJ17_hashCode_4 22 = .ok (.iaload, 1) := dk_46 (dk_at dksJ17_hashCode_4_0 22 rfl rfl)
theorem dJ17_hashCode_4_23 : decode cJ17_hashCode_4 23 = .ok (.iadd, 1) := dk_96 (dk_at dksJ17_hashCode_4_0 23 rfl rfl)
theorem dJ17_hashCode_4_24 : decode cJ17_hashCode_4 24 = .ok (.istore_n 0, 1) := dk_59 (dk_at dksJ17_hashCode_4_1 0 rfl rfl)
theorem dJ17_hashCode_4_25 : decode cJ17_hashCode_4 25 = .ok (.iinc 5 1, 3) := dk_132 5 1 (dk_at dksJ17_hashCode_4_1 1 rfl rfl)
theorem dJ17_hashCode_4_28 : decode cJ17_hashCode_4 28 = .ok (.goto (-20), 3) := dk_167 255 236 (dk_at dksJ17_hashCode_4_1 4 rfl rfl)
theorem dJ17_hashCode_4_31 : decode cJ17_hashCode_4 31 = .ok (.iload_n 0, 1) := dk_26 (dk_at dksJ17_hashCode_4_1 7 rfl rfl)
theorem dJ17_hashCode_4_32 : decode cJ17_hashCode_4 32 = .ok (.ireturn, 1) := dk_172 (dk_at dksJ17_hashCode_4_1 8 rfl rfl)
theorem q149 : (Jvm.Cond.initialized "jdk/internal/util/ArraysSupport") ∈ lw_all := lw_g (lw_at lw_m1 25 rfl) rfl
theorem q573 : (Jvm.Cond.static ({ cls := "jdk/internal/util/ArraysSupport", name := "newLength", desc := "(III)I" } : Jvm.MethodName)) ∈ lw_all := lw_g (lw_at lw_m2 209 rfl) rfl
theorem q574 : (Jvm.Cond.code ({ cls := "jdk/internal/util/ArraysSupport", name := "newLength", desc := "(III)I" } : Jvm.MethodName) prog_100_method_27_code (4 : Nat) (Option.some Jvm.ClassFile.FieldType.int)) ∈ lw_all := lw_g (lw_at lw_m2 210 rfl) rfl
theorem q575 : (Jvm.Cond.methodLink "jdk/internal/util/ArraysSupport" (194 : Nat) ({ cls := "java/lang/Math", name := "max", desc := "(II)I" } : Jvm.MethodName)) ∈ lw_all := lw_g (lw_at lw_m2 211 rfl) rfl
theorem q578 : (Jvm.Cond.constant "jdk/internal/util/ArraysSupport" (200 : Nat) (2147483639 : Int32)) ∈ lw_all := lw_g (lw_at lw_m2 214 rfl) rfl
theorem q579 : (Jvm.Cond.methodLink "jdk/internal/util/ArraysSupport" (201 : Nat) ({ cls := "jdk/internal/util/ArraysSupport", name := "hugeLength", desc := "(II)I" } : Jvm.MethodName)) ∈ lw_all := lw_g (lw_at lw_m2 215 rfl) rfl
theorem q580 : (Jvm.Cond.static ({ cls := "jdk/internal/util/ArraysSupport", name := "hugeLength", desc := "(II)I" } : Jvm.MethodName)) ∈ lw_all := lw_g (lw_at lw_m2 216 rfl) rfl
theorem q581 : (Jvm.Cond.code ({ cls := "jdk/internal/util/ArraysSupport", name := "hugeLength", desc := "(II)I" } : Jvm.MethodName) prog_100_method_28_code (3 : Nat) (Option.some Jvm.ClassFile.FieldType.int)) ∈ lw_all := lw_g (lw_at lw_m2 217 rfl) rfl
theorem q1058 : (Jvm.Cond.static ({ cls := "jdk/internal/util/ArraysSupport", name := "mismatch", desc := "([B[BI)I" } : Jvm.MethodName)) ∈ lw_all := lw_g (lw_at lw_m4 214 rfl) rfl
theorem q1059 : (Jvm.Cond.code ({ cls := "jdk/internal/util/ArraysSupport", name := "mismatch", desc := "([B[BI)I" } : Jvm.MethodName) prog_100_method_13_code (4 : Nat) (Option.some Jvm.ClassFile.FieldType.int)) ∈ lw_all := lw_g (lw_at lw_m4 215 rfl) rfl
theorem q1060 : (Jvm.Cond.fieldLink "jdk/internal/util/ArraysSupport" (126 : Nat) "jdk/internal/misc/Unsafe" "ARRAY_BYTE_BASE_OFFSET" "I") ∈ lw_all := lw_g (lw_at lw_m4 216 rfl) rfl
theorem q1062 : (Jvm.Cond.fieldLink "jdk/internal/util/ArraysSupport" (129 : Nat) "jdk/internal/util/ArraysSupport" "LOG2_ARRAY_BYTE_INDEX_SCALE" "I") ∈ lw_all := lw_g (lw_at lw_m4 218 rfl) rfl
theorem q1063 : (Jvm.Cond.laysStatic "jdk/internal/util/ArraysSupport" "LOG2_ARRAY_BYTE_INDEX_SCALE" "I") ∈ lw_tbl := lw_at lw_m4 219 rfl
theorem q1064 : (Jvm.Cond.methodLink "jdk/internal/util/ArraysSupport" (122 : Nat) ({ cls := "jdk/internal/util/ArraysSupport", name := "vectorizedMismatch", desc := "(Ljava/lang/Object;JLjava/lang/Object;JII)I" } : Jvm.MethodName)) ∈ lw_all := lw_g (lw_at lw_m4 220 rfl) rfl
theorem q1065 : (Jvm.Cond.static ({ cls := "jdk/internal/util/ArraysSupport", name := "vectorizedMismatch", desc := "(Ljava/lang/Object;JLjava/lang/Object;JII)I" } : Jvm.MethodName)) ∈ lw_all := lw_g (lw_at lw_m4 221 rfl) rfl
theorem q1066 : (Jvm.Cond.code ({ cls := "jdk/internal/util/ArraysSupport", name := "vectorizedMismatch", desc := "(Ljava/lang/Object;JLjava/lang/Object;JII)I" } : Jvm.MethodName) prog_100_method_3_code (19 : Nat) (Option.some Jvm.ClassFile.FieldType.int)) ∈ lw_all := lw_g (lw_at lw_m4 222 rfl) rfl
theorem q1067 : (Jvm.Cond.fieldLink "jdk/internal/util/ArraysSupport" (20 : Nat) "jdk/internal/util/ArraysSupport" "LOG2_ARRAY_LONG_INDEX_SCALE" "I") ∈ lw_all := lw_g (lw_at lw_m4 223 rfl) rfl
theorem q1068 : (Jvm.Cond.laysStatic "jdk/internal/util/ArraysSupport" "LOG2_ARRAY_LONG_INDEX_SCALE" "I") ∈ lw_tbl := lw_at lw_m4 224 rfl
theorem q1069 : (Jvm.Cond.fieldLink "jdk/internal/util/ArraysSupport" (26 : Nat) "jdk/internal/util/ArraysSupport" "U" "Ljdk/internal/misc/Unsafe;") ∈ lw_all := lw_g (lw_at lw_m4 225 rfl) rfl
theorem q1070 : (Jvm.Cond.laysStatic "jdk/internal/util/ArraysSupport" "U" "Ljdk/internal/misc/Unsafe;") ∈ lw_tbl := lw_at lw_m4 226 rfl
theorem q1071 : (Jvm.Cond.methodLink "jdk/internal/util/ArraysSupport" (30 : Nat) ({ cls := "jdk/internal/misc/Unsafe", name := "getLongUnaligned", desc := "(Ljava/lang/Object;J)J" } : Jvm.MethodName)) ∈ lw_all := lw_g (lw_at lw_m4 227 rfl) rfl
theorem q1123 : (Jvm.Cond.fieldLink "jdk/internal/util/ArraysSupport" (36 : Nat) "jdk/internal/util/ArraysSupport" "BIG_ENDIAN" "Z") ∈ lw_all := lw_g (lw_at lw_m5 39 rfl) rfl
theorem q1124 : (Jvm.Cond.laysStatic "jdk/internal/util/ArraysSupport" "BIG_ENDIAN" "Z") ∈ lw_tbl := lw_at lw_m5 40 rfl
theorem q1125 : (Jvm.Cond.methodLink "jdk/internal/util/ArraysSupport" (40 : Nat) ({ cls := "java/lang/Long", name := "numberOfLeadingZeros", desc := "(J)I" } : Jvm.MethodName)) ∈ lw_all := lw_g (lw_at lw_m5 41 rfl) rfl
theorem q1132 : (Jvm.Cond.fieldLink "jdk/internal/util/ArraysSupport" (46 : Nat) "jdk/internal/util/ArraysSupport" "LOG2_BYTE_BIT_SIZE" "I") ∈ lw_all := lw_g (lw_at lw_m5 48 rfl) rfl
theorem q1133 : (Jvm.Cond.laysStatic "jdk/internal/util/ArraysSupport" "LOG2_BYTE_BIT_SIZE" "I") ∈ lw_tbl := lw_at lw_m5 49 rfl
theorem q1134 : (Jvm.Cond.methodLink "jdk/internal/util/ArraysSupport" (49 : Nat) ({ cls := "java/lang/Long", name := "numberOfTrailingZeros", desc := "(J)I" } : Jvm.MethodName)) ∈ lw_all := lw_g (lw_at lw_m5 50 rfl) rfl
theorem q1140 : (Jvm.Cond.fieldLink "jdk/internal/util/ArraysSupport" (51 : Nat) "jdk/internal/util/ArraysSupport" "LOG2_ARRAY_INT_INDEX_SCALE" "I") ∈ lw_all := lw_g (lw_at lw_m5 56 rfl) rfl
theorem q1141 : (Jvm.Cond.laysStatic "jdk/internal/util/ArraysSupport" "LOG2_ARRAY_INT_INDEX_SCALE" "I") ∈ lw_tbl := lw_at lw_m5 57 rfl
theorem q1142 : (Jvm.Cond.methodLink "jdk/internal/util/ArraysSupport" (54 : Nat) ({ cls := "jdk/internal/misc/Unsafe", name := "getIntUnaligned", desc := "(Ljava/lang/Object;J)I" } : Jvm.MethodName)) ∈ lw_all := lw_g (lw_at lw_m5 58 rfl) rfl
theorem q1159 : (Jvm.Cond.methodLink "jdk/internal/util/ArraysSupport" (58 : Nat) ({ cls := "java/lang/Integer", name := "numberOfLeadingZeros", desc := "(I)I" } : Jvm.MethodName)) ∈ lw_all := lw_g (lw_at lw_m5 75 rfl) rfl
theorem q1160 : (Jvm.Cond.methodLink "jdk/internal/util/ArraysSupport" (11 : Nat) ({ cls := "java/lang/Integer", name := "numberOfTrailingZeros", desc := "(I)I" } : Jvm.MethodName)) ∈ lw_all := lw_g (lw_at lw_m5 76 rfl) rfl
theorem q3077 : (Jvm.Cond.static ({ cls := "jdk/internal/util/ArraysSupport", name := "vectorizedHashCode", desc := "(Ljava/lang/Object;IIII)I" } : Jvm.MethodName)) ∈ lw_all := lw_g (lw_at lw_m13 73 rfl) rfl
theorem q3078 : (Jvm.Cond.code ({ cls := "jdk/internal/util/ArraysSupport", name := "vectorizedHashCode", desc := "(Ljava/lang/Object;IIII)I" } : Jvm.MethodName) prog_100_method_4_code (5 : Nat) (Option.some Jvm.ClassFile.FieldType.int)) ∈ lw_all := lw_g (lw_at lw_m13 74 rfl) rfl
theorem q3079 : (Jvm.Cond.classLink "jdk/internal/util/ArraysSupport" (60 : Nat) "[B") ∈ lw_all := lw_g (lw_at lw_m13 75 rfl) rfl
theorem q3080 : (Jvm.Cond.methodLink "jdk/internal/util/ArraysSupport" (62 : Nat) ({ cls := "jdk/internal/util/ArraysSupport", name := "signedHashCode", desc := "(I[BII)I" } : Jvm.MethodName)) ∈ lw_all := lw_g (lw_at lw_m13 76 rfl) rfl
theorem q3081 : (Jvm.Cond.static ({ cls := "jdk/internal/util/ArraysSupport", name := "signedHashCode", desc := "(I[BII)I" } : Jvm.MethodName)) ∈ lw_all := lw_g (lw_at lw_m13 77 rfl) rfl
theorem q3082 : (Jvm.Cond.code ({ cls := "jdk/internal/util/ArraysSupport", name := "signedHashCode", desc := "(I[BII)I" } : Jvm.MethodName) prog_100_method_5_code (6 : Nat) (Option.some Jvm.ClassFile.FieldType.int)) ∈ lw_all := lw_g (lw_at lw_m13 78 rfl) rfl
theorem q3083 : (Jvm.Cond.methodLink "jdk/internal/util/ArraysSupport" (66 : Nat) ({ cls := "jdk/internal/util/ArraysSupport", name := "utf16hashCode", desc := "(I[BII)I" } : Jvm.MethodName)) ∈ lw_all := lw_g (lw_at lw_m13 79 rfl) rfl
theorem q3084 : (Jvm.Cond.static ({ cls := "jdk/internal/util/ArraysSupport", name := "utf16hashCode", desc := "(I[BII)I" } : Jvm.MethodName)) ∈ lw_all := lw_g (lw_at lw_m13 80 rfl) rfl
theorem q3085 : (Jvm.Cond.code ({ cls := "jdk/internal/util/ArraysSupport", name := "utf16hashCode", desc := "(I[BII)I" } : Jvm.MethodName) prog_100_method_10_code (6 : Nat) (Option.some Jvm.ClassFile.FieldType.int)) ∈ lw_all := lw_g (lw_at lw_m13 81 rfl) rfl
theorem q3086 : (Jvm.Cond.fieldLink "jdk/internal/util/ArraysSupport" (106 : Nat) "jdk/internal/util/ArraysSupport" "JLA" "Ljdk/internal/access/JavaLangAccess;") ∈ lw_all := lw_g (lw_at lw_m13 82 rfl) rfl
theorem q3087 : (Jvm.Cond.laysStatic "jdk/internal/util/ArraysSupport" "JLA" "Ljdk/internal/access/JavaLangAccess;") ∈ lw_tbl := lw_at lw_m13 83 rfl
theorem q3088 : (Jvm.Cond.interfaceEntry "jdk/internal/util/ArraysSupport" (110 : Nat)) ∈ lw_tbl := lw_at lw_m13 84 rfl
theorem q3089 : (Jvm.Cond.methodLink "jdk/internal/util/ArraysSupport" (110 : Nat) ({ cls := "jdk/internal/access/JavaLangAccess", name := "getUTF16Char", desc := "([BI)C" } : Jvm.MethodName)) ∈ lw_all := lw_g (lw_at lw_m13 85 rfl) rfl
theorem q3099 : (Jvm.Cond.classLink "jdk/internal/util/ArraysSupport" (69 : Nat) "[C") ∈ lw_all := lw_g (lw_at lw_m13 95 rfl) rfl
theorem q3100 : (Jvm.Cond.methodLink "jdk/internal/util/ArraysSupport" (71 : Nat) ({ cls := "jdk/internal/util/ArraysSupport", name := "hashCode", desc := "(I[CII)I" } : Jvm.MethodName)) ∈ lw_all := lw_g (lw_at lw_m13 96 rfl) rfl
theorem q3101 : (Jvm.Cond.static ({ cls := "jdk/internal/util/ArraysSupport", name := "hashCode", desc := "(I[CII)I" } : Jvm.MethodName)) ∈ lw_all := lw_g (lw_at lw_m13 97 rfl) rfl
theorem q3102 : (Jvm.Cond.code ({ cls := "jdk/internal/util/ArraysSupport", name := "hashCode", desc := "(I[CII)I" } : Jvm.MethodName) prog_100_method_7_code (6 : Nat) (Option.some Jvm.ClassFile.FieldType.int)) ∈ lw_all := lw_g (lw_at lw_m13 98 rfl) rfl
theorem q3103 : (Jvm.Cond.methodLink "jdk/internal/util/ArraysSupport" (75 : Nat) ({ cls := "jdk/internal/util/ArraysSupport", name := "hashCode", desc := "(I[BII)I" } : Jvm.MethodName)) ∈ lw_all := lw_g (lw_at lw_m13 99 rfl) rfl
theorem q3104 : (Jvm.Cond.static ({ cls := "jdk/internal/util/ArraysSupport", name := "hashCode", desc := "(I[BII)I" } : Jvm.MethodName)) ∈ lw_all := lw_g (lw_at lw_m13 100 rfl) rfl
theorem q3105 : (Jvm.Cond.code ({ cls := "jdk/internal/util/ArraysSupport", name := "hashCode", desc := "(I[BII)I" } : Jvm.MethodName) prog_100_method_6_code (6 : Nat) (Option.some Jvm.ClassFile.FieldType.int)) ∈ lw_all := lw_g (lw_at lw_m13 101 rfl) rfl
theorem q3106 : (Jvm.Cond.classLink "jdk/internal/util/ArraysSupport" (77 : Nat) "[S") ∈ lw_all := lw_g (lw_at lw_m13 102 rfl) rfl
theorem q3107 : (Jvm.Cond.methodLink "jdk/internal/util/ArraysSupport" (79 : Nat) ({ cls := "jdk/internal/util/ArraysSupport", name := "hashCode", desc := "(I[SII)I" } : Jvm.MethodName)) ∈ lw_all := lw_g (lw_at lw_m13 103 rfl) rfl
theorem q3108 : (Jvm.Cond.static ({ cls := "jdk/internal/util/ArraysSupport", name := "hashCode", desc := "(I[SII)I" } : Jvm.MethodName)) ∈ lw_all := lw_g (lw_at lw_m13 104 rfl) rfl
theorem q3109 : (Jvm.Cond.code ({ cls := "jdk/internal/util/ArraysSupport", name := "hashCode", desc := "(I[SII)I" } : Jvm.MethodName) prog_100_method_8_code (6 : Nat) (Option.some Jvm.ClassFile.FieldType.int)) ∈ lw_all := lw_g (lw_at lw_m13 105 rfl) rfl
theorem q3110 : (Jvm.Cond.classLink "jdk/internal/util/ArraysSupport" (82 : Nat) "[I") ∈ lw_all := lw_g (lw_at lw_m13 106 rfl) rfl
theorem q3111 : (Jvm.Cond.methodLink "jdk/internal/util/ArraysSupport" (84 : Nat) ({ cls := "jdk/internal/util/ArraysSupport", name := "hashCode", desc := "(I[III)I" } : Jvm.MethodName)) ∈ lw_all := lw_g (lw_at lw_m13 107 rfl) rfl
theorem q3112 : (Jvm.Cond.static ({ cls := "jdk/internal/util/ArraysSupport", name := "hashCode", desc := "(I[III)I" } : Jvm.MethodName)) ∈ lw_all := lw_g (lw_at lw_m13 108 rfl) rfl
theorem q3113 : (Jvm.Cond.code ({ cls := "jdk/internal/util/ArraysSupport", name := "hashCode", desc := "(I[III)I" } : Jvm.MethodName) prog_100_method_9_code (6 : Nat) (Option.some Jvm.ClassFile.FieldType.int)) ∈ lw_all := lw_g (lw_at lw_m13 109 rfl) rfl
theorem q3114 : (Jvm.Cond.classLink "jdk/internal/util/ArraysSupport" (87 : Nat) "java/lang/IllegalArgumentException") ∈ lw_all := lw_g (lw_at lw_m13 110 rfl) rfl
theorem q3115 : (Jvm.Cond.classLink "jdk/internal/util/ArraysSupport" (89 : Nat) "java/lang/StringBuilder") ∈ lw_all := lw_g (lw_at lw_m13 111 rfl) rfl
theorem q3116 : (Jvm.Cond.methodLink "jdk/internal/util/ArraysSupport" (91 : Nat) ({ cls := "java/lang/StringBuilder", name := "<init>", desc := "()V" } : Jvm.MethodName)) ∈ lw_all := lw_g (lw_at lw_m13 112 rfl) rfl
theorem q3117 : (Jvm.Cond.stringRef "jdk/internal/util/ArraysSupport" (92 : Nat) "unrecognized basic type: ") ∈ lw_tbl := lw_at lw_m13 113 rfl
theorem q3118 : (Jvm.Cond.methodLink "jdk/internal/util/ArraysSupport" (94 : Nat) ({ cls := "java/lang/StringBuilder", name := "append", desc := "(Ljava/lang/String;)Ljava/lang/StringBuilder;" } : Jvm.MethodName)) ∈ lw_all := lw_g (lw_at lw_m13 114 rfl) rfl
theorem q3119 : (Jvm.Cond.methodLink "jdk/internal/util/ArraysSupport" (98 : Nat) ({ cls := "java/lang/StringBuilder", name := "append", desc := "(I)Ljava/lang/StringBuilder;" } : Jvm.MethodName)) ∈ lw_all := lw_g (lw_at lw_m13 115 rfl) rfl
theorem q3120 : (Jvm.Cond.methodLink "jdk/internal/util/ArraysSupport" (101 : Nat) ({ cls := "java/lang/StringBuilder", name := "toString", desc := "()Ljava/lang/String;" } : Jvm.MethodName)) ∈ lw_all := lw_g (lw_at lw_m13 116 rfl) rfl
theorem q3121 : (Jvm.Cond.methodLink "jdk/internal/util/ArraysSupport" (105 : Nat) ({ cls := "java/lang/IllegalArgumentException", name := "<init>", desc := "(Ljava/lang/String;)V" } : Jvm.MethodName)) ∈ lw_all := lw_g (lw_at lw_m13 117 rfl) rfl

/-! jdk/internal/misc/Unsafe -/
set_option maxRecDepth 100000
def RJ18 : String := "jdk/internal/misc/Unsafe"
abbrev cJ18_getLongUnaligned : ByteArray := prog_98_method_334_code
def yJ18_getLongUnaligned : MethodName := ⟨RJ18, "getLongUnaligned", "(Ljava/lang/Object;J)J"⟩
def dkwJ18_getLongUnaligned_7 : List UInt8 := [182, 0, 39, 184, 2, 197, 173]
abbrev dktJ18_getLongUnaligned_7 : List UInt8 := dkwJ18_getLongUnaligned_7 ++ []
def dkwJ18_getLongUnaligned_6 : List UInt8 := [20, 2, 195, 97, 182, 0, 39, 42, 43, 32, 20, 2, 190, 97, 182, 0, 39, 42, 43, 32, 20, 2, 184, 97]
abbrev dktJ18_getLongUnaligned_6 : List UInt8 := dkwJ18_getLongUnaligned_6 ++ dktJ18_getLongUnaligned_7
def dkwJ18_getLongUnaligned_5 : List UInt8 := [43, 32, 20, 1, 93, 97, 182, 0, 39, 42, 43, 32, 20, 0, 205, 97, 182, 0, 39, 42, 43, 32]
abbrev dktJ18_getLongUnaligned_5 : List UInt8 := dkwJ18_getLongUnaligned_5 ++ dktJ18_getLongUnaligned_6
def dkwJ18_getLongUnaligned_4 : List UInt8 := [43, 32, 182, 0, 39, 42, 43, 32, 10, 97, 182, 0, 39, 42, 43, 32, 20, 0, 203, 97, 182, 0, 39, 42]
abbrev dktJ18_getLongUnaligned_4 : List UInt8 := dkwJ18_getLongUnaligned_4 ++ dktJ18_getLongUnaligned_5
def dkwJ18_getLongUnaligned_3 : List UInt8 := [43, 32, 20, 0, 205, 97, 182, 0, 47, 42, 43, 32, 20, 2, 190, 97, 182, 0, 47, 184, 2, 192, 173, 42]
abbrev dktJ18_getLongUnaligned_3 : List UInt8 := dkwJ18_getLongUnaligned_3 ++ dktJ18_getLongUnaligned_4
def dkwJ18_getLongUnaligned_2 : List UInt8 := [10, 127, 9, 148, 154, 0, 43, 42, 43, 32, 182, 0, 47, 42, 43, 32, 20, 0, 203, 97, 182, 0, 47, 42]
abbrev dktJ18_getLongUnaligned_2 : List UInt8 := dkwJ18_getLongUnaligned_2 ++ dktJ18_getLongUnaligned_3
def dkwJ18_getLongUnaligned_1 : List UInt8 := [154, 0, 23, 42, 43, 32, 182, 0, 17, 42, 43, 32, 20, 0, 205, 97, 182, 0, 17, 184, 2, 186, 173, 32]
abbrev dktJ18_getLongUnaligned_1 : List UInt8 := dkwJ18_getLongUnaligned_1 ++ dktJ18_getLongUnaligned_2
def dkwJ18_getLongUnaligned_0 : List UInt8 := [32, 20, 2, 184, 127, 9, 148, 154, 0, 10, 42, 43, 32, 182, 0, 27, 173, 32, 20, 1, 93, 127, 9, 148]
abbrev dktJ18_getLongUnaligned_0 : List UInt8 := dkwJ18_getLongUnaligned_0 ++ dktJ18_getLongUnaligned_1
theorem dksJ18_getLongUnaligned_0 : cJ18_getLongUnaligned.data.toList.drop 0 = dktJ18_getLongUnaligned_0 := by decide +kernel
theorem dksJ18_getLongUnaligned_1 : cJ18_getLongUnaligned.data.toList.drop 24 = dktJ18_getLongUnaligned_1 := dk_seg dksJ18_getLongUnaligned_0 24 rfl rfl
theorem dksJ18_getLongUnaligned_2 : cJ18_getLongUnaligned.data.toList.drop 48 = dktJ18_getLongUnaligned_2 := dk_seg dksJ18_getLongUnaligned_1 24 rfl rfl
theorem dksJ18_getLongUnaligned_3 : cJ18_getLongUnaligned.data.toList.drop 72 = dktJ18_getLongUnaligned_3 := dk_seg dksJ18_getLongUnaligned_2 24 rfl rfl
theorem dksJ18_getLongUnaligned_4 : cJ18_getLongUnaligned.data.toList.drop 96 = dktJ18_getLongUnaligned_4 := dk_seg dksJ18_getLongUnaligned_3 24 rfl rfl
theorem dksJ18_getLongUnaligned_5 : cJ18_getLongUnaligned.data.toList.drop 120 = dktJ18_getLongUnaligned_5 := dk_seg dksJ18_getLongUnaligned_4 24 rfl rfl
theorem dksJ18_getLongUnaligned_6 : cJ18_getLongUnaligned.data.toList.drop 142 = dktJ18_getLongUnaligned_6 := dk_seg dksJ18_getLongUnaligned_5 22 rfl rfl
theorem dksJ18_getLongUnaligned_7 : cJ18_getLongUnaligned.data.toList.drop 166 = dktJ18_getLongUnaligned_7 := dk_seg dksJ18_getLongUnaligned_6 24 rfl rfl
theorem dJ18_getLongUnaligned_0 : decode cJ18_getLongUnaligned 0 = .ok (.lload_n 2, 1) := dk_32 (dk_at dksJ18_getLongUnaligned_0 0 rfl rfl)
theorem dJ18_getLongUnaligned_1 : decode cJ18_getLongUnaligned 1 = .ok (.ldc2_w 696, 3) := dk_20 2 184 (dk_at dksJ18_getLongUnaligned_0 1 rfl rfl)
theorem dJ18_getLongUnaligned_4 : decode cJ18_getLongUnaligned 4 = .ok (.land, 1) := dk_127 (dk_at dksJ18_getLongUnaligned_0 4 rfl rfl)
theorem dJ18_getLongUnaligned_5 : decode cJ18_getLongUnaligned 5 = .ok (.lconst 0, 1) := dk_9 (dk_at dksJ18_getLongUnaligned_0 5 rfl rfl)
theorem dJ18_getLongUnaligned_6 : decode cJ18_getLongUnaligned 6 = .ok (.lcmp, 1) := dk_148 (dk_at dksJ18_getLongUnaligned_0 6 rfl rfl)
theorem dJ18_getLongUnaligned_7 : decode cJ18_getLongUnaligned 7 = .ok (.ifCond .ne 10, 3) := dk_154 0 10 (dk_at dksJ18_getLongUnaligned_0 7 rfl rfl)
theorem dJ18_getLongUnaligned_10 : decode cJ18_getLongUnaligned 10 = .ok (.aload_n 0, 1) := dk_42 (dk_at dksJ18_getLongUnaligned_0 10 rfl rfl)
theorem dJ18_getLongUnaligned_11 : decode cJ18_getLongUnaligned 11 = .ok (.aload_n 1, 1) := dk_43 (dk_at dksJ18_getLongUnaligned_0 11 rfl rfl)
theorem dJ18_getLongUnaligned_12 : decode cJ18_getLongUnaligned 12 = .ok (.lload_n 2, 1) := dk_32 (dk_at dksJ18_getLongUnaligned_0 12 rfl rfl)
theorem dJ18_getLongUnaligned_13 : decode cJ18_getLongUnaligned 13 = .ok (.invokevirtual 27, 3) := dk_182 0 27 (dk_at dksJ18_getLongUnaligned_0 13 rfl rfl)
theorem dJ18_getLongUnaligned_16 : decode cJ18_getLongUnaligned 16 = .ok (.lreturn, 1) := dk_173 (dk_at dksJ18_getLongUnaligned_0 16 rfl rfl)
theorem dJ18_getLongUnaligned_17 : decode cJ18_getLongUnaligned 17 = .ok (.lload_n 2, 1) := dk_32 (dk_at dksJ18_getLongUnaligned_0 17 rfl rfl)
theorem dJ18_getLongUnaligned_18 : decode cJ18_getLongUnaligned 18 = .ok (.ldc2_w 349, 3) := dk_20 1 93 (dk_at dksJ18_getLongUnaligned_0 18 rfl rfl)
theorem dJ18_getLongUnaligned_21 : decode cJ18_getLongUnaligned 21 = .ok (.land, 1) := dk_127 (dk_at dksJ18_getLongUnaligned_0 21 rfl rfl)
theorem dJ18_getLongUnaligned_22 : decode cJ18_getLongUnaligned 22 = .ok (.lconst 0, 1) := dk_9 (dk_at dksJ18_getLongUnaligned_0 22 rfl rfl)
theorem dJ18_getLongUnaligned_23 : decode cJ18_getLongUnaligned 23 = .ok (.lcmp, 1) := dk_148 (dk_at dksJ18_getLongUnaligned_0 23 rfl rfl)
theorem dJ18_getLongUnaligned_24 : decode cJ18_getLongUnaligned 24 = .ok (.ifCond .ne 23, 3) := dk_154 0 23 (dk_at dksJ18_getLongUnaligned_1 0 rfl rfl)
theorem dJ18_getLongUnaligned_27 : decode cJ18_getLongUnaligned 27 = .ok (.aload_n 0, 1) := dk_42 (dk_at dksJ18_getLongUnaligned_1 3 rfl rfl)
theorem dJ18_getLongUnaligned_28 : decode cJ18_getLongUnaligned 28 = .ok (.aload_n 1, 1) := dk_43 (dk_at dksJ18_getLongUnaligned_1 4 rfl rfl)
theorem dJ18_getLongUnaligned_29 : decode cJ18_getLongUnaligned 29 = .ok (.lload_n 2, 1) := dk_32 (dk_at dksJ18_getLongUnaligned_1 5 rfl rfl)
theorem dJ18_getLongUnaligned_30 : decode cJ18_getLongUnaligned 30 = .ok (.invokevirtual 17, 3) := dk_182 0 17 (dk_at dksJ18_getLongUnaligned_1 6 rfl rfl)
theorem dJ18_getLongUnaligned_33 : decode cJ18_getLongUnaligned 33 = .ok (.aload_n 0, 1) := dk_42 (dk_at dksJ18_getLongUnaligned_1 9 rfl rfl)
theorem dJ18_getLongUnaligned_34 : decode cJ18_getLongUnaligned 34 = .ok (.aload_n 1, 1) := dk_43 (dk_at dksJ18_getLongUnaligned_1 10 rfl rfl)
theorem dJ18_getLongUnaligned_35 : decode cJ18_getLongUnaligned 35 = .ok (.lload_n 2, 1) := dk_32 (dk_at dksJ18_getLongUnaligned_1 11 rfl rfl)
theorem dJ18_getLongUnaligned_36 : decode cJ18_getLongUnaligned 36 = .ok (.ldc2_w 205, 3) := dk_20 0 205 (dk_at dksJ18_getLongUnaligned_1 12 rfl rfl)
theorem dJ18_getLongUnaligned_39 : decode cJ18_getLongUnaligned 39 = .ok (.ladd, 1) := dk_97 (dk_at dksJ18_getLongUnaligned_1 15 rfl rfl)
theorem dJ18_getLongUnaligned_40 : decode cJ18_getLongUnaligned 40 = .ok (.invokevirtual 17, 3) := dk_182 0 17 (dk_at dksJ18_getLongUnaligned_1 16 rfl rfl)
theorem dJ18_getLongUnaligned_43 : decode cJ18_getLongUnaligned 43 = .ok (.invokestatic 698, 3) := dk_184 2 186 (dk_at dksJ18_getLongUnaligned_1 19 rfl rfl)
theorem dJ18_getLongUnaligned_46 : decode cJ18_getLongUnaligned 46 = .ok (.lreturn, 1) := dk_173 (dk_at dksJ18_getLongUnaligned_1 22 rfl rfl)
theorem dJ18_getLongUnaligned_47 : decode cJ18_getLongUnaligned 47 = .ok (.lload_n 2, 1) := dk_32 (dk_at dksJ18_getLongUnaligned_1 23 rfl rfl)
theorem dJ18_getLongUnaligned_48 : decode cJ18_getLongUnaligned 48 = .ok (.lconst 1, 1) := dk_10 (dk_at dksJ18_getLongUnaligned_2 0 rfl rfl)
theorem dJ18_getLongUnaligned_49 : decode cJ18_getLongUnaligned 49 = .ok (.land, 1) := dk_127 (dk_at dksJ18_getLongUnaligned_2 1 rfl rfl)
theorem dJ18_getLongUnaligned_50 : decode cJ18_getLongUnaligned 50 = .ok (.lconst 0, 1) := dk_9 (dk_at dksJ18_getLongUnaligned_2 2 rfl rfl)
theorem dJ18_getLongUnaligned_51 : decode cJ18_getLongUnaligned 51 = .ok (.lcmp, 1) := dk_148 (dk_at dksJ18_getLongUnaligned_2 3 rfl rfl)
theorem dJ18_getLongUnaligned_52 : decode cJ18_getLongUnaligned 52 = .ok (.ifCond .ne 43, 3) := dk_154 0 43 (dk_at dksJ18_getLongUnaligned_2 4 rfl rfl)
theorem dJ18_getLongUnaligned_55 : decode cJ18_getLongUnaligned 55 = .ok (.aload_n 0, 1) := dk_42 (dk_at dksJ18_getLongUnaligned_2 7 rfl rfl)
theorem dJ18_getLongUnaligned_56 : decode cJ18_getLongUnaligned 56 = .ok (.aload_n 1, 1) := dk_43 (dk_at dksJ18_getLongUnaligned_2 8 rfl rfl)
theorem dJ18_getLongUnaligned_57 : decode cJ18_getLongUnaligned 57 = .ok (.lload_n 2, 1) := dk_32 (dk_at dksJ18_getLongUnaligned_2 9 rfl rfl)
theorem dJ18_getLongUnaligned_58 : decode cJ18_getLongUnaligned 58 = .ok (.invokevirtual 47, 3) := dk_182 0 47 (dk_at dksJ18_getLongUnaligned_2 10 rfl rfl)
theorem dJ18_getLongUnaligned_61 : decode cJ18_getLongUnaligned 61 = .ok (.aload_n 0, 1) := dk_42 (dk_at dksJ18_getLongUnaligned_2 13 rfl rfl)
theorem dJ18_getLongUnaligned_62 : decode cJ18_getLongUnaligned 62 = .ok (.aload_n 1, 1) := dk_43 (dk_at dksJ18_getLongUnaligned_2 14 rfl rfl)
theorem dJ18_getLongUnaligned_63 : decode cJ18_getLongUnaligned 63 = .ok (.lload_n 2, 1) := dk_32 (dk_at dksJ18_getLongUnaligned_2 15 rfl rfl)
theorem dJ18_getLongUnaligned_64 : decode cJ18_getLongUnaligned 64 = .ok (.ldc2_w 203, 3) := dk_20 0 203 (dk_at dksJ18_getLongUnaligned_2 16 rfl rfl)
theorem dJ18_getLongUnaligned_67 : decode cJ18_getLongUnaligned 67 = .ok (.ladd, 1) := dk_97 (dk_at dksJ18_getLongUnaligned_2 19 rfl rfl)
theorem dJ18_getLongUnaligned_68 : decode cJ18_getLongUnaligned 68 = .ok (.invokevirtual 47, 3) := dk_182 0 47 (dk_at dksJ18_getLongUnaligned_2 20 rfl rfl)
theorem dJ18_getLongUnaligned_71 : decode cJ18_getLongUnaligned 71 = .ok (.aload_n 0, 1) := dk_42 (dk_at dksJ18_getLongUnaligned_2 23 rfl rfl)
theorem dJ18_getLongUnaligned_72 : decode cJ18_getLongUnaligned 72 = .ok (.aload_n 1, 1) := dk_43 (dk_at dksJ18_getLongUnaligned_3 0 rfl rfl)
theorem dJ18_getLongUnaligned_73 : decode cJ18_getLongUnaligned 73 = .ok (.lload_n 2, 1) := dk_32 (dk_at dksJ18_getLongUnaligned_3 1 rfl rfl)
theorem dJ18_getLongUnaligned_74 : decode cJ18_getLongUnaligned 74 = .ok (.ldc2_w 205, 3) := dk_20 0 205 (dk_at dksJ18_getLongUnaligned_3 2 rfl rfl)
theorem dJ18_getLongUnaligned_77 : decode cJ18_getLongUnaligned 77 = .ok (.ladd, 1) := dk_97 (dk_at dksJ18_getLongUnaligned_3 5 rfl rfl)
theorem dJ18_getLongUnaligned_78 : decode cJ18_getLongUnaligned 78 = .ok (.invokevirtual 47, 3) := dk_182 0 47 (dk_at dksJ18_getLongUnaligned_3 6 rfl rfl)
theorem dJ18_getLongUnaligned_81 : decode cJ18_getLongUnaligned 81 = .ok (.aload_n 0, 1) := dk_42 (dk_at dksJ18_getLongUnaligned_3 9 rfl rfl)
theorem dJ18_getLongUnaligned_82 : decode cJ18_getLongUnaligned 82 = .ok (.aload_n 1, 1) := dk_43 (dk_at dksJ18_getLongUnaligned_3 10 rfl rfl)
theorem dJ18_getLongUnaligned_83 : decode cJ18_getLongUnaligned 83 = .ok (.lload_n 2, 1) := dk_32 (dk_at dksJ18_getLongUnaligned_3 11 rfl rfl)
theorem dJ18_getLongUnaligned_84 : decode cJ18_getLongUnaligned 84 = .ok (.ldc2_w 702, 3) := dk_20 2 190 (dk_at dksJ18_getLongUnaligned_3 12 rfl rfl)
theorem dJ18_getLongUnaligned_87 : decode cJ18_getLongUnaligned 87 = .ok (.ladd, 1) := dk_97 (dk_at dksJ18_getLongUnaligned_3 15 rfl rfl)
theorem dJ18_getLongUnaligned_88 : decode cJ18_getLongUnaligned 88 = .ok (.invokevirtual 47, 3) := dk_182 0 47 (dk_at dksJ18_getLongUnaligned_3 16 rfl rfl)
theorem dJ18_getLongUnaligned_91 : decode cJ18_getLongUnaligned 91 = .ok (.invokestatic 704, 3) := dk_184 2 192 (dk_at dksJ18_getLongUnaligned_3 19 rfl rfl)
theorem dJ18_getLongUnaligned_94 : decode cJ18_getLongUnaligned 94 = .ok (.lreturn, 1) := dk_173 (dk_at dksJ18_getLongUnaligned_3 22 rfl rfl)
theorem dJ18_getLongUnaligned_95 : decode cJ18_getLongUnaligned 95 = .ok (.aload_n 0, 1) := dk_42 (dk_at dksJ18_getLongUnaligned_3 23 rfl rfl)
theorem dJ18_getLongUnaligned_96 : decode cJ18_getLongUnaligned 96 = .ok (.aload_n 1, 1) := dk_43 (dk_at dksJ18_getLongUnaligned_4 0 rfl rfl)
theorem dJ18_getLongUnaligned_97 : decode cJ18_getLongUnaligned 97 = .ok (.lload_n 2, 1) := dk_32 (dk_at dksJ18_getLongUnaligned_4 1 rfl rfl)
theorem dJ18_getLongUnaligned_98 : decode cJ18_getLongUnaligned 98 = .ok (.invokevirtual 39, 3) := dk_182 0 39 (dk_at dksJ18_getLongUnaligned_4 2 rfl rfl)
theorem dJ18_getLongUnaligned_101 : decode cJ18_getLongUnaligned 101 = .ok (.aload_n 0, 1) := dk_42 (dk_at dksJ18_getLongUnaligned_4 5 rfl rfl)
theorem dJ18_getLongUnaligned_102 : decode cJ18_getLongUnaligned 102 = .ok (.aload_n 1, 1) := dk_43 (dk_at dksJ18_getLongUnaligned_4 6 rfl rfl)
theorem dJ18_getLongUnaligned_103 : decode cJ18_getLongUnaligned 103 = .ok (.lload_n 2, 1) := dk_32 (dk_at dksJ18_getLongUnaligned_4 7 rfl rfl)
theorem dJ18_getLongUnaligned_104 : decode cJ18_getLongUnaligned 104 = .ok (.lconst 1, 1) := dk_10 (dk_at dksJ18_getLongUnaligned_4 8 rfl rfl)
theorem dJ18_getLongUnaligned_105 : decode cJ18_getLongUnaligned 105 = .ok (.ladd, 1) := dk_97 (dk_at dksJ18_getLongUnaligned_4 9 rfl rfl)
theorem dJ18_getLongUnaligned_106 : decode cJ18_getLongUnaligned 106 = .ok (.invokevirtual 39, 3) := dk_182 0 39 (dk_at dksJ18_getLongUnaligned_4 10 rfl rfl)
theorem dJ18_getLongUnaligned_109 : decode cJ18_getLongUnaligned 109 = .ok (.aload_n 0, 1) := dk_42 (dk_at dksJ18_getLongUnaligned_4 13 rfl rfl)
theorem dJ18_getLongUnaligned_110 : decode cJ18_getLongUnaligned 110 = .ok (.aload_n 1, 1) := dk_43 (dk_at dksJ18_getLongUnaligned_4 14 rfl rfl)
theorem dJ18_getLongUnaligned_111 : decode cJ18_getLongUnaligned 111 = .ok (.lload_n 2, 1) := dk_32 (dk_at dksJ18_getLongUnaligned_4 15 rfl rfl)
theorem dJ18_getLongUnaligned_112 : decode cJ18_getLongUnaligned 112 = .ok (.ldc2_w 203, 3) := dk_20 0 203 (dk_at dksJ18_getLongUnaligned_4 16 rfl rfl)
theorem dJ18_getLongUnaligned_115 : decode cJ18_getLongUnaligned 115 = .ok (.ladd, 1) := dk_97 (dk_at dksJ18_getLongUnaligned_4 19 rfl rfl)
theorem dJ18_getLongUnaligned_116 : decode cJ18_getLongUnaligned 116 = .ok (.invokevirtual 39, 3) := dk_182 0 39 (dk_at dksJ18_getLongUnaligned_4 20 rfl rfl)
theorem dJ18_getLongUnaligned_119 : decode cJ18_getLongUnaligned 119 = .ok (.aload_n 0, 1) := dk_42 (dk_at dksJ18_getLongUnaligned_4 23 rfl rfl)
theorem dJ18_getLongUnaligned_120 : decode cJ18_getLongUnaligned 120 = .ok (.aload_n 1, 1) := dk_43 (dk_at dksJ18_getLongUnaligned_5 0 rfl rfl)
theorem dJ18_getLongUnaligned_121 : decode cJ18_getLongUnaligned 121 = .ok (.lload_n 2, 1) := dk_32 (dk_at dksJ18_getLongUnaligned_5 1 rfl rfl)
theorem dJ18_getLongUnaligned_122 : decode cJ18_getLongUnaligned 122 = .ok (.ldc2_w 349, 3) := dk_20 1 93 (dk_at dksJ18_getLongUnaligned_5 2 rfl rfl)
theorem dJ18_getLongUnaligned_125 : decode cJ18_getLongUnaligned 125 = .ok (.ladd, 1) := dk_97 (dk_at dksJ18_getLongUnaligned_5 5 rfl rfl)
theorem dJ18_getLongUnaligned_126 : decode cJ18_getLongUnaligned 126 = .ok (.invokevirtual 39, 3) := dk_182 0 39 (dk_at dksJ18_getLongUnaligned_5 6 rfl rfl)
theorem dJ18_getLongUnaligned_129 : decode cJ18_getLongUnaligned 129 = .ok (.aload_n 0, 1) := dk_42 (dk_at dksJ18_getLongUnaligned_5 9 rfl rfl)
theorem dJ18_getLongUnaligned_130 : decode cJ18_getLongUnaligned 130 = .ok (.aload_n 1, 1) := dk_43 (dk_at dksJ18_getLongUnaligned_5 10 rfl rfl)
theorem dJ18_getLongUnaligned_131 : decode cJ18_getLongUnaligned 131 = .ok (.lload_n 2, 1) := dk_32 (dk_at dksJ18_getLongUnaligned_5 11 rfl rfl)
theorem dJ18_getLongUnaligned_132 : decode cJ18_getLongUnaligned 132 = .ok (.ldc2_w 205, 3) := dk_20 0 205 (dk_at dksJ18_getLongUnaligned_5 12 rfl rfl)
theorem dJ18_getLongUnaligned_135 : decode cJ18_getLongUnaligned 135 = .ok (.ladd, 1) := dk_97 (dk_at dksJ18_getLongUnaligned_5 15 rfl rfl)
theorem dJ18_getLongUnaligned_136 : decode cJ18_getLongUnaligned 136 = .ok (.invokevirtual 39, 3) := dk_182 0 39 (dk_at dksJ18_getLongUnaligned_5 16 rfl rfl)
theorem dJ18_getLongUnaligned_139 : decode cJ18_getLongUnaligned 139 = .ok (.aload_n 0, 1) := dk_42 (dk_at dksJ18_getLongUnaligned_5 19 rfl rfl)
theorem dJ18_getLongUnaligned_140 : decode cJ18_getLongUnaligned 140 = .ok (.aload_n 1, 1) := dk_43 (dk_at dksJ18_getLongUnaligned_5 20 rfl rfl)
theorem dJ18_getLongUnaligned_141 : decode cJ18_getLongUnaligned 141 = .ok (.lload_n 2, 1) := dk_32 (dk_at dksJ18_getLongUnaligned_5 21 rfl rfl)
theorem dJ18_getLongUnaligned_142 : decode cJ18_getLongUnaligned 142 = .ok (.ldc2_w 707, 3) := dk_20 2 195 (dk_at dksJ18_getLongUnaligned_6 0 rfl rfl)
theorem dJ18_getLongUnaligned_145 : decode cJ18_getLongUnaligned 145 = .ok (.ladd, 1) := dk_97 (dk_at dksJ18_getLongUnaligned_6 3 rfl rfl)
theorem dJ18_getLongUnaligned_146 : decode cJ18_getLongUnaligned 146 = .ok (.invokevirtual 39, 3) := dk_182 0 39 (dk_at dksJ18_getLongUnaligned_6 4 rfl rfl)
theorem dJ18_getLongUnaligned_149 : decode cJ18_getLongUnaligned 149 = .ok (.aload_n 0, 1) := dk_42 (dk_at dksJ18_getLongUnaligned_6 7 rfl rfl)
theorem dJ18_getLongUnaligned_150 : decode cJ18_getLongUnaligned 150 = .ok (.aload_n 1, 1) := dk_43 (dk_at dksJ18_getLongUnaligned_6 8 rfl rfl)
theorem dJ18_getLongUnaligned_151 : decode cJ18_getLongUnaligned 151 = .ok (.lload_n 2, 1) := dk_32 (dk_at dksJ18_getLongUnaligned_6 9 rfl rfl)
theorem dJ18_getLongUnaligned_152 : decode cJ18_getLongUnaligned 152 = .ok (.ldc2_w 702, 3) := dk_20 2 190 (dk_at dksJ18_getLongUnaligned_6 10 rfl rfl)
theorem dJ18_getLongUnaligned_155 : decode cJ18_getLongUnaligned 155 = .ok (.ladd, 1) := dk_97 (dk_at dksJ18_getLongUnaligned_6 13 rfl rfl)
theorem dJ18_getLongUnaligned_156 : decode cJ18_getLongUnaligned 156 = .ok (.invokevirtual 39, 3) := dk_182 0 39 (dk_at dksJ18_getLongUnaligned_6 14 rfl rfl)
theorem dJ18_getLongUnaligned_159 : decode cJ18_getLongUnaligned 159 = .ok (.aload_n 0, 1) := dk_42 (dk_at dksJ18_getLongUnaligned_6 17 rfl rfl)
theorem dJ18_getLongUnaligned_160 : decode cJ18_getLongUnaligned 160 = .ok (.aload_n 1, 1) := dk_43 (dk_at dksJ18_getLongUnaligned_6 18 rfl rfl)
theorem dJ18_getLongUnaligned_161 : decode cJ18_getLongUnaligned 161 = .ok (.lload_n 2, 1) := dk_32 (dk_at dksJ18_getLongUnaligned_6 19 rfl rfl)
theorem dJ18_getLongUnaligned_162 : decode cJ18_getLongUnaligned 162 = .ok (.ldc2_w 696, 3) := dk_20 2 184 (dk_at dksJ18_getLongUnaligned_6 20 rfl rfl)
theorem dJ18_getLongUnaligned_165 : decode cJ18_getLongUnaligned 165 = .ok (.ladd, 1) := dk_97 (dk_at dksJ18_getLongUnaligned_6 23 rfl rfl)
theorem dJ18_getLongUnaligned_166 : decode cJ18_getLongUnaligned 166 = .ok (.invokevirtual 39, 3) := dk_182 0 39 (dk_at dksJ18_getLongUnaligned_7 0 rfl rfl)
theorem dJ18_getLongUnaligned_169 : decode cJ18_getLongUnaligned 169 = .ok (.invokestatic 709, 3) := dk_184 2 197 (dk_at dksJ18_getLongUnaligned_7 3 rfl rfl)
theorem dJ18_getLongUnaligned_172 : decode cJ18_getLongUnaligned 172 = .ok (.lreturn, 1) := dk_173 (dk_at dksJ18_getLongUnaligned_7 6 rfl rfl)
abbrev cJ18_makeLong : ByteArray := prog_98_method_353_code
def yJ18_makeLong : MethodName := ⟨RJ18, "makeLong", "(II)J"⟩
def dkwJ18_makeLong_1 : List UInt8 := [173]
abbrev dktJ18_makeLong_1 : List UInt8 := dkwJ18_makeLong_1 ++ []
def dkwJ18_makeLong_0 : List UInt8 := [26, 184, 3, 23, 16, 32, 3, 184, 3, 16, 121, 27, 184, 3, 23, 16, 32, 16, 32, 184, 3, 16, 121, 129]
abbrev dktJ18_makeLong_0 : List UInt8 := dkwJ18_makeLong_0 ++ dktJ18_makeLong_1
theorem dksJ18_makeLong_0 : cJ18_makeLong.data.toList.drop 0 = dktJ18_makeLong_0 := by decide +kernel
theorem dksJ18_makeLong_1 : cJ18_makeLong.data.toList.drop 24 = dktJ18_makeLong_1 := dk_seg dksJ18_makeLong_0 24 rfl rfl
theorem dJ18_makeLong_0 : decode cJ18_makeLong 0 = .ok (.iload_n 0, 1) := dk_26 (dk_at dksJ18_makeLong_0 0 rfl rfl)
theorem dJ18_makeLong_1 : decode cJ18_makeLong 1 = .ok (.invokestatic 791, 3) := dk_184 3 23 (dk_at dksJ18_makeLong_0 1 rfl rfl)
theorem dJ18_makeLong_4 : decode cJ18_makeLong 4 = .ok (.bipush 32, 2) := dk_16 32 (dk_at dksJ18_makeLong_0 4 rfl rfl)
theorem dJ18_makeLong_6 : decode cJ18_makeLong 6 = .ok (.iconst 0, 1) := dk_3 (dk_at dksJ18_makeLong_0 6 rfl rfl)
theorem dJ18_makeLong_7 : decode cJ18_makeLong 7 = .ok (.invokestatic 784, 3) := dk_184 3 16 (dk_at dksJ18_makeLong_0 7 rfl rfl)
theorem dJ18_makeLong_10 : decode cJ18_makeLong 10 = .ok (.lshl, 1) := dk_121 (dk_at dksJ18_makeLong_0 10 rfl rfl)
theorem dJ18_makeLong_11 : decode cJ18_makeLong 11 = .ok (.iload_n 1, 1) := dk_27 (dk_at dksJ18_makeLong_0 11 rfl rfl)
theorem dJ18_makeLong_12 : decode cJ18_makeLong 12 = .ok (.invokestatic 791, 3) := dk_184 3 23 (dk_at dksJ18_makeLong_0 12 rfl rfl)
theorem dJ18_makeLong_15 : decode cJ18_makeLong 15 = .ok (.bipush 32, 2) := dk_16 32 (dk_at dksJ18_makeLong_0 15 rfl rfl)
theorem dJ18_makeLong_17 : decode cJ18_makeLong 17 = .ok (.bipush 32, 2) := dk_16 32 (dk_at dksJ18_makeLong_0 17 rfl rfl)
theorem dJ18_makeLong_19 : decode cJ18_makeLong 19 = .ok (.invokestatic 784, 3) := dk_184 3 16 (dk_at dksJ18_makeLong_0 19 rfl rfl)
theorem dJ18_makeLong_22 : decode cJ18_makeLong 22 = .ok (.lshl, 1) := dk_121 (dk_at dksJ18_makeLong_0 22 rfl rfl)
theorem dJ18_makeLong_23 : decode cJ18_makeLong 23 = .ok (.lor, 1) := dk_129 (dk_at dksJ18_makeLong_0 23 rfl rfl)
theorem dJ18_makeLong_24 : decode cJ18_makeLong 24 = .ok (.lreturn, 1) := dk_173 (dk_at dksJ18_makeLong_1 0 rfl rfl)
abbrev cJ18_toUnsignedLong : ByteArray := prog_98_method_370_code
def yJ18_toUnsignedLong : MethodName := ⟨RJ18, "toUnsignedLong", "(I)J"⟩
def dkwJ18_toUnsignedLong_0 : List UInt8 := [26, 133, 20, 3, 44, 127, 173]
abbrev dktJ18_toUnsignedLong_0 : List UInt8 := dkwJ18_toUnsignedLong_0 ++ []
theorem dksJ18_toUnsignedLong_0 : cJ18_toUnsignedLong.data.toList.drop 0 = dktJ18_toUnsignedLong_0 := by decide +kernel
theorem dJ18_toUnsignedLong_0 : decode cJ18_toUnsignedLong 0 = .ok (.iload_n 0, 1) := dk_26 (dk_at dksJ18_toUnsignedLong_0 0 rfl rfl)
theorem dJ18_toUnsignedLong_1 : decode cJ18_toUnsignedLong 1 = .ok (.i2l, 1) := dk_133 (dk_at dksJ18_toUnsignedLong_0 1 rfl rfl)
theorem dJ18_toUnsignedLong_2 : decode cJ18_toUnsignedLong 2 = .ok (.ldc2_w 812, 3) := dk_20 3 44 (dk_at dksJ18_toUnsignedLong_0 2 rfl rfl)
theorem dJ18_toUnsignedLong_5 : decode cJ18_toUnsignedLong 5 = .ok (.land, 1) := dk_127 (dk_at dksJ18_toUnsignedLong_0 5 rfl rfl)
theorem dJ18_toUnsignedLong_6 : decode cJ18_toUnsignedLong 6 = .ok (.lreturn, 1) := dk_173 (dk_at dksJ18_toUnsignedLong_0 6 rfl rfl)
abbrev cJ18_pickPos : ByteArray := prog_98_method_350_code
def yJ18_pickPos : MethodName := ⟨RJ18, "pickPos", "(II)I"⟩
def dkwJ18_pickPos_0 : List UInt8 := [178, 1, 95, 153, 0, 9, 26, 27, 100, 167, 0, 4, 27, 172]
abbrev dktJ18_pickPos_0 : List UInt8 := dkwJ18_pickPos_0 ++ []
theorem dksJ18_pickPos_0 : cJ18_pickPos.data.toList.drop 0 = dktJ18_pickPos_0 := by decide +kernel
theorem dJ18_pickPos_0 : decode cJ18_pickPos 0 = .ok (.getstatic 351, 3) := dk_178 1 95 (dk_at dksJ18_pickPos_0 0 rfl rfl)
theorem dJ18_pickPos_3 : decode cJ18_pickPos 3 = .ok (.ifCond .eq 9, 3) := dk_153 0 9 (dk_at dksJ18_pickPos_0 3 rfl rfl)
theorem dJ18_pickPos_6 : decode cJ18_pickPos 6 = .ok (.iload_n 0, 1) := dk_26 (dk_at dksJ18_pickPos_0 6 rfl rfl)
theorem dJ18_pickPos_7 : decode cJ18_pickPos 7 = .ok (.iload_n 1, 1) := dk_27 (dk_at dksJ18_pickPos_0 7 rfl rfl)
theorem dJ18_pickPos_8 : decode cJ18_pickPos 8 = .ok (.isub, 1) := dk_100 (dk_at dksJ18_pickPos_0 8 rfl rfl)
theorem dJ18_pickPos_9 : decode cJ18_pickPos 9 = .ok (.goto 4, 3) := dk_167 0 4 (dk_at dksJ18_pickPos_0 9 rfl rfl)
theorem dJ18_pickPos_12 : decode cJ18_pickPos 12 = .ok (.iload_n 1, 1) := dk_27 (dk_at dksJ18_pickPos_0 12 rfl rfl)
theorem dJ18_pickPos_13 : decode cJ18_pickPos 13 = .ok (.ireturn, 1) := dk_172 (dk_at dksJ18_pickPos_0 13 rfl rfl)
abbrev cJ18_makeLong_2 : ByteArray := prog_98_method_352_code
def yJ18_makeLong_2 : MethodName := ⟨RJ18, "makeLong", "(SSSS)J"⟩
def dkwJ18_makeLong_2_2 : List UInt8 := [121, 129, 173]
abbrev dktJ18_makeLong_2_2 : List UInt8 := dkwJ18_makeLong_2_2 ++ []
def dkwJ18_makeLong_2_1 : List UInt8 := [28, 184, 3, 20, 16, 48, 16, 32, 184, 3, 16, 121, 129, 29, 184, 3, 20, 16, 48, 16, 48, 184, 3, 16]
abbrev dktJ18_makeLong_2_1 : List UInt8 := dkwJ18_makeLong_2_1 ++ dktJ18_makeLong_2_2
def dkwJ18_makeLong_2_0 : List UInt8 := [26, 184, 3, 20, 16, 48, 3, 184, 3, 16, 121, 27, 184, 3, 20, 16, 48, 16, 16, 184, 3, 16, 121, 129]
abbrev dktJ18_makeLong_2_0 : List UInt8 := dkwJ18_makeLong_2_0 ++ dktJ18_makeLong_2_1
theorem dksJ18_makeLong_2_0 : cJ18_makeLong_2.data.toList.drop 0 = dktJ18_makeLong_2_0 := by decide +kernel
theorem dksJ18_makeLong_2_1 : cJ18_makeLong_2.data.toList.drop 24 = dktJ18_makeLong_2_1 := dk_seg dksJ18_makeLong_2_0 24 rfl rfl
theorem dksJ18_makeLong_2_2 : cJ18_makeLong_2.data.toList.drop 48 = dktJ18_makeLong_2_2 := dk_seg dksJ18_makeLong_2_1 24 rfl rfl
theorem dJ18_makeLong_2_0 : decode cJ18_makeLong_2 0 = .ok (.iload_n 0, 1) := dk_26 (dk_at dksJ18_makeLong_2_0 0 rfl rfl)
theorem dJ18_makeLong_2_1 : decode cJ18_makeLong_2 1 = .ok (.invokestatic 788, 3) := dk_184 3 20 (dk_at dksJ18_makeLong_2_0 1 rfl rfl)
theorem dJ18_makeLong_2_4 : decode cJ18_makeLong_2 4 = .ok (.bipush 48, 2) := dk_16 48 (dk_at dksJ18_makeLong_2_0 4 rfl rfl)
theorem dJ18_makeLong_2_6 : decode cJ18_makeLong_2 6 = .ok (.iconst 0, 1) := dk_3 (dk_at dksJ18_makeLong_2_0 6 rfl rfl)
theorem dJ18_makeLong_2_7 : decode cJ18_makeLong_2 7 = .ok (.invokestatic 784, 3) := dk_184 3 16 (dk_at dksJ18_makeLong_2_0 7 rfl rfl)
theorem dJ18_makeLong_2_10 : decode cJ18_makeLong_2 10 = .ok (.lshl, 1) := dk_121 (dk_at dksJ18_makeLong_2_0 10 rfl rfl)
theorem dJ18_makeLong_2_11 : decode cJ18_makeLong_2 11 = .ok (.iload_n 1, 1) := dk_27 (dk_at dksJ18_makeLong_2_0 11 rfl rfl)
theorem dJ18_makeLong_2_12 : decode cJ18_makeLong_2 12 = .ok (.invokestatic 788, 3) := dk_184 3 20 (dk_at dksJ18_makeLong_2_0 12 rfl rfl)
theorem dJ18_makeLong_2_15 : decode cJ18_makeLong_2 15 = .ok (.bipush 48, 2) := dk_16 48 (dk_at dksJ18_makeLong_2_0 15 rfl rfl)
theorem dJ18_makeLong_2_17 : decode cJ18_makeLong_2 17 = .ok (.bipush 16, 2) := dk_16 16 (dk_at dksJ18_makeLong_2_0 17 rfl rfl)
theorem dJ18_makeLong_2_19 : decode cJ18_makeLong_2 19 = .ok (.invokestatic 784, 3) := dk_184 3 16 (dk_at dksJ18_makeLong_2_0 19 rfl rfl)
theorem dJ18_makeLong_2_22 : decode cJ18_makeLong_2 22 = .ok (.lshl, 1) := dk_121 (dk_at dksJ18_makeLong_2_0 22 rfl rfl)
theorem dJ18_makeLong_2_23 : decode cJ18_makeLong_2 23 = .ok (.lor, 1) := dk_129 (dk_at dksJ18_makeLong_2_0 23 rfl rfl)
theorem dJ18_makeLong_2_24 : decode cJ18_makeLong_2 24 = .ok (.iload_n 2, 1) := dk_28 (dk_at dksJ18_makeLong_2_1 0 rfl rfl)
theorem dJ18_makeLong_2_25 : decode cJ18_makeLong_2 25 = .ok (.invokestatic 788, 3) := dk_184 3 20 (dk_at dksJ18_makeLong_2_1 1 rfl rfl)
theorem dJ18_makeLong_2_28 : decode cJ18_makeLong_2 28 = .ok (.bipush 48, 2) := dk_16 48 (dk_at dksJ18_makeLong_2_1 4 rfl rfl)
theorem dJ18_makeLong_2_30 : decode cJ18_makeLong_2 30 = .ok (.bipush 32, 2) := dk_16 32 (dk_at dksJ18_makeLong_2_1 6 rfl rfl)
theorem dJ18_makeLong_2_32 : decode cJ18_makeLong_2 32 = .ok (.invokestatic 784, 3) := dk_184 3 16 (dk_at dksJ18_makeLong_2_1 8 rfl rfl)
theorem dJ18_makeLong_2_35 : decode cJ18_makeLong_2 35 = .ok (.lshl, 1) := dk_121 (dk_at dksJ18_makeLong_2_1 11 rfl rfl)
theorem dJ18_makeLong_2_36 : decode cJ18_makeLong_2 36 = .ok (.lor, 1) := dk_129 (dk_at dksJ18_makeLong_2_1 12 rfl rfl)
theorem dJ18_makeLong_2_37 : decode cJ18_makeLong_2 37 = .ok (.iload_n 3, 1) := dk_29 (dk_at dksJ18_makeLong_2_1 13 rfl rfl)
theorem dJ18_makeLong_2_38 : decode cJ18_makeLong_2 38 = .ok (.invokestatic 788, 3) := dk_184 3 20 (dk_at dksJ18_makeLong_2_1 14 rfl rfl)
theorem dJ18_makeLong_2_41 : decode cJ18_makeLong_2 41 = .ok (.bipush 48, 2) := dk_16 48 (dk_at dksJ18_makeLong_2_1 17 rfl rfl)
theorem dJ18_makeLong_2_43 : decode cJ18_makeLong_2 43 = .ok (.bipush 48, 2) := dk_16 48 (dk_at dksJ18_makeLong_2_1 19 rfl rfl)
theorem dJ18_makeLong_2_45 : decode cJ18_makeLong_2 45 = .ok (.invokestatic 784, 3) := dk_184 3 16 (dk_at dksJ18_makeLong_2_1 21 rfl rfl)
theorem dJ18_makeLong_2_48 : decode cJ18_makeLong_2 48 = .ok (.lshl, 1) := dk_121 (dk_at dksJ18_makeLong_2_2 0 rfl rfl)
theorem dJ18_makeLong_2_49 : decode cJ18_makeLong_2 49 = .ok (.lor, 1) := dk_129 (dk_at dksJ18_makeLong_2_2 1 rfl rfl)
theorem dJ18_makeLong_2_50 : decode cJ18_makeLong_2 50 = .ok (.lreturn, 1) := dk_173 (dk_at dksJ18_makeLong_2_2 2 rfl rfl)
abbrev cJ18_toUnsignedLong_2 : ByteArray := prog_98_method_369_code
def yJ18_toUnsignedLong_2 : MethodName := ⟨RJ18, "toUnsignedLong", "(S)J"⟩
def dkwJ18_toUnsignedLong_2_0 : List UInt8 := [26, 133, 20, 3, 42, 127, 173]
abbrev dktJ18_toUnsignedLong_2_0 : List UInt8 := dkwJ18_toUnsignedLong_2_0 ++ []
theorem dksJ18_toUnsignedLong_2_0 : cJ18_toUnsignedLong_2.data.toList.drop 0 = dktJ18_toUnsignedLong_2_0 := by decide +kernel
theorem dJ18_toUnsignedLong_2_0 : decode cJ18_toUnsignedLong_2 0 = .ok (.iload_n 0, 1) := dk_26 (dk_at dksJ18_toUnsignedLong_2_0 0 rfl rfl)
theorem dJ18_toUnsignedLong_2_1 : decode cJ18_toUnsignedLong_2 1 = .ok (.i2l, 1) := dk_133 (dk_at dksJ18_toUnsignedLong_2_0 1 rfl rfl)
theorem dJ18_toUnsignedLong_2_2 : decode cJ18_toUnsignedLong_2 2 = .ok (.ldc2_w 810, 3) := dk_20 3 42 (dk_at dksJ18_toUnsignedLong_2_0 2 rfl rfl)
theorem dJ18_toUnsignedLong_2_5 : decode cJ18_toUnsignedLong_2 5 = .ok (.land, 1) := dk_127 (dk_at dksJ18_toUnsignedLong_2_0 5 rfl rfl)
theorem dJ18_toUnsignedLong_2_6 : decode cJ18_toUnsignedLong_2 6 = .ok (.lreturn, 1) := dk_173 (dk_at dksJ18_toUnsignedLong_2_0 6 rfl rfl)
abbrev cJ18_makeLong_3 : ByteArray := prog_98_method_351_code
def yJ18_makeLong_3 : MethodName := ⟨RJ18, "makeLong", "(BBBBBBBB)J"⟩
def dkwJ18_makeLong_3_4 : List UInt8 := [184, 3, 13, 16, 56, 16, 56, 184, 3, 16, 121, 129, 173]
abbrev dktJ18_makeLong_3_4 : List UInt8 := dkwJ18_makeLong_3_4 ++ []
def dkwJ18_makeLong_3_3 : List UInt8 := [16, 40, 184, 3, 16, 121, 129, 21, 6, 184, 3, 13, 16, 56, 16, 48, 184, 3, 16, 121, 129, 21, 7]
abbrev dktJ18_makeLong_3_3 : List UInt8 := dkwJ18_makeLong_3_3 ++ dktJ18_makeLong_3_4
def dkwJ18_makeLong_3_2 : List UInt8 := [121, 129, 21, 4, 184, 3, 13, 16, 56, 16, 32, 184, 3, 16, 121, 129, 21, 5, 184, 3, 13, 16, 56]
abbrev dktJ18_makeLong_3_2 : List UInt8 := dkwJ18_makeLong_3_2 ++ dktJ18_makeLong_3_3
def dkwJ18_makeLong_3_1 : List UInt8 := [28, 184, 3, 13, 16, 56, 16, 16, 184, 3, 16, 121, 129, 29, 184, 3, 13, 16, 56, 16, 24, 184, 3, 16]
abbrev dktJ18_makeLong_3_1 : List UInt8 := dkwJ18_makeLong_3_1 ++ dktJ18_makeLong_3_2
def dkwJ18_makeLong_3_0 : List UInt8 := [26, 184, 3, 13, 16, 56, 3, 184, 3, 16, 121, 27, 184, 3, 13, 16, 56, 16, 8, 184, 3, 16, 121, 129]
abbrev dktJ18_makeLong_3_0 : List UInt8 := dkwJ18_makeLong_3_0 ++ dktJ18_makeLong_3_1
theorem dksJ18_makeLong_3_0 : cJ18_makeLong_3.data.toList.drop 0 = dktJ18_makeLong_3_0 := by decide +kernel
theorem dksJ18_makeLong_3_1 : cJ18_makeLong_3.data.toList.drop 24 = dktJ18_makeLong_3_1 := dk_seg dksJ18_makeLong_3_0 24 rfl rfl
theorem dksJ18_makeLong_3_2 : cJ18_makeLong_3.data.toList.drop 48 = dktJ18_makeLong_3_2 := dk_seg dksJ18_makeLong_3_1 24 rfl rfl
theorem dksJ18_makeLong_3_3 : cJ18_makeLong_3.data.toList.drop 71 = dktJ18_makeLong_3_3 := dk_seg dksJ18_makeLong_3_2 23 rfl rfl
theorem dksJ18_makeLong_3_4 : cJ18_makeLong_3.data.toList.drop 94 = dktJ18_makeLong_3_4 := dk_seg dksJ18_makeLong_3_3 23 rfl rfl
theorem dJ18_makeLong_3_0 : decode cJ18_makeLong_3 0 = .ok (.iload_n 0, 1) := dk_26 (dk_at dksJ18_makeLong_3_0 0 rfl rfl)
theorem dJ18_makeLong_3_1 : decode cJ18_makeLong_3 1 = .ok (.invokestatic 781, 3) := dk_184 3 13 (dk_at dksJ18_makeLong_3_0 1 rfl rfl)
theorem dJ18_makeLong_3_4 : decode cJ18_makeLong_3 4 = .ok (.bipush 56, 2) := dk_16 56 (dk_at dksJ18_makeLong_3_0 4 rfl rfl)
theorem dJ18_makeLong_3_6 : decode cJ18_makeLong_3 6 = .ok (.iconst 0, 1) := dk_3 (dk_at dksJ18_makeLong_3_0 6 rfl rfl)
theorem dJ18_makeLong_3_7 : decode cJ18_makeLong_3 7 = .ok (.invokestatic 784, 3) := dk_184 3 16 (dk_at dksJ18_makeLong_3_0 7 rfl rfl)
theorem dJ18_makeLong_3_10 : decode cJ18_makeLong_3 10 = .ok (.lshl, 1) := dk_121 (dk_at dksJ18_makeLong_3_0 10 rfl rfl)
theorem dJ18_makeLong_3_11 : decode cJ18_makeLong_3 11 = .ok (.iload_n 1, 1) := dk_27 (dk_at dksJ18_makeLong_3_0 11 rfl rfl)
theorem dJ18_makeLong_3_12 : decode cJ18_makeLong_3 12 = .ok (.invokestatic 781, 3) := dk_184 3 13 (dk_at dksJ18_makeLong_3_0 12 rfl rfl)
theorem dJ18_makeLong_3_15 : decode cJ18_makeLong_3 15 = .ok (.bipush 56, 2) := dk_16 56 (dk_at dksJ18_makeLong_3_0 15 rfl rfl)
theorem dJ18_makeLong_3_17 : decode cJ18_makeLong_3 17 = .ok (.bipush 8, 2) := dk_16 8 (dk_at dksJ18_makeLong_3_0 17 rfl rfl)
theorem dJ18_makeLong_3_19 : decode cJ18_makeLong_3 19 = .ok (.invokestatic 784, 3) := dk_184 3 16 (dk_at dksJ18_makeLong_3_0 19 rfl rfl)
theorem dJ18_makeLong_3_22 : decode cJ18_makeLong_3 22 = .ok (.lshl, 1) := dk_121 (dk_at dksJ18_makeLong_3_0 22 rfl rfl)
theorem dJ18_makeLong_3_23 : decode cJ18_makeLong_3 23 = .ok (.lor, 1) := dk_129 (dk_at dksJ18_makeLong_3_0 23 rfl rfl)
theorem dJ18_makeLong_3_24 : decode cJ18_makeLong_3 24 = .ok (.iload_n 2, 1) := dk_28 (dk_at dksJ18_makeLong_3_1 0 rfl rfl)
theorem dJ18_makeLong_3_25 : decode cJ18_makeLong_3 25 = .ok (.invokestatic 781, 3) := dk_184 3 13 (dk_at dksJ18_makeLong_3_1 1 rfl rfl)
theorem dJ18_makeLong_3_28 : decode cJ18_makeLong_3 28 = .ok (.bipush 56, 2) := dk_16 56 (dk_at dksJ18_makeLong_3_1 4 rfl rfl)
theorem dJ18_makeLong_3_30 : decode cJ18_makeLong_3 30 = .ok (.bipush 16, 2) := dk_16 16 (dk_at dksJ18_makeLong_3_1 6 rfl rfl)
theorem dJ18_makeLong_3_32 : decode cJ18_makeLong_3 32 = .ok (.invokestatic 784, 3) := dk_184 3 16 (dk_at dksJ18_makeLong_3_1 8 rfl rfl)
theorem dJ18_makeLong_3_35 : decode cJ18_makeLong_3 35 = .ok (.lshl, 1) := dk_121 (dk_at dksJ18_makeLong_3_1 11 rfl rfl)
theorem dJ18_makeLong_3_36 : decode cJ18_makeLong_3 36 = .ok (.lor, 1) := dk_129 (dk_at dksJ18_makeLong_3_1 12 rfl rfl)
theorem dJ18_makeLong_3_37 : decode cJ18_makeLong_3 37 = .ok (.iload_n 3, 1) := dk_29 (dk_at dksJ18_makeLong_3_1 13 rfl rfl)
theorem dJ18_makeLong_3_38 : decode cJ18_makeLong_3 38 = .ok (.invokestatic 781, 3) := dk_184 3 13 (dk_at dksJ18_makeLong_3_1 14 rfl rfl)
theorem dJ18_makeLong_3_41 : decode cJ18_makeLong_3 41 = .ok (.bipush 56, 2) := dk_16 56 (dk_at dksJ18_makeLong_3_1 17 rfl rfl)
theorem dJ18_makeLong_3_43 : decode cJ18_makeLong_3 43 = .ok (.bipush 24, 2) := dk_16 24 (dk_at dksJ18_makeLong_3_1 19 rfl rfl)
theorem dJ18_makeLong_3_45 : decode cJ18_makeLong_3 45 = .ok (.invokestatic 784, 3) := dk_184 3 16 (dk_at dksJ18_makeLong_3_1 21 rfl rfl)
theorem dJ18_makeLong_3_48 : decode cJ18_makeLong_3 48 = .ok (.lshl, 1) := dk_121 (dk_at dksJ18_makeLong_3_2 0 rfl rfl)
theorem dJ18_makeLong_3_49 : decode cJ18_makeLong_3 49 = .ok (.lor, 1) := dk_129 (dk_at dksJ18_makeLong_3_2 1 rfl rfl)
theorem dJ18_makeLong_3_50 : decode cJ18_makeLong_3 50 = .ok (.iload 4, 2) := dk_21 4 (dk_at dksJ18_makeLong_3_2 2 rfl rfl)
theorem dJ18_makeLong_3_52 : decode cJ18_makeLong_3 52 = .ok (.invokestatic 781, 3) := dk_184 3 13 (dk_at dksJ18_makeLong_3_2 4 rfl rfl)
theorem dJ18_makeLong_3_55 : decode cJ18_makeLong_3 55 = .ok (.bipush 56, 2) := dk_16 56 (dk_at dksJ18_makeLong_3_2 7 rfl rfl)
theorem dJ18_makeLong_3_57 : decode cJ18_makeLong_3 57 = .ok (.bipush 32, 2) := dk_16 32 (dk_at dksJ18_makeLong_3_2 9 rfl rfl)
theorem dJ18_makeLong_3_59 : decode cJ18_makeLong_3 59 = .ok (.invokestatic 784, 3) := dk_184 3 16 (dk_at dksJ18_makeLong_3_2 11 rfl rfl)
theorem dJ18_makeLong_3_62 : decode cJ18_makeLong_3 62 = .ok (.lshl, 1) := dk_121 (dk_at dksJ18_makeLong_3_2 14 rfl rfl)
theorem dJ18_makeLong_3_63 : decode cJ18_makeLong_3 63 = .ok (.lor, 1) := dk_129 (dk_at dksJ18_makeLong_3_2 15 rfl rfl)
theorem dJ18_makeLong_3_64 : decode cJ18_makeLong_3 64 = .ok (.iload 5, 2) := dk_21 5 (dk_at dksJ18_makeLong_3_2 16 rfl rfl)
theorem dJ18_makeLong_3_66 : decode cJ18_makeLong_3 66 = .ok (.invokestatic 781, 3) := dk_184 3 13 (dk_at dksJ18_makeLong_3_2 18 rfl rfl)
theorem dJ18_makeLong_3_69 : decode cJ18_makeLong_3 69 = .ok (.bipush 56, 2) := dk_16 56 (dk_at dksJ18_makeLong_3_2 21 rfl rfl)
theorem dJ18_makeLong_3_71 : decode cJ18_makeLong_3 71 = .ok (.bipush 40, 2) := dk_16 40 (dk_at dksJ18_makeLong_3_3 0 rfl rfl)
theorem dJ18_makeLong_3_73 : decode cJ18_makeLong_3 73 = .ok (.invokestatic 784, 3) := dk_184 3 16 (dk_at dksJ18_makeLong_3_3 2 rfl rfl)
theorem dJ18_makeLong_3_76 : decode cJ18_makeLong_3 76 = .ok (.lshl, 1) := dk_121 (dk_at dksJ18_makeLong_3_3 5 rfl rfl)
theorem dJ18_makeLong_3_77 : decode cJ18_makeLong_3 77 = .ok (.lor, 1) := dk_129 (dk_at dksJ18_makeLong_3_3 6 rfl rfl)
theorem dJ18_makeLong_3_78 : decode cJ18_makeLong_3 78 = .ok (.iload 6, 2) := dk_21 6 (dk_at dksJ18_makeLong_3_3 7 rfl rfl)
theorem dJ18_makeLong_3_80 : decode cJ18_makeLong_3 80 = .ok (.invokestatic 781, 3) := dk_184 3 13 (dk_at dksJ18_makeLong_3_3 9 rfl rfl)
theorem dJ18_makeLong_3_83 : decode cJ18_makeLong_3 83 = .ok (.bipush 56, 2) := dk_16 56 (dk_at dksJ18_makeLong_3_3 12 rfl rfl)
theorem dJ18_makeLong_3_85 : decode cJ18_makeLong_3 85 = .ok (.bipush 48, 2) := dk_16 48 (dk_at dksJ18_makeLong_3_3 14 rfl rfl)
theorem dJ18_makeLong_3_87 : decode cJ18_makeLong_3 87 = .ok (.invokestatic 784, 3) := dk_184 3 16 (dk_at dksJ18_makeLong_3_3 16 rfl rfl)
theorem dJ18_makeLong_3_90 : decode cJ18_makeLong_3 90 = .ok (.lshl, 1) := dk_121 (dk_at dksJ18_makeLong_3_3 19 rfl rfl)
theorem dJ18_makeLong_3_91 : decode cJ18_makeLong_3 91 = .ok (.lor, 1) := dk_129 (dk_at dksJ18_makeLong_3_3 20 rfl rfl)
theorem dJ18_makeLong_3_92 : decode cJ18_makeLong_3 92 = .ok (.iload 7, 2) := dk_21 7 (dk_at dksJ18_makeLong_3_3 21 rfl rfl)
theorem dJ18_makeLong_3_94 : decode cJ18_makeLong_3 94 = .ok (.invokestatic 781, 3) := dk_184 3 13 (dk_at dksJ18_makeLong_3_4 0 rfl rfl)
theorem dJ18_makeLong_3_97 : decode cJ18_makeLong_3 97 = .ok (.bipush 56, 2) := dk_16 56 (dk_at dksJ18_makeLong_3_4 3 rfl rfl)
theorem dJ18_makeLong_3_99 : decode cJ18_makeLong_3 99 = .ok (.bipush 56, 2) := dk_16 56 (dk_at dksJ18_makeLong_3_4 5 rfl rfl)
theorem dJ18_makeLong_3_101 : decode cJ18_makeLong_3 101 = .ok (.invokestatic 784, 3) := dk_184 3 16 (dk_at dksJ18_makeLong_3_4 7 rfl rfl)
theorem dJ18_makeLong_3_104 : decode cJ18_makeLong_3 104 = .ok (.lshl, 1) := dk_121 (dk_at dksJ18_makeLong_3_4 10 rfl rfl)
theorem dJ18_makeLong_3_105 : decode cJ18_makeLong_3 105 = .ok (.lor, 1) := dk_129 (dk_at dksJ18_makeLong_3_4 11 rfl rfl)
theorem dJ18_makeLong_3_106 : decode cJ18_makeLong_3 106 = .ok (.lreturn, 1) := dk_173 (dk_at dksJ18_makeLong_3_4 12 rfl rfl)
abbrev cJ18_toUnsignedLong_3 : ByteArray := prog_98_method_368_code
def yJ18_toUnsignedLong_3 : MethodName := ⟨RJ18, "toUnsignedLong", "(B)J"⟩
def dkwJ18_toUnsignedLong_3_0 : List UInt8 := [26, 133, 20, 3, 40, 127, 173]
abbrev dktJ18_toUnsignedLong_3_0 : List UInt8 := dkwJ18_toUnsignedLong_3_0 ++ []
theorem dksJ18_toUnsignedLong_3_0 : cJ18_toUnsignedLong_3.data.toList.drop 0 = dktJ18_toUnsignedLong_3_0 := by decide +kernel
theorem dJ18_toUnsignedLong_3_0 : decode cJ18_toUnsignedLong_3 0 = .ok (.iload_n 0, 1) := dk_26 (dk_at dksJ18_toUnsignedLong_3_0 0 rfl rfl)
theorem dJ18_toUnsignedLong_3_1 : decode cJ18_toUnsignedLong_3 1 = .ok (.i2l, 1) := dk_133 (dk_at dksJ18_toUnsignedLong_3_0 1 rfl rfl)
theorem dJ18_toUnsignedLong_3_2 : decode cJ18_toUnsignedLong_3 2 = .ok (.ldc2_w 808, 3) := dk_20 3 40 (dk_at dksJ18_toUnsignedLong_3_0 2 rfl rfl)
theorem dJ18_toUnsignedLong_3_5 : decode cJ18_toUnsignedLong_3 5 = .ok (.land, 1) := dk_127 (dk_at dksJ18_toUnsignedLong_3_0 5 rfl rfl)
theorem dJ18_toUnsignedLong_3_6 : decode cJ18_toUnsignedLong_3 6 = .ok (.lreturn, 1) := dk_173 (dk_at dksJ18_toUnsignedLong_3_0 6 rfl rfl)
abbrev cJ18_getIntUnaligned : ByteArray := prog_98_method_336_code
def yJ18_getIntUnaligned : MethodName := ⟨RJ18, "getIntUnaligned", "(Ljava/lang/Object;J)I"⟩
def dkwJ18_getIntUnaligned_3 : List UInt8 := [43, 32, 20, 1, 93, 97, 182, 0, 39, 184, 2, 211, 172]
abbrev dktJ18_getIntUnaligned_3 : List UInt8 := dkwJ18_getIntUnaligned_3 ++ []
def dkwJ18_getIntUnaligned_2 : List UInt8 := [43, 32, 182, 0, 39, 42, 43, 32, 10, 97, 182, 0, 39, 42, 43, 32, 20, 0, 203, 97, 182, 0, 39, 42]
abbrev dktJ18_getIntUnaligned_2 : List UInt8 := dkwJ18_getIntUnaligned_2 ++ dktJ18_getIntUnaligned_3
def dkwJ18_getIntUnaligned_1 : List UInt8 := [154, 0, 23, 42, 43, 32, 182, 0, 47, 42, 43, 32, 20, 0, 203, 97, 182, 0, 47, 184, 2, 207, 172, 42]
abbrev dktJ18_getIntUnaligned_1 : List UInt8 := dkwJ18_getIntUnaligned_1 ++ dktJ18_getIntUnaligned_2
def dkwJ18_getIntUnaligned_0 : List UInt8 := [32, 20, 1, 93, 127, 9, 148, 154, 0, 10, 42, 43, 32, 182, 0, 17, 172, 32, 10, 127, 9, 148]
abbrev dktJ18_getIntUnaligned_0 : List UInt8 := dkwJ18_getIntUnaligned_0 ++ dktJ18_getIntUnaligned_1
theorem dksJ18_getIntUnaligned_0 : cJ18_getIntUnaligned.data.toList.drop 0 = dktJ18_getIntUnaligned_0 := by decide +kernel
theorem dksJ18_getIntUnaligned_1 : cJ18_getIntUnaligned.data.toList.drop 22 = dktJ18_getIntUnaligned_1 := dk_seg dksJ18_getIntUnaligned_0 22 rfl rfl
theorem dksJ18_getIntUnaligned_2 : cJ18_getIntUnaligned.data.toList.drop 46 = dktJ18_getIntUnaligned_2 := dk_seg dksJ18_getIntUnaligned_1 24 rfl rfl
theorem dksJ18_getIntUnaligned_3 : cJ18_getIntUnaligned.data.toList.drop 70 = dktJ18_getIntUnaligned_3 := dk_seg dksJ18_getIntUnaligned_2 24 rfl rfl
theorem dJ18_getIntUnaligned_0 : decode cJ18_getIntUnaligned 0 = .ok (.lload_n 2, 1) := dk_32 (dk_at dksJ18_getIntUnaligned_0 0 rfl rfl)
theorem dJ18_getIntUnaligned_1 : decode cJ18_getIntUnaligned 1 = .ok (.ldc2_w 349, 3) := dk_20 1 93 (dk_at dksJ18_getIntUnaligned_0 1 rfl rfl)
theorem dJ18_getIntUnaligned_4 : decode cJ18_getIntUnaligned 4 = .ok (.land, 1) := dk_127 (dk_at dksJ18_getIntUnaligned_0 4 rfl rfl)
theorem dJ18_getIntUnaligned_5 : decode cJ18_getIntUnaligned 5 = .ok (.lconst 0, 1) := dk_9 (dk_at dksJ18_getIntUnaligned_0 5 rfl rfl)
theorem dJ18_getIntUnaligned_6 : decode cJ18_getIntUnaligned 6 = .ok (.lcmp, 1) := dk_148 (dk_at dksJ18_getIntUnaligned_0 6 rfl rfl)
theorem dJ18_getIntUnaligned_7 : decode cJ18_getIntUnaligned 7 = .ok (.ifCond .ne 10, 3) := dk_154 0 10 (dk_at dksJ18_getIntUnaligned_0 7 rfl rfl)
theorem dJ18_getIntUnaligned_10 : decode cJ18_getIntUnaligned 10 = .ok (.aload_n 0, 1) := dk_42 (dk_at dksJ18_getIntUnaligned_0 10 rfl rfl)
theorem dJ18_getIntUnaligned_11 : decode cJ18_getIntUnaligned 11 = .ok (.aload_n 1, 1) := dk_43 (dk_at dksJ18_getIntUnaligned_0 11 rfl rfl)
theorem dJ18_getIntUnaligned_12 : decode cJ18_getIntUnaligned 12 = .ok (.lload_n 2, 1) := dk_32 (dk_at dksJ18_getIntUnaligned_0 12 rfl rfl)
theorem dJ18_getIntUnaligned_13 : decode cJ18_getIntUnaligned 13 = .ok (.invokevirtual 17, 3) := dk_182 0 17 (dk_at dksJ18_getIntUnaligned_0 13 rfl rfl)
theorem dJ18_getIntUnaligned_16 : decode cJ18_getIntUnaligned 16 = .ok (.ireturn, 1) := dk_172 (dk_at dksJ18_getIntUnaligned_0 16 rfl rfl)
theorem dJ18_getIntUnaligned_17 : decode cJ18_getIntUnaligned 17 = .ok (.lload_n 2, 1) := dk_32 (dk_at dksJ18_getIntUnaligned_0 17 rfl rfl)
theorem dJ18_getIntUnaligned_18 : decode cJ18_getIntUnaligned 18 = .ok (.lconst 1, 1) := dk_10 (dk_at dksJ18_getIntUnaligned_0 18 rfl rfl)
theorem dJ18_getIntUnaligned_19 : decode cJ18_getIntUnaligned 19 = .ok (.land, 1) := dk_127 (dk_at dksJ18_getIntUnaligned_0 19 rfl rfl)
theorem dJ18_getIntUnaligned_20 : decode cJ18_getIntUnaligned 20 = .ok (.lconst 0, 1) := dk_9 (dk_at dksJ18_getIntUnaligned_0 20 rfl rfl)
theorem dJ18_getIntUnaligned_21 : decode cJ18_getIntUnaligned 21 = .ok (.lcmp, 1) := dk_148 (dk_at dksJ18_getIntUnaligned_0 21 rfl rfl)
theorem dJ18_getIntUnaligned_22 : decode cJ18_getIntUnaligned 22 = .ok (.ifCond .ne 23, 3) := dk_154 0 23 (dk_at dksJ18_getIntUnaligned_1 0 rfl rfl)
theorem dJ18_getIntUnaligned_25 : decode cJ18_getIntUnaligned 25 = .ok (.aload_n 0, 1) := dk_42 (dk_at dksJ18_getIntUnaligned_1 3 rfl rfl)
theorem dJ18_getIntUnaligned_26 : decode cJ18_getIntUnaligned 26 = .ok (.aload_n 1, 1) := dk_43 (dk_at dksJ18_getIntUnaligned_1 4 rfl rfl)
theorem dJ18_getIntUnaligned_27 : decode cJ18_getIntUnaligned 27 = .ok (.lload_n 2, 1) := dk_32 (dk_at dksJ18_getIntUnaligned_1 5 rfl rfl)
theorem dJ18_getIntUnaligned_28 : decode cJ18_getIntUnaligned 28 = .ok (.invokevirtual 47, 3) := dk_182 0 47 (dk_at dksJ18_getIntUnaligned_1 6 rfl rfl)
theorem dJ18_getIntUnaligned_31 : decode cJ18_getIntUnaligned 31 = .ok (.aload_n 0, 1) := dk_42 (dk_at dksJ18_getIntUnaligned_1 9 rfl rfl)
theorem dJ18_getIntUnaligned_32 : decode cJ18_getIntUnaligned 32 = .ok (.aload_n 1, 1) := dk_43 (dk_at dksJ18_getIntUnaligned_1 10 rfl rfl)
theorem dJ18_getIntUnaligned_33 : decode cJ18_getIntUnaligned 33 = .ok (.lload_n 2, 1) := dk_32 (dk_at dksJ18_getIntUnaligned_1 11 rfl rfl)
theorem dJ18_getIntUnaligned_34 : decode cJ18_getIntUnaligned 34 = .ok (.ldc2_w 203, 3) := dk_20 0 203 (dk_at dksJ18_getIntUnaligned_1 12 rfl rfl)
theorem dJ18_getIntUnaligned_37 : decode cJ18_getIntUnaligned 37 = .ok (.ladd, 1) := dk_97 (dk_at dksJ18_getIntUnaligned_1 15 rfl rfl)
theorem dJ18_getIntUnaligned_38 : decode cJ18_getIntUnaligned 38 = .ok (.invokevirtual 47, 3) := dk_182 0 47 (dk_at dksJ18_getIntUnaligned_1 16 rfl rfl)
theorem dJ18_getIntUnaligned_41 : decode cJ18_getIntUnaligned 41 = .ok (.invokestatic 719, 3) := dk_184 2 207 (dk_at dksJ18_getIntUnaligned_1 19 rfl rfl)
theorem dJ18_getIntUnaligned_44 : decode cJ18_getIntUnaligned 44 = .ok (.ireturn, 1) := dk_172 (dk_at dksJ18_getIntUnaligned_1 22 rfl rfl)
theorem dJ18_getIntUnaligned_45 : decode cJ18_getIntUnaligned 45 = .ok (.aload_n 0, 1) := dk_42 (dk_at dksJ18_getIntUnaligned_1 23 rfl rfl)
theorem dJ18_getIntUnaligned_46 : decode cJ18_getIntUnaligned 46 = .ok (.aload_n 1, 1) := dk_43 (dk_at dksJ18_getIntUnaligned_2 0 rfl rfl)
theorem dJ18_getIntUnaligned_47 : decode cJ18_getIntUnaligned 47 = .ok (.lload_n 2, 1) := dk_32 (dk_at dksJ18_getIntUnaligned_2 1 rfl rfl)
theorem dJ18_getIntUnaligned_48 : decode cJ18_getIntUnaligned 48 = .ok (.invokevirtual 39, 3) := dk_182 0 39 (dk_at dksJ18_getIntUnaligned_2 2 rfl rfl)
theorem dJ18_getIntUnaligned_51 : decode cJ18_getIntUnaligned 51 = .ok (.aload_n 0, 1) := dk_42 (dk_at dksJ18_getIntUnaligned_2 5 rfl rfl)
theorem dJ18_getIntUnaligned_52 : decode cJ18_getIntUnaligned 52 = .ok (.aload_n 1, 1) := dk_43 (dk_at dksJ18_getIntUnaligned_2 6 rfl rfl)
theorem dJ18_getIntUnaligned_53 : decode cJ18_getIntUnaligned 53 = .ok (.lload_n 2, 1) := dk_32 (dk_at dksJ18_getIntUnaligned_2 7 rfl rfl)
theorem dJ18_getIntUnaligned_54 : decode cJ18_getIntUnaligned 54 = .ok (.lconst 1, 1) := dk_10 (dk_at dksJ18_getIntUnaligned_2 8 rfl rfl)
theorem dJ18_getIntUnaligned_55 : decode cJ18_getIntUnaligned 55 = .ok (.ladd, 1) := dk_97 (dk_at dksJ18_getIntUnaligned_2 9 rfl rfl)
theorem dJ18_getIntUnaligned_56 : decode cJ18_getIntUnaligned 56 = .ok (.invokevirtual 39, 3) := dk_182 0 39 (dk_at dksJ18_getIntUnaligned_2 10 rfl rfl)
theorem dJ18_getIntUnaligned_59 : decode cJ18_getIntUnaligned 59 = .ok (.aload_n 0, 1) := dk_42 (dk_at dksJ18_getIntUnaligned_2 13 rfl rfl)
theorem dJ18_getIntUnaligned_60 : decode cJ18_getIntUnaligned 60 = .ok (.aload_n 1, 1) := dk_43 (dk_at dksJ18_getIntUnaligned_2 14 rfl rfl)
theorem dJ18_getIntUnaligned_61 : decode cJ18_getIntUnaligned 61 = .ok (.lload_n 2, 1) := dk_32 (dk_at dksJ18_getIntUnaligned_2 15 rfl rfl)
theorem dJ18_getIntUnaligned_62 : decode cJ18_getIntUnaligned 62 = .ok (.ldc2_w 203, 3) := dk_20 0 203 (dk_at dksJ18_getIntUnaligned_2 16 rfl rfl)
theorem dJ18_getIntUnaligned_65 : decode cJ18_getIntUnaligned 65 = .ok (.ladd, 1) := dk_97 (dk_at dksJ18_getIntUnaligned_2 19 rfl rfl)
theorem dJ18_getIntUnaligned_66 : decode cJ18_getIntUnaligned 66 = .ok (.invokevirtual 39, 3) := dk_182 0 39 (dk_at dksJ18_getIntUnaligned_2 20 rfl rfl)
theorem dJ18_getIntUnaligned_69 : decode cJ18_getIntUnaligned 69 = .ok (.aload_n 0, 1) := dk_42 (dk_at dksJ18_getIntUnaligned_2 23 rfl rfl)
theorem dJ18_getIntUnaligned_70 : decode cJ18_getIntUnaligned 70 = .ok (.aload_n 1, 1) := dk_43 (dk_at dksJ18_getIntUnaligned_3 0 rfl rfl)
theorem dJ18_getIntUnaligned_71 : decode cJ18_getIntUnaligned 71 = .ok (.lload_n 2, 1) := dk_32 (dk_at dksJ18_getIntUnaligned_3 1 rfl rfl)
theorem dJ18_getIntUnaligned_72 : decode cJ18_getIntUnaligned 72 = .ok (.ldc2_w 349, 3) := dk_20 1 93 (dk_at dksJ18_getIntUnaligned_3 2 rfl rfl)
theorem dJ18_getIntUnaligned_75 : decode cJ18_getIntUnaligned 75 = .ok (.ladd, 1) := dk_97 (dk_at dksJ18_getIntUnaligned_3 5 rfl rfl)
theorem dJ18_getIntUnaligned_76 : decode cJ18_getIntUnaligned 76 = .ok (.invokevirtual 39, 3) := dk_182 0 39 (dk_at dksJ18_getIntUnaligned_3 6 rfl rfl)
theorem dJ18_getIntUnaligned_79 : decode cJ18_getIntUnaligned 79 = .ok (.invokestatic 723, 3) := dk_184 2 211 (dk_at dksJ18_getIntUnaligned_3 9 rfl rfl)
theorem dJ18_getIntUnaligned_82 : decode cJ18_getIntUnaligned 82 = .ok (.ireturn, 1) := dk_172 (dk_at dksJ18_getIntUnaligned_3 12 rfl rfl)
abbrev cJ18_makeInt : ByteArray := prog_98_method_354_code
def yJ18_makeInt : MethodName := ⟨RJ18, "makeInt", "(SS)I"⟩
def dkwJ18_makeInt_1 : List UInt8 := [172]
abbrev dktJ18_makeInt_1 : List UInt8 := dkwJ18_makeInt_1 ++ []
def dkwJ18_makeInt_0 : List UInt8 := [26, 184, 3, 24, 16, 16, 3, 184, 3, 16, 120, 27, 184, 3, 24, 16, 16, 16, 16, 184, 3, 16, 120, 128]
abbrev dktJ18_makeInt_0 : List UInt8 := dkwJ18_makeInt_0 ++ dktJ18_makeInt_1
theorem dksJ18_makeInt_0 : cJ18_makeInt.data.toList.drop 0 = dktJ18_makeInt_0 := by decide +kernel
theorem dksJ18_makeInt_1 : cJ18_makeInt.data.toList.drop 24 = dktJ18_makeInt_1 := dk_seg dksJ18_makeInt_0 24 rfl rfl
theorem dJ18_makeInt_0 : decode cJ18_makeInt 0 = .ok (.iload_n 0, 1) := dk_26 (dk_at dksJ18_makeInt_0 0 rfl rfl)
theorem dJ18_makeInt_1 : decode cJ18_makeInt 1 = .ok (.invokestatic 792, 3) := dk_184 3 24 (dk_at dksJ18_makeInt_0 1 rfl rfl)
theorem dJ18_makeInt_4 : decode cJ18_makeInt 4 = .ok (.bipush 16, 2) := dk_16 16 (dk_at dksJ18_makeInt_0 4 rfl rfl)
theorem dJ18_makeInt_6 : decode cJ18_makeInt 6 = .ok (.iconst 0, 1) := dk_3 (dk_at dksJ18_makeInt_0 6 rfl rfl)
theorem dJ18_makeInt_7 : decode cJ18_makeInt 7 = .ok (.invokestatic 784, 3) := dk_184 3 16 (dk_at dksJ18_makeInt_0 7 rfl rfl)
theorem dJ18_makeInt_10 : decode cJ18_makeInt 10 = .ok (.ishl, 1) := dk_120 (dk_at dksJ18_makeInt_0 10 rfl rfl)
theorem dJ18_makeInt_11 : decode cJ18_makeInt 11 = .ok (.iload_n 1, 1) := dk_27 (dk_at dksJ18_makeInt_0 11 rfl rfl)
theorem dJ18_makeInt_12 : decode cJ18_makeInt 12 = .ok (.invokestatic 792, 3) := dk_184 3 24 (dk_at dksJ18_makeInt_0 12 rfl rfl)
theorem dJ18_makeInt_15 : decode cJ18_makeInt 15 = .ok (.bipush 16, 2) := dk_16 16 (dk_at dksJ18_makeInt_0 15 rfl rfl)
theorem dJ18_makeInt_17 : decode cJ18_makeInt 17 = .ok (.bipush 16, 2) := dk_16 16 (dk_at dksJ18_makeInt_0 17 rfl rfl)
theorem dJ18_makeInt_19 : decode cJ18_makeInt 19 = .ok (.invokestatic 784, 3) := dk_184 3 16 (dk_at dksJ18_makeInt_0 19 rfl rfl)
theorem dJ18_makeInt_22 : decode cJ18_makeInt 22 = .ok (.ishl, 1) := dk_120 (dk_at dksJ18_makeInt_0 22 rfl rfl)
theorem dJ18_makeInt_23 : decode cJ18_makeInt 23 = .ok (.ior, 1) := dk_128 (dk_at dksJ18_makeInt_0 23 rfl rfl)
theorem dJ18_makeInt_24 : decode cJ18_makeInt 24 = .ok (.ireturn, 1) := dk_172 (dk_at dksJ18_makeInt_1 0 rfl rfl)
abbrev cJ18_toUnsignedInt : ByteArray := prog_98_method_367_code
def yJ18_toUnsignedInt : MethodName := ⟨RJ18, "toUnsignedInt", "(S)I"⟩
def dkwJ18_toUnsignedInt_0 : List UInt8 := [26, 19, 1, 118, 126, 172]
abbrev dktJ18_toUnsignedInt_0 : List UInt8 := dkwJ18_toUnsignedInt_0 ++ []
theorem dksJ18_toUnsignedInt_0 : cJ18_toUnsignedInt.data.toList.drop 0 = dktJ18_toUnsignedInt_0 := by decide +kernel
theorem dJ18_toUnsignedInt_0 : decode cJ18_toUnsignedInt 0 = .ok (.iload_n 0, 1) := dk_26 (dk_at dksJ18_toUnsignedInt_0 0 rfl rfl)
theorem dJ18_toUnsignedInt_1 : decode cJ18_toUnsignedInt 1 = .ok (.ldc_w 374, 3) := dk_19 1 118 (dk_at dksJ18_toUnsignedInt_0 1 rfl rfl)
theorem dJ18_toUnsignedInt_4 : decode cJ18_toUnsignedInt 4 = .ok (.iand, 1) := dk_126 (dk_at dksJ18_toUnsignedInt_0 4 rfl rfl)
theorem dJ18_toUnsignedInt_5 : decode cJ18_toUnsignedInt 5 = .ok (.ireturn, 1) := dk_172 (dk_at dksJ18_toUnsignedInt_0 5 rfl rfl)
abbrev cJ18_makeInt_2 : ByteArray := prog_98_method_355_code
def yJ18_makeInt_2 : MethodName := ⟨RJ18, "makeInt", "(BBBB)I"⟩
def dkwJ18_makeInt_2_2 : List UInt8 := [120, 128, 172]
abbrev dktJ18_makeInt_2_2 : List UInt8 := dkwJ18_makeInt_2_2 ++ []
def dkwJ18_makeInt_2_1 : List UInt8 := [28, 184, 3, 28, 16, 24, 16, 16, 184, 3, 16, 120, 128, 29, 184, 3, 28, 16, 24, 16, 24, 184, 3, 16]
abbrev dktJ18_makeInt_2_1 : List UInt8 := dkwJ18_makeInt_2_1 ++ dktJ18_makeInt_2_2
def dkwJ18_makeInt_2_0 : List UInt8 := [26, 184, 3, 28, 16, 24, 3, 184, 3, 16, 120, 27, 184, 3, 28, 16, 24, 16, 8, 184, 3, 16, 120, 128]
abbrev dktJ18_makeInt_2_0 : List UInt8 := dkwJ18_makeInt_2_0 ++ dktJ18_makeInt_2_1
theorem dksJ18_makeInt_2_0 : cJ18_makeInt_2.data.toList.drop 0 = dktJ18_makeInt_2_0 := by decide +kernel
theorem dksJ18_makeInt_2_1 : cJ18_makeInt_2.data.toList.drop 24 = dktJ18_makeInt_2_1 := dk_seg dksJ18_makeInt_2_0 24 rfl rfl
theorem dksJ18_makeInt_2_2 : cJ18_makeInt_2.data.toList.drop 48 = dktJ18_makeInt_2_2 := dk_seg dksJ18_makeInt_2_1 24 rfl rfl
theorem dJ18_makeInt_2_0 : decode cJ18_makeInt_2 0 = .ok (.iload_n 0, 1) := dk_26 (dk_at dksJ18_makeInt_2_0 0 rfl rfl)
theorem dJ18_makeInt_2_1 : decode cJ18_makeInt_2 1 = .ok (.invokestatic 796, 3) := dk_184 3 28 (dk_at dksJ18_makeInt_2_0 1 rfl rfl)
theorem dJ18_makeInt_2_4 : decode cJ18_makeInt_2 4 = .ok (.bipush 24, 2) := dk_16 24 (dk_at dksJ18_makeInt_2_0 4 rfl rfl)
theorem dJ18_makeInt_2_6 : decode cJ18_makeInt_2 6 = .ok (.iconst 0, 1) := dk_3 (dk_at dksJ18_makeInt_2_0 6 rfl rfl)
theorem dJ18_makeInt_2_7 : decode cJ18_makeInt_2 7 = .ok (.invokestatic 784, 3) := dk_184 3 16 (dk_at dksJ18_makeInt_2_0 7 rfl rfl)
theorem dJ18_makeInt_2_10 : decode cJ18_makeInt_2 10 = .ok (.ishl, 1) := dk_120 (dk_at dksJ18_makeInt_2_0 10 rfl rfl)
theorem dJ18_makeInt_2_11 : decode cJ18_makeInt_2 11 = .ok (.iload_n 1, 1) := dk_27 (dk_at dksJ18_makeInt_2_0 11 rfl rfl)
theorem dJ18_makeInt_2_12 : decode cJ18_makeInt_2 12 = .ok (.invokestatic 796, 3) := dk_184 3 28 (dk_at dksJ18_makeInt_2_0 12 rfl rfl)
theorem dJ18_makeInt_2_15 : decode cJ18_makeInt_2 15 = .ok (.bipush 24, 2) := dk_16 24 (dk_at dksJ18_makeInt_2_0 15 rfl rfl)
theorem dJ18_makeInt_2_17 : decode cJ18_makeInt_2 17 = .ok (.bipush 8, 2) := dk_16 8 (dk_at dksJ18_makeInt_2_0 17 rfl rfl)
theorem dJ18_makeInt_2_19 : decode cJ18_makeInt_2 19 = .ok (.invokestatic 784, 3) := dk_184 3 16 (dk_at dksJ18_makeInt_2_0 19 rfl rfl)
theorem dJ18_makeInt_2_22 : decode cJ18_makeInt_2 22 = .ok (.ishl, 1) := dk_120 (dk_at dksJ18_makeInt_2_0 22 rfl rfl)
theorem dJ18_makeInt_2_23 : decode cJ18_makeInt_2 23 = .ok (.ior, 1) := dk_128 (dk_at dksJ18_makeInt_2_0 23 rfl rfl)
theorem dJ18_makeInt_2_24 : decode cJ18_makeInt_2 24 = .ok (.iload_n 2, 1) := dk_28 (dk_at dksJ18_makeInt_2_1 0 rfl rfl)
theorem dJ18_makeInt_2_25 : decode cJ18_makeInt_2 25 = .ok (.invokestatic 796, 3) := dk_184 3 28 (dk_at dksJ18_makeInt_2_1 1 rfl rfl)
theorem dJ18_makeInt_2_28 : decode cJ18_makeInt_2 28 = .ok (.bipush 24, 2) := dk_16 24 (dk_at dksJ18_makeInt_2_1 4 rfl rfl)
theorem dJ18_makeInt_2_30 : decode cJ18_makeInt_2 30 = .ok (.bipush 16, 2) := dk_16 16 (dk_at dksJ18_makeInt_2_1 6 rfl rfl)
theorem dJ18_makeInt_2_32 : decode cJ18_makeInt_2 32 = .ok (.invokestatic 784, 3) := dk_184 3 16 (dk_at dksJ18_makeInt_2_1 8 rfl rfl)
theorem dJ18_makeInt_2_35 : decode cJ18_makeInt_2 35 = .ok (.ishl, 1) := dk_120 (dk_at dksJ18_makeInt_2_1 11 rfl rfl)
theorem dJ18_makeInt_2_36 : decode cJ18_makeInt_2 36 = .ok (.ior, 1) := dk_128 (dk_at dksJ18_makeInt_2_1 12 rfl rfl)
theorem dJ18_makeInt_2_37 : decode cJ18_makeInt_2 37 = .ok (.iload_n 3, 1) := dk_29 (dk_at dksJ18_makeInt_2_1 13 rfl rfl)
theorem dJ18_makeInt_2_38 : decode cJ18_makeInt_2 38 = .ok (.invokestatic 796, 3) := dk_184 3 28 (dk_at dksJ18_makeInt_2_1 14 rfl rfl)
theorem dJ18_makeInt_2_41 : decode cJ18_makeInt_2 41 = .ok (.bipush 24, 2) := dk_16 24 (dk_at dksJ18_makeInt_2_1 17 rfl rfl)
theorem dJ18_makeInt_2_43 : decode cJ18_makeInt_2 43 = .ok (.bipush 24, 2) := dk_16 24 (dk_at dksJ18_makeInt_2_1 19 rfl rfl)
theorem dJ18_makeInt_2_45 : decode cJ18_makeInt_2 45 = .ok (.invokestatic 784, 3) := dk_184 3 16 (dk_at dksJ18_makeInt_2_1 21 rfl rfl)
theorem dJ18_makeInt_2_48 : decode cJ18_makeInt_2 48 = .ok (.ishl, 1) := dk_120 (dk_at dksJ18_makeInt_2_2 0 rfl rfl)
theorem dJ18_makeInt_2_49 : decode cJ18_makeInt_2 49 = .ok (.ior, 1) := dk_128 (dk_at dksJ18_makeInt_2_2 1 rfl rfl)
theorem dJ18_makeInt_2_50 : decode cJ18_makeInt_2 50 = .ok (.ireturn, 1) := dk_172 (dk_at dksJ18_makeInt_2_2 2 rfl rfl)
abbrev cJ18_toUnsignedInt_2 : ByteArray := prog_98_method_366_code
def yJ18_toUnsignedInt_2 : MethodName := ⟨RJ18, "toUnsignedInt", "(B)I"⟩
def dkwJ18_toUnsignedInt_2_0 : List UInt8 := [26, 17, 0, 255, 126, 172]
abbrev dktJ18_toUnsignedInt_2_0 : List UInt8 := dkwJ18_toUnsignedInt_2_0 ++ []
theorem dksJ18_toUnsignedInt_2_0 : cJ18_toUnsignedInt_2.data.toList.drop 0 = dktJ18_toUnsignedInt_2_0 := by decide +kernel
theorem dJ18_toUnsignedInt_2_0 : decode cJ18_toUnsignedInt_2 0 = .ok (.iload_n 0, 1) := dk_26 (dk_at dksJ18_toUnsignedInt_2_0 0 rfl rfl)
theorem dJ18_toUnsignedInt_2_1 : decode cJ18_toUnsignedInt_2 1 = .ok (.sipush 255, 3) := dk_17 0 255 (dk_at dksJ18_toUnsignedInt_2_0 1 rfl rfl)
theorem dJ18_toUnsignedInt_2_4 : decode cJ18_toUnsignedInt_2 4 = .ok (.iand, 1) := dk_126 (dk_at dksJ18_toUnsignedInt_2_0 4 rfl rfl)
theorem dJ18_toUnsignedInt_2_5 : decode cJ18_toUnsignedInt_2 5 = .ok (.ireturn, 1) := dk_172 (dk_at dksJ18_toUnsignedInt_2_0 5 rfl rfl)
theorem q150 : (Jvm.Cond.initialized "jdk/internal/misc/Unsafe") ∈ lw_all := lw_g (lw_at lw_m1 26 rfl) rfl
theorem q963 : (Jvm.Cond.selects "jdk/internal/misc/Unsafe" ({ cls := "java/lang/Object", name := "getClass", desc := "()Ljava/lang/Class;" } : Jvm.MethodName) ({ cls := "java/lang/Object", name := "getClass", desc := "()Ljava/lang/Class;" } : Jvm.MethodName)) ∈ lw_all := lw_g (lw_at lw_m4 119 rfl) rfl
theorem q1061 : (Jvm.Cond.laysStatic "jdk/internal/misc/Unsafe" "ARRAY_BYTE_BASE_OFFSET" "I") ∈ lw_tbl := lw_at lw_m4 217 rfl
theorem q1072 : (Jvm.Cond.instanceMethod ({ cls := "jdk/internal/misc/Unsafe", name := "getLongUnaligned", desc := "(Ljava/lang/Object;J)J" } : Jvm.MethodName)) ∈ lw_all := lw_g (lw_at lw_m4 228 rfl) rfl
theorem q1073 : (Jvm.Cond.selects "jdk/internal/misc/Unsafe" ({ cls := "jdk/internal/misc/Unsafe", name := "getLongUnaligned", desc := "(Ljava/lang/Object;J)J" } : Jvm.MethodName) ({ cls := "jdk/internal/misc/Unsafe", name := "getLongUnaligned", desc := "(Ljava/lang/Object;J)J" } : Jvm.MethodName)) ∈ lw_all := lw_g (lw_at lw_m4 229 rfl) rfl
theorem q1074 : (Jvm.Cond.code ({ cls := "jdk/internal/misc/Unsafe", name := "getLongUnaligned", desc := "(Ljava/lang/Object;J)J" } : Jvm.MethodName) prog_98_method_334_code (4 : Nat) (Option.some Jvm.ClassFile.FieldType.long)) ∈ lw_all := lw_g (lw_at lw_m4 230 rfl) rfl
theorem q1075 : (Jvm.Cond.constantLong "jdk/internal/misc/Unsafe" (696 : Nat) (7 : Int64)) ∈ lw_all := lw_g (lw_at lw_m4 231 rfl) rfl
theorem q1076 : (Jvm.Cond.methodLink "jdk/internal/misc/Unsafe" (27 : Nat) ({ cls := "jdk/internal/misc/Unsafe", name := "getLong", desc := "(Ljava/lang/Object;J)J" } : Jvm.MethodName)) ∈ lw_all := lw_g (lw_at lw_m4 232 rfl) rfl
theorem q1077 : (Jvm.Cond.instanceMethod ({ cls := "jdk/internal/misc/Unsafe", name := "getLong", desc := "(Ljava/lang/Object;J)J" } : Jvm.MethodName)) ∈ lw_all := lw_g (lw_at lw_m4 233 rfl) rfl
theorem q1078 : (Jvm.Cond.selects "jdk/internal/misc/Unsafe" ({ cls := "jdk/internal/misc/Unsafe", name := "getLong", desc := "(Ljava/lang/Object;J)J" } : Jvm.MethodName) ({ cls := "jdk/internal/misc/Unsafe", name := "getLong", desc := "(Ljava/lang/Object;J)J" } : Jvm.MethodName)) ∈ lw_all := lw_g (lw_at lw_m4 234 rfl) rfl
theorem q1079 : (Jvm.Cond.native ({ cls := "jdk/internal/misc/Unsafe", name := "getLong", desc := "(Ljava/lang/Object;J)J" } : Jvm.MethodName)) ∈ lw_all := lw_g (lw_at lw_m4 235 rfl) rfl
theorem q1080 : (Jvm.Cond.constantLong "jdk/internal/misc/Unsafe" (349 : Nat) (3 : Int64)) ∈ lw_all := lw_g (lw_at lw_m4 236 rfl) rfl
theorem q1081 : (Jvm.Cond.methodLink "jdk/internal/misc/Unsafe" (17 : Nat) ({ cls := "jdk/internal/misc/Unsafe", name := "getInt", desc := "(Ljava/lang/Object;J)I" } : Jvm.MethodName)) ∈ lw_all := lw_g (lw_at lw_m4 237 rfl) rfl
theorem q1082 : (Jvm.Cond.instanceMethod ({ cls := "jdk/internal/misc/Unsafe", name := "getInt", desc := "(Ljava/lang/Object;J)I" } : Jvm.MethodName)) ∈ lw_all := lw_g (lw_at lw_m4 238 rfl) rfl
theorem q1083 : (Jvm.Cond.selects "jdk/internal/misc/Unsafe" ({ cls := "jdk/internal/misc/Unsafe", name := "getInt", desc := "(Ljava/lang/Object;J)I" } : Jvm.MethodName) ({ cls := "jdk/internal/misc/Unsafe", name := "getInt", desc := "(Ljava/lang/Object;J)I" } : Jvm.MethodName)) ∈ lw_all := lw_g (lw_at lw_m4 239 rfl) rfl
theorem q1084 : (Jvm.Cond.native ({ cls := "jdk/internal/misc/Unsafe", name := "getInt", desc := "(Ljava/lang/Object;J)I" } : Jvm.MethodName)) ∈ lw_all := lw_g (lw_at lw_m5 0 rfl) rfl
theorem q1085 : (Jvm.Cond.constantLong "jdk/internal/misc/Unsafe" (205 : Nat) (4 : Int64)) ∈ lw_all := lw_g (lw_at lw_m5 1 rfl) rfl
theorem q1086 : (Jvm.Cond.methodLink "jdk/internal/misc/Unsafe" (698 : Nat) ({ cls := "jdk/internal/misc/Unsafe", name := "makeLong", desc := "(II)J" } : Jvm.MethodName)) ∈ lw_all := lw_g (lw_at lw_m5 2 rfl) rfl
theorem q1087 : (Jvm.Cond.static ({ cls := "jdk/internal/misc/Unsafe", name := "makeLong", desc := "(II)J" } : Jvm.MethodName)) ∈ lw_all := lw_g (lw_at lw_m5 3 rfl) rfl
theorem q1088 : (Jvm.Cond.code ({ cls := "jdk/internal/misc/Unsafe", name := "makeLong", desc := "(II)J" } : Jvm.MethodName) prog_98_method_353_code (2 : Nat) (Option.some Jvm.ClassFile.FieldType.long)) ∈ lw_all := lw_g (lw_at lw_m5 4 rfl) rfl
theorem q1089 : (Jvm.Cond.methodLink "jdk/internal/misc/Unsafe" (791 : Nat) ({ cls := "jdk/internal/misc/Unsafe", name := "toUnsignedLong", desc := "(I)J" } : Jvm.MethodName)) ∈ lw_all := lw_g (lw_at lw_m5 5 rfl) rfl
theorem q1090 : (Jvm.Cond.static ({ cls := "jdk/internal/misc/Unsafe", name := "toUnsignedLong", desc := "(I)J" } : Jvm.MethodName)) ∈ lw_all := lw_g (lw_at lw_m5 6 rfl) rfl
theorem q1091 : (Jvm.Cond.code ({ cls := "jdk/internal/misc/Unsafe", name := "toUnsignedLong", desc := "(I)J" } : Jvm.MethodName) prog_98_method_370_code (1 : Nat) (Option.some Jvm.ClassFile.FieldType.long)) ∈ lw_all := lw_g (lw_at lw_m5 7 rfl) rfl
theorem q1092 : (Jvm.Cond.constantLong "jdk/internal/misc/Unsafe" (812 : Nat) (4294967295 : Int64)) ∈ lw_all := lw_g (lw_at lw_m5 8 rfl) rfl
theorem q1093 : (Jvm.Cond.methodLink "jdk/internal/misc/Unsafe" (784 : Nat) ({ cls := "jdk/internal/misc/Unsafe", name := "pickPos", desc := "(II)I" } : Jvm.MethodName)) ∈ lw_all := lw_g (lw_at lw_m5 9 rfl) rfl
theorem q1094 : (Jvm.Cond.static ({ cls := "jdk/internal/misc/Unsafe", name := "pickPos", desc := "(II)I" } : Jvm.MethodName)) ∈ lw_all := lw_g (lw_at lw_m5 10 rfl) rfl
theorem q1095 : (Jvm.Cond.code ({ cls := "jdk/internal/misc/Unsafe", name := "pickPos", desc := "(II)I" } : Jvm.MethodName) prog_98_method_350_code (2 : Nat) (Option.some Jvm.ClassFile.FieldType.int)) ∈ lw_all := lw_g (lw_at lw_m5 11 rfl) rfl
theorem q1096 : (Jvm.Cond.fieldLink "jdk/internal/misc/Unsafe" (351 : Nat) "jdk/internal/misc/UnsafeConstants" "BIG_ENDIAN" "Z") ∈ lw_all := lw_g (lw_at lw_m5 12 rfl) rfl
theorem q1098 : (Jvm.Cond.methodLink "jdk/internal/misc/Unsafe" (47 : Nat) ({ cls := "jdk/internal/misc/Unsafe", name := "getShort", desc := "(Ljava/lang/Object;J)S" } : Jvm.MethodName)) ∈ lw_all := lw_g (lw_at lw_m5 14 rfl) rfl
theorem q1099 : (Jvm.Cond.instanceMethod ({ cls := "jdk/internal/misc/Unsafe", name := "getShort", desc := "(Ljava/lang/Object;J)S" } : Jvm.MethodName)) ∈ lw_all := lw_g (lw_at lw_m5 15 rfl) rfl
theorem q1100 : (Jvm.Cond.selects "jdk/internal/misc/Unsafe" ({ cls := "jdk/internal/misc/Unsafe", name := "getShort", desc := "(Ljava/lang/Object;J)S" } : Jvm.MethodName) ({ cls := "jdk/internal/misc/Unsafe", name := "getShort", desc := "(Ljava/lang/Object;J)S" } : Jvm.MethodName)) ∈ lw_all := lw_g (lw_at lw_m5 16 rfl) rfl
theorem q1101 : (Jvm.Cond.native ({ cls := "jdk/internal/misc/Unsafe", name := "getShort", desc := "(Ljava/lang/Object;J)S" } : Jvm.MethodName)) ∈ lw_all := lw_g (lw_at lw_m5 17 rfl) rfl
theorem q1102 : (Jvm.Cond.constantLong "jdk/internal/misc/Unsafe" (203 : Nat) (2 : Int64)) ∈ lw_all := lw_g (lw_at lw_m5 18 rfl) rfl
theorem q1103 : (Jvm.Cond.constantLong "jdk/internal/misc/Unsafe" (702 : Nat) (6 : Int64)) ∈ lw_all := lw_g (lw_at lw_m5 19 rfl) rfl
theorem q1104 : (Jvm.Cond.methodLink "jdk/internal/misc/Unsafe" (704 : Nat) ({ cls := "jdk/internal/misc/Unsafe", name := "makeLong", desc := "(SSSS)J" } : Jvm.MethodName)) ∈ lw_all := lw_g (lw_at lw_m5 20 rfl) rfl
theorem q1105 : (Jvm.Cond.static ({ cls := "jdk/internal/misc/Unsafe", name := "makeLong", desc := "(SSSS)J" } : Jvm.MethodName)) ∈ lw_all := lw_g (lw_at lw_m5 21 rfl) rfl
theorem q1106 : (Jvm.Cond.code ({ cls := "jdk/internal/misc/Unsafe", name := "makeLong", desc := "(SSSS)J" } : Jvm.MethodName) prog_98_method_352_code (4 : Nat) (Option.some Jvm.ClassFile.FieldType.long)) ∈ lw_all := lw_g (lw_at lw_m5 22 rfl) rfl
theorem q1107 : (Jvm.Cond.methodLink "jdk/internal/misc/Unsafe" (788 : Nat) ({ cls := "jdk/internal/misc/Unsafe", name := "toUnsignedLong", desc := "(S)J" } : Jvm.MethodName)) ∈ lw_all := lw_g (lw_at lw_m5 23 rfl) rfl
theorem q1108 : (Jvm.Cond.static ({ cls := "jdk/internal/misc/Unsafe", name := "toUnsignedLong", desc := "(S)J" } : Jvm.MethodName)) ∈ lw_all := lw_g (lw_at lw_m5 24 rfl) rfl
theorem q1109 : (Jvm.Cond.code ({ cls := "jdk/internal/misc/Unsafe", name := "toUnsignedLong", desc := "(S)J" } : Jvm.MethodName) prog_98_method_369_code (1 : Nat) (Option.some Jvm.ClassFile.FieldType.long)) ∈ lw_all := lw_g (lw_at lw_m5 25 rfl) rfl
theorem q1110 : (Jvm.Cond.constantLong "jdk/internal/misc/Unsafe" (810 : Nat) (65535 : Int64)) ∈ lw_all := lw_g (lw_at lw_m5 26 rfl) rfl
theorem q1111 : (Jvm.Cond.methodLink "jdk/internal/misc/Unsafe" (39 : Nat) ({ cls := "jdk/internal/misc/Unsafe", name := "getByte", desc := "(Ljava/lang/Object;J)B" } : Jvm.MethodName)) ∈ lw_all := lw_g (lw_at lw_m5 27 rfl) rfl
theorem q1112 : (Jvm.Cond.instanceMethod ({ cls := "jdk/internal/misc/Unsafe", name := "getByte", desc := "(Ljava/lang/Object;J)B" } : Jvm.MethodName)) ∈ lw_all := lw_g (lw_at lw_m5 28 rfl) rfl
theorem q1113 : (Jvm.Cond.selects "jdk/internal/misc/Unsafe" ({ cls := "jdk/internal/misc/Unsafe", name := "getByte", desc := "(Ljava/lang/Object;J)B" } : Jvm.MethodName) ({ cls := "jdk/internal/misc/Unsafe", name := "getByte", desc := "(Ljava/lang/Object;J)B" } : Jvm.MethodName)) ∈ lw_all := lw_g (lw_at lw_m5 29 rfl) rfl
theorem q1114 : (Jvm.Cond.native ({ cls := "jdk/internal/misc/Unsafe", name := "getByte", desc := "(Ljava/lang/Object;J)B" } : Jvm.MethodName)) ∈ lw_all := lw_g (lw_at lw_m5 30 rfl) rfl
theorem q1115 : (Jvm.Cond.constantLong "jdk/internal/misc/Unsafe" (707 : Nat) (5 : Int64)) ∈ lw_all := lw_g (lw_at lw_m5 31 rfl) rfl
theorem q1116 : (Jvm.Cond.methodLink "jdk/internal/misc/Unsafe" (709 : Nat) ({ cls := "jdk/internal/misc/Unsafe", name := "makeLong", desc := "(BBBBBBBB)J" } : Jvm.MethodName)) ∈ lw_all := lw_g (lw_at lw_m5 32 rfl) rfl
theorem q1117 : (Jvm.Cond.static ({ cls := "jdk/internal/misc/Unsafe", name := "makeLong", desc := "(BBBBBBBB)J" } : Jvm.MethodName)) ∈ lw_all := lw_g (lw_at lw_m5 33 rfl) rfl
theorem q1118 : (Jvm.Cond.code ({ cls := "jdk/internal/misc/Unsafe", name := "makeLong", desc := "(BBBBBBBB)J" } : Jvm.MethodName) prog_98_method_351_code (8 : Nat) (Option.some Jvm.ClassFile.FieldType.long)) ∈ lw_all := lw_g (lw_at lw_m5 34 rfl) rfl
theorem q1119 : (Jvm.Cond.methodLink "jdk/internal/misc/Unsafe" (781 : Nat) ({ cls := "jdk/internal/misc/Unsafe", name := "toUnsignedLong", desc := "(B)J" } : Jvm.MethodName)) ∈ lw_all := lw_g (lw_at lw_m5 35 rfl) rfl
theorem q1120 : (Jvm.Cond.static ({ cls := "jdk/internal/misc/Unsafe", name := "toUnsignedLong", desc := "(B)J" } : Jvm.MethodName)) ∈ lw_all := lw_g (lw_at lw_m5 36 rfl) rfl
theorem q1121 : (Jvm.Cond.code ({ cls := "jdk/internal/misc/Unsafe", name := "toUnsignedLong", desc := "(B)J" } : Jvm.MethodName) prog_98_method_368_code (1 : Nat) (Option.some Jvm.ClassFile.FieldType.long)) ∈ lw_all := lw_g (lw_at lw_m5 37 rfl) rfl
theorem q1122 : (Jvm.Cond.constantLong "jdk/internal/misc/Unsafe" (808 : Nat) (255 : Int64)) ∈ lw_all := lw_g (lw_at lw_m5 38 rfl) rfl
theorem q1143 : (Jvm.Cond.instanceMethod ({ cls := "jdk/internal/misc/Unsafe", name := "getIntUnaligned", desc := "(Ljava/lang/Object;J)I" } : Jvm.MethodName)) ∈ lw_all := lw_g (lw_at lw_m5 59 rfl) rfl
theorem q1144 : (Jvm.Cond.selects "jdk/internal/misc/Unsafe" ({ cls := "jdk/internal/misc/Unsafe", name := "getIntUnaligned", desc := "(Ljava/lang/Object;J)I" } : Jvm.MethodName) ({ cls := "jdk/internal/misc/Unsafe", name := "getIntUnaligned", desc := "(Ljava/lang/Object;J)I" } : Jvm.MethodName)) ∈ lw_all := lw_g (lw_at lw_m5 60 rfl) rfl
theorem q1145 : (Jvm.Cond.code ({ cls := "jdk/internal/misc/Unsafe", name := "getIntUnaligned", desc := "(Ljava/lang/Object;J)I" } : Jvm.MethodName) prog_98_method_336_code (4 : Nat) (Option.some Jvm.ClassFile.FieldType.int)) ∈ lw_all := lw_g (lw_at lw_m5 61 rfl) rfl
theorem q1146 : (Jvm.Cond.methodLink "jdk/internal/misc/Unsafe" (719 : Nat) ({ cls := "jdk/internal/misc/Unsafe", name := "makeInt", desc := "(SS)I" } : Jvm.MethodName)) ∈ lw_all := lw_g (lw_at lw_m5 62 rfl) rfl
theorem q1147 : (Jvm.Cond.static ({ cls := "jdk/internal/misc/Unsafe", name := "makeInt", desc := "(SS)I" } : Jvm.MethodName)) ∈ lw_all := lw_g (lw_at lw_m5 63 rfl) rfl
theorem q1148 : (Jvm.Cond.code ({ cls := "jdk/internal/misc/Unsafe", name := "makeInt", desc := "(SS)I" } : Jvm.MethodName) prog_98_method_354_code (2 : Nat) (Option.some Jvm.ClassFile.FieldType.int)) ∈ lw_all := lw_g (lw_at lw_m5 64 rfl) rfl
theorem q1149 : (Jvm.Cond.methodLink "jdk/internal/misc/Unsafe" (792 : Nat) ({ cls := "jdk/internal/misc/Unsafe", name := "toUnsignedInt", desc := "(S)I" } : Jvm.MethodName)) ∈ lw_all := lw_g (lw_at lw_m5 65 rfl) rfl
theorem q1150 : (Jvm.Cond.static ({ cls := "jdk/internal/misc/Unsafe", name := "toUnsignedInt", desc := "(S)I" } : Jvm.MethodName)) ∈ lw_all := lw_g (lw_at lw_m5 66 rfl) rfl
theorem q1151 : (Jvm.Cond.code ({ cls := "jdk/internal/misc/Unsafe", name := "toUnsignedInt", desc := "(S)I" } : Jvm.MethodName) prog_98_method_367_code (1 : Nat) (Option.some Jvm.ClassFile.FieldType.int)) ∈ lw_all := lw_g (lw_at lw_m5 67 rfl) rfl
theorem q1152 : (Jvm.Cond.constant "jdk/internal/misc/Unsafe" (374 : Nat) (65535 : Int32)) ∈ lw_all := lw_g (lw_at lw_m5 68 rfl) rfl
theorem q1153 : (Jvm.Cond.methodLink "jdk/internal/misc/Unsafe" (723 : Nat) ({ cls := "jdk/internal/misc/Unsafe", name := "makeInt", desc := "(BBBB)I" } : Jvm.MethodName)) ∈ lw_all := lw_g (lw_at lw_m5 69 rfl) rfl
theorem q1154 : (Jvm.Cond.static ({ cls := "jdk/internal/misc/Unsafe", name := "makeInt", desc := "(BBBB)I" } : Jvm.MethodName)) ∈ lw_all := lw_g (lw_at lw_m5 70 rfl) rfl
theorem q1155 : (Jvm.Cond.code ({ cls := "jdk/internal/misc/Unsafe", name := "makeInt", desc := "(BBBB)I" } : Jvm.MethodName) prog_98_method_355_code (4 : Nat) (Option.some Jvm.ClassFile.FieldType.int)) ∈ lw_all := lw_g (lw_at lw_m5 71 rfl) rfl
theorem q1156 : (Jvm.Cond.methodLink "jdk/internal/misc/Unsafe" (796 : Nat) ({ cls := "jdk/internal/misc/Unsafe", name := "toUnsignedInt", desc := "(B)I" } : Jvm.MethodName)) ∈ lw_all := lw_g (lw_at lw_m5 72 rfl) rfl
theorem q1157 : (Jvm.Cond.static ({ cls := "jdk/internal/misc/Unsafe", name := "toUnsignedInt", desc := "(B)I" } : Jvm.MethodName)) ∈ lw_all := lw_g (lw_at lw_m5 73 rfl) rfl
theorem q1158 : (Jvm.Cond.code ({ cls := "jdk/internal/misc/Unsafe", name := "toUnsignedInt", desc := "(B)I" } : Jvm.MethodName) prog_98_method_366_code (1 : Nat) (Option.some Jvm.ClassFile.FieldType.int)) ∈ lw_all := lw_g (lw_at lw_m5 74 rfl) rfl
theorem q2891 : (Jvm.Cond.selects "jdk/internal/misc/Unsafe" ({ cls := "java/lang/Object", name := "toString", desc := "()Ljava/lang/String;" } : Jvm.MethodName) ({ cls := "java/lang/Object", name := "toString", desc := "()Ljava/lang/String;" } : Jvm.MethodName)) ∈ lw_all := lw_g (lw_at lw_m12 127 rfl) rfl
theorem q4038 : (Jvm.Cond.castable "jdk/internal/misc/Unsafe" "java/lang/Object") ∈ lw_tbl := lw_at lw_m17 74 rfl

/-! java/lang/Long -/
set_option maxRecDepth 100000
def RJ19 : String := "java/lang/Long"
abbrev cJ19_numberOfLeadingZeros : ByteArray := prog_37_method_48_code
def yJ19_numberOfLeadingZeros : MethodName := ⟨RJ19, "numberOfLeadingZeros", "(J)I"⟩
def dkwJ19_numberOfLeadingZeros_1 : List UInt8 := [184, 1, 52, 172]
abbrev dktJ19_numberOfLeadingZeros_1 : List UInt8 := dkwJ19_numberOfLeadingZeros_1 ++ []
def dkwJ19_numberOfLeadingZeros_0 : List UInt8 := [30, 16, 32, 125, 136, 61, 28, 154, 0, 14, 16, 32, 30, 136, 184, 1, 52, 96, 167, 0, 7, 28]
abbrev dktJ19_numberOfLeadingZeros_0 : List UInt8 := dkwJ19_numberOfLeadingZeros_0 ++ dktJ19_numberOfLeadingZeros_1
theorem dksJ19_numberOfLeadingZeros_0 : cJ19_numberOfLeadingZeros.data.toList.drop 0 = dktJ19_numberOfLeadingZeros_0 := by decide +kernel
theorem dksJ19_numberOfLeadingZeros_1 : cJ19_numberOfLeadingZeros.data.toList.drop 22 = dktJ19_numberOfLeadingZeros_1 := dk_seg dksJ19_numberOfLeadingZeros_0 22 rfl rfl
theorem dJ19_numberOfLeadingZeros_0 : decode cJ19_numberOfLeadingZeros 0 = .ok (.lload_n 0, 1) := dk_30 (dk_at dksJ19_numberOfLeadingZeros_0 0 rfl rfl)
theorem dJ19_numberOfLeadingZeros_1 : decode cJ19_numberOfLeadingZeros 1 = .ok (.bipush 32, 2) := dk_16 32 (dk_at dksJ19_numberOfLeadingZeros_0 1 rfl rfl)
theorem dJ19_numberOfLeadingZeros_3 : decode cJ19_numberOfLeadingZeros 3 = .ok (.lushr, 1) := dk_125 (dk_at dksJ19_numberOfLeadingZeros_0 3 rfl rfl)
theorem dJ19_numberOfLeadingZeros_4 : decode cJ19_numberOfLeadingZeros 4 = .ok (.l2i, 1) := dk_136 (dk_at dksJ19_numberOfLeadingZeros_0 4 rfl rfl)
theorem dJ19_numberOfLeadingZeros_5 : decode cJ19_numberOfLeadingZeros 5 = .ok (.istore_n 2, 1) := dk_61 (dk_at dksJ19_numberOfLeadingZeros_0 5 rfl rfl)
theorem dJ19_numberOfLeadingZeros_6 : decode cJ19_numberOfLeadingZeros 6 = .ok (.iload_n 2, 1) := dk_28 (dk_at dksJ19_numberOfLeadingZeros_0 6 rfl rfl)
theorem dJ19_numberOfLeadingZeros_7 : decode cJ19_numberOfLeadingZeros 7 = .ok (.ifCond .ne 14, 3) := dk_154 0 14 (dk_at dksJ19_numberOfLeadingZeros_0 7 rfl rfl)
theorem dJ19_numberOfLeadingZeros_10 : decode cJ19_numberOfLeadingZeros 10 = .ok (.bipush 32, 2) := dk_16 32 (dk_at dksJ19_numberOfLeadingZeros_0 10 rfl rfl)
theorem dJ19_numberOfLeadingZeros_12 : decode cJ19_numberOfLeadingZeros 12 = .ok (.lload_n 0, 1) := dk_30 (dk_at dksJ19_numberOfLeadingZeros_0 12 rfl rfl)
theorem dJ19_numberOfLeadingZeros_13 : decode cJ19_numberOfLeadingZeros 13 = .ok (.l2i, 1) := dk_136 (dk_at dksJ19_numberOfLeadingZeros_0 13 rfl rfl)
theorem dJ19_numberOfLeadingZeros_14 : decode cJ19_numberOfLeadingZeros 14 = .ok (.invokestatic 308, 3) := dk_184 1 52 (dk_at dksJ19_numberOfLeadingZeros_0 14 rfl rfl)
theorem dJ19_numberOfLeadingZeros_17 : decode cJ19_numberOfLeadingZeros 17 = .ok (.iadd, 1) := dk_96 (dk_at dksJ19_numberOfLeadingZeros_0 17 rfl rfl)
theorem dJ19_numberOfLeadingZeros_18 : decode cJ19_numberOfLeadingZeros 18 = .ok (.goto 7, 3) := dk_167 0 7 (dk_at dksJ19_numberOfLeadingZeros_0 18 rfl rfl)
theorem dJ19_numberOfLeadingZeros_21 : decode cJ19_numberOfLeadingZeros 21 = .ok (.iload_n 2, 1) := dk_28 (dk_at dksJ19_numberOfLeadingZeros_0 21 rfl rfl)
theorem dJ19_numberOfLeadingZeros_22 : decode cJ19_numberOfLeadingZeros 22 = .ok (.invokestatic 308, 3) := dk_184 1 52 (dk_at dksJ19_numberOfLeadingZeros_1 0 rfl rfl)
theorem dJ19_numberOfLeadingZeros_25 : decode cJ19_numberOfLeadingZeros 25 = .ok (.ireturn, 1) := dk_172 (dk_at dksJ19_numberOfLeadingZeros_1 3 rfl rfl)
abbrev cJ19_numberOfTrailingZeros : ByteArray := prog_37_method_49_code
def yJ19_numberOfTrailingZeros : MethodName := ⟨RJ19, "numberOfTrailingZeros", "(J)I"⟩
def dkwJ19_numberOfTrailingZeros_1 : List UInt8 := [184, 1, 55, 172]
abbrev dktJ19_numberOfTrailingZeros_1 : List UInt8 := dkwJ19_numberOfTrailingZeros_1 ++ []
def dkwJ19_numberOfTrailingZeros_0 : List UInt8 := [30, 136, 61, 28, 154, 0, 17, 16, 32, 30, 16, 32, 125, 136, 184, 1, 55, 96, 167, 0, 7, 28]
abbrev dktJ19_numberOfTrailingZeros_0 : List UInt8 := dkwJ19_numberOfTrailingZeros_0 ++ dktJ19_numberOfTrailingZeros_1
theorem dksJ19_numberOfTrailingZeros_0 : cJ19_numberOfTrailingZeros.data.toList.drop 0 = dktJ19_numberOfTrailingZeros_0 := by decide +kernel
theorem dksJ19_numberOfTrailingZeros_1 : cJ19_numberOfTrailingZeros.data.toList.drop 22 = dktJ19_numberOfTrailingZeros_1 := dk_seg dksJ19_numberOfTrailingZeros_0 22 rfl rfl
theorem dJ19_numberOfTrailingZeros_0 : decode cJ19_numberOfTrailingZeros 0 = .ok (.lload_n 0, 1) := dk_30 (dk_at dksJ19_numberOfTrailingZeros_0 0 rfl rfl)
theorem dJ19_numberOfTrailingZeros_1 : decode cJ19_numberOfTrailingZeros 1 = .ok (.l2i, 1) := dk_136 (dk_at dksJ19_numberOfTrailingZeros_0 1 rfl rfl)
theorem dJ19_numberOfTrailingZeros_2 : decode cJ19_numberOfTrailingZeros 2 = .ok (.istore_n 2, 1) := dk_61 (dk_at dksJ19_numberOfTrailingZeros_0 2 rfl rfl)
theorem dJ19_numberOfTrailingZeros_3 : decode cJ19_numberOfTrailingZeros 3 = .ok (.iload_n 2, 1) := dk_28 (dk_at dksJ19_numberOfTrailingZeros_0 3 rfl rfl)
theorem dJ19_numberOfTrailingZeros_4 : decode cJ19_numberOfTrailingZeros 4 = .ok (.ifCond .ne 17, 3) := dk_154 0 17 (dk_at dksJ19_numberOfTrailingZeros_0 4 rfl rfl)
theorem dJ19_numberOfTrailingZeros_7 : decode cJ19_numberOfTrailingZeros 7 = .ok (.bipush 32, 2) := dk_16 32 (dk_at dksJ19_numberOfTrailingZeros_0 7 rfl rfl)
theorem dJ19_numberOfTrailingZeros_9 : decode cJ19_numberOfTrailingZeros 9 = .ok (.lload_n 0, 1) := dk_30 (dk_at dksJ19_numberOfTrailingZeros_0 9 rfl rfl)
theorem dJ19_numberOfTrailingZeros_10 : decode cJ19_numberOfTrailingZeros 10 = .ok (.bipush 32, 2) := dk_16 32 (dk_at dksJ19_numberOfTrailingZeros_0 10 rfl rfl)
theorem dJ19_numberOfTrailingZeros_12 : decode cJ19_numberOfTrailingZeros 12 = .ok (.lushr, 1) := dk_125 (dk_at dksJ19_numberOfTrailingZeros_0 12 rfl rfl)
theorem dJ19_numberOfTrailingZeros_13 : decode cJ19_numberOfTrailingZeros 13 = .ok (.l2i, 1) := dk_136 (dk_at dksJ19_numberOfTrailingZeros_0 13 rfl rfl)
theorem dJ19_numberOfTrailingZeros_14 : decode cJ19_numberOfTrailingZeros 14 = .ok (.invokestatic 311, 3) := dk_184 1 55 (dk_at dksJ19_numberOfTrailingZeros_0 14 rfl rfl)
theorem dJ19_numberOfTrailingZeros_17 : decode cJ19_numberOfTrailingZeros 17 = .ok (.iadd, 1) := dk_96 (dk_at dksJ19_numberOfTrailingZeros_0 17 rfl rfl)
theorem dJ19_numberOfTrailingZeros_18 : decode cJ19_numberOfTrailingZeros 18 = .ok (.goto 7, 3) := dk_167 0 7 (dk_at dksJ19_numberOfTrailingZeros_0 18 rfl rfl)
theorem dJ19_numberOfTrailingZeros_21 : decode cJ19_numberOfTrailingZeros 21 = .ok (.iload_n 2, 1) := dk_28 (dk_at dksJ19_numberOfTrailingZeros_0 21 rfl rfl)
theorem dJ19_numberOfTrailingZeros_22 : decode cJ19_numberOfTrailingZeros 22 = .ok (.invokestatic 311, 3) := dk_184 1 55 (dk_at dksJ19_numberOfTrailingZeros_1 0 rfl rfl)
theorem dJ19_numberOfTrailingZeros_25 : decode cJ19_numberOfTrailingZeros 25 = .ok (.ireturn, 1) := dk_172 (dk_at dksJ19_numberOfTrailingZeros_1 3 rfl rfl)
theorem q152 : (Jvm.Cond.initialized "java/lang/Long") ∈ lw_all := lw_g (lw_at lw_m1 28 rfl) rfl
theorem q1126 : (Jvm.Cond.static ({ cls := "java/lang/Long", name := "numberOfLeadingZeros", desc := "(J)I" } : Jvm.MethodName)) ∈ lw_all := lw_g (lw_at lw_m5 42 rfl) rfl
theorem q1127 : (Jvm.Cond.code ({ cls := "java/lang/Long", name := "numberOfLeadingZeros", desc := "(J)I" } : Jvm.MethodName) prog_37_method_48_code (3 : Nat) (Option.some Jvm.ClassFile.FieldType.int)) ∈ lw_all := lw_g (lw_at lw_m5 43 rfl) rfl
theorem q1128 : (Jvm.Cond.methodLink "java/lang/Long" (308 : Nat) ({ cls := "java/lang/Integer", name := "numberOfLeadingZeros", desc := "(I)I" } : Jvm.MethodName)) ∈ lw_all := lw_g (lw_at lw_m5 44 rfl) rfl
theorem q1135 : (Jvm.Cond.static ({ cls := "java/lang/Long", name := "numberOfTrailingZeros", desc := "(J)I" } : Jvm.MethodName)) ∈ lw_all := lw_g (lw_at lw_m5 51 rfl) rfl
theorem q1136 : (Jvm.Cond.code ({ cls := "java/lang/Long", name := "numberOfTrailingZeros", desc := "(J)I" } : Jvm.MethodName) prog_37_method_49_code (3 : Nat) (Option.some Jvm.ClassFile.FieldType.int)) ∈ lw_all := lw_g (lw_at lw_m5 52 rfl) rfl
theorem q1137 : (Jvm.Cond.methodLink "java/lang/Long" (311 : Nat) ({ cls := "java/lang/Integer", name := "numberOfTrailingZeros", desc := "(I)I" } : Jvm.MethodName)) ∈ lw_all := lw_g (lw_at lw_m5 53 rfl) rfl

/-! jdk/internal/util/Preconditions -/
set_option maxRecDepth 100000
def RJ20 : String := "jdk/internal/util/Preconditions"
abbrev cJ20_checkIndex : ByteArray := prog_101_method_11_code
def yJ20_checkIndex : MethodName := ⟨RJ20, "checkIndex", "(IILjava/util/function/BiFunction;)I"⟩
def dkwJ20_checkIndex_0 : List UInt8 := [26, 155, 0, 8, 26, 27, 161, 0, 10, 44, 26, 27, 184, 0, 95, 191, 26, 172]
abbrev dktJ20_checkIndex_0 : List UInt8 := dkwJ20_checkIndex_0 ++ []
theorem dksJ20_checkIndex_0 : cJ20_checkIndex.data.toList.drop 0 = dktJ20_checkIndex_0 := by decide +kernel
theorem dJ20_checkIndex_0 : decode cJ20_checkIndex 0 = .ok (.iload_n 0, 1) := dk_26 (dk_at dksJ20_checkIndex_0 0 rfl rfl)
theorem dJ20_checkIndex_1 : decode cJ20_checkIndex 1 = .ok (.ifCond .lt 8, 3) := dk_155 0 8 (dk_at dksJ20_checkIndex_0 1 rfl rfl)
theorem dJ20_checkIndex_4 : decode cJ20_checkIndex 4 = .ok (.iload_n 0, 1) := dk_26 (dk_at dksJ20_checkIndex_0 4 rfl rfl)
theorem dJ20_checkIndex_5 : decode cJ20_checkIndex 5 = .ok (.iload_n 1, 1) := dk_27 (dk_at dksJ20_checkIndex_0 5 rfl rfl)
theorem dJ20_checkIndex_6 : decode cJ20_checkIndex 6 = .ok (.if_icmp .lt 10, 3) := dk_161 0 10 (dk_at dksJ20_checkIndex_0 6 rfl rfl)
theorem dJ20_checkIndex_9 : decode cJ20_checkIndex 9 = .ok (.aload_n 2, 1) := dk_44 (dk_at dksJ20_checkIndex_0 9 rfl rfl)
theorem dJ20_checkIndex_10 : decode cJ20_checkIndex 10 = .ok (.iload_n 0, 1) := dk_26 (dk_at dksJ20_checkIndex_0 10 rfl rfl)
theorem dJ20_checkIndex_11 : decode cJ20_checkIndex 11 = .ok (.iload_n 1, 1) := dk_27 (dk_at dksJ20_checkIndex_0 11 rfl rfl)
theorem dJ20_checkIndex_12 : decode cJ20_checkIndex 12 = .ok (.invokestatic 95, 3) := dk_184 0 95 (dk_at dksJ20_checkIndex_0 12 rfl rfl)
theorem dJ20_checkIndex_15 : decode cJ20_checkIndex 15 = .ok (.athrow, 1) := dk_191 (dk_at dksJ20_checkIndex_0 15 rfl rfl)
theorem dJ20_checkIndex_16 : decode cJ20_checkIndex 16 = .ok (.iload_n 0, 1) := dk_26 (dk_at dksJ20_checkIndex_0 16 rfl rfl)
theorem dJ20_checkIndex_17 : decode cJ20_checkIndex 17 = .ok (.ireturn, 1) := dk_172 (dk_at dksJ20_checkIndex_0 17 rfl rfl)
abbrev cJ20_checkFromToIndex : ByteArray := prog_101_method_12_code
def yJ20_checkFromToIndex : MethodName := ⟨RJ20, "checkFromToIndex", "(IIILjava/util/function/BiFunction;)I"⟩
def dkwJ20_checkFromToIndex_0 : List UInt8 := [26, 155, 0, 13, 26, 27, 163, 0, 8, 27, 28, 164, 0, 11, 45, 26, 27, 28, 184, 0, 99, 191, 26, 172]
abbrev dktJ20_checkFromToIndex_0 : List UInt8 := dkwJ20_checkFromToIndex_0 ++ []
theorem dksJ20_checkFromToIndex_0 : cJ20_checkFromToIndex.data.toList.drop 0 = dktJ20_checkFromToIndex_0 := by decide +kernel
theorem dJ20_checkFromToIndex_0 : decode cJ20_checkFromToIndex 0 = .ok (.iload_n 0, 1) := dk_26 (dk_at dksJ20_checkFromToIndex_0 0 rfl rfl)
theorem dJ20_checkFromToIndex_1 : decode cJ20_checkFromToIndex 1 = .ok (.ifCond .lt 13, 3) := dk_155 0 13 (dk_at dksJ20_checkFromToIndex_0 1 rfl rfl)
theorem dJ20_checkFromToIndex_4 : decode cJ20_checkFromToIndex 4 = .ok (.iload_n 0, 1) := dk_26 (dk_at dksJ20_checkFromToIndex_0 4 rfl rfl)
theorem dJ20_checkFromToIndex_5 : decode cJ20_checkFromToIndex 5 = .ok (.iload_n 1, 1) := dk_27 (dk_at dksJ20_checkFromToIndex_0 5 rfl rfl)
theorem dJ20_checkFromToIndex_6 : decode cJ20_checkFromToIndex 6 = .ok (.if_icmp .gt 8, 3) := dk_163 0 8 (dk_at dksJ20_checkFromToIndex_0 6 rfl rfl)
theorem dJ20_checkFromToIndex_9 : decode cJ20_checkFromToIndex 9 = .ok (.iload_n 1, 1) := dk_27 (dk_at dksJ20_checkFromToIndex_0 9 rfl rfl)
theorem dJ20_checkFromToIndex_10 : decode cJ20_checkFromToIndex 10 = .ok (.iload_n 2, 1) := dk_28 (dk_at dksJ20_checkFromToIndex_0 10 rfl rfl)
theorem dJ20_checkFromToIndex_11 : decode cJ20_checkFromToIndex 11 = .ok (.if_icmp .le 11, 3) := dk_164 0 11 (dk_at dksJ20_checkFromToIndex_0 11 rfl rfl)
theorem dJ20_checkFromToIndex_14 : decode cJ20_checkFromToIndex 14 = .ok (.aload_n 3, 1) := dk_45 (dk_at dksJ20_checkFromToIndex_0 14 rfl rfl)
theorem dJ20_checkFromToIndex_15 : decode cJ20_checkFromToIndex 15 = .ok (.iload_n 0, 1) := dk_26 (dk_at dksJ20_checkFromToIndex_0 15 rfl rfl)
theorem dJ20_checkFromToIndex_16 : decode cJ20_checkFromToIndex 16 = .ok (.iload_n 1, 1) := dk_27 (dk_at dksJ20_checkFromToIndex_0 16 rfl rfl)
theorem dJ20_checkFromToIndex_17 : decode cJ20_checkFromToIndex 17 = .ok (.iload_n 2, 1) := dk_28 (dk_at dksJ20_checkFromToIndex_0 17 rfl rfl)
theorem dJ20_checkFromToIndex_18 : decode cJ20_checkFromToIndex 18 = .ok (.invokestatic 99, 3) := dk_184 0 99 (dk_at dksJ20_checkFromToIndex_0 18 rfl rfl)
theorem dJ20_checkFromToIndex_21 : decode cJ20_checkFromToIndex 21 = .ok (.athrow, 1) := dk_191 (dk_at dksJ20_checkFromToIndex_0 21 rfl rfl)
theorem dJ20_checkFromToIndex_22 : decode cJ20_checkFromToIndex 22 = .ok (.iload_n 0, 1) := dk_26 (dk_at dksJ20_checkFromToIndex_0 22 rfl rfl)
theorem dJ20_checkFromToIndex_23 : decode cJ20_checkFromToIndex 23 = .ok (.ireturn, 1) := dk_172 (dk_at dksJ20_checkFromToIndex_0 23 rfl rfl)
abbrev cJ20_checkFromIndexSize : ByteArray := prog_101_method_13_code
def yJ20_checkFromIndexSize : MethodName := ⟨RJ20, "checkFromIndexSize", "(IIILjava/util/function/BiFunction;)I"⟩
def dkwJ20_checkFromIndexSize_1 : List UInt8 := [172]
abbrev dktJ20_checkFromIndexSize_1 : List UInt8 := dkwJ20_checkFromIndexSize_1 ++ []
def dkwJ20_checkFromIndexSize_0 : List UInt8 := [28, 26, 128, 27, 128, 155, 0, 10, 27, 28, 26, 100, 164, 0, 11, 45, 26, 27, 28, 184, 0, 103, 191, 26]
abbrev dktJ20_checkFromIndexSize_0 : List UInt8 := dkwJ20_checkFromIndexSize_0 ++ dktJ20_checkFromIndexSize_1
theorem dksJ20_checkFromIndexSize_0 : cJ20_checkFromIndexSize.data.toList.drop 0 = dktJ20_checkFromIndexSize_0 := by decide +kernel
theorem dksJ20_checkFromIndexSize_1 : cJ20_checkFromIndexSize.data.toList.drop 24 = dktJ20_checkFromIndexSize_1 := dk_seg dksJ20_checkFromIndexSize_0 24 rfl rfl
theorem dJ20_checkFromIndexSize_0 : decode cJ20_checkFromIndexSize 0 = .ok (.iload_n 2, 1) := dk_28 (dk_at dksJ20_checkFromIndexSize_0 0 rfl rfl)
theorem dJ20_checkFromIndexSize_1 : decode cJ20_checkFromIndexSize 1 = .ok (.iload_n 0, 1) := dk_26 (dk_at dksJ20_checkFromIndexSize_0 1 rfl rfl)
theorem dJ20_checkFromIndexSize_2 : decode cJ20_checkFromIndexSize 2 = .ok (.ior, 1) := dk_128 (dk_at dksJ20_checkFromIndexSize_0 2 rfl rfl)
theorem dJ20_checkFromIndexSize_3 : decode cJ20_checkFromIndexSize 3 = .ok (.iload_n 1, 1) := dk_27 (dk_at dksJ20_checkFromIndexSize_0 3 rfl rfl)
theorem dJ20_checkFromIndexSize_4 : decode cJ20_checkFromIndexSize 4 = .ok (.ior, 1) := dk_128 (dk_at dksJ20_checkFromIndexSize_0 4 rfl rfl)
theorem dJ20_checkFromIndexSize_5 : decode cJ20_checkFromIndexSize 5 = .ok (.ifCond .lt 10, 3) := dk_155 0 10 (dk_at dksJ20_checkFromIndexSize_0 5 rfl rfl)
theorem dJ20_checkFromIndexSize_8 : decode cJ20_checkFromIndexSize 8 = .ok (.iload_n 1, 1) := dk_27 (dk_at dksJ20_checkFromIndexSize_0 8 rfl rfl)
theorem dJ20_checkFromIndexSize_9 : decode cJ20_checkFromIndexSize 9 = .ok (.iload_n 2, 1) := dk_28 (dk_at dksJ20_checkFromIndexSize_0 9 rfl rfl)
theorem dJ20_checkFromIndexSize_10 : decode cJ20_checkFromIndexSize 10 = .ok (.iload_n 0, 1) := dk_26 (dk_at dksJ20_checkFromIndexSize_0 10 rfl rfl)
theorem dJ20_checkFromIndexSize_11 : decode cJ20_checkFromIndexSize 11 = .ok (.isub, 1) := dk_100 (dk_at dksJ20_checkFromIndexSize_0 11 rfl rfl)
theorem dJ20_checkFromIndexSize_12 : decode cJ20_checkFromIndexSize 12 = .ok (.if_icmp .le 11, 3) := dk_164 0 11 (dk_at dksJ20_checkFromIndexSize_0 12 rfl rfl)
theorem dJ20_checkFromIndexSize_15 : decode cJ20_checkFromIndexSize 15 = .ok (.aload_n 3, 1) := dk_45 (dk_at dksJ20_checkFromIndexSize_0 15 rfl rfl)
theorem dJ20_checkFromIndexSize_16 : decode cJ20_checkFromIndexSize 16 = .ok (.iload_n 0, 1) := dk_26 (dk_at dksJ20_checkFromIndexSize_0 16 rfl rfl)
theorem dJ20_checkFromIndexSize_17 : decode cJ20_checkFromIndexSize 17 = .ok (.iload_n 1, 1) := dk_27 (dk_at dksJ20_checkFromIndexSize_0 17 rfl rfl)
theorem dJ20_checkFromIndexSize_18 : decode cJ20_checkFromIndexSize 18 = .ok (.iload_n 2, 1) := dk_28 (dk_at dksJ20_checkFromIndexSize_0 18 rfl rfl)
theorem dJ20_checkFromIndexSize_19 : decode cJ20_checkFromIndexSize 19 = .ok (.invokestatic 103, 3) := dk_184 0 103 (dk_at dksJ20_checkFromIndexSize_0 19 rfl rfl)
theorem dJ20_checkFromIndexSize_22 : decode cJ20_checkFromIndexSize 22 = .ok (.athrow, 1) := dk_191 (dk_at dksJ20_checkFromIndexSize_0 22 rfl rfl)
theorem dJ20_checkFromIndexSize_23 : decode cJ20_checkFromIndexSize 23 = .ok (.iload_n 0, 1) := dk_26 (dk_at dksJ20_checkFromIndexSize_0 23 rfl rfl)
theorem dJ20_checkFromIndexSize_24 : decode cJ20_checkFromIndexSize 24 = .ok (.ireturn, 1) := dk_172 (dk_at dksJ20_checkFromIndexSize_1 0 rfl rfl)
theorem q153 : (Jvm.Cond.initialized "jdk/internal/util/Preconditions") ∈ lw_all := lw_g (lw_at lw_m1 29 rfl) rfl
theorem q478 : (Jvm.Cond.static ({ cls := "jdk/internal/util/Preconditions", name := "checkIndex", desc := "(IILjava/util/function/BiFunction;)I" } : Jvm.MethodName)) ∈ lw_all := lw_g (lw_at lw_m2 114 rfl) rfl
theorem q479 : (Jvm.Cond.code ({ cls := "jdk/internal/util/Preconditions", name := "checkIndex", desc := "(IILjava/util/function/BiFunction;)I" } : Jvm.MethodName) prog_101_method_11_code (3 : Nat) (Option.some Jvm.ClassFile.FieldType.int)) ∈ lw_all := lw_g (lw_at lw_m2 115 rfl) rfl
theorem q617 : (Jvm.Cond.laysStatic "jdk/internal/util/Preconditions" "SIOOBE_FORMATTER" "Ljava/util/function/BiFunction;") ∈ lw_tbl := lw_at lw_m3 13 rfl
theorem q619 : (Jvm.Cond.static ({ cls := "jdk/internal/util/Preconditions", name := "checkFromToIndex", desc := "(IIILjava/util/function/BiFunction;)I" } : Jvm.MethodName)) ∈ lw_all := lw_g (lw_at lw_m3 15 rfl) rfl
theorem q620 : (Jvm.Cond.code ({ cls := "jdk/internal/util/Preconditions", name := "checkFromToIndex", desc := "(IIILjava/util/function/BiFunction;)I" } : Jvm.MethodName) prog_101_method_12_code (4 : Nat) (Option.some Jvm.ClassFile.FieldType.int)) ∈ lw_all := lw_g (lw_at lw_m3 16 rfl) rfl
theorem q665 : (Jvm.Cond.static ({ cls := "jdk/internal/util/Preconditions", name := "checkFromIndexSize", desc := "(IIILjava/util/function/BiFunction;)I" } : Jvm.MethodName)) ∈ lw_all := lw_g (lw_at lw_m3 61 rfl) rfl
theorem q666 : (Jvm.Cond.code ({ cls := "jdk/internal/util/Preconditions", name := "checkFromIndexSize", desc := "(IIILjava/util/function/BiFunction;)I" } : Jvm.MethodName) prog_101_method_13_code (4 : Nat) (Option.some Jvm.ClassFile.FieldType.int)) ∈ lw_all := lw_g (lw_at lw_m3 62 rfl) rfl

/-! java/util/TreeMap$Entry -/
set_option maxRecDepth 100000
def RJ21 : String := "java/util/TreeMap$Entry"
def TJ21 : u_T := fun k => match k with
  | 0 => ("java/util/TreeMap$Entry", "key", "Ljava/lang/Object;", false)
  | 1 => ("java/util/TreeMap$Entry", "value", "Ljava/lang/Object;", false)
  | 2 => ("java/util/TreeMap$Entry", "left", "Ljava/util/TreeMap$Entry;", false)
  | 3 => ("java/util/TreeMap$Entry", "right", "Ljava/util/TreeMap$Entry;", false)
  | 4 => ("java/util/TreeMap$Entry", "parent", "Ljava/util/TreeMap$Entry;", false)
  | _ => ("java/util/TreeMap$Entry", "color", "Z", false)
def tyJ21 : Nat → FieldType := fun k => match k with
  | 0 => .object "java/lang/Object"
  | 1 => .object "java/lang/Object"
  | 2 => .object "java/util/TreeMap$Entry"
  | 3 => .object "java/util/TreeMap$Entry"
  | 4 => .object "java/util/TreeMap$Entry"
  | _ => .boolean
abbrev wsJ210 : List Cond := u_ws RJ21 TJ21 6
theorem nmJ21 : ∀ a, a < 6 → ∀ b, b < 6 → a ≠ b → (TJ21 a).2.1 ≠ (TJ21 b).2.1 := by decide +kernel
theorem tyJ21_ok : ∀ k, k < 6 → parseFieldDescriptor (TJ21 k).2.2.1 = some (tyJ21 k) := by decide +kernel
abbrev cJ21_init : ByteArray := prog_91_method_1_code
def yJ21_init : MethodName := ⟨RJ21, "<init>", "(Ljava/lang/Object;Ljava/lang/Object;Ljava/util/TreeMap$Entry;)V"⟩
def dkwJ21_init_1 : List UInt8 := [177]
abbrev dktJ21_init_1 : List UInt8 := dkwJ21_init_1 ++ []
def dkwJ21_init_0 : List UInt8 := [42, 183, 0, 3, 42, 4, 181, 0, 9, 42, 43, 181, 0, 15, 42, 44, 181, 0, 19, 42, 45, 181, 0, 22]
abbrev dktJ21_init_0 : List UInt8 := dkwJ21_init_0 ++ dktJ21_init_1
theorem dksJ21_init_0 : cJ21_init.data.toList.drop 0 = dktJ21_init_0 := by decide +kernel
theorem dksJ21_init_1 : cJ21_init.data.toList.drop 24 = dktJ21_init_1 := dk_seg dksJ21_init_0 24 rfl rfl
theorem dJ21_init_0 : decode cJ21_init 0 = .ok (.aload_n 0, 1) := dk_42 (dk_at dksJ21_init_0 0 rfl rfl)
theorem dJ21_init_1 : decode cJ21_init 1 = .ok (.invokespecial 3, 3) := dk_183 0 3 (dk_at dksJ21_init_0 1 rfl rfl)
theorem dJ21_init_4 : decode cJ21_init 4 = .ok (.aload_n 0, 1) := dk_42 (dk_at dksJ21_init_0 4 rfl rfl)
theorem dJ21_init_5 : decode cJ21_init 5 = .ok (.iconst 1, 1) := dk_4 (dk_at dksJ21_init_0 5 rfl rfl)
theorem dJ21_init_6 : decode cJ21_init 6 = .ok (.putfield 9, 3) := dk_181 0 9 (dk_at dksJ21_init_0 6 rfl rfl)
theorem dJ21_init_9 : decode cJ21_init 9 = .ok (.aload_n 0, 1) := dk_42 (dk_at dksJ21_init_0 9 rfl rfl)
theorem dJ21_init_10 : decode cJ21_init 10 = .ok (.aload_n 1, 1) := dk_43 (dk_at dksJ21_init_0 10 rfl rfl)
theorem dJ21_init_11 : decode cJ21_init 11 = .ok (.putfield 15, 3) := dk_181 0 15 (dk_at dksJ21_init_0 11 rfl rfl)
theorem dJ21_init_14 : decode cJ21_init 14 = .ok (.aload_n 0, 1) := dk_42 (dk_at dksJ21_init_0 14 rfl rfl)
theorem dJ21_init_15 : decode cJ21_init 15 = .ok (.aload_n 2, 1) := dk_44 (dk_at dksJ21_init_0 15 rfl rfl)
theorem dJ21_init_16 : decode cJ21_init 16 = .ok (.putfield 19, 3) := dk_181 0 19 (dk_at dksJ21_init_0 16 rfl rfl)
theorem dJ21_init_19 : decode cJ21_init 19 = .ok (.aload_n 0, 1) := dk_42 (dk_at dksJ21_init_0 19 rfl rfl)
theorem dJ21_init_20 : decode cJ21_init 20 = .ok (.aload_n 3, 1) := dk_45 (dk_at dksJ21_init_0 20 rfl rfl)
theorem dJ21_init_21 : decode cJ21_init 21 = .ok (.putfield 22, 3) := dk_181 0 22 (dk_at dksJ21_init_0 21 rfl rfl)
theorem dJ21_init_24 : decode cJ21_init 24 = .ok (.return_, 1) := dk_177 (dk_at dksJ21_init_1 0 rfl rfl)
theorem q154 : (Jvm.Cond.initialized "java/util/TreeMap$Entry") ∈ lw_all := lw_g (lw_at lw_m1 30 rfl) rfl
theorem q959 : (Jvm.Cond.selects "java/util/TreeMap$Entry" ({ cls := "java/lang/Object", name := "getClass", desc := "()Ljava/lang/Class;" } : Jvm.MethodName) ({ cls := "java/lang/Object", name := "getClass", desc := "()Ljava/lang/Class;" } : Jvm.MethodName)) ∈ lw_all := lw_g (lw_at lw_m4 115 rfl) rfl
theorem q2001 : (Jvm.Cond.instantiable "java/util/TreeMap$Entry" (6 : Nat)) ∈ lw_all := lw_g (lw_at lw_m8 197 rfl) rfl
theorem q2003 : (Jvm.Cond.instanceMethod ({ cls := "java/util/TreeMap$Entry", name := "<init>", desc := "(Ljava/lang/Object;Ljava/lang/Object;Ljava/util/TreeMap$Entry;)V" } : Jvm.MethodName)) ∈ lw_all := lw_g (lw_at lw_m8 199 rfl) rfl
theorem q2004 : (Jvm.Cond.code ({ cls := "java/util/TreeMap$Entry", name := "<init>", desc := "(Ljava/lang/Object;Ljava/lang/Object;Ljava/util/TreeMap$Entry;)V" } : Jvm.MethodName) prog_91_method_1_code (4 : Nat) (Option.none : Option Jvm.ClassFile.FieldType)) ∈ lw_all := lw_g (lw_at lw_m8 200 rfl) rfl
theorem q2005 : (Jvm.Cond.methodLink "java/util/TreeMap$Entry" (3 : Nat) ({ cls := "java/lang/Object", name := "<init>", desc := "()V" } : Jvm.MethodName)) ∈ lw_all := lw_g (lw_at lw_m8 201 rfl) rfl
theorem q2006 : (Jvm.Cond.fieldLink "java/util/TreeMap$Entry" (15 : Nat) "java/util/TreeMap$Entry" "key" "Ljava/lang/Object;") ∈ lw_all := lw_g (lw_at lw_m8 202 rfl) rfl
theorem q2009 : (Jvm.Cond.fieldLink "java/util/TreeMap$Entry" (19 : Nat) "java/util/TreeMap$Entry" "value" "Ljava/lang/Object;") ∈ lw_all := lw_g (lw_at lw_m8 205 rfl) rfl
theorem q2013 : (Jvm.Cond.fieldLink "java/util/TreeMap$Entry" (22 : Nat) "java/util/TreeMap$Entry" "parent" "Ljava/util/TreeMap$Entry;") ∈ lw_all := lw_g (lw_at lw_m8 209 rfl) rfl
theorem q2015 : (Jvm.Cond.fieldLink "java/util/TreeMap$Entry" (9 : Nat) "java/util/TreeMap$Entry" "color" "Z") ∈ lw_all := lw_g (lw_at lw_m8 211 rfl) rfl
theorem q2017 : (Jvm.Cond.lays "java/util/TreeMap$Entry" "java/util/TreeMap$Entry" "key" "Ljava/lang/Object;") ∈ lw_all := lw_g (lw_at lw_m8 213 rfl) rfl
theorem q2018 : (Jvm.Cond.soleField "java/util/TreeMap$Entry" "key") ∈ lw_all := lw_g (lw_at lw_m8 214 rfl) rfl
theorem q2019 : (Jvm.Cond.lays "java/util/TreeMap$Entry" "java/util/TreeMap$Entry" "value" "Ljava/lang/Object;") ∈ lw_all := lw_g (lw_at lw_m8 215 rfl) rfl
theorem q2020 : (Jvm.Cond.soleField "java/util/TreeMap$Entry" "value") ∈ lw_all := lw_g (lw_at lw_m8 216 rfl) rfl
theorem q2021 : (Jvm.Cond.lays "java/util/TreeMap$Entry" "java/util/TreeMap$Entry" "left" "Ljava/util/TreeMap$Entry;") ∈ lw_all := lw_g (lw_at lw_m8 217 rfl) rfl
theorem q2022 : (Jvm.Cond.soleField "java/util/TreeMap$Entry" "left") ∈ lw_all := lw_g (lw_at lw_m8 218 rfl) rfl
theorem q2023 : (Jvm.Cond.lays "java/util/TreeMap$Entry" "java/util/TreeMap$Entry" "right" "Ljava/util/TreeMap$Entry;") ∈ lw_all := lw_g (lw_at lw_m8 219 rfl) rfl
theorem q2024 : (Jvm.Cond.soleField "java/util/TreeMap$Entry" "right") ∈ lw_all := lw_g (lw_at lw_m8 220 rfl) rfl
theorem q2025 : (Jvm.Cond.lays "java/util/TreeMap$Entry" "java/util/TreeMap$Entry" "parent" "Ljava/util/TreeMap$Entry;") ∈ lw_all := lw_g (lw_at lw_m8 221 rfl) rfl
theorem q2026 : (Jvm.Cond.soleField "java/util/TreeMap$Entry" "parent") ∈ lw_all := lw_g (lw_at lw_m8 222 rfl) rfl
theorem q2027 : (Jvm.Cond.lays "java/util/TreeMap$Entry" "java/util/TreeMap$Entry" "color" "Z") ∈ lw_all := lw_g (lw_at lw_m8 223 rfl) rfl
theorem q2028 : (Jvm.Cond.soleField "java/util/TreeMap$Entry" "color") ∈ lw_all := lw_g (lw_at lw_m8 224 rfl) rfl
theorem q2029 : (Jvm.Cond.superclass "java/util/TreeMap$Entry" "java/lang/Object") ∈ lw_all := lw_g (lw_at lw_m8 225 rfl) rfl
theorem q4039 : (Jvm.Cond.castable "java/util/TreeMap$Entry" "java/lang/Object") ∈ lw_tbl := lw_at lw_m17 75 rfl
theorem in_J21 : ∀ w ∈ wsJ210, w ∈ lw_all := lw_in wsJ210 [2017, 2019, 2021, 2023, 2025, 2027] (by decide +kernel) (by decide +kernel)

/-! java/util/Objects -/
set_option maxRecDepth 100000
def RJ22 : String := "java/util/Objects"
abbrev cJ22_checkIndex : ByteArray := prog_80_method_17_code
def yJ22_checkIndex : MethodName := ⟨RJ22, "checkIndex", "(II)I"⟩
def dkwJ22_checkIndex_0 : List UInt8 := [26, 27, 1, 184, 0, 105, 172]
abbrev dktJ22_checkIndex_0 : List UInt8 := dkwJ22_checkIndex_0 ++ []
theorem dksJ22_checkIndex_0 : cJ22_checkIndex.data.toList.drop 0 = dktJ22_checkIndex_0 := by decide +kernel
theorem dJ22_checkIndex_0 : decode cJ22_checkIndex 0 = .ok (.iload_n 0, 1) := dk_26 (dk_at dksJ22_checkIndex_0 0 rfl rfl)
theorem dJ22_checkIndex_1 : decode cJ22_checkIndex 1 = .ok (.iload_n 1, 1) := dk_27 (dk_at dksJ22_checkIndex_0 1 rfl rfl)
theorem dJ22_checkIndex_2 : decode cJ22_checkIndex 2 = .ok (.aconst_null, 1) := dk_1 (dk_at dksJ22_checkIndex_0 2 rfl rfl)
theorem dJ22_checkIndex_3 : decode cJ22_checkIndex 3 = .ok (.invokestatic 105, 3) := dk_184 0 105 (dk_at dksJ22_checkIndex_0 3 rfl rfl)
theorem dJ22_checkIndex_6 : decode cJ22_checkIndex 6 = .ok (.ireturn, 1) := dk_172 (dk_at dksJ22_checkIndex_0 6 rfl rfl)
abbrev cJ22_requireNonNull : ByteArray := prog_80_method_10_code
def yJ22_requireNonNull : MethodName := ⟨RJ22, "requireNonNull", "(Ljava/lang/Object;)Ljava/lang/Object;"⟩
def dkwJ22_requireNonNull_0 : List UInt8 := [42, 199, 0, 11, 187, 0, 84, 89, 183, 0, 86, 191, 42, 176]
abbrev dktJ22_requireNonNull_0 : List UInt8 := dkwJ22_requireNonNull_0 ++ []
theorem dksJ22_requireNonNull_0 : cJ22_requireNonNull.data.toList.drop 0 = dktJ22_requireNonNull_0 := by decide +kernel
theorem dJ22_requireNonNull_0 : decode cJ22_requireNonNull 0 = .ok (.aload_n 0, 1) := dk_42 (dk_at dksJ22_requireNonNull_0 0 rfl rfl)
theorem dJ22_requireNonNull_1 : decode cJ22_requireNonNull 1 = .ok (.ifnonnull 11, 3) := dk_199 0 11 (dk_at dksJ22_requireNonNull_0 1 rfl rfl)
theorem dJ22_requireNonNull_4 : decode cJ22_requireNonNull 4 = .ok (.new 84, 3) := dk_187 0 84 (dk_at dksJ22_requireNonNull_0 4 rfl rfl)
theorem dJ22_requireNonNull_7 : decode cJ22_requireNonNull 7 = .ok (.dup, 1) := dk_89 (dk_at dksJ22_requireNonNull_0 7 rfl rfl)
theorem dJ22_requireNonNull_8 : decode cJ22_requireNonNull 8 = .ok (.invokespecial 86, 3) := dk_183 0 86 (dk_at dksJ22_requireNonNull_0 8 rfl rfl)
theorem dJ22_requireNonNull_11 : decode cJ22_requireNonNull 11 = .ok (.athrow, 1) := dk_191 (dk_at dksJ22_requireNonNull_0 11 rfl rfl)
theorem dJ22_requireNonNull_12 : decode cJ22_requireNonNull 12 = .ok (.aload_n 0, 1) := dk_42 (dk_at dksJ22_requireNonNull_0 12 rfl rfl)
theorem dJ22_requireNonNull_13 : decode cJ22_requireNonNull 13 = .ok (.areturn, 1) := dk_176 (dk_at dksJ22_requireNonNull_0 13 rfl rfl)
theorem q155 : (Jvm.Cond.initialized "java/util/Objects") ∈ lw_all := lw_g (lw_at lw_m1 31 rfl) rfl
theorem q475 : (Jvm.Cond.static ({ cls := "java/util/Objects", name := "checkIndex", desc := "(II)I" } : Jvm.MethodName)) ∈ lw_all := lw_g (lw_at lw_m2 111 rfl) rfl
theorem q476 : (Jvm.Cond.code ({ cls := "java/util/Objects", name := "checkIndex", desc := "(II)I" } : Jvm.MethodName) prog_80_method_17_code (2 : Nat) (Option.some Jvm.ClassFile.FieldType.int)) ∈ lw_all := lw_g (lw_at lw_m2 112 rfl) rfl
theorem q477 : (Jvm.Cond.methodLink "java/util/Objects" (105 : Nat) ({ cls := "jdk/internal/util/Preconditions", name := "checkIndex", desc := "(IILjava/util/function/BiFunction;)I" } : Jvm.MethodName)) ∈ lw_all := lw_g (lw_at lw_m2 113 rfl) rfl
theorem q1811 : (Jvm.Cond.static ({ cls := "java/util/Objects", name := "requireNonNull", desc := "(Ljava/lang/Object;)Ljava/lang/Object;" } : Jvm.MethodName)) ∈ lw_all := lw_g (lw_at lw_m8 7 rfl) rfl
theorem q1812 : (Jvm.Cond.code ({ cls := "java/util/Objects", name := "requireNonNull", desc := "(Ljava/lang/Object;)Ljava/lang/Object;" } : Jvm.MethodName) prog_80_method_10_code (1 : Nat) (Option.some (Jvm.ClassFile.FieldType.object "java/lang/Object"))) ∈ lw_all := lw_g (lw_at lw_m8 8 rfl) rfl

/-! java/util/AbstractSet -/
set_option maxRecDepth 100000
def RJ23 : String := "java/util/AbstractSet"
abbrev cJ23_init : ByteArray := prog_59_method_1_code
def yJ23_init : MethodName := ⟨RJ23, "<init>", "()V"⟩
theorem dJ23_init_0 : decode cJ23_init 0 = .ok (.aload_n 0, 1) := by decide +kernel
theorem dJ23_init_1 : decode cJ23_init 1 = .ok (.invokespecial 1, 3) := by decide +kernel
theorem dJ23_init_4 : decode cJ23_init 4 = .ok (.return_, 1) := by decide +kernel
theorem q156 : (Jvm.Cond.initialized "java/util/AbstractSet") ∈ lw_all := lw_g (lw_at lw_m1 32 rfl) rfl
theorem q1694 : (Jvm.Cond.instanceMethod ({ cls := "java/util/AbstractSet", name := "<init>", desc := "()V" } : Jvm.MethodName)) ∈ lw_all := lw_g (lw_at lw_m7 130 rfl) rfl
theorem q1695 : (Jvm.Cond.code ({ cls := "java/util/AbstractSet", name := "<init>", desc := "()V" } : Jvm.MethodName) prog_59_method_1_code (1 : Nat) (Option.none : Option Jvm.ClassFile.FieldType)) ∈ lw_all := lw_g (lw_at lw_m7 131 rfl) rfl
theorem q1696 : (Jvm.Cond.methodLink "java/util/AbstractSet" (1 : Nat) ({ cls := "java/util/AbstractCollection", name := "<init>", desc := "()V" } : Jvm.MethodName)) ∈ lw_all := lw_g (lw_at lw_m7 132 rfl) rfl

/-! java/util/TreeMap$KeySet -/
set_option maxRecDepth 100000
def RJ24 : String := "java/util/TreeMap$KeySet"
def TJ24 : u_T := fun k => match k with
  | _ => ("java/util/TreeMap$KeySet", "m", "Ljava/util/NavigableMap;", true)
def tyJ24 : Nat → FieldType := fun k => match k with
  | _ => .object "java/util/NavigableMap"
abbrev wsJ240 : List Cond := u_ws RJ24 TJ24 1
theorem nmJ24 : ∀ a, a < 1 → ∀ b, b < 1 → a ≠ b → (TJ24 a).2.1 ≠ (TJ24 b).2.1 := by decide +kernel
theorem tyJ24_ok : ∀ k, k < 1 → parseFieldDescriptor (TJ24 k).2.2.1 = some (tyJ24 k) := by decide +kernel
abbrev cJ24_init : ByteArray := prog_93_method_1_code
def yJ24_init : MethodName := ⟨RJ24, "<init>", "(Ljava/util/NavigableMap;)V"⟩
def dkwJ24_init_0 : List UInt8 := [42, 183, 0, 1, 42, 43, 181, 0, 7, 177]
abbrev dktJ24_init_0 : List UInt8 := dkwJ24_init_0 ++ []
theorem dksJ24_init_0 : cJ24_init.data.toList.drop 0 = dktJ24_init_0 := by decide +kernel
theorem dJ24_init_0 : decode cJ24_init 0 = .ok (.aload_n 0, 1) := dk_42 (dk_at dksJ24_init_0 0 rfl rfl)
theorem dJ24_init_1 : decode cJ24_init 1 = .ok (.invokespecial 1, 3) := dk_183 0 1 (dk_at dksJ24_init_0 1 rfl rfl)
theorem dJ24_init_4 : decode cJ24_init 4 = .ok (.aload_n 0, 1) := dk_42 (dk_at dksJ24_init_0 4 rfl rfl)
theorem dJ24_init_5 : decode cJ24_init 5 = .ok (.aload_n 1, 1) := dk_43 (dk_at dksJ24_init_0 5 rfl rfl)
theorem dJ24_init_6 : decode cJ24_init 6 = .ok (.putfield 7, 3) := dk_181 0 7 (dk_at dksJ24_init_0 6 rfl rfl)
theorem dJ24_init_9 : decode cJ24_init 9 = .ok (.return_, 1) := dk_177 (dk_at dksJ24_init_0 9 rfl rfl)
abbrev cJ24_iterator : ByteArray := prog_93_method_2_code
def yJ24_iterator : MethodName := ⟨RJ24, "iterator", "()Ljava/util/Iterator;"⟩
def dkwJ24_iterator_1 : List UInt8 := [180, 0, 7, 192, 0, 19, 182, 0, 21, 176]
abbrev dktJ24_iterator_1 : List UInt8 := dkwJ24_iterator_1 ++ []
def dkwJ24_iterator_0 : List UInt8 := [42, 180, 0, 7, 193, 0, 13, 153, 0, 14, 42, 180, 0, 7, 192, 0, 13, 182, 0, 15, 176, 42]
abbrev dktJ24_iterator_0 : List UInt8 := dkwJ24_iterator_0 ++ dktJ24_iterator_1
theorem dksJ24_iterator_0 : cJ24_iterator.data.toList.drop 0 = dktJ24_iterator_0 := by decide +kernel
theorem dksJ24_iterator_1 : cJ24_iterator.data.toList.drop 22 = dktJ24_iterator_1 := dk_seg dksJ24_iterator_0 22 rfl rfl
theorem dJ24_iterator_0 : decode cJ24_iterator 0 = .ok (.aload_n 0, 1) := dk_42 (dk_at dksJ24_iterator_0 0 rfl rfl)
theorem dJ24_iterator_1 : decode cJ24_iterator 1 = .ok (.getfield 7, 3) := dk_180 0 7 (dk_at dksJ24_iterator_0 1 rfl rfl)
theorem dJ24_iterator_4 : decode cJ24_iterator 4 = .ok (.instanceof 13, 3) := dk_193 0 13 (dk_at dksJ24_iterator_0 4 rfl rfl)
theorem dJ24_iterator_7 : decode cJ24_iterator 7 = .ok (.ifCond .eq 14, 3) := dk_153 0 14 (dk_at dksJ24_iterator_0 7 rfl rfl)
theorem dJ24_iterator_10 : decode cJ24_iterator 10 = .ok (.aload_n 0, 1) := dk_42 (dk_at dksJ24_iterator_0 10 rfl rfl)
theorem dJ24_iterator_11 : decode cJ24_iterator 11 = .ok (.getfield 7, 3) := dk_180 0 7 (dk_at dksJ24_iterator_0 11 rfl rfl)
theorem dJ24_iterator_14 : decode cJ24_iterator 14 = .ok (.checkcast 13, 3) := dk_192 0 13 (dk_at dksJ24_iterator_0 14 rfl rfl)
theorem dJ24_iterator_17 : decode cJ24_iterator 17 = .ok (.invokevirtual 15, 3) := dk_182 0 15 (dk_at dksJ24_iterator_0 17 rfl rfl)
theorem dJ24_iterator_20 : decode cJ24_iterator 20 = .ok (.areturn, 1) := dk_176 (dk_at dksJ24_iterator_0 20 rfl rfl)
theorem dJ24_iterator_21 : decode cJ24_iterator 21 = .ok (.aload_n 0, 1) := dk_42 (dk_at dksJ24_iterator_0 21 rfl rfl)
theorem dJ24_iterator_22 : decode cJ24_iterator 22 = .ok (.getfield 7, 3) := dk_180 0 7 (dk_at dksJ24_iterator_1 0 rfl rfl)
theorem dJ24_iterator_25 : decode cJ24_iterator 25 = .ok (.checkcast 19, 3) := dk_192 0 19 (dk_at dksJ24_iterator_1 3 rfl rfl)
theorem dJ24_iterator_28 : decode cJ24_iterator 28 = .ok (.invokevirtual 21, 3) := dk_182 0 21 (dk_at dksJ24_iterator_1 6 rfl rfl)
theorem dJ24_iterator_31 : decode cJ24_iterator 31 = .ok (.areturn, 1) := dk_176 (dk_at dksJ24_iterator_1 9 rfl rfl)
abbrev cJ24_size : ByteArray := prog_93_method_4_code
def yJ24_size : MethodName := ⟨RJ24, "size", "()I"⟩
def dkwJ24_size_0 : List UInt8 := [42, 180, 0, 7, 185, 0, 26, 1, 0, 172]
abbrev dktJ24_size_0 : List UInt8 := dkwJ24_size_0 ++ []
theorem dksJ24_size_0 : cJ24_size.data.toList.drop 0 = dktJ24_size_0 := by decide +kernel
theorem dJ24_size_0 : decode cJ24_size 0 = .ok (.aload_n 0, 1) := dk_42 (dk_at dksJ24_size_0 0 rfl rfl)
theorem dJ24_size_1 : decode cJ24_size 1 = .ok (.getfield 7, 3) := dk_180 0 7 (dk_at dksJ24_size_0 1 rfl rfl)
theorem dJ24_size_4 : decode cJ24_size 4 = .ok (.invokeinterface 26 1, 5) := by decide +kernel
theorem dJ24_size_9 : decode cJ24_size 9 = .ok (.ireturn, 1) := dk_172 (dk_at dksJ24_size_0 9 rfl rfl)
theorem q157 : (Jvm.Cond.initialized "java/util/TreeMap$KeySet") ∈ lw_all := lw_g (lw_at lw_m1 33 rfl) rfl
theorem q961 : (Jvm.Cond.selects "java/util/TreeMap$KeySet" ({ cls := "java/lang/Object", name := "getClass", desc := "()Ljava/lang/Class;" } : Jvm.MethodName) ({ cls := "java/lang/Object", name := "getClass", desc := "()Ljava/lang/Class;" } : Jvm.MethodName)) ∈ lw_all := lw_g (lw_at lw_m4 117 rfl) rfl
theorem q1689 : (Jvm.Cond.instantiable "java/util/TreeMap$KeySet" (1 : Nat)) ∈ lw_all := lw_g (lw_at lw_m7 125 rfl) rfl
theorem q1691 : (Jvm.Cond.instanceMethod ({ cls := "java/util/TreeMap$KeySet", name := "<init>", desc := "(Ljava/util/NavigableMap;)V" } : Jvm.MethodName)) ∈ lw_all := lw_g (lw_at lw_m7 127 rfl) rfl
theorem q1692 : (Jvm.Cond.code ({ cls := "java/util/TreeMap$KeySet", name := "<init>", desc := "(Ljava/util/NavigableMap;)V" } : Jvm.MethodName) prog_93_method_1_code (2 : Nat) (Option.none : Option Jvm.ClassFile.FieldType)) ∈ lw_all := lw_g (lw_at lw_m7 128 rfl) rfl
theorem q1693 : (Jvm.Cond.methodLink "java/util/TreeMap$KeySet" (1 : Nat) ({ cls := "java/util/AbstractSet", name := "<init>", desc := "()V" } : Jvm.MethodName)) ∈ lw_all := lw_g (lw_at lw_m7 129 rfl) rfl
theorem q1697 : (Jvm.Cond.fieldLink "java/util/TreeMap$KeySet" (7 : Nat) "java/util/TreeMap$KeySet" "m" "Ljava/util/NavigableMap;") ∈ lw_all := lw_g (lw_at lw_m7 133 rfl) rfl
theorem q1698 : (Jvm.Cond.laysFinal "java/util/TreeMap$KeySet" "java/util/TreeMap$KeySet" "m" "Ljava/util/NavigableMap;") ∈ lw_all := lw_g (lw_at lw_m7 134 rfl) rfl
theorem q1699 : (Jvm.Cond.soleField "java/util/TreeMap$KeySet" "m") ∈ lw_all := lw_g (lw_at lw_m7 135 rfl) rfl
theorem q1700 : (Jvm.Cond.superclass "java/util/TreeMap$KeySet" "java/util/AbstractSet") ∈ lw_all := lw_g (lw_at lw_m7 136 rfl) rfl
theorem q1705 : (Jvm.Cond.castable "java/util/TreeMap$KeySet" "java/util/Set") ∈ lw_tbl := lw_at lw_m7 141 rfl
theorem q1706 : (Jvm.Cond.selects "java/util/TreeMap$KeySet" ({ cls := "java/util/Set", name := "iterator", desc := "()Ljava/util/Iterator;" } : Jvm.MethodName) ({ cls := "java/util/TreeMap$KeySet", name := "iterator", desc := "()Ljava/util/Iterator;" } : Jvm.MethodName)) ∈ lw_all := lw_g (lw_at lw_m7 142 rfl) rfl
theorem q1707 : (Jvm.Cond.unhidden "java/util/TreeMap$KeySet" "iterator" "()Ljava/util/Iterator;") ∈ lw_tbl := lw_at lw_m7 143 rfl
theorem q1708 : (Jvm.Cond.instanceMethod ({ cls := "java/util/TreeMap$KeySet", name := "iterator", desc := "()Ljava/util/Iterator;" } : Jvm.MethodName)) ∈ lw_all := lw_g (lw_at lw_m7 144 rfl) rfl
theorem q1709 : (Jvm.Cond.publicMethod ({ cls := "java/util/TreeMap$KeySet", name := "iterator", desc := "()Ljava/util/Iterator;" } : Jvm.MethodName)) ∈ lw_tbl := lw_at lw_m7 145 rfl
theorem q1710 : (Jvm.Cond.code ({ cls := "java/util/TreeMap$KeySet", name := "iterator", desc := "()Ljava/util/Iterator;" } : Jvm.MethodName) prog_93_method_2_code (1 : Nat) (Option.some (Jvm.ClassFile.FieldType.object "java/util/Iterator"))) ∈ lw_all := lw_g (lw_at lw_m7 146 rfl) rfl
theorem q1711 : (Jvm.Cond.classLink "java/util/TreeMap$KeySet" (13 : Nat) "java/util/TreeMap") ∈ lw_all := lw_g (lw_at lw_m7 147 rfl) rfl
theorem q1712 : (Jvm.Cond.methodLink "java/util/TreeMap$KeySet" (15 : Nat) ({ cls := "java/util/TreeMap", name := "keyIterator", desc := "()Ljava/util/Iterator;" } : Jvm.MethodName)) ∈ lw_all := lw_g (lw_at lw_m7 148 rfl) rfl
theorem q1742 : (Jvm.Cond.classLink "java/util/TreeMap$KeySet" (19 : Nat) "java/util/TreeMap$NavigableSubMap") ∈ lw_all := lw_g (lw_at lw_m7 178 rfl) rfl
theorem q1743 : (Jvm.Cond.methodLink "java/util/TreeMap$KeySet" (21 : Nat) ({ cls := "java/util/TreeMap$NavigableSubMap", name := "keyIterator", desc := "()Ljava/util/Iterator;" } : Jvm.MethodName)) ∈ lw_all := lw_g (lw_at lw_m7 179 rfl) rfl
theorem q1764 : (Jvm.Cond.castable "java/util/TreeMap$KeySet" "java/util/NavigableSet") ∈ lw_tbl := lw_at lw_m7 200 rfl
theorem q1765 : (Jvm.Cond.selects "java/util/TreeMap$KeySet" ({ cls := "java/util/NavigableSet", name := "iterator", desc := "()Ljava/util/Iterator;" } : Jvm.MethodName) ({ cls := "java/util/TreeMap$KeySet", name := "iterator", desc := "()Ljava/util/Iterator;" } : Jvm.MethodName)) ∈ lw_all := lw_g (lw_at lw_m7 201 rfl) rfl
theorem q2087 : (Jvm.Cond.instanceMethod ({ cls := "java/util/TreeMap$KeySet", name := "size", desc := "()I" } : Jvm.MethodName)) ∈ lw_all := lw_g (lw_at lw_m9 43 rfl) rfl
theorem q2088 : (Jvm.Cond.code ({ cls := "java/util/TreeMap$KeySet", name := "size", desc := "()I" } : Jvm.MethodName) prog_93_method_4_code (1 : Nat) (Option.some Jvm.ClassFile.FieldType.int)) ∈ lw_all := lw_g (lw_at lw_m9 44 rfl) rfl
theorem q2089 : (Jvm.Cond.interfaceEntry "java/util/TreeMap$KeySet" (26 : Nat)) ∈ lw_tbl := lw_at lw_m9 45 rfl
theorem q4017 : (Jvm.Cond.selects "java/util/TreeMap$KeySet" ({ cls := "java/util/AbstractCollection", name := "size", desc := "()I" } : Jvm.MethodName) ({ cls := "java/util/TreeMap$KeySet", name := "size", desc := "()I" } : Jvm.MethodName)) ∈ lw_all := lw_g (lw_at lw_m17 53 rfl) rfl
theorem q4040 : (Jvm.Cond.castable "java/util/TreeMap$KeySet" "java/lang/Object") ∈ lw_tbl := lw_at lw_m17 76 rfl
theorem in_J24 : ∀ w ∈ wsJ240, w ∈ lw_all := lw_in wsJ240 [1698] (by decide +kernel) (by decide +kernel)

/-! java/util/TreeMap$PrivateEntryIterator -/
set_option maxRecDepth 100000
def RJ25 : String := "java/util/TreeMap$PrivateEntryIterator"
abbrev cJ25_hasNext : ByteArray := prog_95_method_2_code
def yJ25_hasNext : MethodName := ⟨RJ25, "hasNext", "()Z"⟩
def dkwJ25_hasNext_0 : List UInt8 := [42, 180, 0, 26, 198, 0, 7, 4, 167, 0, 4, 3, 172]
abbrev dktJ25_hasNext_0 : List UInt8 := dkwJ25_hasNext_0 ++ []
theorem dksJ25_hasNext_0 : cJ25_hasNext.data.toList.drop 0 = dktJ25_hasNext_0 := by decide +kernel
theorem dJ25_hasNext_0 : decode cJ25_hasNext 0 = .ok (.aload_n 0, 1) := dk_42 (dk_at dksJ25_hasNext_0 0 rfl rfl)
theorem dJ25_hasNext_1 : decode cJ25_hasNext 1 = .ok (.getfield 26, 3) := dk_180 0 26 (dk_at dksJ25_hasNext_0 1 rfl rfl)
theorem dJ25_hasNext_4 : decode cJ25_hasNext 4 = .ok (.ifnull 7, 3) := dk_198 0 7 (dk_at dksJ25_hasNext_0 4 rfl rfl)
theorem dJ25_hasNext_7 : decode cJ25_hasNext 7 = .ok (.iconst 1, 1) := dk_4 (dk_at dksJ25_hasNext_0 7 rfl rfl)
theorem dJ25_hasNext_8 : decode cJ25_hasNext 8 = .ok (.goto 4, 3) := dk_167 0 4 (dk_at dksJ25_hasNext_0 8 rfl rfl)
theorem dJ25_hasNext_11 : decode cJ25_hasNext 11 = .ok (.iconst 0, 1) := dk_3 (dk_at dksJ25_hasNext_0 11 rfl rfl)
theorem dJ25_hasNext_12 : decode cJ25_hasNext 12 = .ok (.ireturn, 1) := dk_172 (dk_at dksJ25_hasNext_0 12 rfl rfl)
abbrev cJ25_nextEntry : ByteArray := prog_95_method_3_code
def yJ25_nextEntry : MethodName := ⟨RJ25, "nextEntry", "()Ljava/util/TreeMap$Entry;"⟩
def dkwJ25_nextEntry_2 : List UInt8 := [43, 181, 0, 22, 43, 176]
abbrev dktJ25_nextEntry_2 : List UInt8 := dkwJ25_nextEntry_2 ++ []
def dkwJ25_nextEntry_1 : List UInt8 := [42, 180, 0, 19, 159, 0, 11, 187, 0, 32, 89, 183, 0, 34, 191, 42, 43, 184, 0, 35, 181, 0, 26, 42]
abbrev dktJ25_nextEntry_1 : List UInt8 := dkwJ25_nextEntry_1 ++ dktJ25_nextEntry_2
def dkwJ25_nextEntry_0 : List UInt8 := [42, 180, 0, 26, 76, 43, 199, 0, 11, 187, 0, 29, 89, 183, 0, 31, 191, 42, 180, 0, 1, 180, 0, 13]
abbrev dktJ25_nextEntry_0 : List UInt8 := dkwJ25_nextEntry_0 ++ dktJ25_nextEntry_1
theorem dksJ25_nextEntry_0 : cJ25_nextEntry.data.toList.drop 0 = dktJ25_nextEntry_0 := by decide +kernel
theorem dksJ25_nextEntry_1 : cJ25_nextEntry.data.toList.drop 24 = dktJ25_nextEntry_1 := dk_seg dksJ25_nextEntry_0 24 rfl rfl
theorem dksJ25_nextEntry_2 : cJ25_nextEntry.data.toList.drop 48 = dktJ25_nextEntry_2 := dk_seg dksJ25_nextEntry_1 24 rfl rfl
theorem dJ25_nextEntry_0 : decode cJ25_nextEntry 0 = .ok (.aload_n 0, 1) := dk_42 (dk_at dksJ25_nextEntry_0 0 rfl rfl)
theorem dJ25_nextEntry_1 : decode cJ25_nextEntry 1 = .ok (.getfield 26, 3) := dk_180 0 26 (dk_at dksJ25_nextEntry_0 1 rfl rfl)
theorem dJ25_nextEntry_4 : decode cJ25_nextEntry 4 = .ok (.astore_n 1, 1) := dk_76 (dk_at dksJ25_nextEntry_0 4 rfl rfl)
theorem dJ25_nextEntry_5 : decode cJ25_nextEntry 5 = .ok (.aload_n 1, 1) := dk_43 (dk_at dksJ25_nextEntry_0 5 rfl rfl)
theorem dJ25_nextEntry_6 : decode cJ25_nextEntry 6 = .ok (.ifnonnull 11, 3) := dk_199 0 11 (dk_at dksJ25_nextEntry_0 6 rfl rfl)
theorem dJ25_nextEntry_9 : decode cJ25_nextEntry 9 = .ok (.new 29, 3) := dk_187 0 29 (dk_at dksJ25_nextEntry_0 9 rfl rfl)
theorem dJ25_nextEntry_12 : decode cJ25_nextEntry 12 = .ok (.dup, 1) := dk_89 (dk_at dksJ25_nextEntry_0 12 rfl rfl)
theorem dJ25_nextEntry_13 : decode cJ25_nextEntry 13 = .ok (.invokespecial 31, 3) := dk_183 0 31 (dk_at dksJ25_nextEntry_0 13 rfl rfl)
theorem dJ25_nextEntry_16 : decode cJ25_nextEntry 16 = .ok (.athrow, 1) := dk_191 (dk_at dksJ25_nextEntry_0 16 rfl rfl)
theorem dJ25_nextEntry_17 : decode cJ25_nextEntry 17 = .ok (.aload_n 0, 1) := dk_42 (dk_at dksJ25_nextEntry_0 17 rfl rfl)
theorem dJ25_nextEntry_18 : decode cJ25_nextEntry 18 = .ok (.getfield 1, 3) := dk_180 0 1 (dk_at dksJ25_nextEntry_0 18 rfl rfl)
theorem dJ25_nextEntry_21 : decode cJ25_nextEntry 21 = .ok (.getfield 13, 3) := dk_180 0 13 (dk_at dksJ25_nextEntry_0 21 rfl rfl)
theorem dJ25_nextEntry_24 : decode cJ25_nextEntry 24 = .ok (.aload_n 0, 1) := dk_42 (dk_at dksJ25_nextEntry_1 0 rfl rfl)
theorem dJ25_nextEntry_25 : decode cJ25_nextEntry 25 = .ok (.getfield 19, 3) := dk_180 0 19 (dk_at dksJ25_nextEntry_1 1 rfl rfl)
theorem dJ25_nextEntry_28 : decode cJ25_nextEntry 28 = .ok (.if_icmp .eq 11, 3) := dk_159 0 11 (dk_at dksJ25_nextEntry_1 4 rfl rfl)
theorem dJ25_nextEntry_31 : decode cJ25_nextEntry 31 = .ok (.new 32, 3) := dk_187 0 32 (dk_at dksJ25_nextEntry_1 7 rfl rfl)
theorem dJ25_nextEntry_34 : decode cJ25_nextEntry 34 = .ok (.dup, 1) := dk_89 (dk_at dksJ25_nextEntry_1 10 rfl rfl)
theorem dJ25_nextEntry_35 : decode cJ25_nextEntry 35 = .ok (.invokespecial 34, 3) := dk_183 0 34 (dk_at dksJ25_nextEntry_1 11 rfl rfl)
theorem dJ25_nextEntry_38 : decode cJ25_nextEntry 38 = .ok (.athrow, 1) := dk_191 (dk_at dksJ25_nextEntry_1 14 rfl rfl)
theorem dJ25_nextEntry_39 : decode cJ25_nextEntry 39 = .ok (.aload_n 0, 1) := dk_42 (dk_at dksJ25_nextEntry_1 15 rfl rfl)
theorem dJ25_nextEntry_40 : decode cJ25_nextEntry 40 = .ok (.aload_n 1, 1) := dk_43 (dk_at dksJ25_nextEntry_1 16 rfl rfl)
theorem dJ25_nextEntry_41 : decode cJ25_nextEntry 41 = .ok (.invokestatic 35, 3) := dk_184 0 35 (dk_at dksJ25_nextEntry_1 17 rfl rfl)
theorem dJ25_nextEntry_44 : decode cJ25_nextEntry 44 = .ok (.putfield 26, 3) := dk_181 0 26 (dk_at dksJ25_nextEntry_1 20 rfl rfl)
theorem dJ25_nextEntry_47 : decode cJ25_nextEntry 47 = .ok (.aload_n 0, 1) := dk_42 (dk_at dksJ25_nextEntry_1 23 rfl rfl)
theorem dJ25_nextEntry_48 : decode cJ25_nextEntry 48 = .ok (.aload_n 1, 1) := dk_43 (dk_at dksJ25_nextEntry_2 0 rfl rfl)
theorem dJ25_nextEntry_49 : decode cJ25_nextEntry 49 = .ok (.putfield 22, 3) := dk_181 0 22 (dk_at dksJ25_nextEntry_2 1 rfl rfl)
theorem dJ25_nextEntry_52 : decode cJ25_nextEntry 52 = .ok (.aload_n 1, 1) := dk_43 (dk_at dksJ25_nextEntry_2 4 rfl rfl)
theorem dJ25_nextEntry_53 : decode cJ25_nextEntry 53 = .ok (.areturn, 1) := dk_176 (dk_at dksJ25_nextEntry_2 5 rfl rfl)
abbrev cJ25_init : ByteArray := prog_95_method_1_code
def yJ25_init : MethodName := ⟨RJ25, "<init>", "(Ljava/util/TreeMap;Ljava/util/TreeMap$Entry;)V"⟩
def dkwJ25_init_1 : List UInt8 := [181, 0, 26, 177]
abbrev dktJ25_init_1 : List UInt8 := dkwJ25_init_1 ++ []
def dkwJ25_init_0 : List UInt8 := [42, 43, 181, 0, 1, 42, 183, 0, 7, 42, 43, 180, 0, 13, 181, 0, 19, 42, 1, 181, 0, 22, 42, 44]
abbrev dktJ25_init_0 : List UInt8 := dkwJ25_init_0 ++ dktJ25_init_1
theorem dksJ25_init_0 : cJ25_init.data.toList.drop 0 = dktJ25_init_0 := by decide +kernel
theorem dksJ25_init_1 : cJ25_init.data.toList.drop 24 = dktJ25_init_1 := dk_seg dksJ25_init_0 24 rfl rfl
theorem dJ25_init_0 : decode cJ25_init 0 = .ok (.aload_n 0, 1) := dk_42 (dk_at dksJ25_init_0 0 rfl rfl)
theorem dJ25_init_1 : decode cJ25_init 1 = .ok (.aload_n 1, 1) := dk_43 (dk_at dksJ25_init_0 1 rfl rfl)
theorem dJ25_init_2 : decode cJ25_init 2 = .ok (.putfield 1, 3) := dk_181 0 1 (dk_at dksJ25_init_0 2 rfl rfl)
theorem dJ25_init_5 : decode cJ25_init 5 = .ok (.aload_n 0, 1) := dk_42 (dk_at dksJ25_init_0 5 rfl rfl)
theorem dJ25_init_6 : decode cJ25_init 6 = .ok (.invokespecial 7, 3) := dk_183 0 7 (dk_at dksJ25_init_0 6 rfl rfl)
theorem dJ25_init_9 : decode cJ25_init 9 = .ok (.aload_n 0, 1) := dk_42 (dk_at dksJ25_init_0 9 rfl rfl)
theorem dJ25_init_10 : decode cJ25_init 10 = .ok (.aload_n 1, 1) := dk_43 (dk_at dksJ25_init_0 10 rfl rfl)
theorem dJ25_init_11 : decode cJ25_init 11 = .ok (.getfield 13, 3) := dk_180 0 13 (dk_at dksJ25_init_0 11 rfl rfl)
theorem dJ25_init_14 : decode cJ25_init 14 = .ok (.putfield 19, 3) := dk_181 0 19 (dk_at dksJ25_init_0 14 rfl rfl)
theorem dJ25_init_17 : decode cJ25_init 17 = .ok (.aload_n 0, 1) := dk_42 (dk_at dksJ25_init_0 17 rfl rfl)
theorem dJ25_init_18 : decode cJ25_init 18 = .ok (.aconst_null, 1) := dk_1 (dk_at dksJ25_init_0 18 rfl rfl)
theorem dJ25_init_19 : decode cJ25_init 19 = .ok (.putfield 22, 3) := dk_181 0 22 (dk_at dksJ25_init_0 19 rfl rfl)
theorem dJ25_init_22 : decode cJ25_init 22 = .ok (.aload_n 0, 1) := dk_42 (dk_at dksJ25_init_0 22 rfl rfl)
theorem dJ25_init_23 : decode cJ25_init 23 = .ok (.aload_n 2, 1) := dk_44 (dk_at dksJ25_init_0 23 rfl rfl)
theorem dJ25_init_24 : decode cJ25_init 24 = .ok (.putfield 26, 3) := dk_181 0 26 (dk_at dksJ25_init_1 0 rfl rfl)
theorem dJ25_init_27 : decode cJ25_init 27 = .ok (.return_, 1) := dk_177 (dk_at dksJ25_init_1 3 rfl rfl)
theorem q158 : (Jvm.Cond.initialized "java/util/TreeMap$PrivateEntryIterator") ∈ lw_all := lw_g (lw_at lw_m1 34 rfl) rfl
theorem q221 : (Jvm.Cond.fieldLinkNest "java/util/TreeMap$PrivateEntryIterator" (13 : Nat) "java/util/TreeMap" "modCount" "I" "java/util/TreeMap") ∈ lw_tbl := lw_at lw_m1 97 rfl
theorem q1393 : (Jvm.Cond.instanceMethod ({ cls := "java/util/TreeMap$PrivateEntryIterator", name := "hasNext", desc := "()Z" } : Jvm.MethodName)) ∈ lw_all := lw_g (lw_at lw_m6 69 rfl) rfl
theorem q1394 : (Jvm.Cond.publicMethod ({ cls := "java/util/TreeMap$PrivateEntryIterator", name := "hasNext", desc := "()Z" } : Jvm.MethodName)) ∈ lw_tbl := lw_at lw_m6 70 rfl
theorem q1395 : (Jvm.Cond.code ({ cls := "java/util/TreeMap$PrivateEntryIterator", name := "hasNext", desc := "()Z" } : Jvm.MethodName) prog_95_method_2_code (1 : Nat) (Option.some Jvm.ClassFile.FieldType.boolean)) ∈ lw_all := lw_g (lw_at lw_m6 71 rfl) rfl
theorem q1539 : (Jvm.Cond.declares ({ cls := "java/util/TreeMap$PrivateEntryIterator", name := "nextEntry", desc := "()Ljava/util/TreeMap$Entry;" } : Jvm.MethodName)) ∈ lw_tbl := lw_at lw_m6 215 rfl
theorem q1541 : (Jvm.Cond.instanceMethod ({ cls := "java/util/TreeMap$PrivateEntryIterator", name := "nextEntry", desc := "()Ljava/util/TreeMap$Entry;" } : Jvm.MethodName)) ∈ lw_all := lw_g (lw_at lw_m6 217 rfl) rfl
theorem q1542 : (Jvm.Cond.code ({ cls := "java/util/TreeMap$PrivateEntryIterator", name := "nextEntry", desc := "()Ljava/util/TreeMap$Entry;" } : Jvm.MethodName) prog_95_method_3_code (2 : Nat) (Option.some (Jvm.ClassFile.FieldType.object "java/util/TreeMap$Entry"))) ∈ lw_all := lw_g (lw_at lw_m6 218 rfl) rfl
theorem q1543 : (Jvm.Cond.classLink "java/util/TreeMap$PrivateEntryIterator" (29 : Nat) "java/util/NoSuchElementException") ∈ lw_all := lw_g (lw_at lw_m6 219 rfl) rfl
theorem q1544 : (Jvm.Cond.methodLink "java/util/TreeMap$PrivateEntryIterator" (31 : Nat) ({ cls := "java/util/NoSuchElementException", name := "<init>", desc := "()V" } : Jvm.MethodName)) ∈ lw_all := lw_g (lw_at lw_m6 220 rfl) rfl
theorem q1545 : (Jvm.Cond.methodLink "java/util/TreeMap$PrivateEntryIterator" (35 : Nat) ({ cls := "java/util/TreeMap", name := "successor", desc := "(Ljava/util/TreeMap$Entry;)Ljava/util/TreeMap$Entry;" } : Jvm.MethodName)) ∈ lw_all := lw_g (lw_at lw_m6 221 rfl) rfl
theorem q1726 : (Jvm.Cond.instanceMethod ({ cls := "java/util/TreeMap$PrivateEntryIterator", name := "<init>", desc := "(Ljava/util/TreeMap;Ljava/util/TreeMap$Entry;)V" } : Jvm.MethodName)) ∈ lw_all := lw_g (lw_at lw_m7 162 rfl) rfl
theorem q1727 : (Jvm.Cond.code ({ cls := "java/util/TreeMap$PrivateEntryIterator", name := "<init>", desc := "(Ljava/util/TreeMap;Ljava/util/TreeMap$Entry;)V" } : Jvm.MethodName) prog_95_method_1_code (3 : Nat) (Option.none : Option Jvm.ClassFile.FieldType)) ∈ lw_all := lw_g (lw_at lw_m7 163 rfl) rfl
theorem q1728 : (Jvm.Cond.methodLink "java/util/TreeMap$PrivateEntryIterator" (7 : Nat) ({ cls := "java/lang/Object", name := "<init>", desc := "()V" } : Jvm.MethodName)) ∈ lw_all := lw_g (lw_at lw_m7 164 rfl) rfl
theorem q1729 : (Jvm.Cond.fieldLink "java/util/TreeMap$PrivateEntryIterator" (26 : Nat) "java/util/TreeMap$PrivateEntryIterator" "next" "Ljava/util/TreeMap$Entry;") ∈ lw_all := lw_g (lw_at lw_m7 165 rfl) rfl
theorem q1730 : (Jvm.Cond.fieldLink "java/util/TreeMap$PrivateEntryIterator" (22 : Nat) "java/util/TreeMap$PrivateEntryIterator" "lastReturned" "Ljava/util/TreeMap$Entry;") ∈ lw_all := lw_g (lw_at lw_m7 166 rfl) rfl
theorem q1731 : (Jvm.Cond.fieldLink "java/util/TreeMap$PrivateEntryIterator" (19 : Nat) "java/util/TreeMap$PrivateEntryIterator" "expectedModCount" "I") ∈ lw_all := lw_g (lw_at lw_m7 167 rfl) rfl
theorem q1732 : (Jvm.Cond.fieldLink "java/util/TreeMap$PrivateEntryIterator" (1 : Nat) "java/util/TreeMap$PrivateEntryIterator" "this$0" "Ljava/util/TreeMap;") ∈ lw_all := lw_g (lw_at lw_m7 168 rfl) rfl
theorem q1734 : (Jvm.Cond.soleField "java/util/TreeMap$PrivateEntryIterator" "next") ∈ lw_all := lw_g (lw_at lw_m7 170 rfl) rfl
theorem q1736 : (Jvm.Cond.soleField "java/util/TreeMap$PrivateEntryIterator" "lastReturned") ∈ lw_all := lw_g (lw_at lw_m7 172 rfl) rfl
theorem q1738 : (Jvm.Cond.soleField "java/util/TreeMap$PrivateEntryIterator" "expectedModCount") ∈ lw_all := lw_g (lw_at lw_m7 174 rfl) rfl
theorem q1740 : (Jvm.Cond.soleField "java/util/TreeMap$PrivateEntryIterator" "this$0") ∈ lw_all := lw_g (lw_at lw_m7 176 rfl) rfl

/-! java/util/TreeMap$KeyIterator -/
set_option maxRecDepth 100000
def RJ26 : String := "java/util/TreeMap$KeyIterator"
def TJ26 : u_T := fun k => match k with
  | 0 => ("java/util/TreeMap$PrivateEntryIterator", "next", "Ljava/util/TreeMap$Entry;", false)
  | 1 => ("java/util/TreeMap$PrivateEntryIterator", "lastReturned", "Ljava/util/TreeMap$Entry;", false)
  | 2 => ("java/util/TreeMap$PrivateEntryIterator", "expectedModCount", "I", false)
  | _ => ("java/util/TreeMap$PrivateEntryIterator", "this$0", "Ljava/util/TreeMap;", true)
def tyJ26 : Nat → FieldType := fun k => match k with
  | 0 => .object "java/util/TreeMap$Entry"
  | 1 => .object "java/util/TreeMap$Entry"
  | 2 => .int
  | _ => .object "java/util/TreeMap"
abbrev wsJ260 : List Cond := u_ws RJ26 TJ26 4
theorem nmJ26 : ∀ a, a < 4 → ∀ b, b < 4 → a ≠ b → (TJ26 a).2.1 ≠ (TJ26 b).2.1 := by decide +kernel
theorem tyJ26_ok : ∀ k, k < 4 → parseFieldDescriptor (TJ26 k).2.2.1 = some (tyJ26 k) := by decide +kernel
abbrev cJ26_next : ByteArray := prog_92_method_2_code
def yJ26_next : MethodName := ⟨RJ26, "next", "()Ljava/lang/Object;"⟩
def dkwJ26_next_0 : List UInt8 := [42, 182, 0, 7, 180, 0, 13, 176]
abbrev dktJ26_next_0 : List UInt8 := dkwJ26_next_0 ++ []
theorem dksJ26_next_0 : cJ26_next.data.toList.drop 0 = dktJ26_next_0 := by decide +kernel
theorem dJ26_next_0 : decode cJ26_next 0 = .ok (.aload_n 0, 1) := dk_42 (dk_at dksJ26_next_0 0 rfl rfl)
theorem dJ26_next_1 : decode cJ26_next 1 = .ok (.invokevirtual 7, 3) := dk_182 0 7 (dk_at dksJ26_next_0 1 rfl rfl)
theorem dJ26_next_4 : decode cJ26_next 4 = .ok (.getfield 13, 3) := dk_180 0 13 (dk_at dksJ26_next_0 4 rfl rfl)
theorem dJ26_next_7 : decode cJ26_next 7 = .ok (.areturn, 1) := dk_176 (dk_at dksJ26_next_0 7 rfl rfl)
abbrev cJ26_init : ByteArray := prog_92_method_1_code
def yJ26_init : MethodName := ⟨RJ26, "<init>", "(Ljava/util/TreeMap;Ljava/util/TreeMap$Entry;)V"⟩
def dkwJ26_init_0 : List UInt8 := [42, 43, 44, 183, 0, 1, 177]
abbrev dktJ26_init_0 : List UInt8 := dkwJ26_init_0 ++ []
theorem dksJ26_init_0 : cJ26_init.data.toList.drop 0 = dktJ26_init_0 := by decide +kernel
theorem dJ26_init_0 : decode cJ26_init 0 = .ok (.aload_n 0, 1) := dk_42 (dk_at dksJ26_init_0 0 rfl rfl)
theorem dJ26_init_1 : decode cJ26_init 1 = .ok (.aload_n 1, 1) := dk_43 (dk_at dksJ26_init_0 1 rfl rfl)
theorem dJ26_init_2 : decode cJ26_init 2 = .ok (.aload_n 2, 1) := dk_44 (dk_at dksJ26_init_0 2 rfl rfl)
theorem dJ26_init_3 : decode cJ26_init 3 = .ok (.invokespecial 1, 3) := dk_183 0 1 (dk_at dksJ26_init_0 3 rfl rfl)
theorem dJ26_init_6 : decode cJ26_init 6 = .ok (.return_, 1) := dk_177 (dk_at dksJ26_init_0 6 rfl rfl)
theorem q159 : (Jvm.Cond.initialized "java/util/TreeMap$KeyIterator") ∈ lw_all := lw_g (lw_at lw_m1 35 rfl) rfl
theorem q960 : (Jvm.Cond.selects "java/util/TreeMap$KeyIterator" ({ cls := "java/lang/Object", name := "getClass", desc := "()Ljava/lang/Class;" } : Jvm.MethodName) ({ cls := "java/lang/Object", name := "getClass", desc := "()Ljava/lang/Class;" } : Jvm.MethodName)) ∈ lw_all := lw_g (lw_at lw_m4 116 rfl) rfl
theorem q1390 : (Jvm.Cond.castable "java/util/TreeMap$KeyIterator" "java/util/Iterator") ∈ lw_tbl := lw_at lw_m6 66 rfl
theorem q1391 : (Jvm.Cond.selects "java/util/TreeMap$KeyIterator" ({ cls := "java/util/Iterator", name := "hasNext", desc := "()Z" } : Jvm.MethodName) ({ cls := "java/util/TreeMap$PrivateEntryIterator", name := "hasNext", desc := "()Z" } : Jvm.MethodName)) ∈ lw_all := lw_g (lw_at lw_m6 67 rfl) rfl
theorem q1392 : (Jvm.Cond.unhidden "java/util/TreeMap$KeyIterator" "hasNext" "()Z") ∈ lw_tbl := lw_at lw_m6 68 rfl
theorem q1532 : (Jvm.Cond.selects "java/util/TreeMap$KeyIterator" ({ cls := "java/util/Iterator", name := "next", desc := "()Ljava/lang/Object;" } : Jvm.MethodName) ({ cls := "java/util/TreeMap$KeyIterator", name := "next", desc := "()Ljava/lang/Object;" } : Jvm.MethodName)) ∈ lw_all := lw_g (lw_at lw_m6 208 rfl) rfl
theorem q1533 : (Jvm.Cond.unhidden "java/util/TreeMap$KeyIterator" "next" "()Ljava/lang/Object;") ∈ lw_tbl := lw_at lw_m6 209 rfl
theorem q1534 : (Jvm.Cond.instanceMethod ({ cls := "java/util/TreeMap$KeyIterator", name := "next", desc := "()Ljava/lang/Object;" } : Jvm.MethodName)) ∈ lw_all := lw_g (lw_at lw_m6 210 rfl) rfl
theorem q1535 : (Jvm.Cond.publicMethod ({ cls := "java/util/TreeMap$KeyIterator", name := "next", desc := "()Ljava/lang/Object;" } : Jvm.MethodName)) ∈ lw_tbl := lw_at lw_m6 211 rfl
theorem q1536 : (Jvm.Cond.code ({ cls := "java/util/TreeMap$KeyIterator", name := "next", desc := "()Ljava/lang/Object;" } : Jvm.MethodName) prog_92_method_2_code (1 : Nat) (Option.some (Jvm.ClassFile.FieldType.object "java/lang/Object"))) ∈ lw_all := lw_g (lw_at lw_m6 212 rfl) rfl
theorem q1537 : (Jvm.Cond.methodLink "java/util/TreeMap$KeyIterator" (7 : Nat) ({ cls := "java/util/TreeMap$KeyIterator", name := "nextEntry", desc := "()Ljava/util/TreeMap$Entry;" } : Jvm.MethodName)) ∈ lw_all := lw_g (lw_at lw_m6 213 rfl) rfl
theorem q1538 : (Jvm.Cond.sameMethod "java/util/TreeMap$KeyIterator" "java/util/TreeMap$PrivateEntryIterator" "nextEntry" "()Ljava/util/TreeMap$Entry;") ∈ lw_all := lw_g (lw_at lw_m6 214 rfl) rfl
theorem q1540 : (Jvm.Cond.selects "java/util/TreeMap$KeyIterator" ({ cls := "java/util/TreeMap$KeyIterator", name := "nextEntry", desc := "()Ljava/util/TreeMap$Entry;" } : Jvm.MethodName) ({ cls := "java/util/TreeMap$PrivateEntryIterator", name := "nextEntry", desc := "()Ljava/util/TreeMap$Entry;" } : Jvm.MethodName)) ∈ lw_all := lw_g (lw_at lw_m6 216 rfl) rfl
theorem q1717 : (Jvm.Cond.instantiable "java/util/TreeMap$KeyIterator" (4 : Nat)) ∈ lw_all := lw_g (lw_at lw_m7 153 rfl) rfl
theorem q1723 : (Jvm.Cond.instanceMethod ({ cls := "java/util/TreeMap$KeyIterator", name := "<init>", desc := "(Ljava/util/TreeMap;Ljava/util/TreeMap$Entry;)V" } : Jvm.MethodName)) ∈ lw_all := lw_g (lw_at lw_m7 159 rfl) rfl
theorem q1724 : (Jvm.Cond.code ({ cls := "java/util/TreeMap$KeyIterator", name := "<init>", desc := "(Ljava/util/TreeMap;Ljava/util/TreeMap$Entry;)V" } : Jvm.MethodName) prog_92_method_1_code (3 : Nat) (Option.none : Option Jvm.ClassFile.FieldType)) ∈ lw_all := lw_g (lw_at lw_m7 160 rfl) rfl
theorem q1725 : (Jvm.Cond.methodLink "java/util/TreeMap$KeyIterator" (1 : Nat) ({ cls := "java/util/TreeMap$PrivateEntryIterator", name := "<init>", desc := "(Ljava/util/TreeMap;Ljava/util/TreeMap$Entry;)V" } : Jvm.MethodName)) ∈ lw_all := lw_g (lw_at lw_m7 161 rfl) rfl
theorem q1733 : (Jvm.Cond.lays "java/util/TreeMap$KeyIterator" "java/util/TreeMap$PrivateEntryIterator" "next" "Ljava/util/TreeMap$Entry;") ∈ lw_all := lw_g (lw_at lw_m7 169 rfl) rfl
theorem q1735 : (Jvm.Cond.lays "java/util/TreeMap$KeyIterator" "java/util/TreeMap$PrivateEntryIterator" "lastReturned" "Ljava/util/TreeMap$Entry;") ∈ lw_all := lw_g (lw_at lw_m7 171 rfl) rfl
theorem q1737 : (Jvm.Cond.lays "java/util/TreeMap$KeyIterator" "java/util/TreeMap$PrivateEntryIterator" "expectedModCount" "I") ∈ lw_all := lw_g (lw_at lw_m7 173 rfl) rfl
theorem q1739 : (Jvm.Cond.laysFinal "java/util/TreeMap$KeyIterator" "java/util/TreeMap$PrivateEntryIterator" "this$0" "Ljava/util/TreeMap;") ∈ lw_all := lw_g (lw_at lw_m7 175 rfl) rfl
theorem q1741 : (Jvm.Cond.superclass "java/util/TreeMap$KeyIterator" "java/util/TreeMap$PrivateEntryIterator") ∈ lw_all := lw_g (lw_at lw_m7 177 rfl) rfl
theorem q2007 : (Jvm.Cond.fieldLink "java/util/TreeMap$KeyIterator" (13 : Nat) "java/util/TreeMap$Entry" "key" "Ljava/lang/Object;") ∈ lw_all := lw_g (lw_at lw_m8 203 rfl) rfl
theorem q4041 : (Jvm.Cond.castable "java/util/TreeMap$KeyIterator" "java/lang/Object") ∈ lw_tbl := lw_at lw_m17 77 rfl
theorem in_J26 : ∀ w ∈ wsJ260, w ∈ lw_all := lw_in wsJ260 [1733, 1735, 1737, 1739] (by decide +kernel) (by decide +kernel)

/-! java/lang/RuntimeException -/
set_option maxRecDepth 100000
def RJ27 : String := "java/lang/RuntimeException"
abbrev cJ27_init : ByteArray := prog_40_method_2_code
def yJ27_init : MethodName := ⟨RJ27, "<init>", "(Ljava/lang/String;)V"⟩
def dkwJ27_init_0 : List UInt8 := [42, 43, 183, 0, 7, 177]
abbrev dktJ27_init_0 : List UInt8 := dkwJ27_init_0 ++ []
theorem dksJ27_init_0 : cJ27_init.data.toList.drop 0 = dktJ27_init_0 := by decide +kernel
theorem dJ27_init_0 : decode cJ27_init 0 = .ok (.aload_n 0, 1) := dk_42 (dk_at dksJ27_init_0 0 rfl rfl)
theorem dJ27_init_1 : decode cJ27_init 1 = .ok (.aload_n 1, 1) := dk_43 (dk_at dksJ27_init_0 1 rfl rfl)
theorem dJ27_init_2 : decode cJ27_init 2 = .ok (.invokespecial 7, 3) := dk_183 0 7 (dk_at dksJ27_init_0 2 rfl rfl)
theorem dJ27_init_5 : decode cJ27_init 5 = .ok (.return_, 1) := dk_177 (dk_at dksJ27_init_0 5 rfl rfl)
abbrev cJ27_init_2 : ByteArray := prog_40_method_1_code
def yJ27_init_2 : MethodName := ⟨RJ27, "<init>", "()V"⟩
theorem dJ27_init_2_0 : decode cJ27_init_2 0 = .ok (.aload_n 0, 1) := by decide +kernel
theorem dJ27_init_2_1 : decode cJ27_init_2 1 = .ok (.invokespecial 1, 3) := by decide +kernel
theorem dJ27_init_2_4 : decode cJ27_init_2 4 = .ok (.return_, 1) := by decide +kernel
abbrev cJ27_init_3 : ByteArray := prog_40_method_4_code
def yJ27_init_3 : MethodName := ⟨RJ27, "<init>", "(Ljava/lang/Throwable;)V"⟩
def dkwJ27_init_3_0 : List UInt8 := [42, 43, 183, 0, 13, 177]
abbrev dktJ27_init_3_0 : List UInt8 := dkwJ27_init_3_0 ++ []
theorem dksJ27_init_3_0 : cJ27_init_3.data.toList.drop 0 = dktJ27_init_3_0 := by decide +kernel
theorem dJ27_init_3_0 : decode cJ27_init_3 0 = .ok (.aload_n 0, 1) := dk_42 (dk_at dksJ27_init_3_0 0 rfl rfl)
theorem dJ27_init_3_1 : decode cJ27_init_3 1 = .ok (.aload_n 1, 1) := dk_43 (dk_at dksJ27_init_3_0 1 rfl rfl)
theorem dJ27_init_3_2 : decode cJ27_init_3 2 = .ok (.invokespecial 13, 3) := dk_183 0 13 (dk_at dksJ27_init_3_0 2 rfl rfl)
theorem dJ27_init_3_5 : decode cJ27_init_3 5 = .ok (.return_, 1) := dk_177 (dk_at dksJ27_init_3_0 5 rfl rfl)
theorem q160 : (Jvm.Cond.initialized "java/lang/RuntimeException") ∈ lw_all := lw_g (lw_at lw_m1 36 rfl) rfl
theorem q500 : (Jvm.Cond.declares ({ cls := "java/lang/RuntimeException", name := "<init>", desc := "()V" } : Jvm.MethodName)) ∈ lw_tbl := lw_at lw_m2 136 rfl
theorem q501 : (Jvm.Cond.declares ({ cls := "java/lang/RuntimeException", name := "<init>", desc := "(Ljava/lang/String;)V" } : Jvm.MethodName)) ∈ lw_tbl := lw_at lw_m2 137 rfl
theorem q754 : (Jvm.Cond.instanceMethod ({ cls := "java/lang/RuntimeException", name := "<init>", desc := "(Ljava/lang/String;)V" } : Jvm.MethodName)) ∈ lw_all := lw_g (lw_at lw_m3 150 rfl) rfl
theorem q755 : (Jvm.Cond.code ({ cls := "java/lang/RuntimeException", name := "<init>", desc := "(Ljava/lang/String;)V" } : Jvm.MethodName) prog_40_method_2_code (2 : Nat) (Option.none : Option Jvm.ClassFile.FieldType)) ∈ lw_all := lw_g (lw_at lw_m3 151 rfl) rfl
theorem q756 : (Jvm.Cond.methodLink "java/lang/RuntimeException" (7 : Nat) ({ cls := "java/lang/Exception", name := "<init>", desc := "(Ljava/lang/String;)V" } : Jvm.MethodName)) ∈ lw_all := lw_g (lw_at lw_m3 152 rfl) rfl
theorem q864 : (Jvm.Cond.instanceMethod ({ cls := "java/lang/RuntimeException", name := "<init>", desc := "()V" } : Jvm.MethodName)) ∈ lw_all := lw_g (lw_at lw_m4 20 rfl) rfl
theorem q865 : (Jvm.Cond.code ({ cls := "java/lang/RuntimeException", name := "<init>", desc := "()V" } : Jvm.MethodName) prog_40_method_1_code (1 : Nat) (Option.none : Option Jvm.ClassFile.FieldType)) ∈ lw_all := lw_g (lw_at lw_m4 21 rfl) rfl
theorem q866 : (Jvm.Cond.methodLink "java/lang/RuntimeException" (1 : Nat) ({ cls := "java/lang/Exception", name := "<init>", desc := "()V" } : Jvm.MethodName)) ∈ lw_all := lw_g (lw_at lw_m4 22 rfl) rfl
theorem q1428 : (Jvm.Cond.instanceMethod ({ cls := "java/lang/RuntimeException", name := "<init>", desc := "(Ljava/lang/Throwable;)V" } : Jvm.MethodName)) ∈ lw_all := lw_g (lw_at lw_m6 104 rfl) rfl
theorem q1429 : (Jvm.Cond.code ({ cls := "java/lang/RuntimeException", name := "<init>", desc := "(Ljava/lang/Throwable;)V" } : Jvm.MethodName) prog_40_method_4_code (2 : Nat) (Option.none : Option Jvm.ClassFile.FieldType)) ∈ lw_all := lw_g (lw_at lw_m6 105 rfl) rfl
theorem q1430 : (Jvm.Cond.methodLink "java/lang/RuntimeException" (13 : Nat) ({ cls := "java/lang/Exception", name := "<init>", desc := "(Ljava/lang/Throwable;)V" } : Jvm.MethodName)) ∈ lw_all := lw_g (lw_at lw_m6 106 rfl) rfl

/-! java/lang/IndexOutOfBoundsException -/
set_option maxRecDepth 100000
def RJ28 : String := "java/lang/IndexOutOfBoundsException"
def TJ28 : u_T := fun k => match k with
  | 0 => ("java/lang/Throwable", "cause", "Ljava/lang/Throwable;", false)
  | 1 => ("java/lang/Throwable", "stackTrace", "[Ljava/lang/StackTraceElement;", false)
  | 2 => ("java/lang/Throwable", "suppressedExceptions", "Ljava/util/List;", false)
  | 3 => ("java/lang/Throwable", "detailMessage", "Ljava/lang/String;", false)
  | 4 => ("java/lang/Throwable", "backtrace", "Ljava/lang/Object;", false)
  | _ => ("java/lang/Throwable", "depth", "I", false)
def tyJ28 : Nat → FieldType := fun k => match k with
  | 0 => .object "java/lang/Throwable"
  | 1 => .array (.object "java/lang/StackTraceElement")
  | 2 => .object "java/util/List"
  | 3 => .object "java/lang/String"
  | 4 => .object "java/lang/Object"
  | _ => .int
abbrev wsJ280 : List Cond := u_ws RJ28 TJ28 6
theorem nmJ28 : ∀ a, a < 6 → ∀ b, b < 6 → a ≠ b → (TJ28 a).2.1 ≠ (TJ28 b).2.1 := by decide +kernel
theorem tyJ28_ok : ∀ k, k < 6 → parseFieldDescriptor (TJ28 k).2.2.1 = some (tyJ28 k) := by decide +kernel
abbrev cJ28_init : ByteArray := prog_33_method_2_code
def yJ28_init : MethodName := ⟨RJ28, "<init>", "(Ljava/lang/String;)V"⟩
def dkwJ28_init_0 : List UInt8 := [42, 43, 183, 0, 7, 177]
abbrev dktJ28_init_0 : List UInt8 := dkwJ28_init_0 ++ []
theorem dksJ28_init_0 : cJ28_init.data.toList.drop 0 = dktJ28_init_0 := by decide +kernel
theorem dJ28_init_0 : decode cJ28_init 0 = .ok (.aload_n 0, 1) := dk_42 (dk_at dksJ28_init_0 0 rfl rfl)
theorem dJ28_init_1 : decode cJ28_init 1 = .ok (.aload_n 1, 1) := dk_43 (dk_at dksJ28_init_0 1 rfl rfl)
theorem dJ28_init_2 : decode cJ28_init 2 = .ok (.invokespecial 7, 3) := dk_183 0 7 (dk_at dksJ28_init_0 2 rfl rfl)
theorem dJ28_init_5 : decode cJ28_init 5 = .ok (.return_, 1) := dk_177 (dk_at dksJ28_init_0 5 rfl rfl)
abbrev cJ28_init_2 : ByteArray := prog_33_method_1_code
def yJ28_init_2 : MethodName := ⟨RJ28, "<init>", "()V"⟩
theorem dJ28_init_2_0 : decode cJ28_init_2 0 = .ok (.aload_n 0, 1) := by decide +kernel
theorem dJ28_init_2_1 : decode cJ28_init_2 1 = .ok (.invokespecial 1, 3) := by decide +kernel
theorem dJ28_init_2_4 : decode cJ28_init_2 4 = .ok (.return_, 1) := by decide +kernel
theorem q161 : (Jvm.Cond.initialized "java/lang/IndexOutOfBoundsException") ∈ lw_all := lw_g (lw_at lw_m1 37 rfl) rfl
theorem q498 : (Jvm.Cond.instantiable "java/lang/IndexOutOfBoundsException" (6 : Nat)) ∈ lw_all := lw_g (lw_at lw_m2 134 rfl) rfl
theorem q499 : (Jvm.Cond.castable "java/lang/IndexOutOfBoundsException" "java/lang/IndexOutOfBoundsException") ∈ lw_tbl := lw_at lw_m2 135 rfl
theorem q506 : (Jvm.Cond.selects "java/lang/IndexOutOfBoundsException" ({ cls := "java/lang/Throwable", name := "fillInStackTrace", desc := "(I)Ljava/lang/Throwable;" } : Jvm.MethodName) ({ cls := "java/lang/Throwable", name := "fillInStackTrace", desc := "(I)Ljava/lang/Throwable;" } : Jvm.MethodName)) ∈ lw_all := lw_g (lw_at lw_m2 142 rfl) rfl
theorem q507 : (Jvm.Cond.selects "java/lang/IndexOutOfBoundsException" ({ cls := "java/lang/Throwable", name := "fillInStackTrace", desc := "()Ljava/lang/Throwable;" } : Jvm.MethodName) ({ cls := "java/lang/Throwable", name := "fillInStackTrace", desc := "()Ljava/lang/Throwable;" } : Jvm.MethodName)) ∈ lw_all := lw_g (lw_at lw_m2 143 rfl) rfl
theorem q508 : (Jvm.Cond.lays "java/lang/IndexOutOfBoundsException" "java/lang/Throwable" "cause" "Ljava/lang/Throwable;") ∈ lw_all := lw_g (lw_at lw_m2 144 rfl) rfl
theorem q510 : (Jvm.Cond.lays "java/lang/IndexOutOfBoundsException" "java/lang/Throwable" "stackTrace" "[Ljava/lang/StackTraceElement;") ∈ lw_all := lw_g (lw_at lw_m2 146 rfl) rfl
theorem q512 : (Jvm.Cond.lays "java/lang/IndexOutOfBoundsException" "java/lang/Throwable" "suppressedExceptions" "Ljava/util/List;") ∈ lw_all := lw_g (lw_at lw_m2 148 rfl) rfl
theorem q514 : (Jvm.Cond.lays "java/lang/IndexOutOfBoundsException" "java/lang/Throwable" "detailMessage" "Ljava/lang/String;") ∈ lw_all := lw_g (lw_at lw_m2 150 rfl) rfl
theorem q516 : (Jvm.Cond.lays "java/lang/IndexOutOfBoundsException" "java/lang/Throwable" "backtrace" "Ljava/lang/Object;") ∈ lw_all := lw_g (lw_at lw_m2 152 rfl) rfl
theorem q803 : (Jvm.Cond.instanceMethod ({ cls := "java/lang/IndexOutOfBoundsException", name := "<init>", desc := "(Ljava/lang/String;)V" } : Jvm.MethodName)) ∈ lw_all := lw_g (lw_at lw_m3 199 rfl) rfl
theorem q804 : (Jvm.Cond.code ({ cls := "java/lang/IndexOutOfBoundsException", name := "<init>", desc := "(Ljava/lang/String;)V" } : Jvm.MethodName) prog_33_method_2_code (2 : Nat) (Option.none : Option Jvm.ClassFile.FieldType)) ∈ lw_all := lw_g (lw_at lw_m3 200 rfl) rfl
theorem q805 : (Jvm.Cond.methodLink "java/lang/IndexOutOfBoundsException" (7 : Nat) ({ cls := "java/lang/RuntimeException", name := "<init>", desc := "(Ljava/lang/String;)V" } : Jvm.MethodName)) ∈ lw_all := lw_g (lw_at lw_m3 201 rfl) rfl
theorem q806 : (Jvm.Cond.lays "java/lang/IndexOutOfBoundsException" "java/lang/Throwable" "depth" "I") ∈ lw_all := lw_g (lw_at lw_m3 202 rfl) rfl
theorem q807 : (Jvm.Cond.superclass "java/lang/IndexOutOfBoundsException" "java/lang/RuntimeException") ∈ lw_all := lw_g (lw_at lw_m3 203 rfl) rfl
theorem q940 : (Jvm.Cond.selects "java/lang/IndexOutOfBoundsException" ({ cls := "java/lang/Object", name := "getClass", desc := "()Ljava/lang/Class;" } : Jvm.MethodName) ({ cls := "java/lang/Object", name := "getClass", desc := "()Ljava/lang/Class;" } : Jvm.MethodName)) ∈ lw_all := lw_g (lw_at lw_m4 96 rfl) rfl
theorem q1446 : (Jvm.Cond.selects "java/lang/IndexOutOfBoundsException" ({ cls := "java/lang/Throwable", name := "toString", desc := "()Ljava/lang/String;" } : Jvm.MethodName) ({ cls := "java/lang/Throwable", name := "toString", desc := "()Ljava/lang/String;" } : Jvm.MethodName)) ∈ lw_all := lw_g (lw_at lw_m6 122 rfl) rfl
theorem q1462 : (Jvm.Cond.selects "java/lang/IndexOutOfBoundsException" ({ cls := "java/lang/Throwable", name := "getLocalizedMessage", desc := "()Ljava/lang/String;" } : Jvm.MethodName) ({ cls := "java/lang/Throwable", name := "getLocalizedMessage", desc := "()Ljava/lang/String;" } : Jvm.MethodName)) ∈ lw_all := lw_g (lw_at lw_m6 138 rfl) rfl
theorem q1477 : (Jvm.Cond.selects "java/lang/IndexOutOfBoundsException" ({ cls := "java/lang/Throwable", name := "getMessage", desc := "()Ljava/lang/String;" } : Jvm.MethodName) ({ cls := "java/lang/Throwable", name := "getMessage", desc := "()Ljava/lang/String;" } : Jvm.MethodName)) ∈ lw_all := lw_g (lw_at lw_m6 153 rfl) rfl
theorem q2342 : (Jvm.Cond.instanceMethod ({ cls := "java/lang/IndexOutOfBoundsException", name := "<init>", desc := "()V" } : Jvm.MethodName)) ∈ lw_all := lw_g (lw_at lw_m10 58 rfl) rfl
theorem q2343 : (Jvm.Cond.code ({ cls := "java/lang/IndexOutOfBoundsException", name := "<init>", desc := "()V" } : Jvm.MethodName) prog_33_method_1_code (1 : Nat) (Option.none : Option Jvm.ClassFile.FieldType)) ∈ lw_all := lw_g (lw_at lw_m10 59 rfl) rfl
theorem q2344 : (Jvm.Cond.methodLink "java/lang/IndexOutOfBoundsException" (1 : Nat) ({ cls := "java/lang/RuntimeException", name := "<init>", desc := "()V" } : Jvm.MethodName)) ∈ lw_all := lw_g (lw_at lw_m10 60 rfl) rfl
theorem q2385 : (Jvm.Cond.declares ({ cls := "java/lang/IndexOutOfBoundsException", name := "<init>", desc := "()V" } : Jvm.MethodName)) ∈ lw_tbl := lw_at lw_m10 101 rfl
theorem q2386 : (Jvm.Cond.declares ({ cls := "java/lang/IndexOutOfBoundsException", name := "<init>", desc := "(Ljava/lang/String;)V" } : Jvm.MethodName)) ∈ lw_tbl := lw_at lw_m10 102 rfl
theorem q2869 : (Jvm.Cond.selects "java/lang/IndexOutOfBoundsException" ({ cls := "java/lang/Object", name := "toString", desc := "()Ljava/lang/String;" } : Jvm.MethodName) ({ cls := "java/lang/Throwable", name := "toString", desc := "()Ljava/lang/String;" } : Jvm.MethodName)) ∈ lw_all := lw_g (lw_at lw_m12 105 rfl) rfl
theorem q4044 : (Jvm.Cond.castable "java/lang/IndexOutOfBoundsException" "java/lang/Object") ∈ lw_tbl := lw_at lw_m17 80 rfl
theorem in_J28 : ∀ w ∈ wsJ280, w ∈ lw_all := lw_in wsJ280 [508, 510, 512, 514, 516, 806] (by decide +kernel) (by decide +kernel)

/-! java/util/Arrays -/
set_option maxRecDepth 100000
def RJ29 : String := "java/util/Arrays"
abbrev cJ29_copyOf : ByteArray := prog_65_method_121_code
def yJ29_copyOf : MethodName := ⟨RJ29, "copyOf", "([BI)[B"⟩
def dkwJ29_copyOf_1 : List UInt8 := [27, 184, 1, 48, 184, 0, 150, 44, 176]
abbrev dktJ29_copyOf_1 : List UInt8 := dkwJ29_copyOf_1 ++ []
def dkwJ29_copyOf_0 : List UInt8 := [27, 42, 190, 160, 0, 11, 42, 182, 1, 54, 192, 1, 55, 176, 27, 188, 8, 77, 42, 3, 44, 3, 42, 190]
abbrev dktJ29_copyOf_0 : List UInt8 := dkwJ29_copyOf_0 ++ dktJ29_copyOf_1
theorem dksJ29_copyOf_0 : cJ29_copyOf.data.toList.drop 0 = dktJ29_copyOf_0 := by decide +kernel
theorem dksJ29_copyOf_1 : cJ29_copyOf.data.toList.drop 24 = dktJ29_copyOf_1 := dk_seg dksJ29_copyOf_0 24 rfl rfl
theorem dJ29_copyOf_0 : decode cJ29_copyOf 0 = .ok (.iload_n 1, 1) := dk_27 (dk_at dksJ29_copyOf_0 0 rfl rfl)
theorem dJ29_copyOf_1 : decode cJ29_copyOf 1 = .ok (.aload_n 0, 1) := dk_42 (dk_at dksJ29_copyOf_0 1 rfl rfl)
theorem dJ29_copyOf_2 : decode cJ29_copyOf 2 = .ok (.arraylength, 1) := dk_190 (dk_at dksJ29_copyOf_0 2 rfl rfl)
theorem dJ29_copyOf_3 : decode cJ29_copyOf 3 = .ok (.if_icmp .ne 11, 3) := dk_160 0 11 (dk_at dksJ29_copyOf_0 3 rfl rfl)
theorem dJ29_copyOf_6 : decode cJ29_copyOf 6 = .ok (.aload_n 0, 1) := dk_42 (dk_at dksJ29_copyOf_0 6 rfl rfl)
theorem dJ29_copyOf_7 : decode cJ29_copyOf 7 = .ok (.invokevirtual 310, 3) := dk_182 1 54 (dk_at dksJ29_copyOf_0 7 rfl rfl)
theorem dJ29_copyOf_10 : decode cJ29_copyOf 10 = .ok (.checkcast 311, 3) := dk_192 1 55 (dk_at dksJ29_copyOf_0 10 rfl rfl)
theorem dJ29_copyOf_13 : decode cJ29_copyOf 13 = .ok (.areturn, 1) := dk_176 (dk_at dksJ29_copyOf_0 13 rfl rfl)
theorem dJ29_copyOf_14 : decode cJ29_copyOf 14 = .ok (.iload_n 1, 1) := dk_27 (dk_at dksJ29_copyOf_0 14 rfl rfl)
theorem dJ29_copyOf_15 : decode cJ29_copyOf 15 = .ok (.newarray .byte, 2) := dk_188_8 (dk_at dksJ29_copyOf_0 15 rfl rfl)
theorem dJ29_copyOf_17 : decode cJ29_copyOf 17 = .ok (.astore_n 2, 1) := dk_77 (dk_at dksJ29_copyOf_0 17 rfl rfl)
theorem dJ29_copyOf_18 : decode cJ29_copyOf 18 = .ok (.aload_n 0, 1) := dk_42 (dk_at dksJ29_copyOf_0 18 rfl rfl)
theorem dJ29_copyOf_19 : decode cJ29_copyOf 19 = .ok (.iconst 0, 1) := dk_3 (dk_at dksJ29_copyOf_0 19 rfl rfl)
theorem dJ29_copyOf_20 : decode cJ29_copyOf 20 = .ok (.aload_n 2, 1) := dk_44 (dk_at dksJ29_copyOf_0 20 rfl rfl)
theorem dJ29_copyOf_21 : decode cJ29_copyOf 21 = .ok (.iconst 0, 1) := dk_3 (dk_at dksJ29_copyOf_0 21 rfl rfl)
theorem dJ29_copyOf_22 : decode cJ29_copyOf 22 = .ok (.aload_n 0, 1) := dk_42 (dk_at dksJ29_copyOf_0 22 rfl rfl)
theorem dJ29_copyOf_23 : decode cJ29_copyOf 23 = .ok (.arraylength, 1) := dk_190 (dk_at dksJ29_copyOf_0 23 rfl rfl)
theorem dJ29_copyOf_24 : decode cJ29_copyOf 24 = .ok (.iload_n 1, 1) := dk_27 (dk_at dksJ29_copyOf_1 0 rfl rfl)
theorem dJ29_copyOf_25 : decode cJ29_copyOf 25 = .ok (.invokestatic 304, 3) := dk_184 1 48 (dk_at dksJ29_copyOf_1 1 rfl rfl)
theorem dJ29_copyOf_28 : decode cJ29_copyOf 28 = .ok (.invokestatic 150, 3) := dk_184 0 150 (dk_at dksJ29_copyOf_1 4 rfl rfl)
theorem dJ29_copyOf_31 : decode cJ29_copyOf 31 = .ok (.aload_n 2, 1) := dk_44 (dk_at dksJ29_copyOf_1 7 rfl rfl)
theorem dJ29_copyOf_32 : decode cJ29_copyOf 32 = .ok (.areturn, 1) := dk_176 (dk_at dksJ29_copyOf_1 8 rfl rfl)
abbrev cJ29_copyOfRange : ByteArray := prog_65_method_132_code
def yJ29_copyOfRange : MethodName := ⟨RJ29, "copyOfRange", "([BII)[B"⟩
def dkwJ29_copyOfRange_1 : List UInt8 := [176]
abbrev dktJ29_copyOfRange_1 : List UInt8 := dkwJ29_copyOfRange_1 ++ []
def dkwJ29_copyOfRange_0 : List UInt8 := [27, 154, 0, 9, 28, 42, 190, 159, 0, 10, 42, 27, 28, 184, 1, 83, 176, 42, 182, 1, 54, 192, 1, 55]
abbrev dktJ29_copyOfRange_0 : List UInt8 := dkwJ29_copyOfRange_0 ++ dktJ29_copyOfRange_1
theorem dksJ29_copyOfRange_0 : cJ29_copyOfRange.data.toList.drop 0 = dktJ29_copyOfRange_0 := by decide +kernel
theorem dksJ29_copyOfRange_1 : cJ29_copyOfRange.data.toList.drop 24 = dktJ29_copyOfRange_1 := dk_seg dksJ29_copyOfRange_0 24 rfl rfl
theorem dJ29_copyOfRange_0 : decode cJ29_copyOfRange 0 = .ok (.iload_n 1, 1) := dk_27 (dk_at dksJ29_copyOfRange_0 0 rfl rfl)
theorem dJ29_copyOfRange_1 : decode cJ29_copyOfRange 1 = .ok (.ifCond .ne 9, 3) := dk_154 0 9 (dk_at dksJ29_copyOfRange_0 1 rfl rfl)
theorem dJ29_copyOfRange_4 : decode cJ29_copyOfRange 4 = .ok (.iload_n 2, 1) := dk_28 (dk_at dksJ29_copyOfRange_0 4 rfl rfl)
theorem dJ29_copyOfRange_5 : decode cJ29_copyOfRange 5 = .ok (.aload_n 0, 1) := dk_42 (dk_at dksJ29_copyOfRange_0 5 rfl rfl)
theorem dJ29_copyOfRange_6 : decode cJ29_copyOfRange 6 = .ok (.arraylength, 1) := dk_190 (dk_at dksJ29_copyOfRange_0 6 rfl rfl)
theorem dJ29_copyOfRange_7 : decode cJ29_copyOfRange 7 = .ok (.if_icmp .eq 10, 3) := dk_159 0 10 (dk_at dksJ29_copyOfRange_0 7 rfl rfl)
theorem dJ29_copyOfRange_10 : decode cJ29_copyOfRange 10 = .ok (.aload_n 0, 1) := dk_42 (dk_at dksJ29_copyOfRange_0 10 rfl rfl)
theorem dJ29_copyOfRange_11 : decode cJ29_copyOfRange 11 = .ok (.iload_n 1, 1) := dk_27 (dk_at dksJ29_copyOfRange_0 11 rfl rfl)
theorem dJ29_copyOfRange_12 : decode cJ29_copyOfRange 12 = .ok (.iload_n 2, 1) := dk_28 (dk_at dksJ29_copyOfRange_0 12 rfl rfl)
theorem dJ29_copyOfRange_13 : decode cJ29_copyOfRange 13 = .ok (.invokestatic 339, 3) := dk_184 1 83 (dk_at dksJ29_copyOfRange_0 13 rfl rfl)
theorem dJ29_copyOfRange_16 : decode cJ29_copyOfRange 16 = .ok (.areturn, 1) := dk_176 (dk_at dksJ29_copyOfRange_0 16 rfl rfl)
theorem dJ29_copyOfRange_17 : decode cJ29_copyOfRange 17 = .ok (.aload_n 0, 1) := dk_42 (dk_at dksJ29_copyOfRange_0 17 rfl rfl)
theorem dJ29_copyOfRange_18 : decode cJ29_copyOfRange 18 = .ok (.invokevirtual 310, 3) := dk_182 1 54 (dk_at dksJ29_copyOfRange_0 18 rfl rfl)
theorem dJ29_copyOfRange_21 : decode cJ29_copyOfRange 21 = .ok (.checkcast 311, 3) := dk_192 1 55 (dk_at dksJ29_copyOfRange_0 21 rfl rfl)
theorem dJ29_copyOfRange_24 : decode cJ29_copyOfRange 24 = .ok (.areturn, 1) := dk_176 (dk_at dksJ29_copyOfRange_1 0 rfl rfl)
abbrev cJ29_copyOfRangeByte : ByteArray := prog_65_method_133_code
def yJ29_copyOfRangeByte : MethodName := ⟨RJ29, "copyOfRangeByte", "([BII)[B"⟩
def dkwJ29_copyOfRangeByte_1 : List UInt8 := [184, 1, 48, 184, 0, 150, 25, 4, 176]
abbrev dktJ29_copyOfRangeByte_1 : List UInt8 := dkwJ29_copyOfRangeByte_1 ++ []
def dkwJ29_copyOfRangeByte_0 : List UInt8 := [27, 28, 184, 1, 87, 28, 27, 100, 62, 29, 188, 8, 58, 4, 42, 27, 25, 4, 3, 42, 190, 27, 100, 29]
abbrev dktJ29_copyOfRangeByte_0 : List UInt8 := dkwJ29_copyOfRangeByte_0 ++ dktJ29_copyOfRangeByte_1
theorem dksJ29_copyOfRangeByte_0 : cJ29_copyOfRangeByte.data.toList.drop 0 = dktJ29_copyOfRangeByte_0 := by decide +kernel
theorem dksJ29_copyOfRangeByte_1 : cJ29_copyOfRangeByte.data.toList.drop 24 = dktJ29_copyOfRangeByte_1 := dk_seg dksJ29_copyOfRangeByte_0 24 rfl rfl
theorem dJ29_copyOfRangeByte_0 : decode cJ29_copyOfRangeByte 0 = .ok (.iload_n 1, 1) := dk_27 (dk_at dksJ29_copyOfRangeByte_0 0 rfl rfl)
theorem dJ29_copyOfRangeByte_1 : decode cJ29_copyOfRangeByte 1 = .ok (.iload_n 2, 1) := dk_28 (dk_at dksJ29_copyOfRangeByte_0 1 rfl rfl)
theorem dJ29_copyOfRangeByte_2 : decode cJ29_copyOfRangeByte 2 = .ok (.invokestatic 343, 3) := dk_184 1 87 (dk_at dksJ29_copyOfRangeByte_0 2 rfl rfl)
theorem dJ29_copyOfRangeByte_5 : decode cJ29_copyOfRangeByte 5 = .ok (.iload_n 2, 1) := dk_28 (dk_at dksJ29_copyOfRangeByte_0 5 rfl rfl)
theorem dJ29_copyOfRangeByte_6 : decode cJ29_copyOfRangeByte 6 = .ok (.iload_n 1, 1) := dk_27 (dk_at dksJ29_copyOfRangeByte_0 6 rfl rfl)
theorem dJ29_copyOfRangeByte_7 : decode cJ29_copyOfRangeByte 7 = .ok (.isub, 1) := dk_100 (dk_at dksJ29_copyOfRangeByte_0 7 rfl rfl)
theorem dJ29_copyOfRangeByte_8 : decode cJ29_copyOfRangeByte 8 = .ok (.istore_n 3, 1) := dk_62 (dk_at dksJ29_copyOfRangeByte_0 8 rfl rfl)
theorem dJ29_copyOfRangeByte_9 : decode cJ29_copyOfRangeByte 9 = .ok (.iload_n 3, 1) := dk_29 (dk_at dksJ29_copyOfRangeByte_0 9 rfl rfl)
theorem dJ29_copyOfRangeByte_10 : decode cJ29_copyOfRangeByte 10 = .ok (.newarray .byte, 2) := dk_188_8 (dk_at dksJ29_copyOfRangeByte_0 10 rfl rfl)
theorem dJ29_copyOfRangeByte_12 : decode cJ29_copyOfRangeByte 12 = .ok (.astore 4, 2) := dk_58 4 (dk_at dksJ29_copyOfRangeByte_0 12 rfl rfl)
theorem dJ29_copyOfRangeByte_14 : decode cJ29_copyOfRangeByte 14 = .ok (.aload_n 0, 1) := dk_42 (dk_at dksJ29_copyOfRangeByte_0 14 rfl rfl)
theorem dJ29_copyOfRangeByte_15 : decode cJ29_copyOfRangeByte 15 = .ok (.iload_n 1, 1) := dk_27 (dk_at dksJ29_copyOfRangeByte_0 15 rfl rfl)
theorem dJ29_copyOfRangeByte_16 : decode cJ29_copyOfRangeByte 16 = .ok (.aload 4, 2) := dk_25 4 (dk_at dksJ29_copyOfRangeByte_0 16 rfl rfl)
theorem dJ29_copyOfRangeByte_18 : decode cJ29_copyOfRangeByte 18 = .ok (.iconst 0, 1) := dk_3 (dk_at dksJ29_copyOfRangeByte_0 18 rfl rfl)
theorem dJ29_copyOfRangeByte_19 : decode cJ29_copyOfRangeByte 19 = .ok (.aload_n 0, 1) := dk_42 (dk_at dksJ29_copyOfRangeByte_0 19 rfl rfl)
theorem dJ29_copyOfRangeByte_20 : decode cJ29_copyOfRangeByte 20 = .ok (.arraylength, 1) := dk_190 (dk_at dksJ29_copyOfRangeByte_0 20 rfl rfl)
theorem dJ29_copyOfRangeByte_21 : decode cJ29_copyOfRangeByte 21 = .ok (.iload_n 1, 1) := dk_27 (dk_at dksJ29_copyOfRangeByte_0 21 rfl rfl)
theorem dJ29_copyOfRangeByte_22 : decode cJ29_copyOfRangeByte 22 = .ok (.isub, 1) := dk_100 (dk_at dksJ29_copyOfRangeByte_0 22 rfl rfl)
theorem dJ29_copyOfRangeByte_23 : decode cJ29_copyOfRangeByte 23 = .ok (.iload_n 3, 1) := dk_29 (dk_at dksJ29_copyOfRangeByte_0 23 rfl rfl)
theorem dJ29_copyOfRangeByte_24 : decode cJ29_copyOfRangeByte 24 = .ok (.invokestatic 304, 3) := dk_184 1 48 (dk_at dksJ29_copyOfRangeByte_1 0 rfl rfl)
theorem dJ29_copyOfRangeByte_27 : decode cJ29_copyOfRangeByte 27 = .ok (.invokestatic 150, 3) := dk_184 0 150 (dk_at dksJ29_copyOfRangeByte_1 3 rfl rfl)
theorem dJ29_copyOfRangeByte_30 : decode cJ29_copyOfRangeByte 30 = .ok (.aload 4, 2) := dk_25 4 (dk_at dksJ29_copyOfRangeByte_1 6 rfl rfl)
theorem dJ29_copyOfRangeByte_32 : decode cJ29_copyOfRangeByte 32 = .ok (.areturn, 1) := dk_176 (dk_at dksJ29_copyOfRangeByte_1 8 rfl rfl)
abbrev cJ29_checkLength : ByteArray := prog_65_method_131_code
def yJ29_checkLength : MethodName := ⟨RJ29, "checkLength", "(II)V"⟩
def dkwJ29_checkLength_1 : List UInt8 := [182, 0, 50, 27, 182, 0, 54, 182, 0, 61, 183, 0, 65, 191, 177]
abbrev dktJ29_checkLength_1 : List UInt8 := dkwJ29_checkLength_1 ++ []
def dkwJ29_checkLength_0 : List UInt8 := [27, 26, 162, 0, 35, 187, 0, 43, 89, 187, 0, 45, 89, 183, 0, 47, 26, 182, 0, 54, 19, 1, 81]
abbrev dktJ29_checkLength_0 : List UInt8 := dkwJ29_checkLength_0 ++ dktJ29_checkLength_1
theorem dksJ29_checkLength_0 : cJ29_checkLength.data.toList.drop 0 = dktJ29_checkLength_0 := by decide +kernel
theorem dksJ29_checkLength_1 : cJ29_checkLength.data.toList.drop 23 = dktJ29_checkLength_1 := dk_seg dksJ29_checkLength_0 23 rfl rfl
theorem dJ29_checkLength_0 : decode cJ29_checkLength 0 = .ok (.iload_n 1, 1) := dk_27 (dk_at dksJ29_checkLength_0 0 rfl rfl)
theorem dJ29_checkLength_1 : decode cJ29_checkLength 1 = .ok (.iload_n 0, 1) := dk_26 (dk_at dksJ29_checkLength_0 1 rfl rfl)
theorem dJ29_checkLength_2 : decode cJ29_checkLength 2 = .ok (.if_icmp .ge 35, 3) := dk_162 0 35 (dk_at dksJ29_checkLength_0 2 rfl rfl)
theorem dJ29_checkLength_5 : decode cJ29_checkLength 5 = .ok (.new 43, 3) := dk_187 0 43 (dk_at dksJ29_checkLength_0 5 rfl rfl)
theorem dJ29_checkLength_8 : decode cJ29_checkLength 8 = .ok (.dup, 1) := dk_89 (dk_at dksJ29_checkLength_0 8 rfl rfl)
theorem dJ29_checkLength_9 : decode cJ29_checkLength 9 = .ok (.new 45, 3) := dk_187 0 45 (dk_at dksJ29_checkLength_0 9 rfl rfl)
theorem dJ29_checkLength_12 : decode cJ29_checkLength 12 = .ok (.dup, 1) := dk_89 (dk_at dksJ29_checkLength_0 12 rfl rfl)
theorem dJ29_checkLength_13 : decode cJ29_checkLength 13 = .ok (.invokespecial 47, 3) := dk_183 0 47 (dk_at dksJ29_checkLength_0 13 rfl rfl)
theorem dJ29_checkLength_16 : decode cJ29_checkLength 16 = .ok (.iload_n 0, 1) := dk_26 (dk_at dksJ29_checkLength_0 16 rfl rfl)
theorem dJ29_checkLength_17 : decode cJ29_checkLength 17 = .ok (.invokevirtual 54, 3) := dk_182 0 54 (dk_at dksJ29_checkLength_0 17 rfl rfl)
theorem dJ29_checkLength_20 : decode cJ29_checkLength 20 = .ok (.ldc_w 337, 3) := dk_19 1 81 (dk_at dksJ29_checkLength_0 20 rfl rfl)
theorem dJ29_checkLength_23 : decode cJ29_checkLength 23 = .ok (.invokevirtual 50, 3) := dk_182 0 50 (dk_at dksJ29_checkLength_1 0 rfl rfl)
theorem dJ29_checkLength_26 : decode cJ29_checkLength 26 = .ok (.iload_n 1, 1) := dk_27 (dk_at dksJ29_checkLength_1 3 rfl rfl)
theorem dJ29_checkLength_27 : decode cJ29_checkLength 27 = .ok (.invokevirtual 54, 3) := dk_182 0 54 (dk_at dksJ29_checkLength_1 4 rfl rfl)
theorem dJ29_checkLength_30 : decode cJ29_checkLength 30 = .ok (.invokevirtual 61, 3) := dk_182 0 61 (dk_at dksJ29_checkLength_1 7 rfl rfl)
theorem dJ29_checkLength_33 : decode cJ29_checkLength 33 = .ok (.invokespecial 65, 3) := dk_183 0 65 (dk_at dksJ29_checkLength_1 10 rfl rfl)
theorem dJ29_checkLength_36 : decode cJ29_checkLength 36 = .ok (.athrow, 1) := dk_191 (dk_at dksJ29_checkLength_1 13 rfl rfl)
theorem dJ29_checkLength_37 : decode cJ29_checkLength 37 = .ok (.return_, 1) := dk_177 (dk_at dksJ29_checkLength_1 14 rfl rfl)
abbrev cJ29_copyOf_2 : ByteArray := prog_65_method_119_code
def yJ29_copyOf_2 : MethodName := ⟨RJ29, "copyOf", "([Ljava/lang/Object;I)[Ljava/lang/Object;"⟩
def dkwJ29_copyOf_2_0 : List UInt8 := [42, 27, 42, 182, 0, 86, 184, 1, 44, 176]
abbrev dktJ29_copyOf_2_0 : List UInt8 := dkwJ29_copyOf_2_0 ++ []
theorem dksJ29_copyOf_2_0 : cJ29_copyOf_2.data.toList.drop 0 = dktJ29_copyOf_2_0 := by decide +kernel
theorem dJ29_copyOf_2_0 : decode cJ29_copyOf_2 0 = .ok (.aload_n 0, 1) := dk_42 (dk_at dksJ29_copyOf_2_0 0 rfl rfl)
theorem dJ29_copyOf_2_1 : decode cJ29_copyOf_2 1 = .ok (.iload_n 1, 1) := dk_27 (dk_at dksJ29_copyOf_2_0 1 rfl rfl)
theorem dJ29_copyOf_2_2 : decode cJ29_copyOf_2 2 = .ok (.aload_n 0, 1) := dk_42 (dk_at dksJ29_copyOf_2_0 2 rfl rfl)
theorem dJ29_copyOf_2_3 : decode cJ29_copyOf_2 3 = .ok (.invokevirtual 86, 3) := dk_182 0 86 (dk_at dksJ29_copyOf_2_0 3 rfl rfl)
theorem dJ29_copyOf_2_6 : decode cJ29_copyOf_2 6 = .ok (.invokestatic 300, 3) := dk_184 1 44 (dk_at dksJ29_copyOf_2_0 6 rfl rfl)
theorem dJ29_copyOf_2_9 : decode cJ29_copyOf_2 9 = .ok (.areturn, 1) := dk_176 (dk_at dksJ29_copyOf_2_0 9 rfl rfl)
abbrev cJ29_copyOf_3 : ByteArray := prog_65_method_120_code
def yJ29_copyOf_3 : MethodName := ⟨RJ29, "copyOf", "([Ljava/lang/Object;ILjava/lang/Class;)[Ljava/lang/Object;"⟩
def dkwJ29_copyOf_3_1 : List UInt8 := [78, 42, 3, 45, 3, 42, 190, 27, 184, 1, 48, 184, 0, 150, 45, 176]
abbrev dktJ29_copyOf_3_1 : List UInt8 := dkwJ29_copyOf_3_1 ++ []
def dkwJ29_copyOf_3_0 : List UInt8 := [44, 18, 110, 166, 0, 10, 27, 189, 0, 2, 167, 0, 14, 44, 182, 0, 90, 27, 184, 0, 95, 192, 0, 110]
abbrev dktJ29_copyOf_3_0 : List UInt8 := dkwJ29_copyOf_3_0 ++ dktJ29_copyOf_3_1
theorem dksJ29_copyOf_3_0 : cJ29_copyOf_3.data.toList.drop 0 = dktJ29_copyOf_3_0 := by decide +kernel
theorem dksJ29_copyOf_3_1 : cJ29_copyOf_3.data.toList.drop 24 = dktJ29_copyOf_3_1 := dk_seg dksJ29_copyOf_3_0 24 rfl rfl
theorem dJ29_copyOf_3_0 : decode cJ29_copyOf_3 0 = .ok (.aload_n 2, 1) := dk_44 (dk_at dksJ29_copyOf_3_0 0 rfl rfl)
theorem dJ29_copyOf_3_1 : decode cJ29_copyOf_3 1 = .ok (.ldc 110, 2) := dk_18 110 (dk_at dksJ29_copyOf_3_0 1 rfl rfl)
theorem dJ29_copyOf_3_3 : decode cJ29_copyOf_3 3 = .ok (.if_acmp .ne 10, 3) := dk_166 0 10 (dk_at dksJ29_copyOf_3_0 3 rfl rfl)
theorem dJ29_copyOf_3_6 : decode cJ29_copyOf_3 6 = .ok (.iload_n 1, 1) := dk_27 (dk_at dksJ29_copyOf_3_0 6 rfl rfl)
theorem dJ29_copyOf_3_7 : decode cJ29_copyOf_3 7 = .ok (.anewarray 2, 3) := dk_189 0 2 (dk_at dksJ29_copyOf_3_0 7 rfl rfl)
theorem dJ29_copyOf_3_10 : decode cJ29_copyOf_3 10 = .ok (.goto 14, 3) := dk_167 0 14 (dk_at dksJ29_copyOf_3_0 10 rfl rfl)
theorem dJ29_copyOf_3_13 : decode cJ29_copyOf_3 13 = .ok (.aload_n 2, 1) := dk_44 (dk_at dksJ29_copyOf_3_0 13 rfl rfl)
theorem dJ29_copyOf_3_14 : decode cJ29_copyOf_3 14 = .ok (.invokevirtual 90, 3) := dk_182 0 90 (dk_at dksJ29_copyOf_3_0 14 rfl rfl)
theorem dJ29_copyOf_3_17 : decode cJ29_copyOf_3 17 = .ok (.iload_n 1, 1) := dk_27 (dk_at dksJ29_copyOf_3_0 17 rfl rfl)
theorem dJ29_copyOf_3_18 : decode cJ29_copyOf_3 18 = .ok (.invokestatic 95, 3) := dk_184 0 95 (dk_at dksJ29_copyOf_3_0 18 rfl rfl)
theorem dJ29_copyOf_3_21 : decode cJ29_copyOf_3 21 = .ok (.checkcast 110, 3) := dk_192 0 110 (dk_at dksJ29_copyOf_3_0 21 rfl rfl)
theorem dJ29_copyOf_3_24 : decode cJ29_copyOf_3 24 = .ok (.astore_n 3, 1) := dk_78 (dk_at dksJ29_copyOf_3_1 0 rfl rfl)
theorem dJ29_copyOf_3_25 : decode cJ29_copyOf_3 25 = .ok (.aload_n 0, 1) := dk_42 (dk_at dksJ29_copyOf_3_1 1 rfl rfl)
theorem dJ29_copyOf_3_26 : decode cJ29_copyOf_3 26 = .ok (.iconst 0, 1) := dk_3 (dk_at dksJ29_copyOf_3_1 2 rfl rfl)
theorem dJ29_copyOf_3_27 : decode cJ29_copyOf_3 27 = .ok (.aload_n 3, 1) := dk_45 (dk_at dksJ29_copyOf_3_1 3 rfl rfl)
theorem dJ29_copyOf_3_28 : decode cJ29_copyOf_3 28 = .ok (.iconst 0, 1) := dk_3 (dk_at dksJ29_copyOf_3_1 4 rfl rfl)
theorem dJ29_copyOf_3_29 : decode cJ29_copyOf_3 29 = .ok (.aload_n 0, 1) := dk_42 (dk_at dksJ29_copyOf_3_1 5 rfl rfl)
theorem dJ29_copyOf_3_30 : decode cJ29_copyOf_3 30 = .ok (.arraylength, 1) := dk_190 (dk_at dksJ29_copyOf_3_1 6 rfl rfl)
theorem dJ29_copyOf_3_31 : decode cJ29_copyOf_3 31 = .ok (.iload_n 1, 1) := dk_27 (dk_at dksJ29_copyOf_3_1 7 rfl rfl)
theorem dJ29_copyOf_3_32 : decode cJ29_copyOf_3 32 = .ok (.invokestatic 304, 3) := dk_184 1 48 (dk_at dksJ29_copyOf_3_1 8 rfl rfl)
theorem dJ29_copyOf_3_35 : decode cJ29_copyOf_3 35 = .ok (.invokestatic 150, 3) := dk_184 0 150 (dk_at dksJ29_copyOf_3_1 11 rfl rfl)
theorem dJ29_copyOf_3_38 : decode cJ29_copyOf_3 38 = .ok (.aload_n 3, 1) := dk_45 (dk_at dksJ29_copyOf_3_1 14 rfl rfl)
theorem dJ29_copyOf_3_39 : decode cJ29_copyOf_3 39 = .ok (.areturn, 1) := dk_176 (dk_at dksJ29_copyOf_3_1 15 rfl rfl)
abbrev cJ29_fill : ByteArray := prog_65_method_110_code
def yJ29_fill : MethodName := ⟨RJ29, "fill", "([BIIB)V"⟩
def dkwJ29_fill_1 : List UInt8 := [167, 255, 242, 177]
abbrev dktJ29_fill_1 : List UInt8 := dkwJ29_fill_1 ++ []
def dkwJ29_fill_0 : List UInt8 := [42, 190, 27, 28, 184, 0, 13, 27, 54, 4, 21, 4, 28, 162, 0, 14, 42, 21, 4, 29, 84, 132, 4, 1]
abbrev dktJ29_fill_0 : List UInt8 := dkwJ29_fill_0 ++ dktJ29_fill_1
theorem dksJ29_fill_0 : cJ29_fill.data.toList.drop 0 = dktJ29_fill_0 := by decide +kernel
theorem dksJ29_fill_1 : cJ29_fill.data.toList.drop 24 = dktJ29_fill_1 := dk_seg dksJ29_fill_0 24 rfl rfl
theorem dJ29_fill_0 : decode cJ29_fill 0 = .ok (.aload_n 0, 1) := dk_42 (dk_at dksJ29_fill_0 0 rfl rfl)
theorem dJ29_fill_1 : decode cJ29_fill 1 = .ok (.arraylength, 1) := dk_190 (dk_at dksJ29_fill_0 1 rfl rfl)
theorem dJ29_fill_2 : decode cJ29_fill 2 = .ok (.iload_n 1, 1) := dk_27 (dk_at dksJ29_fill_0 2 rfl rfl)
theorem dJ29_fill_3 : decode cJ29_fill 3 = .ok (.iload_n 2, 1) := dk_28 (dk_at dksJ29_fill_0 3 rfl rfl)
theorem dJ29_fill_4 : decode cJ29_fill 4 = .ok (.invokestatic 13, 3) := dk_184 0 13 (dk_at dksJ29_fill_0 4 rfl rfl)
theorem dJ29_fill_7 : decode cJ29_fill 7 = .ok (.iload_n 1, 1) := dk_27 (dk_at dksJ29_fill_0 7 rfl rfl)
theorem dJ29_fill_8 : decode cJ29_fill 8 = .ok (.istore 4, 2) := dk_54 4 (dk_at dksJ29_fill_0 8 rfl rfl)
theorem dJ29_fill_10 : decode cJ29_fill 10 = .ok (.iload 4, 2) := dk_21 4 (dk_at dksJ29_fill_0 10 rfl rfl)
theorem dJ29_fill_12 : decode cJ29_fill 12 = .ok (.iload_n 2, 1) := dk_28 (dk_at dksJ29_fill_0 12 rfl rfl)
theorem dJ29_fill_13 : decode cJ29_fill 13 = .ok (.if_icmp .ge 14, 3) := dk_162 0 14 (dk_at dksJ29_fill_0 13 rfl rfl)
theorem dJ29_fill_16 : decode cJ29_fill 16 = .ok (.aload_n 0, 1) := dk_42 (dk_at dksJ29_fill_0 16 rfl rfl)
theorem dJ29_fill_17 : decode cJ29_fill 17 = .ok (.iload 4, 2) := dk_21 4 (dk_at dksJ29_fill_0 17 rfl rfl)
theorem dJ29_fill_19 : decode cJ29_fill 19 = .ok (.iload_n 3, 1) := dk_29 (dk_at dksJ29_fill_0 19 rfl rfl)
theorem dJ29_fill_20 : decode cJ29_fill 20 = .ok (.bastore, 1) := dk_84 (dk_at dksJ29_fill_0 20 rfl rfl)
theorem dJ29_fill_21 : decode cJ29_fill 21 = .ok (.iinc 4 1, 3) := dk_132 4 1 (dk_at dksJ29_fill_0 21 rfl rfl)
theorem dJ29_fill_24 : decode cJ29_fill 24 = .ok (.goto (-14), 3) := dk_167 255 242 (dk_at dksJ29_fill_1 0 rfl rfl)
theorem dJ29_fill_27 : decode cJ29_fill 27 = .ok (.return_, 1) := dk_177 (dk_at dksJ29_fill_1 3 rfl rfl)
abbrev cJ29_rangeCheck : ByteArray := prog_65_method_30_code
def yJ29_rangeCheck : MethodName := ⟨RJ29, "rangeCheck", "(III)V"⟩
def dkwJ29_rangeCheck_3 : List UInt8 := [183, 0, 70, 191, 177]
abbrev dktJ29_rangeCheck_3 : List UInt8 := dkwJ29_rangeCheck_3 ++ []
def dkwJ29_rangeCheck_2 : List UInt8 := [27, 156, 0, 12, 187, 0, 68, 89, 27, 183, 0, 70, 191, 28, 26, 164, 0, 12, 187, 0, 68, 89, 28]
abbrev dktJ29_rangeCheck_2 : List UInt8 := dkwJ29_rangeCheck_2 ++ dktJ29_rangeCheck_3
def dkwJ29_rangeCheck_1 : List UInt8 := [182, 0, 54, 18, 57, 182, 0, 50, 28, 182, 0, 54, 18, 59, 182, 0, 50, 182, 0, 61, 183, 0, 65, 191]
abbrev dktJ29_rangeCheck_1 : List UInt8 := dkwJ29_rangeCheck_1 ++ dktJ29_rangeCheck_2
def dkwJ29_rangeCheck_0 : List UInt8 := [27, 28, 164, 0, 44, 187, 0, 43, 89, 187, 0, 45, 89, 183, 0, 47, 18, 48, 182, 0, 50, 27]
abbrev dktJ29_rangeCheck_0 : List UInt8 := dkwJ29_rangeCheck_0 ++ dktJ29_rangeCheck_1
theorem dksJ29_rangeCheck_0 : cJ29_rangeCheck.data.toList.drop 0 = dktJ29_rangeCheck_0 := by decide +kernel
theorem dksJ29_rangeCheck_1 : cJ29_rangeCheck.data.toList.drop 22 = dktJ29_rangeCheck_1 := dk_seg dksJ29_rangeCheck_0 22 rfl rfl
theorem dksJ29_rangeCheck_2 : cJ29_rangeCheck.data.toList.drop 46 = dktJ29_rangeCheck_2 := dk_seg dksJ29_rangeCheck_1 24 rfl rfl
theorem dksJ29_rangeCheck_3 : cJ29_rangeCheck.data.toList.drop 69 = dktJ29_rangeCheck_3 := dk_seg dksJ29_rangeCheck_2 23 rfl rfl
theorem dJ29_rangeCheck_0 : decode cJ29_rangeCheck 0 = .ok (.iload_n 1, 1) := dk_27 (dk_at dksJ29_rangeCheck_0 0 rfl rfl)
theorem dJ29_rangeCheck_1 : decode cJ29_rangeCheck 1 = .ok (.iload_n 2, 1) := dk_28 (dk_at dksJ29_rangeCheck_0 1 rfl rfl)
theorem dJ29_rangeCheck_2 : decode cJ29_rangeCheck 2 = .ok (.if_icmp .le 44, 3) := dk_164 0 44 (dk_at dksJ29_rangeCheck_0 2 rfl rfl)
theorem dJ29_rangeCheck_5 : decode cJ29_rangeCheck 5 = .ok (.new 43, 3) := dk_187 0 43 (dk_at dksJ29_rangeCheck_0 5 rfl rfl)
theorem dJ29_rangeCheck_8 : decode cJ29_rangeCheck 8 = .ok (.dup, 1) := dk_89 (dk_at dksJ29_rangeCheck_0 8 rfl rfl)
theorem dJ29_rangeCheck_9 : decode cJ29_rangeCheck 9 = .ok (.new 45, 3) := dk_187 0 45 (dk_at dksJ29_rangeCheck_0 9 rfl rfl)
theorem dJ29_rangeCheck_12 : decode cJ29_rangeCheck 12 = .ok (.dup, 1) := dk_89 (dk_at dksJ29_rangeCheck_0 12 rfl rfl)
theorem dJ29_rangeCheck_13 : decode cJ29_rangeCheck 13 = .ok (.invokespecial 47, 3) := dk_183 0 47 (dk_at dksJ29_rangeCheck_0 13 rfl rfl)
theorem dJ29_rangeCheck_16 : decode cJ29_rangeCheck 16 = .ok (.ldc 48, 2) := dk_18 48 (dk_at dksJ29_rangeCheck_0 16 rfl rfl)
theorem dJ29_rangeCheck_18 : decode cJ29_rangeCheck 18 = .ok (.invokevirtual 50, 3) := dk_182 0 50 (dk_at dksJ29_rangeCheck_0 18 rfl rfl)
theorem dJ29_rangeCheck_21 : decode cJ29_rangeCheck 21 = .ok (.iload_n 1, 1) := dk_27 (dk_at dksJ29_rangeCheck_0 21 rfl rfl)
theorem dJ29_rangeCheck_22 : decode cJ29_rangeCheck 22 = .ok (.invokevirtual 54, 3) := dk_182 0 54 (dk_at dksJ29_rangeCheck_1 0 rfl rfl)
theorem dJ29_rangeCheck_25 : decode cJ29_rangeCheck 25 = .ok (.ldc 57, 2) := dk_18 57 (dk_at dksJ29_rangeCheck_1 3 rfl rfl)
theorem dJ29_rangeCheck_27 : decode cJ29_rangeCheck 27 = .ok (.invokevirtual 50, 3) := dk_182 0 50 (dk_at dksJ29_rangeCheck_1 5 rfl rfl)
theorem dJ29_rangeCheck_30 : decode cJ29_rangeCheck 30 = .ok (.iload_n 2, 1) := dk_28 (dk_at dksJ29_rangeCheck_1 8 rfl rfl)
theorem dJ29_rangeCheck_31 : decode cJ29_rangeCheck 31 = .ok (.invokevirtual 54, 3) := dk_182 0 54 (dk_at dksJ29_rangeCheck_1 9 rfl rfl)
theorem dJ29_rangeCheck_34 : decode cJ29_rangeCheck 34 = .ok (.ldc 59, 2) := dk_18 59 (dk_at dksJ29_rangeCheck_1 12 rfl rfl)
theorem dJ29_rangeCheck_36 : decode cJ29_rangeCheck 36 = .ok (.invokevirtual 50, 3) := dk_182 0 50 (dk_at dksJ29_rangeCheck_1 14 rfl rfl)
theorem dJ29_rangeCheck_39 : decode cJ29_rangeCheck 39 = .ok (.invokevirtual 61, 3) := dk_182 0 61 (dk_at dksJ29_rangeCheck_1 17 rfl rfl)
theorem dJ29_rangeCheck_42 : decode cJ29_rangeCheck 42 = .ok (.invokespecial 65, 3) := dk_183 0 65 (dk_at dksJ29_rangeCheck_1 20 rfl rfl)
theorem dJ29_rangeCheck_45 : decode cJ29_rangeCheck 45 = .ok (.athrow, 1) := dk_191 (dk_at dksJ29_rangeCheck_1 23 rfl rfl)
theorem dJ29_rangeCheck_46 : decode cJ29_rangeCheck 46 = .ok (.iload_n 1, 1) := dk_27 (dk_at dksJ29_rangeCheck_2 0 rfl rfl)
theorem dJ29_rangeCheck_47 : decode cJ29_rangeCheck 47 = .ok (.ifCond .ge 12, 3) := dk_156 0 12 (dk_at dksJ29_rangeCheck_2 1 rfl rfl)
theorem dJ29_rangeCheck_50 : decode cJ29_rangeCheck 50 = .ok (.new 68, 3) := dk_187 0 68 (dk_at dksJ29_rangeCheck_2 4 rfl rfl)
theorem dJ29_rangeCheck_53 : decode cJ29_rangeCheck 53 = .ok (.dup, 1) := dk_89 (dk_at dksJ29_rangeCheck_2 7 rfl rfl)
theorem dJ29_rangeCheck_54 : decode cJ29_rangeCheck 54 = .ok (.iload_n 1, 1) := dk_27 (dk_at dksJ29_rangeCheck_2 8 rfl rfl)
theorem dJ29_rangeCheck_55 : decode cJ29_rangeCheck 55 = .ok (.invokespecial 70, 3) := dk_183 0 70 (dk_at dksJ29_rangeCheck_2 9 rfl rfl)
theorem dJ29_rangeCheck_58 : decode cJ29_rangeCheck 58 = .ok (.athrow, 1) := dk_191 (dk_at dksJ29_rangeCheck_2 12 rfl rfl)
theorem dJ29_rangeCheck_59 : decode cJ29_rangeCheck 59 = .ok (.iload_n 2, 1) := dk_28 (dk_at dksJ29_rangeCheck_2 13 rfl rfl)
theorem dJ29_rangeCheck_60 : decode cJ29_rangeCheck 60 = .ok (.iload_n 0, 1) := dk_26 (dk_at dksJ29_rangeCheck_2 14 rfl rfl)
theorem dJ29_rangeCheck_61 : decode cJ29_rangeCheck 61 = .ok (.if_icmp .le 12, 3) := dk_164 0 12 (dk_at dksJ29_rangeCheck_2 15 rfl rfl)
theorem dJ29_rangeCheck_64 : decode cJ29_rangeCheck 64 = .ok (.new 68, 3) := dk_187 0 68 (dk_at dksJ29_rangeCheck_2 18 rfl rfl)
theorem dJ29_rangeCheck_67 : decode cJ29_rangeCheck 67 = .ok (.dup, 1) := dk_89 (dk_at dksJ29_rangeCheck_2 21 rfl rfl)
theorem dJ29_rangeCheck_68 : decode cJ29_rangeCheck 68 = .ok (.iload_n 2, 1) := dk_28 (dk_at dksJ29_rangeCheck_2 22 rfl rfl)
theorem dJ29_rangeCheck_69 : decode cJ29_rangeCheck 69 = .ok (.invokespecial 70, 3) := dk_183 0 70 (dk_at dksJ29_rangeCheck_3 0 rfl rfl)
theorem dJ29_rangeCheck_72 : decode cJ29_rangeCheck 72 = .ok (.athrow, 1) := dk_191 (dk_at dksJ29_rangeCheck_3 3 rfl rfl)
theorem dJ29_rangeCheck_73 : decode cJ29_rangeCheck 73 = .ok (.return_, 1) := dk_177 (dk_at dksJ29_rangeCheck_3 4 rfl rfl)
theorem q162 : (Jvm.Cond.initialized "java/util/Arrays") ∈ lw_all := lw_g (lw_at lw_m1 38 rfl) rfl
theorem q584 : (Jvm.Cond.static ({ cls := "java/util/Arrays", name := "copyOf", desc := "([BI)[B" } : Jvm.MethodName)) ∈ lw_all := lw_g (lw_at lw_m2 220 rfl) rfl
theorem q585 : (Jvm.Cond.code ({ cls := "java/util/Arrays", name := "copyOf", desc := "([BI)[B" } : Jvm.MethodName) prog_65_method_121_code (3 : Nat) (Option.some (Jvm.ClassFile.FieldType.array Jvm.ClassFile.FieldType.byte))) ∈ lw_all := lw_g (lw_at lw_m2 221 rfl) rfl
theorem q586 : (Jvm.Cond.methodLink "java/util/Arrays" (310 : Nat) ({ cls := "[B", name := "clone", desc := "()Ljava/lang/Object;" } : Jvm.MethodName)) ∈ lw_all := lw_g (lw_at lw_m2 222 rfl) rfl
theorem q592 : (Jvm.Cond.classLink "java/util/Arrays" (311 : Nat) "[B") ∈ lw_all := lw_g (lw_at lw_m2 228 rfl) rfl
theorem q593 : (Jvm.Cond.methodLink "java/util/Arrays" (304 : Nat) ({ cls := "java/lang/Math", name := "min", desc := "(II)I" } : Jvm.MethodName)) ∈ lw_all := lw_g (lw_at lw_m2 229 rfl) rfl
theorem q596 : (Jvm.Cond.methodLink "java/util/Arrays" (150 : Nat) ({ cls := "java/lang/System", name := "arraycopy", desc := "(Ljava/lang/Object;ILjava/lang/Object;II)V" } : Jvm.MethodName)) ∈ lw_all := lw_g (lw_at lw_m2 232 rfl) rfl
theorem q727 : (Jvm.Cond.static ({ cls := "java/util/Arrays", name := "copyOfRange", desc := "([BII)[B" } : Jvm.MethodName)) ∈ lw_all := lw_g (lw_at lw_m3 123 rfl) rfl
theorem q728 : (Jvm.Cond.code ({ cls := "java/util/Arrays", name := "copyOfRange", desc := "([BII)[B" } : Jvm.MethodName) prog_65_method_132_code (3 : Nat) (Option.some (Jvm.ClassFile.FieldType.array Jvm.ClassFile.FieldType.byte))) ∈ lw_all := lw_g (lw_at lw_m3 124 rfl) rfl
theorem q729 : (Jvm.Cond.methodLink "java/util/Arrays" (339 : Nat) ({ cls := "java/util/Arrays", name := "copyOfRangeByte", desc := "([BII)[B" } : Jvm.MethodName)) ∈ lw_all := lw_g (lw_at lw_m3 125 rfl) rfl
theorem q730 : (Jvm.Cond.static ({ cls := "java/util/Arrays", name := "copyOfRangeByte", desc := "([BII)[B" } : Jvm.MethodName)) ∈ lw_all := lw_g (lw_at lw_m3 126 rfl) rfl
theorem q731 : (Jvm.Cond.code ({ cls := "java/util/Arrays", name := "copyOfRangeByte", desc := "([BII)[B" } : Jvm.MethodName) prog_65_method_133_code (5 : Nat) (Option.some (Jvm.ClassFile.FieldType.array Jvm.ClassFile.FieldType.byte))) ∈ lw_all := lw_g (lw_at lw_m3 127 rfl) rfl
theorem q732 : (Jvm.Cond.methodLink "java/util/Arrays" (343 : Nat) ({ cls := "java/util/Arrays", name := "checkLength", desc := "(II)V" } : Jvm.MethodName)) ∈ lw_all := lw_g (lw_at lw_m3 128 rfl) rfl
theorem q733 : (Jvm.Cond.static ({ cls := "java/util/Arrays", name := "checkLength", desc := "(II)V" } : Jvm.MethodName)) ∈ lw_all := lw_g (lw_at lw_m3 129 rfl) rfl
theorem q734 : (Jvm.Cond.code ({ cls := "java/util/Arrays", name := "checkLength", desc := "(II)V" } : Jvm.MethodName) prog_65_method_131_code (2 : Nat) (Option.none : Option Jvm.ClassFile.FieldType)) ∈ lw_all := lw_g (lw_at lw_m3 130 rfl) rfl
theorem q735 : (Jvm.Cond.classLink "java/util/Arrays" (43 : Nat) "java/lang/IllegalArgumentException") ∈ lw_all := lw_g (lw_at lw_m3 131 rfl) rfl
theorem q744 : (Jvm.Cond.classLink "java/util/Arrays" (45 : Nat) "java/lang/StringBuilder") ∈ lw_all := lw_g (lw_at lw_m3 140 rfl) rfl
theorem q745 : (Jvm.Cond.methodLink "java/util/Arrays" (47 : Nat) ({ cls := "java/lang/StringBuilder", name := "<init>", desc := "()V" } : Jvm.MethodName)) ∈ lw_all := lw_g (lw_at lw_m3 141 rfl) rfl
theorem q746 : (Jvm.Cond.methodLink "java/util/Arrays" (54 : Nat) ({ cls := "java/lang/StringBuilder", name := "append", desc := "(I)Ljava/lang/StringBuilder;" } : Jvm.MethodName)) ∈ lw_all := lw_g (lw_at lw_m3 142 rfl) rfl
theorem q747 : (Jvm.Cond.stringRef "java/util/Arrays" (337 : Nat) " > ") ∈ lw_tbl := lw_at lw_m3 143 rfl
theorem q748 : (Jvm.Cond.methodLink "java/util/Arrays" (50 : Nat) ({ cls := "java/lang/StringBuilder", name := "append", desc := "(Ljava/lang/String;)Ljava/lang/StringBuilder;" } : Jvm.MethodName)) ∈ lw_all := lw_g (lw_at lw_m3 144 rfl) rfl
theorem q749 : (Jvm.Cond.methodLink "java/util/Arrays" (61 : Nat) ({ cls := "java/lang/StringBuilder", name := "toString", desc := "()Ljava/lang/String;" } : Jvm.MethodName)) ∈ lw_all := lw_g (lw_at lw_m3 145 rfl) rfl
theorem q750 : (Jvm.Cond.methodLink "java/util/Arrays" (65 : Nat) ({ cls := "java/lang/IllegalArgumentException", name := "<init>", desc := "(Ljava/lang/String;)V" } : Jvm.MethodName)) ∈ lw_all := lw_g (lw_at lw_m3 146 rfl) rfl
theorem q914 : (Jvm.Cond.static ({ cls := "java/util/Arrays", name := "copyOf", desc := "([Ljava/lang/Object;I)[Ljava/lang/Object;" } : Jvm.MethodName)) ∈ lw_all := lw_g (lw_at lw_m4 70 rfl) rfl
theorem q915 : (Jvm.Cond.code ({ cls := "java/util/Arrays", name := "copyOf", desc := "([Ljava/lang/Object;I)[Ljava/lang/Object;" } : Jvm.MethodName) prog_65_method_119_code (2 : Nat) (Option.some (Jvm.ClassFile.FieldType.array (Jvm.ClassFile.FieldType.object "java/lang/Object")))) ∈ lw_all := lw_g (lw_at lw_m4 71 rfl) rfl
theorem q916 : (Jvm.Cond.methodLink "java/util/Arrays" (86 : Nat) ({ cls := "java/lang/Object", name := "getClass", desc := "()Ljava/lang/Class;" } : Jvm.MethodName)) ∈ lw_all := lw_g (lw_at lw_m4 72 rfl) rfl
theorem q965 : (Jvm.Cond.methodLink "java/util/Arrays" (300 : Nat) ({ cls := "java/util/Arrays", name := "copyOf", desc := "([Ljava/lang/Object;ILjava/lang/Class;)[Ljava/lang/Object;" } : Jvm.MethodName)) ∈ lw_all := lw_g (lw_at lw_m4 121 rfl) rfl
theorem q966 : (Jvm.Cond.static ({ cls := "java/util/Arrays", name := "copyOf", desc := "([Ljava/lang/Object;ILjava/lang/Class;)[Ljava/lang/Object;" } : Jvm.MethodName)) ∈ lw_all := lw_g (lw_at lw_m4 122 rfl) rfl
theorem q967 : (Jvm.Cond.code ({ cls := "java/util/Arrays", name := "copyOf", desc := "([Ljava/lang/Object;ILjava/lang/Class;)[Ljava/lang/Object;" } : Jvm.MethodName) prog_65_method_120_code (4 : Nat) (Option.some (Jvm.ClassFile.FieldType.array (Jvm.ClassFile.FieldType.object "java/lang/Object")))) ∈ lw_all := lw_g (lw_at lw_m4 123 rfl) rfl
theorem q968 : (Jvm.Cond.classLink "java/util/Arrays" (110 : Nat) "[Ljava/lang/Object;") ∈ lw_all := lw_g (lw_at lw_m4 124 rfl) rfl
theorem q969 : (Jvm.Cond.classLink "java/util/Arrays" (2 : Nat) "java/lang/Object") ∈ lw_all := lw_g (lw_at lw_m4 125 rfl) rfl
theorem q3276 : (Jvm.Cond.static ({ cls := "java/util/Arrays", name := "fill", desc := "([BIIB)V" } : Jvm.MethodName)) ∈ lw_all := lw_g (lw_at lw_m14 32 rfl) rfl
theorem q3277 : (Jvm.Cond.code ({ cls := "java/util/Arrays", name := "fill", desc := "([BIIB)V" } : Jvm.MethodName) prog_65_method_110_code (5 : Nat) (Option.none : Option Jvm.ClassFile.FieldType)) ∈ lw_all := lw_g (lw_at lw_m14 33 rfl) rfl
theorem q3278 : (Jvm.Cond.methodLink "java/util/Arrays" (13 : Nat) ({ cls := "java/util/Arrays", name := "rangeCheck", desc := "(III)V" } : Jvm.MethodName)) ∈ lw_all := lw_g (lw_at lw_m14 34 rfl) rfl
theorem q3279 : (Jvm.Cond.static ({ cls := "java/util/Arrays", name := "rangeCheck", desc := "(III)V" } : Jvm.MethodName)) ∈ lw_all := lw_g (lw_at lw_m14 35 rfl) rfl
theorem q3280 : (Jvm.Cond.code ({ cls := "java/util/Arrays", name := "rangeCheck", desc := "(III)V" } : Jvm.MethodName) prog_65_method_30_code (3 : Nat) (Option.none : Option Jvm.ClassFile.FieldType)) ∈ lw_all := lw_g (lw_at lw_m14 36 rfl) rfl
theorem q3281 : (Jvm.Cond.stringRef "java/util/Arrays" (48 : Nat) "fromIndex(") ∈ lw_tbl := lw_at lw_m14 37 rfl
theorem q3282 : (Jvm.Cond.stringRef "java/util/Arrays" (57 : Nat) ") > toIndex(") ∈ lw_tbl := lw_at lw_m14 38 rfl
theorem q3283 : (Jvm.Cond.stringRef "java/util/Arrays" (59 : Nat) ")") ∈ lw_tbl := lw_at lw_m14 39 rfl
theorem q3284 : (Jvm.Cond.classLink "java/util/Arrays" (68 : Nat) "java/lang/ArrayIndexOutOfBoundsException") ∈ lw_all := lw_g (lw_at lw_m14 40 rfl) rfl
theorem q3285 : (Jvm.Cond.methodLink "java/util/Arrays" (70 : Nat) ({ cls := "java/lang/ArrayIndexOutOfBoundsException", name := "<init>", desc := "(I)V" } : Jvm.MethodName)) ∈ lw_all := lw_g (lw_at lw_m14 41 rfl) rfl

/-! java/lang/IllegalArgumentException -/
set_option maxRecDepth 100000
def RJ30 : String := "java/lang/IllegalArgumentException"
def TJ30 : u_T := fun k => match k with
  | 0 => ("java/lang/Throwable", "cause", "Ljava/lang/Throwable;", false)
  | 1 => ("java/lang/Throwable", "stackTrace", "[Ljava/lang/StackTraceElement;", false)
  | 2 => ("java/lang/Throwable", "suppressedExceptions", "Ljava/util/List;", false)
  | 3 => ("java/lang/Throwable", "detailMessage", "Ljava/lang/String;", false)
  | 4 => ("java/lang/Throwable", "backtrace", "Ljava/lang/Object;", false)
  | _ => ("java/lang/Throwable", "depth", "I", false)
def tyJ30 : Nat → FieldType := fun k => match k with
  | 0 => .object "java/lang/Throwable"
  | 1 => .array (.object "java/lang/StackTraceElement")
  | 2 => .object "java/util/List"
  | 3 => .object "java/lang/String"
  | 4 => .object "java/lang/Object"
  | _ => .int
abbrev wsJ300 : List Cond := u_ws RJ30 TJ30 6
theorem nmJ30 : ∀ a, a < 6 → ∀ b, b < 6 → a ≠ b → (TJ30 a).2.1 ≠ (TJ30 b).2.1 := by decide +kernel
theorem tyJ30_ok : ∀ k, k < 6 → parseFieldDescriptor (TJ30 k).2.2.1 = some (tyJ30 k) := by decide +kernel
abbrev cJ30_init : ByteArray := prog_31_method_2_code
def yJ30_init : MethodName := ⟨RJ30, "<init>", "(Ljava/lang/String;)V"⟩
def dkwJ30_init_0 : List UInt8 := [42, 43, 183, 0, 7, 177]
abbrev dktJ30_init_0 : List UInt8 := dkwJ30_init_0 ++ []
theorem dksJ30_init_0 : cJ30_init.data.toList.drop 0 = dktJ30_init_0 := by decide +kernel
theorem dJ30_init_0 : decode cJ30_init 0 = .ok (.aload_n 0, 1) := dk_42 (dk_at dksJ30_init_0 0 rfl rfl)
theorem dJ30_init_1 : decode cJ30_init 1 = .ok (.aload_n 1, 1) := dk_43 (dk_at dksJ30_init_0 1 rfl rfl)
theorem dJ30_init_2 : decode cJ30_init 2 = .ok (.invokespecial 7, 3) := dk_183 0 7 (dk_at dksJ30_init_0 2 rfl rfl)
theorem dJ30_init_5 : decode cJ30_init 5 = .ok (.return_, 1) := dk_177 (dk_at dksJ30_init_0 5 rfl rfl)
abbrev cJ30_init_2 : ByteArray := prog_31_method_1_code
def yJ30_init_2 : MethodName := ⟨RJ30, "<init>", "()V"⟩
theorem dJ30_init_2_0 : decode cJ30_init_2 0 = .ok (.aload_n 0, 1) := by decide +kernel
theorem dJ30_init_2_1 : decode cJ30_init_2 1 = .ok (.invokespecial 1, 3) := by decide +kernel
theorem dJ30_init_2_4 : decode cJ30_init_2 4 = .ok (.return_, 1) := by decide +kernel
theorem q164 : (Jvm.Cond.initialized "java/lang/IllegalArgumentException") ∈ lw_all := lw_g (lw_at lw_m1 40 rfl) rfl
theorem q535 : (Jvm.Cond.selects "java/lang/IllegalArgumentException" ({ cls := "java/lang/Throwable", name := "fillInStackTrace", desc := "()Ljava/lang/Throwable;" } : Jvm.MethodName) ({ cls := "java/lang/Throwable", name := "fillInStackTrace", desc := "()Ljava/lang/Throwable;" } : Jvm.MethodName)) ∈ lw_all := lw_g (lw_at lw_m2 171 rfl) rfl
theorem q736 : (Jvm.Cond.instantiable "java/lang/IllegalArgumentException" (6 : Nat)) ∈ lw_all := lw_g (lw_at lw_m3 132 rfl) rfl
theorem q737 : (Jvm.Cond.castable "java/lang/IllegalArgumentException" "java/lang/IllegalArgumentException") ∈ lw_tbl := lw_at lw_m3 133 rfl
theorem q738 : (Jvm.Cond.selects "java/lang/IllegalArgumentException" ({ cls := "java/lang/Throwable", name := "fillInStackTrace", desc := "(I)Ljava/lang/Throwable;" } : Jvm.MethodName) ({ cls := "java/lang/Throwable", name := "fillInStackTrace", desc := "(I)Ljava/lang/Throwable;" } : Jvm.MethodName)) ∈ lw_all := lw_g (lw_at lw_m3 134 rfl) rfl
theorem q739 : (Jvm.Cond.lays "java/lang/IllegalArgumentException" "java/lang/Throwable" "cause" "Ljava/lang/Throwable;") ∈ lw_all := lw_g (lw_at lw_m3 135 rfl) rfl
theorem q740 : (Jvm.Cond.lays "java/lang/IllegalArgumentException" "java/lang/Throwable" "stackTrace" "[Ljava/lang/StackTraceElement;") ∈ lw_all := lw_g (lw_at lw_m3 136 rfl) rfl
theorem q741 : (Jvm.Cond.lays "java/lang/IllegalArgumentException" "java/lang/Throwable" "suppressedExceptions" "Ljava/util/List;") ∈ lw_all := lw_g (lw_at lw_m3 137 rfl) rfl
theorem q742 : (Jvm.Cond.lays "java/lang/IllegalArgumentException" "java/lang/Throwable" "detailMessage" "Ljava/lang/String;") ∈ lw_all := lw_g (lw_at lw_m3 138 rfl) rfl
theorem q743 : (Jvm.Cond.lays "java/lang/IllegalArgumentException" "java/lang/Throwable" "backtrace" "Ljava/lang/Object;") ∈ lw_all := lw_g (lw_at lw_m3 139 rfl) rfl
theorem q751 : (Jvm.Cond.instanceMethod ({ cls := "java/lang/IllegalArgumentException", name := "<init>", desc := "(Ljava/lang/String;)V" } : Jvm.MethodName)) ∈ lw_all := lw_g (lw_at lw_m3 147 rfl) rfl
theorem q752 : (Jvm.Cond.code ({ cls := "java/lang/IllegalArgumentException", name := "<init>", desc := "(Ljava/lang/String;)V" } : Jvm.MethodName) prog_31_method_2_code (2 : Nat) (Option.none : Option Jvm.ClassFile.FieldType)) ∈ lw_all := lw_g (lw_at lw_m3 148 rfl) rfl
theorem q753 : (Jvm.Cond.methodLink "java/lang/IllegalArgumentException" (7 : Nat) ({ cls := "java/lang/RuntimeException", name := "<init>", desc := "(Ljava/lang/String;)V" } : Jvm.MethodName)) ∈ lw_all := lw_g (lw_at lw_m3 149 rfl) rfl
theorem q771 : (Jvm.Cond.lays "java/lang/IllegalArgumentException" "java/lang/Throwable" "depth" "I") ∈ lw_all := lw_g (lw_at lw_m3 167 rfl) rfl
theorem q774 : (Jvm.Cond.superclass "java/lang/IllegalArgumentException" "java/lang/RuntimeException") ∈ lw_all := lw_g (lw_at lw_m3 170 rfl) rfl
theorem q861 : (Jvm.Cond.instanceMethod ({ cls := "java/lang/IllegalArgumentException", name := "<init>", desc := "()V" } : Jvm.MethodName)) ∈ lw_all := lw_g (lw_at lw_m4 17 rfl) rfl
theorem q862 : (Jvm.Cond.code ({ cls := "java/lang/IllegalArgumentException", name := "<init>", desc := "()V" } : Jvm.MethodName) prog_31_method_1_code (1 : Nat) (Option.none : Option Jvm.ClassFile.FieldType)) ∈ lw_all := lw_g (lw_at lw_m4 18 rfl) rfl
theorem q863 : (Jvm.Cond.methodLink "java/lang/IllegalArgumentException" (1 : Nat) ({ cls := "java/lang/RuntimeException", name := "<init>", desc := "()V" } : Jvm.MethodName)) ∈ lw_all := lw_g (lw_at lw_m4 19 rfl) rfl
theorem q938 : (Jvm.Cond.selects "java/lang/IllegalArgumentException" ({ cls := "java/lang/Object", name := "getClass", desc := "()Ljava/lang/Class;" } : Jvm.MethodName) ({ cls := "java/lang/Object", name := "getClass", desc := "()Ljava/lang/Class;" } : Jvm.MethodName)) ∈ lw_all := lw_g (lw_at lw_m4 94 rfl) rfl
theorem q1444 : (Jvm.Cond.selects "java/lang/IllegalArgumentException" ({ cls := "java/lang/Throwable", name := "toString", desc := "()Ljava/lang/String;" } : Jvm.MethodName) ({ cls := "java/lang/Throwable", name := "toString", desc := "()Ljava/lang/String;" } : Jvm.MethodName)) ∈ lw_all := lw_g (lw_at lw_m6 120 rfl) rfl
theorem q1460 : (Jvm.Cond.selects "java/lang/IllegalArgumentException" ({ cls := "java/lang/Throwable", name := "getLocalizedMessage", desc := "()Ljava/lang/String;" } : Jvm.MethodName) ({ cls := "java/lang/Throwable", name := "getLocalizedMessage", desc := "()Ljava/lang/String;" } : Jvm.MethodName)) ∈ lw_all := lw_g (lw_at lw_m6 136 rfl) rfl
theorem q1475 : (Jvm.Cond.selects "java/lang/IllegalArgumentException" ({ cls := "java/lang/Throwable", name := "getMessage", desc := "()Ljava/lang/String;" } : Jvm.MethodName) ({ cls := "java/lang/Throwable", name := "getMessage", desc := "()Ljava/lang/String;" } : Jvm.MethodName)) ∈ lw_all := lw_g (lw_at lw_m6 151 rfl) rfl
theorem q2867 : (Jvm.Cond.selects "java/lang/IllegalArgumentException" ({ cls := "java/lang/Object", name := "toString", desc := "()Ljava/lang/String;" } : Jvm.MethodName) ({ cls := "java/lang/Throwable", name := "toString", desc := "()Ljava/lang/String;" } : Jvm.MethodName)) ∈ lw_all := lw_g (lw_at lw_m12 103 rfl) rfl
theorem q4046 : (Jvm.Cond.castable "java/lang/IllegalArgumentException" "java/lang/Object") ∈ lw_tbl := lw_at lw_m17 82 rfl
theorem in_J30 : ∀ w ∈ wsJ300, w ∈ lw_all := lw_in wsJ300 [739, 740, 741, 742, 743, 771] (by decide +kernel) (by decide +kernel)

/-! java/util/NoSuchElementException -/
set_option maxRecDepth 100000
def RJ31 : String := "java/util/NoSuchElementException"
def TJ31 : u_T := fun k => match k with
  | 0 => ("java/lang/Throwable", "cause", "Ljava/lang/Throwable;", false)
  | 1 => ("java/lang/Throwable", "stackTrace", "[Ljava/lang/StackTraceElement;", false)
  | 2 => ("java/lang/Throwable", "suppressedExceptions", "Ljava/util/List;", false)
  | 3 => ("java/lang/Throwable", "detailMessage", "Ljava/lang/String;", false)
  | 4 => ("java/lang/Throwable", "backtrace", "Ljava/lang/Object;", false)
  | _ => ("java/lang/Throwable", "depth", "I", false)
def tyJ31 : Nat → FieldType := fun k => match k with
  | 0 => .object "java/lang/Throwable"
  | 1 => .array (.object "java/lang/StackTraceElement")
  | 2 => .object "java/util/List"
  | 3 => .object "java/lang/String"
  | 4 => .object "java/lang/Object"
  | _ => .int
abbrev wsJ310 : List Cond := u_ws RJ31 TJ31 6
theorem nmJ31 : ∀ a, a < 6 → ∀ b, b < 6 → a ≠ b → (TJ31 a).2.1 ≠ (TJ31 b).2.1 := by decide +kernel
theorem tyJ31_ok : ∀ k, k < 6 → parseFieldDescriptor (TJ31 k).2.2.1 = some (tyJ31 k) := by decide +kernel
abbrev cJ31_init : ByteArray := prog_79_method_3_code
def yJ31_init : MethodName := ⟨RJ31, "<init>", "(Ljava/lang/Throwable;)V"⟩
def dkwJ31_init_0 : List UInt8 := [42, 43, 183, 0, 10, 177]
abbrev dktJ31_init_0 : List UInt8 := dkwJ31_init_0 ++ []
theorem dksJ31_init_0 : cJ31_init.data.toList.drop 0 = dktJ31_init_0 := by decide +kernel
theorem dJ31_init_0 : decode cJ31_init 0 = .ok (.aload_n 0, 1) := dk_42 (dk_at dksJ31_init_0 0 rfl rfl)
theorem dJ31_init_1 : decode cJ31_init 1 = .ok (.aload_n 1, 1) := dk_43 (dk_at dksJ31_init_0 1 rfl rfl)
theorem dJ31_init_2 : decode cJ31_init 2 = .ok (.invokespecial 10, 3) := dk_183 0 10 (dk_at dksJ31_init_0 2 rfl rfl)
theorem dJ31_init_5 : decode cJ31_init 5 = .ok (.return_, 1) := dk_177 (dk_at dksJ31_init_0 5 rfl rfl)
abbrev cJ31_init_2 : ByteArray := prog_79_method_1_code
def yJ31_init_2 : MethodName := ⟨RJ31, "<init>", "()V"⟩
theorem dJ31_init_2_0 : decode cJ31_init_2 0 = .ok (.aload_n 0, 1) := by decide +kernel
theorem dJ31_init_2_1 : decode cJ31_init_2 1 = .ok (.invokespecial 1, 3) := by decide +kernel
theorem dJ31_init_2_4 : decode cJ31_init_2 4 = .ok (.return_, 1) := by decide +kernel
theorem q165 : (Jvm.Cond.initialized "java/util/NoSuchElementException") ∈ lw_all := lw_g (lw_at lw_m1 41 rfl) rfl
theorem q539 : (Jvm.Cond.selects "java/util/NoSuchElementException" ({ cls := "java/lang/Throwable", name := "fillInStackTrace", desc := "()Ljava/lang/Throwable;" } : Jvm.MethodName) ({ cls := "java/lang/Throwable", name := "fillInStackTrace", desc := "()Ljava/lang/Throwable;" } : Jvm.MethodName)) ∈ lw_all := lw_g (lw_at lw_m2 175 rfl) rfl
theorem q956 : (Jvm.Cond.selects "java/util/NoSuchElementException" ({ cls := "java/lang/Object", name := "getClass", desc := "()Ljava/lang/Class;" } : Jvm.MethodName) ({ cls := "java/lang/Object", name := "getClass", desc := "()Ljava/lang/Class;" } : Jvm.MethodName)) ∈ lw_all := lw_g (lw_at lw_m4 112 rfl) rfl
theorem q1416 : (Jvm.Cond.instantiable "java/util/NoSuchElementException" (6 : Nat)) ∈ lw_all := lw_g (lw_at lw_m6 92 rfl) rfl
theorem q1417 : (Jvm.Cond.castable "java/util/NoSuchElementException" "java/util/NoSuchElementException") ∈ lw_tbl := lw_at lw_m6 93 rfl
theorem q1418 : (Jvm.Cond.selects "java/util/NoSuchElementException" ({ cls := "java/lang/Throwable", name := "fillInStackTrace", desc := "(I)Ljava/lang/Throwable;" } : Jvm.MethodName) ({ cls := "java/lang/Throwable", name := "fillInStackTrace", desc := "(I)Ljava/lang/Throwable;" } : Jvm.MethodName)) ∈ lw_all := lw_g (lw_at lw_m6 94 rfl) rfl
theorem q1419 : (Jvm.Cond.lays "java/util/NoSuchElementException" "java/lang/Throwable" "cause" "Ljava/lang/Throwable;") ∈ lw_all := lw_g (lw_at lw_m6 95 rfl) rfl
theorem q1420 : (Jvm.Cond.lays "java/util/NoSuchElementException" "java/lang/Throwable" "stackTrace" "[Ljava/lang/StackTraceElement;") ∈ lw_all := lw_g (lw_at lw_m6 96 rfl) rfl
theorem q1421 : (Jvm.Cond.lays "java/util/NoSuchElementException" "java/lang/Throwable" "suppressedExceptions" "Ljava/util/List;") ∈ lw_all := lw_g (lw_at lw_m6 97 rfl) rfl
theorem q1422 : (Jvm.Cond.lays "java/util/NoSuchElementException" "java/lang/Throwable" "detailMessage" "Ljava/lang/String;") ∈ lw_all := lw_g (lw_at lw_m6 98 rfl) rfl
theorem q1423 : (Jvm.Cond.lays "java/util/NoSuchElementException" "java/lang/Throwable" "backtrace" "Ljava/lang/Object;") ∈ lw_all := lw_g (lw_at lw_m6 99 rfl) rfl
theorem q1425 : (Jvm.Cond.instanceMethod ({ cls := "java/util/NoSuchElementException", name := "<init>", desc := "(Ljava/lang/Throwable;)V" } : Jvm.MethodName)) ∈ lw_all := lw_g (lw_at lw_m6 101 rfl) rfl
theorem q1426 : (Jvm.Cond.code ({ cls := "java/util/NoSuchElementException", name := "<init>", desc := "(Ljava/lang/Throwable;)V" } : Jvm.MethodName) prog_79_method_3_code (2 : Nat) (Option.none : Option Jvm.ClassFile.FieldType)) ∈ lw_all := lw_g (lw_at lw_m6 102 rfl) rfl
theorem q1427 : (Jvm.Cond.methodLink "java/util/NoSuchElementException" (10 : Nat) ({ cls := "java/lang/RuntimeException", name := "<init>", desc := "(Ljava/lang/Throwable;)V" } : Jvm.MethodName)) ∈ lw_all := lw_g (lw_at lw_m6 103 rfl) rfl
theorem q1449 : (Jvm.Cond.selects "java/util/NoSuchElementException" ({ cls := "java/lang/Throwable", name := "toString", desc := "()Ljava/lang/String;" } : Jvm.MethodName) ({ cls := "java/lang/Throwable", name := "toString", desc := "()Ljava/lang/String;" } : Jvm.MethodName)) ∈ lw_all := lw_g (lw_at lw_m6 125 rfl) rfl
theorem q1465 : (Jvm.Cond.selects "java/util/NoSuchElementException" ({ cls := "java/lang/Throwable", name := "getLocalizedMessage", desc := "()Ljava/lang/String;" } : Jvm.MethodName) ({ cls := "java/lang/Throwable", name := "getLocalizedMessage", desc := "()Ljava/lang/String;" } : Jvm.MethodName)) ∈ lw_all := lw_g (lw_at lw_m6 141 rfl) rfl
theorem q1480 : (Jvm.Cond.selects "java/util/NoSuchElementException" ({ cls := "java/lang/Throwable", name := "getMessage", desc := "()Ljava/lang/String;" } : Jvm.MethodName) ({ cls := "java/lang/Throwable", name := "getMessage", desc := "()Ljava/lang/String;" } : Jvm.MethodName)) ∈ lw_all := lw_g (lw_at lw_m6 156 rfl) rfl
theorem q1487 : (Jvm.Cond.lays "java/util/NoSuchElementException" "java/lang/Throwable" "depth" "I") ∈ lw_all := lw_g (lw_at lw_m6 163 rfl) rfl
theorem q1488 : (Jvm.Cond.superclass "java/util/NoSuchElementException" "java/lang/RuntimeException") ∈ lw_all := lw_g (lw_at lw_m6 164 rfl) rfl
theorem q1496 : (Jvm.Cond.instanceMethod ({ cls := "java/util/NoSuchElementException", name := "<init>", desc := "()V" } : Jvm.MethodName)) ∈ lw_all := lw_g (lw_at lw_m6 172 rfl) rfl
theorem q1497 : (Jvm.Cond.code ({ cls := "java/util/NoSuchElementException", name := "<init>", desc := "()V" } : Jvm.MethodName) prog_79_method_1_code (1 : Nat) (Option.none : Option Jvm.ClassFile.FieldType)) ∈ lw_all := lw_g (lw_at lw_m6 173 rfl) rfl
theorem q1498 : (Jvm.Cond.methodLink "java/util/NoSuchElementException" (1 : Nat) ({ cls := "java/lang/RuntimeException", name := "<init>", desc := "()V" } : Jvm.MethodName)) ∈ lw_all := lw_g (lw_at lw_m6 174 rfl) rfl
theorem q4042 : (Jvm.Cond.castable "java/util/NoSuchElementException" "java/lang/Object") ∈ lw_tbl := lw_at lw_m17 78 rfl
theorem in_J31 : ∀ w ∈ wsJ310, w ∈ lw_all := lw_in wsJ310 [1419, 1420, 1421, 1422, 1423, 1487] (by decide +kernel) (by decide +kernel)

/-! java/util/ArrayDeque -/
set_option maxRecDepth 100000
def RJ32 : String := "java/util/ArrayDeque"
def TJ32 : u_T := fun k => match k with
  | 0 => ("java/util/ArrayDeque", "elements", "[Ljava/lang/Object;", false)
  | 1 => ("java/util/ArrayDeque", "head", "I", false)
  | _ => ("java/util/ArrayDeque", "tail", "I", false)
def tyJ32 : Nat → FieldType := fun k => match k with
  | 0 => .array (.object "java/lang/Object")
  | 1 => .int
  | _ => .int
abbrev wsJ320 : List Cond := u_ws RJ32 TJ32 3
theorem nmJ32 : ∀ a, a < 3 → ∀ b, b < 3 → a ≠ b → (TJ32 a).2.1 ≠ (TJ32 b).2.1 := by decide +kernel
theorem tyJ32_ok : ∀ k, k < 3 → parseFieldDescriptor (TJ32 k).2.2.1 = some (tyJ32 k) := by decide +kernel
abbrev cJ32_init : ByteArray := prog_60_method_3_code
def yJ32_init : MethodName := ⟨RJ32, "<init>", "()V"⟩
def dkwJ32_init_0 : List UInt8 := [42, 183, 0, 42, 42, 16, 17, 189, 0, 47, 181, 0, 3, 177]
abbrev dktJ32_init_0 : List UInt8 := dkwJ32_init_0 ++ []
theorem dksJ32_init_0 : cJ32_init.data.toList.drop 0 = dktJ32_init_0 := by decide +kernel
theorem dJ32_init_0 : decode cJ32_init 0 = .ok (.aload_n 0, 1) := dk_42 (dk_at dksJ32_init_0 0 rfl rfl)
theorem dJ32_init_1 : decode cJ32_init 1 = .ok (.invokespecial 42, 3) := dk_183 0 42 (dk_at dksJ32_init_0 1 rfl rfl)
theorem dJ32_init_4 : decode cJ32_init 4 = .ok (.aload_n 0, 1) := dk_42 (dk_at dksJ32_init_0 4 rfl rfl)
theorem dJ32_init_5 : decode cJ32_init 5 = .ok (.bipush 17, 2) := dk_16 17 (dk_at dksJ32_init_0 5 rfl rfl)
theorem dJ32_init_7 : decode cJ32_init 7 = .ok (.anewarray 47, 3) := dk_189 0 47 (dk_at dksJ32_init_0 7 rfl rfl)
theorem dJ32_init_10 : decode cJ32_init 10 = .ok (.putfield 3, 3) := dk_181 0 3 (dk_at dksJ32_init_0 10 rfl rfl)
theorem dJ32_init_13 : decode cJ32_init 13 = .ok (.return_, 1) := dk_177 (dk_at dksJ32_init_0 13 rfl rfl)
abbrev cJ32_nonNullElementAt : ByteArray := prog_60_method_11_code
def yJ32_nonNullElementAt : MethodName := ⟨RJ32, "nonNullElementAt", "([Ljava/lang/Object;I)Ljava/lang/Object;"⟩
def dkwJ32_nonNullElementAt_0 : List UInt8 := [42, 27, 50, 77, 44, 199, 0, 11, 187, 0, 62, 89, 183, 0, 64, 191, 44, 176]
abbrev dktJ32_nonNullElementAt_0 : List UInt8 := dkwJ32_nonNullElementAt_0 ++ []
theorem dksJ32_nonNullElementAt_0 : cJ32_nonNullElementAt.data.toList.drop 0 = dktJ32_nonNullElementAt_0 := by decide +kernel
theorem dJ32_nonNullElementAt_0 : decode cJ32_nonNullElementAt 0 = .ok (.aload_n 0, 1) := dk_42 (dk_at dksJ32_nonNullElementAt_0 0 rfl rfl)
theorem dJ32_nonNullElementAt_1 : decode cJ32_nonNullElementAt 1 = .ok (.iload_n 1, 1) := dk_27 (dk_at dksJ32_nonNullElementAt_0 1 rfl rfl)
theorem dJ32_nonNullElementAt_2 : decode cJ32_nonNullElementAt 2 = .ok (.aaload, 1) := dk_50 (dk_at dksJ32_nonNullElementAt_0 2 rfl rfl)
theorem dJ32_nonNullElementAt_3 : decode cJ32_nonNullElementAt 3 = .ok (.astore_n 2, 1) := dk_77 (dk_at dksJ32_nonNullElementAt_0 3 rfl rfl)
theorem dJ32_nonNullElementAt_4 : decode cJ32_nonNullElementAt 4 = .ok (.aload_n 2, 1) := dk_44 (dk_at dksJ32_nonNullElementAt_0 4 rfl rfl)
theorem dJ32_nonNullElementAt_5 : decode cJ32_nonNullElementAt 5 = .ok (.ifnonnull 11, 3) := dk_199 0 11 (dk_at dksJ32_nonNullElementAt_0 5 rfl rfl)
theorem dJ32_nonNullElementAt_8 : decode cJ32_nonNullElementAt 8 = .ok (.new 62, 3) := dk_187 0 62 (dk_at dksJ32_nonNullElementAt_0 8 rfl rfl)
theorem dJ32_nonNullElementAt_11 : decode cJ32_nonNullElementAt 11 = .ok (.dup, 1) := dk_89 (dk_at dksJ32_nonNullElementAt_0 11 rfl rfl)
theorem dJ32_nonNullElementAt_12 : decode cJ32_nonNullElementAt 12 = .ok (.invokespecial 64, 3) := dk_183 0 64 (dk_at dksJ32_nonNullElementAt_0 12 rfl rfl)
theorem dJ32_nonNullElementAt_15 : decode cJ32_nonNullElementAt 15 = .ok (.athrow, 1) := dk_191 (dk_at dksJ32_nonNullElementAt_0 15 rfl rfl)
theorem dJ32_nonNullElementAt_16 : decode cJ32_nonNullElementAt 16 = .ok (.aload_n 2, 1) := dk_44 (dk_at dksJ32_nonNullElementAt_0 16 rfl rfl)
theorem dJ32_nonNullElementAt_17 : decode cJ32_nonNullElementAt 17 = .ok (.areturn, 1) := dk_176 (dk_at dksJ32_nonNullElementAt_0 17 rfl rfl)
abbrev cJ32_inc : ByteArray := prog_60_method_6_code
def yJ32_inc : MethodName := ⟨RJ32, "inc", "(II)I"⟩
def dkwJ32_inc_0 : List UInt8 := [132, 0, 1, 26, 27, 161, 0, 5, 3, 59, 26, 172]
abbrev dktJ32_inc_0 : List UInt8 := dkwJ32_inc_0 ++ []
theorem dksJ32_inc_0 : cJ32_inc.data.toList.drop 0 = dktJ32_inc_0 := by decide +kernel
theorem dJ32_inc_0 : decode cJ32_inc 0 = .ok (.iinc 0 1, 3) := dk_132 0 1 (dk_at dksJ32_inc_0 0 rfl rfl)
theorem dJ32_inc_3 : decode cJ32_inc 3 = .ok (.iload_n 0, 1) := dk_26 (dk_at dksJ32_inc_0 3 rfl rfl)
theorem dJ32_inc_4 : decode cJ32_inc 4 = .ok (.iload_n 1, 1) := dk_27 (dk_at dksJ32_inc_0 4 rfl rfl)
theorem dJ32_inc_5 : decode cJ32_inc 5 = .ok (.if_icmp .lt 5, 3) := dk_161 0 5 (dk_at dksJ32_inc_0 5 rfl rfl)
theorem dJ32_inc_8 : decode cJ32_inc 8 = .ok (.iconst 0, 1) := dk_3 (dk_at dksJ32_inc_0 8 rfl rfl)
theorem dJ32_inc_9 : decode cJ32_inc 9 = .ok (.istore_n 0, 1) := dk_59 (dk_at dksJ32_inc_0 9 rfl rfl)
theorem dJ32_inc_10 : decode cJ32_inc 10 = .ok (.iload_n 0, 1) := dk_26 (dk_at dksJ32_inc_0 10 rfl rfl)
theorem dJ32_inc_11 : decode cJ32_inc 11 = .ok (.ireturn, 1) := dk_172 (dk_at dksJ32_inc_0 11 rfl rfl)
abbrev cJ32_addLast : ByteArray := prog_60_method_13_code
def yJ32_addLast : MethodName := ⟨RJ32, "addLast", "(Ljava/lang/Object;)V"⟩
def dkwJ32_addLast_2 : List UInt8 := [182, 0, 71, 177]
abbrev dktJ32_addLast_2 : List UInt8 := dkwJ32_addLast_2 ++ []
def dkwJ32_addLast_1 : List UInt8 := [42, 180, 0, 24, 42, 42, 180, 0, 20, 44, 190, 184, 0, 74, 90, 181, 0, 20, 160, 0, 8, 42, 4]
abbrev dktJ32_addLast_1 : List UInt8 := dkwJ32_addLast_1 ++ dktJ32_addLast_2
def dkwJ32_addLast_0 : List UInt8 := [43, 199, 0, 11, 187, 0, 65, 89, 183, 0, 67, 191, 42, 180, 0, 3, 77, 44, 42, 180, 0, 20, 43, 83]
abbrev dktJ32_addLast_0 : List UInt8 := dkwJ32_addLast_0 ++ dktJ32_addLast_1
theorem dksJ32_addLast_0 : cJ32_addLast.data.toList.drop 0 = dktJ32_addLast_0 := by decide +kernel
theorem dksJ32_addLast_1 : cJ32_addLast.data.toList.drop 24 = dktJ32_addLast_1 := dk_seg dksJ32_addLast_0 24 rfl rfl
theorem dksJ32_addLast_2 : cJ32_addLast.data.toList.drop 47 = dktJ32_addLast_2 := dk_seg dksJ32_addLast_1 23 rfl rfl
theorem dJ32_addLast_0 : decode cJ32_addLast 0 = .ok (.aload_n 1, 1) := dk_43 (dk_at dksJ32_addLast_0 0 rfl rfl)
theorem dJ32_addLast_1 : decode cJ32_addLast 1 = .ok (.ifnonnull 11, 3) := dk_199 0 11 (dk_at dksJ32_addLast_0 1 rfl rfl)
theorem dJ32_addLast_4 : decode cJ32_addLast 4 = .ok (.new 65, 3) := dk_187 0 65 (dk_at dksJ32_addLast_0 4 rfl rfl)
theorem dJ32_addLast_7 : decode cJ32_addLast 7 = .ok (.dup, 1) := dk_89 (dk_at dksJ32_addLast_0 7 rfl rfl)
theorem dJ32_addLast_8 : decode cJ32_addLast 8 = .ok (.invokespecial 67, 3) := dk_183 0 67 (dk_at dksJ32_addLast_0 8 rfl rfl)
theorem dJ32_addLast_11 : decode cJ32_addLast 11 = .ok (.athrow, 1) := dk_191 (dk_at dksJ32_addLast_0 11 rfl rfl)
theorem dJ32_addLast_12 : decode cJ32_addLast 12 = .ok (.aload_n 0, 1) := dk_42 (dk_at dksJ32_addLast_0 12 rfl rfl)
theorem dJ32_addLast_13 : decode cJ32_addLast 13 = .ok (.getfield 3, 3) := dk_180 0 3 (dk_at dksJ32_addLast_0 13 rfl rfl)
theorem dJ32_addLast_16 : decode cJ32_addLast 16 = .ok (.astore_n 2, 1) := dk_77 (dk_at dksJ32_addLast_0 16 rfl rfl)
theorem dJ32_addLast_17 : decode cJ32_addLast 17 = .ok (.aload_n 2, 1) := dk_44 (dk_at dksJ32_addLast_0 17 rfl rfl)
theorem dJ32_addLast_18 : decode cJ32_addLast 18 = .ok (.aload_n 0, 1) := dk_42 (dk_at dksJ32_addLast_0 18 rfl rfl)
theorem dJ32_addLast_19 : decode cJ32_addLast 19 = .ok (.getfield 20, 3) := dk_180 0 20 (dk_at dksJ32_addLast_0 19 rfl rfl)
theorem dJ32_addLast_22 : decode cJ32_addLast 22 = .ok (.aload_n 1, 1) := dk_43 (dk_at dksJ32_addLast_0 22 rfl rfl)
theorem dJ32_addLast_23 : decode cJ32_addLast 23 = .ok (.aastore, 1) := dk_83 (dk_at dksJ32_addLast_0 23 rfl rfl)
theorem dJ32_addLast_24 : decode cJ32_addLast 24 = .ok (.aload_n 0, 1) := dk_42 (dk_at dksJ32_addLast_1 0 rfl rfl)
theorem dJ32_addLast_25 : decode cJ32_addLast 25 = .ok (.getfield 24, 3) := dk_180 0 24 (dk_at dksJ32_addLast_1 1 rfl rfl)
theorem dJ32_addLast_28 : decode cJ32_addLast 28 = .ok (.aload_n 0, 1) := dk_42 (dk_at dksJ32_addLast_1 4 rfl rfl)
theorem dJ32_addLast_29 : decode cJ32_addLast 29 = .ok (.aload_n 0, 1) := dk_42 (dk_at dksJ32_addLast_1 5 rfl rfl)
theorem dJ32_addLast_30 : decode cJ32_addLast 30 = .ok (.getfield 20, 3) := dk_180 0 20 (dk_at dksJ32_addLast_1 6 rfl rfl)
theorem dJ32_addLast_33 : decode cJ32_addLast 33 = .ok (.aload_n 2, 1) := dk_44 (dk_at dksJ32_addLast_1 9 rfl rfl)
theorem dJ32_addLast_34 : decode cJ32_addLast 34 = .ok (.arraylength, 1) := dk_190 (dk_at dksJ32_addLast_1 10 rfl rfl)
theorem dJ32_addLast_35 : decode cJ32_addLast 35 = .ok (.invokestatic 74, 3) := dk_184 0 74 (dk_at dksJ32_addLast_1 11 rfl rfl)
theorem dJ32_addLast_38 : decode cJ32_addLast 38 = .ok (.dup_x1, 1) := dk_90 (dk_at dksJ32_addLast_1 14 rfl rfl)
theorem dJ32_addLast_39 : decode cJ32_addLast 39 = .ok (.putfield 20, 3) := dk_181 0 20 (dk_at dksJ32_addLast_1 15 rfl rfl)
theorem dJ32_addLast_42 : decode cJ32_addLast 42 = .ok (.if_icmp .ne 8, 3) := dk_160 0 8 (dk_at dksJ32_addLast_1 18 rfl rfl)
theorem dJ32_addLast_45 : decode cJ32_addLast 45 = .ok (.aload_n 0, 1) := dk_42 (dk_at dksJ32_addLast_1 21 rfl rfl)
theorem dJ32_addLast_46 : decode cJ32_addLast 46 = .ok (.iconst 1, 1) := dk_4 (dk_at dksJ32_addLast_1 22 rfl rfl)
theorem dJ32_addLast_47 : decode cJ32_addLast 47 = .ok (.invokevirtual 71, 3) := dk_182 0 71 (dk_at dksJ32_addLast_2 0 rfl rfl)
theorem dJ32_addLast_50 : decode cJ32_addLast 50 = .ok (.return_, 1) := dk_177 (dk_at dksJ32_addLast_2 3 rfl rfl)
abbrev cJ32_grow : ByteArray := prog_60_method_1_code
def yJ32_grow : MethodName := ⟨RJ32, "grow", "(I)V"⟩
def dkwJ32_grow_7 : List UInt8 := [177]
abbrev dktJ32_grow_7 : List UInt8 := dkwJ32_grow_7 ++ []
def dkwJ32_grow_6 : List UInt8 := [181, 0, 24, 54, 8, 21, 7, 21, 8, 162, 0, 15, 25, 5, 21, 7, 1, 83, 132, 7, 1, 167, 255, 240]
abbrev dktJ32_grow_6 : List UInt8 := dkwJ32_grow_6 ++ dktJ32_grow_7
def dkwJ32_grow_5 : List UInt8 := [42, 180, 0, 24, 100, 184, 0, 27, 42, 180, 0, 24, 54, 7, 42, 89, 180, 0, 24, 21, 6, 96, 90]
abbrev dktJ32_grow_5 : List UInt8 := dkwJ32_grow_5 ++ dktJ32_grow_6
def dkwJ32_grow_4 : List UInt8 := [198, 0, 71, 29, 28, 100, 54, 6, 25, 5, 42, 180, 0, 24, 25, 5, 42, 180, 0, 24, 21, 6, 96, 28]
abbrev dktJ32_grow_4 : List UInt8 := dkwJ32_grow_4 ++ dktJ32_grow_5
def dkwJ32_grow_3 : List UInt8 := [180, 0, 24, 161, 0, 24, 42, 180, 0, 20, 42, 180, 0, 24, 160, 0, 81, 25, 5, 42, 180, 0, 24, 50]
abbrev dktJ32_grow_3 : List UInt8 := dkwJ32_grow_3 ++ dktJ32_grow_4
def dkwJ32_grow_2 : List UInt8 := [182, 0, 10, 62, 42, 42, 180, 0, 3, 29, 184, 0, 14, 90, 181, 0, 3, 58, 5, 42, 180, 0, 20, 42]
abbrev dktJ32_grow_2 : List UInt8 := dkwJ32_grow_2 ++ dktJ32_grow_3
def dkwJ32_grow_1 : List UInt8 := [21, 4, 27, 161, 0, 15, 28, 21, 4, 96, 89, 62, 18, 9, 100, 158, 0, 11, 42, 27, 21, 4]
abbrev dktJ32_grow_1 : List UInt8 := dkwJ32_grow_1 ++ dktJ32_grow_2
def dkwJ32_grow_0 : List UInt8 := [42, 180, 0, 3, 190, 61, 28, 16, 64, 162, 0, 9, 28, 5, 96, 167, 0, 6, 28, 4, 122, 54, 4]
abbrev dktJ32_grow_0 : List UInt8 := dkwJ32_grow_0 ++ dktJ32_grow_1
theorem dksJ32_grow_0 : cJ32_grow.data.toList.drop 0 = dktJ32_grow_0 := by decide +kernel
theorem dksJ32_grow_1 : cJ32_grow.data.toList.drop 23 = dktJ32_grow_1 := dk_seg dksJ32_grow_0 23 rfl rfl
theorem dksJ32_grow_2 : cJ32_grow.data.toList.drop 45 = dktJ32_grow_2 := dk_seg dksJ32_grow_1 22 rfl rfl
theorem dksJ32_grow_3 : cJ32_grow.data.toList.drop 69 = dktJ32_grow_3 := dk_seg dksJ32_grow_2 24 rfl rfl
theorem dksJ32_grow_4 : cJ32_grow.data.toList.drop 93 = dktJ32_grow_4 := dk_seg dksJ32_grow_3 24 rfl rfl
theorem dksJ32_grow_5 : cJ32_grow.data.toList.drop 117 = dktJ32_grow_5 := dk_seg dksJ32_grow_4 24 rfl rfl
theorem dksJ32_grow_6 : cJ32_grow.data.toList.drop 140 = dktJ32_grow_6 := dk_seg dksJ32_grow_5 23 rfl rfl
theorem dksJ32_grow_7 : cJ32_grow.data.toList.drop 164 = dktJ32_grow_7 := dk_seg dksJ32_grow_6 24 rfl rfl
theorem dJ32_grow_0 : decode cJ32_grow 0 = .ok (.aload_n 0, 1) := dk_42 (dk_at dksJ32_grow_0 0 rfl rfl)
theorem dJ32_grow_1 : decode cJ32_grow 1 = .ok (.getfield 3, 3) := dk_180 0 3 (dk_at dksJ32_grow_0 1 rfl rfl)
theorem dJ32_grow_4 : decode cJ32_grow 4 = .ok (.arraylength, 1) := dk_190 (dk_at dksJ32_grow_0 4 rfl rfl)
theorem dJ32_grow_5 : decode cJ32_grow 5 = .ok (.istore_n 2, 1) := dk_61 (dk_at dksJ32_grow_0 5 rfl rfl)
theorem dJ32_grow_6 : decode cJ32_grow 6 = .ok (.iload_n 2, 1) := dk_28 (dk_at dksJ32_grow_0 6 rfl rfl)
theorem dJ32_grow_7 : decode cJ32_grow 7 = .ok (.bipush 64, 2) := dk_16 64 (dk_at dksJ32_grow_0 7 rfl rfl)
theorem dJ32_grow_9 : decode cJ32_grow 9 = .ok (.if_icmp .ge 9, 3) := dk_162 0 9 (dk_at dksJ32_grow_0 9 rfl rfl)
theorem dJ32_grow_12 : decode cJ32_grow 12 = .ok (.iload_n 2, 1) := dk_28 (dk_at dksJ32_grow_0 12 rfl rfl)
theorem dJ32_grow_13 : decode cJ32_grow 13 = .ok (.iconst 2, 1) := dk_5 (dk_at dksJ32_grow_0 13 rfl rfl)
theorem dJ32_grow_14 : decode cJ32_grow 14 = .ok (.iadd, 1) := dk_96 (dk_at dksJ32_grow_0 14 rfl rfl)
theorem dJ32_grow_15 : decode cJ32_grow 15 = .ok (.goto 6, 3) := dk_167 0 6 (dk_at dksJ32_grow_0 15 rfl rfl)
theorem dJ32_grow_18 : decode cJ32_grow 18 = .ok (.iload_n 2, 1) := dk_28 (dk_at dksJ32_grow_0 18 rfl rfl)
theorem dJ32_grow_19 : decode cJ32_grow 19 = .ok (.iconst 1, 1) := dk_4 (dk_at dksJ32_grow_0 19 rfl rfl)
theorem dJ32_grow_20 : decode cJ32_grow 20 = .ok (.ishr, 1) := dk_122 (dk_at dksJ32_grow_0 20 rfl rfl)
theorem dJ32_grow_21 : decode cJ32_grow 21 = .ok (.istore 4, 2) := dk_54 4 (dk_at dksJ32_grow_0 21 rfl rfl)
theorem dJ32_grow_23 : decode cJ32_grow 23 = .ok (.iload 4, 2) := dk_21 4 (dk_at dksJ32_grow_1 0 rfl rfl)
theorem dJ32_grow_25 : decode cJ32_grow 25 = .ok (.iload_n 1, 1) := dk_27 (dk_at dksJ32_grow_1 2 rfl rfl)
theorem dJ32_grow_26 : decode cJ32_grow 26 = .ok (.if_icmp .lt 15, 3) := dk_161 0 15 (dk_at dksJ32_grow_1 3 rfl rfl)
theorem dJ32_grow_29 : decode cJ32_grow 29 = .ok (.iload_n 2, 1) := dk_28 (dk_at dksJ32_grow_1 6 rfl rfl)
theorem dJ32_grow_30 : decode cJ32_grow 30 = .ok (.iload 4, 2) := dk_21 4 (dk_at dksJ32_grow_1 7 rfl rfl)
theorem dJ32_grow_32 : decode cJ32_grow 32 = .ok (.iadd, 1) := dk_96 (dk_at dksJ32_grow_1 9 rfl rfl)
theorem dJ32_grow_33 : decode cJ32_grow 33 = .ok (.dup, 1) := dk_89 (dk_at dksJ32_grow_1 10 rfl rfl)
theorem dJ32_grow_34 : decode cJ32_grow 34 = .ok (.istore_n 3, 1) := dk_62 (dk_at dksJ32_grow_1 11 rfl rfl)
theorem dJ32_grow_35 : decode cJ32_grow 35 = .ok (.ldc 9, 2) := dk_18 9 (dk_at dksJ32_grow_1 12 rfl rfl)
theorem dJ32_grow_37 : decode cJ32_grow 37 = .ok (.isub, 1) := dk_100 (dk_at dksJ32_grow_1 14 rfl rfl)
theorem dJ32_grow_38 : decode cJ32_grow 38 = .ok (.ifCond .le 11, 3) := dk_158 0 11 (dk_at dksJ32_grow_1 15 rfl rfl)
theorem dJ32_grow_41 : decode cJ32_grow 41 = .ok (.aload_n 0, 1) := dk_42 (dk_at dksJ32_grow_1 18 rfl rfl)
theorem dJ32_grow_42 : decode cJ32_grow 42 = .ok (.iload_n 1, 1) := dk_27 (dk_at dksJ32_grow_1 19 rfl rfl)
theorem dJ32_grow_43 : decode cJ32_grow 43 = .ok (.iload 4, 2) := dk_21 4 (dk_at dksJ32_grow_1 20 rfl rfl)
theorem dJ32_grow_45 : decode cJ32_grow 45 = .ok (.invokevirtual 10, 3) := dk_182 0 10 (dk_at dksJ32_grow_2 0 rfl rfl)
theorem dJ32_grow_48 : decode cJ32_grow 48 = .ok (.istore_n 3, 1) := dk_62 (dk_at dksJ32_grow_2 3 rfl rfl)
theorem dJ32_grow_49 : decode cJ32_grow 49 = .ok (.aload_n 0, 1) := dk_42 (dk_at dksJ32_grow_2 4 rfl rfl)
theorem dJ32_grow_50 : decode cJ32_grow 50 = .ok (.aload_n 0, 1) := dk_42 (dk_at dksJ32_grow_2 5 rfl rfl)
theorem dJ32_grow_51 : decode cJ32_grow 51 = .ok (.getfield 3, 3) := dk_180 0 3 (dk_at dksJ32_grow_2 6 rfl rfl)
theorem dJ32_grow_54 : decode cJ32_grow 54 = .ok (.iload_n 3, 1) := dk_29 (dk_at dksJ32_grow_2 9 rfl rfl)
theorem dJ32_grow_55 : decode cJ32_grow 55 = .ok (.invokestatic 14, 3) := dk_184 0 14 (dk_at dksJ32_grow_2 10 rfl rfl)
theorem dJ32_grow_58 : decode cJ32_grow 58 = .ok (.dup_x1, 1) := dk_90 (dk_at dksJ32_grow_2 13 rfl rfl)
theorem dJ32_grow_59 : decode cJ32_grow 59 = .ok (.putfield 3, 3) := dk_181 0 3 (dk_at dksJ32_grow_2 14 rfl rfl)
theorem dJ32_grow_62 : decode cJ32_grow 62 = .ok (.astore 5, 2) := dk_58 5 (dk_at dksJ32_grow_2 17 rfl rfl)
theorem dJ32_grow_64 : decode cJ32_grow 64 = .ok (.aload_n 0, 1) := dk_42 (dk_at dksJ32_grow_2 19 rfl rfl)
theorem dJ32_grow_65 : decode cJ32_grow 65 = .ok (.getfield 20, 3) := dk_180 0 20 (dk_at dksJ32_grow_2 20 rfl rfl)
theorem dJ32_grow_68 : decode cJ32_grow 68 = .ok (.aload_n 0, 1) := dk_42 (dk_at dksJ32_grow_2 23 rfl rfl)
theorem dJ32_grow_69 : decode cJ32_grow 69 = .ok (.getfield 24, 3) := dk_180 0 24 (dk_at dksJ32_grow_3 0 rfl rfl)
theorem dJ32_grow_72 : decode cJ32_grow 72 = .ok (.if_icmp .lt 24, 3) := dk_161 0 24 (dk_at dksJ32_grow_3 3 rfl rfl)
theorem dJ32_grow_75 : decode cJ32_grow 75 = .ok (.aload_n 0, 1) := dk_42 (dk_at dksJ32_grow_3 6 rfl rfl)
theorem dJ32_grow_76 : decode cJ32_grow 76 = .ok (.getfield 20, 3) := dk_180 0 20 (dk_at dksJ32_grow_3 7 rfl rfl)
theorem dJ32_grow_79 : decode cJ32_grow 79 = .ok (.aload_n 0, 1) := dk_42 (dk_at dksJ32_grow_3 10 rfl rfl)
theorem dJ32_grow_80 : decode cJ32_grow 80 = .ok (.getfield 24, 3) := dk_180 0 24 (dk_at dksJ32_grow_3 11 rfl rfl)
theorem dJ32_grow_83 : decode cJ32_grow 83 = .ok (.if_icmp .ne 81, 3) := dk_160 0 81 (dk_at dksJ32_grow_3 14 rfl rfl)
theorem dJ32_grow_86 : decode cJ32_grow 86 = .ok (.aload 5, 2) := dk_25 5 (dk_at dksJ32_grow_3 17 rfl rfl)
theorem dJ32_grow_88 : decode cJ32_grow 88 = .ok (.aload_n 0, 1) := dk_42 (dk_at dksJ32_grow_3 19 rfl rfl)
theorem dJ32_grow_89 : decode cJ32_grow 89 = .ok (.getfield 24, 3) := dk_180 0 24 (dk_at dksJ32_grow_3 20 rfl rfl)
theorem dJ32_grow_92 : decode cJ32_grow 92 = .ok (.aaload, 1) := dk_50 (dk_at dksJ32_grow_3 23 rfl rfl)
theorem dJ32_grow_93 : decode cJ32_grow 93 = .ok (.ifnull 71, 3) := dk_198 0 71 (dk_at dksJ32_grow_4 0 rfl rfl)
theorem dJ32_grow_96 : decode cJ32_grow 96 = .ok (.iload_n 3, 1) := dk_29 (dk_at dksJ32_grow_4 3 rfl rfl)
theorem dJ32_grow_97 : decode cJ32_grow 97 = .ok (.iload_n 2, 1) := dk_28 (dk_at dksJ32_grow_4 4 rfl rfl)
theorem dJ32_grow_98 : decode cJ32_grow 98 = .ok (.isub, 1) := dk_100 (dk_at dksJ32_grow_4 5 rfl rfl)
theorem dJ32_grow_99 : decode cJ32_grow 99 = .ok (.istore 6, 2) := dk_54 6 (dk_at dksJ32_grow_4 6 rfl rfl)
theorem dJ32_grow_101 : decode cJ32_grow 101 = .ok (.aload 5, 2) := dk_25 5 (dk_at dksJ32_grow_4 8 rfl rfl)
theorem dJ32_grow_103 : decode cJ32_grow 103 = .ok (.aload_n 0, 1) := dk_42 (dk_at dksJ32_grow_4 10 rfl rfl)
theorem dJ32_grow_104 : decode cJ32_grow 104 = .ok (.getfield 24, 3) := dk_180 0 24 (dk_at dksJ32_grow_4 11 rfl rfl)
theorem dJ32_grow_107 : decode cJ32_grow 107 = .ok (.aload 5, 2) := dk_25 5 (dk_at dksJ32_grow_4 14 rfl rfl)
theorem dJ32_grow_109 : decode cJ32_grow 109 = .ok (.aload_n 0, 1) := dk_42 (dk_at dksJ32_grow_4 16 rfl rfl)
theorem dJ32_grow_110 : decode cJ32_grow 110 = .ok (.getfield 24, 3) := dk_180 0 24 (dk_at dksJ32_grow_4 17 rfl rfl)
theorem dJ32_grow_113 : decode cJ32_grow 113 = .ok (.iload 6, 2) := dk_21 6 (dk_at dksJ32_grow_4 20 rfl rfl)
theorem dJ32_grow_115 : decode cJ32_grow 115 = .ok (.iadd, 1) := dk_96 (dk_at dksJ32_grow_4 22 rfl rfl)
theorem dJ32_grow_116 : decode cJ32_grow 116 = .ok (.iload_n 2, 1) := dk_28 (dk_at dksJ32_grow_4 23 rfl rfl)
theorem dJ32_grow_117 : decode cJ32_grow 117 = .ok (.aload_n 0, 1) := dk_42 (dk_at dksJ32_grow_5 0 rfl rfl)
theorem dJ32_grow_118 : decode cJ32_grow 118 = .ok (.getfield 24, 3) := dk_180 0 24 (dk_at dksJ32_grow_5 1 rfl rfl)
theorem dJ32_grow_121 : decode cJ32_grow 121 = .ok (.isub, 1) := dk_100 (dk_at dksJ32_grow_5 4 rfl rfl)
theorem dJ32_grow_122 : decode cJ32_grow 122 = .ok (.invokestatic 27, 3) := dk_184 0 27 (dk_at dksJ32_grow_5 5 rfl rfl)
theorem dJ32_grow_125 : decode cJ32_grow 125 = .ok (.aload_n 0, 1) := dk_42 (dk_at dksJ32_grow_5 8 rfl rfl)
theorem dJ32_grow_126 : decode cJ32_grow 126 = .ok (.getfield 24, 3) := dk_180 0 24 (dk_at dksJ32_grow_5 9 rfl rfl)
theorem dJ32_grow_129 : decode cJ32_grow 129 = .ok (.istore 7, 2) := dk_54 7 (dk_at dksJ32_grow_5 12 rfl rfl)
theorem dJ32_grow_131 : decode cJ32_grow 131 = .ok (.aload_n 0, 1) := dk_42 (dk_at dksJ32_grow_5 14 rfl rfl)
theorem dJ32_grow_132 : decode cJ32_grow 132 = .ok (.dup, 1) := dk_89 (dk_at dksJ32_grow_5 15 rfl rfl)
theorem dJ32_grow_133 : decode cJ32_grow 133 = .ok (.getfield 24, 3) := dk_180 0 24 (dk_at dksJ32_grow_5 16 rfl rfl)
theorem dJ32_grow_136 : decode cJ32_grow 136 = .ok (.iload 6, 2) := dk_21 6 (dk_at dksJ32_grow_5 19 rfl rfl)
theorem dJ32_grow_138 : decode cJ32_grow 138 = .ok (.iadd, 1) := dk_96 (dk_at dksJ32_grow_5 21 rfl rfl)
theorem dJ32_grow_139 : decode cJ32_grow 139 = .ok (.dup_x1, 1) := dk_90 (dk_at dksJ32_grow_5 22 rfl rfl)
theorem dJ32_grow_140 : decode cJ32_grow 140 = .ok (.putfield 24, 3) := dk_181 0 24 (dk_at dksJ32_grow_6 0 rfl rfl)
theorem dJ32_grow_143 : decode cJ32_grow 143 = .ok (.istore 8, 2) := dk_54 8 (dk_at dksJ32_grow_6 3 rfl rfl)
theorem dJ32_grow_145 : decode cJ32_grow 145 = .ok (.iload 7, 2) := dk_21 7 (dk_at dksJ32_grow_6 5 rfl rfl)
theorem dJ32_grow_147 : decode cJ32_grow 147 = .ok (.iload 8, 2) := dk_21 8 (dk_at dksJ32_grow_6 7 rfl rfl)
theorem dJ32_grow_149 : decode cJ32_grow 149 = .ok (.if_icmp .ge 15, 3) := dk_162 0 15 (dk_at dksJ32_grow_6 9 rfl rfl)
theorem dJ32_grow_152 : decode cJ32_grow 152 = .ok (.aload 5, 2) := dk_25 5 (dk_at dksJ32_grow_6 12 rfl rfl)
theorem dJ32_grow_154 : decode cJ32_grow 154 = .ok (.iload 7, 2) := dk_21 7 (dk_at dksJ32_grow_6 14 rfl rfl)
theorem dJ32_grow_156 : decode cJ32_grow 156 = .ok (.aconst_null, 1) := dk_1 (dk_at dksJ32_grow_6 16 rfl rfl)
theorem dJ32_grow_157 : decode cJ32_grow 157 = .ok (.aastore, 1) := dk_83 (dk_at dksJ32_grow_6 17 rfl rfl)
theorem dJ32_grow_158 : decode cJ32_grow 158 = .ok (.iinc 7 1, 3) := dk_132 7 1 (dk_at dksJ32_grow_6 18 rfl rfl)
theorem dJ32_grow_161 : decode cJ32_grow 161 = .ok (.goto (-16), 3) := dk_167 255 240 (dk_at dksJ32_grow_6 21 rfl rfl)
theorem dJ32_grow_164 : decode cJ32_grow 164 = .ok (.return_, 1) := dk_177 (dk_at dksJ32_grow_7 0 rfl rfl)
abbrev cJ32_newCapacity : ByteArray := prog_60_method_2_code
def yJ32_newCapacity : MethodName := ⟨RJ32, "newCapacity", "(II)I"⟩
def dkwJ32_newCapacity_2 : List UInt8 := [18, 9, 100, 156, 0, 9, 29, 28, 96, 167, 0, 5, 18, 9, 172]
abbrev dktJ32_newCapacity_2 : List UInt8 := dkwJ32_newCapacity_2 ++ []
def dkwJ32_newCapacity_1 : List UInt8 := [187, 0, 33, 89, 18, 35, 183, 0, 37, 191, 18, 41, 172, 27, 28, 164, 0, 6, 21, 4, 172, 29, 28, 96]
abbrev dktJ32_newCapacity_1 : List UInt8 := dkwJ32_newCapacity_1 ++ dktJ32_newCapacity_2
def dkwJ32_newCapacity_0 : List UInt8 := [42, 180, 0, 3, 190, 62, 29, 27, 96, 89, 54, 4, 18, 9, 100, 158, 0, 21, 21, 4, 156, 0, 13]
abbrev dktJ32_newCapacity_0 : List UInt8 := dkwJ32_newCapacity_0 ++ dktJ32_newCapacity_1
theorem dksJ32_newCapacity_0 : cJ32_newCapacity.data.toList.drop 0 = dktJ32_newCapacity_0 := by decide +kernel
theorem dksJ32_newCapacity_1 : cJ32_newCapacity.data.toList.drop 23 = dktJ32_newCapacity_1 := dk_seg dksJ32_newCapacity_0 23 rfl rfl
theorem dksJ32_newCapacity_2 : cJ32_newCapacity.data.toList.drop 47 = dktJ32_newCapacity_2 := dk_seg dksJ32_newCapacity_1 24 rfl rfl
theorem dJ32_newCapacity_0 : decode cJ32_newCapacity 0 = .ok (.aload_n 0, 1) := dk_42 (dk_at dksJ32_newCapacity_0 0 rfl rfl)
theorem dJ32_newCapacity_1 : decode cJ32_newCapacity 1 = .ok (.getfield 3, 3) := dk_180 0 3 (dk_at dksJ32_newCapacity_0 1 rfl rfl)
theorem dJ32_newCapacity_4 : decode cJ32_newCapacity 4 = .ok (.arraylength, 1) := dk_190 (dk_at dksJ32_newCapacity_0 4 rfl rfl)
theorem dJ32_newCapacity_5 : decode cJ32_newCapacity 5 = .ok (.istore_n 3, 1) := dk_62 (dk_at dksJ32_newCapacity_0 5 rfl rfl)
theorem dJ32_newCapacity_6 : decode cJ32_newCapacity 6 = .ok (.iload_n 3, 1) := dk_29 (dk_at dksJ32_newCapacity_0 6 rfl rfl)
theorem dJ32_newCapacity_7 : decode cJ32_newCapacity 7 = .ok (.iload_n 1, 1) := dk_27 (dk_at dksJ32_newCapacity_0 7 rfl rfl)
theorem dJ32_newCapacity_8 : decode cJ32_newCapacity 8 = .ok (.iadd, 1) := dk_96 (dk_at dksJ32_newCapacity_0 8 rfl rfl)
theorem dJ32_newCapacity_9 : decode cJ32_newCapacity 9 = .ok (.dup, 1) := dk_89 (dk_at dksJ32_newCapacity_0 9 rfl rfl)
theorem dJ32_newCapacity_10 : decode cJ32_newCapacity 10 = .ok (.istore 4, 2) := dk_54 4 (dk_at dksJ32_newCapacity_0 10 rfl rfl)
theorem dJ32_newCapacity_12 : decode cJ32_newCapacity 12 = .ok (.ldc 9, 2) := dk_18 9 (dk_at dksJ32_newCapacity_0 12 rfl rfl)
theorem dJ32_newCapacity_14 : decode cJ32_newCapacity 14 = .ok (.isub, 1) := dk_100 (dk_at dksJ32_newCapacity_0 14 rfl rfl)
theorem dJ32_newCapacity_15 : decode cJ32_newCapacity 15 = .ok (.ifCond .le 21, 3) := dk_158 0 21 (dk_at dksJ32_newCapacity_0 15 rfl rfl)
theorem dJ32_newCapacity_18 : decode cJ32_newCapacity 18 = .ok (.iload 4, 2) := dk_21 4 (dk_at dksJ32_newCapacity_0 18 rfl rfl)
theorem dJ32_newCapacity_20 : decode cJ32_newCapacity 20 = .ok (.ifCond .ge 13, 3) := dk_156 0 13 (dk_at dksJ32_newCapacity_0 20 rfl rfl)
theorem dJ32_newCapacity_23 : decode cJ32_newCapacity 23 = .ok (.new 33, 3) := dk_187 0 33 (dk_at dksJ32_newCapacity_1 0 rfl rfl)
theorem dJ32_newCapacity_26 : decode cJ32_newCapacity 26 = .ok (.dup, 1) := dk_89 (dk_at dksJ32_newCapacity_1 3 rfl rfl)
theorem dJ32_newCapacity_27 : decode cJ32_newCapacity 27 = .ok (.ldc 35, 2) := dk_18 35 (dk_at dksJ32_newCapacity_1 4 rfl rfl)
theorem dJ32_newCapacity_29 : decode cJ32_newCapacity 29 = .ok (.invokespecial 37, 3) := dk_183 0 37 (dk_at dksJ32_newCapacity_1 6 rfl rfl)
theorem dJ32_newCapacity_32 : decode cJ32_newCapacity 32 = .ok (.athrow, 1) := dk_191 (dk_at dksJ32_newCapacity_1 9 rfl rfl)
theorem dJ32_newCapacity_33 : decode cJ32_newCapacity 33 = .ok (.ldc 41, 2) := dk_18 41 (dk_at dksJ32_newCapacity_1 10 rfl rfl)
theorem dJ32_newCapacity_35 : decode cJ32_newCapacity 35 = .ok (.ireturn, 1) := dk_172 (dk_at dksJ32_newCapacity_1 12 rfl rfl)
theorem dJ32_newCapacity_36 : decode cJ32_newCapacity 36 = .ok (.iload_n 1, 1) := dk_27 (dk_at dksJ32_newCapacity_1 13 rfl rfl)
theorem dJ32_newCapacity_37 : decode cJ32_newCapacity 37 = .ok (.iload_n 2, 1) := dk_28 (dk_at dksJ32_newCapacity_1 14 rfl rfl)
theorem dJ32_newCapacity_38 : decode cJ32_newCapacity 38 = .ok (.if_icmp .le 6, 3) := dk_164 0 6 (dk_at dksJ32_newCapacity_1 15 rfl rfl)
theorem dJ32_newCapacity_41 : decode cJ32_newCapacity 41 = .ok (.iload 4, 2) := dk_21 4 (dk_at dksJ32_newCapacity_1 18 rfl rfl)
theorem dJ32_newCapacity_43 : decode cJ32_newCapacity 43 = .ok (.ireturn, 1) := dk_172 (dk_at dksJ32_newCapacity_1 20 rfl rfl)
theorem dJ32_newCapacity_44 : decode cJ32_newCapacity 44 = .ok (.iload_n 3, 1) := dk_29 (dk_at dksJ32_newCapacity_1 21 rfl rfl)
theorem dJ32_newCapacity_45 : decode cJ32_newCapacity 45 = .ok (.iload_n 2, 1) := dk_28 (dk_at dksJ32_newCapacity_1 22 rfl rfl)
theorem dJ32_newCapacity_46 : decode cJ32_newCapacity 46 = .ok (.iadd, 1) := dk_96 (dk_at dksJ32_newCapacity_1 23 rfl rfl)
theorem dJ32_newCapacity_47 : decode cJ32_newCapacity 47 = .ok (.ldc 9, 2) := dk_18 9 (dk_at dksJ32_newCapacity_2 0 rfl rfl)
theorem dJ32_newCapacity_49 : decode cJ32_newCapacity 49 = .ok (.isub, 1) := dk_100 (dk_at dksJ32_newCapacity_2 2 rfl rfl)
theorem dJ32_newCapacity_50 : decode cJ32_newCapacity 50 = .ok (.ifCond .ge 9, 3) := dk_156 0 9 (dk_at dksJ32_newCapacity_2 3 rfl rfl)
theorem dJ32_newCapacity_53 : decode cJ32_newCapacity 53 = .ok (.iload_n 3, 1) := dk_29 (dk_at dksJ32_newCapacity_2 6 rfl rfl)
theorem dJ32_newCapacity_54 : decode cJ32_newCapacity 54 = .ok (.iload_n 2, 1) := dk_28 (dk_at dksJ32_newCapacity_2 7 rfl rfl)
theorem dJ32_newCapacity_55 : decode cJ32_newCapacity 55 = .ok (.iadd, 1) := dk_96 (dk_at dksJ32_newCapacity_2 8 rfl rfl)
theorem dJ32_newCapacity_56 : decode cJ32_newCapacity 56 = .ok (.goto 5, 3) := dk_167 0 5 (dk_at dksJ32_newCapacity_2 9 rfl rfl)
theorem dJ32_newCapacity_59 : decode cJ32_newCapacity 59 = .ok (.ldc 9, 2) := dk_18 9 (dk_at dksJ32_newCapacity_2 12 rfl rfl)
theorem dJ32_newCapacity_61 : decode cJ32_newCapacity 61 = .ok (.ireturn, 1) := dk_172 (dk_at dksJ32_newCapacity_2 14 rfl rfl)
abbrev cJ32_iterator : ByteArray := prog_60_method_39_code
def yJ32_iterator : MethodName := ⟨RJ32, "iterator", "()Ljava/util/Iterator;"⟩
def dkwJ32_iterator_0 : List UInt8 := [187, 0, 131, 89, 42, 183, 0, 133, 176]
abbrev dktJ32_iterator_0 : List UInt8 := dkwJ32_iterator_0 ++ []
theorem dksJ32_iterator_0 : cJ32_iterator.data.toList.drop 0 = dktJ32_iterator_0 := by decide +kernel
theorem dJ32_iterator_0 : decode cJ32_iterator 0 = .ok (.new 131, 3) := dk_187 0 131 (dk_at dksJ32_iterator_0 0 rfl rfl)
theorem dJ32_iterator_3 : decode cJ32_iterator 3 = .ok (.dup, 1) := dk_89 (dk_at dksJ32_iterator_0 3 rfl rfl)
theorem dJ32_iterator_4 : decode cJ32_iterator 4 = .ok (.aload_n 0, 1) := dk_42 (dk_at dksJ32_iterator_0 4 rfl rfl)
theorem dJ32_iterator_5 : decode cJ32_iterator 5 = .ok (.invokespecial 133, 3) := dk_183 0 133 (dk_at dksJ32_iterator_0 5 rfl rfl)
theorem dJ32_iterator_8 : decode cJ32_iterator 8 = .ok (.areturn, 1) := dk_176 (dk_at dksJ32_iterator_0 8 rfl rfl)
abbrev cJ32_size : ByteArray := prog_60_method_37_code
def yJ32_size : MethodName := ⟨RJ32, "size", "()I"⟩
def dkwJ32_size_0 : List UInt8 := [42, 180, 0, 20, 42, 180, 0, 24, 42, 180, 0, 3, 190, 184, 0, 127, 172]
abbrev dktJ32_size_0 : List UInt8 := dkwJ32_size_0 ++ []
theorem dksJ32_size_0 : cJ32_size.data.toList.drop 0 = dktJ32_size_0 := by decide +kernel
theorem dJ32_size_0 : decode cJ32_size 0 = .ok (.aload_n 0, 1) := dk_42 (dk_at dksJ32_size_0 0 rfl rfl)
theorem dJ32_size_1 : decode cJ32_size 1 = .ok (.getfield 20, 3) := dk_180 0 20 (dk_at dksJ32_size_0 1 rfl rfl)
theorem dJ32_size_4 : decode cJ32_size 4 = .ok (.aload_n 0, 1) := dk_42 (dk_at dksJ32_size_0 4 rfl rfl)
theorem dJ32_size_5 : decode cJ32_size 5 = .ok (.getfield 24, 3) := dk_180 0 24 (dk_at dksJ32_size_0 5 rfl rfl)
theorem dJ32_size_8 : decode cJ32_size 8 = .ok (.aload_n 0, 1) := dk_42 (dk_at dksJ32_size_0 8 rfl rfl)
theorem dJ32_size_9 : decode cJ32_size 9 = .ok (.getfield 3, 3) := dk_180 0 3 (dk_at dksJ32_size_0 9 rfl rfl)
theorem dJ32_size_12 : decode cJ32_size 12 = .ok (.arraylength, 1) := dk_190 (dk_at dksJ32_size_0 12 rfl rfl)
theorem dJ32_size_13 : decode cJ32_size 13 = .ok (.invokestatic 127, 3) := dk_184 0 127 (dk_at dksJ32_size_0 13 rfl rfl)
theorem dJ32_size_16 : decode cJ32_size 16 = .ok (.ireturn, 1) := dk_172 (dk_at dksJ32_size_0 16 rfl rfl)
abbrev cJ32_sub : ByteArray := prog_60_method_9_code
def yJ32_sub : MethodName := ⟨RJ32, "sub", "(III)I"⟩
def dkwJ32_sub_0 : List UInt8 := [26, 27, 100, 89, 59, 156, 0, 7, 26, 28, 96, 59, 26, 172]
abbrev dktJ32_sub_0 : List UInt8 := dkwJ32_sub_0 ++ []
theorem dksJ32_sub_0 : cJ32_sub.data.toList.drop 0 = dktJ32_sub_0 := by decide +kernel
theorem dJ32_sub_0 : decode cJ32_sub 0 = .ok (.iload_n 0, 1) := dk_26 (dk_at dksJ32_sub_0 0 rfl rfl)
theorem dJ32_sub_1 : decode cJ32_sub 1 = .ok (.iload_n 1, 1) := dk_27 (dk_at dksJ32_sub_0 1 rfl rfl)
theorem dJ32_sub_2 : decode cJ32_sub 2 = .ok (.isub, 1) := dk_100 (dk_at dksJ32_sub_0 2 rfl rfl)
theorem dJ32_sub_3 : decode cJ32_sub 3 = .ok (.dup, 1) := dk_89 (dk_at dksJ32_sub_0 3 rfl rfl)
theorem dJ32_sub_4 : decode cJ32_sub 4 = .ok (.istore_n 0, 1) := dk_59 (dk_at dksJ32_sub_0 4 rfl rfl)
theorem dJ32_sub_5 : decode cJ32_sub 5 = .ok (.ifCond .ge 7, 3) := dk_156 0 7 (dk_at dksJ32_sub_0 5 rfl rfl)
theorem dJ32_sub_8 : decode cJ32_sub 8 = .ok (.iload_n 0, 1) := dk_26 (dk_at dksJ32_sub_0 8 rfl rfl)
theorem dJ32_sub_9 : decode cJ32_sub 9 = .ok (.iload_n 2, 1) := dk_28 (dk_at dksJ32_sub_0 9 rfl rfl)
theorem dJ32_sub_10 : decode cJ32_sub 10 = .ok (.iadd, 1) := dk_96 (dk_at dksJ32_sub_0 10 rfl rfl)
theorem dJ32_sub_11 : decode cJ32_sub 11 = .ok (.istore_n 0, 1) := dk_59 (dk_at dksJ32_sub_0 11 rfl rfl)
theorem dJ32_sub_12 : decode cJ32_sub 12 = .ok (.iload_n 0, 1) := dk_26 (dk_at dksJ32_sub_0 12 rfl rfl)
theorem dJ32_sub_13 : decode cJ32_sub 13 = .ok (.ireturn, 1) := dk_172 (dk_at dksJ32_sub_0 13 rfl rfl)
theorem q166 : (Jvm.Cond.initialized "java/util/ArrayDeque") ∈ lw_all := lw_g (lw_at lw_m1 42 rfl) rfl
theorem q948 : (Jvm.Cond.selects "java/util/ArrayDeque" ({ cls := "java/lang/Object", name := "getClass", desc := "()Ljava/lang/Class;" } : Jvm.MethodName) ({ cls := "java/lang/Object", name := "getClass", desc := "()Ljava/lang/Class;" } : Jvm.MethodName)) ∈ lw_all := lw_g (lw_at lw_m4 104 rfl) rfl
theorem q1223 : (Jvm.Cond.instantiable "java/util/ArrayDeque" (3 : Nat)) ∈ lw_all := lw_g (lw_at lw_m5 139 rfl) rfl
theorem q1225 : (Jvm.Cond.instanceMethod ({ cls := "java/util/ArrayDeque", name := "<init>", desc := "()V" } : Jvm.MethodName)) ∈ lw_all := lw_g (lw_at lw_m5 141 rfl) rfl
theorem q1226 : (Jvm.Cond.code ({ cls := "java/util/ArrayDeque", name := "<init>", desc := "()V" } : Jvm.MethodName) prog_60_method_3_code (1 : Nat) (Option.none : Option Jvm.ClassFile.FieldType)) ∈ lw_all := lw_g (lw_at lw_m5 142 rfl) rfl
theorem q1227 : (Jvm.Cond.methodLink "java/util/ArrayDeque" (42 : Nat) ({ cls := "java/util/AbstractCollection", name := "<init>", desc := "()V" } : Jvm.MethodName)) ∈ lw_all := lw_g (lw_at lw_m5 143 rfl) rfl
theorem q1228 : (Jvm.Cond.classLink "java/util/ArrayDeque" (47 : Nat) "java/lang/Object") ∈ lw_all := lw_g (lw_at lw_m5 144 rfl) rfl
theorem q1229 : (Jvm.Cond.fieldLink "java/util/ArrayDeque" (3 : Nat) "java/util/ArrayDeque" "elements" "[Ljava/lang/Object;") ∈ lw_all := lw_g (lw_at lw_m5 145 rfl) rfl
theorem q1232 : (Jvm.Cond.fieldLink "java/util/ArrayDeque" (24 : Nat) "java/util/ArrayDeque" "head" "I") ∈ lw_all := lw_g (lw_at lw_m5 148 rfl) rfl
theorem q1233 : (Jvm.Cond.fieldLink "java/util/ArrayDeque" (20 : Nat) "java/util/ArrayDeque" "tail" "I") ∈ lw_all := lw_g (lw_at lw_m5 149 rfl) rfl
theorem q1234 : (Jvm.Cond.lays "java/util/ArrayDeque" "java/util/ArrayDeque" "elements" "[Ljava/lang/Object;") ∈ lw_all := lw_g (lw_at lw_m5 150 rfl) rfl
theorem q1235 : (Jvm.Cond.soleField "java/util/ArrayDeque" "elements") ∈ lw_all := lw_g (lw_at lw_m5 151 rfl) rfl
theorem q1236 : (Jvm.Cond.lays "java/util/ArrayDeque" "java/util/ArrayDeque" "head" "I") ∈ lw_all := lw_g (lw_at lw_m5 152 rfl) rfl
theorem q1237 : (Jvm.Cond.soleField "java/util/ArrayDeque" "head") ∈ lw_all := lw_g (lw_at lw_m5 153 rfl) rfl
theorem q1238 : (Jvm.Cond.lays "java/util/ArrayDeque" "java/util/ArrayDeque" "tail" "I") ∈ lw_all := lw_g (lw_at lw_m5 154 rfl) rfl
theorem q1239 : (Jvm.Cond.soleField "java/util/ArrayDeque" "tail") ∈ lw_all := lw_g (lw_at lw_m5 155 rfl) rfl
theorem q1240 : (Jvm.Cond.superclass "java/util/ArrayDeque" "java/util/AbstractCollection") ∈ lw_all := lw_g (lw_at lw_m5 156 rfl) rfl
theorem q1500 : (Jvm.Cond.static ({ cls := "java/util/ArrayDeque", name := "nonNullElementAt", desc := "([Ljava/lang/Object;I)Ljava/lang/Object;" } : Jvm.MethodName)) ∈ lw_all := lw_g (lw_at lw_m6 176 rfl) rfl
theorem q1501 : (Jvm.Cond.code ({ cls := "java/util/ArrayDeque", name := "nonNullElementAt", desc := "([Ljava/lang/Object;I)Ljava/lang/Object;" } : Jvm.MethodName) prog_60_method_11_code (3 : Nat) (Option.some (Jvm.ClassFile.FieldType.object "java/lang/Object"))) ∈ lw_all := lw_g (lw_at lw_m6 177 rfl) rfl
theorem q1503 : (Jvm.Cond.static ({ cls := "java/util/ArrayDeque", name := "inc", desc := "(II)I" } : Jvm.MethodName)) ∈ lw_all := lw_g (lw_at lw_m6 179 rfl) rfl
theorem q1504 : (Jvm.Cond.code ({ cls := "java/util/ArrayDeque", name := "inc", desc := "(II)I" } : Jvm.MethodName) prog_60_method_6_code (2 : Nat) (Option.some Jvm.ClassFile.FieldType.int)) ∈ lw_all := lw_g (lw_at lw_m6 180 rfl) rfl
theorem q1549 : (Jvm.Cond.instanceMethod ({ cls := "java/util/ArrayDeque", name := "addLast", desc := "(Ljava/lang/Object;)V" } : Jvm.MethodName)) ∈ lw_all := lw_g (lw_at lw_m6 225 rfl) rfl
theorem q1550 : (Jvm.Cond.selects "java/util/ArrayDeque" ({ cls := "java/util/ArrayDeque", name := "addLast", desc := "(Ljava/lang/Object;)V" } : Jvm.MethodName) ({ cls := "java/util/ArrayDeque", name := "addLast", desc := "(Ljava/lang/Object;)V" } : Jvm.MethodName)) ∈ lw_all := lw_g (lw_at lw_m6 226 rfl) rfl
theorem q1551 : (Jvm.Cond.code ({ cls := "java/util/ArrayDeque", name := "addLast", desc := "(Ljava/lang/Object;)V" } : Jvm.MethodName) prog_60_method_13_code (3 : Nat) (Option.none : Option Jvm.ClassFile.FieldType)) ∈ lw_all := lw_g (lw_at lw_m6 227 rfl) rfl
theorem q1552 : (Jvm.Cond.methodLink "java/util/ArrayDeque" (74 : Nat) ({ cls := "java/util/ArrayDeque", name := "inc", desc := "(II)I" } : Jvm.MethodName)) ∈ lw_all := lw_g (lw_at lw_m6 228 rfl) rfl
theorem q1553 : (Jvm.Cond.methodLink "java/util/ArrayDeque" (71 : Nat) ({ cls := "java/util/ArrayDeque", name := "grow", desc := "(I)V" } : Jvm.MethodName)) ∈ lw_all := lw_g (lw_at lw_m6 229 rfl) rfl
theorem q1554 : (Jvm.Cond.privateMethod ({ cls := "java/util/ArrayDeque", name := "grow", desc := "(I)V" } : Jvm.MethodName)) ∈ lw_tbl := lw_at lw_m6 230 rfl
theorem q1555 : (Jvm.Cond.instanceMethod ({ cls := "java/util/ArrayDeque", name := "grow", desc := "(I)V" } : Jvm.MethodName)) ∈ lw_all := lw_g (lw_at lw_m6 231 rfl) rfl
theorem q1556 : (Jvm.Cond.code ({ cls := "java/util/ArrayDeque", name := "grow", desc := "(I)V" } : Jvm.MethodName) prog_60_method_1_code (9 : Nat) (Option.none : Option Jvm.ClassFile.FieldType)) ∈ lw_all := lw_g (lw_at lw_m6 232 rfl) rfl
theorem q1557 : (Jvm.Cond.constant "java/util/ArrayDeque" (9 : Nat) (2147483639 : Int32)) ∈ lw_all := lw_g (lw_at lw_m6 233 rfl) rfl
theorem q1558 : (Jvm.Cond.methodLink "java/util/ArrayDeque" (10 : Nat) ({ cls := "java/util/ArrayDeque", name := "newCapacity", desc := "(II)I" } : Jvm.MethodName)) ∈ lw_all := lw_g (lw_at lw_m6 234 rfl) rfl
theorem q1559 : (Jvm.Cond.privateMethod ({ cls := "java/util/ArrayDeque", name := "newCapacity", desc := "(II)I" } : Jvm.MethodName)) ∈ lw_tbl := lw_at lw_m6 235 rfl
theorem q1560 : (Jvm.Cond.instanceMethod ({ cls := "java/util/ArrayDeque", name := "newCapacity", desc := "(II)I" } : Jvm.MethodName)) ∈ lw_all := lw_g (lw_at lw_m6 236 rfl) rfl
theorem q1561 : (Jvm.Cond.code ({ cls := "java/util/ArrayDeque", name := "newCapacity", desc := "(II)I" } : Jvm.MethodName) prog_60_method_2_code (5 : Nat) (Option.some Jvm.ClassFile.FieldType.int)) ∈ lw_all := lw_g (lw_at lw_m6 237 rfl) rfl
theorem q1562 : (Jvm.Cond.classLink "java/util/ArrayDeque" (33 : Nat) "java/lang/IllegalStateException") ∈ lw_all := lw_g (lw_at lw_m6 238 rfl) rfl
theorem q1571 : (Jvm.Cond.stringRef "java/util/ArrayDeque" (35 : Nat) "Sorry, deque too big") ∈ lw_tbl := lw_at lw_m7 7 rfl
theorem q1572 : (Jvm.Cond.methodLink "java/util/ArrayDeque" (37 : Nat) ({ cls := "java/lang/IllegalStateException", name := "<init>", desc := "(Ljava/lang/String;)V" } : Jvm.MethodName)) ∈ lw_all := lw_g (lw_at lw_m7 8 rfl) rfl
theorem q1578 : (Jvm.Cond.constant "java/util/ArrayDeque" (41 : Nat) (2147483647 : Int32)) ∈ lw_all := lw_g (lw_at lw_m7 14 rfl) rfl
theorem q1579 : (Jvm.Cond.methodLink "java/util/ArrayDeque" (14 : Nat) ({ cls := "java/util/Arrays", name := "copyOf", desc := "([Ljava/lang/Object;I)[Ljava/lang/Object;" } : Jvm.MethodName)) ∈ lw_all := lw_g (lw_at lw_m7 15 rfl) rfl
theorem q1580 : (Jvm.Cond.methodLink "java/util/ArrayDeque" (27 : Nat) ({ cls := "java/lang/System", name := "arraycopy", desc := "(Ljava/lang/Object;ILjava/lang/Object;II)V" } : Jvm.MethodName)) ∈ lw_all := lw_g (lw_at lw_m7 16 rfl) rfl
theorem q1582 : (Jvm.Cond.instanceMethod ({ cls := "java/util/ArrayDeque", name := "iterator", desc := "()Ljava/util/Iterator;" } : Jvm.MethodName)) ∈ lw_all := lw_g (lw_at lw_m7 18 rfl) rfl
theorem q1583 : (Jvm.Cond.selects "java/util/ArrayDeque" ({ cls := "java/util/ArrayDeque", name := "iterator", desc := "()Ljava/util/Iterator;" } : Jvm.MethodName) ({ cls := "java/util/ArrayDeque", name := "iterator", desc := "()Ljava/util/Iterator;" } : Jvm.MethodName)) ∈ lw_all := lw_g (lw_at lw_m7 19 rfl) rfl
theorem q1584 : (Jvm.Cond.code ({ cls := "java/util/ArrayDeque", name := "iterator", desc := "()Ljava/util/Iterator;" } : Jvm.MethodName) prog_60_method_39_code (1 : Nat) (Option.some (Jvm.ClassFile.FieldType.object "java/util/Iterator"))) ∈ lw_all := lw_g (lw_at lw_m7 20 rfl) rfl
theorem q1585 : (Jvm.Cond.classLink "java/util/ArrayDeque" (131 : Nat) "java/util/ArrayDeque$DeqIterator") ∈ lw_all := lw_g (lw_at lw_m7 21 rfl) rfl
theorem q1587 : (Jvm.Cond.methodLink "java/util/ArrayDeque" (133 : Nat) ({ cls := "java/util/ArrayDeque$DeqIterator", name := "<init>", desc := "(Ljava/util/ArrayDeque;)V" } : Jvm.MethodName)) ∈ lw_all := lw_g (lw_at lw_m7 23 rfl) rfl
theorem q1592 : (Jvm.Cond.instanceMethod ({ cls := "java/util/ArrayDeque", name := "size", desc := "()I" } : Jvm.MethodName)) ∈ lw_all := lw_g (lw_at lw_m7 28 rfl) rfl
theorem q1593 : (Jvm.Cond.selects "java/util/ArrayDeque" ({ cls := "java/util/ArrayDeque", name := "size", desc := "()I" } : Jvm.MethodName) ({ cls := "java/util/ArrayDeque", name := "size", desc := "()I" } : Jvm.MethodName)) ∈ lw_all := lw_g (lw_at lw_m7 29 rfl) rfl
theorem q1594 : (Jvm.Cond.code ({ cls := "java/util/ArrayDeque", name := "size", desc := "()I" } : Jvm.MethodName) prog_60_method_37_code (1 : Nat) (Option.some Jvm.ClassFile.FieldType.int)) ∈ lw_all := lw_g (lw_at lw_m7 30 rfl) rfl
theorem q1595 : (Jvm.Cond.methodLink "java/util/ArrayDeque" (127 : Nat) ({ cls := "java/util/ArrayDeque", name := "sub", desc := "(III)I" } : Jvm.MethodName)) ∈ lw_all := lw_g (lw_at lw_m7 31 rfl) rfl
theorem q1596 : (Jvm.Cond.static ({ cls := "java/util/ArrayDeque", name := "sub", desc := "(III)I" } : Jvm.MethodName)) ∈ lw_all := lw_g (lw_at lw_m7 32 rfl) rfl
theorem q1597 : (Jvm.Cond.code ({ cls := "java/util/ArrayDeque", name := "sub", desc := "(III)I" } : Jvm.MethodName) prog_60_method_9_code (3 : Nat) (Option.some Jvm.ClassFile.FieldType.int)) ∈ lw_all := lw_g (lw_at lw_m7 33 rfl) rfl
theorem q4013 : (Jvm.Cond.selects "java/util/ArrayDeque" ({ cls := "java/util/AbstractCollection", name := "size", desc := "()I" } : Jvm.MethodName) ({ cls := "java/util/ArrayDeque", name := "size", desc := "()I" } : Jvm.MethodName)) ∈ lw_all := lw_g (lw_at lw_m17 49 rfl) rfl
theorem q4064 : (Jvm.Cond.castable "java/util/ArrayDeque" "java/lang/Object") ∈ lw_tbl := lw_at lw_m17 100 rfl
theorem in_J32 : ∀ w ∈ wsJ320, w ∈ lw_all := lw_in wsJ320 [1234, 1236, 1238] (by decide +kernel) (by decide +kernel)

/-! java/util/ArrayList$Itr -/
set_option maxRecDepth 100000
def RJ33 : String := "java/util/ArrayList$Itr"
def TJ33 : u_T := fun k => match k with
  | 0 => ("java/util/ArrayList$Itr", "cursor", "I", false)
  | 1 => ("java/util/ArrayList$Itr", "lastRet", "I", false)
  | 2 => ("java/util/ArrayList$Itr", "expectedModCount", "I", false)
  | _ => ("java/util/ArrayList$Itr", "this$0", "Ljava/util/ArrayList;", true)
def tyJ33 : Nat → FieldType := fun k => match k with
  | 0 => .int
  | 1 => .int
  | 2 => .int
  | _ => .object "java/util/ArrayList"
abbrev wsJ330 : List Cond := u_ws RJ33 TJ33 4
theorem nmJ33 : ∀ a, a < 4 → ∀ b, b < 4 → a ≠ b → (TJ33 a).2.1 ≠ (TJ33 b).2.1 := by decide +kernel
theorem tyJ33_ok : ∀ k, k < 4 → parseFieldDescriptor (TJ33 k).2.2.1 = some (tyJ33 k) := by decide +kernel
abbrev cJ33_init : ByteArray := prog_63_method_1_code
def yJ33_init : MethodName := ⟨RJ33, "<init>", "(Ljava/util/ArrayList;)V"⟩
def dkwJ33_init_1 : List UInt8 := [181, 0, 22, 177]
abbrev dktJ33_init_1 : List UInt8 := dkwJ33_init_1 ++ []
def dkwJ33_init_0 : List UInt8 := [42, 43, 181, 0, 1, 42, 183, 0, 7, 42, 2, 181, 0, 13, 42, 42, 180, 0, 1, 180, 0, 17]
abbrev dktJ33_init_0 : List UInt8 := dkwJ33_init_0 ++ dktJ33_init_1
theorem dksJ33_init_0 : cJ33_init.data.toList.drop 0 = dktJ33_init_0 := by decide +kernel
theorem dksJ33_init_1 : cJ33_init.data.toList.drop 22 = dktJ33_init_1 := dk_seg dksJ33_init_0 22 rfl rfl
theorem dJ33_init_0 : decode cJ33_init 0 = .ok (.aload_n 0, 1) := dk_42 (dk_at dksJ33_init_0 0 rfl rfl)
theorem dJ33_init_1 : decode cJ33_init 1 = .ok (.aload_n 1, 1) := dk_43 (dk_at dksJ33_init_0 1 rfl rfl)
theorem dJ33_init_2 : decode cJ33_init 2 = .ok (.putfield 1, 3) := dk_181 0 1 (dk_at dksJ33_init_0 2 rfl rfl)
theorem dJ33_init_5 : decode cJ33_init 5 = .ok (.aload_n 0, 1) := dk_42 (dk_at dksJ33_init_0 5 rfl rfl)
theorem dJ33_init_6 : decode cJ33_init 6 = .ok (.invokespecial 7, 3) := dk_183 0 7 (dk_at dksJ33_init_0 6 rfl rfl)
theorem dJ33_init_9 : decode cJ33_init 9 = .ok (.aload_n 0, 1) := dk_42 (dk_at dksJ33_init_0 9 rfl rfl)
theorem dJ33_init_10 : decode cJ33_init 10 = .ok (.iconst (-1), 1) := dk_2 (dk_at dksJ33_init_0 10 rfl rfl)
theorem dJ33_init_11 : decode cJ33_init 11 = .ok (.putfield 13, 3) := dk_181 0 13 (dk_at dksJ33_init_0 11 rfl rfl)
theorem dJ33_init_14 : decode cJ33_init 14 = .ok (.aload_n 0, 1) := dk_42 (dk_at dksJ33_init_0 14 rfl rfl)
theorem dJ33_init_15 : decode cJ33_init 15 = .ok (.aload_n 0, 1) := dk_42 (dk_at dksJ33_init_0 15 rfl rfl)
theorem dJ33_init_16 : decode cJ33_init 16 = .ok (.getfield 1, 3) := dk_180 0 1 (dk_at dksJ33_init_0 16 rfl rfl)
theorem dJ33_init_19 : decode cJ33_init 19 = .ok (.getfield 17, 3) := dk_180 0 17 (dk_at dksJ33_init_0 19 rfl rfl)
theorem dJ33_init_22 : decode cJ33_init 22 = .ok (.putfield 22, 3) := dk_181 0 22 (dk_at dksJ33_init_1 0 rfl rfl)
theorem dJ33_init_25 : decode cJ33_init 25 = .ok (.return_, 1) := dk_177 (dk_at dksJ33_init_1 3 rfl rfl)
abbrev cJ33_hasNext : ByteArray := prog_63_method_2_code
def yJ33_hasNext : MethodName := ⟨RJ33, "hasNext", "()Z"⟩
def dkwJ33_hasNext_0 : List UInt8 := [42, 180, 0, 25, 42, 180, 0, 1, 180, 0, 28, 159, 0, 7, 4, 167, 0, 4, 3, 172]
abbrev dktJ33_hasNext_0 : List UInt8 := dkwJ33_hasNext_0 ++ []
theorem dksJ33_hasNext_0 : cJ33_hasNext.data.toList.drop 0 = dktJ33_hasNext_0 := by decide +kernel
theorem dJ33_hasNext_0 : decode cJ33_hasNext 0 = .ok (.aload_n 0, 1) := dk_42 (dk_at dksJ33_hasNext_0 0 rfl rfl)
theorem dJ33_hasNext_1 : decode cJ33_hasNext 1 = .ok (.getfield 25, 3) := dk_180 0 25 (dk_at dksJ33_hasNext_0 1 rfl rfl)
theorem dJ33_hasNext_4 : decode cJ33_hasNext 4 = .ok (.aload_n 0, 1) := dk_42 (dk_at dksJ33_hasNext_0 4 rfl rfl)
theorem dJ33_hasNext_5 : decode cJ33_hasNext 5 = .ok (.getfield 1, 3) := dk_180 0 1 (dk_at dksJ33_hasNext_0 5 rfl rfl)
theorem dJ33_hasNext_8 : decode cJ33_hasNext 8 = .ok (.getfield 28, 3) := dk_180 0 28 (dk_at dksJ33_hasNext_0 8 rfl rfl)
theorem dJ33_hasNext_11 : decode cJ33_hasNext 11 = .ok (.if_icmp .eq 7, 3) := dk_159 0 7 (dk_at dksJ33_hasNext_0 11 rfl rfl)
theorem dJ33_hasNext_14 : decode cJ33_hasNext 14 = .ok (.iconst 1, 1) := dk_4 (dk_at dksJ33_hasNext_0 14 rfl rfl)
theorem dJ33_hasNext_15 : decode cJ33_hasNext 15 = .ok (.goto 4, 3) := dk_167 0 4 (dk_at dksJ33_hasNext_0 15 rfl rfl)
theorem dJ33_hasNext_18 : decode cJ33_hasNext 18 = .ok (.iconst 0, 1) := dk_3 (dk_at dksJ33_hasNext_0 18 rfl rfl)
theorem dJ33_hasNext_19 : decode cJ33_hasNext 19 = .ok (.ireturn, 1) := dk_172 (dk_at dksJ33_hasNext_0 19 rfl rfl)
abbrev cJ33_next : ByteArray := prog_63_method_3_code
def yJ33_next : MethodName := ⟨RJ33, "next", "()Ljava/lang/Object;"⟩
def dkwJ33_next_2 : List UInt8 := [183, 0, 43, 191, 42, 27, 4, 96, 181, 0, 25, 44, 42, 27, 90, 181, 0, 13, 50, 176]
abbrev dktJ33_next_2 : List UInt8 := dkwJ33_next_2 ++ []
def dkwJ33_next_1 : List UInt8 := [183, 0, 36, 191, 42, 180, 0, 1, 180, 0, 37, 77, 27, 44, 190, 161, 0, 11, 187, 0, 41, 89]
abbrev dktJ33_next_1 : List UInt8 := dkwJ33_next_1 ++ dktJ33_next_2
def dkwJ33_next_0 : List UInt8 := [42, 182, 0, 31, 42, 180, 0, 25, 60, 27, 42, 180, 0, 1, 180, 0, 28, 161, 0, 11, 187, 0, 34, 89]
abbrev dktJ33_next_0 : List UInt8 := dkwJ33_next_0 ++ dktJ33_next_1
theorem dksJ33_next_0 : cJ33_next.data.toList.drop 0 = dktJ33_next_0 := by decide +kernel
theorem dksJ33_next_1 : cJ33_next.data.toList.drop 24 = dktJ33_next_1 := dk_seg dksJ33_next_0 24 rfl rfl
theorem dksJ33_next_2 : cJ33_next.data.toList.drop 46 = dktJ33_next_2 := dk_seg dksJ33_next_1 22 rfl rfl
theorem dJ33_next_0 : decode cJ33_next 0 = .ok (.aload_n 0, 1) := dk_42 (dk_at dksJ33_next_0 0 rfl rfl)
theorem dJ33_next_1 : decode cJ33_next 1 = .ok (.invokevirtual 31, 3) := dk_182 0 31 (dk_at dksJ33_next_0 1 rfl rfl)
theorem dJ33_next_4 : decode cJ33_next 4 = .ok (.aload_n 0, 1) := dk_42 (dk_at dksJ33_next_0 4 rfl rfl)
theorem dJ33_next_5 : decode cJ33_next 5 = .ok (.getfield 25, 3) := dk_180 0 25 (dk_at dksJ33_next_0 5 rfl rfl)
theorem dJ33_next_8 : decode cJ33_next 8 = .ok (.istore_n 1, 1) := dk_60 (dk_at dksJ33_next_0 8 rfl rfl)
theorem dJ33_next_9 : decode cJ33_next 9 = .ok (.iload_n 1, 1) := dk_27 (dk_at dksJ33_next_0 9 rfl rfl)
theorem dJ33_next_10 : decode cJ33_next 10 = .ok (.aload_n 0, 1) := dk_42 (dk_at dksJ33_next_0 10 rfl rfl)
theorem dJ33_next_11 : decode cJ33_next 11 = .ok (.getfield 1, 3) := dk_180 0 1 (dk_at dksJ33_next_0 11 rfl rfl)
theorem dJ33_next_14 : decode cJ33_next 14 = .ok (.getfield 28, 3) := dk_180 0 28 (dk_at dksJ33_next_0 14 rfl rfl)
theorem dJ33_next_17 : decode cJ33_next 17 = .ok (.if_icmp .lt 11, 3) := dk_161 0 11 (dk_at dksJ33_next_0 17 rfl rfl)
theorem dJ33_next_20 : decode cJ33_next 20 = .ok (.new 34, 3) := dk_187 0 34 (dk_at dksJ33_next_0 20 rfl rfl)
theorem dJ33_next_23 : decode cJ33_next 23 = .ok (.dup, 1) := dk_89 (dk_at dksJ33_next_0 23 rfl rfl)
theorem dJ33_next_24 : decode cJ33_next 24 = .ok (.invokespecial 36, 3) := dk_183 0 36 (dk_at dksJ33_next_1 0 rfl rfl)
theorem dJ33_next_27 : decode cJ33_next 27 = .ok (.athrow, 1) := dk_191 (dk_at dksJ33_next_1 3 rfl rfl)
theorem dJ33_next_28 : decode cJ33_next 28 = .ok (.aload_n 0, 1) := dk_42 (dk_at dksJ33_next_1 4 rfl rfl)
theorem dJ33_next_29 : decode cJ33_next 29 = .ok (.getfield 1, 3) := dk_180 0 1 (dk_at dksJ33_next_1 5 rfl rfl)
theorem dJ33_next_32 : decode cJ33_next 32 = .ok (.getfield 37, 3) := dk_180 0 37 (dk_at dksJ33_next_1 8 rfl rfl)
theorem dJ33_next_35 : decode cJ33_next 35 = .ok (.astore_n 2, 1) := dk_77 (dk_at dksJ33_next_1 11 rfl rfl)
theorem dJ33_next_36 : decode cJ33_next 36 = .ok (.iload_n 1, 1) := dk_27 (dk_at dksJ33_next_1 12 rfl rfl)
theorem dJ33_next_37 : decode cJ33_next 37 = .ok (.aload_n 2, 1) := dk_44 (dk_at dksJ33_next_1 13 rfl rfl)
theorem dJ33_next_38 : decode cJ33_next 38 = .ok (.arraylength, 1) := dk_190 (dk_at dksJ33_next_1 14 rfl rfl)
theorem dJ33_next_39 : decode cJ33_next 39 = .ok (.if_icmp .lt 11, 3) := dk_161 0 11 (dk_at dksJ33_next_1 15 rfl rfl)
theorem dJ33_next_42 : decode cJ33_next 42 = .ok (.new 41, 3) := dk_187 0 41 (dk_at dksJ33_next_1 18 rfl rfl)
theorem dJ33_next_45 : decode cJ33_next 45 = .ok (.dup, 1) := dk_89 (dk_at dksJ33_next_1 21 rfl rfl)
theorem dJ33_next_46 : decode cJ33_next 46 = .ok (.invokespecial 43, 3) := dk_183 0 43 (dk_at dksJ33_next_2 0 rfl rfl)
theorem dJ33_next_49 : decode cJ33_next 49 = .ok (.athrow, 1) := dk_191 (dk_at dksJ33_next_2 3 rfl rfl)
theorem dJ33_next_50 : decode cJ33_next 50 = .ok (.aload_n 0, 1) := dk_42 (dk_at dksJ33_next_2 4 rfl rfl)
theorem dJ33_next_51 : decode cJ33_next 51 = .ok (.iload_n 1, 1) := dk_27 (dk_at dksJ33_next_2 5 rfl rfl)
theorem dJ33_next_52 : decode cJ33_next 52 = .ok (.iconst 1, 1) := dk_4 (dk_at dksJ33_next_2 6 rfl rfl)
theorem dJ33_next_53 : decode cJ33_next 53 = .ok (.iadd, 1) := dk_96 (dk_at dksJ33_next_2 7 rfl rfl)
theorem dJ33_next_54 : decode cJ33_next 54 = .ok (.putfield 25, 3) := dk_181 0 25 (dk_at dksJ33_next_2 8 rfl rfl)
theorem dJ33_next_57 : decode cJ33_next 57 = .ok (.aload_n 2, 1) := dk_44 (dk_at dksJ33_next_2 11 rfl rfl)
theorem dJ33_next_58 : decode cJ33_next 58 = .ok (.aload_n 0, 1) := dk_42 (dk_at dksJ33_next_2 12 rfl rfl)
theorem dJ33_next_59 : decode cJ33_next 59 = .ok (.iload_n 1, 1) := dk_27 (dk_at dksJ33_next_2 13 rfl rfl)
theorem dJ33_next_60 : decode cJ33_next 60 = .ok (.dup_x1, 1) := dk_90 (dk_at dksJ33_next_2 14 rfl rfl)
theorem dJ33_next_61 : decode cJ33_next 61 = .ok (.putfield 13, 3) := dk_181 0 13 (dk_at dksJ33_next_2 15 rfl rfl)
theorem dJ33_next_64 : decode cJ33_next 64 = .ok (.aaload, 1) := dk_50 (dk_at dksJ33_next_2 18 rfl rfl)
theorem dJ33_next_65 : decode cJ33_next 65 = .ok (.areturn, 1) := dk_176 (dk_at dksJ33_next_2 19 rfl rfl)
abbrev cJ33_checkForComodification : ByteArray := prog_63_method_6_code
def yJ33_checkForComodification : MethodName := ⟨RJ33, "checkForComodification", "()V"⟩
def dkwJ33_checkForComodification_0 : List UInt8 := [42, 180, 0, 1, 180, 0, 17, 42, 180, 0, 22, 159, 0, 11, 187, 0, 41, 89, 183, 0, 43, 191, 177]
abbrev dktJ33_checkForComodification_0 : List UInt8 := dkwJ33_checkForComodification_0 ++ []
theorem dksJ33_checkForComodification_0 : cJ33_checkForComodification.data.toList.drop 0 = dktJ33_checkForComodification_0 := by decide +kernel
theorem dJ33_checkForComodification_0 : decode cJ33_checkForComodification 0 = .ok (.aload_n 0, 1) := dk_42 (dk_at dksJ33_checkForComodification_0 0 rfl rfl)
theorem dJ33_checkForComodification_1 : decode cJ33_checkForComodification 1 = .ok (.getfield 1, 3) := dk_180 0 1 (dk_at dksJ33_checkForComodification_0 1 rfl rfl)
theorem dJ33_checkForComodification_4 : decode cJ33_checkForComodification 4 = .ok (.getfield 17, 3) := dk_180 0 17 (dk_at dksJ33_checkForComodification_0 4 rfl rfl)
theorem dJ33_checkForComodification_7 : decode cJ33_checkForComodification 7 = .ok (.aload_n 0, 1) := dk_42 (dk_at dksJ33_checkForComodification_0 7 rfl rfl)
theorem dJ33_checkForComodification_8 : decode cJ33_checkForComodification 8 = .ok (.getfield 22, 3) := dk_180 0 22 (dk_at dksJ33_checkForComodification_0 8 rfl rfl)
theorem dJ33_checkForComodification_11 : decode cJ33_checkForComodification 11 = .ok (.if_icmp .eq 11, 3) := dk_159 0 11 (dk_at dksJ33_checkForComodification_0 11 rfl rfl)
theorem dJ33_checkForComodification_14 : decode cJ33_checkForComodification 14 = .ok (.new 41, 3) := dk_187 0 41 (dk_at dksJ33_checkForComodification_0 14 rfl rfl)
theorem dJ33_checkForComodification_17 : decode cJ33_checkForComodification 17 = .ok (.dup, 1) := dk_89 (dk_at dksJ33_checkForComodification_0 17 rfl rfl)
theorem dJ33_checkForComodification_18 : decode cJ33_checkForComodification 18 = .ok (.invokespecial 43, 3) := dk_183 0 43 (dk_at dksJ33_checkForComodification_0 18 rfl rfl)
theorem dJ33_checkForComodification_21 : decode cJ33_checkForComodification 21 = .ok (.athrow, 1) := dk_191 (dk_at dksJ33_checkForComodification_0 21 rfl rfl)
theorem dJ33_checkForComodification_22 : decode cJ33_checkForComodification 22 = .ok (.return_, 1) := dk_177 (dk_at dksJ33_checkForComodification_0 22 rfl rfl)
theorem q167 : (Jvm.Cond.initialized "java/util/ArrayList$Itr") ∈ lw_all := lw_g (lw_at lw_m1 43 rfl) rfl
theorem q257 : (Jvm.Cond.fieldLink "java/util/ArrayList$Itr" (37 : Nat) "java/util/ArrayList" "elementData" "[Ljava/lang/Object;") ∈ lw_all := lw_g (lw_at lw_m1 133 rfl) rfl
theorem q258 : (Jvm.Cond.fieldLinkNest "java/util/ArrayList$Itr" (28 : Nat) "java/util/ArrayList" "size" "I" "java/util/ArrayList") ∈ lw_tbl := lw_at lw_m1 134 rfl
theorem q263 : (Jvm.Cond.fieldLink "java/util/ArrayList$Itr" (17 : Nat) "java/util/ArrayList" "modCount" "I") ∈ lw_all := lw_g (lw_at lw_m1 139 rfl) rfl
theorem q951 : (Jvm.Cond.selects "java/util/ArrayList$Itr" ({ cls := "java/lang/Object", name := "getClass", desc := "()Ljava/lang/Class;" } : Jvm.MethodName) ({ cls := "java/lang/Object", name := "getClass", desc := "()Ljava/lang/Class;" } : Jvm.MethodName)) ∈ lw_all := lw_g (lw_at lw_m4 107 rfl) rfl
theorem q1251 : (Jvm.Cond.instantiable "java/util/ArrayList$Itr" (4 : Nat)) ∈ lw_all := lw_g (lw_at lw_m5 167 rfl) rfl
theorem q1253 : (Jvm.Cond.instanceMethod ({ cls := "java/util/ArrayList$Itr", name := "<init>", desc := "(Ljava/util/ArrayList;)V" } : Jvm.MethodName)) ∈ lw_all := lw_g (lw_at lw_m5 169 rfl) rfl
theorem q1254 : (Jvm.Cond.code ({ cls := "java/util/ArrayList$Itr", name := "<init>", desc := "(Ljava/util/ArrayList;)V" } : Jvm.MethodName) prog_63_method_1_code (2 : Nat) (Option.none : Option Jvm.ClassFile.FieldType)) ∈ lw_all := lw_g (lw_at lw_m5 170 rfl) rfl
theorem q1255 : (Jvm.Cond.methodLink "java/util/ArrayList$Itr" (7 : Nat) ({ cls := "java/lang/Object", name := "<init>", desc := "()V" } : Jvm.MethodName)) ∈ lw_all := lw_g (lw_at lw_m5 171 rfl) rfl
theorem q1258 : (Jvm.Cond.fieldLink "java/util/ArrayList$Itr" (25 : Nat) "java/util/ArrayList$Itr" "cursor" "I") ∈ lw_all := lw_g (lw_at lw_m5 174 rfl) rfl
theorem q1259 : (Jvm.Cond.fieldLink "java/util/ArrayList$Itr" (13 : Nat) "java/util/ArrayList$Itr" "lastRet" "I") ∈ lw_all := lw_g (lw_at lw_m5 175 rfl) rfl
theorem q1260 : (Jvm.Cond.fieldLink "java/util/ArrayList$Itr" (22 : Nat) "java/util/ArrayList$Itr" "expectedModCount" "I") ∈ lw_all := lw_g (lw_at lw_m5 176 rfl) rfl
theorem q1261 : (Jvm.Cond.fieldLink "java/util/ArrayList$Itr" (1 : Nat) "java/util/ArrayList$Itr" "this$0" "Ljava/util/ArrayList;") ∈ lw_all := lw_g (lw_at lw_m5 177 rfl) rfl
theorem q1262 : (Jvm.Cond.lays "java/util/ArrayList$Itr" "java/util/ArrayList$Itr" "cursor" "I") ∈ lw_all := lw_g (lw_at lw_m5 178 rfl) rfl
theorem q1263 : (Jvm.Cond.soleField "java/util/ArrayList$Itr" "cursor") ∈ lw_all := lw_g (lw_at lw_m5 179 rfl) rfl
theorem q1264 : (Jvm.Cond.lays "java/util/ArrayList$Itr" "java/util/ArrayList$Itr" "lastRet" "I") ∈ lw_all := lw_g (lw_at lw_m5 180 rfl) rfl
theorem q1265 : (Jvm.Cond.soleField "java/util/ArrayList$Itr" "lastRet") ∈ lw_all := lw_g (lw_at lw_m5 181 rfl) rfl
theorem q1266 : (Jvm.Cond.lays "java/util/ArrayList$Itr" "java/util/ArrayList$Itr" "expectedModCount" "I") ∈ lw_all := lw_g (lw_at lw_m5 182 rfl) rfl
theorem q1267 : (Jvm.Cond.soleField "java/util/ArrayList$Itr" "expectedModCount") ∈ lw_all := lw_g (lw_at lw_m5 183 rfl) rfl
theorem q1268 : (Jvm.Cond.laysFinal "java/util/ArrayList$Itr" "java/util/ArrayList$Itr" "this$0" "Ljava/util/ArrayList;") ∈ lw_all := lw_g (lw_at lw_m5 184 rfl) rfl
theorem q1269 : (Jvm.Cond.soleField "java/util/ArrayList$Itr" "this$0") ∈ lw_all := lw_g (lw_at lw_m5 185 rfl) rfl
theorem q1270 : (Jvm.Cond.superclass "java/util/ArrayList$Itr" "java/lang/Object") ∈ lw_all := lw_g (lw_at lw_m5 186 rfl) rfl
theorem q1375 : (Jvm.Cond.castable "java/util/ArrayList$Itr" "java/util/Iterator") ∈ lw_tbl := lw_at lw_m6 51 rfl
theorem q1376 : (Jvm.Cond.selects "java/util/ArrayList$Itr" ({ cls := "java/util/Iterator", name := "hasNext", desc := "()Z" } : Jvm.MethodName) ({ cls := "java/util/ArrayList$Itr", name := "hasNext", desc := "()Z" } : Jvm.MethodName)) ∈ lw_all := lw_g (lw_at lw_m6 52 rfl) rfl
theorem q1377 : (Jvm.Cond.unhidden "java/util/ArrayList$Itr" "hasNext" "()Z") ∈ lw_tbl := lw_at lw_m6 53 rfl
theorem q1378 : (Jvm.Cond.instanceMethod ({ cls := "java/util/ArrayList$Itr", name := "hasNext", desc := "()Z" } : Jvm.MethodName)) ∈ lw_all := lw_g (lw_at lw_m6 54 rfl) rfl
theorem q1379 : (Jvm.Cond.publicMethod ({ cls := "java/util/ArrayList$Itr", name := "hasNext", desc := "()Z" } : Jvm.MethodName)) ∈ lw_tbl := lw_at lw_m6 55 rfl
theorem q1380 : (Jvm.Cond.code ({ cls := "java/util/ArrayList$Itr", name := "hasNext", desc := "()Z" } : Jvm.MethodName) prog_63_method_2_code (1 : Nat) (Option.some Jvm.ClassFile.FieldType.boolean)) ∈ lw_all := lw_g (lw_at lw_m6 56 rfl) rfl
theorem q1505 : (Jvm.Cond.selects "java/util/ArrayList$Itr" ({ cls := "java/util/Iterator", name := "next", desc := "()Ljava/lang/Object;" } : Jvm.MethodName) ({ cls := "java/util/ArrayList$Itr", name := "next", desc := "()Ljava/lang/Object;" } : Jvm.MethodName)) ∈ lw_all := lw_g (lw_at lw_m6 181 rfl) rfl
theorem q1506 : (Jvm.Cond.unhidden "java/util/ArrayList$Itr" "next" "()Ljava/lang/Object;") ∈ lw_tbl := lw_at lw_m6 182 rfl
theorem q1507 : (Jvm.Cond.instanceMethod ({ cls := "java/util/ArrayList$Itr", name := "next", desc := "()Ljava/lang/Object;" } : Jvm.MethodName)) ∈ lw_all := lw_g (lw_at lw_m6 183 rfl) rfl
theorem q1508 : (Jvm.Cond.publicMethod ({ cls := "java/util/ArrayList$Itr", name := "next", desc := "()Ljava/lang/Object;" } : Jvm.MethodName)) ∈ lw_tbl := lw_at lw_m6 184 rfl
theorem q1509 : (Jvm.Cond.code ({ cls := "java/util/ArrayList$Itr", name := "next", desc := "()Ljava/lang/Object;" } : Jvm.MethodName) prog_63_method_3_code (3 : Nat) (Option.some (Jvm.ClassFile.FieldType.object "java/lang/Object"))) ∈ lw_all := lw_g (lw_at lw_m6 185 rfl) rfl
theorem q1510 : (Jvm.Cond.methodLink "java/util/ArrayList$Itr" (31 : Nat) ({ cls := "java/util/ArrayList$Itr", name := "checkForComodification", desc := "()V" } : Jvm.MethodName)) ∈ lw_all := lw_g (lw_at lw_m6 186 rfl) rfl
theorem q1511 : (Jvm.Cond.instanceMethod ({ cls := "java/util/ArrayList$Itr", name := "checkForComodification", desc := "()V" } : Jvm.MethodName)) ∈ lw_all := lw_g (lw_at lw_m6 187 rfl) rfl
theorem q1512 : (Jvm.Cond.selects "java/util/ArrayList$Itr" ({ cls := "java/util/ArrayList$Itr", name := "checkForComodification", desc := "()V" } : Jvm.MethodName) ({ cls := "java/util/ArrayList$Itr", name := "checkForComodification", desc := "()V" } : Jvm.MethodName)) ∈ lw_all := lw_g (lw_at lw_m6 188 rfl) rfl
theorem q1513 : (Jvm.Cond.sameMethod "java/util/ArrayList$Itr" "java/util/ArrayList$Itr" "checkForComodification" "()V") ∈ lw_all := lw_g (lw_at lw_m6 189 rfl) rfl
theorem q1515 : (Jvm.Cond.code ({ cls := "java/util/ArrayList$Itr", name := "checkForComodification", desc := "()V" } : Jvm.MethodName) prog_63_method_6_code (1 : Nat) (Option.none : Option Jvm.ClassFile.FieldType)) ∈ lw_all := lw_g (lw_at lw_m6 191 rfl) rfl
theorem q1516 : (Jvm.Cond.classLink "java/util/ArrayList$Itr" (34 : Nat) "java/util/NoSuchElementException") ∈ lw_all := lw_g (lw_at lw_m6 192 rfl) rfl
theorem q1517 : (Jvm.Cond.methodLink "java/util/ArrayList$Itr" (36 : Nat) ({ cls := "java/util/NoSuchElementException", name := "<init>", desc := "()V" } : Jvm.MethodName)) ∈ lw_all := lw_g (lw_at lw_m6 193 rfl) rfl
theorem q4043 : (Jvm.Cond.castable "java/util/ArrayList$Itr" "java/lang/Object") ∈ lw_tbl := lw_at lw_m17 79 rfl
theorem in_J33 : ∀ w ∈ wsJ330, w ∈ lw_all := lw_in wsJ330 [1262, 1264, 1266, 1268] (by decide +kernel) (by decide +kernel)

/-! java/util/AbstractList$Itr -/
set_option maxRecDepth 100000
def RJ34 : String := "java/util/AbstractList$Itr"
abbrev cJ34_hasNext : ByteArray := prog_54_method_2_code
def yJ34_hasNext : MethodName := ⟨RJ34, "hasNext", "()Z"⟩
def dkwJ34_hasNext_0 : List UInt8 := [42, 180, 0, 13, 42, 180, 0, 1, 182, 0, 28, 159, 0, 7, 4, 167, 0, 4, 3, 172]
abbrev dktJ34_hasNext_0 : List UInt8 := dkwJ34_hasNext_0 ++ []
theorem dksJ34_hasNext_0 : cJ34_hasNext.data.toList.drop 0 = dktJ34_hasNext_0 := by decide +kernel
theorem dJ34_hasNext_0 : decode cJ34_hasNext 0 = .ok (.aload_n 0, 1) := dk_42 (dk_at dksJ34_hasNext_0 0 rfl rfl)
theorem dJ34_hasNext_1 : decode cJ34_hasNext 1 = .ok (.getfield 13, 3) := dk_180 0 13 (dk_at dksJ34_hasNext_0 1 rfl rfl)
theorem dJ34_hasNext_4 : decode cJ34_hasNext 4 = .ok (.aload_n 0, 1) := dk_42 (dk_at dksJ34_hasNext_0 4 rfl rfl)
theorem dJ34_hasNext_5 : decode cJ34_hasNext 5 = .ok (.getfield 1, 3) := dk_180 0 1 (dk_at dksJ34_hasNext_0 5 rfl rfl)
theorem dJ34_hasNext_8 : decode cJ34_hasNext 8 = .ok (.invokevirtual 28, 3) := dk_182 0 28 (dk_at dksJ34_hasNext_0 8 rfl rfl)
theorem dJ34_hasNext_11 : decode cJ34_hasNext 11 = .ok (.if_icmp .eq 7, 3) := dk_159 0 7 (dk_at dksJ34_hasNext_0 11 rfl rfl)
theorem dJ34_hasNext_14 : decode cJ34_hasNext 14 = .ok (.iconst 1, 1) := dk_4 (dk_at dksJ34_hasNext_0 14 rfl rfl)
theorem dJ34_hasNext_15 : decode cJ34_hasNext 15 = .ok (.goto 4, 3) := dk_167 0 4 (dk_at dksJ34_hasNext_0 15 rfl rfl)
theorem dJ34_hasNext_18 : decode cJ34_hasNext 18 = .ok (.iconst 0, 1) := dk_3 (dk_at dksJ34_hasNext_0 18 rfl rfl)
theorem dJ34_hasNext_19 : decode cJ34_hasNext 19 = .ok (.ireturn, 1) := dk_172 (dk_at dksJ34_hasNext_0 19 rfl rfl)
abbrev cJ34_next : ByteArray := prog_54_method_3_code
def yJ34_next : MethodName := ⟨RJ34, "next", "()Ljava/lang/Object;"⟩
def dkwJ34_next_1 : List UInt8 := [27, 4, 96, 181, 0, 13, 44, 176, 76, 42, 182, 0, 32, 187, 0, 41, 89, 43, 183, 0, 43, 191]
abbrev dktJ34_next_1 : List UInt8 := dkwJ34_next_1 ++ []
def dkwJ34_next_0 : List UInt8 := [42, 182, 0, 32, 42, 180, 0, 13, 60, 42, 180, 0, 1, 27, 182, 0, 35, 77, 42, 27, 181, 0, 17, 42]
abbrev dktJ34_next_0 : List UInt8 := dkwJ34_next_0 ++ dktJ34_next_1
theorem dksJ34_next_0 : cJ34_next.data.toList.drop 0 = dktJ34_next_0 := by decide +kernel
theorem dksJ34_next_1 : cJ34_next.data.toList.drop 24 = dktJ34_next_1 := dk_seg dksJ34_next_0 24 rfl rfl
theorem dJ34_next_0 : decode cJ34_next 0 = .ok (.aload_n 0, 1) := dk_42 (dk_at dksJ34_next_0 0 rfl rfl)
theorem dJ34_next_1 : decode cJ34_next 1 = .ok (.invokevirtual 32, 3) := dk_182 0 32 (dk_at dksJ34_next_0 1 rfl rfl)
theorem dJ34_next_4 : decode cJ34_next 4 = .ok (.aload_n 0, 1) := dk_42 (dk_at dksJ34_next_0 4 rfl rfl)
theorem dJ34_next_5 : decode cJ34_next 5 = .ok (.getfield 13, 3) := dk_180 0 13 (dk_at dksJ34_next_0 5 rfl rfl)
theorem dJ34_next_8 : decode cJ34_next 8 = .ok (.istore_n 1, 1) := dk_60 (dk_at dksJ34_next_0 8 rfl rfl)
theorem dJ34_next_9 : decode cJ34_next 9 = .ok (.aload_n 0, 1) := dk_42 (dk_at dksJ34_next_0 9 rfl rfl)
theorem dJ34_next_10 : decode cJ34_next 10 = .ok (.getfield 1, 3) := dk_180 0 1 (dk_at dksJ34_next_0 10 rfl rfl)
theorem dJ34_next_13 : decode cJ34_next 13 = .ok (.iload_n 1, 1) := dk_27 (dk_at dksJ34_next_0 13 rfl rfl)
theorem dJ34_next_14 : decode cJ34_next 14 = .ok (.invokevirtual 35, 3) := dk_182 0 35 (dk_at dksJ34_next_0 14 rfl rfl)
theorem dJ34_next_17 : decode cJ34_next 17 = .ok (.astore_n 2, 1) := dk_77 (dk_at dksJ34_next_0 17 rfl rfl)
theorem dJ34_next_18 : decode cJ34_next 18 = .ok (.aload_n 0, 1) := dk_42 (dk_at dksJ34_next_0 18 rfl rfl)
theorem dJ34_next_19 : decode cJ34_next 19 = .ok (.iload_n 1, 1) := dk_27 (dk_at dksJ34_next_0 19 rfl rfl)
theorem dJ34_next_20 : decode cJ34_next 20 = .ok (.putfield 17, 3) := dk_181 0 17 (dk_at dksJ34_next_0 20 rfl rfl)
theorem dJ34_next_23 : decode cJ34_next 23 = .ok (.aload_n 0, 1) := dk_42 (dk_at dksJ34_next_0 23 rfl rfl)
theorem dJ34_next_24 : decode cJ34_next 24 = .ok (.iload_n 1, 1) := dk_27 (dk_at dksJ34_next_1 0 rfl rfl)
theorem dJ34_next_25 : decode cJ34_next 25 = .ok (.iconst 1, 1) := dk_4 (dk_at dksJ34_next_1 1 rfl rfl)
theorem dJ34_next_26 : decode cJ34_next 26 = .ok (.iadd, 1) := dk_96 (dk_at dksJ34_next_1 2 rfl rfl)
theorem dJ34_next_27 : decode cJ34_next 27 = .ok (.putfield 13, 3) := dk_181 0 13 (dk_at dksJ34_next_1 3 rfl rfl)
theorem dJ34_next_30 : decode cJ34_next 30 = .ok (.aload_n 2, 1) := dk_44 (dk_at dksJ34_next_1 6 rfl rfl)
theorem dJ34_next_31 : decode cJ34_next 31 = .ok (.areturn, 1) := dk_176 (dk_at dksJ34_next_1 7 rfl rfl)
theorem dJ34_next_32 : decode cJ34_next 32 = .ok (.astore_n 1, 1) := dk_76 (dk_at dksJ34_next_1 8 rfl rfl)
theorem dJ34_next_33 : decode cJ34_next 33 = .ok (.aload_n 0, 1) := dk_42 (dk_at dksJ34_next_1 9 rfl rfl)
theorem dJ34_next_34 : decode cJ34_next 34 = .ok (.invokevirtual 32, 3) := dk_182 0 32 (dk_at dksJ34_next_1 10 rfl rfl)
theorem dJ34_next_37 : decode cJ34_next 37 = .ok (.new 41, 3) := dk_187 0 41 (dk_at dksJ34_next_1 13 rfl rfl)
theorem dJ34_next_40 : decode cJ34_next 40 = .ok (.dup, 1) := dk_89 (dk_at dksJ34_next_1 16 rfl rfl)
theorem dJ34_next_41 : decode cJ34_next 41 = .ok (.aload_n 1, 1) := dk_43 (dk_at dksJ34_next_1 17 rfl rfl)
theorem dJ34_next_42 : decode cJ34_next 42 = .ok (.invokespecial 43, 3) := dk_183 0 43 (dk_at dksJ34_next_1 18 rfl rfl)
theorem dJ34_next_45 : decode cJ34_next 45 = .ok (.athrow, 1) := dk_191 (dk_at dksJ34_next_1 21 rfl rfl)
abbrev cJ34_checkForComodification : ByteArray := prog_54_method_5_code
def yJ34_checkForComodification : MethodName := ⟨RJ34, "checkForComodification", "()V"⟩
def dkwJ34_checkForComodification_0 : List UInt8 := [42, 180, 0, 1, 180, 0, 20, 42, 180, 0, 25, 159, 0, 11, 187, 0, 52, 89, 183, 0, 54, 191, 177]
abbrev dktJ34_checkForComodification_0 : List UInt8 := dkwJ34_checkForComodification_0 ++ []
theorem dksJ34_checkForComodification_0 : cJ34_checkForComodification.data.toList.drop 0 = dktJ34_checkForComodification_0 := by decide +kernel
theorem dJ34_checkForComodification_0 : decode cJ34_checkForComodification 0 = .ok (.aload_n 0, 1) := dk_42 (dk_at dksJ34_checkForComodification_0 0 rfl rfl)
theorem dJ34_checkForComodification_1 : decode cJ34_checkForComodification 1 = .ok (.getfield 1, 3) := dk_180 0 1 (dk_at dksJ34_checkForComodification_0 1 rfl rfl)
theorem dJ34_checkForComodification_4 : decode cJ34_checkForComodification 4 = .ok (.getfield 20, 3) := dk_180 0 20 (dk_at dksJ34_checkForComodification_0 4 rfl rfl)
theorem dJ34_checkForComodification_7 : decode cJ34_checkForComodification 7 = .ok (.aload_n 0, 1) := dk_42 (dk_at dksJ34_checkForComodification_0 7 rfl rfl)
theorem dJ34_checkForComodification_8 : decode cJ34_checkForComodification 8 = .ok (.getfield 25, 3) := dk_180 0 25 (dk_at dksJ34_checkForComodification_0 8 rfl rfl)
theorem dJ34_checkForComodification_11 : decode cJ34_checkForComodification 11 = .ok (.if_icmp .eq 11, 3) := dk_159 0 11 (dk_at dksJ34_checkForComodification_0 11 rfl rfl)
theorem dJ34_checkForComodification_14 : decode cJ34_checkForComodification 14 = .ok (.new 52, 3) := dk_187 0 52 (dk_at dksJ34_checkForComodification_0 14 rfl rfl)
theorem dJ34_checkForComodification_17 : decode cJ34_checkForComodification 17 = .ok (.dup, 1) := dk_89 (dk_at dksJ34_checkForComodification_0 17 rfl rfl)
theorem dJ34_checkForComodification_18 : decode cJ34_checkForComodification 18 = .ok (.invokespecial 54, 3) := dk_183 0 54 (dk_at dksJ34_checkForComodification_0 18 rfl rfl)
theorem dJ34_checkForComodification_21 : decode cJ34_checkForComodification 21 = .ok (.athrow, 1) := dk_191 (dk_at dksJ34_checkForComodification_0 21 rfl rfl)
theorem dJ34_checkForComodification_22 : decode cJ34_checkForComodification 22 = .ok (.return_, 1) := dk_177 (dk_at dksJ34_checkForComodification_0 22 rfl rfl)
theorem q168 : (Jvm.Cond.initialized "java/util/AbstractList$Itr") ∈ lw_all := lw_g (lw_at lw_m1 44 rfl) rfl
theorem q265 : (Jvm.Cond.fieldLink "java/util/AbstractList$Itr" (20 : Nat) "java/util/AbstractList" "modCount" "I") ∈ lw_all := lw_g (lw_at lw_m1 141 rfl) rfl
theorem q1361 : (Jvm.Cond.instanceMethod ({ cls := "java/util/AbstractList$Itr", name := "hasNext", desc := "()Z" } : Jvm.MethodName)) ∈ lw_all := lw_g (lw_at lw_m6 37 rfl) rfl
theorem q1362 : (Jvm.Cond.publicMethod ({ cls := "java/util/AbstractList$Itr", name := "hasNext", desc := "()Z" } : Jvm.MethodName)) ∈ lw_tbl := lw_at lw_m6 38 rfl
theorem q1363 : (Jvm.Cond.code ({ cls := "java/util/AbstractList$Itr", name := "hasNext", desc := "()Z" } : Jvm.MethodName) prog_54_method_2_code (1 : Nat) (Option.some Jvm.ClassFile.FieldType.boolean)) ∈ lw_all := lw_g (lw_at lw_m6 39 rfl) rfl
theorem q1364 : (Jvm.Cond.methodLink "java/util/AbstractList$Itr" (28 : Nat) ({ cls := "java/util/AbstractList", name := "size", desc := "()I" } : Jvm.MethodName)) ∈ lw_all := lw_g (lw_at lw_m6 40 rfl) rfl
theorem q1402 : (Jvm.Cond.instanceMethod ({ cls := "java/util/AbstractList$Itr", name := "next", desc := "()Ljava/lang/Object;" } : Jvm.MethodName)) ∈ lw_all := lw_g (lw_at lw_m6 78 rfl) rfl
theorem q1403 : (Jvm.Cond.publicMethod ({ cls := "java/util/AbstractList$Itr", name := "next", desc := "()Ljava/lang/Object;" } : Jvm.MethodName)) ∈ lw_tbl := lw_at lw_m6 79 rfl
theorem q1404 : (Jvm.Cond.codeWith ({ cls := "java/util/AbstractList$Itr", name := "next", desc := "()Ljava/lang/Object;" } : Jvm.MethodName) prog_54_method_3_code (3 : Nat) (Option.some (Jvm.ClassFile.FieldType.object "java/lang/Object")) [((4 : Nat), (31 : Nat), (32 : Nat), (39 : Nat))]) ∈ lw_all := lw_g (lw_at lw_m6 80 rfl) rfl
theorem q1405 : (Jvm.Cond.methodLink "java/util/AbstractList$Itr" (32 : Nat) ({ cls := "java/util/AbstractList$Itr", name := "checkForComodification", desc := "()V" } : Jvm.MethodName)) ∈ lw_all := lw_g (lw_at lw_m6 81 rfl) rfl
theorem q1406 : (Jvm.Cond.instanceMethod ({ cls := "java/util/AbstractList$Itr", name := "checkForComodification", desc := "()V" } : Jvm.MethodName)) ∈ lw_all := lw_g (lw_at lw_m6 82 rfl) rfl
theorem q1407 : (Jvm.Cond.sameMethod "java/util/AbstractList$Itr" "java/util/AbstractList$Itr" "checkForComodification" "()V") ∈ lw_all := lw_g (lw_at lw_m6 83 rfl) rfl
theorem q1409 : (Jvm.Cond.code ({ cls := "java/util/AbstractList$Itr", name := "checkForComodification", desc := "()V" } : Jvm.MethodName) prog_54_method_5_code (1 : Nat) (Option.none : Option Jvm.ClassFile.FieldType)) ∈ lw_all := lw_g (lw_at lw_m6 85 rfl) rfl
theorem q1410 : (Jvm.Cond.methodLink "java/util/AbstractList$Itr" (35 : Nat) ({ cls := "java/util/AbstractList", name := "get", desc := "(I)Ljava/lang/Object;" } : Jvm.MethodName)) ∈ lw_all := lw_g (lw_at lw_m6 86 rfl) rfl
theorem q1415 : (Jvm.Cond.classLink "java/util/AbstractList$Itr" (41 : Nat) "java/util/NoSuchElementException") ∈ lw_all := lw_g (lw_at lw_m6 91 rfl) rfl
theorem q1424 : (Jvm.Cond.methodLink "java/util/AbstractList$Itr" (43 : Nat) ({ cls := "java/util/NoSuchElementException", name := "<init>", desc := "(Ljava/lang/Throwable;)V" } : Jvm.MethodName)) ∈ lw_all := lw_g (lw_at lw_m6 100 rfl) rfl
theorem q4084 : (Jvm.Cond.fieldLink "java/util/AbstractList$Itr" (13 : Nat) "java/util/AbstractList$Itr" "cursor" "I") ∈ lw_all := lw_g (lw_at lw_m17 120 rfl) rfl
theorem q4085 : (Jvm.Cond.fieldLink "java/util/AbstractList$Itr" (1 : Nat) "java/util/AbstractList$Itr" "this$0" "Ljava/util/AbstractList;") ∈ lw_all := lw_g (lw_at lw_m17 121 rfl) rfl
theorem q4086 : (Jvm.Cond.fieldLink "java/util/AbstractList$Itr" (25 : Nat) "java/util/AbstractList$Itr" "expectedModCount" "I") ∈ lw_all := lw_g (lw_at lw_m17 122 rfl) rfl
theorem q4087 : (Jvm.Cond.fieldLink "java/util/AbstractList$Itr" (17 : Nat) "java/util/AbstractList$Itr" "lastRet" "I") ∈ lw_all := lw_g (lw_at lw_m17 123 rfl) rfl

/-! java/util/ArrayList$ListItr -/
set_option maxRecDepth 100000
def RJ35 : String := "java/util/ArrayList$ListItr"
def TJ35 : u_T := fun k => match k with
  | 0 => ("java/util/ArrayList$Itr", "cursor", "I", false)
  | 1 => ("java/util/ArrayList$Itr", "lastRet", "I", false)
  | 2 => ("java/util/ArrayList$Itr", "expectedModCount", "I", false)
  | 3 => ("java/util/ArrayList$Itr", "this$0", "Ljava/util/ArrayList;", true)
  | _ => ("java/util/ArrayList$ListItr", "this$0", "Ljava/util/ArrayList;", true)
def tyJ35 : Nat → FieldType := fun k => match k with
  | 0 => .int
  | 1 => .int
  | 2 => .int
  | 3 => .object "java/util/ArrayList"
  | _ => .object "java/util/ArrayList"
abbrev wsJ350 : List Cond := u_ws RJ35 TJ35 5
-- two fields of one name: no nmJ35
theorem tyJ35_ok : ∀ k, k < 5 → parseFieldDescriptor (TJ35 k).2.2.1 = some (tyJ35 k) := by decide +kernel
abbrev cJ35_init : ByteArray := prog_64_method_1_code
def yJ35_init : MethodName := ⟨RJ35, "<init>", "(Ljava/util/ArrayList;I)V"⟩
def dkwJ35_init_0 : List UInt8 := [42, 43, 181, 0, 1, 42, 43, 183, 0, 7, 42, 28, 181, 0, 13, 177]
abbrev dktJ35_init_0 : List UInt8 := dkwJ35_init_0 ++ []
theorem dksJ35_init_0 : cJ35_init.data.toList.drop 0 = dktJ35_init_0 := by decide +kernel
theorem dJ35_init_0 : decode cJ35_init 0 = .ok (.aload_n 0, 1) := dk_42 (dk_at dksJ35_init_0 0 rfl rfl)
theorem dJ35_init_1 : decode cJ35_init 1 = .ok (.aload_n 1, 1) := dk_43 (dk_at dksJ35_init_0 1 rfl rfl)
theorem dJ35_init_2 : decode cJ35_init 2 = .ok (.putfield 1, 3) := dk_181 0 1 (dk_at dksJ35_init_0 2 rfl rfl)
theorem dJ35_init_5 : decode cJ35_init 5 = .ok (.aload_n 0, 1) := dk_42 (dk_at dksJ35_init_0 5 rfl rfl)
theorem dJ35_init_6 : decode cJ35_init 6 = .ok (.aload_n 1, 1) := dk_43 (dk_at dksJ35_init_0 6 rfl rfl)
theorem dJ35_init_7 : decode cJ35_init 7 = .ok (.invokespecial 7, 3) := dk_183 0 7 (dk_at dksJ35_init_0 7 rfl rfl)
theorem dJ35_init_10 : decode cJ35_init 10 = .ok (.aload_n 0, 1) := dk_42 (dk_at dksJ35_init_0 10 rfl rfl)
theorem dJ35_init_11 : decode cJ35_init 11 = .ok (.iload_n 2, 1) := dk_28 (dk_at dksJ35_init_0 11 rfl rfl)
theorem dJ35_init_12 : decode cJ35_init 12 = .ok (.putfield 13, 3) := dk_181 0 13 (dk_at dksJ35_init_0 12 rfl rfl)
theorem dJ35_init_15 : decode cJ35_init 15 = .ok (.return_, 1) := dk_177 (dk_at dksJ35_init_0 15 rfl rfl)
theorem q170 : (Jvm.Cond.initialized "java/util/ArrayList$ListItr") ∈ lw_all := lw_g (lw_at lw_m1 46 rfl) rfl
theorem q952 : (Jvm.Cond.selects "java/util/ArrayList$ListItr" ({ cls := "java/lang/Object", name := "getClass", desc := "()Ljava/lang/Class;" } : Jvm.MethodName) ({ cls := "java/lang/Object", name := "getClass", desc := "()Ljava/lang/Class;" } : Jvm.MethodName)) ∈ lw_all := lw_g (lw_at lw_m4 108 rfl) rfl
theorem q1256 : (Jvm.Cond.fieldLink "java/util/ArrayList$ListItr" (13 : Nat) "java/util/ArrayList$ListItr" "cursor" "I") ∈ lw_all := lw_g (lw_at lw_m5 172 rfl) rfl
theorem q1257 : (Jvm.Cond.sameField "java/util/ArrayList$ListItr" "java/util/ArrayList$Itr" "cursor" "I") ∈ lw_all := lw_g (lw_at lw_m5 173 rfl) rfl
theorem q1306 : (Jvm.Cond.instantiable "java/util/ArrayList$ListItr" (5 : Nat)) ∈ lw_all := lw_g (lw_at lw_m5 222 rfl) rfl
theorem q1308 : (Jvm.Cond.instanceMethod ({ cls := "java/util/ArrayList$ListItr", name := "<init>", desc := "(Ljava/util/ArrayList;I)V" } : Jvm.MethodName)) ∈ lw_all := lw_g (lw_at lw_m5 224 rfl) rfl
theorem q1309 : (Jvm.Cond.code ({ cls := "java/util/ArrayList$ListItr", name := "<init>", desc := "(Ljava/util/ArrayList;I)V" } : Jvm.MethodName) prog_64_method_1_code (3 : Nat) (Option.none : Option Jvm.ClassFile.FieldType)) ∈ lw_all := lw_g (lw_at lw_m5 225 rfl) rfl
theorem q1310 : (Jvm.Cond.methodLink "java/util/ArrayList$ListItr" (7 : Nat) ({ cls := "java/util/ArrayList$Itr", name := "<init>", desc := "(Ljava/util/ArrayList;)V" } : Jvm.MethodName)) ∈ lw_all := lw_g (lw_at lw_m5 226 rfl) rfl
theorem q1311 : (Jvm.Cond.fieldLink "java/util/ArrayList$ListItr" (1 : Nat) "java/util/ArrayList$ListItr" "this$0" "Ljava/util/ArrayList;") ∈ lw_all := lw_g (lw_at lw_m5 227 rfl) rfl
theorem q1312 : (Jvm.Cond.laysFinal "java/util/ArrayList$ListItr" "java/util/ArrayList$ListItr" "this$0" "Ljava/util/ArrayList;") ∈ lw_all := lw_g (lw_at lw_m5 228 rfl) rfl
theorem q1313 : (Jvm.Cond.soleField "java/util/ArrayList$ListItr" "this$0") ∈ lw_all := lw_g (lw_at lw_m5 229 rfl) rfl
theorem q1314 : (Jvm.Cond.lays "java/util/ArrayList$ListItr" "java/util/ArrayList$Itr" "cursor" "I") ∈ lw_all := lw_g (lw_at lw_m5 230 rfl) rfl
theorem q1315 : (Jvm.Cond.lays "java/util/ArrayList$ListItr" "java/util/ArrayList$Itr" "lastRet" "I") ∈ lw_all := lw_g (lw_at lw_m5 231 rfl) rfl
theorem q1316 : (Jvm.Cond.lays "java/util/ArrayList$ListItr" "java/util/ArrayList$Itr" "expectedModCount" "I") ∈ lw_all := lw_g (lw_at lw_m5 232 rfl) rfl
theorem q1317 : (Jvm.Cond.laysFinal "java/util/ArrayList$ListItr" "java/util/ArrayList$Itr" "this$0" "Ljava/util/ArrayList;") ∈ lw_all := lw_g (lw_at lw_m5 233 rfl) rfl
theorem q1318 : (Jvm.Cond.superclass "java/util/ArrayList$ListItr" "java/util/ArrayList$Itr") ∈ lw_all := lw_g (lw_at lw_m5 234 rfl) rfl
theorem q1381 : (Jvm.Cond.castable "java/util/ArrayList$ListItr" "java/util/Iterator") ∈ lw_tbl := lw_at lw_m6 57 rfl
theorem q1382 : (Jvm.Cond.selects "java/util/ArrayList$ListItr" ({ cls := "java/util/Iterator", name := "hasNext", desc := "()Z" } : Jvm.MethodName) ({ cls := "java/util/ArrayList$Itr", name := "hasNext", desc := "()Z" } : Jvm.MethodName)) ∈ lw_all := lw_g (lw_at lw_m6 58 rfl) rfl
theorem q1383 : (Jvm.Cond.unhidden "java/util/ArrayList$ListItr" "hasNext" "()Z") ∈ lw_tbl := lw_at lw_m6 59 rfl
theorem q1514 : (Jvm.Cond.selects "java/util/ArrayList$ListItr" ({ cls := "java/util/ArrayList$Itr", name := "checkForComodification", desc := "()V" } : Jvm.MethodName) ({ cls := "java/util/ArrayList$Itr", name := "checkForComodification", desc := "()V" } : Jvm.MethodName)) ∈ lw_all := lw_g (lw_at lw_m6 190 rfl) rfl
theorem q1518 : (Jvm.Cond.selects "java/util/ArrayList$ListItr" ({ cls := "java/util/Iterator", name := "next", desc := "()Ljava/lang/Object;" } : Jvm.MethodName) ({ cls := "java/util/ArrayList$Itr", name := "next", desc := "()Ljava/lang/Object;" } : Jvm.MethodName)) ∈ lw_all := lw_g (lw_at lw_m6 194 rfl) rfl
theorem q1519 : (Jvm.Cond.unhidden "java/util/ArrayList$ListItr" "next" "()Ljava/lang/Object;") ∈ lw_tbl := lw_at lw_m6 195 rfl
theorem q4048 : (Jvm.Cond.castable "java/util/ArrayList$ListItr" "java/lang/Object") ∈ lw_tbl := lw_at lw_m17 84 rfl
theorem in_J35 : ∀ w ∈ wsJ350, w ∈ lw_all := lw_in wsJ350 [1314, 1315, 1316, 1317, 1312] (by decide +kernel) (by decide +kernel)

/-! java/util/LinkedList$ListItr -/
set_option maxRecDepth 100000
def RJ36 : String := "java/util/LinkedList$ListItr"
def TJ36 : u_T := fun k => match k with
  | 0 => ("java/util/LinkedList$ListItr", "lastReturned", "Ljava/util/LinkedList$Node;", false)
  | 1 => ("java/util/LinkedList$ListItr", "next", "Ljava/util/LinkedList$Node;", false)
  | 2 => ("java/util/LinkedList$ListItr", "nextIndex", "I", false)
  | 3 => ("java/util/LinkedList$ListItr", "expectedModCount", "I", false)
  | _ => ("java/util/LinkedList$ListItr", "this$0", "Ljava/util/LinkedList;", true)
def tyJ36 : Nat → FieldType := fun k => match k with
  | 0 => .object "java/util/LinkedList$Node"
  | 1 => .object "java/util/LinkedList$Node"
  | 2 => .int
  | 3 => .int
  | _ => .object "java/util/LinkedList"
abbrev wsJ360 : List Cond := u_ws RJ36 TJ36 5
theorem nmJ36 : ∀ a, a < 5 → ∀ b, b < 5 → a ≠ b → (TJ36 a).2.1 ≠ (TJ36 b).2.1 := by decide +kernel
theorem tyJ36_ok : ∀ k, k < 5 → parseFieldDescriptor (TJ36 k).2.2.1 = some (tyJ36 k) := by decide +kernel
abbrev cJ36_init : ByteArray := prog_71_method_1_code
def yJ36_init : MethodName := ⟨RJ36, "<init>", "(Ljava/util/LinkedList;I)V"⟩
def dkwJ36_init_1 : List UInt8 := [180, 0, 22, 160, 0, 7, 1, 167, 0, 8, 43, 28, 182, 0, 25, 181, 0, 29, 42, 28, 181, 0, 33, 177]
abbrev dktJ36_init_1 : List UInt8 := dkwJ36_init_1 ++ []
def dkwJ36_init_0 : List UInt8 := [42, 43, 181, 0, 1, 42, 183, 0, 7, 42, 42, 180, 0, 1, 180, 0, 13, 181, 0, 19, 42, 28, 43]
abbrev dktJ36_init_0 : List UInt8 := dkwJ36_init_0 ++ dktJ36_init_1
theorem dksJ36_init_0 : cJ36_init.data.toList.drop 0 = dktJ36_init_0 := by decide +kernel
theorem dksJ36_init_1 : cJ36_init.data.toList.drop 23 = dktJ36_init_1 := dk_seg dksJ36_init_0 23 rfl rfl
theorem dJ36_init_0 : decode cJ36_init 0 = .ok (.aload_n 0, 1) := dk_42 (dk_at dksJ36_init_0 0 rfl rfl)
theorem dJ36_init_1 : decode cJ36_init 1 = .ok (.aload_n 1, 1) := dk_43 (dk_at dksJ36_init_0 1 rfl rfl)
theorem dJ36_init_2 : decode cJ36_init 2 = .ok (.putfield 1, 3) := dk_181 0 1 (dk_at dksJ36_init_0 2 rfl rfl)
theorem dJ36_init_5 : decode cJ36_init 5 = .ok (.aload_n 0, 1) := dk_42 (dk_at dksJ36_init_0 5 rfl rfl)
theorem dJ36_init_6 : decode cJ36_init 6 = .ok (.invokespecial 7, 3) := dk_183 0 7 (dk_at dksJ36_init_0 6 rfl rfl)
theorem dJ36_init_9 : decode cJ36_init 9 = .ok (.aload_n 0, 1) := dk_42 (dk_at dksJ36_init_0 9 rfl rfl)
theorem dJ36_init_10 : decode cJ36_init 10 = .ok (.aload_n 0, 1) := dk_42 (dk_at dksJ36_init_0 10 rfl rfl)
theorem dJ36_init_11 : decode cJ36_init 11 = .ok (.getfield 1, 3) := dk_180 0 1 (dk_at dksJ36_init_0 11 rfl rfl)
theorem dJ36_init_14 : decode cJ36_init 14 = .ok (.getfield 13, 3) := dk_180 0 13 (dk_at dksJ36_init_0 14 rfl rfl)
theorem dJ36_init_17 : decode cJ36_init 17 = .ok (.putfield 19, 3) := dk_181 0 19 (dk_at dksJ36_init_0 17 rfl rfl)
theorem dJ36_init_20 : decode cJ36_init 20 = .ok (.aload_n 0, 1) := dk_42 (dk_at dksJ36_init_0 20 rfl rfl)
theorem dJ36_init_21 : decode cJ36_init 21 = .ok (.iload_n 2, 1) := dk_28 (dk_at dksJ36_init_0 21 rfl rfl)
theorem dJ36_init_22 : decode cJ36_init 22 = .ok (.aload_n 1, 1) := dk_43 (dk_at dksJ36_init_0 22 rfl rfl)
theorem dJ36_init_23 : decode cJ36_init 23 = .ok (.getfield 22, 3) := dk_180 0 22 (dk_at dksJ36_init_1 0 rfl rfl)
theorem dJ36_init_26 : decode cJ36_init 26 = .ok (.if_icmp .ne 7, 3) := dk_160 0 7 (dk_at dksJ36_init_1 3 rfl rfl)
theorem dJ36_init_29 : decode cJ36_init 29 = .ok (.aconst_null, 1) := dk_1 (dk_at dksJ36_init_1 6 rfl rfl)
theorem dJ36_init_30 : decode cJ36_init 30 = .ok (.goto 8, 3) := dk_167 0 8 (dk_at dksJ36_init_1 7 rfl rfl)
theorem dJ36_init_33 : decode cJ36_init 33 = .ok (.aload_n 1, 1) := dk_43 (dk_at dksJ36_init_1 10 rfl rfl)
theorem dJ36_init_34 : decode cJ36_init 34 = .ok (.iload_n 2, 1) := dk_28 (dk_at dksJ36_init_1 11 rfl rfl)
theorem dJ36_init_35 : decode cJ36_init 35 = .ok (.invokevirtual 25, 3) := dk_182 0 25 (dk_at dksJ36_init_1 12 rfl rfl)
theorem dJ36_init_38 : decode cJ36_init 38 = .ok (.putfield 29, 3) := dk_181 0 29 (dk_at dksJ36_init_1 15 rfl rfl)
theorem dJ36_init_41 : decode cJ36_init 41 = .ok (.aload_n 0, 1) := dk_42 (dk_at dksJ36_init_1 18 rfl rfl)
theorem dJ36_init_42 : decode cJ36_init 42 = .ok (.iload_n 2, 1) := dk_28 (dk_at dksJ36_init_1 19 rfl rfl)
theorem dJ36_init_43 : decode cJ36_init 43 = .ok (.putfield 33, 3) := dk_181 0 33 (dk_at dksJ36_init_1 20 rfl rfl)
theorem dJ36_init_46 : decode cJ36_init 46 = .ok (.return_, 1) := dk_177 (dk_at dksJ36_init_1 23 rfl rfl)
abbrev cJ36_hasNext : ByteArray := prog_71_method_2_code
def yJ36_hasNext : MethodName := ⟨RJ36, "hasNext", "()Z"⟩
def dkwJ36_hasNext_0 : List UInt8 := [42, 180, 0, 33, 42, 180, 0, 1, 180, 0, 22, 162, 0, 7, 4, 167, 0, 4, 3, 172]
abbrev dktJ36_hasNext_0 : List UInt8 := dkwJ36_hasNext_0 ++ []
theorem dksJ36_hasNext_0 : cJ36_hasNext.data.toList.drop 0 = dktJ36_hasNext_0 := by decide +kernel
theorem dJ36_hasNext_0 : decode cJ36_hasNext 0 = .ok (.aload_n 0, 1) := dk_42 (dk_at dksJ36_hasNext_0 0 rfl rfl)
theorem dJ36_hasNext_1 : decode cJ36_hasNext 1 = .ok (.getfield 33, 3) := dk_180 0 33 (dk_at dksJ36_hasNext_0 1 rfl rfl)
theorem dJ36_hasNext_4 : decode cJ36_hasNext 4 = .ok (.aload_n 0, 1) := dk_42 (dk_at dksJ36_hasNext_0 4 rfl rfl)
theorem dJ36_hasNext_5 : decode cJ36_hasNext 5 = .ok (.getfield 1, 3) := dk_180 0 1 (dk_at dksJ36_hasNext_0 5 rfl rfl)
theorem dJ36_hasNext_8 : decode cJ36_hasNext 8 = .ok (.getfield 22, 3) := dk_180 0 22 (dk_at dksJ36_hasNext_0 8 rfl rfl)
theorem dJ36_hasNext_11 : decode cJ36_hasNext 11 = .ok (.if_icmp .ge 7, 3) := dk_162 0 7 (dk_at dksJ36_hasNext_0 11 rfl rfl)
theorem dJ36_hasNext_14 : decode cJ36_hasNext 14 = .ok (.iconst 1, 1) := dk_4 (dk_at dksJ36_hasNext_0 14 rfl rfl)
theorem dJ36_hasNext_15 : decode cJ36_hasNext 15 = .ok (.goto 4, 3) := dk_167 0 4 (dk_at dksJ36_hasNext_0 15 rfl rfl)
theorem dJ36_hasNext_18 : decode cJ36_hasNext 18 = .ok (.iconst 0, 1) := dk_3 (dk_at dksJ36_hasNext_0 18 rfl rfl)
theorem dJ36_hasNext_19 : decode cJ36_hasNext 19 = .ok (.ireturn, 1) := dk_172 (dk_at dksJ36_hasNext_0 19 rfl rfl)
abbrev cJ36_next : ByteArray := prog_71_method_3_code
def yJ36_next : MethodName := ⟨RJ36, "next", "()Ljava/lang/Object;"⟩
def dkwJ36_next_2 : List UInt8 := [42, 180, 0, 46, 180, 0, 52, 176]
abbrev dktJ36_next_2 : List UInt8 := dkwJ36_next_2 ++ []
def dkwJ36_next_1 : List UInt8 := [181, 0, 46, 42, 42, 180, 0, 29, 180, 0, 49, 181, 0, 29, 42, 89, 180, 0, 33, 4, 96, 181, 0, 33]
abbrev dktJ36_next_1 : List UInt8 := dkwJ36_next_1 ++ dktJ36_next_2
def dkwJ36_next_0 : List UInt8 := [42, 182, 0, 36, 42, 182, 0, 39, 154, 0, 11, 187, 0, 43, 89, 183, 0, 45, 191, 42, 42, 180, 0, 29]
abbrev dktJ36_next_0 : List UInt8 := dkwJ36_next_0 ++ dktJ36_next_1
theorem dksJ36_next_0 : cJ36_next.data.toList.drop 0 = dktJ36_next_0 := by decide +kernel
theorem dksJ36_next_1 : cJ36_next.data.toList.drop 24 = dktJ36_next_1 := dk_seg dksJ36_next_0 24 rfl rfl
theorem dksJ36_next_2 : cJ36_next.data.toList.drop 48 = dktJ36_next_2 := dk_seg dksJ36_next_1 24 rfl rfl
theorem dJ36_next_0 : decode cJ36_next 0 = .ok (.aload_n 0, 1) := dk_42 (dk_at dksJ36_next_0 0 rfl rfl)
theorem dJ36_next_1 : decode cJ36_next 1 = .ok (.invokevirtual 36, 3) := dk_182 0 36 (dk_at dksJ36_next_0 1 rfl rfl)
theorem dJ36_next_4 : decode cJ36_next 4 = .ok (.aload_n 0, 1) := dk_42 (dk_at dksJ36_next_0 4 rfl rfl)
theorem dJ36_next_5 : decode cJ36_next 5 = .ok (.invokevirtual 39, 3) := dk_182 0 39 (dk_at dksJ36_next_0 5 rfl rfl)
theorem dJ36_next_8 : decode cJ36_next 8 = .ok (.ifCond .ne 11, 3) := dk_154 0 11 (dk_at dksJ36_next_0 8 rfl rfl)
theorem dJ36_next_11 : decode cJ36_next 11 = .ok (.new 43, 3) := dk_187 0 43 (dk_at dksJ36_next_0 11 rfl rfl)
theorem dJ36_next_14 : decode cJ36_next 14 = .ok (.dup, 1) := dk_89 (dk_at dksJ36_next_0 14 rfl rfl)
theorem dJ36_next_15 : decode cJ36_next 15 = .ok (.invokespecial 45, 3) := dk_183 0 45 (dk_at dksJ36_next_0 15 rfl rfl)
theorem dJ36_next_18 : decode cJ36_next 18 = .ok (.athrow, 1) := dk_191 (dk_at dksJ36_next_0 18 rfl rfl)
theorem dJ36_next_19 : decode cJ36_next 19 = .ok (.aload_n 0, 1) := dk_42 (dk_at dksJ36_next_0 19 rfl rfl)
theorem dJ36_next_20 : decode cJ36_next 20 = .ok (.aload_n 0, 1) := dk_42 (dk_at dksJ36_next_0 20 rfl rfl)
theorem dJ36_next_21 : decode cJ36_next 21 = .ok (.getfield 29, 3) := dk_180 0 29 (dk_at dksJ36_next_0 21 rfl rfl)
theorem dJ36_next_24 : decode cJ36_next 24 = .ok (.putfield 46, 3) := dk_181 0 46 (dk_at dksJ36_next_1 0 rfl rfl)
theorem dJ36_next_27 : decode cJ36_next 27 = .ok (.aload_n 0, 1) := dk_42 (dk_at dksJ36_next_1 3 rfl rfl)
theorem dJ36_next_28 : decode cJ36_next 28 = .ok (.aload_n 0, 1) := dk_42 (dk_at dksJ36_next_1 4 rfl rfl)
theorem dJ36_next_29 : decode cJ36_next 29 = .ok (.getfield 29, 3) := dk_180 0 29 (dk_at dksJ36_next_1 5 rfl rfl)
theorem dJ36_next_32 : decode cJ36_next 32 = .ok (.getfield 49, 3) := dk_180 0 49 (dk_at dksJ36_next_1 8 rfl rfl)
theorem dJ36_next_35 : decode cJ36_next 35 = .ok (.putfield 29, 3) := dk_181 0 29 (dk_at dksJ36_next_1 11 rfl rfl)
theorem dJ36_next_38 : decode cJ36_next 38 = .ok (.aload_n 0, 1) := dk_42 (dk_at dksJ36_next_1 14 rfl rfl)
theorem dJ36_next_39 : decode cJ36_next 39 = .ok (.dup, 1) := dk_89 (dk_at dksJ36_next_1 15 rfl rfl)
theorem dJ36_next_40 : decode cJ36_next 40 = .ok (.getfield 33, 3) := dk_180 0 33 (dk_at dksJ36_next_1 16 rfl rfl)
theorem dJ36_next_43 : decode cJ36_next 43 = .ok (.iconst 1, 1) := dk_4 (dk_at dksJ36_next_1 19 rfl rfl)
theorem dJ36_next_44 : decode cJ36_next 44 = .ok (.iadd, 1) := dk_96 (dk_at dksJ36_next_1 20 rfl rfl)
theorem dJ36_next_45 : decode cJ36_next 45 = .ok (.putfield 33, 3) := dk_181 0 33 (dk_at dksJ36_next_1 21 rfl rfl)
theorem dJ36_next_48 : decode cJ36_next 48 = .ok (.aload_n 0, 1) := dk_42 (dk_at dksJ36_next_2 0 rfl rfl)
theorem dJ36_next_49 : decode cJ36_next 49 = .ok (.getfield 46, 3) := dk_180 0 46 (dk_at dksJ36_next_2 1 rfl rfl)
theorem dJ36_next_52 : decode cJ36_next 52 = .ok (.getfield 52, 3) := dk_180 0 52 (dk_at dksJ36_next_2 4 rfl rfl)
theorem dJ36_next_55 : decode cJ36_next 55 = .ok (.areturn, 1) := dk_176 (dk_at dksJ36_next_2 7 rfl rfl)
abbrev cJ36_checkForComodification : ByteArray := prog_71_method_12_code
def yJ36_checkForComodification : MethodName := ⟨RJ36, "checkForComodification", "()V"⟩
def dkwJ36_checkForComodification_0 : List UInt8 := [42, 180, 0, 1, 180, 0, 13, 42, 180, 0, 19, 159, 0, 11, 187, 0, 91, 89, 183, 0, 93, 191, 177]
abbrev dktJ36_checkForComodification_0 : List UInt8 := dkwJ36_checkForComodification_0 ++ []
theorem dksJ36_checkForComodification_0 : cJ36_checkForComodification.data.toList.drop 0 = dktJ36_checkForComodification_0 := by decide +kernel
theorem dJ36_checkForComodification_0 : decode cJ36_checkForComodification 0 = .ok (.aload_n 0, 1) := dk_42 (dk_at dksJ36_checkForComodification_0 0 rfl rfl)
theorem dJ36_checkForComodification_1 : decode cJ36_checkForComodification 1 = .ok (.getfield 1, 3) := dk_180 0 1 (dk_at dksJ36_checkForComodification_0 1 rfl rfl)
theorem dJ36_checkForComodification_4 : decode cJ36_checkForComodification 4 = .ok (.getfield 13, 3) := dk_180 0 13 (dk_at dksJ36_checkForComodification_0 4 rfl rfl)
theorem dJ36_checkForComodification_7 : decode cJ36_checkForComodification 7 = .ok (.aload_n 0, 1) := dk_42 (dk_at dksJ36_checkForComodification_0 7 rfl rfl)
theorem dJ36_checkForComodification_8 : decode cJ36_checkForComodification 8 = .ok (.getfield 19, 3) := dk_180 0 19 (dk_at dksJ36_checkForComodification_0 8 rfl rfl)
theorem dJ36_checkForComodification_11 : decode cJ36_checkForComodification 11 = .ok (.if_icmp .eq 11, 3) := dk_159 0 11 (dk_at dksJ36_checkForComodification_0 11 rfl rfl)
theorem dJ36_checkForComodification_14 : decode cJ36_checkForComodification 14 = .ok (.new 91, 3) := dk_187 0 91 (dk_at dksJ36_checkForComodification_0 14 rfl rfl)
theorem dJ36_checkForComodification_17 : decode cJ36_checkForComodification 17 = .ok (.dup, 1) := dk_89 (dk_at dksJ36_checkForComodification_0 17 rfl rfl)
theorem dJ36_checkForComodification_18 : decode cJ36_checkForComodification 18 = .ok (.invokespecial 93, 3) := dk_183 0 93 (dk_at dksJ36_checkForComodification_0 18 rfl rfl)
theorem dJ36_checkForComodification_21 : decode cJ36_checkForComodification 21 = .ok (.athrow, 1) := dk_191 (dk_at dksJ36_checkForComodification_0 21 rfl rfl)
theorem dJ36_checkForComodification_22 : decode cJ36_checkForComodification 22 = .ok (.return_, 1) := dk_177 (dk_at dksJ36_checkForComodification_0 22 rfl rfl)
theorem q171 : (Jvm.Cond.initialized "java/util/LinkedList$ListItr") ∈ lw_all := lw_g (lw_at lw_m1 47 rfl) rfl
theorem q261 : (Jvm.Cond.fieldLink "java/util/LinkedList$ListItr" (13 : Nat) "java/util/LinkedList" "modCount" "I") ∈ lw_all := lw_g (lw_at lw_m1 137 rfl) rfl
theorem q328 : (Jvm.Cond.fieldLink "java/util/LinkedList$ListItr" (22 : Nat) "java/util/LinkedList" "size" "I") ∈ lw_all := lw_g (lw_at lw_m1 204 rfl) rfl
theorem q954 : (Jvm.Cond.selects "java/util/LinkedList$ListItr" ({ cls := "java/lang/Object", name := "getClass", desc := "()Ljava/lang/Class;" } : Jvm.MethodName) ({ cls := "java/lang/Object", name := "getClass", desc := "()Ljava/lang/Class;" } : Jvm.MethodName)) ∈ lw_all := lw_g (lw_at lw_m4 110 rfl) rfl
theorem q1331 : (Jvm.Cond.instantiable "java/util/LinkedList$ListItr" (5 : Nat)) ∈ lw_all := lw_g (lw_at lw_m6 7 rfl) rfl
theorem q1333 : (Jvm.Cond.instanceMethod ({ cls := "java/util/LinkedList$ListItr", name := "<init>", desc := "(Ljava/util/LinkedList;I)V" } : Jvm.MethodName)) ∈ lw_all := lw_g (lw_at lw_m6 9 rfl) rfl
theorem q1334 : (Jvm.Cond.code ({ cls := "java/util/LinkedList$ListItr", name := "<init>", desc := "(Ljava/util/LinkedList;I)V" } : Jvm.MethodName) prog_71_method_1_code (3 : Nat) (Option.none : Option Jvm.ClassFile.FieldType)) ∈ lw_all := lw_g (lw_at lw_m6 10 rfl) rfl
theorem q1335 : (Jvm.Cond.methodLink "java/util/LinkedList$ListItr" (7 : Nat) ({ cls := "java/lang/Object", name := "<init>", desc := "()V" } : Jvm.MethodName)) ∈ lw_all := lw_g (lw_at lw_m6 11 rfl) rfl
theorem q1336 : (Jvm.Cond.methodLink "java/util/LinkedList$ListItr" (25 : Nat) ({ cls := "java/util/LinkedList", name := "node", desc := "(I)Ljava/util/LinkedList$Node;" } : Jvm.MethodName)) ∈ lw_all := lw_g (lw_at lw_m6 12 rfl) rfl
theorem q1337 : (Jvm.Cond.fieldLink "java/util/LinkedList$ListItr" (46 : Nat) "java/util/LinkedList$ListItr" "lastReturned" "Ljava/util/LinkedList$Node;") ∈ lw_all := lw_g (lw_at lw_m6 13 rfl) rfl
theorem q1338 : (Jvm.Cond.fieldLink "java/util/LinkedList$ListItr" (29 : Nat) "java/util/LinkedList$ListItr" "next" "Ljava/util/LinkedList$Node;") ∈ lw_all := lw_g (lw_at lw_m6 14 rfl) rfl
theorem q1339 : (Jvm.Cond.fieldLink "java/util/LinkedList$ListItr" (33 : Nat) "java/util/LinkedList$ListItr" "nextIndex" "I") ∈ lw_all := lw_g (lw_at lw_m6 15 rfl) rfl
theorem q1340 : (Jvm.Cond.fieldLink "java/util/LinkedList$ListItr" (19 : Nat) "java/util/LinkedList$ListItr" "expectedModCount" "I") ∈ lw_all := lw_g (lw_at lw_m6 16 rfl) rfl
theorem q1341 : (Jvm.Cond.fieldLink "java/util/LinkedList$ListItr" (1 : Nat) "java/util/LinkedList$ListItr" "this$0" "Ljava/util/LinkedList;") ∈ lw_all := lw_g (lw_at lw_m6 17 rfl) rfl
theorem q1342 : (Jvm.Cond.lays "java/util/LinkedList$ListItr" "java/util/LinkedList$ListItr" "lastReturned" "Ljava/util/LinkedList$Node;") ∈ lw_all := lw_g (lw_at lw_m6 18 rfl) rfl
theorem q1343 : (Jvm.Cond.soleField "java/util/LinkedList$ListItr" "lastReturned") ∈ lw_all := lw_g (lw_at lw_m6 19 rfl) rfl
theorem q1344 : (Jvm.Cond.lays "java/util/LinkedList$ListItr" "java/util/LinkedList$ListItr" "next" "Ljava/util/LinkedList$Node;") ∈ lw_all := lw_g (lw_at lw_m6 20 rfl) rfl
theorem q1345 : (Jvm.Cond.soleField "java/util/LinkedList$ListItr" "next") ∈ lw_all := lw_g (lw_at lw_m6 21 rfl) rfl
theorem q1346 : (Jvm.Cond.lays "java/util/LinkedList$ListItr" "java/util/LinkedList$ListItr" "nextIndex" "I") ∈ lw_all := lw_g (lw_at lw_m6 22 rfl) rfl
theorem q1347 : (Jvm.Cond.soleField "java/util/LinkedList$ListItr" "nextIndex") ∈ lw_all := lw_g (lw_at lw_m6 23 rfl) rfl
theorem q1348 : (Jvm.Cond.lays "java/util/LinkedList$ListItr" "java/util/LinkedList$ListItr" "expectedModCount" "I") ∈ lw_all := lw_g (lw_at lw_m6 24 rfl) rfl
theorem q1349 : (Jvm.Cond.soleField "java/util/LinkedList$ListItr" "expectedModCount") ∈ lw_all := lw_g (lw_at lw_m6 25 rfl) rfl
theorem q1350 : (Jvm.Cond.laysFinal "java/util/LinkedList$ListItr" "java/util/LinkedList$ListItr" "this$0" "Ljava/util/LinkedList;") ∈ lw_all := lw_g (lw_at lw_m6 26 rfl) rfl
theorem q1351 : (Jvm.Cond.soleField "java/util/LinkedList$ListItr" "this$0") ∈ lw_all := lw_g (lw_at lw_m6 27 rfl) rfl
theorem q1352 : (Jvm.Cond.superclass "java/util/LinkedList$ListItr" "java/lang/Object") ∈ lw_all := lw_g (lw_at lw_m6 28 rfl) rfl
theorem q1384 : (Jvm.Cond.castable "java/util/LinkedList$ListItr" "java/util/Iterator") ∈ lw_tbl := lw_at lw_m6 60 rfl
theorem q1385 : (Jvm.Cond.selects "java/util/LinkedList$ListItr" ({ cls := "java/util/Iterator", name := "hasNext", desc := "()Z" } : Jvm.MethodName) ({ cls := "java/util/LinkedList$ListItr", name := "hasNext", desc := "()Z" } : Jvm.MethodName)) ∈ lw_all := lw_g (lw_at lw_m6 61 rfl) rfl
theorem q1386 : (Jvm.Cond.unhidden "java/util/LinkedList$ListItr" "hasNext" "()Z") ∈ lw_tbl := lw_at lw_m6 62 rfl
theorem q1387 : (Jvm.Cond.instanceMethod ({ cls := "java/util/LinkedList$ListItr", name := "hasNext", desc := "()Z" } : Jvm.MethodName)) ∈ lw_all := lw_g (lw_at lw_m6 63 rfl) rfl
theorem q1388 : (Jvm.Cond.publicMethod ({ cls := "java/util/LinkedList$ListItr", name := "hasNext", desc := "()Z" } : Jvm.MethodName)) ∈ lw_tbl := lw_at lw_m6 64 rfl
theorem q1389 : (Jvm.Cond.code ({ cls := "java/util/LinkedList$ListItr", name := "hasNext", desc := "()Z" } : Jvm.MethodName) prog_71_method_2_code (1 : Nat) (Option.some Jvm.ClassFile.FieldType.boolean)) ∈ lw_all := lw_g (lw_at lw_m6 65 rfl) rfl
theorem q1520 : (Jvm.Cond.selects "java/util/LinkedList$ListItr" ({ cls := "java/util/Iterator", name := "next", desc := "()Ljava/lang/Object;" } : Jvm.MethodName) ({ cls := "java/util/LinkedList$ListItr", name := "next", desc := "()Ljava/lang/Object;" } : Jvm.MethodName)) ∈ lw_all := lw_g (lw_at lw_m6 196 rfl) rfl
theorem q1521 : (Jvm.Cond.unhidden "java/util/LinkedList$ListItr" "next" "()Ljava/lang/Object;") ∈ lw_tbl := lw_at lw_m6 197 rfl
theorem q1522 : (Jvm.Cond.instanceMethod ({ cls := "java/util/LinkedList$ListItr", name := "next", desc := "()Ljava/lang/Object;" } : Jvm.MethodName)) ∈ lw_all := lw_g (lw_at lw_m6 198 rfl) rfl
theorem q1523 : (Jvm.Cond.publicMethod ({ cls := "java/util/LinkedList$ListItr", name := "next", desc := "()Ljava/lang/Object;" } : Jvm.MethodName)) ∈ lw_tbl := lw_at lw_m6 199 rfl
theorem q1524 : (Jvm.Cond.code ({ cls := "java/util/LinkedList$ListItr", name := "next", desc := "()Ljava/lang/Object;" } : Jvm.MethodName) prog_71_method_3_code (1 : Nat) (Option.some (Jvm.ClassFile.FieldType.object "java/lang/Object"))) ∈ lw_all := lw_g (lw_at lw_m6 200 rfl) rfl
theorem q1525 : (Jvm.Cond.methodLink "java/util/LinkedList$ListItr" (36 : Nat) ({ cls := "java/util/LinkedList$ListItr", name := "checkForComodification", desc := "()V" } : Jvm.MethodName)) ∈ lw_all := lw_g (lw_at lw_m6 201 rfl) rfl
theorem q1526 : (Jvm.Cond.instanceMethod ({ cls := "java/util/LinkedList$ListItr", name := "checkForComodification", desc := "()V" } : Jvm.MethodName)) ∈ lw_all := lw_g (lw_at lw_m6 202 rfl) rfl
theorem q1527 : (Jvm.Cond.selects "java/util/LinkedList$ListItr" ({ cls := "java/util/LinkedList$ListItr", name := "checkForComodification", desc := "()V" } : Jvm.MethodName) ({ cls := "java/util/LinkedList$ListItr", name := "checkForComodification", desc := "()V" } : Jvm.MethodName)) ∈ lw_all := lw_g (lw_at lw_m6 203 rfl) rfl
theorem q1528 : (Jvm.Cond.code ({ cls := "java/util/LinkedList$ListItr", name := "checkForComodification", desc := "()V" } : Jvm.MethodName) prog_71_method_12_code (1 : Nat) (Option.none : Option Jvm.ClassFile.FieldType)) ∈ lw_all := lw_g (lw_at lw_m6 204 rfl) rfl
theorem q1529 : (Jvm.Cond.methodLink "java/util/LinkedList$ListItr" (39 : Nat) ({ cls := "java/util/LinkedList$ListItr", name := "hasNext", desc := "()Z" } : Jvm.MethodName)) ∈ lw_all := lw_g (lw_at lw_m6 205 rfl) rfl
theorem q1530 : (Jvm.Cond.classLink "java/util/LinkedList$ListItr" (43 : Nat) "java/util/NoSuchElementException") ∈ lw_all := lw_g (lw_at lw_m6 206 rfl) rfl
theorem q1531 : (Jvm.Cond.methodLink "java/util/LinkedList$ListItr" (45 : Nat) ({ cls := "java/util/NoSuchElementException", name := "<init>", desc := "()V" } : Jvm.MethodName)) ∈ lw_all := lw_g (lw_at lw_m6 207 rfl) rfl
theorem q2273 : (Jvm.Cond.fieldLink "java/util/LinkedList$ListItr" (52 : Nat) "java/util/LinkedList$Node" "item" "Ljava/lang/Object;") ∈ lw_all := lw_g (lw_at lw_m9 229 rfl) rfl
theorem q2276 : (Jvm.Cond.fieldLink "java/util/LinkedList$ListItr" (49 : Nat) "java/util/LinkedList$Node" "next" "Ljava/util/LinkedList$Node;") ∈ lw_all := lw_g (lw_at lw_m9 232 rfl) rfl
theorem q4010 : (Jvm.Cond.selects "java/util/LinkedList$ListItr" ({ cls := "java/util/LinkedList$ListItr", name := "hasNext", desc := "()Z" } : Jvm.MethodName) ({ cls := "java/util/LinkedList$ListItr", name := "hasNext", desc := "()Z" } : Jvm.MethodName)) ∈ lw_all := lw_g (lw_at lw_m17 46 rfl) rfl
theorem q4049 : (Jvm.Cond.castable "java/util/LinkedList$ListItr" "java/lang/Object") ∈ lw_tbl := lw_at lw_m17 85 rfl
theorem in_J36 : ∀ w ∈ wsJ360, w ∈ lw_all := lw_in wsJ360 [1342, 1344, 1346, 1348, 1350] (by decide +kernel) (by decide +kernel)

/-! java/util/LinkedList$Node -/
set_option maxRecDepth 100000
def RJ37 : String := "java/util/LinkedList$Node"
def TJ37 : u_T := fun k => match k with
  | 0 => ("java/util/LinkedList$Node", "item", "Ljava/lang/Object;", false)
  | 1 => ("java/util/LinkedList$Node", "next", "Ljava/util/LinkedList$Node;", false)
  | _ => ("java/util/LinkedList$Node", "prev", "Ljava/util/LinkedList$Node;", false)
def tyJ37 : Nat → FieldType := fun k => match k with
  | 0 => .object "java/lang/Object"
  | 1 => .object "java/util/LinkedList$Node"
  | _ => .object "java/util/LinkedList$Node"
abbrev wsJ370 : List Cond := u_ws RJ37 TJ37 3
theorem nmJ37 : ∀ a, a < 3 → ∀ b, b < 3 → a ≠ b → (TJ37 a).2.1 ≠ (TJ37 b).2.1 := by decide +kernel
theorem tyJ37_ok : ∀ k, k < 3 → parseFieldDescriptor (TJ37 k).2.2.1 = some (tyJ37 k) := by decide +kernel
abbrev cJ37_init : ByteArray := prog_72_method_1_code
def yJ37_init : MethodName := ⟨RJ37, "<init>", "(Ljava/util/LinkedList$Node;Ljava/lang/Object;Ljava/util/LinkedList$Node;)V"⟩
def dkwJ37_init_0 : List UInt8 := [42, 183, 0, 1, 42, 44, 181, 0, 7, 42, 45, 181, 0, 13, 42, 43, 181, 0, 17, 177]
abbrev dktJ37_init_0 : List UInt8 := dkwJ37_init_0 ++ []
theorem dksJ37_init_0 : cJ37_init.data.toList.drop 0 = dktJ37_init_0 := by decide +kernel
theorem dJ37_init_0 : decode cJ37_init 0 = .ok (.aload_n 0, 1) := dk_42 (dk_at dksJ37_init_0 0 rfl rfl)
theorem dJ37_init_1 : decode cJ37_init 1 = .ok (.invokespecial 1, 3) := dk_183 0 1 (dk_at dksJ37_init_0 1 rfl rfl)
theorem dJ37_init_4 : decode cJ37_init 4 = .ok (.aload_n 0, 1) := dk_42 (dk_at dksJ37_init_0 4 rfl rfl)
theorem dJ37_init_5 : decode cJ37_init 5 = .ok (.aload_n 2, 1) := dk_44 (dk_at dksJ37_init_0 5 rfl rfl)
theorem dJ37_init_6 : decode cJ37_init 6 = .ok (.putfield 7, 3) := dk_181 0 7 (dk_at dksJ37_init_0 6 rfl rfl)
theorem dJ37_init_9 : decode cJ37_init 9 = .ok (.aload_n 0, 1) := dk_42 (dk_at dksJ37_init_0 9 rfl rfl)
theorem dJ37_init_10 : decode cJ37_init 10 = .ok (.aload_n 3, 1) := dk_45 (dk_at dksJ37_init_0 10 rfl rfl)
theorem dJ37_init_11 : decode cJ37_init 11 = .ok (.putfield 13, 3) := dk_181 0 13 (dk_at dksJ37_init_0 11 rfl rfl)
theorem dJ37_init_14 : decode cJ37_init 14 = .ok (.aload_n 0, 1) := dk_42 (dk_at dksJ37_init_0 14 rfl rfl)
theorem dJ37_init_15 : decode cJ37_init 15 = .ok (.aload_n 1, 1) := dk_43 (dk_at dksJ37_init_0 15 rfl rfl)
theorem dJ37_init_16 : decode cJ37_init 16 = .ok (.putfield 17, 3) := dk_181 0 17 (dk_at dksJ37_init_0 16 rfl rfl)
theorem dJ37_init_19 : decode cJ37_init 19 = .ok (.return_, 1) := dk_177 (dk_at dksJ37_init_0 19 rfl rfl)
theorem q173 : (Jvm.Cond.initialized "java/util/LinkedList$Node") ∈ lw_all := lw_g (lw_at lw_m1 49 rfl) rfl
theorem q955 : (Jvm.Cond.selects "java/util/LinkedList$Node" ({ cls := "java/lang/Object", name := "getClass", desc := "()Ljava/lang/Class;" } : Jvm.MethodName) ({ cls := "java/lang/Object", name := "getClass", desc := "()Ljava/lang/Class;" } : Jvm.MethodName)) ∈ lw_all := lw_g (lw_at lw_m4 111 rfl) rfl
theorem q2267 : (Jvm.Cond.instantiable "java/util/LinkedList$Node" (3 : Nat)) ∈ lw_all := lw_g (lw_at lw_m9 223 rfl) rfl
theorem q2269 : (Jvm.Cond.instanceMethod ({ cls := "java/util/LinkedList$Node", name := "<init>", desc := "(Ljava/util/LinkedList$Node;Ljava/lang/Object;Ljava/util/LinkedList$Node;)V" } : Jvm.MethodName)) ∈ lw_all := lw_g (lw_at lw_m9 225 rfl) rfl
theorem q2270 : (Jvm.Cond.code ({ cls := "java/util/LinkedList$Node", name := "<init>", desc := "(Ljava/util/LinkedList$Node;Ljava/lang/Object;Ljava/util/LinkedList$Node;)V" } : Jvm.MethodName) prog_72_method_1_code (4 : Nat) (Option.none : Option Jvm.ClassFile.FieldType)) ∈ lw_all := lw_g (lw_at lw_m9 226 rfl) rfl
theorem q2271 : (Jvm.Cond.methodLink "java/util/LinkedList$Node" (1 : Nat) ({ cls := "java/lang/Object", name := "<init>", desc := "()V" } : Jvm.MethodName)) ∈ lw_all := lw_g (lw_at lw_m9 227 rfl) rfl
theorem q2272 : (Jvm.Cond.fieldLink "java/util/LinkedList$Node" (7 : Nat) "java/util/LinkedList$Node" "item" "Ljava/lang/Object;") ∈ lw_all := lw_g (lw_at lw_m9 228 rfl) rfl
theorem q2275 : (Jvm.Cond.fieldLink "java/util/LinkedList$Node" (13 : Nat) "java/util/LinkedList$Node" "next" "Ljava/util/LinkedList$Node;") ∈ lw_all := lw_g (lw_at lw_m9 231 rfl) rfl
theorem q2278 : (Jvm.Cond.fieldLink "java/util/LinkedList$Node" (17 : Nat) "java/util/LinkedList$Node" "prev" "Ljava/util/LinkedList$Node;") ∈ lw_all := lw_g (lw_at lw_m9 234 rfl) rfl
theorem q2280 : (Jvm.Cond.lays "java/util/LinkedList$Node" "java/util/LinkedList$Node" "item" "Ljava/lang/Object;") ∈ lw_all := lw_g (lw_at lw_m9 236 rfl) rfl
theorem q2281 : (Jvm.Cond.soleField "java/util/LinkedList$Node" "item") ∈ lw_all := lw_g (lw_at lw_m9 237 rfl) rfl
theorem q2282 : (Jvm.Cond.lays "java/util/LinkedList$Node" "java/util/LinkedList$Node" "next" "Ljava/util/LinkedList$Node;") ∈ lw_all := lw_g (lw_at lw_m9 238 rfl) rfl
theorem q2283 : (Jvm.Cond.soleField "java/util/LinkedList$Node" "next") ∈ lw_all := lw_g (lw_at lw_m9 239 rfl) rfl
theorem q2284 : (Jvm.Cond.lays "java/util/LinkedList$Node" "java/util/LinkedList$Node" "prev" "Ljava/util/LinkedList$Node;") ∈ lw_all := lw_g (lw_at lw_m10 0 rfl) rfl
theorem q2285 : (Jvm.Cond.soleField "java/util/LinkedList$Node" "prev") ∈ lw_all := lw_g (lw_at lw_m10 1 rfl) rfl
theorem q2286 : (Jvm.Cond.superclass "java/util/LinkedList$Node" "java/lang/Object") ∈ lw_all := lw_g (lw_at lw_m10 2 rfl) rfl
theorem q4051 : (Jvm.Cond.castable "java/util/LinkedList$Node" "java/lang/Object") ∈ lw_tbl := lw_at lw_m17 87 rfl
theorem in_J37 : ∀ w ∈ wsJ370, w ∈ lw_all := lw_in wsJ370 [2280, 2282, 2284] (by decide +kernel) (by decide +kernel)

/-! java/lang/IllegalStateException -/
set_option maxRecDepth 100000
def RJ38 : String := "java/lang/IllegalStateException"
def TJ38 : u_T := fun k => match k with
  | 0 => ("java/lang/Throwable", "cause", "Ljava/lang/Throwable;", false)
  | 1 => ("java/lang/Throwable", "stackTrace", "[Ljava/lang/StackTraceElement;", false)
  | 2 => ("java/lang/Throwable", "suppressedExceptions", "Ljava/util/List;", false)
  | 3 => ("java/lang/Throwable", "detailMessage", "Ljava/lang/String;", false)
  | 4 => ("java/lang/Throwable", "backtrace", "Ljava/lang/Object;", false)
  | _ => ("java/lang/Throwable", "depth", "I", false)
def tyJ38 : Nat → FieldType := fun k => match k with
  | 0 => .object "java/lang/Throwable"
  | 1 => .array (.object "java/lang/StackTraceElement")
  | 2 => .object "java/util/List"
  | 3 => .object "java/lang/String"
  | 4 => .object "java/lang/Object"
  | _ => .int
abbrev wsJ380 : List Cond := u_ws RJ38 TJ38 6
theorem nmJ38 : ∀ a, a < 6 → ∀ b, b < 6 → a ≠ b → (TJ38 a).2.1 ≠ (TJ38 b).2.1 := by decide +kernel
theorem tyJ38_ok : ∀ k, k < 6 → parseFieldDescriptor (TJ38 k).2.2.1 = some (tyJ38 k) := by decide +kernel
abbrev cJ38_init : ByteArray := prog_32_method_2_code
def yJ38_init : MethodName := ⟨RJ38, "<init>", "(Ljava/lang/String;)V"⟩
def dkwJ38_init_0 : List UInt8 := [42, 43, 183, 0, 7, 177]
abbrev dktJ38_init_0 : List UInt8 := dkwJ38_init_0 ++ []
theorem dksJ38_init_0 : cJ38_init.data.toList.drop 0 = dktJ38_init_0 := by decide +kernel
theorem dJ38_init_0 : decode cJ38_init 0 = .ok (.aload_n 0, 1) := dk_42 (dk_at dksJ38_init_0 0 rfl rfl)
theorem dJ38_init_1 : decode cJ38_init 1 = .ok (.aload_n 1, 1) := dk_43 (dk_at dksJ38_init_0 1 rfl rfl)
theorem dJ38_init_2 : decode cJ38_init 2 = .ok (.invokespecial 7, 3) := dk_183 0 7 (dk_at dksJ38_init_0 2 rfl rfl)
theorem dJ38_init_5 : decode cJ38_init 5 = .ok (.return_, 1) := dk_177 (dk_at dksJ38_init_0 5 rfl rfl)
abbrev cJ38_init_2 : ByteArray := prog_32_method_1_code
def yJ38_init_2 : MethodName := ⟨RJ38, "<init>", "()V"⟩
theorem dJ38_init_2_0 : decode cJ38_init_2 0 = .ok (.aload_n 0, 1) := by decide +kernel
theorem dJ38_init_2_1 : decode cJ38_init_2 1 = .ok (.invokespecial 1, 3) := by decide +kernel
theorem dJ38_init_2_4 : decode cJ38_init_2 4 = .ok (.return_, 1) := by decide +kernel
theorem q175 : (Jvm.Cond.initialized "java/lang/IllegalStateException") ∈ lw_all := lw_g (lw_at lw_m1 51 rfl) rfl
theorem q536 : (Jvm.Cond.selects "java/lang/IllegalStateException" ({ cls := "java/lang/Throwable", name := "fillInStackTrace", desc := "()Ljava/lang/Throwable;" } : Jvm.MethodName) ({ cls := "java/lang/Throwable", name := "fillInStackTrace", desc := "()Ljava/lang/Throwable;" } : Jvm.MethodName)) ∈ lw_all := lw_g (lw_at lw_m2 172 rfl) rfl
theorem q939 : (Jvm.Cond.selects "java/lang/IllegalStateException" ({ cls := "java/lang/Object", name := "getClass", desc := "()Ljava/lang/Class;" } : Jvm.MethodName) ({ cls := "java/lang/Object", name := "getClass", desc := "()Ljava/lang/Class;" } : Jvm.MethodName)) ∈ lw_all := lw_g (lw_at lw_m4 95 rfl) rfl
theorem q1445 : (Jvm.Cond.selects "java/lang/IllegalStateException" ({ cls := "java/lang/Throwable", name := "toString", desc := "()Ljava/lang/String;" } : Jvm.MethodName) ({ cls := "java/lang/Throwable", name := "toString", desc := "()Ljava/lang/String;" } : Jvm.MethodName)) ∈ lw_all := lw_g (lw_at lw_m6 121 rfl) rfl
theorem q1461 : (Jvm.Cond.selects "java/lang/IllegalStateException" ({ cls := "java/lang/Throwable", name := "getLocalizedMessage", desc := "()Ljava/lang/String;" } : Jvm.MethodName) ({ cls := "java/lang/Throwable", name := "getLocalizedMessage", desc := "()Ljava/lang/String;" } : Jvm.MethodName)) ∈ lw_all := lw_g (lw_at lw_m6 137 rfl) rfl
theorem q1476 : (Jvm.Cond.selects "java/lang/IllegalStateException" ({ cls := "java/lang/Throwable", name := "getMessage", desc := "()Ljava/lang/String;" } : Jvm.MethodName) ({ cls := "java/lang/Throwable", name := "getMessage", desc := "()Ljava/lang/String;" } : Jvm.MethodName)) ∈ lw_all := lw_g (lw_at lw_m6 152 rfl) rfl
theorem q1563 : (Jvm.Cond.instantiable "java/lang/IllegalStateException" (6 : Nat)) ∈ lw_all := lw_g (lw_at lw_m6 239 rfl) rfl
theorem q1564 : (Jvm.Cond.castable "java/lang/IllegalStateException" "java/lang/IllegalStateException") ∈ lw_tbl := lw_at lw_m7 0 rfl
theorem q1565 : (Jvm.Cond.selects "java/lang/IllegalStateException" ({ cls := "java/lang/Throwable", name := "fillInStackTrace", desc := "(I)Ljava/lang/Throwable;" } : Jvm.MethodName) ({ cls := "java/lang/Throwable", name := "fillInStackTrace", desc := "(I)Ljava/lang/Throwable;" } : Jvm.MethodName)) ∈ lw_all := lw_g (lw_at lw_m7 1 rfl) rfl
theorem q1566 : (Jvm.Cond.lays "java/lang/IllegalStateException" "java/lang/Throwable" "cause" "Ljava/lang/Throwable;") ∈ lw_all := lw_g (lw_at lw_m7 2 rfl) rfl
theorem q1567 : (Jvm.Cond.lays "java/lang/IllegalStateException" "java/lang/Throwable" "stackTrace" "[Ljava/lang/StackTraceElement;") ∈ lw_all := lw_g (lw_at lw_m7 3 rfl) rfl
theorem q1568 : (Jvm.Cond.lays "java/lang/IllegalStateException" "java/lang/Throwable" "suppressedExceptions" "Ljava/util/List;") ∈ lw_all := lw_g (lw_at lw_m7 4 rfl) rfl
theorem q1569 : (Jvm.Cond.lays "java/lang/IllegalStateException" "java/lang/Throwable" "detailMessage" "Ljava/lang/String;") ∈ lw_all := lw_g (lw_at lw_m7 5 rfl) rfl
theorem q1570 : (Jvm.Cond.lays "java/lang/IllegalStateException" "java/lang/Throwable" "backtrace" "Ljava/lang/Object;") ∈ lw_all := lw_g (lw_at lw_m7 6 rfl) rfl
theorem q1573 : (Jvm.Cond.instanceMethod ({ cls := "java/lang/IllegalStateException", name := "<init>", desc := "(Ljava/lang/String;)V" } : Jvm.MethodName)) ∈ lw_all := lw_g (lw_at lw_m7 9 rfl) rfl
theorem q1574 : (Jvm.Cond.code ({ cls := "java/lang/IllegalStateException", name := "<init>", desc := "(Ljava/lang/String;)V" } : Jvm.MethodName) prog_32_method_2_code (2 : Nat) (Option.none : Option Jvm.ClassFile.FieldType)) ∈ lw_all := lw_g (lw_at lw_m7 10 rfl) rfl
theorem q1575 : (Jvm.Cond.methodLink "java/lang/IllegalStateException" (7 : Nat) ({ cls := "java/lang/RuntimeException", name := "<init>", desc := "(Ljava/lang/String;)V" } : Jvm.MethodName)) ∈ lw_all := lw_g (lw_at lw_m7 11 rfl) rfl
theorem q1576 : (Jvm.Cond.lays "java/lang/IllegalStateException" "java/lang/Throwable" "depth" "I") ∈ lw_all := lw_g (lw_at lw_m7 12 rfl) rfl
theorem q1577 : (Jvm.Cond.superclass "java/lang/IllegalStateException" "java/lang/RuntimeException") ∈ lw_all := lw_g (lw_at lw_m7 13 rfl) rfl
theorem q2349 : (Jvm.Cond.instanceMethod ({ cls := "java/lang/IllegalStateException", name := "<init>", desc := "()V" } : Jvm.MethodName)) ∈ lw_all := lw_g (lw_at lw_m10 65 rfl) rfl
theorem q2350 : (Jvm.Cond.code ({ cls := "java/lang/IllegalStateException", name := "<init>", desc := "()V" } : Jvm.MethodName) prog_32_method_1_code (1 : Nat) (Option.none : Option Jvm.ClassFile.FieldType)) ∈ lw_all := lw_g (lw_at lw_m10 66 rfl) rfl
theorem q2351 : (Jvm.Cond.methodLink "java/lang/IllegalStateException" (1 : Nat) ({ cls := "java/lang/RuntimeException", name := "<init>", desc := "()V" } : Jvm.MethodName)) ∈ lw_all := lw_g (lw_at lw_m10 67 rfl) rfl
theorem q2868 : (Jvm.Cond.selects "java/lang/IllegalStateException" ({ cls := "java/lang/Object", name := "toString", desc := "()Ljava/lang/String;" } : Jvm.MethodName) ({ cls := "java/lang/Throwable", name := "toString", desc := "()Ljava/lang/String;" } : Jvm.MethodName)) ∈ lw_all := lw_g (lw_at lw_m12 104 rfl) rfl
theorem q4053 : (Jvm.Cond.castable "java/lang/IllegalStateException" "java/lang/Object") ∈ lw_tbl := lw_at lw_m17 89 rfl
theorem in_J38 : ∀ w ∈ wsJ380, w ∈ lw_all := lw_in wsJ380 [1566, 1567, 1568, 1569, 1570, 1576] (by decide +kernel) (by decide +kernel)

/-! java/lang/UnsupportedOperationException -/
set_option maxRecDepth 100000
def RJ39 : String := "java/lang/UnsupportedOperationException"
def TJ39 : u_T := fun k => match k with
  | 0 => ("java/lang/Throwable", "cause", "Ljava/lang/Throwable;", false)
  | 1 => ("java/lang/Throwable", "stackTrace", "[Ljava/lang/StackTraceElement;", false)
  | 2 => ("java/lang/Throwable", "suppressedExceptions", "Ljava/util/List;", false)
  | 3 => ("java/lang/Throwable", "detailMessage", "Ljava/lang/String;", false)
  | 4 => ("java/lang/Throwable", "backtrace", "Ljava/lang/Object;", false)
  | _ => ("java/lang/Throwable", "depth", "I", false)
def tyJ39 : Nat → FieldType := fun k => match k with
  | 0 => .object "java/lang/Throwable"
  | 1 => .array (.object "java/lang/StackTraceElement")
  | 2 => .object "java/util/List"
  | 3 => .object "java/lang/String"
  | 4 => .object "java/lang/Object"
  | _ => .int
abbrev wsJ390 : List Cond := u_ws RJ39 TJ39 6
theorem nmJ39 : ∀ a, a < 6 → ∀ b, b < 6 → a ≠ b → (TJ39 a).2.1 ≠ (TJ39 b).2.1 := by decide +kernel
theorem tyJ39_ok : ∀ k, k < 6 → parseFieldDescriptor (TJ39 k).2.2.1 = some (tyJ39 k) := by decide +kernel
abbrev cJ39_init : ByteArray := prog_49_method_1_code
def yJ39_init : MethodName := ⟨RJ39, "<init>", "()V"⟩
theorem dJ39_init_0 : decode cJ39_init 0 = .ok (.aload_n 0, 1) := by decide +kernel
theorem dJ39_init_1 : decode cJ39_init 1 = .ok (.invokespecial 1, 3) := by decide +kernel
theorem dJ39_init_4 : decode cJ39_init 4 = .ok (.return_, 1) := by decide +kernel
theorem q176 : (Jvm.Cond.initialized "java/lang/UnsupportedOperationException") ∈ lw_all := lw_g (lw_at lw_m1 52 rfl) rfl
theorem q538 : (Jvm.Cond.selects "java/lang/UnsupportedOperationException" ({ cls := "java/lang/Throwable", name := "fillInStackTrace", desc := "()Ljava/lang/Throwable;" } : Jvm.MethodName) ({ cls := "java/lang/Throwable", name := "fillInStackTrace", desc := "()Ljava/lang/Throwable;" } : Jvm.MethodName)) ∈ lw_all := lw_g (lw_at lw_m2 174 rfl) rfl
theorem q946 : (Jvm.Cond.selects "java/lang/UnsupportedOperationException" ({ cls := "java/lang/Object", name := "getClass", desc := "()Ljava/lang/Class;" } : Jvm.MethodName) ({ cls := "java/lang/Object", name := "getClass", desc := "()Ljava/lang/Class;" } : Jvm.MethodName)) ∈ lw_all := lw_g (lw_at lw_m4 102 rfl) rfl
theorem q1448 : (Jvm.Cond.selects "java/lang/UnsupportedOperationException" ({ cls := "java/lang/Throwable", name := "toString", desc := "()Ljava/lang/String;" } : Jvm.MethodName) ({ cls := "java/lang/Throwable", name := "toString", desc := "()Ljava/lang/String;" } : Jvm.MethodName)) ∈ lw_all := lw_g (lw_at lw_m6 124 rfl) rfl
theorem q1464 : (Jvm.Cond.selects "java/lang/UnsupportedOperationException" ({ cls := "java/lang/Throwable", name := "getLocalizedMessage", desc := "()Ljava/lang/String;" } : Jvm.MethodName) ({ cls := "java/lang/Throwable", name := "getLocalizedMessage", desc := "()Ljava/lang/String;" } : Jvm.MethodName)) ∈ lw_all := lw_g (lw_at lw_m6 140 rfl) rfl
theorem q1479 : (Jvm.Cond.selects "java/lang/UnsupportedOperationException" ({ cls := "java/lang/Throwable", name := "getMessage", desc := "()Ljava/lang/String;" } : Jvm.MethodName) ({ cls := "java/lang/Throwable", name := "getMessage", desc := "()Ljava/lang/String;" } : Jvm.MethodName)) ∈ lw_all := lw_g (lw_at lw_m6 155 rfl) rfl
theorem q2355 : (Jvm.Cond.instantiable "java/lang/UnsupportedOperationException" (6 : Nat)) ∈ lw_all := lw_g (lw_at lw_m10 71 rfl) rfl
theorem q2356 : (Jvm.Cond.castable "java/lang/UnsupportedOperationException" "java/lang/UnsupportedOperationException") ∈ lw_tbl := lw_at lw_m10 72 rfl
theorem q2357 : (Jvm.Cond.selects "java/lang/UnsupportedOperationException" ({ cls := "java/lang/Throwable", name := "fillInStackTrace", desc := "(I)Ljava/lang/Throwable;" } : Jvm.MethodName) ({ cls := "java/lang/Throwable", name := "fillInStackTrace", desc := "(I)Ljava/lang/Throwable;" } : Jvm.MethodName)) ∈ lw_all := lw_g (lw_at lw_m10 73 rfl) rfl
theorem q2358 : (Jvm.Cond.lays "java/lang/UnsupportedOperationException" "java/lang/Throwable" "cause" "Ljava/lang/Throwable;") ∈ lw_all := lw_g (lw_at lw_m10 74 rfl) rfl
theorem q2359 : (Jvm.Cond.lays "java/lang/UnsupportedOperationException" "java/lang/Throwable" "stackTrace" "[Ljava/lang/StackTraceElement;") ∈ lw_all := lw_g (lw_at lw_m10 75 rfl) rfl
theorem q2360 : (Jvm.Cond.lays "java/lang/UnsupportedOperationException" "java/lang/Throwable" "suppressedExceptions" "Ljava/util/List;") ∈ lw_all := lw_g (lw_at lw_m10 76 rfl) rfl
theorem q2361 : (Jvm.Cond.lays "java/lang/UnsupportedOperationException" "java/lang/Throwable" "detailMessage" "Ljava/lang/String;") ∈ lw_all := lw_g (lw_at lw_m10 77 rfl) rfl
theorem q2362 : (Jvm.Cond.lays "java/lang/UnsupportedOperationException" "java/lang/Throwable" "backtrace" "Ljava/lang/Object;") ∈ lw_all := lw_g (lw_at lw_m10 78 rfl) rfl
theorem q2364 : (Jvm.Cond.instanceMethod ({ cls := "java/lang/UnsupportedOperationException", name := "<init>", desc := "()V" } : Jvm.MethodName)) ∈ lw_all := lw_g (lw_at lw_m10 80 rfl) rfl
theorem q2365 : (Jvm.Cond.code ({ cls := "java/lang/UnsupportedOperationException", name := "<init>", desc := "()V" } : Jvm.MethodName) prog_49_method_1_code (1 : Nat) (Option.none : Option Jvm.ClassFile.FieldType)) ∈ lw_all := lw_g (lw_at lw_m10 81 rfl) rfl
theorem q2366 : (Jvm.Cond.methodLink "java/lang/UnsupportedOperationException" (1 : Nat) ({ cls := "java/lang/RuntimeException", name := "<init>", desc := "()V" } : Jvm.MethodName)) ∈ lw_all := lw_g (lw_at lw_m10 82 rfl) rfl
theorem q2367 : (Jvm.Cond.lays "java/lang/UnsupportedOperationException" "java/lang/Throwable" "depth" "I") ∈ lw_all := lw_g (lw_at lw_m10 83 rfl) rfl
theorem q2368 : (Jvm.Cond.superclass "java/lang/UnsupportedOperationException" "java/lang/RuntimeException") ∈ lw_all := lw_g (lw_at lw_m10 84 rfl) rfl
theorem q2890 : (Jvm.Cond.selects "java/lang/UnsupportedOperationException" ({ cls := "java/lang/Object", name := "toString", desc := "()Ljava/lang/String;" } : Jvm.MethodName) ({ cls := "java/lang/Throwable", name := "toString", desc := "()Ljava/lang/String;" } : Jvm.MethodName)) ∈ lw_all := lw_g (lw_at lw_m12 126 rfl) rfl
theorem q4054 : (Jvm.Cond.castable "java/lang/UnsupportedOperationException" "java/lang/Object") ∈ lw_tbl := lw_at lw_m17 90 rfl
theorem in_J39 : ∀ w ∈ wsJ390, w ∈ lw_all := lw_in wsJ390 [2358, 2359, 2360, 2361, 2362, 2367] (by decide +kernel) (by decide +kernel)

/-! java/lang/ArrayIndexOutOfBoundsException -/
set_option maxRecDepth 100000
def RJ40 : String := "java/lang/ArrayIndexOutOfBoundsException"
def TJ40 : u_T := fun k => match k with
  | 0 => ("java/lang/Throwable", "backtrace", "Ljava/lang/Object;", false)
  | 1 => ("java/lang/Throwable", "detailMessage", "Ljava/lang/String;", false)
  | 2 => ("java/lang/Throwable", "cause", "Ljava/lang/Throwable;", false)
  | 3 => ("java/lang/Throwable", "stackTrace", "[Ljava/lang/StackTraceElement;", false)
  | 4 => ("java/lang/Throwable", "depth", "I", false)
  | _ => ("java/lang/Throwable", "suppressedExceptions", "Ljava/util/List;", false)
def tyJ40 : Nat → FieldType := fun k => match k with
  | 0 => .object "java/lang/Object"
  | 1 => .object "java/lang/String"
  | 2 => .object "java/lang/Throwable"
  | 3 => .array (.object "java/lang/StackTraceElement")
  | 4 => .int
  | _ => .object "java/util/List"
abbrev wsJ400 : List Cond := u_ws RJ40 TJ40 6
theorem nmJ40 : ∀ a, a < 6 → ∀ b, b < 6 → a ≠ b → (TJ40 a).2.1 ≠ (TJ40 b).2.1 := by decide +kernel
theorem tyJ40_ok : ∀ k, k < 6 → parseFieldDescriptor (TJ40 k).2.2.1 = some (tyJ40 k) := by decide +kernel
abbrev cJ40_init : ByteArray := prog_26_method_2_code
def yJ40_init : MethodName := ⟨RJ40, "<init>", "(Ljava/lang/String;)V"⟩
def dkwJ40_init_0 : List UInt8 := [42, 43, 183, 0, 7, 177]
abbrev dktJ40_init_0 : List UInt8 := dkwJ40_init_0 ++ []
theorem dksJ40_init_0 : cJ40_init.data.toList.drop 0 = dktJ40_init_0 := by decide +kernel
theorem dJ40_init_0 : decode cJ40_init 0 = .ok (.aload_n 0, 1) := dk_42 (dk_at dksJ40_init_0 0 rfl rfl)
theorem dJ40_init_1 : decode cJ40_init 1 = .ok (.aload_n 1, 1) := dk_43 (dk_at dksJ40_init_0 1 rfl rfl)
theorem dJ40_init_2 : decode cJ40_init 2 = .ok (.invokespecial 7, 3) := dk_183 0 7 (dk_at dksJ40_init_0 2 rfl rfl)
theorem dJ40_init_5 : decode cJ40_init 5 = .ok (.return_, 1) := dk_177 (dk_at dksJ40_init_0 5 rfl rfl)
abbrev cJ40_init_2 : ByteArray := prog_26_method_3_code
def yJ40_init_2 : MethodName := ⟨RJ40, "<init>", "(I)V"⟩
def dkwJ40_init_2_0 : List UInt8 := [42, 187, 0, 10, 89, 183, 0, 12, 18, 13, 182, 0, 15, 27, 182, 0, 19, 182, 0, 22, 183, 0, 7, 177]
abbrev dktJ40_init_2_0 : List UInt8 := dkwJ40_init_2_0 ++ []
theorem dksJ40_init_2_0 : cJ40_init_2.data.toList.drop 0 = dktJ40_init_2_0 := by decide +kernel
theorem dJ40_init_2_0 : decode cJ40_init_2 0 = .ok (.aload_n 0, 1) := dk_42 (dk_at dksJ40_init_2_0 0 rfl rfl)
theorem dJ40_init_2_1 : decode cJ40_init_2 1 = .ok (.new 10, 3) := dk_187 0 10 (dk_at dksJ40_init_2_0 1 rfl rfl)
theorem dJ40_init_2_4 : decode cJ40_init_2 4 = .ok (.dup, 1) := dk_89 (dk_at dksJ40_init_2_0 4 rfl rfl)
theorem dJ40_init_2_5 : decode cJ40_init_2 5 = .ok (.invokespecial 12, 3) := dk_183 0 12 (dk_at dksJ40_init_2_0 5 rfl rfl)
theorem dJ40_init_2_8 : decode cJ40_init_2 8 = .ok (.ldc 13, 2) := dk_18 13 (dk_at dksJ40_init_2_0 8 rfl rfl)
theorem dJ40_init_2_10 : decode cJ40_init_2 10 = .ok (.invokevirtual 15, 3) := dk_182 0 15 (dk_at dksJ40_init_2_0 10 rfl rfl)
theorem dJ40_init_2_13 : decode cJ40_init_2 13 = .ok (.iload_n 1, 1) := dk_27 (dk_at dksJ40_init_2_0 13 rfl rfl)
theorem dJ40_init_2_14 : decode cJ40_init_2 14 = .ok (.invokevirtual 19, 3) := dk_182 0 19 (dk_at dksJ40_init_2_0 14 rfl rfl)
theorem dJ40_init_2_17 : decode cJ40_init_2 17 = .ok (.invokevirtual 22, 3) := dk_182 0 22 (dk_at dksJ40_init_2_0 17 rfl rfl)
theorem dJ40_init_2_20 : decode cJ40_init_2 20 = .ok (.invokespecial 7, 3) := dk_183 0 7 (dk_at dksJ40_init_2_0 20 rfl rfl)
theorem dJ40_init_2_23 : decode cJ40_init_2 23 = .ok (.return_, 1) := dk_177 (dk_at dksJ40_init_2_0 23 rfl rfl)
theorem q177 : (Jvm.Cond.initialized "java/lang/ArrayIndexOutOfBoundsException") ∈ lw_all := lw_g (lw_at lw_m1 53 rfl) rfl
theorem q534 : (Jvm.Cond.selects "java/lang/ArrayIndexOutOfBoundsException" ({ cls := "java/lang/Throwable", name := "fillInStackTrace", desc := "()Ljava/lang/Throwable;" } : Jvm.MethodName) ({ cls := "java/lang/Throwable", name := "fillInStackTrace", desc := "()Ljava/lang/Throwable;" } : Jvm.MethodName)) ∈ lw_all := lw_g (lw_at lw_m2 170 rfl) rfl
theorem q937 : (Jvm.Cond.selects "java/lang/ArrayIndexOutOfBoundsException" ({ cls := "java/lang/Object", name := "getClass", desc := "()Ljava/lang/Class;" } : Jvm.MethodName) ({ cls := "java/lang/Object", name := "getClass", desc := "()Ljava/lang/Class;" } : Jvm.MethodName)) ∈ lw_all := lw_g (lw_at lw_m4 93 rfl) rfl
theorem q1443 : (Jvm.Cond.selects "java/lang/ArrayIndexOutOfBoundsException" ({ cls := "java/lang/Throwable", name := "toString", desc := "()Ljava/lang/String;" } : Jvm.MethodName) ({ cls := "java/lang/Throwable", name := "toString", desc := "()Ljava/lang/String;" } : Jvm.MethodName)) ∈ lw_all := lw_g (lw_at lw_m6 119 rfl) rfl
theorem q1459 : (Jvm.Cond.selects "java/lang/ArrayIndexOutOfBoundsException" ({ cls := "java/lang/Throwable", name := "getLocalizedMessage", desc := "()Ljava/lang/String;" } : Jvm.MethodName) ({ cls := "java/lang/Throwable", name := "getLocalizedMessage", desc := "()Ljava/lang/String;" } : Jvm.MethodName)) ∈ lw_all := lw_g (lw_at lw_m6 135 rfl) rfl
theorem q1474 : (Jvm.Cond.selects "java/lang/ArrayIndexOutOfBoundsException" ({ cls := "java/lang/Throwable", name := "getMessage", desc := "()Ljava/lang/String;" } : Jvm.MethodName) ({ cls := "java/lang/Throwable", name := "getMessage", desc := "()Ljava/lang/String;" } : Jvm.MethodName)) ∈ lw_all := lw_g (lw_at lw_m6 150 rfl) rfl
theorem q2373 : (Jvm.Cond.instantiable "java/lang/ArrayIndexOutOfBoundsException" (6 : Nat)) ∈ lw_all := lw_g (lw_at lw_m10 89 rfl) rfl
theorem q2374 : (Jvm.Cond.instanceMethod ({ cls := "java/lang/ArrayIndexOutOfBoundsException", name := "<init>", desc := "(Ljava/lang/String;)V" } : Jvm.MethodName)) ∈ lw_all := lw_g (lw_at lw_m10 90 rfl) rfl
theorem q2375 : (Jvm.Cond.code ({ cls := "java/lang/ArrayIndexOutOfBoundsException", name := "<init>", desc := "(Ljava/lang/String;)V" } : Jvm.MethodName) prog_26_method_2_code (2 : Nat) (Option.none : Option Jvm.ClassFile.FieldType)) ∈ lw_all := lw_g (lw_at lw_m10 91 rfl) rfl
theorem q2376 : (Jvm.Cond.methodLink "java/lang/ArrayIndexOutOfBoundsException" (7 : Nat) ({ cls := "java/lang/IndexOutOfBoundsException", name := "<init>", desc := "(Ljava/lang/String;)V" } : Jvm.MethodName)) ∈ lw_all := lw_g (lw_at lw_m10 92 rfl) rfl
theorem q2377 : (Jvm.Cond.lays "java/lang/ArrayIndexOutOfBoundsException" "java/lang/Throwable" "backtrace" "Ljava/lang/Object;") ∈ lw_all := lw_g (lw_at lw_m10 93 rfl) rfl
theorem q2378 : (Jvm.Cond.lays "java/lang/ArrayIndexOutOfBoundsException" "java/lang/Throwable" "detailMessage" "Ljava/lang/String;") ∈ lw_all := lw_g (lw_at lw_m10 94 rfl) rfl
theorem q2379 : (Jvm.Cond.lays "java/lang/ArrayIndexOutOfBoundsException" "java/lang/Throwable" "cause" "Ljava/lang/Throwable;") ∈ lw_all := lw_g (lw_at lw_m10 95 rfl) rfl
theorem q2380 : (Jvm.Cond.lays "java/lang/ArrayIndexOutOfBoundsException" "java/lang/Throwable" "stackTrace" "[Ljava/lang/StackTraceElement;") ∈ lw_all := lw_g (lw_at lw_m10 96 rfl) rfl
theorem q2381 : (Jvm.Cond.lays "java/lang/ArrayIndexOutOfBoundsException" "java/lang/Throwable" "depth" "I") ∈ lw_all := lw_g (lw_at lw_m10 97 rfl) rfl
theorem q2382 : (Jvm.Cond.lays "java/lang/ArrayIndexOutOfBoundsException" "java/lang/Throwable" "suppressedExceptions" "Ljava/util/List;") ∈ lw_all := lw_g (lw_at lw_m10 98 rfl) rfl
theorem q2383 : (Jvm.Cond.superclass "java/lang/ArrayIndexOutOfBoundsException" "java/lang/IndexOutOfBoundsException") ∈ lw_all := lw_g (lw_at lw_m10 99 rfl) rfl
theorem q2384 : (Jvm.Cond.castable "java/lang/ArrayIndexOutOfBoundsException" "java/lang/ArrayIndexOutOfBoundsException") ∈ lw_tbl := lw_at lw_m10 100 rfl
theorem q2387 : (Jvm.Cond.selects "java/lang/ArrayIndexOutOfBoundsException" ({ cls := "java/lang/Throwable", name := "fillInStackTrace", desc := "(I)Ljava/lang/Throwable;" } : Jvm.MethodName) ({ cls := "java/lang/Throwable", name := "fillInStackTrace", desc := "(I)Ljava/lang/Throwable;" } : Jvm.MethodName)) ∈ lw_all := lw_g (lw_at lw_m10 103 rfl) rfl
theorem q2866 : (Jvm.Cond.selects "java/lang/ArrayIndexOutOfBoundsException" ({ cls := "java/lang/Object", name := "toString", desc := "()Ljava/lang/String;" } : Jvm.MethodName) ({ cls := "java/lang/Throwable", name := "toString", desc := "()Ljava/lang/String;" } : Jvm.MethodName)) ∈ lw_all := lw_g (lw_at lw_m12 102 rfl) rfl
theorem q3286 : (Jvm.Cond.instanceMethod ({ cls := "java/lang/ArrayIndexOutOfBoundsException", name := "<init>", desc := "(I)V" } : Jvm.MethodName)) ∈ lw_all := lw_g (lw_at lw_m14 42 rfl) rfl
theorem q3287 : (Jvm.Cond.code ({ cls := "java/lang/ArrayIndexOutOfBoundsException", name := "<init>", desc := "(I)V" } : Jvm.MethodName) prog_26_method_3_code (2 : Nat) (Option.none : Option Jvm.ClassFile.FieldType)) ∈ lw_all := lw_g (lw_at lw_m14 43 rfl) rfl
theorem q3288 : (Jvm.Cond.classLink "java/lang/ArrayIndexOutOfBoundsException" (10 : Nat) "java/lang/StringBuilder") ∈ lw_all := lw_g (lw_at lw_m14 44 rfl) rfl
theorem q3289 : (Jvm.Cond.methodLink "java/lang/ArrayIndexOutOfBoundsException" (12 : Nat) ({ cls := "java/lang/StringBuilder", name := "<init>", desc := "()V" } : Jvm.MethodName)) ∈ lw_all := lw_g (lw_at lw_m14 45 rfl) rfl
theorem q3290 : (Jvm.Cond.stringRef "java/lang/ArrayIndexOutOfBoundsException" (13 : Nat) "Array index out of range: ") ∈ lw_tbl := lw_at lw_m14 46 rfl
theorem q3291 : (Jvm.Cond.methodLink "java/lang/ArrayIndexOutOfBoundsException" (15 : Nat) ({ cls := "java/lang/StringBuilder", name := "append", desc := "(Ljava/lang/String;)Ljava/lang/StringBuilder;" } : Jvm.MethodName)) ∈ lw_all := lw_g (lw_at lw_m14 47 rfl) rfl
theorem q3292 : (Jvm.Cond.methodLink "java/lang/ArrayIndexOutOfBoundsException" (19 : Nat) ({ cls := "java/lang/StringBuilder", name := "append", desc := "(I)Ljava/lang/StringBuilder;" } : Jvm.MethodName)) ∈ lw_all := lw_g (lw_at lw_m14 48 rfl) rfl
theorem q3293 : (Jvm.Cond.methodLink "java/lang/ArrayIndexOutOfBoundsException" (22 : Nat) ({ cls := "java/lang/StringBuilder", name := "toString", desc := "()Ljava/lang/String;" } : Jvm.MethodName)) ∈ lw_all := lw_g (lw_at lw_m14 49 rfl) rfl
theorem q4026 : (Jvm.Cond.castable "java/lang/ArrayIndexOutOfBoundsException" "java/lang/IndexOutOfBoundsException") ∈ lw_tbl := lw_at lw_m17 62 rfl
theorem q4055 : (Jvm.Cond.castable "java/lang/ArrayIndexOutOfBoundsException" "java/lang/Object") ∈ lw_tbl := lw_at lw_m17 91 rfl
theorem in_J40 : ∀ w ∈ wsJ400, w ∈ lw_all := lw_in wsJ400 [2377, 2378, 2379, 2380, 2381, 2382] (by decide +kernel) (by decide +kernel)

/-! java/util/TreeSet -/
set_option maxRecDepth 100000
def RJ41 : String := "java/util/TreeSet"
def TJ41 : u_T := fun k => match k with
  | _ => ("java/util/TreeSet", "m", "Ljava/util/NavigableMap;", false)
def tyJ41 : Nat → FieldType := fun k => match k with
  | _ => .object "java/util/NavigableMap"
abbrev wsJ410 : List Cond := u_ws RJ41 TJ41 1
theorem nmJ41 : ∀ a, a < 1 → ∀ b, b < 1 → a ≠ b → (TJ41 a).2.1 ≠ (TJ41 b).2.1 := by decide +kernel
theorem tyJ41_ok : ∀ k, k < 1 → parseFieldDescriptor (TJ41 k).2.2.1 = some (tyJ41 k) := by decide +kernel
abbrev cJ41_iterator : ByteArray := prog_96_method_6_code
def yJ41_iterator : MethodName := ⟨RJ41, "iterator", "()Ljava/util/Iterator;"⟩
def dkwJ41_iterator_0 : List UInt8 := [42, 180, 0, 7, 185, 0, 34, 1, 0, 185, 0, 40, 1, 0, 176]
abbrev dktJ41_iterator_0 : List UInt8 := dkwJ41_iterator_0 ++ []
theorem dksJ41_iterator_0 : cJ41_iterator.data.toList.drop 0 = dktJ41_iterator_0 := by decide +kernel
theorem dJ41_iterator_0 : decode cJ41_iterator 0 = .ok (.aload_n 0, 1) := dk_42 (dk_at dksJ41_iterator_0 0 rfl rfl)
theorem dJ41_iterator_1 : decode cJ41_iterator 1 = .ok (.getfield 7, 3) := dk_180 0 7 (dk_at dksJ41_iterator_0 1 rfl rfl)
theorem dJ41_iterator_4 : decode cJ41_iterator 4 = .ok (.invokeinterface 34 1, 5) := by decide +kernel
theorem dJ41_iterator_9 : decode cJ41_iterator 9 = .ok (.invokeinterface 40 1, 5) := by decide +kernel
theorem dJ41_iterator_14 : decode cJ41_iterator 14 = .ok (.areturn, 1) := dk_176 (dk_at dksJ41_iterator_0 14 rfl rfl)
abbrev cJ41_init : ByteArray := prog_96_method_2_code
def yJ41_init : MethodName := ⟨RJ41, "<init>", "()V"⟩
def dkwJ41_init_0 : List UInt8 := [42, 187, 0, 13, 89, 183, 0, 15, 183, 0, 16, 177]
abbrev dktJ41_init_0 : List UInt8 := dkwJ41_init_0 ++ []
theorem dksJ41_init_0 : cJ41_init.data.toList.drop 0 = dktJ41_init_0 := by decide +kernel
theorem dJ41_init_0 : decode cJ41_init 0 = .ok (.aload_n 0, 1) := dk_42 (dk_at dksJ41_init_0 0 rfl rfl)
theorem dJ41_init_1 : decode cJ41_init 1 = .ok (.new 13, 3) := dk_187 0 13 (dk_at dksJ41_init_0 1 rfl rfl)
theorem dJ41_init_4 : decode cJ41_init 4 = .ok (.dup, 1) := dk_89 (dk_at dksJ41_init_0 4 rfl rfl)
theorem dJ41_init_5 : decode cJ41_init 5 = .ok (.invokespecial 15, 3) := dk_183 0 15 (dk_at dksJ41_init_0 5 rfl rfl)
theorem dJ41_init_8 : decode cJ41_init 8 = .ok (.invokespecial 16, 3) := dk_183 0 16 (dk_at dksJ41_init_0 8 rfl rfl)
theorem dJ41_init_11 : decode cJ41_init 11 = .ok (.return_, 1) := dk_177 (dk_at dksJ41_init_0 11 rfl rfl)
abbrev cJ41_init_2 : ByteArray := prog_96_method_1_code
def yJ41_init_2 : MethodName := ⟨RJ41, "<init>", "(Ljava/util/NavigableMap;)V"⟩
def dkwJ41_init_2_0 : List UInt8 := [42, 183, 0, 1, 42, 43, 181, 0, 7, 177]
abbrev dktJ41_init_2_0 : List UInt8 := dkwJ41_init_2_0 ++ []
theorem dksJ41_init_2_0 : cJ41_init_2.data.toList.drop 0 = dktJ41_init_2_0 := by decide +kernel
theorem dJ41_init_2_0 : decode cJ41_init_2 0 = .ok (.aload_n 0, 1) := dk_42 (dk_at dksJ41_init_2_0 0 rfl rfl)
theorem dJ41_init_2_1 : decode cJ41_init_2 1 = .ok (.invokespecial 1, 3) := dk_183 0 1 (dk_at dksJ41_init_2_0 1 rfl rfl)
theorem dJ41_init_2_4 : decode cJ41_init_2 4 = .ok (.aload_n 0, 1) := dk_42 (dk_at dksJ41_init_2_0 4 rfl rfl)
theorem dJ41_init_2_5 : decode cJ41_init_2 5 = .ok (.aload_n 1, 1) := dk_43 (dk_at dksJ41_init_2_0 5 rfl rfl)
theorem dJ41_init_2_6 : decode cJ41_init_2 6 = .ok (.putfield 7, 3) := dk_181 0 7 (dk_at dksJ41_init_2_0 6 rfl rfl)
theorem dJ41_init_2_9 : decode cJ41_init_2 9 = .ok (.return_, 1) := dk_177 (dk_at dksJ41_init_2_0 9 rfl rfl)
abbrev cJ41_add : ByteArray := prog_96_method_12_code
def yJ41_add : MethodName := ⟨RJ41, "add", "(Ljava/lang/Object;)Z"⟩
def dkwJ41_add_0 : List UInt8 := [42, 180, 0, 7, 43, 178, 0, 65, 185, 0, 69, 3, 0, 199, 0, 7, 4, 167, 0, 4, 3, 172]
abbrev dktJ41_add_0 : List UInt8 := dkwJ41_add_0 ++ []
theorem dksJ41_add_0 : cJ41_add.data.toList.drop 0 = dktJ41_add_0 := by decide +kernel
theorem dJ41_add_0 : decode cJ41_add 0 = .ok (.aload_n 0, 1) := dk_42 (dk_at dksJ41_add_0 0 rfl rfl)
theorem dJ41_add_1 : decode cJ41_add 1 = .ok (.getfield 7, 3) := dk_180 0 7 (dk_at dksJ41_add_0 1 rfl rfl)
theorem dJ41_add_4 : decode cJ41_add 4 = .ok (.aload_n 1, 1) := dk_43 (dk_at dksJ41_add_0 4 rfl rfl)
theorem dJ41_add_5 : decode cJ41_add 5 = .ok (.getstatic 65, 3) := dk_178 0 65 (dk_at dksJ41_add_0 5 rfl rfl)
theorem dJ41_add_8 : decode cJ41_add 8 = .ok (.invokeinterface 69 3, 5) := by decide +kernel
theorem dJ41_add_13 : decode cJ41_add 13 = .ok (.ifnonnull 7, 3) := dk_199 0 7 (dk_at dksJ41_add_0 13 rfl rfl)
theorem dJ41_add_16 : decode cJ41_add 16 = .ok (.iconst 1, 1) := dk_4 (dk_at dksJ41_add_0 16 rfl rfl)
theorem dJ41_add_17 : decode cJ41_add 17 = .ok (.goto 4, 3) := dk_167 0 4 (dk_at dksJ41_add_0 17 rfl rfl)
theorem dJ41_add_20 : decode cJ41_add 20 = .ok (.iconst 0, 1) := dk_3 (dk_at dksJ41_add_0 20 rfl rfl)
theorem dJ41_add_21 : decode cJ41_add 21 = .ok (.ireturn, 1) := dk_172 (dk_at dksJ41_add_0 21 rfl rfl)
abbrev cJ41_size : ByteArray := prog_96_method_9_code
def yJ41_size : MethodName := ⟨RJ41, "size", "()I"⟩
def dkwJ41_size_0 : List UInt8 := [42, 180, 0, 7, 185, 0, 53, 1, 0, 172]
abbrev dktJ41_size_0 : List UInt8 := dkwJ41_size_0 ++ []
theorem dksJ41_size_0 : cJ41_size.data.toList.drop 0 = dktJ41_size_0 := by decide +kernel
theorem dJ41_size_0 : decode cJ41_size 0 = .ok (.aload_n 0, 1) := dk_42 (dk_at dksJ41_size_0 0 rfl rfl)
theorem dJ41_size_1 : decode cJ41_size 1 = .ok (.getfield 7, 3) := dk_180 0 7 (dk_at dksJ41_size_0 1 rfl rfl)
theorem dJ41_size_4 : decode cJ41_size 4 = .ok (.invokeinterface 53 1, 5) := by decide +kernel
theorem dJ41_size_9 : decode cJ41_size 9 = .ok (.ireturn, 1) := dk_172 (dk_at dksJ41_size_0 9 rfl rfl)
theorem q179 : (Jvm.Cond.initialized "java/util/TreeSet") ∈ lw_all := lw_g (lw_at lw_m1 55 rfl) rfl
theorem q962 : (Jvm.Cond.selects "java/util/TreeSet" ({ cls := "java/lang/Object", name := "getClass", desc := "()Ljava/lang/Class;" } : Jvm.MethodName) ({ cls := "java/lang/Object", name := "getClass", desc := "()Ljava/lang/Class;" } : Jvm.MethodName)) ∈ lw_all := lw_g (lw_at lw_m4 118 rfl) rfl
theorem q1746 : (Jvm.Cond.castable "java/util/TreeSet" "java/util/Set") ∈ lw_tbl := lw_at lw_m7 182 rfl
theorem q1747 : (Jvm.Cond.selects "java/util/TreeSet" ({ cls := "java/util/Set", name := "iterator", desc := "()Ljava/util/Iterator;" } : Jvm.MethodName) ({ cls := "java/util/TreeSet", name := "iterator", desc := "()Ljava/util/Iterator;" } : Jvm.MethodName)) ∈ lw_all := lw_g (lw_at lw_m7 183 rfl) rfl
theorem q1748 : (Jvm.Cond.unhidden "java/util/TreeSet" "iterator" "()Ljava/util/Iterator;") ∈ lw_tbl := lw_at lw_m7 184 rfl
theorem q1749 : (Jvm.Cond.instanceMethod ({ cls := "java/util/TreeSet", name := "iterator", desc := "()Ljava/util/Iterator;" } : Jvm.MethodName)) ∈ lw_all := lw_g (lw_at lw_m7 185 rfl) rfl
theorem q1750 : (Jvm.Cond.publicMethod ({ cls := "java/util/TreeSet", name := "iterator", desc := "()Ljava/util/Iterator;" } : Jvm.MethodName)) ∈ lw_tbl := lw_at lw_m7 186 rfl
theorem q1751 : (Jvm.Cond.code ({ cls := "java/util/TreeSet", name := "iterator", desc := "()Ljava/util/Iterator;" } : Jvm.MethodName) prog_96_method_6_code (1 : Nat) (Option.some (Jvm.ClassFile.FieldType.object "java/util/Iterator"))) ∈ lw_all := lw_g (lw_at lw_m7 187 rfl) rfl
theorem q1752 : (Jvm.Cond.interfaceEntry "java/util/TreeSet" (34 : Nat)) ∈ lw_tbl := lw_at lw_m7 188 rfl
theorem q1753 : (Jvm.Cond.methodLink "java/util/TreeSet" (34 : Nat) ({ cls := "java/util/NavigableMap", name := "navigableKeySet", desc := "()Ljava/util/NavigableSet;" } : Jvm.MethodName)) ∈ lw_all := lw_g (lw_at lw_m7 189 rfl) rfl
theorem q1760 : (Jvm.Cond.interfaceEntry "java/util/TreeSet" (40 : Nat)) ∈ lw_tbl := lw_at lw_m7 196 rfl
theorem q1761 : (Jvm.Cond.methodLink "java/util/TreeSet" (40 : Nat) ({ cls := "java/util/NavigableSet", name := "iterator", desc := "()Ljava/util/Iterator;" } : Jvm.MethodName)) ∈ lw_all := lw_g (lw_at lw_m7 197 rfl) rfl
theorem q1766 : (Jvm.Cond.castable "java/util/TreeSet" "java/util/NavigableSet") ∈ lw_tbl := lw_at lw_m7 202 rfl
theorem q1767 : (Jvm.Cond.selects "java/util/TreeSet" ({ cls := "java/util/NavigableSet", name := "iterator", desc := "()Ljava/util/Iterator;" } : Jvm.MethodName) ({ cls := "java/util/TreeSet", name := "iterator", desc := "()Ljava/util/Iterator;" } : Jvm.MethodName)) ∈ lw_all := lw_g (lw_at lw_m7 203 rfl) rfl
theorem q1934 : (Jvm.Cond.instantiable "java/util/TreeSet" (1 : Nat)) ∈ lw_all := lw_g (lw_at lw_m8 130 rfl) rfl
theorem q1936 : (Jvm.Cond.instanceMethod ({ cls := "java/util/TreeSet", name := "<init>", desc := "()V" } : Jvm.MethodName)) ∈ lw_all := lw_g (lw_at lw_m8 132 rfl) rfl
theorem q1937 : (Jvm.Cond.code ({ cls := "java/util/TreeSet", name := "<init>", desc := "()V" } : Jvm.MethodName) prog_96_method_2_code (1 : Nat) (Option.none : Option Jvm.ClassFile.FieldType)) ∈ lw_all := lw_g (lw_at lw_m8 133 rfl) rfl
theorem q1938 : (Jvm.Cond.classLink "java/util/TreeSet" (13 : Nat) "java/util/TreeMap") ∈ lw_all := lw_g (lw_at lw_m8 134 rfl) rfl
theorem q1939 : (Jvm.Cond.methodLink "java/util/TreeSet" (15 : Nat) ({ cls := "java/util/TreeMap", name := "<init>", desc := "()V" } : Jvm.MethodName)) ∈ lw_all := lw_g (lw_at lw_m8 135 rfl) rfl
theorem q1940 : (Jvm.Cond.methodLink "java/util/TreeSet" (16 : Nat) ({ cls := "java/util/TreeSet", name := "<init>", desc := "(Ljava/util/NavigableMap;)V" } : Jvm.MethodName)) ∈ lw_all := lw_g (lw_at lw_m8 136 rfl) rfl
theorem q1941 : (Jvm.Cond.instanceMethod ({ cls := "java/util/TreeSet", name := "<init>", desc := "(Ljava/util/NavigableMap;)V" } : Jvm.MethodName)) ∈ lw_all := lw_g (lw_at lw_m8 137 rfl) rfl
theorem q1942 : (Jvm.Cond.code ({ cls := "java/util/TreeSet", name := "<init>", desc := "(Ljava/util/NavigableMap;)V" } : Jvm.MethodName) prog_96_method_1_code (2 : Nat) (Option.none : Option Jvm.ClassFile.FieldType)) ∈ lw_all := lw_g (lw_at lw_m8 138 rfl) rfl
theorem q1943 : (Jvm.Cond.methodLink "java/util/TreeSet" (1 : Nat) ({ cls := "java/util/AbstractSet", name := "<init>", desc := "()V" } : Jvm.MethodName)) ∈ lw_all := lw_g (lw_at lw_m8 139 rfl) rfl
theorem q1944 : (Jvm.Cond.fieldLink "java/util/TreeSet" (7 : Nat) "java/util/TreeSet" "m" "Ljava/util/NavigableMap;") ∈ lw_all := lw_g (lw_at lw_m8 140 rfl) rfl
theorem q1945 : (Jvm.Cond.lays "java/util/TreeSet" "java/util/TreeSet" "m" "Ljava/util/NavigableMap;") ∈ lw_all := lw_g (lw_at lw_m8 141 rfl) rfl
theorem q1946 : (Jvm.Cond.soleField "java/util/TreeSet" "m") ∈ lw_all := lw_g (lw_at lw_m8 142 rfl) rfl
theorem q1947 : (Jvm.Cond.superclass "java/util/TreeSet" "java/util/AbstractSet") ∈ lw_all := lw_g (lw_at lw_m8 143 rfl) rfl
theorem q1975 : (Jvm.Cond.instanceMethod ({ cls := "java/util/TreeSet", name := "add", desc := "(Ljava/lang/Object;)Z" } : Jvm.MethodName)) ∈ lw_all := lw_g (lw_at lw_m8 171 rfl) rfl
theorem q1976 : (Jvm.Cond.selects "java/util/TreeSet" ({ cls := "java/util/TreeSet", name := "add", desc := "(Ljava/lang/Object;)Z" } : Jvm.MethodName) ({ cls := "java/util/TreeSet", name := "add", desc := "(Ljava/lang/Object;)Z" } : Jvm.MethodName)) ∈ lw_all := lw_g (lw_at lw_m8 172 rfl) rfl
theorem q1977 : (Jvm.Cond.code ({ cls := "java/util/TreeSet", name := "add", desc := "(Ljava/lang/Object;)Z" } : Jvm.MethodName) prog_96_method_12_code (2 : Nat) (Option.some Jvm.ClassFile.FieldType.boolean)) ∈ lw_all := lw_g (lw_at lw_m8 173 rfl) rfl
theorem q1978 : (Jvm.Cond.fieldLink "java/util/TreeSet" (65 : Nat) "java/util/TreeSet" "PRESENT" "Ljava/lang/Object;") ∈ lw_all := lw_g (lw_at lw_m8 174 rfl) rfl
theorem q1979 : (Jvm.Cond.laysStatic "java/util/TreeSet" "PRESENT" "Ljava/lang/Object;") ∈ lw_tbl := lw_at lw_m8 175 rfl
theorem q1980 : (Jvm.Cond.interfaceEntry "java/util/TreeSet" (69 : Nat)) ∈ lw_tbl := lw_at lw_m8 176 rfl
theorem q2095 : (Jvm.Cond.instanceMethod ({ cls := "java/util/TreeSet", name := "size", desc := "()I" } : Jvm.MethodName)) ∈ lw_all := lw_g (lw_at lw_m9 51 rfl) rfl
theorem q2096 : (Jvm.Cond.code ({ cls := "java/util/TreeSet", name := "size", desc := "()I" } : Jvm.MethodName) prog_96_method_9_code (1 : Nat) (Option.some Jvm.ClassFile.FieldType.int)) ∈ lw_all := lw_g (lw_at lw_m9 52 rfl) rfl
theorem q2097 : (Jvm.Cond.interfaceEntry "java/util/TreeSet" (53 : Nat)) ∈ lw_tbl := lw_at lw_m9 53 rfl
theorem q4011 : (Jvm.Cond.selects "java/util/TreeSet" ({ cls := "java/util/TreeSet", name := "iterator", desc := "()Ljava/util/Iterator;" } : Jvm.MethodName) ({ cls := "java/util/TreeSet", name := "iterator", desc := "()Ljava/util/Iterator;" } : Jvm.MethodName)) ∈ lw_all := lw_g (lw_at lw_m17 47 rfl) rfl
theorem q4018 : (Jvm.Cond.selects "java/util/TreeSet" ({ cls := "java/util/AbstractCollection", name := "size", desc := "()I" } : Jvm.MethodName) ({ cls := "java/util/TreeSet", name := "size", desc := "()I" } : Jvm.MethodName)) ∈ lw_all := lw_g (lw_at lw_m17 54 rfl) rfl
theorem q4057 : (Jvm.Cond.castable "java/util/TreeSet" "java/lang/Object") ∈ lw_tbl := lw_at lw_m17 93 rfl
theorem in_J41 : ∀ w ∈ wsJ410, w ∈ lw_all := lw_in wsJ410 [1945] (by decide +kernel) (by decide +kernel)

/-! java/util/AbstractQueue -/
set_option maxRecDepth 100000
def RJ42 : String := "java/util/AbstractQueue"
abbrev cJ42_init : ByteArray := prog_57_method_1_code
def yJ42_init : MethodName := ⟨RJ42, "<init>", "()V"⟩
theorem dJ42_init_0 : decode cJ42_init 0 = .ok (.aload_n 0, 1) := by decide +kernel
theorem dJ42_init_1 : decode cJ42_init 1 = .ok (.invokespecial 1, 3) := by decide +kernel
theorem dJ42_init_4 : decode cJ42_init 4 = .ok (.return_, 1) := by decide +kernel
theorem q183 : (Jvm.Cond.initialized "java/util/AbstractQueue") ∈ lw_all := lw_g (lw_at lw_m1 59 rfl) rfl
theorem q856 : (Jvm.Cond.instanceMethod ({ cls := "java/util/AbstractQueue", name := "<init>", desc := "()V" } : Jvm.MethodName)) ∈ lw_all := lw_g (lw_at lw_m4 12 rfl) rfl
theorem q857 : (Jvm.Cond.code ({ cls := "java/util/AbstractQueue", name := "<init>", desc := "()V" } : Jvm.MethodName) prog_57_method_1_code (1 : Nat) (Option.none : Option Jvm.ClassFile.FieldType)) ∈ lw_all := lw_g (lw_at lw_m4 13 rfl) rfl
theorem q858 : (Jvm.Cond.methodLink "java/util/AbstractQueue" (1 : Nat) ({ cls := "java/util/AbstractCollection", name := "<init>", desc := "()V" } : Jvm.MethodName)) ∈ lw_all := lw_g (lw_at lw_m4 14 rfl) rfl

/-! java/util/PriorityQueue -/
set_option maxRecDepth 100000
def RJ43 : String := "java/util/PriorityQueue"
def TJ43 : u_T := fun k => match k with
  | 0 => ("java/util/PriorityQueue", "queue", "[Ljava/lang/Object;", false)
  | 1 => ("java/util/PriorityQueue", "size", "I", false)
  | 2 => ("java/util/PriorityQueue", "comparator", "Ljava/util/Comparator;", true)
  | _ => ("java/util/PriorityQueue", "modCount", "I", false)
def tyJ43 : Nat → FieldType := fun k => match k with
  | 0 => .array (.object "java/lang/Object")
  | 1 => .int
  | 2 => .object "java/util/Comparator"
  | _ => .int
abbrev wsJ430 : List Cond := u_ws RJ43 TJ43 4
theorem nmJ43 : ∀ a, a < 4 → ∀ b, b < 4 → a ≠ b → (TJ43 a).2.1 ≠ (TJ43 b).2.1 := by decide +kernel
theorem tyJ43_ok : ∀ k, k < 4 → parseFieldDescriptor (TJ43 k).2.2.1 = some (tyJ43 k) := by decide +kernel
abbrev cJ43_init : ByteArray := prog_81_method_3_code
def yJ43_init : MethodName := ⟨RJ43, "<init>", "(Ljava/util/Comparator;)V"⟩
def dkwJ43_init_0 : List UInt8 := [42, 16, 11, 43, 183, 0, 3, 177]
abbrev dktJ43_init_0 : List UInt8 := dkwJ43_init_0 ++ []
theorem dksJ43_init_0 : cJ43_init.data.toList.drop 0 = dktJ43_init_0 := by decide +kernel
theorem dJ43_init_0 : decode cJ43_init 0 = .ok (.aload_n 0, 1) := dk_42 (dk_at dksJ43_init_0 0 rfl rfl)
theorem dJ43_init_1 : decode cJ43_init 1 = .ok (.bipush 11, 2) := dk_16 11 (dk_at dksJ43_init_0 1 rfl rfl)
theorem dJ43_init_3 : decode cJ43_init 3 = .ok (.aload_n 1, 1) := dk_43 (dk_at dksJ43_init_0 3 rfl rfl)
theorem dJ43_init_4 : decode cJ43_init 4 = .ok (.invokespecial 3, 3) := dk_183 0 3 (dk_at dksJ43_init_0 4 rfl rfl)
theorem dJ43_init_7 : decode cJ43_init 7 = .ok (.return_, 1) := dk_177 (dk_at dksJ43_init_0 7 rfl rfl)
abbrev cJ43_init_2 : ByteArray := prog_81_method_4_code
def yJ43_init_2 : MethodName := ⟨RJ43, "<init>", "(ILjava/util/Comparator;)V"⟩
def dkwJ43_init_2_1 : List UInt8 := [181, 0, 17, 42, 44, 181, 0, 21, 177]
abbrev dktJ43_init_2_1 : List UInt8 := dkwJ43_init_2_1 ++ []
def dkwJ43_init_2_0 : List UInt8 := [42, 183, 0, 7, 27, 4, 162, 0, 11, 187, 0, 12, 89, 183, 0, 14, 191, 42, 27, 189, 0, 15]
abbrev dktJ43_init_2_0 : List UInt8 := dkwJ43_init_2_0 ++ dktJ43_init_2_1
theorem dksJ43_init_2_0 : cJ43_init_2.data.toList.drop 0 = dktJ43_init_2_0 := by decide +kernel
theorem dksJ43_init_2_1 : cJ43_init_2.data.toList.drop 22 = dktJ43_init_2_1 := dk_seg dksJ43_init_2_0 22 rfl rfl
theorem dJ43_init_2_0 : decode cJ43_init_2 0 = .ok (.aload_n 0, 1) := dk_42 (dk_at dksJ43_init_2_0 0 rfl rfl)
theorem dJ43_init_2_1 : decode cJ43_init_2 1 = .ok (.invokespecial 7, 3) := dk_183 0 7 (dk_at dksJ43_init_2_0 1 rfl rfl)
theorem dJ43_init_2_4 : decode cJ43_init_2 4 = .ok (.iload_n 1, 1) := dk_27 (dk_at dksJ43_init_2_0 4 rfl rfl)
theorem dJ43_init_2_5 : decode cJ43_init_2 5 = .ok (.iconst 1, 1) := dk_4 (dk_at dksJ43_init_2_0 5 rfl rfl)
theorem dJ43_init_2_6 : decode cJ43_init_2 6 = .ok (.if_icmp .ge 11, 3) := dk_162 0 11 (dk_at dksJ43_init_2_0 6 rfl rfl)
theorem dJ43_init_2_9 : decode cJ43_init_2 9 = .ok (.new 12, 3) := dk_187 0 12 (dk_at dksJ43_init_2_0 9 rfl rfl)
theorem dJ43_init_2_12 : decode cJ43_init_2 12 = .ok (.dup, 1) := dk_89 (dk_at dksJ43_init_2_0 12 rfl rfl)
theorem dJ43_init_2_13 : decode cJ43_init_2 13 = .ok (.invokespecial 14, 3) := dk_183 0 14 (dk_at dksJ43_init_2_0 13 rfl rfl)
theorem dJ43_init_2_16 : decode cJ43_init_2 16 = .ok (.athrow, 1) := dk_191 (dk_at dksJ43_init_2_0 16 rfl rfl)
theorem dJ43_init_2_17 : decode cJ43_init_2 17 = .ok (.aload_n 0, 1) := dk_42 (dk_at dksJ43_init_2_0 17 rfl rfl)
theorem dJ43_init_2_18 : decode cJ43_init_2 18 = .ok (.iload_n 1, 1) := dk_27 (dk_at dksJ43_init_2_0 18 rfl rfl)
theorem dJ43_init_2_19 : decode cJ43_init_2 19 = .ok (.anewarray 15, 3) := dk_189 0 15 (dk_at dksJ43_init_2_0 19 rfl rfl)
theorem dJ43_init_2_22 : decode cJ43_init_2 22 = .ok (.putfield 17, 3) := dk_181 0 17 (dk_at dksJ43_init_2_1 0 rfl rfl)
theorem dJ43_init_2_25 : decode cJ43_init_2 25 = .ok (.aload_n 0, 1) := dk_42 (dk_at dksJ43_init_2_1 3 rfl rfl)
theorem dJ43_init_2_26 : decode cJ43_init_2 26 = .ok (.aload_n 2, 1) := dk_44 (dk_at dksJ43_init_2_1 4 rfl rfl)
theorem dJ43_init_2_27 : decode cJ43_init_2 27 = .ok (.putfield 21, 3) := dk_181 0 21 (dk_at dksJ43_init_2_1 5 rfl rfl)
theorem dJ43_init_2_30 : decode cJ43_init_2 30 = .ok (.return_, 1) := dk_177 (dk_at dksJ43_init_2_1 8 rfl rfl)
abbrev cJ43_add : ByteArray := prog_81_method_13_code
def yJ43_add : MethodName := ⟨RJ43, "add", "(Ljava/lang/Object;)Z"⟩
def dkwJ43_add_0 : List UInt8 := [42, 43, 182, 0, 89, 172]
abbrev dktJ43_add_0 : List UInt8 := dkwJ43_add_0 ++ []
theorem dksJ43_add_0 : cJ43_add.data.toList.drop 0 = dktJ43_add_0 := by decide +kernel
theorem dJ43_add_0 : decode cJ43_add 0 = .ok (.aload_n 0, 1) := dk_42 (dk_at dksJ43_add_0 0 rfl rfl)
theorem dJ43_add_1 : decode cJ43_add 1 = .ok (.aload_n 1, 1) := dk_43 (dk_at dksJ43_add_0 1 rfl rfl)
theorem dJ43_add_2 : decode cJ43_add 2 = .ok (.invokevirtual 89, 3) := dk_182 0 89 (dk_at dksJ43_add_0 2 rfl rfl)
theorem dJ43_add_5 : decode cJ43_add 5 = .ok (.ireturn, 1) := dk_172 (dk_at dksJ43_add_0 5 rfl rfl)
abbrev cJ43_offer : ByteArray := prog_81_method_14_code
def yJ43_offer : MethodName := ⟨RJ43, "offer", "(Ljava/lang/Object;)Z"⟩
def dkwJ43_offer_2 : List UInt8 := [182, 0, 100, 42, 28, 4, 96, 181, 0, 58, 4, 172]
abbrev dktJ43_offer_2 : List UInt8 := dkwJ43_offer_2 ++ []
def dkwJ43_offer_1 : List UInt8 := [180, 0, 58, 61, 28, 42, 180, 0, 17, 190, 161, 0, 10, 42, 28, 4, 96, 182, 0, 96, 42, 28, 43]
abbrev dktJ43_offer_1 : List UInt8 := dkwJ43_offer_1 ++ dktJ43_offer_2
def dkwJ43_offer_0 : List UInt8 := [43, 199, 0, 11, 187, 0, 74, 89, 183, 0, 76, 191, 42, 89, 180, 0, 93, 4, 96, 181, 0, 93, 42]
abbrev dktJ43_offer_0 : List UInt8 := dkwJ43_offer_0 ++ dktJ43_offer_1
theorem dksJ43_offer_0 : cJ43_offer.data.toList.drop 0 = dktJ43_offer_0 := by decide +kernel
theorem dksJ43_offer_1 : cJ43_offer.data.toList.drop 23 = dktJ43_offer_1 := dk_seg dksJ43_offer_0 23 rfl rfl
theorem dksJ43_offer_2 : cJ43_offer.data.toList.drop 46 = dktJ43_offer_2 := dk_seg dksJ43_offer_1 23 rfl rfl
theorem dJ43_offer_0 : decode cJ43_offer 0 = .ok (.aload_n 1, 1) := dk_43 (dk_at dksJ43_offer_0 0 rfl rfl)
theorem dJ43_offer_1 : decode cJ43_offer 1 = .ok (.ifnonnull 11, 3) := dk_199 0 11 (dk_at dksJ43_offer_0 1 rfl rfl)
theorem dJ43_offer_4 : decode cJ43_offer 4 = .ok (.new 74, 3) := dk_187 0 74 (dk_at dksJ43_offer_0 4 rfl rfl)
theorem dJ43_offer_7 : decode cJ43_offer 7 = .ok (.dup, 1) := dk_89 (dk_at dksJ43_offer_0 7 rfl rfl)
theorem dJ43_offer_8 : decode cJ43_offer 8 = .ok (.invokespecial 76, 3) := dk_183 0 76 (dk_at dksJ43_offer_0 8 rfl rfl)
theorem dJ43_offer_11 : decode cJ43_offer 11 = .ok (.athrow, 1) := dk_191 (dk_at dksJ43_offer_0 11 rfl rfl)
theorem dJ43_offer_12 : decode cJ43_offer 12 = .ok (.aload_n 0, 1) := dk_42 (dk_at dksJ43_offer_0 12 rfl rfl)
theorem dJ43_offer_13 : decode cJ43_offer 13 = .ok (.dup, 1) := dk_89 (dk_at dksJ43_offer_0 13 rfl rfl)
theorem dJ43_offer_14 : decode cJ43_offer 14 = .ok (.getfield 93, 3) := dk_180 0 93 (dk_at dksJ43_offer_0 14 rfl rfl)
theorem dJ43_offer_17 : decode cJ43_offer 17 = .ok (.iconst 1, 1) := dk_4 (dk_at dksJ43_offer_0 17 rfl rfl)
theorem dJ43_offer_18 : decode cJ43_offer 18 = .ok (.iadd, 1) := dk_96 (dk_at dksJ43_offer_0 18 rfl rfl)
theorem dJ43_offer_19 : decode cJ43_offer 19 = .ok (.putfield 93, 3) := dk_181 0 93 (dk_at dksJ43_offer_0 19 rfl rfl)
theorem dJ43_offer_22 : decode cJ43_offer 22 = .ok (.aload_n 0, 1) := dk_42 (dk_at dksJ43_offer_0 22 rfl rfl)
theorem dJ43_offer_23 : decode cJ43_offer 23 = .ok (.getfield 58, 3) := dk_180 0 58 (dk_at dksJ43_offer_1 0 rfl rfl)
theorem dJ43_offer_26 : decode cJ43_offer 26 = .ok (.istore_n 2, 1) := dk_61 (dk_at dksJ43_offer_1 3 rfl rfl)
theorem dJ43_offer_27 : decode cJ43_offer 27 = .ok (.iload_n 2, 1) := dk_28 (dk_at dksJ43_offer_1 4 rfl rfl)
theorem dJ43_offer_28 : decode cJ43_offer 28 = .ok (.aload_n 0, 1) := dk_42 (dk_at dksJ43_offer_1 5 rfl rfl)
theorem dJ43_offer_29 : decode cJ43_offer 29 = .ok (.getfield 17, 3) := dk_180 0 17 (dk_at dksJ43_offer_1 6 rfl rfl)
theorem dJ43_offer_32 : decode cJ43_offer 32 = .ok (.arraylength, 1) := dk_190 (dk_at dksJ43_offer_1 9 rfl rfl)
theorem dJ43_offer_33 : decode cJ43_offer 33 = .ok (.if_icmp .lt 10, 3) := dk_161 0 10 (dk_at dksJ43_offer_1 10 rfl rfl)
theorem dJ43_offer_36 : decode cJ43_offer 36 = .ok (.aload_n 0, 1) := dk_42 (dk_at dksJ43_offer_1 13 rfl rfl)
theorem dJ43_offer_37 : decode cJ43_offer 37 = .ok (.iload_n 2, 1) := dk_28 (dk_at dksJ43_offer_1 14 rfl rfl)
theorem dJ43_offer_38 : decode cJ43_offer 38 = .ok (.iconst 1, 1) := dk_4 (dk_at dksJ43_offer_1 15 rfl rfl)
theorem dJ43_offer_39 : decode cJ43_offer 39 = .ok (.iadd, 1) := dk_96 (dk_at dksJ43_offer_1 16 rfl rfl)
theorem dJ43_offer_40 : decode cJ43_offer 40 = .ok (.invokevirtual 96, 3) := dk_182 0 96 (dk_at dksJ43_offer_1 17 rfl rfl)
theorem dJ43_offer_43 : decode cJ43_offer 43 = .ok (.aload_n 0, 1) := dk_42 (dk_at dksJ43_offer_1 20 rfl rfl)
theorem dJ43_offer_44 : decode cJ43_offer 44 = .ok (.iload_n 2, 1) := dk_28 (dk_at dksJ43_offer_1 21 rfl rfl)
theorem dJ43_offer_45 : decode cJ43_offer 45 = .ok (.aload_n 1, 1) := dk_43 (dk_at dksJ43_offer_1 22 rfl rfl)
theorem dJ43_offer_46 : decode cJ43_offer 46 = .ok (.invokevirtual 100, 3) := dk_182 0 100 (dk_at dksJ43_offer_2 0 rfl rfl)
theorem dJ43_offer_49 : decode cJ43_offer 49 = .ok (.aload_n 0, 1) := dk_42 (dk_at dksJ43_offer_2 3 rfl rfl)
theorem dJ43_offer_50 : decode cJ43_offer 50 = .ok (.iload_n 2, 1) := dk_28 (dk_at dksJ43_offer_2 4 rfl rfl)
theorem dJ43_offer_51 : decode cJ43_offer 51 = .ok (.iconst 1, 1) := dk_4 (dk_at dksJ43_offer_2 5 rfl rfl)
theorem dJ43_offer_52 : decode cJ43_offer 52 = .ok (.iadd, 1) := dk_96 (dk_at dksJ43_offer_2 6 rfl rfl)
theorem dJ43_offer_53 : decode cJ43_offer 53 = .ok (.putfield 58, 3) := dk_181 0 58 (dk_at dksJ43_offer_2 7 rfl rfl)
theorem dJ43_offer_56 : decode cJ43_offer 56 = .ok (.iconst 1, 1) := dk_4 (dk_at dksJ43_offer_2 10 rfl rfl)
theorem dJ43_offer_57 : decode cJ43_offer 57 = .ok (.ireturn, 1) := dk_172 (dk_at dksJ43_offer_2 11 rfl rfl)
abbrev cJ43_grow : ByteArray := prog_81_method_12_code
def yJ43_grow : MethodName := ⟨RJ43, "grow", "(I)V"⟩
def dkwJ43_grow_1 : List UInt8 := [122, 184, 0, 80, 62, 42, 42, 180, 0, 17, 29, 184, 0, 86, 181, 0, 17, 177]
abbrev dktJ43_grow_1 : List UInt8 := dkwJ43_grow_1 ++ []
def dkwJ43_grow_0 : List UInt8 := [42, 180, 0, 17, 190, 61, 28, 27, 28, 100, 28, 16, 64, 162, 0, 9, 28, 5, 96, 167, 0, 6, 28, 4]
abbrev dktJ43_grow_0 : List UInt8 := dkwJ43_grow_0 ++ dktJ43_grow_1
theorem dksJ43_grow_0 : cJ43_grow.data.toList.drop 0 = dktJ43_grow_0 := by decide +kernel
theorem dksJ43_grow_1 : cJ43_grow.data.toList.drop 24 = dktJ43_grow_1 := dk_seg dksJ43_grow_0 24 rfl rfl
theorem dJ43_grow_0 : decode cJ43_grow 0 = .ok (.aload_n 0, 1) := dk_42 (dk_at dksJ43_grow_0 0 rfl rfl)
theorem dJ43_grow_1 : decode cJ43_grow 1 = .ok (.getfield 17, 3) := dk_180 0 17 (dk_at dksJ43_grow_0 1 rfl rfl)
theorem dJ43_grow_4 : decode cJ43_grow 4 = .ok (.arraylength, 1) := dk_190 (dk_at dksJ43_grow_0 4 rfl rfl)
theorem dJ43_grow_5 : decode cJ43_grow 5 = .ok (.istore_n 2, 1) := dk_61 (dk_at dksJ43_grow_0 5 rfl rfl)
theorem dJ43_grow_6 : decode cJ43_grow 6 = .ok (.iload_n 2, 1) := dk_28 (dk_at dksJ43_grow_0 6 rfl rfl)
theorem dJ43_grow_7 : decode cJ43_grow 7 = .ok (.iload_n 1, 1) := dk_27 (dk_at dksJ43_grow_0 7 rfl rfl)
theorem dJ43_grow_8 : decode cJ43_grow 8 = .ok (.iload_n 2, 1) := dk_28 (dk_at dksJ43_grow_0 8 rfl rfl)
theorem dJ43_grow_9 : decode cJ43_grow 9 = .ok (.isub, 1) := dk_100 (dk_at dksJ43_grow_0 9 rfl rfl)
theorem dJ43_grow_10 : decode cJ43_grow 10 = .ok (.iload_n 2, 1) := dk_28 (dk_at dksJ43_grow_0 10 rfl rfl)
theorem dJ43_grow_11 : decode cJ43_grow 11 = .ok (.bipush 64, 2) := dk_16 64 (dk_at dksJ43_grow_0 11 rfl rfl)
theorem dJ43_grow_13 : decode cJ43_grow 13 = .ok (.if_icmp .ge 9, 3) := dk_162 0 9 (dk_at dksJ43_grow_0 13 rfl rfl)
theorem dJ43_grow_16 : decode cJ43_grow 16 = .ok (.iload_n 2, 1) := dk_28 (dk_at dksJ43_grow_0 16 rfl rfl)
theorem dJ43_grow_17 : decode cJ43_grow 17 = .ok (.iconst 2, 1) := dk_5 (dk_at dksJ43_grow_0 17 rfl rfl)
theorem dJ43_grow_18 : decode cJ43_grow 18 = .ok (.iadd, 1) := dk_96 (dk_at dksJ43_grow_0 18 rfl rfl)
theorem dJ43_grow_19 : decode cJ43_grow 19 = .ok (.goto 6, 3) := dk_167 0 6 (dk_at dksJ43_grow_0 19 rfl rfl)
theorem dJ43_grow_22 : decode cJ43_grow 22 = .ok (.iload_n 2, 1) := dk_28 (dk_at dksJ43_grow_0 22 rfl rfl)
theorem dJ43_grow_23 : decode cJ43_grow 23 = .ok (.iconst 1, 1) := dk_4 (dk_at dksJ43_grow_0 23 rfl rfl)
theorem dJ43_grow_24 : decode cJ43_grow 24 = .ok (.ishr, 1) := dk_122 (dk_at dksJ43_grow_1 0 rfl rfl)
theorem dJ43_grow_25 : decode cJ43_grow 25 = .ok (.invokestatic 80, 3) := dk_184 0 80 (dk_at dksJ43_grow_1 1 rfl rfl)
theorem dJ43_grow_28 : decode cJ43_grow 28 = .ok (.istore_n 3, 1) := dk_62 (dk_at dksJ43_grow_1 4 rfl rfl)
theorem dJ43_grow_29 : decode cJ43_grow 29 = .ok (.aload_n 0, 1) := dk_42 (dk_at dksJ43_grow_1 5 rfl rfl)
theorem dJ43_grow_30 : decode cJ43_grow 30 = .ok (.aload_n 0, 1) := dk_42 (dk_at dksJ43_grow_1 6 rfl rfl)
theorem dJ43_grow_31 : decode cJ43_grow 31 = .ok (.getfield 17, 3) := dk_180 0 17 (dk_at dksJ43_grow_1 7 rfl rfl)
theorem dJ43_grow_34 : decode cJ43_grow 34 = .ok (.iload_n 3, 1) := dk_29 (dk_at dksJ43_grow_1 10 rfl rfl)
theorem dJ43_grow_35 : decode cJ43_grow 35 = .ok (.invokestatic 86, 3) := dk_184 0 86 (dk_at dksJ43_grow_1 11 rfl rfl)
theorem dJ43_grow_38 : decode cJ43_grow 38 = .ok (.putfield 17, 3) := dk_181 0 17 (dk_at dksJ43_grow_1 14 rfl rfl)
theorem dJ43_grow_41 : decode cJ43_grow 41 = .ok (.return_, 1) := dk_177 (dk_at dksJ43_grow_1 17 rfl rfl)
abbrev cJ43_siftUp : ByteArray := prog_81_method_27_code
def yJ43_siftUp : MethodName := ⟨RJ43, "siftUp", "(ILjava/lang/Object;)V"⟩
def dkwJ43_siftUp_1 : List UInt8 := [44, 42, 180, 0, 17, 184, 0, 140, 177]
abbrev dktJ43_siftUp_1 : List UInt8 := dkwJ43_siftUp_1 ++ []
def dkwJ43_siftUp_0 : List UInt8 := [42, 180, 0, 21, 198, 0, 19, 27, 44, 42, 180, 0, 17, 42, 180, 0, 21, 184, 0, 136, 167, 0, 12, 27]
abbrev dktJ43_siftUp_0 : List UInt8 := dkwJ43_siftUp_0 ++ dktJ43_siftUp_1
theorem dksJ43_siftUp_0 : cJ43_siftUp.data.toList.drop 0 = dktJ43_siftUp_0 := by decide +kernel
theorem dksJ43_siftUp_1 : cJ43_siftUp.data.toList.drop 24 = dktJ43_siftUp_1 := dk_seg dksJ43_siftUp_0 24 rfl rfl
theorem dJ43_siftUp_0 : decode cJ43_siftUp 0 = .ok (.aload_n 0, 1) := dk_42 (dk_at dksJ43_siftUp_0 0 rfl rfl)
theorem dJ43_siftUp_1 : decode cJ43_siftUp 1 = .ok (.getfield 21, 3) := dk_180 0 21 (dk_at dksJ43_siftUp_0 1 rfl rfl)
theorem dJ43_siftUp_4 : decode cJ43_siftUp 4 = .ok (.ifnull 19, 3) := dk_198 0 19 (dk_at dksJ43_siftUp_0 4 rfl rfl)
theorem dJ43_siftUp_7 : decode cJ43_siftUp 7 = .ok (.iload_n 1, 1) := dk_27 (dk_at dksJ43_siftUp_0 7 rfl rfl)
theorem dJ43_siftUp_8 : decode cJ43_siftUp 8 = .ok (.aload_n 2, 1) := dk_44 (dk_at dksJ43_siftUp_0 8 rfl rfl)
theorem dJ43_siftUp_9 : decode cJ43_siftUp 9 = .ok (.aload_n 0, 1) := dk_42 (dk_at dksJ43_siftUp_0 9 rfl rfl)
theorem dJ43_siftUp_10 : decode cJ43_siftUp 10 = .ok (.getfield 17, 3) := dk_180 0 17 (dk_at dksJ43_siftUp_0 10 rfl rfl)
theorem dJ43_siftUp_13 : decode cJ43_siftUp 13 = .ok (.aload_n 0, 1) := dk_42 (dk_at dksJ43_siftUp_0 13 rfl rfl)
theorem dJ43_siftUp_14 : decode cJ43_siftUp 14 = .ok (.getfield 21, 3) := dk_180 0 21 (dk_at dksJ43_siftUp_0 14 rfl rfl)
theorem dJ43_siftUp_17 : decode cJ43_siftUp 17 = .ok (.invokestatic 136, 3) := dk_184 0 136 (dk_at dksJ43_siftUp_0 17 rfl rfl)
theorem dJ43_siftUp_20 : decode cJ43_siftUp 20 = .ok (.goto 12, 3) := dk_167 0 12 (dk_at dksJ43_siftUp_0 20 rfl rfl)
theorem dJ43_siftUp_23 : decode cJ43_siftUp 23 = .ok (.iload_n 1, 1) := dk_27 (dk_at dksJ43_siftUp_0 23 rfl rfl)
theorem dJ43_siftUp_24 : decode cJ43_siftUp 24 = .ok (.aload_n 2, 1) := dk_44 (dk_at dksJ43_siftUp_1 0 rfl rfl)
theorem dJ43_siftUp_25 : decode cJ43_siftUp 25 = .ok (.aload_n 0, 1) := dk_42 (dk_at dksJ43_siftUp_1 1 rfl rfl)
theorem dJ43_siftUp_26 : decode cJ43_siftUp 26 = .ok (.getfield 17, 3) := dk_180 0 17 (dk_at dksJ43_siftUp_1 2 rfl rfl)
theorem dJ43_siftUp_29 : decode cJ43_siftUp 29 = .ok (.invokestatic 140, 3) := dk_184 0 140 (dk_at dksJ43_siftUp_1 5 rfl rfl)
theorem dJ43_siftUp_32 : decode cJ43_siftUp 32 = .ok (.return_, 1) := dk_177 (dk_at dksJ43_siftUp_1 8 rfl rfl)
abbrev cJ43_siftUpUsingComparator : ByteArray := prog_81_method_29_code
def yJ43_siftUpUsingComparator : MethodName := ⟨RJ43, "siftUpUsingComparator", "(ILjava/lang/Object;[Ljava/lang/Object;Ljava/util/Comparator;)V"⟩
def dkwJ43_siftUpUsingComparator_2 : List UInt8 := [43, 83, 177]
abbrev dktJ43_siftUpUsingComparator_2 : List UInt8 := dkwJ43_siftUpUsingComparator_2 ++ []
def dkwJ43_siftUpUsingComparator_1 : List UInt8 := [185, 0, 149, 3, 0, 155, 0, 6, 167, 0, 14, 44, 26, 25, 5, 83, 21, 4, 59, 167, 255, 216, 44, 26]
abbrev dktJ43_siftUpUsingComparator_1 : List UInt8 := dkwJ43_siftUpUsingComparator_1 ++ dktJ43_siftUpUsingComparator_2
def dkwJ43_siftUpUsingComparator_0 : List UInt8 := [26, 158, 0, 42, 26, 4, 100, 4, 124, 54, 4, 44, 21, 4, 50, 58, 5, 45, 43, 25, 5]
abbrev dktJ43_siftUpUsingComparator_0 : List UInt8 := dkwJ43_siftUpUsingComparator_0 ++ dktJ43_siftUpUsingComparator_1
theorem dksJ43_siftUpUsingComparator_0 : cJ43_siftUpUsingComparator.data.toList.drop 0 = dktJ43_siftUpUsingComparator_0 := by decide +kernel
theorem dksJ43_siftUpUsingComparator_1 : cJ43_siftUpUsingComparator.data.toList.drop 21 = dktJ43_siftUpUsingComparator_1 := dk_seg dksJ43_siftUpUsingComparator_0 21 rfl rfl
theorem dksJ43_siftUpUsingComparator_2 : cJ43_siftUpUsingComparator.data.toList.drop 45 = dktJ43_siftUpUsingComparator_2 := dk_seg dksJ43_siftUpUsingComparator_1 24 rfl rfl
theorem dJ43_siftUpUsingComparator_0 : decode cJ43_siftUpUsingComparator 0 = .ok (.iload_n 0, 1) := dk_26 (dk_at dksJ43_siftUpUsingComparator_0 0 rfl rfl)
theorem dJ43_siftUpUsingComparator_1 : decode cJ43_siftUpUsingComparator 1 = .ok (.ifCond .le 42, 3) := dk_158 0 42 (dk_at dksJ43_siftUpUsingComparator_0 1 rfl rfl)
theorem dJ43_siftUpUsingComparator_4 : decode cJ43_siftUpUsingComparator 4 = .ok (.iload_n 0, 1) := dk_26 (dk_at dksJ43_siftUpUsingComparator_0 4 rfl rfl)
theorem dJ43_siftUpUsingComparator_5 : decode cJ43_siftUpUsingComparator 5 = .ok (.iconst 1, 1) := dk_4 (dk_at dksJ43_siftUpUsingComparator_0 5 rfl rfl)
theorem dJ43_siftUpUsingComparator_6 : decode cJ43_siftUpUsingComparator 6 = .ok (.isub, 1) := dk_100 (dk_at dksJ43_siftUpUsingComparator_0 6 rfl rfl)
theorem dJ43_siftUpUsingComparator_7 : decode cJ43_siftUpUsingComparator 7 = .ok (.iconst 1, 1) := dk_4 (dk_at dksJ43_siftUpUsingComparator_0 7 rfl rfl)
theorem dJ43_siftUpUsingComparator_8 : decode cJ43_siftUpUsingComparator 8 = .ok (.iushr, 1) := dk_124 (dk_at dksJ43_siftUpUsingComparator_0 8 rfl rfl)
theorem dJ43_siftUpUsingComparator_9 : decode cJ43_siftUpUsingComparator 9 = .ok (.istore 4, 2) := dk_54 4 (dk_at dksJ43_siftUpUsingComparator_0 9 rfl rfl)
theorem dJ43_siftUpUsingComparator_11 : decode cJ43_siftUpUsingComparator 11 = .ok (.aload_n 2, 1) := dk_44 (dk_at dksJ43_siftUpUsingComparator_0 11 rfl rfl)
theorem dJ43_siftUpUsingComparator_12 : decode cJ43_siftUpUsingComparator 12 = .ok (.iload 4, 2) := dk_21 4 (dk_at dksJ43_siftUpUsingComparator_0 12 rfl rfl)
theorem dJ43_siftUpUsingComparator_14 : decode cJ43_siftUpUsingComparator 14 = .ok (.aaload, 1) := dk_50 (dk_at dksJ43_siftUpUsingComparator_0 14 rfl rfl)
theorem dJ43_siftUpUsingComparator_15 : decode cJ43_siftUpUsingComparator 15 = .ok (.astore 5, 2) := dk_58 5 (dk_at dksJ43_siftUpUsingComparator_0 15 rfl rfl)
theorem dJ43_siftUpUsingComparator_17 : decode cJ43_siftUpUsingComparator 17 = .ok (.aload_n 3, 1) := dk_45 (dk_at dksJ43_siftUpUsingComparator_0 17 rfl rfl)
theorem dJ43_siftUpUsingComparator_18 : decode cJ43_siftUpUsingComparator 18 = .ok (.aload_n 1, 1) := dk_43 (dk_at dksJ43_siftUpUsingComparator_0 18 rfl rfl)
theorem dJ43_siftUpUsingComparator_19 : decode cJ43_siftUpUsingComparator 19 = .ok (.aload 5, 2) := dk_25 5 (dk_at dksJ43_siftUpUsingComparator_0 19 rfl rfl)
theorem dJ43_siftUpUsingComparator_21 : decode cJ43_siftUpUsingComparator 21 = .ok (.invokeinterface 149 3, 5) := by decide +kernel
theorem dJ43_siftUpUsingComparator_26 : decode cJ43_siftUpUsingComparator 26 = .ok (.ifCond .lt 6, 3) := dk_155 0 6 (dk_at dksJ43_siftUpUsingComparator_1 5 rfl rfl)
theorem dJ43_siftUpUsingComparator_29 : decode cJ43_siftUpUsingComparator 29 = .ok (.goto 14, 3) := dk_167 0 14 (dk_at dksJ43_siftUpUsingComparator_1 8 rfl rfl)
theorem dJ43_siftUpUsingComparator_32 : decode cJ43_siftUpUsingComparator 32 = .ok (.aload_n 2, 1) := dk_44 (dk_at dksJ43_siftUpUsingComparator_1 11 rfl rfl)
theorem dJ43_siftUpUsingComparator_33 : decode cJ43_siftUpUsingComparator 33 = .ok (.iload_n 0, 1) := dk_26 (dk_at dksJ43_siftUpUsingComparator_1 12 rfl rfl)
theorem dJ43_siftUpUsingComparator_34 : decode cJ43_siftUpUsingComparator 34 = .ok (.aload 5, 2) := dk_25 5 (dk_at dksJ43_siftUpUsingComparator_1 13 rfl rfl)
theorem dJ43_siftUpUsingComparator_36 : decode cJ43_siftUpUsingComparator 36 = .ok (.aastore, 1) := dk_83 (dk_at dksJ43_siftUpUsingComparator_1 15 rfl rfl)
theorem dJ43_siftUpUsingComparator_37 : decode cJ43_siftUpUsingComparator 37 = .ok (.iload 4, 2) := dk_21 4 (dk_at dksJ43_siftUpUsingComparator_1 16 rfl rfl)
theorem dJ43_siftUpUsingComparator_39 : decode cJ43_siftUpUsingComparator 39 = .ok (.istore_n 0, 1) := dk_59 (dk_at dksJ43_siftUpUsingComparator_1 18 rfl rfl)
theorem dJ43_siftUpUsingComparator_40 : decode cJ43_siftUpUsingComparator 40 = .ok (.goto (-40), 3) := dk_167 255 216 (dk_at dksJ43_siftUpUsingComparator_1 19 rfl rfl)
theorem dJ43_siftUpUsingComparator_43 : decode cJ43_siftUpUsingComparator 43 = .ok (.aload_n 2, 1) := dk_44 (dk_at dksJ43_siftUpUsingComparator_1 22 rfl rfl)
theorem dJ43_siftUpUsingComparator_44 : decode cJ43_siftUpUsingComparator 44 = .ok (.iload_n 0, 1) := dk_26 (dk_at dksJ43_siftUpUsingComparator_1 23 rfl rfl)
theorem dJ43_siftUpUsingComparator_45 : decode cJ43_siftUpUsingComparator 45 = .ok (.aload_n 1, 1) := dk_43 (dk_at dksJ43_siftUpUsingComparator_2 0 rfl rfl)
theorem dJ43_siftUpUsingComparator_46 : decode cJ43_siftUpUsingComparator 46 = .ok (.aastore, 1) := dk_83 (dk_at dksJ43_siftUpUsingComparator_2 1 rfl rfl)
theorem dJ43_siftUpUsingComparator_47 : decode cJ43_siftUpUsingComparator 47 = .ok (.return_, 1) := dk_177 (dk_at dksJ43_siftUpUsingComparator_2 2 rfl rfl)
abbrev cJ43_siftUpComparable : ByteArray := prog_81_method_28_code
def yJ43_siftUpComparable : MethodName := ⟨RJ43, "siftUpComparable", "(ILjava/lang/Object;[Ljava/lang/Object;)V"⟩
def dkwJ43_siftUpComparable_2 : List UInt8 := [44, 26, 45, 83, 177]
abbrev dktJ43_siftUpComparable_2 : List UInt8 := dkwJ43_siftUpComparable_2 ++ []
def dkwJ43_siftUpComparable_1 : List UInt8 := [25, 5, 185, 0, 146, 2, 0, 155, 0, 6, 167, 0, 14, 44, 26, 25, 5, 83, 21, 4, 59, 167, 255, 217]
abbrev dktJ43_siftUpComparable_1 : List UInt8 := dkwJ43_siftUpComparable_1 ++ dktJ43_siftUpComparable_2
def dkwJ43_siftUpComparable_0 : List UInt8 := [43, 192, 0, 144, 78, 26, 158, 0, 41, 26, 4, 100, 4, 124, 54, 4, 44, 21, 4, 50, 58, 5, 45]
abbrev dktJ43_siftUpComparable_0 : List UInt8 := dkwJ43_siftUpComparable_0 ++ dktJ43_siftUpComparable_1
theorem dksJ43_siftUpComparable_0 : cJ43_siftUpComparable.data.toList.drop 0 = dktJ43_siftUpComparable_0 := by decide +kernel
theorem dksJ43_siftUpComparable_1 : cJ43_siftUpComparable.data.toList.drop 23 = dktJ43_siftUpComparable_1 := dk_seg dksJ43_siftUpComparable_0 23 rfl rfl
theorem dksJ43_siftUpComparable_2 : cJ43_siftUpComparable.data.toList.drop 47 = dktJ43_siftUpComparable_2 := dk_seg dksJ43_siftUpComparable_1 24 rfl rfl
theorem dJ43_siftUpComparable_0 : decode cJ43_siftUpComparable 0 = .ok (.aload_n 1, 1) := dk_43 (dk_at dksJ43_siftUpComparable_0 0 rfl rfl)
theorem dJ43_siftUpComparable_1 : decode cJ43_siftUpComparable 1 = .ok (.checkcast 144, 3) := dk_192 0 144 (dk_at dksJ43_siftUpComparable_0 1 rfl rfl)
theorem dJ43_siftUpComparable_4 : decode cJ43_siftUpComparable 4 = .ok (.astore_n 3, 1) := dk_78 (dk_at dksJ43_siftUpComparable_0 4 rfl rfl)
theorem dJ43_siftUpComparable_5 : decode cJ43_siftUpComparable 5 = .ok (.iload_n 0, 1) := dk_26 (dk_at dksJ43_siftUpComparable_0 5 rfl rfl)
theorem dJ43_siftUpComparable_6 : decode cJ43_siftUpComparable 6 = .ok (.ifCond .le 41, 3) := dk_158 0 41 (dk_at dksJ43_siftUpComparable_0 6 rfl rfl)
theorem dJ43_siftUpComparable_9 : decode cJ43_siftUpComparable 9 = .ok (.iload_n 0, 1) := dk_26 (dk_at dksJ43_siftUpComparable_0 9 rfl rfl)
theorem dJ43_siftUpComparable_10 : decode cJ43_siftUpComparable 10 = .ok (.iconst 1, 1) := dk_4 (dk_at dksJ43_siftUpComparable_0 10 rfl rfl)
theorem dJ43_siftUpComparable_11 : decode cJ43_siftUpComparable 11 = .ok (.isub, 1) := dk_100 (dk_at dksJ43_siftUpComparable_0 11 rfl rfl)
theorem dJ43_siftUpComparable_12 : decode cJ43_siftUpComparable 12 = .ok (.iconst 1, 1) := dk_4 (dk_at dksJ43_siftUpComparable_0 12 rfl rfl)
theorem dJ43_siftUpComparable_13 : decode cJ43_siftUpComparable 13 = .ok (.iushr, 1) := dk_124 (dk_at dksJ43_siftUpComparable_0 13 rfl rfl)
theorem dJ43_siftUpComparable_14 : decode cJ43_siftUpComparable 14 = .ok (.istore 4, 2) := dk_54 4 (dk_at dksJ43_siftUpComparable_0 14 rfl rfl)
theorem dJ43_siftUpComparable_16 : decode cJ43_siftUpComparable 16 = .ok (.aload_n 2, 1) := dk_44 (dk_at dksJ43_siftUpComparable_0 16 rfl rfl)
theorem dJ43_siftUpComparable_17 : decode cJ43_siftUpComparable 17 = .ok (.iload 4, 2) := dk_21 4 (dk_at dksJ43_siftUpComparable_0 17 rfl rfl)
theorem dJ43_siftUpComparable_19 : decode cJ43_siftUpComparable 19 = .ok (.aaload, 1) := dk_50 (dk_at dksJ43_siftUpComparable_0 19 rfl rfl)
theorem dJ43_siftUpComparable_20 : decode cJ43_siftUpComparable 20 = .ok (.astore 5, 2) := dk_58 5 (dk_at dksJ43_siftUpComparable_0 20 rfl rfl)
theorem dJ43_siftUpComparable_22 : decode cJ43_siftUpComparable 22 = .ok (.aload_n 3, 1) := dk_45 (dk_at dksJ43_siftUpComparable_0 22 rfl rfl)
theorem dJ43_siftUpComparable_23 : decode cJ43_siftUpComparable 23 = .ok (.aload 5, 2) := dk_25 5 (dk_at dksJ43_siftUpComparable_1 0 rfl rfl)
theorem dJ43_siftUpComparable_25 : decode cJ43_siftUpComparable 25 = .ok (.invokeinterface 146 2, 5) := by decide +kernel
theorem dJ43_siftUpComparable_30 : decode cJ43_siftUpComparable 30 = .ok (.ifCond .lt 6, 3) := dk_155 0 6 (dk_at dksJ43_siftUpComparable_1 7 rfl rfl)
theorem dJ43_siftUpComparable_33 : decode cJ43_siftUpComparable 33 = .ok (.goto 14, 3) := dk_167 0 14 (dk_at dksJ43_siftUpComparable_1 10 rfl rfl)
theorem dJ43_siftUpComparable_36 : decode cJ43_siftUpComparable 36 = .ok (.aload_n 2, 1) := dk_44 (dk_at dksJ43_siftUpComparable_1 13 rfl rfl)
theorem dJ43_siftUpComparable_37 : decode cJ43_siftUpComparable 37 = .ok (.iload_n 0, 1) := dk_26 (dk_at dksJ43_siftUpComparable_1 14 rfl rfl)
theorem dJ43_siftUpComparable_38 : decode cJ43_siftUpComparable 38 = .ok (.aload 5, 2) := dk_25 5 (dk_at dksJ43_siftUpComparable_1 15 rfl rfl)
theorem dJ43_siftUpComparable_40 : decode cJ43_siftUpComparable 40 = .ok (.aastore, 1) := dk_83 (dk_at dksJ43_siftUpComparable_1 17 rfl rfl)
theorem dJ43_siftUpComparable_41 : decode cJ43_siftUpComparable 41 = .ok (.iload 4, 2) := dk_21 4 (dk_at dksJ43_siftUpComparable_1 18 rfl rfl)
theorem dJ43_siftUpComparable_43 : decode cJ43_siftUpComparable 43 = .ok (.istore_n 0, 1) := dk_59 (dk_at dksJ43_siftUpComparable_1 20 rfl rfl)
theorem dJ43_siftUpComparable_44 : decode cJ43_siftUpComparable 44 = .ok (.goto (-39), 3) := dk_167 255 217 (dk_at dksJ43_siftUpComparable_1 21 rfl rfl)
theorem dJ43_siftUpComparable_47 : decode cJ43_siftUpComparable 47 = .ok (.aload_n 2, 1) := dk_44 (dk_at dksJ43_siftUpComparable_2 0 rfl rfl)
theorem dJ43_siftUpComparable_48 : decode cJ43_siftUpComparable 48 = .ok (.iload_n 0, 1) := dk_26 (dk_at dksJ43_siftUpComparable_2 1 rfl rfl)
theorem dJ43_siftUpComparable_49 : decode cJ43_siftUpComparable 49 = .ok (.aload_n 3, 1) := dk_45 (dk_at dksJ43_siftUpComparable_2 2 rfl rfl)
theorem dJ43_siftUpComparable_50 : decode cJ43_siftUpComparable 50 = .ok (.aastore, 1) := dk_83 (dk_at dksJ43_siftUpComparable_2 3 rfl rfl)
theorem dJ43_siftUpComparable_51 : decode cJ43_siftUpComparable 51 = .ok (.return_, 1) := dk_177 (dk_at dksJ43_siftUpComparable_2 4 rfl rfl)
abbrev cJ43_poll : ByteArray := prog_81_method_25_code
def yJ43_poll : MethodName := ⟨RJ43, "poll", "()Ljava/lang/Object;"⟩
def dkwJ43_poll_3 : List UInt8 := [43, 29, 25, 5, 184, 0, 129, 44, 176]
abbrev dktJ43_poll_3 : List UInt8 := dkwJ43_poll_3 ++ []
def dkwJ43_poll_2 : List UInt8 := [42, 180, 0, 21, 89, 58, 5, 199, 0, 14, 3, 25, 4, 43, 29, 184, 0, 125, 167, 0, 13, 3, 25, 4]
abbrev dktJ43_poll_2 : List UInt8 := dkwJ43_poll_2 ++ dktJ43_poll_3
def dkwJ43_poll_1 : List UInt8 := [42, 89, 180, 0, 58, 4, 100, 90, 181, 0, 58, 89, 62, 50, 58, 4, 43, 29, 1, 83, 29, 158, 0, 34]
abbrev dktJ43_poll_1 : List UInt8 := dkwJ43_poll_1 ++ dktJ43_poll_2
def dkwJ43_poll_0 : List UInt8 := [42, 180, 0, 17, 89, 76, 3, 50, 89, 77, 198, 0, 69, 42, 89, 180, 0, 93, 4, 96, 181, 0, 93, 43]
abbrev dktJ43_poll_0 : List UInt8 := dkwJ43_poll_0 ++ dktJ43_poll_1
theorem dksJ43_poll_0 : cJ43_poll.data.toList.drop 0 = dktJ43_poll_0 := by decide +kernel
theorem dksJ43_poll_1 : cJ43_poll.data.toList.drop 24 = dktJ43_poll_1 := dk_seg dksJ43_poll_0 24 rfl rfl
theorem dksJ43_poll_2 : cJ43_poll.data.toList.drop 48 = dktJ43_poll_2 := dk_seg dksJ43_poll_1 24 rfl rfl
theorem dksJ43_poll_3 : cJ43_poll.data.toList.drop 72 = dktJ43_poll_3 := dk_seg dksJ43_poll_2 24 rfl rfl
theorem dJ43_poll_0 : decode cJ43_poll 0 = .ok (.aload_n 0, 1) := dk_42 (dk_at dksJ43_poll_0 0 rfl rfl)
theorem dJ43_poll_1 : decode cJ43_poll 1 = .ok (.getfield 17, 3) := dk_180 0 17 (dk_at dksJ43_poll_0 1 rfl rfl)
theorem dJ43_poll_4 : decode cJ43_poll 4 = .ok (.dup, 1) := dk_89 (dk_at dksJ43_poll_0 4 rfl rfl)
theorem dJ43_poll_5 : decode cJ43_poll 5 = .ok (.astore_n 1, 1) := dk_76 (dk_at dksJ43_poll_0 5 rfl rfl)
theorem dJ43_poll_6 : decode cJ43_poll 6 = .ok (.iconst 0, 1) := dk_3 (dk_at dksJ43_poll_0 6 rfl rfl)
theorem dJ43_poll_7 : decode cJ43_poll 7 = .ok (.aaload, 1) := dk_50 (dk_at dksJ43_poll_0 7 rfl rfl)
theorem dJ43_poll_8 : decode cJ43_poll 8 = .ok (.dup, 1) := dk_89 (dk_at dksJ43_poll_0 8 rfl rfl)
theorem dJ43_poll_9 : decode cJ43_poll 9 = .ok (.astore_n 2, 1) := dk_77 (dk_at dksJ43_poll_0 9 rfl rfl)
theorem dJ43_poll_10 : decode cJ43_poll 10 = .ok (.ifnull 69, 3) := dk_198 0 69 (dk_at dksJ43_poll_0 10 rfl rfl)
theorem dJ43_poll_13 : decode cJ43_poll 13 = .ok (.aload_n 0, 1) := dk_42 (dk_at dksJ43_poll_0 13 rfl rfl)
theorem dJ43_poll_14 : decode cJ43_poll 14 = .ok (.dup, 1) := dk_89 (dk_at dksJ43_poll_0 14 rfl rfl)
theorem dJ43_poll_15 : decode cJ43_poll 15 = .ok (.getfield 93, 3) := dk_180 0 93 (dk_at dksJ43_poll_0 15 rfl rfl)
theorem dJ43_poll_18 : decode cJ43_poll 18 = .ok (.iconst 1, 1) := dk_4 (dk_at dksJ43_poll_0 18 rfl rfl)
theorem dJ43_poll_19 : decode cJ43_poll 19 = .ok (.iadd, 1) := dk_96 (dk_at dksJ43_poll_0 19 rfl rfl)
theorem dJ43_poll_20 : decode cJ43_poll 20 = .ok (.putfield 93, 3) := dk_181 0 93 (dk_at dksJ43_poll_0 20 rfl rfl)
theorem dJ43_poll_23 : decode cJ43_poll 23 = .ok (.aload_n 1, 1) := dk_43 (dk_at dksJ43_poll_0 23 rfl rfl)
theorem dJ43_poll_24 : decode cJ43_poll 24 = .ok (.aload_n 0, 1) := dk_42 (dk_at dksJ43_poll_1 0 rfl rfl)
theorem dJ43_poll_25 : decode cJ43_poll 25 = .ok (.dup, 1) := dk_89 (dk_at dksJ43_poll_1 1 rfl rfl)
theorem dJ43_poll_26 : decode cJ43_poll 26 = .ok (.getfield 58, 3) := dk_180 0 58 (dk_at dksJ43_poll_1 2 rfl rfl)
theorem dJ43_poll_29 : decode cJ43_poll 29 = .ok (.iconst 1, 1) := dk_4 (dk_at dksJ43_poll_1 5 rfl rfl)
theorem dJ43_poll_30 : decode cJ43_poll 30 = .ok (.isub, 1) := dk_100 (dk_at dksJ43_poll_1 6 rfl rfl)
theorem dJ43_poll_31 : decode cJ43_poll 31 = .ok (.dup_x1, 1) := dk_90 (dk_at dksJ43_poll_1 7 rfl rfl)
theorem dJ43_poll_32 : decode cJ43_poll 32 = .ok (.putfield 58, 3) := dk_181 0 58 (dk_at dksJ43_poll_1 8 rfl rfl)
theorem dJ43_poll_35 : decode cJ43_poll 35 = .ok (.dup, 1) := dk_89 (dk_at dksJ43_poll_1 11 rfl rfl)
theorem dJ43_poll_36 : decode cJ43_poll 36 = .ok (.istore_n 3, 1) := dk_62 (dk_at dksJ43_poll_1 12 rfl rfl)
theorem dJ43_poll_37 : decode cJ43_poll 37 = .ok (.aaload, 1) := dk_50 (dk_at dksJ43_poll_1 13 rfl rfl)
theorem dJ43_poll_38 : decode cJ43_poll 38 = .ok (.astore 4, 2) := dk_58 4 (dk_at dksJ43_poll_1 14 rfl rfl)
theorem dJ43_poll_40 : decode cJ43_poll 40 = .ok (.aload_n 1, 1) := dk_43 (dk_at dksJ43_poll_1 16 rfl rfl)
theorem dJ43_poll_41 : decode cJ43_poll 41 = .ok (.iload_n 3, 1) := dk_29 (dk_at dksJ43_poll_1 17 rfl rfl)
theorem dJ43_poll_42 : decode cJ43_poll 42 = .ok (.aconst_null, 1) := dk_1 (dk_at dksJ43_poll_1 18 rfl rfl)
theorem dJ43_poll_43 : decode cJ43_poll 43 = .ok (.aastore, 1) := dk_83 (dk_at dksJ43_poll_1 19 rfl rfl)
theorem dJ43_poll_44 : decode cJ43_poll 44 = .ok (.iload_n 3, 1) := dk_29 (dk_at dksJ43_poll_1 20 rfl rfl)
theorem dJ43_poll_45 : decode cJ43_poll 45 = .ok (.ifCond .le 34, 3) := dk_158 0 34 (dk_at dksJ43_poll_1 21 rfl rfl)
theorem dJ43_poll_48 : decode cJ43_poll 48 = .ok (.aload_n 0, 1) := dk_42 (dk_at dksJ43_poll_2 0 rfl rfl)
theorem dJ43_poll_49 : decode cJ43_poll 49 = .ok (.getfield 21, 3) := dk_180 0 21 (dk_at dksJ43_poll_2 1 rfl rfl)
theorem dJ43_poll_52 : decode cJ43_poll 52 = .ok (.dup, 1) := dk_89 (dk_at dksJ43_poll_2 4 rfl rfl)
theorem dJ43_poll_53 : decode cJ43_poll 53 = .ok (.astore 5, 2) := dk_58 5 (dk_at dksJ43_poll_2 5 rfl rfl)
theorem dJ43_poll_55 : decode cJ43_poll 55 = .ok (.ifnonnull 14, 3) := dk_199 0 14 (dk_at dksJ43_poll_2 7 rfl rfl)
theorem dJ43_poll_58 : decode cJ43_poll 58 = .ok (.iconst 0, 1) := dk_3 (dk_at dksJ43_poll_2 10 rfl rfl)
theorem dJ43_poll_59 : decode cJ43_poll 59 = .ok (.aload 4, 2) := dk_25 4 (dk_at dksJ43_poll_2 11 rfl rfl)
theorem dJ43_poll_61 : decode cJ43_poll 61 = .ok (.aload_n 1, 1) := dk_43 (dk_at dksJ43_poll_2 13 rfl rfl)
theorem dJ43_poll_62 : decode cJ43_poll 62 = .ok (.iload_n 3, 1) := dk_29 (dk_at dksJ43_poll_2 14 rfl rfl)
theorem dJ43_poll_63 : decode cJ43_poll 63 = .ok (.invokestatic 125, 3) := dk_184 0 125 (dk_at dksJ43_poll_2 15 rfl rfl)
theorem dJ43_poll_66 : decode cJ43_poll 66 = .ok (.goto 13, 3) := dk_167 0 13 (dk_at dksJ43_poll_2 18 rfl rfl)
theorem dJ43_poll_69 : decode cJ43_poll 69 = .ok (.iconst 0, 1) := dk_3 (dk_at dksJ43_poll_2 21 rfl rfl)
theorem dJ43_poll_70 : decode cJ43_poll 70 = .ok (.aload 4, 2) := dk_25 4 (dk_at dksJ43_poll_2 22 rfl rfl)
theorem dJ43_poll_72 : decode cJ43_poll 72 = .ok (.aload_n 1, 1) := dk_43 (dk_at dksJ43_poll_3 0 rfl rfl)
theorem dJ43_poll_73 : decode cJ43_poll 73 = .ok (.iload_n 3, 1) := dk_29 (dk_at dksJ43_poll_3 1 rfl rfl)
theorem dJ43_poll_74 : decode cJ43_poll 74 = .ok (.aload 5, 2) := dk_25 5 (dk_at dksJ43_poll_3 2 rfl rfl)
theorem dJ43_poll_76 : decode cJ43_poll 76 = .ok (.invokestatic 129, 3) := dk_184 0 129 (dk_at dksJ43_poll_3 4 rfl rfl)
theorem dJ43_poll_79 : decode cJ43_poll 79 = .ok (.aload_n 2, 1) := dk_44 (dk_at dksJ43_poll_3 7 rfl rfl)
theorem dJ43_poll_80 : decode cJ43_poll 80 = .ok (.areturn, 1) := dk_176 (dk_at dksJ43_poll_3 8 rfl rfl)
abbrev cJ43_siftDownComparable : ByteArray := prog_81_method_31_code
def yJ43_siftDownComparable : MethodName := ⟨RJ43, "siftDownComparable", "(ILjava/lang/Object;[Ljava/lang/Object;I)V"⟩
def dkwJ43_siftDownComparable_4 : List UInt8 := [25, 4, 83, 177]
abbrev dktJ43_siftDownComparable_4 : List UInt8 := dkwJ43_siftDownComparable_4 ++ []
def dkwJ43_siftDownComparable_3 : List UInt8 := [185, 0, 146, 2, 0, 157, 0, 6, 167, 0, 14, 44, 26, 25, 7, 83, 21, 6, 59, 167, 255, 176, 44, 26]
abbrev dktJ43_siftDownComparable_3 : List UInt8 := dkwJ43_siftDownComparable_3 ++ dktJ43_siftDownComparable_4
def dkwJ43_siftDownComparable_2 : List UInt8 := [21, 8, 50, 185, 0, 146, 2, 0, 158, 0, 12, 44, 21, 8, 89, 54, 6, 50, 58, 7, 25, 4, 25, 7]
abbrev dktJ43_siftDownComparable_2 : List UInt8 := dkwJ43_siftDownComparable_2 ++ dktJ43_siftDownComparable_3
def dkwJ43_siftDownComparable_1 : List UInt8 := [44, 21, 6, 50, 58, 7, 21, 6, 4, 96, 54, 8, 21, 8, 29, 162, 0, 29, 25, 7, 192, 0, 144, 44]
abbrev dktJ43_siftDownComparable_1 : List UInt8 := dkwJ43_siftDownComparable_1 ++ dktJ43_siftDownComparable_2
def dkwJ43_siftDownComparable_0 : List UInt8 := [43, 192, 0, 144, 58, 4, 29, 4, 124, 54, 5, 26, 21, 5, 162, 0, 80, 26, 4, 120, 4, 96, 54, 6]
abbrev dktJ43_siftDownComparable_0 : List UInt8 := dkwJ43_siftDownComparable_0 ++ dktJ43_siftDownComparable_1
theorem dksJ43_siftDownComparable_0 : cJ43_siftDownComparable.data.toList.drop 0 = dktJ43_siftDownComparable_0 := by decide +kernel
theorem dksJ43_siftDownComparable_1 : cJ43_siftDownComparable.data.toList.drop 24 = dktJ43_siftDownComparable_1 := dk_seg dksJ43_siftDownComparable_0 24 rfl rfl
theorem dksJ43_siftDownComparable_2 : cJ43_siftDownComparable.data.toList.drop 48 = dktJ43_siftDownComparable_2 := dk_seg dksJ43_siftDownComparable_1 24 rfl rfl
theorem dksJ43_siftDownComparable_3 : cJ43_siftDownComparable.data.toList.drop 72 = dktJ43_siftDownComparable_3 := dk_seg dksJ43_siftDownComparable_2 24 rfl rfl
theorem dksJ43_siftDownComparable_4 : cJ43_siftDownComparable.data.toList.drop 96 = dktJ43_siftDownComparable_4 := dk_seg dksJ43_siftDownComparable_3 24 rfl rfl
theorem dJ43_siftDownComparable_0 : decode cJ43_siftDownComparable 0 = .ok (.aload_n 1, 1) := dk_43 (dk_at dksJ43_siftDownComparable_0 0 rfl rfl)
theorem dJ43_siftDownComparable_1 : decode cJ43_siftDownComparable 1 = .ok (.checkcast 144, 3) := dk_192 0 144 (dk_at dksJ43_siftDownComparable_0 1 rfl rfl)
theorem dJ43_siftDownComparable_4 : decode cJ43_siftDownComparable 4 = .ok (.astore 4, 2) := dk_58 4 (dk_at dksJ43_siftDownComparable_0 4 rfl rfl)
theorem dJ43_siftDownComparable_6 : decode cJ43_siftDownComparable 6 = .ok (.iload_n 3, 1) := dk_29 (dk_at dksJ43_siftDownComparable_0 6 rfl rfl)
theorem dJ43_siftDownComparable_7 : decode cJ43_siftDownComparable 7 = .ok (.iconst 1, 1) := dk_4 (dk_at dksJ43_siftDownComparable_0 7 rfl rfl)
theorem dJ43_siftDownComparable_8 : decode cJ43_siftDownComparable 8 = .ok (.iushr, 1) := dk_124 (dk_at dksJ43_siftDownComparable_0 8 rfl rfl)
theorem dJ43_siftDownComparable_9 : decode cJ43_siftDownComparable 9 = .ok (.istore 5, 2) := dk_54 5 (dk_at dksJ43_siftDownComparable_0 9 rfl rfl)
theorem dJ43_siftDownComparable_11 : decode cJ43_siftDownComparable 11 = .ok (.iload_n 0, 1) := dk_26 (dk_at dksJ43_siftDownComparable_0 11 rfl rfl)
theorem dJ43_siftDownComparable_12 : decode cJ43_siftDownComparable 12 = .ok (.iload 5, 2) := dk_21 5 (dk_at dksJ43_siftDownComparable_0 12 rfl rfl)
theorem dJ43_siftDownComparable_14 : decode cJ43_siftDownComparable 14 = .ok (.if_icmp .ge 80, 3) := dk_162 0 80 (dk_at dksJ43_siftDownComparable_0 14 rfl rfl)
theorem dJ43_siftDownComparable_17 : decode cJ43_siftDownComparable 17 = .ok (.iload_n 0, 1) := dk_26 (dk_at dksJ43_siftDownComparable_0 17 rfl rfl)
theorem dJ43_siftDownComparable_18 : decode cJ43_siftDownComparable 18 = .ok (.iconst 1, 1) := dk_4 (dk_at dksJ43_siftDownComparable_0 18 rfl rfl)
theorem dJ43_siftDownComparable_19 : decode cJ43_siftDownComparable 19 = .ok (.ishl, 1) := dk_120 (dk_at dksJ43_siftDownComparable_0 19 rfl rfl)
theorem dJ43_siftDownComparable_20 : decode cJ43_siftDownComparable 20 = .ok (.iconst 1, 1) := dk_4 (dk_at dksJ43_siftDownComparable_0 20 rfl rfl)
theorem dJ43_siftDownComparable_21 : decode cJ43_siftDownComparable 21 = .ok (.iadd, 1) := dk_96 (dk_at dksJ43_siftDownComparable_0 21 rfl rfl)
theorem dJ43_siftDownComparable_22 : decode cJ43_siftDownComparable 22 = .ok (.istore 6, 2) := dk_54 6 (dk_at dksJ43_siftDownComparable_0 22 rfl rfl)
theorem dJ43_siftDownComparable_24 : decode cJ43_siftDownComparable 24 = .ok (.aload_n 2, 1) := dk_44 (dk_at dksJ43_siftDownComparable_1 0 rfl rfl)
theorem dJ43_siftDownComparable_25 : decode cJ43_siftDownComparable 25 = .ok (.iload 6, 2) := dk_21 6 (dk_at dksJ43_siftDownComparable_1 1 rfl rfl)
theorem dJ43_siftDownComparable_27 : decode cJ43_siftDownComparable 27 = .ok (.aaload, 1) := dk_50 (dk_at dksJ43_siftDownComparable_1 3 rfl rfl)
theorem dJ43_siftDownComparable_28 : decode cJ43_siftDownComparable 28 = .ok (.astore 7, 2) := dk_58 7 (dk_at dksJ43_siftDownComparable_1 4 rfl rfl)
theorem dJ43_siftDownComparable_30 : decode cJ43_siftDownComparable 30 = .ok (.iload 6, 2) := dk_21 6 (dk_at dksJ43_siftDownComparable_1 6 rfl rfl)
theorem dJ43_siftDownComparable_32 : decode cJ43_siftDownComparable 32 = .ok (.iconst 1, 1) := dk_4 (dk_at dksJ43_siftDownComparable_1 8 rfl rfl)
theorem dJ43_siftDownComparable_33 : decode cJ43_siftDownComparable 33 = .ok (.iadd, 1) := dk_96 (dk_at dksJ43_siftDownComparable_1 9 rfl rfl)
theorem dJ43_siftDownComparable_34 : decode cJ43_siftDownComparable 34 = .ok (.istore 8, 2) := dk_54 8 (dk_at dksJ43_siftDownComparable_1 10 rfl rfl)
theorem dJ43_siftDownComparable_36 : decode cJ43_siftDownComparable 36 = .ok (.iload 8, 2) := dk_21 8 (dk_at dksJ43_siftDownComparable_1 12 rfl rfl)
theorem dJ43_siftDownComparable_38 : decode cJ43_siftDownComparable 38 = .ok (.iload_n 3, 1) := dk_29 (dk_at dksJ43_siftDownComparable_1 14 rfl rfl)
theorem dJ43_siftDownComparable_39 : decode cJ43_siftDownComparable 39 = .ok (.if_icmp .ge 29, 3) := dk_162 0 29 (dk_at dksJ43_siftDownComparable_1 15 rfl rfl)
theorem dJ43_siftDownComparable_42 : decode cJ43_siftDownComparable 42 = .ok (.aload 7, 2) := dk_25 7 (dk_at dksJ43_siftDownComparable_1 18 rfl rfl)
theorem dJ43_siftDownComparable_44 : decode cJ43_siftDownComparable 44 = .ok (.checkcast 144, 3) := dk_192 0 144 (dk_at dksJ43_siftDownComparable_1 20 rfl rfl)
theorem dJ43_siftDownComparable_47 : decode cJ43_siftDownComparable 47 = .ok (.aload_n 2, 1) := dk_44 (dk_at dksJ43_siftDownComparable_1 23 rfl rfl)
theorem dJ43_siftDownComparable_48 : decode cJ43_siftDownComparable 48 = .ok (.iload 8, 2) := dk_21 8 (dk_at dksJ43_siftDownComparable_2 0 rfl rfl)
theorem dJ43_siftDownComparable_50 : decode cJ43_siftDownComparable 50 = .ok (.aaload, 1) := dk_50 (dk_at dksJ43_siftDownComparable_2 2 rfl rfl)
theorem dJ43_siftDownComparable_51 : decode cJ43_siftDownComparable 51 = .ok (.invokeinterface 146 2, 5) := by decide +kernel
theorem dJ43_siftDownComparable_56 : decode cJ43_siftDownComparable 56 = .ok (.ifCond .le 12, 3) := dk_158 0 12 (dk_at dksJ43_siftDownComparable_2 8 rfl rfl)
theorem dJ43_siftDownComparable_59 : decode cJ43_siftDownComparable 59 = .ok (.aload_n 2, 1) := dk_44 (dk_at dksJ43_siftDownComparable_2 11 rfl rfl)
theorem dJ43_siftDownComparable_60 : decode cJ43_siftDownComparable 60 = .ok (.iload 8, 2) := dk_21 8 (dk_at dksJ43_siftDownComparable_2 12 rfl rfl)
theorem dJ43_siftDownComparable_62 : decode cJ43_siftDownComparable 62 = .ok (.dup, 1) := dk_89 (dk_at dksJ43_siftDownComparable_2 14 rfl rfl)
theorem dJ43_siftDownComparable_63 : decode cJ43_siftDownComparable 63 = .ok (.istore 6, 2) := dk_54 6 (dk_at dksJ43_siftDownComparable_2 15 rfl rfl)
theorem dJ43_siftDownComparable_65 : decode cJ43_siftDownComparable 65 = .ok (.aaload, 1) := dk_50 (dk_at dksJ43_siftDownComparable_2 17 rfl rfl)
theorem dJ43_siftDownComparable_66 : decode cJ43_siftDownComparable 66 = .ok (.astore 7, 2) := dk_58 7 (dk_at dksJ43_siftDownComparable_2 18 rfl rfl)
theorem dJ43_siftDownComparable_68 : decode cJ43_siftDownComparable 68 = .ok (.aload 4, 2) := dk_25 4 (dk_at dksJ43_siftDownComparable_2 20 rfl rfl)
theorem dJ43_siftDownComparable_70 : decode cJ43_siftDownComparable 70 = .ok (.aload 7, 2) := dk_25 7 (dk_at dksJ43_siftDownComparable_2 22 rfl rfl)
theorem dJ43_siftDownComparable_72 : decode cJ43_siftDownComparable 72 = .ok (.invokeinterface 146 2, 5) := by decide +kernel
theorem dJ43_siftDownComparable_77 : decode cJ43_siftDownComparable 77 = .ok (.ifCond .gt 6, 3) := dk_157 0 6 (dk_at dksJ43_siftDownComparable_3 5 rfl rfl)
theorem dJ43_siftDownComparable_80 : decode cJ43_siftDownComparable 80 = .ok (.goto 14, 3) := dk_167 0 14 (dk_at dksJ43_siftDownComparable_3 8 rfl rfl)
theorem dJ43_siftDownComparable_83 : decode cJ43_siftDownComparable 83 = .ok (.aload_n 2, 1) := dk_44 (dk_at dksJ43_siftDownComparable_3 11 rfl rfl)
theorem dJ43_siftDownComparable_84 : decode cJ43_siftDownComparable 84 = .ok (.iload_n 0, 1) := dk_26 (dk_at dksJ43_siftDownComparable_3 12 rfl rfl)
theorem dJ43_siftDownComparable_85 : decode cJ43_siftDownComparable 85 = .ok (.aload 7, 2) := dk_25 7 (dk_at dksJ43_siftDownComparable_3 13 rfl rfl)
theorem dJ43_siftDownComparable_87 : decode cJ43_siftDownComparable 87 = .ok (.aastore, 1) := dk_83 (dk_at dksJ43_siftDownComparable_3 15 rfl rfl)
theorem dJ43_siftDownComparable_88 : decode cJ43_siftDownComparable 88 = .ok (.iload 6, 2) := dk_21 6 (dk_at dksJ43_siftDownComparable_3 16 rfl rfl)
theorem dJ43_siftDownComparable_90 : decode cJ43_siftDownComparable 90 = .ok (.istore_n 0, 1) := dk_59 (dk_at dksJ43_siftDownComparable_3 18 rfl rfl)
theorem dJ43_siftDownComparable_91 : decode cJ43_siftDownComparable 91 = .ok (.goto (-80), 3) := dk_167 255 176 (dk_at dksJ43_siftDownComparable_3 19 rfl rfl)
theorem dJ43_siftDownComparable_94 : decode cJ43_siftDownComparable 94 = .ok (.aload_n 2, 1) := dk_44 (dk_at dksJ43_siftDownComparable_3 22 rfl rfl)
theorem dJ43_siftDownComparable_95 : decode cJ43_siftDownComparable 95 = .ok (.iload_n 0, 1) := dk_26 (dk_at dksJ43_siftDownComparable_3 23 rfl rfl)
theorem dJ43_siftDownComparable_96 : decode cJ43_siftDownComparable 96 = .ok (.aload 4, 2) := dk_25 4 (dk_at dksJ43_siftDownComparable_4 0 rfl rfl)
theorem dJ43_siftDownComparable_98 : decode cJ43_siftDownComparable 98 = .ok (.aastore, 1) := dk_83 (dk_at dksJ43_siftDownComparable_4 2 rfl rfl)
theorem dJ43_siftDownComparable_99 : decode cJ43_siftDownComparable 99 = .ok (.return_, 1) := dk_177 (dk_at dksJ43_siftDownComparable_4 3 rfl rfl)
abbrev cJ43_siftDownUsingComparator : ByteArray := prog_81_method_32_code
def yJ43_siftDownUsingComparator : MethodName := ⟨RJ43, "siftDownUsingComparator", "(ILjava/lang/Object;[Ljava/lang/Object;ILjava/util/Comparator;)V"⟩
def dkwJ43_siftDownUsingComparator_4 : List UInt8 := [43, 83, 177]
abbrev dktJ43_siftDownUsingComparator_4 : List UInt8 := dkwJ43_siftDownUsingComparator_4 ++ []
def dkwJ43_siftDownUsingComparator_3 : List UInt8 := [185, 0, 149, 3, 0, 157, 0, 6, 167, 0, 14, 44, 26, 25, 7, 83, 21, 6, 59, 167, 255, 176, 44, 26]
abbrev dktJ43_siftDownUsingComparator_3 : List UInt8 := dkwJ43_siftDownUsingComparator_3 ++ dktJ43_siftDownUsingComparator_4
def dkwJ43_siftDownUsingComparator_2 : List UInt8 := [185, 0, 149, 3, 0, 158, 0, 12, 44, 21, 8, 89, 54, 6, 50, 58, 7, 25, 4, 43, 25, 7]
abbrev dktJ43_siftDownUsingComparator_2 : List UInt8 := dkwJ43_siftDownUsingComparator_2 ++ dktJ43_siftDownUsingComparator_3
def dkwJ43_siftDownUsingComparator_1 : List UInt8 := [21, 6, 4, 96, 54, 8, 21, 8, 29, 162, 0, 28, 25, 4, 25, 7, 44, 21, 8, 50]
abbrev dktJ43_siftDownUsingComparator_1 : List UInt8 := dkwJ43_siftDownUsingComparator_1 ++ dktJ43_siftDownUsingComparator_2
def dkwJ43_siftDownUsingComparator_0 : List UInt8 := [29, 4, 124, 54, 5, 26, 21, 5, 162, 0, 80, 26, 4, 120, 4, 96, 54, 6, 44, 21, 6, 50, 58, 7]
abbrev dktJ43_siftDownUsingComparator_0 : List UInt8 := dkwJ43_siftDownUsingComparator_0 ++ dktJ43_siftDownUsingComparator_1
theorem dksJ43_siftDownUsingComparator_0 : cJ43_siftDownUsingComparator.data.toList.drop 0 = dktJ43_siftDownUsingComparator_0 := by decide +kernel
theorem dksJ43_siftDownUsingComparator_1 : cJ43_siftDownUsingComparator.data.toList.drop 24 = dktJ43_siftDownUsingComparator_1 := dk_seg dksJ43_siftDownUsingComparator_0 24 rfl rfl
theorem dksJ43_siftDownUsingComparator_2 : cJ43_siftDownUsingComparator.data.toList.drop 44 = dktJ43_siftDownUsingComparator_2 := dk_seg dksJ43_siftDownUsingComparator_1 20 rfl rfl
theorem dksJ43_siftDownUsingComparator_3 : cJ43_siftDownUsingComparator.data.toList.drop 66 = dktJ43_siftDownUsingComparator_3 := dk_seg dksJ43_siftDownUsingComparator_2 22 rfl rfl
theorem dksJ43_siftDownUsingComparator_4 : cJ43_siftDownUsingComparator.data.toList.drop 90 = dktJ43_siftDownUsingComparator_4 := dk_seg dksJ43_siftDownUsingComparator_3 24 rfl rfl
theorem dJ43_siftDownUsingComparator_0 : decode cJ43_siftDownUsingComparator 0 = .ok (.iload_n 3, 1) := dk_29 (dk_at dksJ43_siftDownUsingComparator_0 0 rfl rfl)
theorem dJ43_siftDownUsingComparator_1 : decode cJ43_siftDownUsingComparator 1 = .ok (.iconst 1, 1) := dk_4 (dk_at dksJ43_siftDownUsingComparator_0 1 rfl rfl)
theorem dJ43_siftDownUsingComparator_2 : decode cJ43_siftDownUsingComparator 2 = .ok (.iushr, 1) := dk_124 (dk_at dksJ43_siftDownUsingComparator_0 2 rfl rfl)
theorem dJ43_siftDownUsingComparator_3 : decode cJ43_siftDownUsingComparator 3 = .ok (.istore 5, 2) := dk_54 5 (dk_at dksJ43_siftDownUsingComparator_0 3 rfl rfl)
theorem dJ43_siftDownUsingComparator_5 : decode cJ43_siftDownUsingComparator 5 = .ok (.iload_n 0, 1) := dk_26 (dk_at dksJ43_siftDownUsingComparator_0 5 rfl rfl)
theorem dJ43_siftDownUsingComparator_6 : decode cJ43_siftDownUsingComparator 6 = .ok (.iload 5, 2) := dk_21 5 (dk_at dksJ43_siftDownUsingComparator_0 6 rfl rfl)
theorem dJ43_siftDownUsingComparator_8 : decode cJ43_siftDownUsingComparator 8 = .ok (.if_icmp .ge 80, 3) := dk_162 0 80 (dk_at dksJ43_siftDownUsingComparator_0 8 rfl rfl)
theorem dJ43_siftDownUsingComparator_11 : decode cJ43_siftDownUsingComparator 11 = .ok (.iload_n 0, 1) := dk_26 (dk_at dksJ43_siftDownUsingComparator_0 11 rfl rfl)
theorem dJ43_siftDownUsingComparator_12 : decode cJ43_siftDownUsingComparator 12 = .ok (.iconst 1, 1) := dk_4 (dk_at dksJ43_siftDownUsingComparator_0 12 rfl rfl)
theorem dJ43_siftDownUsingComparator_13 : decode cJ43_siftDownUsingComparator 13 = .ok (.ishl, 1) := dk_120 (dk_at dksJ43_siftDownUsingComparator_0 13 rfl rfl)
theorem dJ43_siftDownUsingComparator_14 : decode cJ43_siftDownUsingComparator 14 = .ok (.iconst 1, 1) := dk_4 (dk_at dksJ43_siftDownUsingComparator_0 14 rfl rfl)
theorem dJ43_siftDownUsingComparator_15 : decode cJ43_siftDownUsingComparator 15 = .ok (.iadd, 1) := dk_96 (dk_at dksJ43_siftDownUsingComparator_0 15 rfl rfl)
theorem dJ43_siftDownUsingComparator_16 : decode cJ43_siftDownUsingComparator 16 = .ok (.istore 6, 2) := dk_54 6 (dk_at dksJ43_siftDownUsingComparator_0 16 rfl rfl)
theorem dJ43_siftDownUsingComparator_18 : decode cJ43_siftDownUsingComparator 18 = .ok (.aload_n 2, 1) := dk_44 (dk_at dksJ43_siftDownUsingComparator_0 18 rfl rfl)
theorem dJ43_siftDownUsingComparator_19 : decode cJ43_siftDownUsingComparator 19 = .ok (.iload 6, 2) := dk_21 6 (dk_at dksJ43_siftDownUsingComparator_0 19 rfl rfl)
theorem dJ43_siftDownUsingComparator_21 : decode cJ43_siftDownUsingComparator 21 = .ok (.aaload, 1) := dk_50 (dk_at dksJ43_siftDownUsingComparator_0 21 rfl rfl)
theorem dJ43_siftDownUsingComparator_22 : decode cJ43_siftDownUsingComparator 22 = .ok (.astore 7, 2) := dk_58 7 (dk_at dksJ43_siftDownUsingComparator_0 22 rfl rfl)
theorem dJ43_siftDownUsingComparator_24 : decode cJ43_siftDownUsingComparator 24 = .ok (.iload 6, 2) := dk_21 6 (dk_at dksJ43_siftDownUsingComparator_1 0 rfl rfl)
theorem dJ43_siftDownUsingComparator_26 : decode cJ43_siftDownUsingComparator 26 = .ok (.iconst 1, 1) := dk_4 (dk_at dksJ43_siftDownUsingComparator_1 2 rfl rfl)
theorem dJ43_siftDownUsingComparator_27 : decode cJ43_siftDownUsingComparator 27 = .ok (.iadd, 1) := dk_96 (dk_at dksJ43_siftDownUsingComparator_1 3 rfl rfl)
theorem dJ43_siftDownUsingComparator_28 : decode cJ43_siftDownUsingComparator 28 = .ok (.istore 8, 2) := dk_54 8 (dk_at dksJ43_siftDownUsingComparator_1 4 rfl rfl)
theorem dJ43_siftDownUsingComparator_30 : decode cJ43_siftDownUsingComparator 30 = .ok (.iload 8, 2) := dk_21 8 (dk_at dksJ43_siftDownUsingComparator_1 6 rfl rfl)
theorem dJ43_siftDownUsingComparator_32 : decode cJ43_siftDownUsingComparator 32 = .ok (.iload_n 3, 1) := dk_29 (dk_at dksJ43_siftDownUsingComparator_1 8 rfl rfl)
theorem dJ43_siftDownUsingComparator_33 : decode cJ43_siftDownUsingComparator 33 = .ok (.if_icmp .ge 28, 3) := dk_162 0 28 (dk_at dksJ43_siftDownUsingComparator_1 9 rfl rfl)
theorem dJ43_siftDownUsingComparator_36 : decode cJ43_siftDownUsingComparator 36 = .ok (.aload 4, 2) := dk_25 4 (dk_at dksJ43_siftDownUsingComparator_1 12 rfl rfl)
theorem dJ43_siftDownUsingComparator_38 : decode cJ43_siftDownUsingComparator 38 = .ok (.aload 7, 2) := dk_25 7 (dk_at dksJ43_siftDownUsingComparator_1 14 rfl rfl)
theorem dJ43_siftDownUsingComparator_40 : decode cJ43_siftDownUsingComparator 40 = .ok (.aload_n 2, 1) := dk_44 (dk_at dksJ43_siftDownUsingComparator_1 16 rfl rfl)
theorem dJ43_siftDownUsingComparator_41 : decode cJ43_siftDownUsingComparator 41 = .ok (.iload 8, 2) := dk_21 8 (dk_at dksJ43_siftDownUsingComparator_1 17 rfl rfl)
theorem dJ43_siftDownUsingComparator_43 : decode cJ43_siftDownUsingComparator 43 = .ok (.aaload, 1) := dk_50 (dk_at dksJ43_siftDownUsingComparator_1 19 rfl rfl)
theorem dJ43_siftDownUsingComparator_44 : decode cJ43_siftDownUsingComparator 44 = .ok (.invokeinterface 149 3, 5) := by decide +kernel
theorem dJ43_siftDownUsingComparator_49 : decode cJ43_siftDownUsingComparator 49 = .ok (.ifCond .le 12, 3) := dk_158 0 12 (dk_at dksJ43_siftDownUsingComparator_2 5 rfl rfl)
theorem dJ43_siftDownUsingComparator_52 : decode cJ43_siftDownUsingComparator 52 = .ok (.aload_n 2, 1) := dk_44 (dk_at dksJ43_siftDownUsingComparator_2 8 rfl rfl)
theorem dJ43_siftDownUsingComparator_53 : decode cJ43_siftDownUsingComparator 53 = .ok (.iload 8, 2) := dk_21 8 (dk_at dksJ43_siftDownUsingComparator_2 9 rfl rfl)
theorem dJ43_siftDownUsingComparator_55 : decode cJ43_siftDownUsingComparator 55 = .ok (.dup, 1) := dk_89 (dk_at dksJ43_siftDownUsingComparator_2 11 rfl rfl)
theorem dJ43_siftDownUsingComparator_56 : decode cJ43_siftDownUsingComparator 56 = .ok (.istore 6, 2) := dk_54 6 (dk_at dksJ43_siftDownUsingComparator_2 12 rfl rfl)
theorem dJ43_siftDownUsingComparator_58 : decode cJ43_siftDownUsingComparator 58 = .ok (.aaload, 1) := dk_50 (dk_at dksJ43_siftDownUsingComparator_2 14 rfl rfl)
theorem dJ43_siftDownUsingComparator_59 : decode cJ43_siftDownUsingComparator 59 = .ok (.astore 7, 2) := dk_58 7 (dk_at dksJ43_siftDownUsingComparator_2 15 rfl rfl)
theorem dJ43_siftDownUsingComparator_61 : decode cJ43_siftDownUsingComparator 61 = .ok (.aload 4, 2) := dk_25 4 (dk_at dksJ43_siftDownUsingComparator_2 17 rfl rfl)
theorem dJ43_siftDownUsingComparator_63 : decode cJ43_siftDownUsingComparator 63 = .ok (.aload_n 1, 1) := dk_43 (dk_at dksJ43_siftDownUsingComparator_2 19 rfl rfl)
theorem dJ43_siftDownUsingComparator_64 : decode cJ43_siftDownUsingComparator 64 = .ok (.aload 7, 2) := dk_25 7 (dk_at dksJ43_siftDownUsingComparator_2 20 rfl rfl)
theorem dJ43_siftDownUsingComparator_66 : decode cJ43_siftDownUsingComparator 66 = .ok (.invokeinterface 149 3, 5) := by decide +kernel
theorem dJ43_siftDownUsingComparator_71 : decode cJ43_siftDownUsingComparator 71 = .ok (.ifCond .gt 6, 3) := dk_157 0 6 (dk_at dksJ43_siftDownUsingComparator_3 5 rfl rfl)
theorem dJ43_siftDownUsingComparator_74 : decode cJ43_siftDownUsingComparator 74 = .ok (.goto 14, 3) := dk_167 0 14 (dk_at dksJ43_siftDownUsingComparator_3 8 rfl rfl)
theorem dJ43_siftDownUsingComparator_77 : decode cJ43_siftDownUsingComparator 77 = .ok (.aload_n 2, 1) := dk_44 (dk_at dksJ43_siftDownUsingComparator_3 11 rfl rfl)
theorem dJ43_siftDownUsingComparator_78 : decode cJ43_siftDownUsingComparator 78 = .ok (.iload_n 0, 1) := dk_26 (dk_at dksJ43_siftDownUsingComparator_3 12 rfl rfl)
theorem dJ43_siftDownUsingComparator_79 : decode cJ43_siftDownUsingComparator 79 = .ok (.aload 7, 2) := dk_25 7 (dk_at dksJ43_siftDownUsingComparator_3 13 rfl rfl)
theorem dJ43_siftDownUsingComparator_81 : decode cJ43_siftDownUsingComparator 81 = .ok (.aastore, 1) := dk_83 (dk_at dksJ43_siftDownUsingComparator_3 15 rfl rfl)
theorem dJ43_siftDownUsingComparator_82 : decode cJ43_siftDownUsingComparator 82 = .ok (.iload 6, 2) := dk_21 6 (dk_at dksJ43_siftDownUsingComparator_3 16 rfl rfl)
theorem dJ43_siftDownUsingComparator_84 : decode cJ43_siftDownUsingComparator 84 = .ok (.istore_n 0, 1) := dk_59 (dk_at dksJ43_siftDownUsingComparator_3 18 rfl rfl)
theorem dJ43_siftDownUsingComparator_85 : decode cJ43_siftDownUsingComparator 85 = .ok (.goto (-80), 3) := dk_167 255 176 (dk_at dksJ43_siftDownUsingComparator_3 19 rfl rfl)
theorem dJ43_siftDownUsingComparator_88 : decode cJ43_siftDownUsingComparator 88 = .ok (.aload_n 2, 1) := dk_44 (dk_at dksJ43_siftDownUsingComparator_3 22 rfl rfl)
theorem dJ43_siftDownUsingComparator_89 : decode cJ43_siftDownUsingComparator 89 = .ok (.iload_n 0, 1) := dk_26 (dk_at dksJ43_siftDownUsingComparator_3 23 rfl rfl)
theorem dJ43_siftDownUsingComparator_90 : decode cJ43_siftDownUsingComparator 90 = .ok (.aload_n 1, 1) := dk_43 (dk_at dksJ43_siftDownUsingComparator_4 0 rfl rfl)
theorem dJ43_siftDownUsingComparator_91 : decode cJ43_siftDownUsingComparator 91 = .ok (.aastore, 1) := dk_83 (dk_at dksJ43_siftDownUsingComparator_4 1 rfl rfl)
theorem dJ43_siftDownUsingComparator_92 : decode cJ43_siftDownUsingComparator 92 = .ok (.return_, 1) := dk_177 (dk_at dksJ43_siftDownUsingComparator_4 2 rfl rfl)
abbrev cJ43_size : ByteArray := prog_81_method_23_code
def yJ43_size : MethodName := ⟨RJ43, "size", "()I"⟩
theorem dJ43_size_0 : decode cJ43_size 0 = .ok (.aload_n 0, 1) := by decide +kernel
theorem dJ43_size_1 : decode cJ43_size 1 = .ok (.getfield 58, 3) := by decide +kernel
theorem dJ43_size_4 : decode cJ43_size 4 = .ok (.ireturn, 1) := by decide +kernel
theorem q184 : (Jvm.Cond.initialized "java/util/PriorityQueue") ∈ lw_all := lw_g (lw_at lw_m1 60 rfl) rfl
theorem q841 : (Jvm.Cond.instantiable "java/util/PriorityQueue" (4 : Nat)) ∈ lw_all := lw_g (lw_at lw_m3 237 rfl) rfl
theorem q850 : (Jvm.Cond.instanceMethod ({ cls := "java/util/PriorityQueue", name := "<init>", desc := "(Ljava/util/Comparator;)V" } : Jvm.MethodName)) ∈ lw_all := lw_g (lw_at lw_m4 6 rfl) rfl
theorem q851 : (Jvm.Cond.code ({ cls := "java/util/PriorityQueue", name := "<init>", desc := "(Ljava/util/Comparator;)V" } : Jvm.MethodName) prog_81_method_3_code (2 : Nat) (Option.none : Option Jvm.ClassFile.FieldType)) ∈ lw_all := lw_g (lw_at lw_m4 7 rfl) rfl
theorem q852 : (Jvm.Cond.methodLink "java/util/PriorityQueue" (3 : Nat) ({ cls := "java/util/PriorityQueue", name := "<init>", desc := "(ILjava/util/Comparator;)V" } : Jvm.MethodName)) ∈ lw_all := lw_g (lw_at lw_m4 8 rfl) rfl
theorem q853 : (Jvm.Cond.instanceMethod ({ cls := "java/util/PriorityQueue", name := "<init>", desc := "(ILjava/util/Comparator;)V" } : Jvm.MethodName)) ∈ lw_all := lw_g (lw_at lw_m4 9 rfl) rfl
theorem q854 : (Jvm.Cond.code ({ cls := "java/util/PriorityQueue", name := "<init>", desc := "(ILjava/util/Comparator;)V" } : Jvm.MethodName) prog_81_method_4_code (3 : Nat) (Option.none : Option Jvm.ClassFile.FieldType)) ∈ lw_all := lw_g (lw_at lw_m4 10 rfl) rfl
theorem q855 : (Jvm.Cond.methodLink "java/util/PriorityQueue" (7 : Nat) ({ cls := "java/util/AbstractQueue", name := "<init>", desc := "()V" } : Jvm.MethodName)) ∈ lw_all := lw_g (lw_at lw_m4 11 rfl) rfl
theorem q859 : (Jvm.Cond.classLink "java/util/PriorityQueue" (12 : Nat) "java/lang/IllegalArgumentException") ∈ lw_all := lw_g (lw_at lw_m4 15 rfl) rfl
theorem q860 : (Jvm.Cond.methodLink "java/util/PriorityQueue" (14 : Nat) ({ cls := "java/lang/IllegalArgumentException", name := "<init>", desc := "()V" } : Jvm.MethodName)) ∈ lw_all := lw_g (lw_at lw_m4 16 rfl) rfl
theorem q870 : (Jvm.Cond.classLink "java/util/PriorityQueue" (15 : Nat) "java/lang/Object") ∈ lw_all := lw_g (lw_at lw_m4 26 rfl) rfl
theorem q872 : (Jvm.Cond.fieldLink "java/util/PriorityQueue" (17 : Nat) "java/util/PriorityQueue" "queue" "[Ljava/lang/Object;") ∈ lw_all := lw_g (lw_at lw_m4 28 rfl) rfl
theorem q873 : (Jvm.Cond.fieldLink "java/util/PriorityQueue" (58 : Nat) "java/util/PriorityQueue" "size" "I") ∈ lw_all := lw_g (lw_at lw_m4 29 rfl) rfl
theorem q874 : (Jvm.Cond.fieldLink "java/util/PriorityQueue" (21 : Nat) "java/util/PriorityQueue" "comparator" "Ljava/util/Comparator;") ∈ lw_all := lw_g (lw_at lw_m4 30 rfl) rfl
theorem q875 : (Jvm.Cond.fieldLink "java/util/PriorityQueue" (93 : Nat) "java/util/PriorityQueue" "modCount" "I") ∈ lw_all := lw_g (lw_at lw_m4 31 rfl) rfl
theorem q876 : (Jvm.Cond.lays "java/util/PriorityQueue" "java/util/PriorityQueue" "queue" "[Ljava/lang/Object;") ∈ lw_all := lw_g (lw_at lw_m4 32 rfl) rfl
theorem q877 : (Jvm.Cond.soleField "java/util/PriorityQueue" "queue") ∈ lw_all := lw_g (lw_at lw_m4 33 rfl) rfl
theorem q878 : (Jvm.Cond.lays "java/util/PriorityQueue" "java/util/PriorityQueue" "size" "I") ∈ lw_all := lw_g (lw_at lw_m4 34 rfl) rfl
theorem q879 : (Jvm.Cond.soleField "java/util/PriorityQueue" "size") ∈ lw_all := lw_g (lw_at lw_m4 35 rfl) rfl
theorem q880 : (Jvm.Cond.laysFinal "java/util/PriorityQueue" "java/util/PriorityQueue" "comparator" "Ljava/util/Comparator;") ∈ lw_all := lw_g (lw_at lw_m4 36 rfl) rfl
theorem q881 : (Jvm.Cond.soleField "java/util/PriorityQueue" "comparator") ∈ lw_all := lw_g (lw_at lw_m4 37 rfl) rfl
theorem q882 : (Jvm.Cond.lays "java/util/PriorityQueue" "java/util/PriorityQueue" "modCount" "I") ∈ lw_all := lw_g (lw_at lw_m4 38 rfl) rfl
theorem q883 : (Jvm.Cond.soleField "java/util/PriorityQueue" "modCount") ∈ lw_all := lw_g (lw_at lw_m4 39 rfl) rfl
theorem q884 : (Jvm.Cond.superclass "java/util/PriorityQueue" "java/util/AbstractQueue") ∈ lw_all := lw_g (lw_at lw_m4 40 rfl) rfl
theorem q901 : (Jvm.Cond.instanceMethod ({ cls := "java/util/PriorityQueue", name := "add", desc := "(Ljava/lang/Object;)Z" } : Jvm.MethodName)) ∈ lw_all := lw_g (lw_at lw_m4 57 rfl) rfl
theorem q902 : (Jvm.Cond.selects "java/util/PriorityQueue" ({ cls := "java/util/PriorityQueue", name := "add", desc := "(Ljava/lang/Object;)Z" } : Jvm.MethodName) ({ cls := "java/util/PriorityQueue", name := "add", desc := "(Ljava/lang/Object;)Z" } : Jvm.MethodName)) ∈ lw_all := lw_g (lw_at lw_m4 58 rfl) rfl
theorem q903 : (Jvm.Cond.code ({ cls := "java/util/PriorityQueue", name := "add", desc := "(Ljava/lang/Object;)Z" } : Jvm.MethodName) prog_81_method_13_code (2 : Nat) (Option.some Jvm.ClassFile.FieldType.boolean)) ∈ lw_all := lw_g (lw_at lw_m4 59 rfl) rfl
theorem q904 : (Jvm.Cond.methodLink "java/util/PriorityQueue" (89 : Nat) ({ cls := "java/util/PriorityQueue", name := "offer", desc := "(Ljava/lang/Object;)Z" } : Jvm.MethodName)) ∈ lw_all := lw_g (lw_at lw_m4 60 rfl) rfl
theorem q905 : (Jvm.Cond.instanceMethod ({ cls := "java/util/PriorityQueue", name := "offer", desc := "(Ljava/lang/Object;)Z" } : Jvm.MethodName)) ∈ lw_all := lw_g (lw_at lw_m4 61 rfl) rfl
theorem q906 : (Jvm.Cond.selects "java/util/PriorityQueue" ({ cls := "java/util/PriorityQueue", name := "offer", desc := "(Ljava/lang/Object;)Z" } : Jvm.MethodName) ({ cls := "java/util/PriorityQueue", name := "offer", desc := "(Ljava/lang/Object;)Z" } : Jvm.MethodName)) ∈ lw_all := lw_g (lw_at lw_m4 62 rfl) rfl
theorem q907 : (Jvm.Cond.code ({ cls := "java/util/PriorityQueue", name := "offer", desc := "(Ljava/lang/Object;)Z" } : Jvm.MethodName) prog_81_method_14_code (3 : Nat) (Option.some Jvm.ClassFile.FieldType.boolean)) ∈ lw_all := lw_g (lw_at lw_m4 63 rfl) rfl
theorem q908 : (Jvm.Cond.methodLink "java/util/PriorityQueue" (96 : Nat) ({ cls := "java/util/PriorityQueue", name := "grow", desc := "(I)V" } : Jvm.MethodName)) ∈ lw_all := lw_g (lw_at lw_m4 64 rfl) rfl
theorem q909 : (Jvm.Cond.privateMethod ({ cls := "java/util/PriorityQueue", name := "grow", desc := "(I)V" } : Jvm.MethodName)) ∈ lw_tbl := lw_at lw_m4 65 rfl
theorem q910 : (Jvm.Cond.instanceMethod ({ cls := "java/util/PriorityQueue", name := "grow", desc := "(I)V" } : Jvm.MethodName)) ∈ lw_all := lw_g (lw_at lw_m4 66 rfl) rfl
theorem q911 : (Jvm.Cond.code ({ cls := "java/util/PriorityQueue", name := "grow", desc := "(I)V" } : Jvm.MethodName) prog_81_method_12_code (4 : Nat) (Option.none : Option Jvm.ClassFile.FieldType)) ∈ lw_all := lw_g (lw_at lw_m4 67 rfl) rfl
theorem q912 : (Jvm.Cond.methodLink "java/util/PriorityQueue" (80 : Nat) ({ cls := "jdk/internal/util/ArraysSupport", name := "newLength", desc := "(III)I" } : Jvm.MethodName)) ∈ lw_all := lw_g (lw_at lw_m4 68 rfl) rfl
theorem q913 : (Jvm.Cond.methodLink "java/util/PriorityQueue" (86 : Nat) ({ cls := "java/util/Arrays", name := "copyOf", desc := "([Ljava/lang/Object;I)[Ljava/lang/Object;" } : Jvm.MethodName)) ∈ lw_all := lw_g (lw_at lw_m4 69 rfl) rfl
theorem q957 : (Jvm.Cond.selects "java/util/PriorityQueue" ({ cls := "java/lang/Object", name := "getClass", desc := "()Ljava/lang/Class;" } : Jvm.MethodName) ({ cls := "java/lang/Object", name := "getClass", desc := "()Ljava/lang/Class;" } : Jvm.MethodName)) ∈ lw_all := lw_g (lw_at lw_m4 113 rfl) rfl
theorem q970 : (Jvm.Cond.methodLink "java/util/PriorityQueue" (100 : Nat) ({ cls := "java/util/PriorityQueue", name := "siftUp", desc := "(ILjava/lang/Object;)V" } : Jvm.MethodName)) ∈ lw_all := lw_g (lw_at lw_m4 126 rfl) rfl
theorem q971 : (Jvm.Cond.privateMethod ({ cls := "java/util/PriorityQueue", name := "siftUp", desc := "(ILjava/lang/Object;)V" } : Jvm.MethodName)) ∈ lw_tbl := lw_at lw_m4 127 rfl
theorem q972 : (Jvm.Cond.instanceMethod ({ cls := "java/util/PriorityQueue", name := "siftUp", desc := "(ILjava/lang/Object;)V" } : Jvm.MethodName)) ∈ lw_all := lw_g (lw_at lw_m4 128 rfl) rfl
theorem q973 : (Jvm.Cond.code ({ cls := "java/util/PriorityQueue", name := "siftUp", desc := "(ILjava/lang/Object;)V" } : Jvm.MethodName) prog_81_method_27_code (3 : Nat) (Option.none : Option Jvm.ClassFile.FieldType)) ∈ lw_all := lw_g (lw_at lw_m4 129 rfl) rfl
theorem q974 : (Jvm.Cond.methodLink "java/util/PriorityQueue" (136 : Nat) ({ cls := "java/util/PriorityQueue", name := "siftUpUsingComparator", desc := "(ILjava/lang/Object;[Ljava/lang/Object;Ljava/util/Comparator;)V" } : Jvm.MethodName)) ∈ lw_all := lw_g (lw_at lw_m4 130 rfl) rfl
theorem q975 : (Jvm.Cond.static ({ cls := "java/util/PriorityQueue", name := "siftUpUsingComparator", desc := "(ILjava/lang/Object;[Ljava/lang/Object;Ljava/util/Comparator;)V" } : Jvm.MethodName)) ∈ lw_all := lw_g (lw_at lw_m4 131 rfl) rfl
theorem q976 : (Jvm.Cond.code ({ cls := "java/util/PriorityQueue", name := "siftUpUsingComparator", desc := "(ILjava/lang/Object;[Ljava/lang/Object;Ljava/util/Comparator;)V" } : Jvm.MethodName) prog_81_method_29_code (6 : Nat) (Option.none : Option Jvm.ClassFile.FieldType)) ∈ lw_all := lw_g (lw_at lw_m4 132 rfl) rfl
theorem q977 : (Jvm.Cond.interfaceEntry "java/util/PriorityQueue" (149 : Nat)) ∈ lw_tbl := lw_at lw_m4 133 rfl
theorem q978 : (Jvm.Cond.methodLink "java/util/PriorityQueue" (149 : Nat) ({ cls := "java/util/Comparator", name := "compare", desc := "(Ljava/lang/Object;Ljava/lang/Object;)I" } : Jvm.MethodName)) ∈ lw_all := lw_g (lw_at lw_m4 134 rfl) rfl
theorem q995 : (Jvm.Cond.methodLink "java/util/PriorityQueue" (140 : Nat) ({ cls := "java/util/PriorityQueue", name := "siftUpComparable", desc := "(ILjava/lang/Object;[Ljava/lang/Object;)V" } : Jvm.MethodName)) ∈ lw_all := lw_g (lw_at lw_m4 151 rfl) rfl
theorem q996 : (Jvm.Cond.static ({ cls := "java/util/PriorityQueue", name := "siftUpComparable", desc := "(ILjava/lang/Object;[Ljava/lang/Object;)V" } : Jvm.MethodName)) ∈ lw_all := lw_g (lw_at lw_m4 152 rfl) rfl
theorem q997 : (Jvm.Cond.code ({ cls := "java/util/PriorityQueue", name := "siftUpComparable", desc := "(ILjava/lang/Object;[Ljava/lang/Object;)V" } : Jvm.MethodName) prog_81_method_28_code (6 : Nat) (Option.none : Option Jvm.ClassFile.FieldType)) ∈ lw_all := lw_g (lw_at lw_m4 153 rfl) rfl
theorem q998 : (Jvm.Cond.classLink "java/util/PriorityQueue" (144 : Nat) "java/lang/Comparable") ∈ lw_all := lw_g (lw_at lw_m4 154 rfl) rfl
theorem q999 : (Jvm.Cond.interfaceEntry "java/util/PriorityQueue" (146 : Nat)) ∈ lw_tbl := lw_at lw_m4 155 rfl
theorem q1000 : (Jvm.Cond.methodLink "java/util/PriorityQueue" (146 : Nat) ({ cls := "java/lang/Comparable", name := "compareTo", desc := "(Ljava/lang/Object;)I" } : Jvm.MethodName)) ∈ lw_all := lw_g (lw_at lw_m4 156 rfl) rfl
theorem q1612 : (Jvm.Cond.instanceMethod ({ cls := "java/util/PriorityQueue", name := "poll", desc := "()Ljava/lang/Object;" } : Jvm.MethodName)) ∈ lw_all := lw_g (lw_at lw_m7 48 rfl) rfl
theorem q1613 : (Jvm.Cond.selects "java/util/PriorityQueue" ({ cls := "java/util/PriorityQueue", name := "poll", desc := "()Ljava/lang/Object;" } : Jvm.MethodName) ({ cls := "java/util/PriorityQueue", name := "poll", desc := "()Ljava/lang/Object;" } : Jvm.MethodName)) ∈ lw_all := lw_g (lw_at lw_m7 49 rfl) rfl
theorem q1614 : (Jvm.Cond.code ({ cls := "java/util/PriorityQueue", name := "poll", desc := "()Ljava/lang/Object;" } : Jvm.MethodName) prog_81_method_25_code (6 : Nat) (Option.some (Jvm.ClassFile.FieldType.object "java/lang/Object"))) ∈ lw_all := lw_g (lw_at lw_m7 50 rfl) rfl
theorem q1615 : (Jvm.Cond.methodLink "java/util/PriorityQueue" (125 : Nat) ({ cls := "java/util/PriorityQueue", name := "siftDownComparable", desc := "(ILjava/lang/Object;[Ljava/lang/Object;I)V" } : Jvm.MethodName)) ∈ lw_all := lw_g (lw_at lw_m7 51 rfl) rfl
theorem q1616 : (Jvm.Cond.static ({ cls := "java/util/PriorityQueue", name := "siftDownComparable", desc := "(ILjava/lang/Object;[Ljava/lang/Object;I)V" } : Jvm.MethodName)) ∈ lw_all := lw_g (lw_at lw_m7 52 rfl) rfl
theorem q1617 : (Jvm.Cond.code ({ cls := "java/util/PriorityQueue", name := "siftDownComparable", desc := "(ILjava/lang/Object;[Ljava/lang/Object;I)V" } : Jvm.MethodName) prog_81_method_31_code (9 : Nat) (Option.none : Option Jvm.ClassFile.FieldType)) ∈ lw_all := lw_g (lw_at lw_m7 53 rfl) rfl
theorem q1618 : (Jvm.Cond.methodLink "java/util/PriorityQueue" (129 : Nat) ({ cls := "java/util/PriorityQueue", name := "siftDownUsingComparator", desc := "(ILjava/lang/Object;[Ljava/lang/Object;ILjava/util/Comparator;)V" } : Jvm.MethodName)) ∈ lw_all := lw_g (lw_at lw_m7 54 rfl) rfl
theorem q1619 : (Jvm.Cond.static ({ cls := "java/util/PriorityQueue", name := "siftDownUsingComparator", desc := "(ILjava/lang/Object;[Ljava/lang/Object;ILjava/util/Comparator;)V" } : Jvm.MethodName)) ∈ lw_all := lw_g (lw_at lw_m7 55 rfl) rfl
theorem q1620 : (Jvm.Cond.code ({ cls := "java/util/PriorityQueue", name := "siftDownUsingComparator", desc := "(ILjava/lang/Object;[Ljava/lang/Object;ILjava/util/Comparator;)V" } : Jvm.MethodName) prog_81_method_32_code (9 : Nat) (Option.none : Option Jvm.ClassFile.FieldType)) ∈ lw_all := lw_g (lw_at lw_m7 56 rfl) rfl
theorem q2085 : (Jvm.Cond.instanceMethod ({ cls := "java/util/PriorityQueue", name := "size", desc := "()I" } : Jvm.MethodName)) ∈ lw_all := lw_g (lw_at lw_m9 41 rfl) rfl
theorem q2086 : (Jvm.Cond.code ({ cls := "java/util/PriorityQueue", name := "size", desc := "()I" } : Jvm.MethodName) prog_81_method_23_code (1 : Nat) (Option.some Jvm.ClassFile.FieldType.int)) ∈ lw_all := lw_g (lw_at lw_m9 42 rfl) rfl
theorem q4016 : (Jvm.Cond.selects "java/util/PriorityQueue" ({ cls := "java/util/AbstractCollection", name := "size", desc := "()I" } : Jvm.MethodName) ({ cls := "java/util/PriorityQueue", name := "size", desc := "()I" } : Jvm.MethodName)) ∈ lw_all := lw_g (lw_at lw_m17 52 rfl) rfl
theorem q4061 : (Jvm.Cond.castable "java/util/PriorityQueue" "java/lang/Object") ∈ lw_tbl := lw_at lw_m17 97 rfl
theorem in_J43 : ∀ w ∈ wsJ430, w ∈ lw_all := lw_in wsJ430 [876, 878, 880, 882] (by decide +kernel) (by decide +kernel)

/-! java/util/ArrayDeque$DeqIterator -/
set_option maxRecDepth 100000
def RJ44 : String := "java/util/ArrayDeque$DeqIterator"
def TJ44 : u_T := fun k => match k with
  | 0 => ("java/util/ArrayDeque$DeqIterator", "cursor", "I", false)
  | 1 => ("java/util/ArrayDeque$DeqIterator", "remaining", "I", false)
  | 2 => ("java/util/ArrayDeque$DeqIterator", "lastRet", "I", false)
  | _ => ("java/util/ArrayDeque$DeqIterator", "this$0", "Ljava/util/ArrayDeque;", true)
def tyJ44 : Nat → FieldType := fun k => match k with
  | 0 => .int
  | 1 => .int
  | 2 => .int
  | _ => .object "java/util/ArrayDeque"
abbrev wsJ440 : List Cond := u_ws RJ44 TJ44 4
theorem nmJ44 : ∀ a, a < 4 → ∀ b, b < 4 → a ≠ b → (TJ44 a).2.1 ≠ (TJ44 b).2.1 := by decide +kernel
theorem tyJ44_ok : ∀ k, k < 4 → parseFieldDescriptor (TJ44 k).2.2.1 = some (tyJ44 k) := by decide +kernel
abbrev cJ44_hasNext : ByteArray := prog_61_method_2_code
def yJ44_hasNext : MethodName := ⟨RJ44, "hasNext", "()Z"⟩
def dkwJ44_hasNext_0 : List UInt8 := [42, 180, 0, 19, 158, 0, 7, 4, 167, 0, 4, 3, 172]
abbrev dktJ44_hasNext_0 : List UInt8 := dkwJ44_hasNext_0 ++ []
theorem dksJ44_hasNext_0 : cJ44_hasNext.data.toList.drop 0 = dktJ44_hasNext_0 := by decide +kernel
theorem dJ44_hasNext_0 : decode cJ44_hasNext 0 = .ok (.aload_n 0, 1) := dk_42 (dk_at dksJ44_hasNext_0 0 rfl rfl)
theorem dJ44_hasNext_1 : decode cJ44_hasNext 1 = .ok (.getfield 19, 3) := dk_180 0 19 (dk_at dksJ44_hasNext_0 1 rfl rfl)
theorem dJ44_hasNext_4 : decode cJ44_hasNext 4 = .ok (.ifCond .le 7, 3) := dk_158 0 7 (dk_at dksJ44_hasNext_0 4 rfl rfl)
theorem dJ44_hasNext_7 : decode cJ44_hasNext 7 = .ok (.iconst 1, 1) := dk_4 (dk_at dksJ44_hasNext_0 7 rfl rfl)
theorem dJ44_hasNext_8 : decode cJ44_hasNext 8 = .ok (.goto 4, 3) := dk_167 0 4 (dk_at dksJ44_hasNext_0 8 rfl rfl)
theorem dJ44_hasNext_11 : decode cJ44_hasNext 11 = .ok (.iconst 0, 1) := dk_3 (dk_at dksJ44_hasNext_0 11 rfl rfl)
theorem dJ44_hasNext_12 : decode cJ44_hasNext 12 = .ok (.ireturn, 1) := dk_172 (dk_at dksJ44_hasNext_0 12 rfl rfl)
abbrev cJ44_next : ByteArray := prog_61_method_3_code
def yJ44_next : MethodName := ⟨RJ44, "next", "()Ljava/lang/Object;"⟩
def dkwJ44_next_2 : List UInt8 := [181, 0, 29, 42, 89, 180, 0, 19, 4, 100, 181, 0, 19, 44, 176]
abbrev dktJ44_next_2 : List UInt8 := dkwJ44_next_2 ++ []
def dkwJ44_next_1 : List UInt8 := [42, 180, 0, 29, 184, 0, 39, 77, 42, 42, 42, 180, 0, 29, 90, 181, 0, 23, 43, 190, 184, 0, 43]
abbrev dktJ44_next_1 : List UInt8 := dkwJ44_next_1 ++ dktJ44_next_2
def dkwJ44_next_0 : List UInt8 := [42, 180, 0, 19, 157, 0, 11, 187, 0, 32, 89, 183, 0, 34, 191, 42, 180, 0, 1, 180, 0, 35, 76, 43]
abbrev dktJ44_next_0 : List UInt8 := dkwJ44_next_0 ++ dktJ44_next_1
theorem dksJ44_next_0 : cJ44_next.data.toList.drop 0 = dktJ44_next_0 := by decide +kernel
theorem dksJ44_next_1 : cJ44_next.data.toList.drop 24 = dktJ44_next_1 := dk_seg dksJ44_next_0 24 rfl rfl
theorem dksJ44_next_2 : cJ44_next.data.toList.drop 47 = dktJ44_next_2 := dk_seg dksJ44_next_1 23 rfl rfl
theorem dJ44_next_0 : decode cJ44_next 0 = .ok (.aload_n 0, 1) := dk_42 (dk_at dksJ44_next_0 0 rfl rfl)
theorem dJ44_next_1 : decode cJ44_next 1 = .ok (.getfield 19, 3) := dk_180 0 19 (dk_at dksJ44_next_0 1 rfl rfl)
theorem dJ44_next_4 : decode cJ44_next 4 = .ok (.ifCond .gt 11, 3) := dk_157 0 11 (dk_at dksJ44_next_0 4 rfl rfl)
theorem dJ44_next_7 : decode cJ44_next 7 = .ok (.new 32, 3) := dk_187 0 32 (dk_at dksJ44_next_0 7 rfl rfl)
theorem dJ44_next_10 : decode cJ44_next 10 = .ok (.dup, 1) := dk_89 (dk_at dksJ44_next_0 10 rfl rfl)
theorem dJ44_next_11 : decode cJ44_next 11 = .ok (.invokespecial 34, 3) := dk_183 0 34 (dk_at dksJ44_next_0 11 rfl rfl)
theorem dJ44_next_14 : decode cJ44_next 14 = .ok (.athrow, 1) := dk_191 (dk_at dksJ44_next_0 14 rfl rfl)
theorem dJ44_next_15 : decode cJ44_next 15 = .ok (.aload_n 0, 1) := dk_42 (dk_at dksJ44_next_0 15 rfl rfl)
theorem dJ44_next_16 : decode cJ44_next 16 = .ok (.getfield 1, 3) := dk_180 0 1 (dk_at dksJ44_next_0 16 rfl rfl)
theorem dJ44_next_19 : decode cJ44_next 19 = .ok (.getfield 35, 3) := dk_180 0 35 (dk_at dksJ44_next_0 19 rfl rfl)
theorem dJ44_next_22 : decode cJ44_next 22 = .ok (.astore_n 1, 1) := dk_76 (dk_at dksJ44_next_0 22 rfl rfl)
theorem dJ44_next_23 : decode cJ44_next 23 = .ok (.aload_n 1, 1) := dk_43 (dk_at dksJ44_next_0 23 rfl rfl)
theorem dJ44_next_24 : decode cJ44_next 24 = .ok (.aload_n 0, 1) := dk_42 (dk_at dksJ44_next_1 0 rfl rfl)
theorem dJ44_next_25 : decode cJ44_next 25 = .ok (.getfield 29, 3) := dk_180 0 29 (dk_at dksJ44_next_1 1 rfl rfl)
theorem dJ44_next_28 : decode cJ44_next 28 = .ok (.invokestatic 39, 3) := dk_184 0 39 (dk_at dksJ44_next_1 4 rfl rfl)
theorem dJ44_next_31 : decode cJ44_next 31 = .ok (.astore_n 2, 1) := dk_77 (dk_at dksJ44_next_1 7 rfl rfl)
theorem dJ44_next_32 : decode cJ44_next 32 = .ok (.aload_n 0, 1) := dk_42 (dk_at dksJ44_next_1 8 rfl rfl)
theorem dJ44_next_33 : decode cJ44_next 33 = .ok (.aload_n 0, 1) := dk_42 (dk_at dksJ44_next_1 9 rfl rfl)
theorem dJ44_next_34 : decode cJ44_next 34 = .ok (.aload_n 0, 1) := dk_42 (dk_at dksJ44_next_1 10 rfl rfl)
theorem dJ44_next_35 : decode cJ44_next 35 = .ok (.getfield 29, 3) := dk_180 0 29 (dk_at dksJ44_next_1 11 rfl rfl)
theorem dJ44_next_38 : decode cJ44_next 38 = .ok (.dup_x1, 1) := dk_90 (dk_at dksJ44_next_1 14 rfl rfl)
theorem dJ44_next_39 : decode cJ44_next 39 = .ok (.putfield 23, 3) := dk_181 0 23 (dk_at dksJ44_next_1 15 rfl rfl)
theorem dJ44_next_42 : decode cJ44_next 42 = .ok (.aload_n 1, 1) := dk_43 (dk_at dksJ44_next_1 18 rfl rfl)
theorem dJ44_next_43 : decode cJ44_next 43 = .ok (.arraylength, 1) := dk_190 (dk_at dksJ44_next_1 19 rfl rfl)
theorem dJ44_next_44 : decode cJ44_next 44 = .ok (.invokestatic 43, 3) := dk_184 0 43 (dk_at dksJ44_next_1 20 rfl rfl)
theorem dJ44_next_47 : decode cJ44_next 47 = .ok (.putfield 29, 3) := dk_181 0 29 (dk_at dksJ44_next_2 0 rfl rfl)
theorem dJ44_next_50 : decode cJ44_next 50 = .ok (.aload_n 0, 1) := dk_42 (dk_at dksJ44_next_2 3 rfl rfl)
theorem dJ44_next_51 : decode cJ44_next 51 = .ok (.dup, 1) := dk_89 (dk_at dksJ44_next_2 4 rfl rfl)
theorem dJ44_next_52 : decode cJ44_next 52 = .ok (.getfield 19, 3) := dk_180 0 19 (dk_at dksJ44_next_2 5 rfl rfl)
theorem dJ44_next_55 : decode cJ44_next 55 = .ok (.iconst 1, 1) := dk_4 (dk_at dksJ44_next_2 8 rfl rfl)
theorem dJ44_next_56 : decode cJ44_next 56 = .ok (.isub, 1) := dk_100 (dk_at dksJ44_next_2 9 rfl rfl)
theorem dJ44_next_57 : decode cJ44_next 57 = .ok (.putfield 19, 3) := dk_181 0 19 (dk_at dksJ44_next_2 10 rfl rfl)
theorem dJ44_next_60 : decode cJ44_next 60 = .ok (.aload_n 2, 1) := dk_44 (dk_at dksJ44_next_2 13 rfl rfl)
theorem dJ44_next_61 : decode cJ44_next 61 = .ok (.areturn, 1) := dk_176 (dk_at dksJ44_next_2 14 rfl rfl)
abbrev cJ44_init : ByteArray := prog_61_method_1_code
def yJ44_init : MethodName := ⟨RJ44, "<init>", "(Ljava/util/ArrayDeque;)V"⟩
def dkwJ44_init_1 : List UInt8 := [181, 0, 23, 42, 43, 180, 0, 26, 181, 0, 29, 177]
abbrev dktJ44_init_1 : List UInt8 := dkwJ44_init_1 ++ []
def dkwJ44_init_0 : List UInt8 := [42, 43, 181, 0, 1, 42, 183, 0, 7, 42, 42, 180, 0, 1, 182, 0, 13, 181, 0, 19, 42, 2]
abbrev dktJ44_init_0 : List UInt8 := dkwJ44_init_0 ++ dktJ44_init_1
theorem dksJ44_init_0 : cJ44_init.data.toList.drop 0 = dktJ44_init_0 := by decide +kernel
theorem dksJ44_init_1 : cJ44_init.data.toList.drop 22 = dktJ44_init_1 := dk_seg dksJ44_init_0 22 rfl rfl
theorem dJ44_init_0 : decode cJ44_init 0 = .ok (.aload_n 0, 1) := dk_42 (dk_at dksJ44_init_0 0 rfl rfl)
theorem dJ44_init_1 : decode cJ44_init 1 = .ok (.aload_n 1, 1) := dk_43 (dk_at dksJ44_init_0 1 rfl rfl)
theorem dJ44_init_2 : decode cJ44_init 2 = .ok (.putfield 1, 3) := dk_181 0 1 (dk_at dksJ44_init_0 2 rfl rfl)
theorem dJ44_init_5 : decode cJ44_init 5 = .ok (.aload_n 0, 1) := dk_42 (dk_at dksJ44_init_0 5 rfl rfl)
theorem dJ44_init_6 : decode cJ44_init 6 = .ok (.invokespecial 7, 3) := dk_183 0 7 (dk_at dksJ44_init_0 6 rfl rfl)
theorem dJ44_init_9 : decode cJ44_init 9 = .ok (.aload_n 0, 1) := dk_42 (dk_at dksJ44_init_0 9 rfl rfl)
theorem dJ44_init_10 : decode cJ44_init 10 = .ok (.aload_n 0, 1) := dk_42 (dk_at dksJ44_init_0 10 rfl rfl)
theorem dJ44_init_11 : decode cJ44_init 11 = .ok (.getfield 1, 3) := dk_180 0 1 (dk_at dksJ44_init_0 11 rfl rfl)
theorem dJ44_init_14 : decode cJ44_init 14 = .ok (.invokevirtual 13, 3) := dk_182 0 13 (dk_at dksJ44_init_0 14 rfl rfl)
theorem dJ44_init_17 : decode cJ44_init 17 = .ok (.putfield 19, 3) := dk_181 0 19 (dk_at dksJ44_init_0 17 rfl rfl)
theorem dJ44_init_20 : decode cJ44_init 20 = .ok (.aload_n 0, 1) := dk_42 (dk_at dksJ44_init_0 20 rfl rfl)
theorem dJ44_init_21 : decode cJ44_init 21 = .ok (.iconst (-1), 1) := dk_2 (dk_at dksJ44_init_0 21 rfl rfl)
theorem dJ44_init_22 : decode cJ44_init 22 = .ok (.putfield 23, 3) := dk_181 0 23 (dk_at dksJ44_init_1 0 rfl rfl)
theorem dJ44_init_25 : decode cJ44_init 25 = .ok (.aload_n 0, 1) := dk_42 (dk_at dksJ44_init_1 3 rfl rfl)
theorem dJ44_init_26 : decode cJ44_init 26 = .ok (.aload_n 1, 1) := dk_43 (dk_at dksJ44_init_1 4 rfl rfl)
theorem dJ44_init_27 : decode cJ44_init 27 = .ok (.getfield 26, 3) := dk_180 0 26 (dk_at dksJ44_init_1 5 rfl rfl)
theorem dJ44_init_30 : decode cJ44_init 30 = .ok (.putfield 29, 3) := dk_181 0 29 (dk_at dksJ44_init_1 8 rfl rfl)
theorem dJ44_init_33 : decode cJ44_init 33 = .ok (.return_, 1) := dk_177 (dk_at dksJ44_init_1 11 rfl rfl)
theorem q187 : (Jvm.Cond.initialized "java/util/ArrayDeque$DeqIterator") ∈ lw_all := lw_g (lw_at lw_m1 63 rfl) rfl
theorem q949 : (Jvm.Cond.selects "java/util/ArrayDeque$DeqIterator" ({ cls := "java/lang/Object", name := "getClass", desc := "()Ljava/lang/Class;" } : Jvm.MethodName) ({ cls := "java/lang/Object", name := "getClass", desc := "()Ljava/lang/Class;" } : Jvm.MethodName)) ∈ lw_all := lw_g (lw_at lw_m4 105 rfl) rfl
theorem q1230 : (Jvm.Cond.fieldLink "java/util/ArrayDeque$DeqIterator" (35 : Nat) "java/util/ArrayDeque" "elements" "[Ljava/lang/Object;") ∈ lw_all := lw_g (lw_at lw_m5 146 rfl) rfl
theorem q1231 : (Jvm.Cond.fieldLink "java/util/ArrayDeque$DeqIterator" (26 : Nat) "java/util/ArrayDeque" "head" "I") ∈ lw_all := lw_g (lw_at lw_m5 147 rfl) rfl
theorem q1369 : (Jvm.Cond.castable "java/util/ArrayDeque$DeqIterator" "java/util/Iterator") ∈ lw_tbl := lw_at lw_m6 45 rfl
theorem q1370 : (Jvm.Cond.selects "java/util/ArrayDeque$DeqIterator" ({ cls := "java/util/Iterator", name := "hasNext", desc := "()Z" } : Jvm.MethodName) ({ cls := "java/util/ArrayDeque$DeqIterator", name := "hasNext", desc := "()Z" } : Jvm.MethodName)) ∈ lw_all := lw_g (lw_at lw_m6 46 rfl) rfl
theorem q1371 : (Jvm.Cond.unhidden "java/util/ArrayDeque$DeqIterator" "hasNext" "()Z") ∈ lw_tbl := lw_at lw_m6 47 rfl
theorem q1372 : (Jvm.Cond.instanceMethod ({ cls := "java/util/ArrayDeque$DeqIterator", name := "hasNext", desc := "()Z" } : Jvm.MethodName)) ∈ lw_all := lw_g (lw_at lw_m6 48 rfl) rfl
theorem q1373 : (Jvm.Cond.publicMethod ({ cls := "java/util/ArrayDeque$DeqIterator", name := "hasNext", desc := "()Z" } : Jvm.MethodName)) ∈ lw_tbl := lw_at lw_m6 49 rfl
theorem q1374 : (Jvm.Cond.code ({ cls := "java/util/ArrayDeque$DeqIterator", name := "hasNext", desc := "()Z" } : Jvm.MethodName) prog_61_method_2_code (1 : Nat) (Option.some Jvm.ClassFile.FieldType.boolean)) ∈ lw_all := lw_g (lw_at lw_m6 50 rfl) rfl
theorem q1489 : (Jvm.Cond.selects "java/util/ArrayDeque$DeqIterator" ({ cls := "java/util/Iterator", name := "next", desc := "()Ljava/lang/Object;" } : Jvm.MethodName) ({ cls := "java/util/ArrayDeque$DeqIterator", name := "next", desc := "()Ljava/lang/Object;" } : Jvm.MethodName)) ∈ lw_all := lw_g (lw_at lw_m6 165 rfl) rfl
theorem q1490 : (Jvm.Cond.unhidden "java/util/ArrayDeque$DeqIterator" "next" "()Ljava/lang/Object;") ∈ lw_tbl := lw_at lw_m6 166 rfl
theorem q1491 : (Jvm.Cond.instanceMethod ({ cls := "java/util/ArrayDeque$DeqIterator", name := "next", desc := "()Ljava/lang/Object;" } : Jvm.MethodName)) ∈ lw_all := lw_g (lw_at lw_m6 167 rfl) rfl
theorem q1492 : (Jvm.Cond.publicMethod ({ cls := "java/util/ArrayDeque$DeqIterator", name := "next", desc := "()Ljava/lang/Object;" } : Jvm.MethodName)) ∈ lw_tbl := lw_at lw_m6 168 rfl
theorem q1493 : (Jvm.Cond.code ({ cls := "java/util/ArrayDeque$DeqIterator", name := "next", desc := "()Ljava/lang/Object;" } : Jvm.MethodName) prog_61_method_3_code (3 : Nat) (Option.some (Jvm.ClassFile.FieldType.object "java/lang/Object"))) ∈ lw_all := lw_g (lw_at lw_m6 169 rfl) rfl
theorem q1494 : (Jvm.Cond.classLink "java/util/ArrayDeque$DeqIterator" (32 : Nat) "java/util/NoSuchElementException") ∈ lw_all := lw_g (lw_at lw_m6 170 rfl) rfl
theorem q1495 : (Jvm.Cond.methodLink "java/util/ArrayDeque$DeqIterator" (34 : Nat) ({ cls := "java/util/NoSuchElementException", name := "<init>", desc := "()V" } : Jvm.MethodName)) ∈ lw_all := lw_g (lw_at lw_m6 171 rfl) rfl
theorem q1499 : (Jvm.Cond.methodLink "java/util/ArrayDeque$DeqIterator" (39 : Nat) ({ cls := "java/util/ArrayDeque", name := "nonNullElementAt", desc := "([Ljava/lang/Object;I)Ljava/lang/Object;" } : Jvm.MethodName)) ∈ lw_all := lw_g (lw_at lw_m6 175 rfl) rfl
theorem q1502 : (Jvm.Cond.methodLink "java/util/ArrayDeque$DeqIterator" (43 : Nat) ({ cls := "java/util/ArrayDeque", name := "inc", desc := "(II)I" } : Jvm.MethodName)) ∈ lw_all := lw_g (lw_at lw_m6 178 rfl) rfl
theorem q1586 : (Jvm.Cond.instantiable "java/util/ArrayDeque$DeqIterator" (4 : Nat)) ∈ lw_all := lw_g (lw_at lw_m7 22 rfl) rfl
theorem q1588 : (Jvm.Cond.instanceMethod ({ cls := "java/util/ArrayDeque$DeqIterator", name := "<init>", desc := "(Ljava/util/ArrayDeque;)V" } : Jvm.MethodName)) ∈ lw_all := lw_g (lw_at lw_m7 24 rfl) rfl
theorem q1589 : (Jvm.Cond.code ({ cls := "java/util/ArrayDeque$DeqIterator", name := "<init>", desc := "(Ljava/util/ArrayDeque;)V" } : Jvm.MethodName) prog_61_method_1_code (2 : Nat) (Option.none : Option Jvm.ClassFile.FieldType)) ∈ lw_all := lw_g (lw_at lw_m7 25 rfl) rfl
theorem q1590 : (Jvm.Cond.methodLink "java/util/ArrayDeque$DeqIterator" (7 : Nat) ({ cls := "java/lang/Object", name := "<init>", desc := "()V" } : Jvm.MethodName)) ∈ lw_all := lw_g (lw_at lw_m7 26 rfl) rfl
theorem q1591 : (Jvm.Cond.methodLink "java/util/ArrayDeque$DeqIterator" (13 : Nat) ({ cls := "java/util/ArrayDeque", name := "size", desc := "()I" } : Jvm.MethodName)) ∈ lw_all := lw_g (lw_at lw_m7 27 rfl) rfl
theorem q1598 : (Jvm.Cond.fieldLink "java/util/ArrayDeque$DeqIterator" (29 : Nat) "java/util/ArrayDeque$DeqIterator" "cursor" "I") ∈ lw_all := lw_g (lw_at lw_m7 34 rfl) rfl
theorem q1599 : (Jvm.Cond.fieldLink "java/util/ArrayDeque$DeqIterator" (19 : Nat) "java/util/ArrayDeque$DeqIterator" "remaining" "I") ∈ lw_all := lw_g (lw_at lw_m7 35 rfl) rfl
theorem q1600 : (Jvm.Cond.fieldLink "java/util/ArrayDeque$DeqIterator" (23 : Nat) "java/util/ArrayDeque$DeqIterator" "lastRet" "I") ∈ lw_all := lw_g (lw_at lw_m7 36 rfl) rfl
theorem q1601 : (Jvm.Cond.fieldLink "java/util/ArrayDeque$DeqIterator" (1 : Nat) "java/util/ArrayDeque$DeqIterator" "this$0" "Ljava/util/ArrayDeque;") ∈ lw_all := lw_g (lw_at lw_m7 37 rfl) rfl
theorem q1602 : (Jvm.Cond.lays "java/util/ArrayDeque$DeqIterator" "java/util/ArrayDeque$DeqIterator" "cursor" "I") ∈ lw_all := lw_g (lw_at lw_m7 38 rfl) rfl
theorem q1603 : (Jvm.Cond.soleField "java/util/ArrayDeque$DeqIterator" "cursor") ∈ lw_all := lw_g (lw_at lw_m7 39 rfl) rfl
theorem q1604 : (Jvm.Cond.lays "java/util/ArrayDeque$DeqIterator" "java/util/ArrayDeque$DeqIterator" "remaining" "I") ∈ lw_all := lw_g (lw_at lw_m7 40 rfl) rfl
theorem q1605 : (Jvm.Cond.soleField "java/util/ArrayDeque$DeqIterator" "remaining") ∈ lw_all := lw_g (lw_at lw_m7 41 rfl) rfl
theorem q1606 : (Jvm.Cond.lays "java/util/ArrayDeque$DeqIterator" "java/util/ArrayDeque$DeqIterator" "lastRet" "I") ∈ lw_all := lw_g (lw_at lw_m7 42 rfl) rfl
theorem q1607 : (Jvm.Cond.soleField "java/util/ArrayDeque$DeqIterator" "lastRet") ∈ lw_all := lw_g (lw_at lw_m7 43 rfl) rfl
theorem q1608 : (Jvm.Cond.laysFinal "java/util/ArrayDeque$DeqIterator" "java/util/ArrayDeque$DeqIterator" "this$0" "Ljava/util/ArrayDeque;") ∈ lw_all := lw_g (lw_at lw_m7 44 rfl) rfl
theorem q1609 : (Jvm.Cond.soleField "java/util/ArrayDeque$DeqIterator" "this$0") ∈ lw_all := lw_g (lw_at lw_m7 45 rfl) rfl
theorem q1610 : (Jvm.Cond.superclass "java/util/ArrayDeque$DeqIterator" "java/lang/Object") ∈ lw_all := lw_g (lw_at lw_m7 46 rfl) rfl
theorem q4065 : (Jvm.Cond.castable "java/util/ArrayDeque$DeqIterator" "java/lang/Object") ∈ lw_tbl := lw_at lw_m17 101 rfl
theorem in_J44 : ∀ w ∈ wsJ440, w ∈ lw_all := lw_in wsJ440 [1602, 1604, 1606, 1608] (by decide +kernel) (by decide +kernel)

/-! java/lang/ArithmeticException -/
set_option maxRecDepth 100000
def RJ45 : String := "java/lang/ArithmeticException"
def TJ45 : u_T := fun k => match k with
  | 0 => ("java/lang/Throwable", "backtrace", "Ljava/lang/Object;", false)
  | 1 => ("java/lang/Throwable", "detailMessage", "Ljava/lang/String;", false)
  | 2 => ("java/lang/Throwable", "cause", "Ljava/lang/Throwable;", false)
  | 3 => ("java/lang/Throwable", "stackTrace", "[Ljava/lang/StackTraceElement;", false)
  | 4 => ("java/lang/Throwable", "depth", "I", false)
  | _ => ("java/lang/Throwable", "suppressedExceptions", "Ljava/util/List;", false)
def tyJ45 : Nat → FieldType := fun k => match k with
  | 0 => .object "java/lang/Object"
  | 1 => .object "java/lang/String"
  | 2 => .object "java/lang/Throwable"
  | 3 => .array (.object "java/lang/StackTraceElement")
  | 4 => .int
  | _ => .object "java/util/List"
abbrev wsJ450 : List Cond := u_ws RJ45 TJ45 6
theorem nmJ45 : ∀ a, a < 6 → ∀ b, b < 6 → a ≠ b → (TJ45 a).2.1 ≠ (TJ45 b).2.1 := by decide +kernel
theorem tyJ45_ok : ∀ k, k < 6 → parseFieldDescriptor (TJ45 k).2.2.1 = some (tyJ45 k) := by decide +kernel
abbrev cJ45_init : ByteArray := prog_25_method_2_code
def yJ45_init : MethodName := ⟨RJ45, "<init>", "(Ljava/lang/String;)V"⟩
def dkwJ45_init_0 : List UInt8 := [42, 43, 183, 0, 7, 177]
abbrev dktJ45_init_0 : List UInt8 := dkwJ45_init_0 ++ []
theorem dksJ45_init_0 : cJ45_init.data.toList.drop 0 = dktJ45_init_0 := by decide +kernel
theorem dJ45_init_0 : decode cJ45_init 0 = .ok (.aload_n 0, 1) := dk_42 (dk_at dksJ45_init_0 0 rfl rfl)
theorem dJ45_init_1 : decode cJ45_init 1 = .ok (.aload_n 1, 1) := dk_43 (dk_at dksJ45_init_0 1 rfl rfl)
theorem dJ45_init_2 : decode cJ45_init 2 = .ok (.invokespecial 7, 3) := dk_183 0 7 (dk_at dksJ45_init_0 2 rfl rfl)
theorem dJ45_init_5 : decode cJ45_init 5 = .ok (.return_, 1) := dk_177 (dk_at dksJ45_init_0 5 rfl rfl)
abbrev cJ45_init_2 : ByteArray := prog_25_method_1_code
def yJ45_init_2 : MethodName := ⟨RJ45, "<init>", "()V"⟩
theorem dJ45_init_2_0 : decode cJ45_init_2 0 = .ok (.aload_n 0, 1) := by decide +kernel
theorem dJ45_init_2_1 : decode cJ45_init_2 1 = .ok (.invokespecial 1, 3) := by decide +kernel
theorem dJ45_init_2_4 : decode cJ45_init_2 4 = .ok (.return_, 1) := by decide +kernel
theorem q188 : (Jvm.Cond.initialized "java/lang/ArithmeticException") ∈ lw_all := lw_g (lw_at lw_m1 64 rfl) rfl
theorem q533 : (Jvm.Cond.selects "java/lang/ArithmeticException" ({ cls := "java/lang/Throwable", name := "fillInStackTrace", desc := "()Ljava/lang/Throwable;" } : Jvm.MethodName) ({ cls := "java/lang/Throwable", name := "fillInStackTrace", desc := "()Ljava/lang/Throwable;" } : Jvm.MethodName)) ∈ lw_all := lw_g (lw_at lw_m2 169 rfl) rfl
theorem q936 : (Jvm.Cond.selects "java/lang/ArithmeticException" ({ cls := "java/lang/Object", name := "getClass", desc := "()Ljava/lang/Class;" } : Jvm.MethodName) ({ cls := "java/lang/Object", name := "getClass", desc := "()Ljava/lang/Class;" } : Jvm.MethodName)) ∈ lw_all := lw_g (lw_at lw_m4 92 rfl) rfl
theorem q1442 : (Jvm.Cond.selects "java/lang/ArithmeticException" ({ cls := "java/lang/Throwable", name := "toString", desc := "()Ljava/lang/String;" } : Jvm.MethodName) ({ cls := "java/lang/Throwable", name := "toString", desc := "()Ljava/lang/String;" } : Jvm.MethodName)) ∈ lw_all := lw_g (lw_at lw_m6 118 rfl) rfl
theorem q1458 : (Jvm.Cond.selects "java/lang/ArithmeticException" ({ cls := "java/lang/Throwable", name := "getLocalizedMessage", desc := "()Ljava/lang/String;" } : Jvm.MethodName) ({ cls := "java/lang/Throwable", name := "getLocalizedMessage", desc := "()Ljava/lang/String;" } : Jvm.MethodName)) ∈ lw_all := lw_g (lw_at lw_m6 134 rfl) rfl
theorem q1473 : (Jvm.Cond.selects "java/lang/ArithmeticException" ({ cls := "java/lang/Throwable", name := "getMessage", desc := "()Ljava/lang/String;" } : Jvm.MethodName) ({ cls := "java/lang/Throwable", name := "getMessage", desc := "()Ljava/lang/String;" } : Jvm.MethodName)) ∈ lw_all := lw_g (lw_at lw_m6 149 rfl) rfl
theorem q2781 : (Jvm.Cond.instantiable "java/lang/ArithmeticException" (6 : Nat)) ∈ lw_all := lw_g (lw_at lw_m12 17 rfl) rfl
theorem q2782 : (Jvm.Cond.instanceMethod ({ cls := "java/lang/ArithmeticException", name := "<init>", desc := "(Ljava/lang/String;)V" } : Jvm.MethodName)) ∈ lw_all := lw_g (lw_at lw_m12 18 rfl) rfl
theorem q2783 : (Jvm.Cond.code ({ cls := "java/lang/ArithmeticException", name := "<init>", desc := "(Ljava/lang/String;)V" } : Jvm.MethodName) prog_25_method_2_code (2 : Nat) (Option.none : Option Jvm.ClassFile.FieldType)) ∈ lw_all := lw_g (lw_at lw_m12 19 rfl) rfl
theorem q2784 : (Jvm.Cond.methodLink "java/lang/ArithmeticException" (7 : Nat) ({ cls := "java/lang/RuntimeException", name := "<init>", desc := "(Ljava/lang/String;)V" } : Jvm.MethodName)) ∈ lw_all := lw_g (lw_at lw_m12 20 rfl) rfl
theorem q2785 : (Jvm.Cond.lays "java/lang/ArithmeticException" "java/lang/Throwable" "backtrace" "Ljava/lang/Object;") ∈ lw_all := lw_g (lw_at lw_m12 21 rfl) rfl
theorem q2786 : (Jvm.Cond.lays "java/lang/ArithmeticException" "java/lang/Throwable" "detailMessage" "Ljava/lang/String;") ∈ lw_all := lw_g (lw_at lw_m12 22 rfl) rfl
theorem q2787 : (Jvm.Cond.lays "java/lang/ArithmeticException" "java/lang/Throwable" "cause" "Ljava/lang/Throwable;") ∈ lw_all := lw_g (lw_at lw_m12 23 rfl) rfl
theorem q2788 : (Jvm.Cond.lays "java/lang/ArithmeticException" "java/lang/Throwable" "stackTrace" "[Ljava/lang/StackTraceElement;") ∈ lw_all := lw_g (lw_at lw_m12 24 rfl) rfl
theorem q2789 : (Jvm.Cond.lays "java/lang/ArithmeticException" "java/lang/Throwable" "depth" "I") ∈ lw_all := lw_g (lw_at lw_m12 25 rfl) rfl
theorem q2790 : (Jvm.Cond.lays "java/lang/ArithmeticException" "java/lang/Throwable" "suppressedExceptions" "Ljava/util/List;") ∈ lw_all := lw_g (lw_at lw_m12 26 rfl) rfl
theorem q2791 : (Jvm.Cond.superclass "java/lang/ArithmeticException" "java/lang/RuntimeException") ∈ lw_all := lw_g (lw_at lw_m12 27 rfl) rfl
theorem q2792 : (Jvm.Cond.castable "java/lang/ArithmeticException" "java/lang/ArithmeticException") ∈ lw_tbl := lw_at lw_m12 28 rfl
theorem q2793 : (Jvm.Cond.selects "java/lang/ArithmeticException" ({ cls := "java/lang/Throwable", name := "fillInStackTrace", desc := "(I)Ljava/lang/Throwable;" } : Jvm.MethodName) ({ cls := "java/lang/Throwable", name := "fillInStackTrace", desc := "(I)Ljava/lang/Throwable;" } : Jvm.MethodName)) ∈ lw_all := lw_g (lw_at lw_m12 29 rfl) rfl
theorem q2804 : (Jvm.Cond.instanceMethod ({ cls := "java/lang/ArithmeticException", name := "<init>", desc := "()V" } : Jvm.MethodName)) ∈ lw_all := lw_g (lw_at lw_m12 40 rfl) rfl
theorem q2805 : (Jvm.Cond.code ({ cls := "java/lang/ArithmeticException", name := "<init>", desc := "()V" } : Jvm.MethodName) prog_25_method_1_code (1 : Nat) (Option.none : Option Jvm.ClassFile.FieldType)) ∈ lw_all := lw_g (lw_at lw_m12 41 rfl) rfl
theorem q2806 : (Jvm.Cond.methodLink "java/lang/ArithmeticException" (1 : Nat) ({ cls := "java/lang/RuntimeException", name := "<init>", desc := "()V" } : Jvm.MethodName)) ∈ lw_all := lw_g (lw_at lw_m12 42 rfl) rfl
theorem q2865 : (Jvm.Cond.selects "java/lang/ArithmeticException" ({ cls := "java/lang/Object", name := "toString", desc := "()Ljava/lang/String;" } : Jvm.MethodName) ({ cls := "java/lang/Throwable", name := "toString", desc := "()Ljava/lang/String;" } : Jvm.MethodName)) ∈ lw_all := lw_g (lw_at lw_m12 101 rfl) rfl
theorem q4066 : (Jvm.Cond.castable "java/lang/ArithmeticException" "java/lang/Object") ∈ lw_tbl := lw_at lw_m17 102 rfl
theorem in_J45 : ∀ w ∈ wsJ450, w ∈ lw_all := lw_in wsJ450 [2785, 2786, 2787, 2788, 2789, 2790] (by decide +kernel) (by decide +kernel)

/-! java/lang/StringIndexOutOfBoundsException -/
set_option maxRecDepth 100000
def RJ46 : String := "java/lang/StringIndexOutOfBoundsException"
def TJ46 : u_T := fun k => match k with
  | 0 => ("java/lang/Throwable", "backtrace", "Ljava/lang/Object;", false)
  | 1 => ("java/lang/Throwable", "detailMessage", "Ljava/lang/String;", false)
  | 2 => ("java/lang/Throwable", "cause", "Ljava/lang/Throwable;", false)
  | 3 => ("java/lang/Throwable", "stackTrace", "[Ljava/lang/StackTraceElement;", false)
  | 4 => ("java/lang/Throwable", "depth", "I", false)
  | _ => ("java/lang/Throwable", "suppressedExceptions", "Ljava/util/List;", false)
def tyJ46 : Nat → FieldType := fun k => match k with
  | 0 => .object "java/lang/Object"
  | 1 => .object "java/lang/String"
  | 2 => .object "java/lang/Throwable"
  | 3 => .array (.object "java/lang/StackTraceElement")
  | 4 => .int
  | _ => .object "java/util/List"
abbrev wsJ460 : List Cond := u_ws RJ46 TJ46 6
theorem nmJ46 : ∀ a, a < 6 → ∀ b, b < 6 → a ≠ b → (TJ46 a).2.1 ≠ (TJ46 b).2.1 := by decide +kernel
theorem tyJ46_ok : ∀ k, k < 6 → parseFieldDescriptor (TJ46 k).2.2.1 = some (tyJ46 k) := by decide +kernel
abbrev cJ46_init : ByteArray := prog_43_method_3_code
def yJ46_init : MethodName := ⟨RJ46, "<init>", "(I)V"⟩
def dkwJ46_init_0 : List UInt8 := [42, 187, 0, 10, 89, 183, 0, 12, 18, 13, 182, 0, 15, 27, 182, 0, 19, 182, 0, 22, 183, 0, 7, 177]
abbrev dktJ46_init_0 : List UInt8 := dkwJ46_init_0 ++ []
theorem dksJ46_init_0 : cJ46_init.data.toList.drop 0 = dktJ46_init_0 := by decide +kernel
theorem dJ46_init_0 : decode cJ46_init 0 = .ok (.aload_n 0, 1) := dk_42 (dk_at dksJ46_init_0 0 rfl rfl)
theorem dJ46_init_1 : decode cJ46_init 1 = .ok (.new 10, 3) := dk_187 0 10 (dk_at dksJ46_init_0 1 rfl rfl)
theorem dJ46_init_4 : decode cJ46_init 4 = .ok (.dup, 1) := dk_89 (dk_at dksJ46_init_0 4 rfl rfl)
theorem dJ46_init_5 : decode cJ46_init 5 = .ok (.invokespecial 12, 3) := dk_183 0 12 (dk_at dksJ46_init_0 5 rfl rfl)
theorem dJ46_init_8 : decode cJ46_init 8 = .ok (.ldc 13, 2) := dk_18 13 (dk_at dksJ46_init_0 8 rfl rfl)
theorem dJ46_init_10 : decode cJ46_init 10 = .ok (.invokevirtual 15, 3) := dk_182 0 15 (dk_at dksJ46_init_0 10 rfl rfl)
theorem dJ46_init_13 : decode cJ46_init 13 = .ok (.iload_n 1, 1) := dk_27 (dk_at dksJ46_init_0 13 rfl rfl)
theorem dJ46_init_14 : decode cJ46_init 14 = .ok (.invokevirtual 19, 3) := dk_182 0 19 (dk_at dksJ46_init_0 14 rfl rfl)
theorem dJ46_init_17 : decode cJ46_init 17 = .ok (.invokevirtual 22, 3) := dk_182 0 22 (dk_at dksJ46_init_0 17 rfl rfl)
theorem dJ46_init_20 : decode cJ46_init 20 = .ok (.invokespecial 7, 3) := dk_183 0 7 (dk_at dksJ46_init_0 20 rfl rfl)
theorem dJ46_init_23 : decode cJ46_init 23 = .ok (.return_, 1) := dk_177 (dk_at dksJ46_init_0 23 rfl rfl)
theorem q193 : (Jvm.Cond.initialized "java/lang/StringIndexOutOfBoundsException") ∈ lw_all := lw_g (lw_at lw_m1 69 rfl) rfl
theorem q537 : (Jvm.Cond.selects "java/lang/StringIndexOutOfBoundsException" ({ cls := "java/lang/Throwable", name := "fillInStackTrace", desc := "()Ljava/lang/Throwable;" } : Jvm.MethodName) ({ cls := "java/lang/Throwable", name := "fillInStackTrace", desc := "()Ljava/lang/Throwable;" } : Jvm.MethodName)) ∈ lw_all := lw_g (lw_at lw_m2 173 rfl) rfl
theorem q944 : (Jvm.Cond.selects "java/lang/StringIndexOutOfBoundsException" ({ cls := "java/lang/Object", name := "getClass", desc := "()Ljava/lang/Class;" } : Jvm.MethodName) ({ cls := "java/lang/Object", name := "getClass", desc := "()Ljava/lang/Class;" } : Jvm.MethodName)) ∈ lw_all := lw_g (lw_at lw_m4 100 rfl) rfl
theorem q1447 : (Jvm.Cond.selects "java/lang/StringIndexOutOfBoundsException" ({ cls := "java/lang/Throwable", name := "toString", desc := "()Ljava/lang/String;" } : Jvm.MethodName) ({ cls := "java/lang/Throwable", name := "toString", desc := "()Ljava/lang/String;" } : Jvm.MethodName)) ∈ lw_all := lw_g (lw_at lw_m6 123 rfl) rfl
theorem q1463 : (Jvm.Cond.selects "java/lang/StringIndexOutOfBoundsException" ({ cls := "java/lang/Throwable", name := "getLocalizedMessage", desc := "()Ljava/lang/String;" } : Jvm.MethodName) ({ cls := "java/lang/Throwable", name := "getLocalizedMessage", desc := "()Ljava/lang/String;" } : Jvm.MethodName)) ∈ lw_all := lw_g (lw_at lw_m6 139 rfl) rfl
theorem q1478 : (Jvm.Cond.selects "java/lang/StringIndexOutOfBoundsException" ({ cls := "java/lang/Throwable", name := "getMessage", desc := "()Ljava/lang/String;" } : Jvm.MethodName) ({ cls := "java/lang/Throwable", name := "getMessage", desc := "()Ljava/lang/String;" } : Jvm.MethodName)) ∈ lw_all := lw_g (lw_at lw_m6 154 rfl) rfl
theorem q2888 : (Jvm.Cond.selects "java/lang/StringIndexOutOfBoundsException" ({ cls := "java/lang/Object", name := "toString", desc := "()Ljava/lang/String;" } : Jvm.MethodName) ({ cls := "java/lang/Throwable", name := "toString", desc := "()Ljava/lang/String;" } : Jvm.MethodName)) ∈ lw_all := lw_g (lw_at lw_m12 124 rfl) rfl
theorem q3254 : (Jvm.Cond.instantiable "java/lang/StringIndexOutOfBoundsException" (6 : Nat)) ∈ lw_all := lw_g (lw_at lw_m14 10 rfl) rfl
theorem q3256 : (Jvm.Cond.instanceMethod ({ cls := "java/lang/StringIndexOutOfBoundsException", name := "<init>", desc := "(I)V" } : Jvm.MethodName)) ∈ lw_all := lw_g (lw_at lw_m14 12 rfl) rfl
theorem q3257 : (Jvm.Cond.code ({ cls := "java/lang/StringIndexOutOfBoundsException", name := "<init>", desc := "(I)V" } : Jvm.MethodName) prog_43_method_3_code (2 : Nat) (Option.none : Option Jvm.ClassFile.FieldType)) ∈ lw_all := lw_g (lw_at lw_m14 13 rfl) rfl
theorem q3258 : (Jvm.Cond.classLink "java/lang/StringIndexOutOfBoundsException" (10 : Nat) "java/lang/StringBuilder") ∈ lw_all := lw_g (lw_at lw_m14 14 rfl) rfl
theorem q3259 : (Jvm.Cond.methodLink "java/lang/StringIndexOutOfBoundsException" (12 : Nat) ({ cls := "java/lang/StringBuilder", name := "<init>", desc := "()V" } : Jvm.MethodName)) ∈ lw_all := lw_g (lw_at lw_m14 15 rfl) rfl
theorem q3260 : (Jvm.Cond.stringRef "java/lang/StringIndexOutOfBoundsException" (13 : Nat) "String index out of range: ") ∈ lw_tbl := lw_at lw_m14 16 rfl
theorem q3261 : (Jvm.Cond.methodLink "java/lang/StringIndexOutOfBoundsException" (15 : Nat) ({ cls := "java/lang/StringBuilder", name := "append", desc := "(Ljava/lang/String;)Ljava/lang/StringBuilder;" } : Jvm.MethodName)) ∈ lw_all := lw_g (lw_at lw_m14 17 rfl) rfl
theorem q3262 : (Jvm.Cond.methodLink "java/lang/StringIndexOutOfBoundsException" (19 : Nat) ({ cls := "java/lang/StringBuilder", name := "append", desc := "(I)Ljava/lang/StringBuilder;" } : Jvm.MethodName)) ∈ lw_all := lw_g (lw_at lw_m14 18 rfl) rfl
theorem q3263 : (Jvm.Cond.methodLink "java/lang/StringIndexOutOfBoundsException" (22 : Nat) ({ cls := "java/lang/StringBuilder", name := "toString", desc := "()Ljava/lang/String;" } : Jvm.MethodName)) ∈ lw_all := lw_g (lw_at lw_m14 19 rfl) rfl
theorem q3264 : (Jvm.Cond.methodLink "java/lang/StringIndexOutOfBoundsException" (7 : Nat) ({ cls := "java/lang/IndexOutOfBoundsException", name := "<init>", desc := "(Ljava/lang/String;)V" } : Jvm.MethodName)) ∈ lw_all := lw_g (lw_at lw_m14 20 rfl) rfl
theorem q3265 : (Jvm.Cond.lays "java/lang/StringIndexOutOfBoundsException" "java/lang/Throwable" "backtrace" "Ljava/lang/Object;") ∈ lw_all := lw_g (lw_at lw_m14 21 rfl) rfl
theorem q3266 : (Jvm.Cond.lays "java/lang/StringIndexOutOfBoundsException" "java/lang/Throwable" "detailMessage" "Ljava/lang/String;") ∈ lw_all := lw_g (lw_at lw_m14 22 rfl) rfl
theorem q3267 : (Jvm.Cond.lays "java/lang/StringIndexOutOfBoundsException" "java/lang/Throwable" "cause" "Ljava/lang/Throwable;") ∈ lw_all := lw_g (lw_at lw_m14 23 rfl) rfl
theorem q3268 : (Jvm.Cond.lays "java/lang/StringIndexOutOfBoundsException" "java/lang/Throwable" "stackTrace" "[Ljava/lang/StackTraceElement;") ∈ lw_all := lw_g (lw_at lw_m14 24 rfl) rfl
theorem q3269 : (Jvm.Cond.lays "java/lang/StringIndexOutOfBoundsException" "java/lang/Throwable" "depth" "I") ∈ lw_all := lw_g (lw_at lw_m14 25 rfl) rfl
theorem q3270 : (Jvm.Cond.lays "java/lang/StringIndexOutOfBoundsException" "java/lang/Throwable" "suppressedExceptions" "Ljava/util/List;") ∈ lw_all := lw_g (lw_at lw_m14 26 rfl) rfl
theorem q3271 : (Jvm.Cond.superclass "java/lang/StringIndexOutOfBoundsException" "java/lang/IndexOutOfBoundsException") ∈ lw_all := lw_g (lw_at lw_m14 27 rfl) rfl
theorem q4027 : (Jvm.Cond.castable "java/lang/StringIndexOutOfBoundsException" "java/lang/IndexOutOfBoundsException") ∈ lw_tbl := lw_at lw_m17 63 rfl
theorem q4072 : (Jvm.Cond.castable "java/lang/StringIndexOutOfBoundsException" "java/lang/Object") ∈ lw_tbl := lw_at lw_m17 108 rfl
theorem in_J46 : ∀ w ∈ wsJ460, w ∈ lw_all := lw_in wsJ460 [3265, 3266, 3267, 3268, 3269, 3270] (by decide +kernel) (by decide +kernel)

/-! java/lang/Object -/
set_option maxRecDepth 100000
def RJ47 : String := "java/lang/Object"
abbrev cJ47_init : ByteArray := object_method_1_code
def yJ47_init : MethodName := ⟨RJ47, "<init>", "()V"⟩
theorem dJ47_init_0 : decode cJ47_init 0 = .ok (.return_, 1) := by decide +kernel
theorem q200 : (Jvm.Cond.instanceMethod ({ cls := "java/lang/Object", name := "<init>", desc := "()V" } : Jvm.MethodName)) ∈ lw_all := lw_g (lw_at lw_m1 76 rfl) rfl
theorem q201 : (Jvm.Cond.code ({ cls := "java/lang/Object", name := "<init>", desc := "()V" } : Jvm.MethodName) object_method_1_code (1 : Nat) (Option.none : Option Jvm.ClassFile.FieldType)) ∈ lw_all := lw_g (lw_at lw_m1 77 rfl) rfl
theorem q588 : (Jvm.Cond.native ({ cls := "java/lang/Object", name := "clone", desc := "()Ljava/lang/Object;" } : Jvm.MethodName)) ∈ lw_all := lw_g (lw_at lw_m2 224 rfl) rfl
theorem q589 : (Jvm.Cond.instanceMethod ({ cls := "java/lang/Object", name := "clone", desc := "()Ljava/lang/Object;" } : Jvm.MethodName)) ∈ lw_all := lw_g (lw_at lw_m2 225 rfl) rfl
theorem q917 : (Jvm.Cond.instanceMethod ({ cls := "java/lang/Object", name := "getClass", desc := "()Ljava/lang/Class;" } : Jvm.MethodName)) ∈ lw_all := lw_g (lw_at lw_m4 73 rfl) rfl
theorem q918 : (Jvm.Cond.sameMethod "java/lang/Object" "java/lang/Object" "getClass" "()Ljava/lang/Class;") ∈ lw_all := lw_g (lw_at lw_m4 74 rfl) rfl
theorem q964 : (Jvm.Cond.native ({ cls := "java/lang/Object", name := "getClass", desc := "()Ljava/lang/Class;" } : Jvm.MethodName)) ∈ lw_all := lw_g (lw_at lw_m4 120 rfl) rfl
theorem q2836 : (Jvm.Cond.declares ({ cls := "java/lang/Object", name := "toString", desc := "()Ljava/lang/String;" } : Jvm.MethodName)) ∈ lw_tbl := lw_at lw_m12 72 rfl
theorem q2838 : (Jvm.Cond.instanceMethod ({ cls := "java/lang/Object", name := "toString", desc := "()Ljava/lang/String;" } : Jvm.MethodName)) ∈ lw_all := lw_g (lw_at lw_m12 74 rfl) rfl
theorem q2839 : (Jvm.Cond.sameMethod "java/lang/Object" "java/lang/Object" "toString" "()Ljava/lang/String;") ∈ lw_all := lw_g (lw_at lw_m12 75 rfl) rfl
theorem q4025 : (Jvm.Cond.initialized "java/lang/Object") ∈ lw_all := lw_g (lw_at lw_m17 61 rfl) rfl
theorem q4076 : (Jvm.Cond.declares ({ cls := "java/lang/Object", name := "getClass", desc := "()Ljava/lang/Class;" } : Jvm.MethodName)) ∈ lw_tbl := lw_at lw_m17 112 rfl
theorem q4091 : (Jvm.Cond.instantiable "java/lang/Object" (0 : Nat)) ∈ lw_all := lw_g (lw_at lw_m17 127 rfl) rfl

/-! java/lang/System$2 -/
set_option maxRecDepth 100000
def RJ48 : String := "java/lang/System$2"
abbrev cJ48_getUTF16Char : ByteArray := prog_47_method_45_code
def yJ48_getUTF16Char : MethodName := ⟨RJ48, "getUTF16Char", "([BI)C"⟩
def dkwJ48_getUTF16Char_0 : List UInt8 := [43, 28, 184, 0, 185, 172]
abbrev dktJ48_getUTF16Char_0 : List UInt8 := dkwJ48_getUTF16Char_0 ++ []
theorem dksJ48_getUTF16Char_0 : cJ48_getUTF16Char.data.toList.drop 0 = dktJ48_getUTF16Char_0 := by decide +kernel
theorem dJ48_getUTF16Char_0 : decode cJ48_getUTF16Char 0 = .ok (.aload_n 1, 1) := dk_43 (dk_at dksJ48_getUTF16Char_0 0 rfl rfl)
theorem dJ48_getUTF16Char_1 : decode cJ48_getUTF16Char 1 = .ok (.iload_n 2, 1) := dk_28 (dk_at dksJ48_getUTF16Char_0 1 rfl rfl)
theorem dJ48_getUTF16Char_2 : decode cJ48_getUTF16Char 2 = .ok (.invokestatic 185, 3) := dk_184 0 185 (dk_at dksJ48_getUTF16Char_0 2 rfl rfl)
theorem dJ48_getUTF16Char_5 : decode cJ48_getUTF16Char 5 = .ok (.ireturn, 1) := dk_172 (dk_at dksJ48_getUTF16Char_0 5 rfl rfl)
theorem q945 : (Jvm.Cond.selects "java/lang/System$2" ({ cls := "java/lang/Object", name := "getClass", desc := "()Ljava/lang/Class;" } : Jvm.MethodName) ({ cls := "java/lang/Object", name := "getClass", desc := "()Ljava/lang/Class;" } : Jvm.MethodName)) ∈ lw_all := lw_g (lw_at lw_m4 101 rfl) rfl
theorem q2889 : (Jvm.Cond.selects "java/lang/System$2" ({ cls := "java/lang/Object", name := "toString", desc := "()Ljava/lang/String;" } : Jvm.MethodName) ({ cls := "java/lang/Object", name := "toString", desc := "()Ljava/lang/String;" } : Jvm.MethodName)) ∈ lw_all := lw_g (lw_at lw_m12 125 rfl) rfl
theorem q3092 : (Jvm.Cond.castable "java/lang/System$2" "jdk/internal/access/JavaLangAccess") ∈ lw_tbl := lw_at lw_m13 88 rfl
theorem q3093 : (Jvm.Cond.selects "java/lang/System$2" ({ cls := "jdk/internal/access/JavaLangAccess", name := "getUTF16Char", desc := "([BI)C" } : Jvm.MethodName) ({ cls := "java/lang/System$2", name := "getUTF16Char", desc := "([BI)C" } : Jvm.MethodName)) ∈ lw_all := lw_g (lw_at lw_m13 89 rfl) rfl
theorem q3094 : (Jvm.Cond.unhidden "java/lang/System$2" "getUTF16Char" "([BI)C") ∈ lw_tbl := lw_at lw_m13 90 rfl
theorem q3095 : (Jvm.Cond.instanceMethod ({ cls := "java/lang/System$2", name := "getUTF16Char", desc := "([BI)C" } : Jvm.MethodName)) ∈ lw_all := lw_g (lw_at lw_m13 91 rfl) rfl
theorem q3096 : (Jvm.Cond.publicMethod ({ cls := "java/lang/System$2", name := "getUTF16Char", desc := "([BI)C" } : Jvm.MethodName)) ∈ lw_tbl := lw_at lw_m13 92 rfl
theorem q3097 : (Jvm.Cond.code ({ cls := "java/lang/System$2", name := "getUTF16Char", desc := "([BI)C" } : Jvm.MethodName) prog_47_method_45_code (3 : Nat) (Option.some Jvm.ClassFile.FieldType.char)) ∈ lw_all := lw_g (lw_at lw_m13 93 rfl) rfl
theorem q3098 : (Jvm.Cond.methodLink "java/lang/System$2" (185 : Nat) ({ cls := "java/lang/StringUTF16", name := "getChar", desc := "([BI)C" } : Jvm.MethodName)) ∈ lw_all := lw_g (lw_at lw_m13 94 rfl) rfl
theorem q4067 : (Jvm.Cond.castable "java/lang/System$2" "java/lang/Object") ∈ lw_tbl := lw_at lw_m17 103 rfl
