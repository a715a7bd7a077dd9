/-! DoughLedgerModel -/
set_option maxRecDepth 100000
def RX3 : String := "DoughLedgerModel"
def TX3 : u_T := fun k => match k with
  | 0 => ("DoughLedgerModel", "thrown", "I", false)
  | 1 => ("DoughLedgerModel", "w", "[J", true)
  | 2 => ("DoughLedgerModel", "undos", "[J", true)
  | 3 => ("DoughLedgerModel", "savedRow", "[J", true)
  | 4 => ("DoughLedgerModel", "before", "[J", true)
  | 5 => ("DoughLedgerModel", "changes", "I", false)
  | 6 => ("DoughLedgerModel", "firstChange", "I", false)
  | 7 => ("DoughLedgerModel", "isSaved", "Z", false)
  | 8 => ("DoughLedgerModel", "nearAbove", "I", false)
  | 9 => ("DoughLedgerModel", "nearBelow", "I", false)
  | 10 => ("DoughLedgerModel", "nearOff", "I", false)
  | 11 => ("DoughLedgerModel", "times", "[I", true)
  | 12 => ("DoughLedgerModel", "line", "[C", true)
  | 13 => ("DoughLedgerModel", "lineLength", "I", false)
  | 14 => ("DoughLedgerModel", "text", "[C", true)
  | 15 => ("DoughLedgerModel", "textLength", "I", false)
  | 16 => ("DoughLedgerModel", "textAt", "I", false)
  | 17 => ("DoughLedgerModel", "errorAt", "I", false)
  | 18 => ("DoughLedgerModel", "failedAt", "I", false)
  | 19 => ("DoughLedgerModel", "failedKind", "I", false)
  | 20 => ("DoughLedgerModel", "numbers", "[I", true)
  | 21 => ("DoughLedgerModel", "sort", "I", false)
  | _ => ("DoughLedgerModel", "done", "I", false)
def tyX3 : Nat → FieldType := fun k => match k with
  | 0 => .int
  | 1 => .array .long
  | 2 => .array .long
  | 3 => .array .long
  | 4 => .array .long
  | 5 => .int
  | 6 => .int
  | 7 => .boolean
  | 8 => .int
  | 9 => .int
  | 10 => .int
  | 11 => .array .int
  | 12 => .array .char
  | 13 => .int
  | 14 => .array .char
  | 15 => .int
  | 16 => .int
  | 17 => .int
  | 18 => .int
  | 19 => .int
  | 20 => .array .int
  | 21 => .int
  | _ => .int
abbrev wsX30 : List Cond := u_ws RX3 TX3 23
set_option maxRecDepth 100000 in
theorem nmX3 : ∀ a, a < 23 → ∀ b, b < 23 → a ≠ b → (TX3 a).2.1 ≠ (TX3 b).2.1 := by decide +kernel
set_option maxRecDepth 100000 in
theorem tyX3_ok : ∀ k, k < 23 → parseFieldDescriptor (TX3 k).2.2.1 = some (tyX3 k) := by decide +kernel
abbrev cX3_thrown : ByteArray := prog_21_method_1_code
def yX3_thrown : MethodName := ⟨RX3, "thrown", "()I"⟩
theorem dX3_thrown_0 : decode cX3_thrown 0 = .ok (.aload_n 0, 1) := by decide +kernel
theorem dX3_thrown_1 : decode cX3_thrown 1 = .ok (.getfield 1, 3) := by decide +kernel
theorem dX3_thrown_4 : decode cX3_thrown 4 = .ok (.ireturn, 1) := by decide +kernel
abbrev cX3_init : ByteArray := prog_21_method_4_code
def yX3_init : MethodName := ⟨RX3, "<init>", "()V"⟩
def dkwX3_init_4 : List UInt8 := [42, 180, 0, 13, 8, 20, 0, 46, 80, 177]
abbrev dktX3_init_4 : List UInt8 := dkwX3_init_4 ++ []
def dkwX3_init_3 : List UInt8 := [5, 188, 10, 181, 0, 43, 42, 180, 0, 13, 6, 20, 0, 46, 80, 42, 180, 0, 13, 7, 20, 0, 48, 80]
abbrev dktX3_init_3 : List UInt8 := dkwX3_init_3 ++ dktX3_init_4
def dkwX3_init_2 : List UInt8 := [188, 5, 181, 0, 30, 42, 16, 60, 188, 5, 181, 0, 34, 42, 2, 181, 0, 37, 42, 2, 181, 0, 40, 42]
abbrev dktX3_init_2 : List UInt8 := dkwX3_init_2 ++ dktX3_init_3
def dkwX3_init_1 : List UInt8 := [188, 11, 181, 0, 20, 42, 16, 56, 188, 11, 181, 0, 23, 42, 6, 188, 10, 181, 0, 26, 42, 16, 60]
abbrev dktX3_init_1 : List UInt8 := dkwX3_init_1 ++ dktX3_init_2
def dkwX3_init_0 : List UInt8 := [42, 183, 0, 7, 42, 16, 56, 188, 11, 181, 0, 13, 42, 17, 1, 192, 188, 11, 181, 0, 17, 42, 16, 56]
abbrev dktX3_init_0 : List UInt8 := dkwX3_init_0 ++ dktX3_init_1
theorem dksX3_init_0 : cX3_init.data.toList.drop 0 = dktX3_init_0 := by decide +kernel
theorem dksX3_init_1 : cX3_init.data.toList.drop 24 = dktX3_init_1 := dk_seg dksX3_init_0 24 rfl rfl
theorem dksX3_init_2 : cX3_init.data.toList.drop 47 = dktX3_init_2 := dk_seg dksX3_init_1 23 rfl rfl
theorem dksX3_init_3 : cX3_init.data.toList.drop 71 = dktX3_init_3 := dk_seg dksX3_init_2 24 rfl rfl
theorem dksX3_init_4 : cX3_init.data.toList.drop 95 = dktX3_init_4 := dk_seg dksX3_init_3 24 rfl rfl
theorem dX3_init_0 : decode cX3_init 0 = .ok (.aload_n 0, 1) := dk_42 (dk_at dksX3_init_0 0 rfl rfl)
theorem dX3_init_1 : decode cX3_init 1 = .ok (.invokespecial 7, 3) := dk_183 0 7 (dk_at dksX3_init_0 1 rfl rfl)
theorem dX3_init_4 : decode cX3_init 4 = .ok (.aload_n 0, 1) := dk_42 (dk_at dksX3_init_0 4 rfl rfl)
theorem dX3_init_5 : decode cX3_init 5 = .ok (.bipush 56, 2) := dk_16 56 (dk_at dksX3_init_0 5 rfl rfl)
theorem dX3_init_7 : decode cX3_init 7 = .ok (.newarray .long, 2) := dk_188_11 (dk_at dksX3_init_0 7 rfl rfl)
theorem dX3_init_9 : decode cX3_init 9 = .ok (.putfield 13, 3) := dk_181 0 13 (dk_at dksX3_init_0 9 rfl rfl)
theorem dX3_init_12 : decode cX3_init 12 = .ok (.aload_n 0, 1) := dk_42 (dk_at dksX3_init_0 12 rfl rfl)
theorem dX3_init_13 : decode cX3_init 13 = .ok (.sipush 448, 3) := dk_17 1 192 (dk_at dksX3_init_0 13 rfl rfl)
theorem dX3_init_16 : decode cX3_init 16 = .ok (.newarray .long, 2) := dk_188_11 (dk_at dksX3_init_0 16 rfl rfl)
theorem dX3_init_18 : decode cX3_init 18 = .ok (.putfield 17, 3) := dk_181 0 17 (dk_at dksX3_init_0 18 rfl rfl)
theorem dX3_init_21 : decode cX3_init 21 = .ok (.aload_n 0, 1) := dk_42 (dk_at dksX3_init_0 21 rfl rfl)
theorem dX3_init_22 : decode cX3_init 22 = .ok (.bipush 56, 2) := dk_16 56 (dk_at dksX3_init_0 22 rfl rfl)
theorem dX3_init_24 : decode cX3_init 24 = .ok (.newarray .long, 2) := dk_188_11 (dk_at dksX3_init_1 0 rfl rfl)
theorem dX3_init_26 : decode cX3_init 26 = .ok (.putfield 20, 3) := dk_181 0 20 (dk_at dksX3_init_1 2 rfl rfl)
theorem dX3_init_29 : decode cX3_init 29 = .ok (.aload_n 0, 1) := dk_42 (dk_at dksX3_init_1 5 rfl rfl)
theorem dX3_init_30 : decode cX3_init 30 = .ok (.bipush 56, 2) := dk_16 56 (dk_at dksX3_init_1 6 rfl rfl)
theorem dX3_init_32 : decode cX3_init 32 = .ok (.newarray .long, 2) := dk_188_11 (dk_at dksX3_init_1 8 rfl rfl)
theorem dX3_init_34 : decode cX3_init 34 = .ok (.putfield 23, 3) := dk_181 0 23 (dk_at dksX3_init_1 10 rfl rfl)
theorem dX3_init_37 : decode cX3_init 37 = .ok (.aload_n 0, 1) := dk_42 (dk_at dksX3_init_1 13 rfl rfl)
theorem dX3_init_38 : decode cX3_init 38 = .ok (.iconst 3, 1) := dk_6 (dk_at dksX3_init_1 14 rfl rfl)
theorem dX3_init_39 : decode cX3_init 39 = .ok (.newarray .int, 2) := dk_188_10 (dk_at dksX3_init_1 15 rfl rfl)
theorem dX3_init_41 : decode cX3_init 41 = .ok (.putfield 26, 3) := dk_181 0 26 (dk_at dksX3_init_1 17 rfl rfl)
theorem dX3_init_44 : decode cX3_init 44 = .ok (.aload_n 0, 1) := dk_42 (dk_at dksX3_init_1 20 rfl rfl)
theorem dX3_init_45 : decode cX3_init 45 = .ok (.bipush 60, 2) := dk_16 60 (dk_at dksX3_init_1 21 rfl rfl)
theorem dX3_init_47 : decode cX3_init 47 = .ok (.newarray .char, 2) := dk_188_5 (dk_at dksX3_init_2 0 rfl rfl)
theorem dX3_init_49 : decode cX3_init 49 = .ok (.putfield 30, 3) := dk_181 0 30 (dk_at dksX3_init_2 2 rfl rfl)
theorem dX3_init_52 : decode cX3_init 52 = .ok (.aload_n 0, 1) := dk_42 (dk_at dksX3_init_2 5 rfl rfl)
theorem dX3_init_53 : decode cX3_init 53 = .ok (.bipush 60, 2) := dk_16 60 (dk_at dksX3_init_2 6 rfl rfl)
theorem dX3_init_55 : decode cX3_init 55 = .ok (.newarray .char, 2) := dk_188_5 (dk_at dksX3_init_2 8 rfl rfl)
theorem dX3_init_57 : decode cX3_init 57 = .ok (.putfield 34, 3) := dk_181 0 34 (dk_at dksX3_init_2 10 rfl rfl)
theorem dX3_init_60 : decode cX3_init 60 = .ok (.aload_n 0, 1) := dk_42 (dk_at dksX3_init_2 13 rfl rfl)
theorem dX3_init_61 : decode cX3_init 61 = .ok (.iconst (-1), 1) := dk_2 (dk_at dksX3_init_2 14 rfl rfl)
theorem dX3_init_62 : decode cX3_init 62 = .ok (.putfield 37, 3) := dk_181 0 37 (dk_at dksX3_init_2 15 rfl rfl)
theorem dX3_init_65 : decode cX3_init 65 = .ok (.aload_n 0, 1) := dk_42 (dk_at dksX3_init_2 18 rfl rfl)
theorem dX3_init_66 : decode cX3_init 66 = .ok (.iconst (-1), 1) := dk_2 (dk_at dksX3_init_2 19 rfl rfl)
theorem dX3_init_67 : decode cX3_init 67 = .ok (.putfield 40, 3) := dk_181 0 40 (dk_at dksX3_init_2 20 rfl rfl)
theorem dX3_init_70 : decode cX3_init 70 = .ok (.aload_n 0, 1) := dk_42 (dk_at dksX3_init_2 23 rfl rfl)
theorem dX3_init_71 : decode cX3_init 71 = .ok (.iconst 2, 1) := dk_5 (dk_at dksX3_init_3 0 rfl rfl)
theorem dX3_init_72 : decode cX3_init 72 = .ok (.newarray .int, 2) := dk_188_10 (dk_at dksX3_init_3 1 rfl rfl)
theorem dX3_init_74 : decode cX3_init 74 = .ok (.putfield 43, 3) := dk_181 0 43 (dk_at dksX3_init_3 3 rfl rfl)
theorem dX3_init_77 : decode cX3_init 77 = .ok (.aload_n 0, 1) := dk_42 (dk_at dksX3_init_3 6 rfl rfl)
theorem dX3_init_78 : decode cX3_init 78 = .ok (.getfield 13, 3) := dk_180 0 13 (dk_at dksX3_init_3 7 rfl rfl)
theorem dX3_init_81 : decode cX3_init 81 = .ok (.iconst 3, 1) := dk_6 (dk_at dksX3_init_3 10 rfl rfl)
theorem dX3_init_82 : decode cX3_init 82 = .ok (.ldc2_w 46, 3) := dk_20 0 46 (dk_at dksX3_init_3 11 rfl rfl)
theorem dX3_init_85 : decode cX3_init 85 = .ok (.lastore, 1) := dk_80 (dk_at dksX3_init_3 14 rfl rfl)
theorem dX3_init_86 : decode cX3_init 86 = .ok (.aload_n 0, 1) := dk_42 (dk_at dksX3_init_3 15 rfl rfl)
theorem dX3_init_87 : decode cX3_init 87 = .ok (.getfield 13, 3) := dk_180 0 13 (dk_at dksX3_init_3 16 rfl rfl)
theorem dX3_init_90 : decode cX3_init 90 = .ok (.iconst 4, 1) := dk_7 (dk_at dksX3_init_3 19 rfl rfl)
theorem dX3_init_91 : decode cX3_init 91 = .ok (.ldc2_w 48, 3) := dk_20 0 48 (dk_at dksX3_init_3 20 rfl rfl)
theorem dX3_init_94 : decode cX3_init 94 = .ok (.lastore, 1) := dk_80 (dk_at dksX3_init_3 23 rfl rfl)
theorem dX3_init_95 : decode cX3_init 95 = .ok (.aload_n 0, 1) := dk_42 (dk_at dksX3_init_4 0 rfl rfl)
theorem dX3_init_96 : decode cX3_init 96 = .ok (.getfield 13, 3) := dk_180 0 13 (dk_at dksX3_init_4 1 rfl rfl)
theorem dX3_init_99 : decode cX3_init 99 = .ok (.iconst 5, 1) := dk_8 (dk_at dksX3_init_4 4 rfl rfl)
theorem dX3_init_100 : decode cX3_init 100 = .ok (.ldc2_w 46, 3) := dk_20 0 46 (dk_at dksX3_init_4 5 rfl rfl)
theorem dX3_init_103 : decode cX3_init 103 = .ok (.lastore, 1) := dk_80 (dk_at dksX3_init_4 8 rfl rfl)
theorem dX3_init_104 : decode cX3_init 104 = .ok (.return_, 1) := dk_177 (dk_at dksX3_init_4 9 rfl rfl)
abbrev cX3_addDough : ByteArray := prog_21_method_16_code
def yX3_addDough : MethodName := ⟨RX3, "addDough", "(II)I"⟩
def dkwX3_addDough_1 : List UInt8 := [182, 0, 84, 42, 27, 28, 182, 0, 87, 172]
abbrev dktX3_addDough_1 : List UInt8 := dkwX3_addDough_1 ++ []
def dkwX3_addDough_0 : List UInt8 := [42, 3, 181, 0, 1, 42, 27, 28, 182, 0, 78, 62, 29, 153, 0, 9, 42, 29, 182, 0, 81, 172, 42]
abbrev dktX3_addDough_0 : List UInt8 := dkwX3_addDough_0 ++ dktX3_addDough_1
theorem dksX3_addDough_0 : cX3_addDough.data.toList.drop 0 = dktX3_addDough_0 := by decide +kernel
theorem dksX3_addDough_1 : cX3_addDough.data.toList.drop 23 = dktX3_addDough_1 := dk_seg dksX3_addDough_0 23 rfl rfl
theorem dX3_addDough_0 : decode cX3_addDough 0 = .ok (.aload_n 0, 1) := dk_42 (dk_at dksX3_addDough_0 0 rfl rfl)
theorem dX3_addDough_1 : decode cX3_addDough 1 = .ok (.iconst 0, 1) := dk_3 (dk_at dksX3_addDough_0 1 rfl rfl)
theorem dX3_addDough_2 : decode cX3_addDough 2 = .ok (.putfield 1, 3) := dk_181 0 1 (dk_at dksX3_addDough_0 2 rfl rfl)
theorem dX3_addDough_5 : decode cX3_addDough 5 = .ok (.aload_n 0, 1) := dk_42 (dk_at dksX3_addDough_0 5 rfl rfl)
theorem dX3_addDough_6 : decode cX3_addDough 6 = .ok (.iload_n 1, 1) := dk_27 (dk_at dksX3_addDough_0 6 rfl rfl)
theorem dX3_addDough_7 : decode cX3_addDough 7 = .ok (.iload_n 2, 1) := dk_28 (dk_at dksX3_addDough_0 7 rfl rfl)
theorem dX3_addDough_8 : decode cX3_addDough 8 = .ok (.invokevirtual 78, 3) := dk_182 0 78 (dk_at dksX3_addDough_0 8 rfl rfl)
theorem dX3_addDough_11 : decode cX3_addDough 11 = .ok (.istore_n 3, 1) := dk_62 (dk_at dksX3_addDough_0 11 rfl rfl)
theorem dX3_addDough_12 : decode cX3_addDough 12 = .ok (.iload_n 3, 1) := dk_29 (dk_at dksX3_addDough_0 12 rfl rfl)
theorem dX3_addDough_13 : decode cX3_addDough 13 = .ok (.ifCond .eq 9, 3) := dk_153 0 9 (dk_at dksX3_addDough_0 13 rfl rfl)
theorem dX3_addDough_16 : decode cX3_addDough 16 = .ok (.aload_n 0, 1) := dk_42 (dk_at dksX3_addDough_0 16 rfl rfl)
theorem dX3_addDough_17 : decode cX3_addDough 17 = .ok (.iload_n 3, 1) := dk_29 (dk_at dksX3_addDough_0 17 rfl rfl)
theorem dX3_addDough_18 : decode cX3_addDough 18 = .ok (.invokevirtual 81, 3) := dk_182 0 81 (dk_at dksX3_addDough_0 18 rfl rfl)
theorem dX3_addDough_21 : decode cX3_addDough 21 = .ok (.ireturn, 1) := dk_172 (dk_at dksX3_addDough_0 21 rfl rfl)
theorem dX3_addDough_22 : decode cX3_addDough 22 = .ok (.aload_n 0, 1) := dk_42 (dk_at dksX3_addDough_0 22 rfl rfl)
theorem dX3_addDough_23 : decode cX3_addDough 23 = .ok (.invokevirtual 84, 3) := dk_182 0 84 (dk_at dksX3_addDough_1 0 rfl rfl)
theorem dX3_addDough_26 : decode cX3_addDough 26 = .ok (.aload_n 0, 1) := dk_42 (dk_at dksX3_addDough_1 3 rfl rfl)
theorem dX3_addDough_27 : decode cX3_addDough 27 = .ok (.iload_n 1, 1) := dk_27 (dk_at dksX3_addDough_1 4 rfl rfl)
theorem dX3_addDough_28 : decode cX3_addDough 28 = .ok (.iload_n 2, 1) := dk_28 (dk_at dksX3_addDough_1 5 rfl rfl)
theorem dX3_addDough_29 : decode cX3_addDough 29 = .ok (.invokevirtual 87, 3) := dk_182 0 87 (dk_at dksX3_addDough_1 6 rfl rfl)
theorem dX3_addDough_32 : decode cX3_addDough 32 = .ok (.ireturn, 1) := dk_172 (dk_at dksX3_addDough_1 9 rfl rfl)
abbrev cX3_notDough : ByteArray := prog_21_method_14_code
def yX3_notDough : MethodName := ⟨RX3, "notDough", "(II)I"⟩
def dkwX3_notDough_1 : List UInt8 := [3, 182, 0, 62, 16, 6, 160, 0, 7, 5, 167, 0, 4, 3, 172]
abbrev dktX3_notDough_1 : List UInt8 := dkwX3_notDough_1 ++ []
def dkwX3_notDough_0 : List UInt8 := [27, 3, 17, 39, 15, 184, 0, 66, 153, 0, 13, 28, 4, 16, 12, 184, 0, 66, 154, 0, 5, 4, 172, 42]
abbrev dktX3_notDough_0 : List UInt8 := dkwX3_notDough_0 ++ dktX3_notDough_1
theorem dksX3_notDough_0 : cX3_notDough.data.toList.drop 0 = dktX3_notDough_0 := by decide +kernel
theorem dksX3_notDough_1 : cX3_notDough.data.toList.drop 24 = dktX3_notDough_1 := dk_seg dksX3_notDough_0 24 rfl rfl
theorem dX3_notDough_0 : decode cX3_notDough 0 = .ok (.iload_n 1, 1) := dk_27 (dk_at dksX3_notDough_0 0 rfl rfl)
theorem dX3_notDough_1 : decode cX3_notDough 1 = .ok (.iconst 0, 1) := dk_3 (dk_at dksX3_notDough_0 1 rfl rfl)
theorem dX3_notDough_2 : decode cX3_notDough 2 = .ok (.sipush 9999, 3) := dk_17 39 15 (dk_at dksX3_notDough_0 2 rfl rfl)
theorem dX3_notDough_5 : decode cX3_notDough 5 = .ok (.invokestatic 66, 3) := dk_184 0 66 (dk_at dksX3_notDough_0 5 rfl rfl)
theorem dX3_notDough_8 : decode cX3_notDough 8 = .ok (.ifCond .eq 13, 3) := dk_153 0 13 (dk_at dksX3_notDough_0 8 rfl rfl)
theorem dX3_notDough_11 : decode cX3_notDough 11 = .ok (.iload_n 2, 1) := dk_28 (dk_at dksX3_notDough_0 11 rfl rfl)
theorem dX3_notDough_12 : decode cX3_notDough 12 = .ok (.iconst 1, 1) := dk_4 (dk_at dksX3_notDough_0 12 rfl rfl)
theorem dX3_notDough_13 : decode cX3_notDough 13 = .ok (.bipush 12, 2) := dk_16 12 (dk_at dksX3_notDough_0 13 rfl rfl)
theorem dX3_notDough_15 : decode cX3_notDough 15 = .ok (.invokestatic 66, 3) := dk_184 0 66 (dk_at dksX3_notDough_0 15 rfl rfl)
theorem dX3_notDough_18 : decode cX3_notDough 18 = .ok (.ifCond .ne 5, 3) := dk_154 0 5 (dk_at dksX3_notDough_0 18 rfl rfl)
theorem dX3_notDough_21 : decode cX3_notDough 21 = .ok (.iconst 1, 1) := dk_4 (dk_at dksX3_notDough_0 21 rfl rfl)
theorem dX3_notDough_22 : decode cX3_notDough 22 = .ok (.ireturn, 1) := dk_172 (dk_at dksX3_notDough_0 22 rfl rfl)
theorem dX3_notDough_23 : decode cX3_notDough 23 = .ok (.aload_n 0, 1) := dk_42 (dk_at dksX3_notDough_0 23 rfl rfl)
theorem dX3_notDough_24 : decode cX3_notDough 24 = .ok (.iconst 0, 1) := dk_3 (dk_at dksX3_notDough_1 0 rfl rfl)
theorem dX3_notDough_25 : decode cX3_notDough 25 = .ok (.invokevirtual 62, 3) := dk_182 0 62 (dk_at dksX3_notDough_1 1 rfl rfl)
theorem dX3_notDough_28 : decode cX3_notDough 28 = .ok (.bipush 6, 2) := dk_16 6 (dk_at dksX3_notDough_1 4 rfl rfl)
theorem dX3_notDough_30 : decode cX3_notDough 30 = .ok (.if_icmp .ne 7, 3) := dk_160 0 7 (dk_at dksX3_notDough_1 6 rfl rfl)
theorem dX3_notDough_33 : decode cX3_notDough 33 = .ok (.iconst 2, 1) := dk_5 (dk_at dksX3_notDough_1 9 rfl rfl)
theorem dX3_notDough_34 : decode cX3_notDough 34 = .ok (.goto 4, 3) := dk_167 0 4 (dk_at dksX3_notDough_1 10 rfl rfl)
theorem dX3_notDough_37 : decode cX3_notDough 37 = .ok (.iconst 0, 1) := dk_3 (dk_at dksX3_notDough_1 13 rfl rfl)
theorem dX3_notDough_38 : decode cX3_notDough 38 = .ok (.ireturn, 1) := dk_172 (dk_at dksX3_notDough_1 14 rfl rfl)
abbrev cX3_isBetween : ByteArray := prog_21_method_3_code
def yX3_isBetween : MethodName := ⟨RX3, "isBetween", "(III)Z"⟩
def dkwX3_isBetween_0 : List UInt8 := [27, 26, 163, 0, 12, 26, 28, 163, 0, 7, 4, 167, 0, 4, 3, 172]
abbrev dktX3_isBetween_0 : List UInt8 := dkwX3_isBetween_0 ++ []
theorem dksX3_isBetween_0 : cX3_isBetween.data.toList.drop 0 = dktX3_isBetween_0 := by decide +kernel
theorem dX3_isBetween_0 : decode cX3_isBetween 0 = .ok (.iload_n 1, 1) := dk_27 (dk_at dksX3_isBetween_0 0 rfl rfl)
theorem dX3_isBetween_1 : decode cX3_isBetween 1 = .ok (.iload_n 0, 1) := dk_26 (dk_at dksX3_isBetween_0 1 rfl rfl)
theorem dX3_isBetween_2 : decode cX3_isBetween 2 = .ok (.if_icmp .gt 12, 3) := dk_163 0 12 (dk_at dksX3_isBetween_0 2 rfl rfl)
theorem dX3_isBetween_5 : decode cX3_isBetween 5 = .ok (.iload_n 0, 1) := dk_26 (dk_at dksX3_isBetween_0 5 rfl rfl)
theorem dX3_isBetween_6 : decode cX3_isBetween 6 = .ok (.iload_n 2, 1) := dk_28 (dk_at dksX3_isBetween_0 6 rfl rfl)
theorem dX3_isBetween_7 : decode cX3_isBetween 7 = .ok (.if_icmp .gt 7, 3) := dk_163 0 7 (dk_at dksX3_isBetween_0 7 rfl rfl)
theorem dX3_isBetween_10 : decode cX3_isBetween 10 = .ok (.iconst 1, 1) := dk_4 (dk_at dksX3_isBetween_0 10 rfl rfl)
theorem dX3_isBetween_11 : decode cX3_isBetween 11 = .ok (.goto 4, 3) := dk_167 0 4 (dk_at dksX3_isBetween_0 11 rfl rfl)
theorem dX3_isBetween_14 : decode cX3_isBetween 14 = .ok (.iconst 0, 1) := dk_3 (dk_at dksX3_isBetween_0 14 rfl rfl)
theorem dX3_isBetween_15 : decode cX3_isBetween 15 = .ok (.ireturn, 1) := dk_172 (dk_at dksX3_isBetween_0 15 rfl rfl)
abbrev cX3_at : ByteArray := prog_21_method_5_code
def yX3_at : MethodName := ⟨RX3, "at", "(I)I"⟩
def dkwX3_at_0 : List UInt8 := [42, 180, 0, 13, 27, 47, 136, 172]
abbrev dktX3_at_0 : List UInt8 := dkwX3_at_0 ++ []
theorem dksX3_at_0 : cX3_at.data.toList.drop 0 = dktX3_at_0 := by decide +kernel
theorem dX3_at_0 : decode cX3_at 0 = .ok (.aload_n 0, 1) := dk_42 (dk_at dksX3_at_0 0 rfl rfl)
theorem dX3_at_1 : decode cX3_at 1 = .ok (.getfield 13, 3) := dk_180 0 13 (dk_at dksX3_at_0 1 rfl rfl)
theorem dX3_at_4 : decode cX3_at 4 = .ok (.iload_n 1, 1) := dk_27 (dk_at dksX3_at_0 4 rfl rfl)
theorem dX3_at_5 : decode cX3_at 5 = .ok (.laload, 1) := dk_47 (dk_at dksX3_at_0 5 rfl rfl)
theorem dX3_at_6 : decode cX3_at 6 = .ok (.l2i, 1) := dk_136 (dk_at dksX3_at_0 6 rfl rfl)
theorem dX3_at_7 : decode cX3_at 7 = .ok (.ireturn, 1) := dk_172 (dk_at dksX3_at_0 7 rfl rfl)
abbrev cX3_fails : ByteArray := prog_21_method_2_code
def yX3_fails : MethodName := ⟨RX3, "fails", "(I)I"⟩
def dkwX3_fails_0 : List UInt8 := [42, 27, 181, 0, 1, 3, 172]
abbrev dktX3_fails_0 : List UInt8 := dkwX3_fails_0 ++ []
theorem dksX3_fails_0 : cX3_fails.data.toList.drop 0 = dktX3_fails_0 := by decide +kernel
theorem dX3_fails_0 : decode cX3_fails 0 = .ok (.aload_n 0, 1) := dk_42 (dk_at dksX3_fails_0 0 rfl rfl)
theorem dX3_fails_1 : decode cX3_fails 1 = .ok (.iload_n 1, 1) := dk_27 (dk_at dksX3_fails_0 1 rfl rfl)
theorem dX3_fails_2 : decode cX3_fails 2 = .ok (.putfield 1, 3) := dk_181 0 1 (dk_at dksX3_fails_0 2 rfl rfl)
theorem dX3_fails_5 : decode cX3_fails 5 = .ok (.iconst 0, 1) := dk_3 (dk_at dksX3_fails_0 5 rfl rfl)
theorem dX3_fails_6 : decode cX3_fails 6 = .ok (.ireturn, 1) := dk_172 (dk_at dksX3_fails_0 6 rfl rfl)
abbrev cX3_remembers : ByteArray := prog_21_method_9_code
def yX3_remembers : MethodName := ⟨RX3, "remembers", "()V"⟩
def dkwX3_remembers_0 : List UInt8 := [42, 182, 0, 56, 42, 182, 0, 59, 177]
abbrev dktX3_remembers_0 : List UInt8 := dkwX3_remembers_0 ++ []
theorem dksX3_remembers_0 : cX3_remembers.data.toList.drop 0 = dktX3_remembers_0 := by decide +kernel
theorem dX3_remembers_0 : decode cX3_remembers 0 = .ok (.aload_n 0, 1) := dk_42 (dk_at dksX3_remembers_0 0 rfl rfl)
theorem dX3_remembers_1 : decode cX3_remembers 1 = .ok (.invokevirtual 56, 3) := dk_182 0 56 (dk_at dksX3_remembers_0 1 rfl rfl)
theorem dX3_remembers_4 : decode cX3_remembers 4 = .ok (.aload_n 0, 1) := dk_42 (dk_at dksX3_remembers_0 4 rfl rfl)
theorem dX3_remembers_5 : decode cX3_remembers 5 = .ok (.invokevirtual 59, 3) := dk_182 0 59 (dk_at dksX3_remembers_0 5 rfl rfl)
theorem dX3_remembers_8 : decode cX3_remembers 8 = .ok (.return_, 1) := dk_177 (dk_at dksX3_remembers_0 8 rfl rfl)
abbrev cX3_copies : ByteArray := prog_21_method_6_code
def yX3_copies : MethodName := ⟨RX3, "copies", "()V"⟩
def dkwX3_copies_1 : List UInt8 := [167, 255, 235, 177]
abbrev dktX3_copies_1 : List UInt8 := dkwX3_copies_1 ++ []
def dkwX3_copies_0 : List UInt8 := [3, 60, 27, 16, 56, 162, 0, 21, 42, 180, 0, 23, 27, 42, 180, 0, 13, 27, 47, 80, 132, 1, 1]
abbrev dktX3_copies_0 : List UInt8 := dkwX3_copies_0 ++ dktX3_copies_1
theorem dksX3_copies_0 : cX3_copies.data.toList.drop 0 = dktX3_copies_0 := by decide +kernel
theorem dksX3_copies_1 : cX3_copies.data.toList.drop 23 = dktX3_copies_1 := dk_seg dksX3_copies_0 23 rfl rfl
theorem dX3_copies_0 : decode cX3_copies 0 = .ok (.iconst 0, 1) := dk_3 (dk_at dksX3_copies_0 0 rfl rfl)
theorem dX3_copies_1 : decode cX3_copies 1 = .ok (.istore_n 1, 1) := dk_60 (dk_at dksX3_copies_0 1 rfl rfl)
theorem dX3_copies_2 : decode cX3_copies 2 = .ok (.iload_n 1, 1) := dk_27 (dk_at dksX3_copies_0 2 rfl rfl)
theorem dX3_copies_3 : decode cX3_copies 3 = .ok (.bipush 56, 2) := dk_16 56 (dk_at dksX3_copies_0 3 rfl rfl)
theorem dX3_copies_5 : decode cX3_copies 5 = .ok (.if_icmp .ge 21, 3) := dk_162 0 21 (dk_at dksX3_copies_0 5 rfl rfl)
theorem dX3_copies_8 : decode cX3_copies 8 = .ok (.aload_n 0, 1) := dk_42 (dk_at dksX3_copies_0 8 rfl rfl)
theorem dX3_copies_9 : decode cX3_copies 9 = .ok (.getfield 23, 3) := dk_180 0 23 (dk_at dksX3_copies_0 9 rfl rfl)
theorem dX3_copies_12 : decode cX3_copies 12 = .ok (.iload_n 1, 1) := dk_27 (dk_at dksX3_copies_0 12 rfl rfl)
theorem dX3_copies_13 : decode cX3_copies 13 = .ok (.aload_n 0, 1) := dk_42 (dk_at dksX3_copies_0 13 rfl rfl)
theorem dX3_copies_14 : decode cX3_copies 14 = .ok (.getfield 13, 3) := dk_180 0 13 (dk_at dksX3_copies_0 14 rfl rfl)
theorem dX3_copies_17 : decode cX3_copies 17 = .ok (.iload_n 1, 1) := dk_27 (dk_at dksX3_copies_0 17 rfl rfl)
theorem dX3_copies_18 : decode cX3_copies 18 = .ok (.laload, 1) := dk_47 (dk_at dksX3_copies_0 18 rfl rfl)
theorem dX3_copies_19 : decode cX3_copies 19 = .ok (.lastore, 1) := dk_80 (dk_at dksX3_copies_0 19 rfl rfl)
theorem dX3_copies_20 : decode cX3_copies 20 = .ok (.iinc 1 1, 3) := dk_132 1 1 (dk_at dksX3_copies_0 20 rfl rfl)
theorem dX3_copies_23 : decode cX3_copies 23 = .ok (.goto (-21), 3) := dk_167 255 235 (dk_at dksX3_copies_1 0 rfl rfl)
theorem dX3_copies_26 : decode cX3_copies 26 = .ok (.return_, 1) := dk_177 (dk_at dksX3_copies_1 3 rfl rfl)
abbrev cX3_keeps : ByteArray := prog_21_method_8_code
def yX3_keeps : MethodName := ⟨RX3, "keeps", "()V"⟩
def dkwX3_keeps_3 : List UInt8 := [132, 2, 1, 167, 255, 230, 42, 89, 180, 0, 50, 4, 96, 181, 0, 50, 177]
abbrev dktX3_keeps_3 : List UInt8 := dkwX3_keeps_3 ++ []
def dkwX3_keeps_2 : List UInt8 := [16, 56, 162, 0, 26, 42, 180, 0, 17, 16, 56, 27, 104, 28, 96, 42, 180, 0, 23, 28, 47, 80]
abbrev dktX3_keeps_2 : List UInt8 := dkwX3_keeps_2 ++ dktX3_keeps_3
def dkwX3_keeps_1 : List UInt8 := [180, 0, 50, 4, 100, 181, 0, 50, 42, 180, 0, 53, 42, 180, 0, 50, 96, 16, 8, 112, 60, 3, 61, 28]
abbrev dktX3_keeps_1 : List UInt8 := dkwX3_keeps_1 ++ dktX3_keeps_2
def dkwX3_keeps_0 : List UInt8 := [42, 180, 0, 50, 16, 8, 160, 0, 26, 42, 42, 180, 0, 53, 4, 96, 16, 8, 112, 181, 0, 53, 42, 89]
abbrev dktX3_keeps_0 : List UInt8 := dkwX3_keeps_0 ++ dktX3_keeps_1
theorem dksX3_keeps_0 : cX3_keeps.data.toList.drop 0 = dktX3_keeps_0 := by decide +kernel
theorem dksX3_keeps_1 : cX3_keeps.data.toList.drop 24 = dktX3_keeps_1 := dk_seg dksX3_keeps_0 24 rfl rfl
theorem dksX3_keeps_2 : cX3_keeps.data.toList.drop 48 = dktX3_keeps_2 := dk_seg dksX3_keeps_1 24 rfl rfl
theorem dksX3_keeps_3 : cX3_keeps.data.toList.drop 70 = dktX3_keeps_3 := dk_seg dksX3_keeps_2 22 rfl rfl
theorem dX3_keeps_0 : decode cX3_keeps 0 = .ok (.aload_n 0, 1) := dk_42 (dk_at dksX3_keeps_0 0 rfl rfl)
theorem dX3_keeps_1 : decode cX3_keeps 1 = .ok (.getfield 50, 3) := dk_180 0 50 (dk_at dksX3_keeps_0 1 rfl rfl)
theorem dX3_keeps_4 : decode cX3_keeps 4 = .ok (.bipush 8, 2) := dk_16 8 (dk_at dksX3_keeps_0 4 rfl rfl)
theorem dX3_keeps_6 : decode cX3_keeps 6 = .ok (.if_icmp .ne 26, 3) := dk_160 0 26 (dk_at dksX3_keeps_0 6 rfl rfl)
theorem dX3_keeps_9 : decode cX3_keeps 9 = .ok (.aload_n 0, 1) := dk_42 (dk_at dksX3_keeps_0 9 rfl rfl)
theorem dX3_keeps_10 : decode cX3_keeps 10 = .ok (.aload_n 0, 1) := dk_42 (dk_at dksX3_keeps_0 10 rfl rfl)
theorem dX3_keeps_11 : decode cX3_keeps 11 = .ok (.getfield 53, 3) := dk_180 0 53 (dk_at dksX3_keeps_0 11 rfl rfl)
theorem dX3_keeps_14 : decode cX3_keeps 14 = .ok (.iconst 1, 1) := dk_4 (dk_at dksX3_keeps_0 14 rfl rfl)
theorem dX3_keeps_15 : decode cX3_keeps 15 = .ok (.iadd, 1) := dk_96 (dk_at dksX3_keeps_0 15 rfl rfl)
theorem dX3_keeps_16 : decode cX3_keeps 16 = .ok (.bipush 8, 2) := dk_16 8 (dk_at dksX3_keeps_0 16 rfl rfl)
theorem dX3_keeps_18 : decode cX3_keeps 18 = .ok (.irem, 1) := dk_112 (dk_at dksX3_keeps_0 18 rfl rfl)
theorem dX3_keeps_19 : decode cX3_keeps 19 = .ok (.putfield 53, 3) := dk_181 0 53 (dk_at dksX3_keeps_0 19 rfl rfl)
theorem dX3_keeps_22 : decode cX3_keeps 22 = .ok (.aload_n 0, 1) := dk_42 (dk_at dksX3_keeps_0 22 rfl rfl)
theorem dX3_keeps_23 : decode cX3_keeps 23 = .ok (.dup, 1) := dk_89 (dk_at dksX3_keeps_0 23 rfl rfl)
theorem dX3_keeps_24 : decode cX3_keeps 24 = .ok (.getfield 50, 3) := dk_180 0 50 (dk_at dksX3_keeps_1 0 rfl rfl)
theorem dX3_keeps_27 : decode cX3_keeps 27 = .ok (.iconst 1, 1) := dk_4 (dk_at dksX3_keeps_1 3 rfl rfl)
theorem dX3_keeps_28 : decode cX3_keeps 28 = .ok (.isub, 1) := dk_100 (dk_at dksX3_keeps_1 4 rfl rfl)
theorem dX3_keeps_29 : decode cX3_keeps 29 = .ok (.putfield 50, 3) := dk_181 0 50 (dk_at dksX3_keeps_1 5 rfl rfl)
theorem dX3_keeps_32 : decode cX3_keeps 32 = .ok (.aload_n 0, 1) := dk_42 (dk_at dksX3_keeps_1 8 rfl rfl)
theorem dX3_keeps_33 : decode cX3_keeps 33 = .ok (.getfield 53, 3) := dk_180 0 53 (dk_at dksX3_keeps_1 9 rfl rfl)
theorem dX3_keeps_36 : decode cX3_keeps 36 = .ok (.aload_n 0, 1) := dk_42 (dk_at dksX3_keeps_1 12 rfl rfl)
theorem dX3_keeps_37 : decode cX3_keeps 37 = .ok (.getfield 50, 3) := dk_180 0 50 (dk_at dksX3_keeps_1 13 rfl rfl)
theorem dX3_keeps_40 : decode cX3_keeps 40 = .ok (.iadd, 1) := dk_96 (dk_at dksX3_keeps_1 16 rfl rfl)
theorem dX3_keeps_41 : decode cX3_keeps 41 = .ok (.bipush 8, 2) := dk_16 8 (dk_at dksX3_keeps_1 17 rfl rfl)
theorem dX3_keeps_43 : decode cX3_keeps 43 = .ok (.irem, 1) := dk_112 (dk_at dksX3_keeps_1 19 rfl rfl)
theorem dX3_keeps_44 : decode cX3_keeps 44 = .ok (.istore_n 1, 1) := dk_60 (dk_at dksX3_keeps_1 20 rfl rfl)
theorem dX3_keeps_45 : decode cX3_keeps 45 = .ok (.iconst 0, 1) := dk_3 (dk_at dksX3_keeps_1 21 rfl rfl)
theorem dX3_keeps_46 : decode cX3_keeps 46 = .ok (.istore_n 2, 1) := dk_61 (dk_at dksX3_keeps_1 22 rfl rfl)
theorem dX3_keeps_47 : decode cX3_keeps 47 = .ok (.iload_n 2, 1) := dk_28 (dk_at dksX3_keeps_1 23 rfl rfl)
theorem dX3_keeps_48 : decode cX3_keeps 48 = .ok (.bipush 56, 2) := dk_16 56 (dk_at dksX3_keeps_2 0 rfl rfl)
theorem dX3_keeps_50 : decode cX3_keeps 50 = .ok (.if_icmp .ge 26, 3) := dk_162 0 26 (dk_at dksX3_keeps_2 2 rfl rfl)
theorem dX3_keeps_53 : decode cX3_keeps 53 = .ok (.aload_n 0, 1) := dk_42 (dk_at dksX3_keeps_2 5 rfl rfl)
theorem dX3_keeps_54 : decode cX3_keeps 54 = .ok (.getfield 17, 3) := dk_180 0 17 (dk_at dksX3_keeps_2 6 rfl rfl)
theorem dX3_keeps_57 : decode cX3_keeps 57 = .ok (.bipush 56, 2) := dk_16 56 (dk_at dksX3_keeps_2 9 rfl rfl)
theorem dX3_keeps_59 : decode cX3_keeps 59 = .ok (.iload_n 1, 1) := dk_27 (dk_at dksX3_keeps_2 11 rfl rfl)
theorem dX3_keeps_60 : decode cX3_keeps 60 = .ok (.imul, 1) := dk_104 (dk_at dksX3_keeps_2 12 rfl rfl)
theorem dX3_keeps_61 : decode cX3_keeps 61 = .ok (.iload_n 2, 1) := dk_28 (dk_at dksX3_keeps_2 13 rfl rfl)
theorem dX3_keeps_62 : decode cX3_keeps 62 = .ok (.iadd, 1) := dk_96 (dk_at dksX3_keeps_2 14 rfl rfl)
theorem dX3_keeps_63 : decode cX3_keeps 63 = .ok (.aload_n 0, 1) := dk_42 (dk_at dksX3_keeps_2 15 rfl rfl)
theorem dX3_keeps_64 : decode cX3_keeps 64 = .ok (.getfield 23, 3) := dk_180 0 23 (dk_at dksX3_keeps_2 16 rfl rfl)
theorem dX3_keeps_67 : decode cX3_keeps 67 = .ok (.iload_n 2, 1) := dk_28 (dk_at dksX3_keeps_2 19 rfl rfl)
theorem dX3_keeps_68 : decode cX3_keeps 68 = .ok (.laload, 1) := dk_47 (dk_at dksX3_keeps_2 20 rfl rfl)
theorem dX3_keeps_69 : decode cX3_keeps 69 = .ok (.lastore, 1) := dk_80 (dk_at dksX3_keeps_2 21 rfl rfl)
theorem dX3_keeps_70 : decode cX3_keeps 70 = .ok (.iinc 2 1, 3) := dk_132 2 1 (dk_at dksX3_keeps_3 0 rfl rfl)
theorem dX3_keeps_73 : decode cX3_keeps 73 = .ok (.goto (-26), 3) := dk_167 255 230 (dk_at dksX3_keeps_3 3 rfl rfl)
theorem dX3_keeps_76 : decode cX3_keeps 76 = .ok (.aload_n 0, 1) := dk_42 (dk_at dksX3_keeps_3 6 rfl rfl)
theorem dX3_keeps_77 : decode cX3_keeps 77 = .ok (.dup, 1) := dk_89 (dk_at dksX3_keeps_3 7 rfl rfl)
theorem dX3_keeps_78 : decode cX3_keeps 78 = .ok (.getfield 50, 3) := dk_180 0 50 (dk_at dksX3_keeps_3 8 rfl rfl)
theorem dX3_keeps_81 : decode cX3_keeps 81 = .ok (.iconst 1, 1) := dk_4 (dk_at dksX3_keeps_3 11 rfl rfl)
theorem dX3_keeps_82 : decode cX3_keeps 82 = .ok (.iadd, 1) := dk_96 (dk_at dksX3_keeps_3 12 rfl rfl)
theorem dX3_keeps_83 : decode cX3_keeps 83 = .ok (.putfield 50, 3) := dk_181 0 50 (dk_at dksX3_keeps_3 13 rfl rfl)
theorem dX3_keeps_86 : decode cX3_keeps 86 = .ok (.return_, 1) := dk_177 (dk_at dksX3_keeps_3 16 rfl rfl)
abbrev cX3_makes : ByteArray := prog_21_method_15_code
def yX3_makes : MethodName := ⟨RX3, "makes", "(II)I"⟩
def dkwX3_makes_1 : List UInt8 := [182, 0, 62, 4, 100, 172]
abbrev dktX3_makes_1 : List UInt8 := dkwX3_makes_1 ++ []
def dkwX3_makes_0 : List UInt8 := [42, 42, 3, 182, 0, 62, 27, 28, 182, 0, 74, 42, 180, 0, 13, 3, 92, 47, 10, 97, 80, 42, 3]
abbrev dktX3_makes_0 : List UInt8 := dkwX3_makes_0 ++ dktX3_makes_1
theorem dksX3_makes_0 : cX3_makes.data.toList.drop 0 = dktX3_makes_0 := by decide +kernel
theorem dksX3_makes_1 : cX3_makes.data.toList.drop 23 = dktX3_makes_1 := dk_seg dksX3_makes_0 23 rfl rfl
theorem dX3_makes_0 : decode cX3_makes 0 = .ok (.aload_n 0, 1) := dk_42 (dk_at dksX3_makes_0 0 rfl rfl)
theorem dX3_makes_1 : decode cX3_makes 1 = .ok (.aload_n 0, 1) := dk_42 (dk_at dksX3_makes_0 1 rfl rfl)
theorem dX3_makes_2 : decode cX3_makes 2 = .ok (.iconst 0, 1) := dk_3 (dk_at dksX3_makes_0 2 rfl rfl)
theorem dX3_makes_3 : decode cX3_makes 3 = .ok (.invokevirtual 62, 3) := dk_182 0 62 (dk_at dksX3_makes_0 3 rfl rfl)
theorem dX3_makes_6 : decode cX3_makes 6 = .ok (.iload_n 1, 1) := dk_27 (dk_at dksX3_makes_0 6 rfl rfl)
theorem dX3_makes_7 : decode cX3_makes 7 = .ok (.iload_n 2, 1) := dk_28 (dk_at dksX3_makes_0 7 rfl rfl)
theorem dX3_makes_8 : decode cX3_makes 8 = .ok (.invokevirtual 74, 3) := dk_182 0 74 (dk_at dksX3_makes_0 8 rfl rfl)
theorem dX3_makes_11 : decode cX3_makes 11 = .ok (.aload_n 0, 1) := dk_42 (dk_at dksX3_makes_0 11 rfl rfl)
theorem dX3_makes_12 : decode cX3_makes 12 = .ok (.getfield 13, 3) := dk_180 0 13 (dk_at dksX3_makes_0 12 rfl rfl)
theorem dX3_makes_15 : decode cX3_makes 15 = .ok (.iconst 0, 1) := dk_3 (dk_at dksX3_makes_0 15 rfl rfl)
theorem dX3_makes_16 : decode cX3_makes 16 = .ok (.dup2, 1) := dk_92 (dk_at dksX3_makes_0 16 rfl rfl)
theorem dX3_makes_17 : decode cX3_makes 17 = .ok (.laload, 1) := dk_47 (dk_at dksX3_makes_0 17 rfl rfl)
theorem dX3_makes_18 : decode cX3_makes 18 = .ok (.lconst 1, 1) := dk_10 (dk_at dksX3_makes_0 18 rfl rfl)
theorem dX3_makes_19 : decode cX3_makes 19 = .ok (.ladd, 1) := dk_97 (dk_at dksX3_makes_0 19 rfl rfl)
theorem dX3_makes_20 : decode cX3_makes 20 = .ok (.lastore, 1) := dk_80 (dk_at dksX3_makes_0 20 rfl rfl)
theorem dX3_makes_21 : decode cX3_makes 21 = .ok (.aload_n 0, 1) := dk_42 (dk_at dksX3_makes_0 21 rfl rfl)
theorem dX3_makes_22 : decode cX3_makes 22 = .ok (.iconst 0, 1) := dk_3 (dk_at dksX3_makes_0 22 rfl rfl)
theorem dX3_makes_23 : decode cX3_makes 23 = .ok (.invokevirtual 62, 3) := dk_182 0 62 (dk_at dksX3_makes_1 0 rfl rfl)
theorem dX3_makes_26 : decode cX3_makes 26 = .ok (.iconst 1, 1) := dk_4 (dk_at dksX3_makes_1 3 rfl rfl)
theorem dX3_makes_27 : decode cX3_makes 27 = .ok (.isub, 1) := dk_100 (dk_at dksX3_makes_1 4 rfl rfl)
theorem dX3_makes_28 : decode cX3_makes 28 = .ok (.ireturn, 1) := dk_172 (dk_at dksX3_makes_1 5 rfl rfl)
abbrev cX3_sets : ByteArray := prog_21_method_13_code
def yX3_sets : MethodName := ⟨RX3, "sets", "(III)V"⟩
def dkwX3_sets_1 : List UInt8 := [80, 42, 180, 0, 13, 16, 10, 5, 27, 104, 96, 4, 96, 29, 21, 4, 108, 133, 80, 177]
abbrev dktX3_sets_1 : List UInt8 := dkwX3_sets_1 ++ []
def dkwX3_sets_0 : List UInt8 := [29, 28, 184, 0, 70, 54, 4, 42, 180, 0, 13, 16, 10, 5, 27, 104, 96, 3, 96, 28, 21, 4, 108, 133]
abbrev dktX3_sets_0 : List UInt8 := dkwX3_sets_0 ++ dktX3_sets_1
theorem dksX3_sets_0 : cX3_sets.data.toList.drop 0 = dktX3_sets_0 := by decide +kernel
theorem dksX3_sets_1 : cX3_sets.data.toList.drop 24 = dktX3_sets_1 := dk_seg dksX3_sets_0 24 rfl rfl
theorem dX3_sets_0 : decode cX3_sets 0 = .ok (.iload_n 3, 1) := dk_29 (dk_at dksX3_sets_0 0 rfl rfl)
theorem dX3_sets_1 : decode cX3_sets 1 = .ok (.iload_n 2, 1) := dk_28 (dk_at dksX3_sets_0 1 rfl rfl)
theorem dX3_sets_2 : decode cX3_sets 2 = .ok (.invokestatic 70, 3) := dk_184 0 70 (dk_at dksX3_sets_0 2 rfl rfl)
theorem dX3_sets_5 : decode cX3_sets 5 = .ok (.istore 4, 2) := dk_54 4 (dk_at dksX3_sets_0 5 rfl rfl)
theorem dX3_sets_7 : decode cX3_sets 7 = .ok (.aload_n 0, 1) := dk_42 (dk_at dksX3_sets_0 7 rfl rfl)
theorem dX3_sets_8 : decode cX3_sets 8 = .ok (.getfield 13, 3) := dk_180 0 13 (dk_at dksX3_sets_0 8 rfl rfl)
theorem dX3_sets_11 : decode cX3_sets 11 = .ok (.bipush 10, 2) := dk_16 10 (dk_at dksX3_sets_0 11 rfl rfl)
theorem dX3_sets_13 : decode cX3_sets 13 = .ok (.iconst 2, 1) := dk_5 (dk_at dksX3_sets_0 13 rfl rfl)
theorem dX3_sets_14 : decode cX3_sets 14 = .ok (.iload_n 1, 1) := dk_27 (dk_at dksX3_sets_0 14 rfl rfl)
theorem dX3_sets_15 : decode cX3_sets 15 = .ok (.imul, 1) := dk_104 (dk_at dksX3_sets_0 15 rfl rfl)
theorem dX3_sets_16 : decode cX3_sets 16 = .ok (.iadd, 1) := dk_96 (dk_at dksX3_sets_0 16 rfl rfl)
theorem dX3_sets_17 : decode cX3_sets 17 = .ok (.iconst 0, 1) := dk_3 (dk_at dksX3_sets_0 17 rfl rfl)
theorem dX3_sets_18 : decode cX3_sets 18 = .ok (.iadd, 1) := dk_96 (dk_at dksX3_sets_0 18 rfl rfl)
theorem dX3_sets_19 : decode cX3_sets 19 = .ok (.iload_n 2, 1) := dk_28 (dk_at dksX3_sets_0 19 rfl rfl)
theorem dX3_sets_20 : decode cX3_sets 20 = .ok (.iload 4, 2) := dk_21 4 (dk_at dksX3_sets_0 20 rfl rfl)
theorem dX3_sets_22 : decode cX3_sets 22 = .ok (.idiv, 1) := dk_108 (dk_at dksX3_sets_0 22 rfl rfl)
theorem dX3_sets_23 : decode cX3_sets 23 = .ok (.i2l, 1) := dk_133 (dk_at dksX3_sets_0 23 rfl rfl)
theorem dX3_sets_24 : decode cX3_sets 24 = .ok (.lastore, 1) := dk_80 (dk_at dksX3_sets_1 0 rfl rfl)
theorem dX3_sets_25 : decode cX3_sets 25 = .ok (.aload_n 0, 1) := dk_42 (dk_at dksX3_sets_1 1 rfl rfl)
theorem dX3_sets_26 : decode cX3_sets 26 = .ok (.getfield 13, 3) := dk_180 0 13 (dk_at dksX3_sets_1 2 rfl rfl)
theorem dX3_sets_29 : decode cX3_sets 29 = .ok (.bipush 10, 2) := dk_16 10 (dk_at dksX3_sets_1 5 rfl rfl)
theorem dX3_sets_31 : decode cX3_sets 31 = .ok (.iconst 2, 1) := dk_5 (dk_at dksX3_sets_1 7 rfl rfl)
theorem dX3_sets_32 : decode cX3_sets 32 = .ok (.iload_n 1, 1) := dk_27 (dk_at dksX3_sets_1 8 rfl rfl)
theorem dX3_sets_33 : decode cX3_sets 33 = .ok (.imul, 1) := dk_104 (dk_at dksX3_sets_1 9 rfl rfl)
theorem dX3_sets_34 : decode cX3_sets 34 = .ok (.iadd, 1) := dk_96 (dk_at dksX3_sets_1 10 rfl rfl)
theorem dX3_sets_35 : decode cX3_sets 35 = .ok (.iconst 1, 1) := dk_4 (dk_at dksX3_sets_1 11 rfl rfl)
theorem dX3_sets_36 : decode cX3_sets 36 = .ok (.iadd, 1) := dk_96 (dk_at dksX3_sets_1 12 rfl rfl)
theorem dX3_sets_37 : decode cX3_sets 37 = .ok (.iload_n 3, 1) := dk_29 (dk_at dksX3_sets_1 13 rfl rfl)
theorem dX3_sets_38 : decode cX3_sets 38 = .ok (.iload 4, 2) := dk_21 4 (dk_at dksX3_sets_1 14 rfl rfl)
theorem dX3_sets_40 : decode cX3_sets 40 = .ok (.idiv, 1) := dk_108 (dk_at dksX3_sets_1 16 rfl rfl)
theorem dX3_sets_41 : decode cX3_sets 41 = .ok (.i2l, 1) := dk_133 (dk_at dksX3_sets_1 17 rfl rfl)
theorem dX3_sets_42 : decode cX3_sets 42 = .ok (.lastore, 1) := dk_80 (dk_at dksX3_sets_1 18 rfl rfl)
theorem dX3_sets_43 : decode cX3_sets 43 = .ok (.return_, 1) := dk_177 (dk_at dksX3_sets_1 19 rfl rfl)
abbrev cX3_divisor : ByteArray := prog_21_method_12_code
def yX3_divisor : MethodName := ⟨RX3, "divisor", "(II)I"⟩
def dkwX3_divisor_0 : List UInt8 := [26, 61, 27, 62, 29, 153, 0, 16, 28, 29, 112, 54, 4, 29, 61, 21, 4, 62, 167, 255, 242, 28, 172]
abbrev dktX3_divisor_0 : List UInt8 := dkwX3_divisor_0 ++ []
theorem dksX3_divisor_0 : cX3_divisor.data.toList.drop 0 = dktX3_divisor_0 := by decide +kernel
theorem dX3_divisor_0 : decode cX3_divisor 0 = .ok (.iload_n 0, 1) := dk_26 (dk_at dksX3_divisor_0 0 rfl rfl)
theorem dX3_divisor_1 : decode cX3_divisor 1 = .ok (.istore_n 2, 1) := dk_61 (dk_at dksX3_divisor_0 1 rfl rfl)
theorem dX3_divisor_2 : decode cX3_divisor 2 = .ok (.iload_n 1, 1) := dk_27 (dk_at dksX3_divisor_0 2 rfl rfl)
theorem dX3_divisor_3 : decode cX3_divisor 3 = .ok (.istore_n 3, 1) := dk_62 (dk_at dksX3_divisor_0 3 rfl rfl)
theorem dX3_divisor_4 : decode cX3_divisor 4 = .ok (.iload_n 3, 1) := dk_29 (dk_at dksX3_divisor_0 4 rfl rfl)
theorem dX3_divisor_5 : decode cX3_divisor 5 = .ok (.ifCond .eq 16, 3) := dk_153 0 16 (dk_at dksX3_divisor_0 5 rfl rfl)
theorem dX3_divisor_8 : decode cX3_divisor 8 = .ok (.iload_n 2, 1) := dk_28 (dk_at dksX3_divisor_0 8 rfl rfl)
theorem dX3_divisor_9 : decode cX3_divisor 9 = .ok (.iload_n 3, 1) := dk_29 (dk_at dksX3_divisor_0 9 rfl rfl)
theorem dX3_divisor_10 : decode cX3_divisor 10 = .ok (.irem, 1) := dk_112 (dk_at dksX3_divisor_0 10 rfl rfl)
theorem dX3_divisor_11 : decode cX3_divisor 11 = .ok (.istore 4, 2) := dk_54 4 (dk_at dksX3_divisor_0 11 rfl rfl)
theorem dX3_divisor_13 : decode cX3_divisor 13 = .ok (.iload_n 3, 1) := dk_29 (dk_at dksX3_divisor_0 13 rfl rfl)
theorem dX3_divisor_14 : decode cX3_divisor 14 = .ok (.istore_n 2, 1) := dk_61 (dk_at dksX3_divisor_0 14 rfl rfl)
theorem dX3_divisor_15 : decode cX3_divisor 15 = .ok (.iload 4, 2) := dk_21 4 (dk_at dksX3_divisor_0 15 rfl rfl)
theorem dX3_divisor_17 : decode cX3_divisor 17 = .ok (.istore_n 3, 1) := dk_62 (dk_at dksX3_divisor_0 17 rfl rfl)
theorem dX3_divisor_18 : decode cX3_divisor 18 = .ok (.goto (-14), 3) := dk_167 255 242 (dk_at dksX3_divisor_0 18 rfl rfl)
theorem dX3_divisor_21 : decode cX3_divisor 21 = .ok (.iload_n 2, 1) := dk_28 (dk_at dksX3_divisor_0 21 rfl rfl)
theorem dX3_divisor_22 : decode cX3_divisor 22 = .ok (.ireturn, 1) := dk_172 (dk_at dksX3_divisor_0 22 rfl rfl)
abbrev cX3_mix : ByteArray := prog_21_method_21_code
def yX3_mix : MethodName := ⟨RX3, "mix", "(II)I"⟩
def dkwX3_mix_1 : List UInt8 := [182, 0, 84, 42, 27, 28, 182, 0, 106, 172]
abbrev dktX3_mix_1 : List UInt8 := dkwX3_mix_1 ++ []
def dkwX3_mix_0 : List UInt8 := [42, 3, 181, 0, 1, 42, 27, 28, 182, 0, 103, 62, 29, 153, 0, 9, 42, 29, 182, 0, 81, 172, 42]
abbrev dktX3_mix_0 : List UInt8 := dkwX3_mix_0 ++ dktX3_mix_1
theorem dksX3_mix_0 : cX3_mix.data.toList.drop 0 = dktX3_mix_0 := by decide +kernel
theorem dksX3_mix_1 : cX3_mix.data.toList.drop 23 = dktX3_mix_1 := dk_seg dksX3_mix_0 23 rfl rfl
theorem dX3_mix_0 : decode cX3_mix 0 = .ok (.aload_n 0, 1) := dk_42 (dk_at dksX3_mix_0 0 rfl rfl)
theorem dX3_mix_1 : decode cX3_mix 1 = .ok (.iconst 0, 1) := dk_3 (dk_at dksX3_mix_0 1 rfl rfl)
theorem dX3_mix_2 : decode cX3_mix 2 = .ok (.putfield 1, 3) := dk_181 0 1 (dk_at dksX3_mix_0 2 rfl rfl)
theorem dX3_mix_5 : decode cX3_mix 5 = .ok (.aload_n 0, 1) := dk_42 (dk_at dksX3_mix_0 5 rfl rfl)
theorem dX3_mix_6 : decode cX3_mix 6 = .ok (.iload_n 1, 1) := dk_27 (dk_at dksX3_mix_0 6 rfl rfl)
theorem dX3_mix_7 : decode cX3_mix 7 = .ok (.iload_n 2, 1) := dk_28 (dk_at dksX3_mix_0 7 rfl rfl)
theorem dX3_mix_8 : decode cX3_mix 8 = .ok (.invokevirtual 103, 3) := dk_182 0 103 (dk_at dksX3_mix_0 8 rfl rfl)
theorem dX3_mix_11 : decode cX3_mix 11 = .ok (.istore_n 3, 1) := dk_62 (dk_at dksX3_mix_0 11 rfl rfl)
theorem dX3_mix_12 : decode cX3_mix 12 = .ok (.iload_n 3, 1) := dk_29 (dk_at dksX3_mix_0 12 rfl rfl)
theorem dX3_mix_13 : decode cX3_mix 13 = .ok (.ifCond .eq 9, 3) := dk_153 0 9 (dk_at dksX3_mix_0 13 rfl rfl)
theorem dX3_mix_16 : decode cX3_mix 16 = .ok (.aload_n 0, 1) := dk_42 (dk_at dksX3_mix_0 16 rfl rfl)
theorem dX3_mix_17 : decode cX3_mix 17 = .ok (.iload_n 3, 1) := dk_29 (dk_at dksX3_mix_0 17 rfl rfl)
theorem dX3_mix_18 : decode cX3_mix 18 = .ok (.invokevirtual 81, 3) := dk_182 0 81 (dk_at dksX3_mix_0 18 rfl rfl)
theorem dX3_mix_21 : decode cX3_mix 21 = .ok (.ireturn, 1) := dk_172 (dk_at dksX3_mix_0 21 rfl rfl)
theorem dX3_mix_22 : decode cX3_mix 22 = .ok (.aload_n 0, 1) := dk_42 (dk_at dksX3_mix_0 22 rfl rfl)
theorem dX3_mix_23 : decode cX3_mix 23 = .ok (.invokevirtual 84, 3) := dk_182 0 84 (dk_at dksX3_mix_1 0 rfl rfl)
theorem dX3_mix_26 : decode cX3_mix 26 = .ok (.aload_n 0, 1) := dk_42 (dk_at dksX3_mix_1 3 rfl rfl)
theorem dX3_mix_27 : decode cX3_mix 27 = .ok (.iload_n 1, 1) := dk_27 (dk_at dksX3_mix_1 4 rfl rfl)
theorem dX3_mix_28 : decode cX3_mix 28 = .ok (.iload_n 2, 1) := dk_28 (dk_at dksX3_mix_1 5 rfl rfl)
theorem dX3_mix_29 : decode cX3_mix 29 = .ok (.invokevirtual 106, 3) := dk_182 0 106 (dk_at dksX3_mix_1 6 rfl rfl)
theorem dX3_mix_32 : decode cX3_mix 32 = .ok (.ireturn, 1) := dk_172 (dk_at dksX3_mix_1 9 rfl rfl)
abbrev cX3_notMix : ByteArray := prog_21_method_19_code
def yX3_notMix : MethodName := ⟨RX3, "notMix", "(II)I"⟩
def dkwX3_notMix_3 : List UInt8 := [3, 172]
abbrev dktX3_notMix_3 : List UInt8 := dkwX3_notMix_3 ++ []
def dkwX3_notMix_2 : List UInt8 := [108, 17, 39, 15, 163, 0, 16, 42, 27, 28, 182, 0, 97, 29, 108, 16, 12, 164, 0, 7, 6, 167, 0, 4]
abbrev dktX3_notMix_2 : List UInt8 := dkwX3_notMix_2 ++ dktX3_notMix_3
def dkwX3_notMix_1 : List UInt8 := [172, 42, 27, 28, 182, 0, 97, 42, 27, 28, 182, 0, 100, 184, 0, 70, 62, 42, 27, 28, 182, 0, 100, 29]
abbrev dktX3_notMix_1 : List UInt8 := dkwX3_notMix_1 ++ dktX3_notMix_2
def dkwX3_notMix_0 : List UInt8 := [42, 27, 182, 0, 93, 153, 0, 11, 42, 28, 182, 0, 93, 154, 0, 5, 4, 172, 27, 28, 160, 0, 5, 5]
abbrev dktX3_notMix_0 : List UInt8 := dkwX3_notMix_0 ++ dktX3_notMix_1
theorem dksX3_notMix_0 : cX3_notMix.data.toList.drop 0 = dktX3_notMix_0 := by decide +kernel
theorem dksX3_notMix_1 : cX3_notMix.data.toList.drop 24 = dktX3_notMix_1 := dk_seg dksX3_notMix_0 24 rfl rfl
theorem dksX3_notMix_2 : cX3_notMix.data.toList.drop 48 = dktX3_notMix_2 := dk_seg dksX3_notMix_1 24 rfl rfl
theorem dksX3_notMix_3 : cX3_notMix.data.toList.drop 72 = dktX3_notMix_3 := dk_seg dksX3_notMix_2 24 rfl rfl
theorem dX3_notMix_0 : decode cX3_notMix 0 = .ok (.aload_n 0, 1) := dk_42 (dk_at dksX3_notMix_0 0 rfl rfl)
theorem dX3_notMix_1 : decode cX3_notMix 1 = .ok (.iload_n 1, 1) := dk_27 (dk_at dksX3_notMix_0 1 rfl rfl)
theorem dX3_notMix_2 : decode cX3_notMix 2 = .ok (.invokevirtual 93, 3) := dk_182 0 93 (dk_at dksX3_notMix_0 2 rfl rfl)
theorem dX3_notMix_5 : decode cX3_notMix 5 = .ok (.ifCond .eq 11, 3) := dk_153 0 11 (dk_at dksX3_notMix_0 5 rfl rfl)
theorem dX3_notMix_8 : decode cX3_notMix 8 = .ok (.aload_n 0, 1) := dk_42 (dk_at dksX3_notMix_0 8 rfl rfl)
theorem dX3_notMix_9 : decode cX3_notMix 9 = .ok (.iload_n 2, 1) := dk_28 (dk_at dksX3_notMix_0 9 rfl rfl)
theorem dX3_notMix_10 : decode cX3_notMix 10 = .ok (.invokevirtual 93, 3) := dk_182 0 93 (dk_at dksX3_notMix_0 10 rfl rfl)
theorem dX3_notMix_13 : decode cX3_notMix 13 = .ok (.ifCond .ne 5, 3) := dk_154 0 5 (dk_at dksX3_notMix_0 13 rfl rfl)
theorem dX3_notMix_16 : decode cX3_notMix 16 = .ok (.iconst 1, 1) := dk_4 (dk_at dksX3_notMix_0 16 rfl rfl)
theorem dX3_notMix_17 : decode cX3_notMix 17 = .ok (.ireturn, 1) := dk_172 (dk_at dksX3_notMix_0 17 rfl rfl)
theorem dX3_notMix_18 : decode cX3_notMix 18 = .ok (.iload_n 1, 1) := dk_27 (dk_at dksX3_notMix_0 18 rfl rfl)
theorem dX3_notMix_19 : decode cX3_notMix 19 = .ok (.iload_n 2, 1) := dk_28 (dk_at dksX3_notMix_0 19 rfl rfl)
theorem dX3_notMix_20 : decode cX3_notMix 20 = .ok (.if_icmp .ne 5, 3) := dk_160 0 5 (dk_at dksX3_notMix_0 20 rfl rfl)
theorem dX3_notMix_23 : decode cX3_notMix 23 = .ok (.iconst 2, 1) := dk_5 (dk_at dksX3_notMix_0 23 rfl rfl)
theorem dX3_notMix_24 : decode cX3_notMix 24 = .ok (.ireturn, 1) := dk_172 (dk_at dksX3_notMix_1 0 rfl rfl)
theorem dX3_notMix_25 : decode cX3_notMix 25 = .ok (.aload_n 0, 1) := dk_42 (dk_at dksX3_notMix_1 1 rfl rfl)
theorem dX3_notMix_26 : decode cX3_notMix 26 = .ok (.iload_n 1, 1) := dk_27 (dk_at dksX3_notMix_1 2 rfl rfl)
theorem dX3_notMix_27 : decode cX3_notMix 27 = .ok (.iload_n 2, 1) := dk_28 (dk_at dksX3_notMix_1 3 rfl rfl)
theorem dX3_notMix_28 : decode cX3_notMix 28 = .ok (.invokevirtual 97, 3) := dk_182 0 97 (dk_at dksX3_notMix_1 4 rfl rfl)
theorem dX3_notMix_31 : decode cX3_notMix 31 = .ok (.aload_n 0, 1) := dk_42 (dk_at dksX3_notMix_1 7 rfl rfl)
theorem dX3_notMix_32 : decode cX3_notMix 32 = .ok (.iload_n 1, 1) := dk_27 (dk_at dksX3_notMix_1 8 rfl rfl)
theorem dX3_notMix_33 : decode cX3_notMix 33 = .ok (.iload_n 2, 1) := dk_28 (dk_at dksX3_notMix_1 9 rfl rfl)
theorem dX3_notMix_34 : decode cX3_notMix 34 = .ok (.invokevirtual 100, 3) := dk_182 0 100 (dk_at dksX3_notMix_1 10 rfl rfl)
theorem dX3_notMix_37 : decode cX3_notMix 37 = .ok (.invokestatic 70, 3) := dk_184 0 70 (dk_at dksX3_notMix_1 13 rfl rfl)
theorem dX3_notMix_40 : decode cX3_notMix 40 = .ok (.istore_n 3, 1) := dk_62 (dk_at dksX3_notMix_1 16 rfl rfl)
theorem dX3_notMix_41 : decode cX3_notMix 41 = .ok (.aload_n 0, 1) := dk_42 (dk_at dksX3_notMix_1 17 rfl rfl)
theorem dX3_notMix_42 : decode cX3_notMix 42 = .ok (.iload_n 1, 1) := dk_27 (dk_at dksX3_notMix_1 18 rfl rfl)
theorem dX3_notMix_43 : decode cX3_notMix 43 = .ok (.iload_n 2, 1) := dk_28 (dk_at dksX3_notMix_1 19 rfl rfl)
theorem dX3_notMix_44 : decode cX3_notMix 44 = .ok (.invokevirtual 100, 3) := dk_182 0 100 (dk_at dksX3_notMix_1 20 rfl rfl)
theorem dX3_notMix_47 : decode cX3_notMix 47 = .ok (.iload_n 3, 1) := dk_29 (dk_at dksX3_notMix_1 23 rfl rfl)
theorem dX3_notMix_48 : decode cX3_notMix 48 = .ok (.idiv, 1) := dk_108 (dk_at dksX3_notMix_2 0 rfl rfl)
theorem dX3_notMix_49 : decode cX3_notMix 49 = .ok (.sipush 9999, 3) := dk_17 39 15 (dk_at dksX3_notMix_2 1 rfl rfl)
theorem dX3_notMix_52 : decode cX3_notMix 52 = .ok (.if_icmp .gt 16, 3) := dk_163 0 16 (dk_at dksX3_notMix_2 4 rfl rfl)
theorem dX3_notMix_55 : decode cX3_notMix 55 = .ok (.aload_n 0, 1) := dk_42 (dk_at dksX3_notMix_2 7 rfl rfl)
theorem dX3_notMix_56 : decode cX3_notMix 56 = .ok (.iload_n 1, 1) := dk_27 (dk_at dksX3_notMix_2 8 rfl rfl)
theorem dX3_notMix_57 : decode cX3_notMix 57 = .ok (.iload_n 2, 1) := dk_28 (dk_at dksX3_notMix_2 9 rfl rfl)
theorem dX3_notMix_58 : decode cX3_notMix 58 = .ok (.invokevirtual 97, 3) := dk_182 0 97 (dk_at dksX3_notMix_2 10 rfl rfl)
theorem dX3_notMix_61 : decode cX3_notMix 61 = .ok (.iload_n 3, 1) := dk_29 (dk_at dksX3_notMix_2 13 rfl rfl)
theorem dX3_notMix_62 : decode cX3_notMix 62 = .ok (.idiv, 1) := dk_108 (dk_at dksX3_notMix_2 14 rfl rfl)
theorem dX3_notMix_63 : decode cX3_notMix 63 = .ok (.bipush 12, 2) := dk_16 12 (dk_at dksX3_notMix_2 15 rfl rfl)
theorem dX3_notMix_65 : decode cX3_notMix 65 = .ok (.if_icmp .le 7, 3) := dk_164 0 7 (dk_at dksX3_notMix_2 17 rfl rfl)
theorem dX3_notMix_68 : decode cX3_notMix 68 = .ok (.iconst 3, 1) := dk_6 (dk_at dksX3_notMix_2 20 rfl rfl)
theorem dX3_notMix_69 : decode cX3_notMix 69 = .ok (.goto 4, 3) := dk_167 0 4 (dk_at dksX3_notMix_2 21 rfl rfl)
theorem dX3_notMix_72 : decode cX3_notMix 72 = .ok (.iconst 0, 1) := dk_3 (dk_at dksX3_notMix_3 0 rfl rfl)
theorem dX3_notMix_73 : decode cX3_notMix 73 = .ok (.ireturn, 1) := dk_172 (dk_at dksX3_notMix_3 1 rfl rfl)
abbrev cX3_isDough : ByteArray := prog_21_method_10_code
def yX3_isDough : MethodName := ⟨RX3, "isDough", "(I)Z"⟩
def dkwX3_isDough_0 : List UInt8 := [27, 3, 42, 3, 182, 0, 62, 4, 100, 184, 0, 66, 172]
abbrev dktX3_isDough_0 : List UInt8 := dkwX3_isDough_0 ++ []
theorem dksX3_isDough_0 : cX3_isDough.data.toList.drop 0 = dktX3_isDough_0 := by decide +kernel
theorem dX3_isDough_0 : decode cX3_isDough 0 = .ok (.iload_n 1, 1) := dk_27 (dk_at dksX3_isDough_0 0 rfl rfl)
theorem dX3_isDough_1 : decode cX3_isDough 1 = .ok (.iconst 0, 1) := dk_3 (dk_at dksX3_isDough_0 1 rfl rfl)
theorem dX3_isDough_2 : decode cX3_isDough 2 = .ok (.aload_n 0, 1) := dk_42 (dk_at dksX3_isDough_0 2 rfl rfl)
theorem dX3_isDough_3 : decode cX3_isDough 3 = .ok (.iconst 0, 1) := dk_3 (dk_at dksX3_isDough_0 3 rfl rfl)
theorem dX3_isDough_4 : decode cX3_isDough 4 = .ok (.invokevirtual 62, 3) := dk_182 0 62 (dk_at dksX3_isDough_0 4 rfl rfl)
theorem dX3_isDough_7 : decode cX3_isDough 7 = .ok (.iconst 1, 1) := dk_4 (dk_at dksX3_isDough_0 7 rfl rfl)
theorem dX3_isDough_8 : decode cX3_isDough 8 = .ok (.isub, 1) := dk_100 (dk_at dksX3_isDough_0 8 rfl rfl)
theorem dX3_isDough_9 : decode cX3_isDough 9 = .ok (.invokestatic 66, 3) := dk_184 0 66 (dk_at dksX3_isDough_0 9 rfl rfl)
theorem dX3_isDough_12 : decode cX3_isDough 12 = .ok (.ireturn, 1) := dk_172 (dk_at dksX3_isDough_0 12 rfl rfl)
abbrev cX3_sumBelow : ByteArray := prog_21_method_18_code
def yX3_sumBelow : MethodName := ⟨RX3, "sumBelow", "(II)I"⟩
def dkwX3_sumBelow_0 : List UInt8 := [42, 27, 4, 182, 0, 90, 42, 28, 4, 182, 0, 90, 104, 172]
abbrev dktX3_sumBelow_0 : List UInt8 := dkwX3_sumBelow_0 ++ []
theorem dksX3_sumBelow_0 : cX3_sumBelow.data.toList.drop 0 = dktX3_sumBelow_0 := by decide +kernel
theorem dX3_sumBelow_0 : decode cX3_sumBelow 0 = .ok (.aload_n 0, 1) := dk_42 (dk_at dksX3_sumBelow_0 0 rfl rfl)
theorem dX3_sumBelow_1 : decode cX3_sumBelow 1 = .ok (.iload_n 1, 1) := dk_27 (dk_at dksX3_sumBelow_0 1 rfl rfl)
theorem dX3_sumBelow_2 : decode cX3_sumBelow 2 = .ok (.iconst 1, 1) := dk_4 (dk_at dksX3_sumBelow_0 2 rfl rfl)
theorem dX3_sumBelow_3 : decode cX3_sumBelow 3 = .ok (.invokevirtual 90, 3) := dk_182 0 90 (dk_at dksX3_sumBelow_0 3 rfl rfl)
theorem dX3_sumBelow_6 : decode cX3_sumBelow 6 = .ok (.aload_n 0, 1) := dk_42 (dk_at dksX3_sumBelow_0 6 rfl rfl)
theorem dX3_sumBelow_7 : decode cX3_sumBelow 7 = .ok (.iload_n 2, 1) := dk_28 (dk_at dksX3_sumBelow_0 7 rfl rfl)
theorem dX3_sumBelow_8 : decode cX3_sumBelow 8 = .ok (.iconst 1, 1) := dk_4 (dk_at dksX3_sumBelow_0 8 rfl rfl)
theorem dX3_sumBelow_9 : decode cX3_sumBelow 9 = .ok (.invokevirtual 90, 3) := dk_182 0 90 (dk_at dksX3_sumBelow_0 9 rfl rfl)
theorem dX3_sumBelow_12 : decode cX3_sumBelow 12 = .ok (.imul, 1) := dk_104 (dk_at dksX3_sumBelow_0 12 rfl rfl)
theorem dX3_sumBelow_13 : decode cX3_sumBelow 13 = .ok (.ireturn, 1) := dk_172 (dk_at dksX3_sumBelow_0 13 rfl rfl)
abbrev cX3_dough : ByteArray := prog_21_method_11_code
def yX3_dough : MethodName := ⟨RX3, "dough", "(II)I"⟩
def dkwX3_dough_0 : List UInt8 := [42, 16, 10, 5, 27, 104, 96, 28, 96, 182, 0, 62, 172]
abbrev dktX3_dough_0 : List UInt8 := dkwX3_dough_0 ++ []
theorem dksX3_dough_0 : cX3_dough.data.toList.drop 0 = dktX3_dough_0 := by decide +kernel
theorem dX3_dough_0 : decode cX3_dough 0 = .ok (.aload_n 0, 1) := dk_42 (dk_at dksX3_dough_0 0 rfl rfl)
theorem dX3_dough_1 : decode cX3_dough 1 = .ok (.bipush 10, 2) := dk_16 10 (dk_at dksX3_dough_0 1 rfl rfl)
theorem dX3_dough_3 : decode cX3_dough 3 = .ok (.iconst 2, 1) := dk_5 (dk_at dksX3_dough_0 3 rfl rfl)
theorem dX3_dough_4 : decode cX3_dough 4 = .ok (.iload_n 1, 1) := dk_27 (dk_at dksX3_dough_0 4 rfl rfl)
theorem dX3_dough_5 : decode cX3_dough 5 = .ok (.imul, 1) := dk_104 (dk_at dksX3_dough_0 5 rfl rfl)
theorem dX3_dough_6 : decode cX3_dough 6 = .ok (.iadd, 1) := dk_96 (dk_at dksX3_dough_0 6 rfl rfl)
theorem dX3_dough_7 : decode cX3_dough 7 = .ok (.iload_n 2, 1) := dk_28 (dk_at dksX3_dough_0 7 rfl rfl)
theorem dX3_dough_8 : decode cX3_dough 8 = .ok (.iadd, 1) := dk_96 (dk_at dksX3_dough_0 8 rfl rfl)
theorem dX3_dough_9 : decode cX3_dough 9 = .ok (.invokevirtual 62, 3) := dk_182 0 62 (dk_at dksX3_dough_0 9 rfl rfl)
theorem dX3_dough_12 : decode cX3_dough 12 = .ok (.ireturn, 1) := dk_172 (dk_at dksX3_dough_0 12 rfl rfl)
abbrev cX3_sumAbove : ByteArray := prog_21_method_17_code
def yX3_sumAbove : MethodName := ⟨RX3, "sumAbove", "(II)I"⟩
def dkwX3_sumAbove_1 : List UInt8 := [182, 0, 90, 104, 96, 172]
abbrev dktX3_sumAbove_1 : List UInt8 := dkwX3_sumAbove_1 ++ []
def dkwX3_sumAbove_0 : List UInt8 := [42, 27, 3, 182, 0, 90, 42, 28, 4, 182, 0, 90, 104, 42, 28, 3, 182, 0, 90, 42, 27, 4]
abbrev dktX3_sumAbove_0 : List UInt8 := dkwX3_sumAbove_0 ++ dktX3_sumAbove_1
theorem dksX3_sumAbove_0 : cX3_sumAbove.data.toList.drop 0 = dktX3_sumAbove_0 := by decide +kernel
theorem dksX3_sumAbove_1 : cX3_sumAbove.data.toList.drop 22 = dktX3_sumAbove_1 := dk_seg dksX3_sumAbove_0 22 rfl rfl
theorem dX3_sumAbove_0 : decode cX3_sumAbove 0 = .ok (.aload_n 0, 1) := dk_42 (dk_at dksX3_sumAbove_0 0 rfl rfl)
theorem dX3_sumAbove_1 : decode cX3_sumAbove 1 = .ok (.iload_n 1, 1) := dk_27 (dk_at dksX3_sumAbove_0 1 rfl rfl)
theorem dX3_sumAbove_2 : decode cX3_sumAbove 2 = .ok (.iconst 0, 1) := dk_3 (dk_at dksX3_sumAbove_0 2 rfl rfl)
theorem dX3_sumAbove_3 : decode cX3_sumAbove 3 = .ok (.invokevirtual 90, 3) := dk_182 0 90 (dk_at dksX3_sumAbove_0 3 rfl rfl)
theorem dX3_sumAbove_6 : decode cX3_sumAbove 6 = .ok (.aload_n 0, 1) := dk_42 (dk_at dksX3_sumAbove_0 6 rfl rfl)
theorem dX3_sumAbove_7 : decode cX3_sumAbove 7 = .ok (.iload_n 2, 1) := dk_28 (dk_at dksX3_sumAbove_0 7 rfl rfl)
theorem dX3_sumAbove_8 : decode cX3_sumAbove 8 = .ok (.iconst 1, 1) := dk_4 (dk_at dksX3_sumAbove_0 8 rfl rfl)
theorem dX3_sumAbove_9 : decode cX3_sumAbove 9 = .ok (.invokevirtual 90, 3) := dk_182 0 90 (dk_at dksX3_sumAbove_0 9 rfl rfl)
theorem dX3_sumAbove_12 : decode cX3_sumAbove 12 = .ok (.imul, 1) := dk_104 (dk_at dksX3_sumAbove_0 12 rfl rfl)
theorem dX3_sumAbove_13 : decode cX3_sumAbove 13 = .ok (.aload_n 0, 1) := dk_42 (dk_at dksX3_sumAbove_0 13 rfl rfl)
theorem dX3_sumAbove_14 : decode cX3_sumAbove 14 = .ok (.iload_n 2, 1) := dk_28 (dk_at dksX3_sumAbove_0 14 rfl rfl)
theorem dX3_sumAbove_15 : decode cX3_sumAbove 15 = .ok (.iconst 0, 1) := dk_3 (dk_at dksX3_sumAbove_0 15 rfl rfl)
theorem dX3_sumAbove_16 : decode cX3_sumAbove 16 = .ok (.invokevirtual 90, 3) := dk_182 0 90 (dk_at dksX3_sumAbove_0 16 rfl rfl)
theorem dX3_sumAbove_19 : decode cX3_sumAbove 19 = .ok (.aload_n 0, 1) := dk_42 (dk_at dksX3_sumAbove_0 19 rfl rfl)
theorem dX3_sumAbove_20 : decode cX3_sumAbove 20 = .ok (.iload_n 1, 1) := dk_27 (dk_at dksX3_sumAbove_0 20 rfl rfl)
theorem dX3_sumAbove_21 : decode cX3_sumAbove 21 = .ok (.iconst 1, 1) := dk_4 (dk_at dksX3_sumAbove_0 21 rfl rfl)
theorem dX3_sumAbove_22 : decode cX3_sumAbove 22 = .ok (.invokevirtual 90, 3) := dk_182 0 90 (dk_at dksX3_sumAbove_1 0 rfl rfl)
theorem dX3_sumAbove_25 : decode cX3_sumAbove 25 = .ok (.imul, 1) := dk_104 (dk_at dksX3_sumAbove_1 3 rfl rfl)
theorem dX3_sumAbove_26 : decode cX3_sumAbove 26 = .ok (.iadd, 1) := dk_96 (dk_at dksX3_sumAbove_1 4 rfl rfl)
theorem dX3_sumAbove_27 : decode cX3_sumAbove 27 = .ok (.ireturn, 1) := dk_172 (dk_at dksX3_sumAbove_1 5 rfl rfl)
abbrev cX3_mixes : ByteArray := prog_21_method_20_code
def yX3_mixes : MethodName := ⟨RX3, "mixes", "(II)I"⟩
def dkwX3_mixes_1 : List UInt8 := [42, 27, 3, 182, 0, 90, 172]
abbrev dktX3_mixes_1 : List UInt8 := dkwX3_mixes_1 ++ []
def dkwX3_mixes_0 : List UInt8 := [42, 27, 42, 27, 28, 182, 0, 100, 42, 27, 28, 182, 0, 97, 182, 0, 74, 42, 28, 3, 4, 182, 0, 74]
abbrev dktX3_mixes_0 : List UInt8 := dkwX3_mixes_0 ++ dktX3_mixes_1
theorem dksX3_mixes_0 : cX3_mixes.data.toList.drop 0 = dktX3_mixes_0 := by decide +kernel
theorem dksX3_mixes_1 : cX3_mixes.data.toList.drop 24 = dktX3_mixes_1 := dk_seg dksX3_mixes_0 24 rfl rfl
theorem dX3_mixes_0 : decode cX3_mixes 0 = .ok (.aload_n 0, 1) := dk_42 (dk_at dksX3_mixes_0 0 rfl rfl)
theorem dX3_mixes_1 : decode cX3_mixes 1 = .ok (.iload_n 1, 1) := dk_27 (dk_at dksX3_mixes_0 1 rfl rfl)
theorem dX3_mixes_2 : decode cX3_mixes 2 = .ok (.aload_n 0, 1) := dk_42 (dk_at dksX3_mixes_0 2 rfl rfl)
theorem dX3_mixes_3 : decode cX3_mixes 3 = .ok (.iload_n 1, 1) := dk_27 (dk_at dksX3_mixes_0 3 rfl rfl)
theorem dX3_mixes_4 : decode cX3_mixes 4 = .ok (.iload_n 2, 1) := dk_28 (dk_at dksX3_mixes_0 4 rfl rfl)
theorem dX3_mixes_5 : decode cX3_mixes 5 = .ok (.invokevirtual 100, 3) := dk_182 0 100 (dk_at dksX3_mixes_0 5 rfl rfl)
theorem dX3_mixes_8 : decode cX3_mixes 8 = .ok (.aload_n 0, 1) := dk_42 (dk_at dksX3_mixes_0 8 rfl rfl)
theorem dX3_mixes_9 : decode cX3_mixes 9 = .ok (.iload_n 1, 1) := dk_27 (dk_at dksX3_mixes_0 9 rfl rfl)
theorem dX3_mixes_10 : decode cX3_mixes 10 = .ok (.iload_n 2, 1) := dk_28 (dk_at dksX3_mixes_0 10 rfl rfl)
theorem dX3_mixes_11 : decode cX3_mixes 11 = .ok (.invokevirtual 97, 3) := dk_182 0 97 (dk_at dksX3_mixes_0 11 rfl rfl)
theorem dX3_mixes_14 : decode cX3_mixes 14 = .ok (.invokevirtual 74, 3) := dk_182 0 74 (dk_at dksX3_mixes_0 14 rfl rfl)
theorem dX3_mixes_17 : decode cX3_mixes 17 = .ok (.aload_n 0, 1) := dk_42 (dk_at dksX3_mixes_0 17 rfl rfl)
theorem dX3_mixes_18 : decode cX3_mixes 18 = .ok (.iload_n 2, 1) := dk_28 (dk_at dksX3_mixes_0 18 rfl rfl)
theorem dX3_mixes_19 : decode cX3_mixes 19 = .ok (.iconst 0, 1) := dk_3 (dk_at dksX3_mixes_0 19 rfl rfl)
theorem dX3_mixes_20 : decode cX3_mixes 20 = .ok (.iconst 1, 1) := dk_4 (dk_at dksX3_mixes_0 20 rfl rfl)
theorem dX3_mixes_21 : decode cX3_mixes 21 = .ok (.invokevirtual 74, 3) := dk_182 0 74 (dk_at dksX3_mixes_0 21 rfl rfl)
theorem dX3_mixes_24 : decode cX3_mixes 24 = .ok (.aload_n 0, 1) := dk_42 (dk_at dksX3_mixes_1 0 rfl rfl)
theorem dX3_mixes_25 : decode cX3_mixes 25 = .ok (.iload_n 1, 1) := dk_27 (dk_at dksX3_mixes_1 1 rfl rfl)
theorem dX3_mixes_26 : decode cX3_mixes 26 = .ok (.iconst 0, 1) := dk_3 (dk_at dksX3_mixes_1 2 rfl rfl)
theorem dX3_mixes_27 : decode cX3_mixes 27 = .ok (.invokevirtual 90, 3) := dk_182 0 90 (dk_at dksX3_mixes_1 3 rfl rfl)
theorem dX3_mixes_30 : decode cX3_mixes 30 = .ok (.ireturn, 1) := dk_172 (dk_at dksX3_mixes_1 6 rfl rfl)
abbrev cX3_addBowl : ByteArray := prog_21_method_33_code
def yX3_addBowl : MethodName := ⟨RX3, "addBowl", "(I)I"⟩
def dkwX3_addBowl_1 : List UInt8 := [182, 0, 84, 42, 27, 182, 0, 127, 172]
abbrev dktX3_addBowl_1 : List UInt8 := dkwX3_addBowl_1 ++ []
def dkwX3_addBowl_0 : List UInt8 := [42, 3, 181, 0, 1, 42, 27, 182, 0, 124, 61, 28, 153, 0, 9, 42, 28, 182, 0, 81, 172, 42]
abbrev dktX3_addBowl_0 : List UInt8 := dkwX3_addBowl_0 ++ dktX3_addBowl_1
theorem dksX3_addBowl_0 : cX3_addBowl.data.toList.drop 0 = dktX3_addBowl_0 := by decide +kernel
theorem dksX3_addBowl_1 : cX3_addBowl.data.toList.drop 22 = dktX3_addBowl_1 := dk_seg dksX3_addBowl_0 22 rfl rfl
theorem dX3_addBowl_0 : decode cX3_addBowl 0 = .ok (.aload_n 0, 1) := dk_42 (dk_at dksX3_addBowl_0 0 rfl rfl)
theorem dX3_addBowl_1 : decode cX3_addBowl 1 = .ok (.iconst 0, 1) := dk_3 (dk_at dksX3_addBowl_0 1 rfl rfl)
theorem dX3_addBowl_2 : decode cX3_addBowl 2 = .ok (.putfield 1, 3) := dk_181 0 1 (dk_at dksX3_addBowl_0 2 rfl rfl)
theorem dX3_addBowl_5 : decode cX3_addBowl 5 = .ok (.aload_n 0, 1) := dk_42 (dk_at dksX3_addBowl_0 5 rfl rfl)
theorem dX3_addBowl_6 : decode cX3_addBowl 6 = .ok (.iload_n 1, 1) := dk_27 (dk_at dksX3_addBowl_0 6 rfl rfl)
theorem dX3_addBowl_7 : decode cX3_addBowl 7 = .ok (.invokevirtual 124, 3) := dk_182 0 124 (dk_at dksX3_addBowl_0 7 rfl rfl)
theorem dX3_addBowl_10 : decode cX3_addBowl 10 = .ok (.istore_n 2, 1) := dk_61 (dk_at dksX3_addBowl_0 10 rfl rfl)
theorem dX3_addBowl_11 : decode cX3_addBowl 11 = .ok (.iload_n 2, 1) := dk_28 (dk_at dksX3_addBowl_0 11 rfl rfl)
theorem dX3_addBowl_12 : decode cX3_addBowl 12 = .ok (.ifCond .eq 9, 3) := dk_153 0 9 (dk_at dksX3_addBowl_0 12 rfl rfl)
theorem dX3_addBowl_15 : decode cX3_addBowl 15 = .ok (.aload_n 0, 1) := dk_42 (dk_at dksX3_addBowl_0 15 rfl rfl)
theorem dX3_addBowl_16 : decode cX3_addBowl 16 = .ok (.iload_n 2, 1) := dk_28 (dk_at dksX3_addBowl_0 16 rfl rfl)
theorem dX3_addBowl_17 : decode cX3_addBowl 17 = .ok (.invokevirtual 81, 3) := dk_182 0 81 (dk_at dksX3_addBowl_0 17 rfl rfl)
theorem dX3_addBowl_20 : decode cX3_addBowl 20 = .ok (.ireturn, 1) := dk_172 (dk_at dksX3_addBowl_0 20 rfl rfl)
theorem dX3_addBowl_21 : decode cX3_addBowl 21 = .ok (.aload_n 0, 1) := dk_42 (dk_at dksX3_addBowl_0 21 rfl rfl)
theorem dX3_addBowl_22 : decode cX3_addBowl 22 = .ok (.invokevirtual 84, 3) := dk_182 0 84 (dk_at dksX3_addBowl_1 0 rfl rfl)
theorem dX3_addBowl_25 : decode cX3_addBowl 25 = .ok (.aload_n 0, 1) := dk_42 (dk_at dksX3_addBowl_1 3 rfl rfl)
theorem dX3_addBowl_26 : decode cX3_addBowl 26 = .ok (.iload_n 1, 1) := dk_27 (dk_at dksX3_addBowl_1 4 rfl rfl)
theorem dX3_addBowl_27 : decode cX3_addBowl 27 = .ok (.invokevirtual 127, 3) := dk_182 0 127 (dk_at dksX3_addBowl_1 5 rfl rfl)
theorem dX3_addBowl_30 : decode cX3_addBowl 30 = .ok (.ireturn, 1) := dk_172 (dk_at dksX3_addBowl_1 8 rfl rfl)
abbrev cX3_notBowl : ByteArray := prog_21_method_31_code
def yX3_notBowl : MethodName := ⟨RX3, "notBowl", "(I)I"⟩
def dkwX3_notBowl_1 : List UInt8 := [167, 0, 4, 3, 172]
abbrev dktX3_notBowl_1 : List UInt8 := dkwX3_notBowl_1 ++ []
def dkwX3_notBowl_0 : List UInt8 := [27, 4, 17, 39, 15, 184, 0, 66, 154, 0, 5, 4, 172, 42, 4, 182, 0, 62, 8, 160, 0, 7, 5]
abbrev dktX3_notBowl_0 : List UInt8 := dkwX3_notBowl_0 ++ dktX3_notBowl_1
theorem dksX3_notBowl_0 : cX3_notBowl.data.toList.drop 0 = dktX3_notBowl_0 := by decide +kernel
theorem dksX3_notBowl_1 : cX3_notBowl.data.toList.drop 23 = dktX3_notBowl_1 := dk_seg dksX3_notBowl_0 23 rfl rfl
theorem dX3_notBowl_0 : decode cX3_notBowl 0 = .ok (.iload_n 1, 1) := dk_27 (dk_at dksX3_notBowl_0 0 rfl rfl)
theorem dX3_notBowl_1 : decode cX3_notBowl 1 = .ok (.iconst 1, 1) := dk_4 (dk_at dksX3_notBowl_0 1 rfl rfl)
theorem dX3_notBowl_2 : decode cX3_notBowl 2 = .ok (.sipush 9999, 3) := dk_17 39 15 (dk_at dksX3_notBowl_0 2 rfl rfl)
theorem dX3_notBowl_5 : decode cX3_notBowl 5 = .ok (.invokestatic 66, 3) := dk_184 0 66 (dk_at dksX3_notBowl_0 5 rfl rfl)
theorem dX3_notBowl_8 : decode cX3_notBowl 8 = .ok (.ifCond .ne 5, 3) := dk_154 0 5 (dk_at dksX3_notBowl_0 8 rfl rfl)
theorem dX3_notBowl_11 : decode cX3_notBowl 11 = .ok (.iconst 1, 1) := dk_4 (dk_at dksX3_notBowl_0 11 rfl rfl)
theorem dX3_notBowl_12 : decode cX3_notBowl 12 = .ok (.ireturn, 1) := dk_172 (dk_at dksX3_notBowl_0 12 rfl rfl)
theorem dX3_notBowl_13 : decode cX3_notBowl 13 = .ok (.aload_n 0, 1) := dk_42 (dk_at dksX3_notBowl_0 13 rfl rfl)
theorem dX3_notBowl_14 : decode cX3_notBowl 14 = .ok (.iconst 1, 1) := dk_4 (dk_at dksX3_notBowl_0 14 rfl rfl)
theorem dX3_notBowl_15 : decode cX3_notBowl 15 = .ok (.invokevirtual 62, 3) := dk_182 0 62 (dk_at dksX3_notBowl_0 15 rfl rfl)
theorem dX3_notBowl_18 : decode cX3_notBowl 18 = .ok (.iconst 5, 1) := dk_8 (dk_at dksX3_notBowl_0 18 rfl rfl)
theorem dX3_notBowl_19 : decode cX3_notBowl 19 = .ok (.if_icmp .ne 7, 3) := dk_160 0 7 (dk_at dksX3_notBowl_0 19 rfl rfl)
theorem dX3_notBowl_22 : decode cX3_notBowl 22 = .ok (.iconst 2, 1) := dk_5 (dk_at dksX3_notBowl_0 22 rfl rfl)
theorem dX3_notBowl_23 : decode cX3_notBowl 23 = .ok (.goto 4, 3) := dk_167 0 4 (dk_at dksX3_notBowl_1 0 rfl rfl)
theorem dX3_notBowl_26 : decode cX3_notBowl 26 = .ok (.iconst 0, 1) := dk_3 (dk_at dksX3_notBowl_1 3 rfl rfl)
theorem dX3_notBowl_27 : decode cX3_notBowl 27 = .ok (.ireturn, 1) := dk_172 (dk_at dksX3_notBowl_1 4 rfl rfl)
abbrev cX3_buys : ByteArray := prog_21_method_32_code
def yX3_buys : MethodName := ⟨RX3, "buys", "(I)I"⟩
def dkwX3_buys_1 : List UInt8 := [92, 47, 10, 97, 80, 42, 4, 182, 0, 62, 4, 100, 172]
abbrev dktX3_buys_1 : List UInt8 := dkwX3_buys_1 ++ []
def dkwX3_buys_0 : List UInt8 := [42, 180, 0, 13, 16, 22, 5, 42, 4, 182, 0, 62, 104, 96, 3, 96, 27, 133, 80, 42, 180, 0, 13, 4]
abbrev dktX3_buys_0 : List UInt8 := dkwX3_buys_0 ++ dktX3_buys_1
theorem dksX3_buys_0 : cX3_buys.data.toList.drop 0 = dktX3_buys_0 := by decide +kernel
theorem dksX3_buys_1 : cX3_buys.data.toList.drop 24 = dktX3_buys_1 := dk_seg dksX3_buys_0 24 rfl rfl
theorem dX3_buys_0 : decode cX3_buys 0 = .ok (.aload_n 0, 1) := dk_42 (dk_at dksX3_buys_0 0 rfl rfl)
theorem dX3_buys_1 : decode cX3_buys 1 = .ok (.getfield 13, 3) := dk_180 0 13 (dk_at dksX3_buys_0 1 rfl rfl)
theorem dX3_buys_4 : decode cX3_buys 4 = .ok (.bipush 22, 2) := dk_16 22 (dk_at dksX3_buys_0 4 rfl rfl)
theorem dX3_buys_6 : decode cX3_buys 6 = .ok (.iconst 2, 1) := dk_5 (dk_at dksX3_buys_0 6 rfl rfl)
theorem dX3_buys_7 : decode cX3_buys 7 = .ok (.aload_n 0, 1) := dk_42 (dk_at dksX3_buys_0 7 rfl rfl)
theorem dX3_buys_8 : decode cX3_buys 8 = .ok (.iconst 1, 1) := dk_4 (dk_at dksX3_buys_0 8 rfl rfl)
theorem dX3_buys_9 : decode cX3_buys 9 = .ok (.invokevirtual 62, 3) := dk_182 0 62 (dk_at dksX3_buys_0 9 rfl rfl)
theorem dX3_buys_12 : decode cX3_buys 12 = .ok (.imul, 1) := dk_104 (dk_at dksX3_buys_0 12 rfl rfl)
theorem dX3_buys_13 : decode cX3_buys 13 = .ok (.iadd, 1) := dk_96 (dk_at dksX3_buys_0 13 rfl rfl)
theorem dX3_buys_14 : decode cX3_buys 14 = .ok (.iconst 0, 1) := dk_3 (dk_at dksX3_buys_0 14 rfl rfl)
theorem dX3_buys_15 : decode cX3_buys 15 = .ok (.iadd, 1) := dk_96 (dk_at dksX3_buys_0 15 rfl rfl)
theorem dX3_buys_16 : decode cX3_buys 16 = .ok (.iload_n 1, 1) := dk_27 (dk_at dksX3_buys_0 16 rfl rfl)
theorem dX3_buys_17 : decode cX3_buys 17 = .ok (.i2l, 1) := dk_133 (dk_at dksX3_buys_0 17 rfl rfl)
theorem dX3_buys_18 : decode cX3_buys 18 = .ok (.lastore, 1) := dk_80 (dk_at dksX3_buys_0 18 rfl rfl)
theorem dX3_buys_19 : decode cX3_buys 19 = .ok (.aload_n 0, 1) := dk_42 (dk_at dksX3_buys_0 19 rfl rfl)
theorem dX3_buys_20 : decode cX3_buys 20 = .ok (.getfield 13, 3) := dk_180 0 13 (dk_at dksX3_buys_0 20 rfl rfl)
theorem dX3_buys_23 : decode cX3_buys 23 = .ok (.iconst 1, 1) := dk_4 (dk_at dksX3_buys_0 23 rfl rfl)
theorem dX3_buys_24 : decode cX3_buys 24 = .ok (.dup2, 1) := dk_92 (dk_at dksX3_buys_1 0 rfl rfl)
theorem dX3_buys_25 : decode cX3_buys 25 = .ok (.laload, 1) := dk_47 (dk_at dksX3_buys_1 1 rfl rfl)
theorem dX3_buys_26 : decode cX3_buys 26 = .ok (.lconst 1, 1) := dk_10 (dk_at dksX3_buys_1 2 rfl rfl)
theorem dX3_buys_27 : decode cX3_buys 27 = .ok (.ladd, 1) := dk_97 (dk_at dksX3_buys_1 3 rfl rfl)
theorem dX3_buys_28 : decode cX3_buys 28 = .ok (.lastore, 1) := dk_80 (dk_at dksX3_buys_1 4 rfl rfl)
theorem dX3_buys_29 : decode cX3_buys 29 = .ok (.aload_n 0, 1) := dk_42 (dk_at dksX3_buys_1 5 rfl rfl)
theorem dX3_buys_30 : decode cX3_buys 30 = .ok (.iconst 1, 1) := dk_4 (dk_at dksX3_buys_1 6 rfl rfl)
theorem dX3_buys_31 : decode cX3_buys 31 = .ok (.invokevirtual 62, 3) := dk_182 0 62 (dk_at dksX3_buys_1 7 rfl rfl)
theorem dX3_buys_34 : decode cX3_buys 34 = .ok (.iconst 1, 1) := dk_4 (dk_at dksX3_buys_1 10 rfl rfl)
theorem dX3_buys_35 : decode cX3_buys 35 = .ok (.isub, 1) := dk_100 (dk_at dksX3_buys_1 11 rfl rfl)
theorem dX3_buys_36 : decode cX3_buys 36 = .ok (.ireturn, 1) := dk_172 (dk_at dksX3_buys_1 12 rfl rfl)
abbrev cX3_addLoaf : ByteArray := prog_21_method_36_code
def yX3_addLoaf : MethodName := ⟨RX3, "addLoaf", "(II)I"⟩
def dkwX3_addLoaf_1 : List UInt8 := [182, 0, 84, 42, 27, 28, 182, 0, 133, 172]
abbrev dktX3_addLoaf_1 : List UInt8 := dkwX3_addLoaf_1 ++ []
def dkwX3_addLoaf_0 : List UInt8 := [42, 3, 181, 0, 1, 42, 27, 28, 182, 0, 130, 62, 29, 153, 0, 9, 42, 29, 182, 0, 81, 172, 42]
abbrev dktX3_addLoaf_0 : List UInt8 := dkwX3_addLoaf_0 ++ dktX3_addLoaf_1
theorem dksX3_addLoaf_0 : cX3_addLoaf.data.toList.drop 0 = dktX3_addLoaf_0 := by decide +kernel
theorem dksX3_addLoaf_1 : cX3_addLoaf.data.toList.drop 23 = dktX3_addLoaf_1 := dk_seg dksX3_addLoaf_0 23 rfl rfl
theorem dX3_addLoaf_0 : decode cX3_addLoaf 0 = .ok (.aload_n 0, 1) := dk_42 (dk_at dksX3_addLoaf_0 0 rfl rfl)
theorem dX3_addLoaf_1 : decode cX3_addLoaf 1 = .ok (.iconst 0, 1) := dk_3 (dk_at dksX3_addLoaf_0 1 rfl rfl)
theorem dX3_addLoaf_2 : decode cX3_addLoaf 2 = .ok (.putfield 1, 3) := dk_181 0 1 (dk_at dksX3_addLoaf_0 2 rfl rfl)
theorem dX3_addLoaf_5 : decode cX3_addLoaf 5 = .ok (.aload_n 0, 1) := dk_42 (dk_at dksX3_addLoaf_0 5 rfl rfl)
theorem dX3_addLoaf_6 : decode cX3_addLoaf 6 = .ok (.iload_n 1, 1) := dk_27 (dk_at dksX3_addLoaf_0 6 rfl rfl)
theorem dX3_addLoaf_7 : decode cX3_addLoaf 7 = .ok (.iload_n 2, 1) := dk_28 (dk_at dksX3_addLoaf_0 7 rfl rfl)
theorem dX3_addLoaf_8 : decode cX3_addLoaf 8 = .ok (.invokevirtual 130, 3) := dk_182 0 130 (dk_at dksX3_addLoaf_0 8 rfl rfl)
theorem dX3_addLoaf_11 : decode cX3_addLoaf 11 = .ok (.istore_n 3, 1) := dk_62 (dk_at dksX3_addLoaf_0 11 rfl rfl)
theorem dX3_addLoaf_12 : decode cX3_addLoaf 12 = .ok (.iload_n 3, 1) := dk_29 (dk_at dksX3_addLoaf_0 12 rfl rfl)
theorem dX3_addLoaf_13 : decode cX3_addLoaf 13 = .ok (.ifCond .eq 9, 3) := dk_153 0 9 (dk_at dksX3_addLoaf_0 13 rfl rfl)
theorem dX3_addLoaf_16 : decode cX3_addLoaf 16 = .ok (.aload_n 0, 1) := dk_42 (dk_at dksX3_addLoaf_0 16 rfl rfl)
theorem dX3_addLoaf_17 : decode cX3_addLoaf 17 = .ok (.iload_n 3, 1) := dk_29 (dk_at dksX3_addLoaf_0 17 rfl rfl)
theorem dX3_addLoaf_18 : decode cX3_addLoaf 18 = .ok (.invokevirtual 81, 3) := dk_182 0 81 (dk_at dksX3_addLoaf_0 18 rfl rfl)
theorem dX3_addLoaf_21 : decode cX3_addLoaf 21 = .ok (.ireturn, 1) := dk_172 (dk_at dksX3_addLoaf_0 21 rfl rfl)
theorem dX3_addLoaf_22 : decode cX3_addLoaf 22 = .ok (.aload_n 0, 1) := dk_42 (dk_at dksX3_addLoaf_0 22 rfl rfl)
theorem dX3_addLoaf_23 : decode cX3_addLoaf 23 = .ok (.invokevirtual 84, 3) := dk_182 0 84 (dk_at dksX3_addLoaf_1 0 rfl rfl)
theorem dX3_addLoaf_26 : decode cX3_addLoaf 26 = .ok (.aload_n 0, 1) := dk_42 (dk_at dksX3_addLoaf_1 3 rfl rfl)
theorem dX3_addLoaf_27 : decode cX3_addLoaf 27 = .ok (.iload_n 1, 1) := dk_27 (dk_at dksX3_addLoaf_1 4 rfl rfl)
theorem dX3_addLoaf_28 : decode cX3_addLoaf 28 = .ok (.iload_n 2, 1) := dk_28 (dk_at dksX3_addLoaf_1 5 rfl rfl)
theorem dX3_addLoaf_29 : decode cX3_addLoaf 29 = .ok (.invokevirtual 133, 3) := dk_182 0 133 (dk_at dksX3_addLoaf_1 6 rfl rfl)
theorem dX3_addLoaf_32 : decode cX3_addLoaf 32 = .ok (.ireturn, 1) := dk_172 (dk_at dksX3_addLoaf_1 9 rfl rfl)
abbrev cX3_notLoaf : ByteArray := prog_21_method_34_code
def yX3_notLoaf : MethodName := ⟨RX3, "notLoaf", "(II)I"⟩
def dkwX3_notLoaf_1 : List UInt8 := [182, 0, 62, 16, 8, 160, 0, 7, 5, 167, 0, 4, 3, 172]
abbrev dktX3_notLoaf_1 : List UInt8 := dkwX3_notLoaf_1 ++ []
def dkwX3_notLoaf_0 : List UInt8 := [27, 4, 16, 20, 184, 0, 66, 153, 0, 13, 28, 4, 16, 60, 184, 0, 66, 154, 0, 5, 4, 172, 42, 5]
abbrev dktX3_notLoaf_0 : List UInt8 := dkwX3_notLoaf_0 ++ dktX3_notLoaf_1
theorem dksX3_notLoaf_0 : cX3_notLoaf.data.toList.drop 0 = dktX3_notLoaf_0 := by decide +kernel
theorem dksX3_notLoaf_1 : cX3_notLoaf.data.toList.drop 24 = dktX3_notLoaf_1 := dk_seg dksX3_notLoaf_0 24 rfl rfl
theorem dX3_notLoaf_0 : decode cX3_notLoaf 0 = .ok (.iload_n 1, 1) := dk_27 (dk_at dksX3_notLoaf_0 0 rfl rfl)
theorem dX3_notLoaf_1 : decode cX3_notLoaf 1 = .ok (.iconst 1, 1) := dk_4 (dk_at dksX3_notLoaf_0 1 rfl rfl)
theorem dX3_notLoaf_2 : decode cX3_notLoaf 2 = .ok (.bipush 20, 2) := dk_16 20 (dk_at dksX3_notLoaf_0 2 rfl rfl)
theorem dX3_notLoaf_4 : decode cX3_notLoaf 4 = .ok (.invokestatic 66, 3) := dk_184 0 66 (dk_at dksX3_notLoaf_0 4 rfl rfl)
theorem dX3_notLoaf_7 : decode cX3_notLoaf 7 = .ok (.ifCond .eq 13, 3) := dk_153 0 13 (dk_at dksX3_notLoaf_0 7 rfl rfl)
theorem dX3_notLoaf_10 : decode cX3_notLoaf 10 = .ok (.iload_n 2, 1) := dk_28 (dk_at dksX3_notLoaf_0 10 rfl rfl)
theorem dX3_notLoaf_11 : decode cX3_notLoaf 11 = .ok (.iconst 1, 1) := dk_4 (dk_at dksX3_notLoaf_0 11 rfl rfl)
theorem dX3_notLoaf_12 : decode cX3_notLoaf 12 = .ok (.bipush 60, 2) := dk_16 60 (dk_at dksX3_notLoaf_0 12 rfl rfl)
theorem dX3_notLoaf_14 : decode cX3_notLoaf 14 = .ok (.invokestatic 66, 3) := dk_184 0 66 (dk_at dksX3_notLoaf_0 14 rfl rfl)
theorem dX3_notLoaf_17 : decode cX3_notLoaf 17 = .ok (.ifCond .ne 5, 3) := dk_154 0 5 (dk_at dksX3_notLoaf_0 17 rfl rfl)
theorem dX3_notLoaf_20 : decode cX3_notLoaf 20 = .ok (.iconst 1, 1) := dk_4 (dk_at dksX3_notLoaf_0 20 rfl rfl)
theorem dX3_notLoaf_21 : decode cX3_notLoaf 21 = .ok (.ireturn, 1) := dk_172 (dk_at dksX3_notLoaf_0 21 rfl rfl)
theorem dX3_notLoaf_22 : decode cX3_notLoaf 22 = .ok (.aload_n 0, 1) := dk_42 (dk_at dksX3_notLoaf_0 22 rfl rfl)
theorem dX3_notLoaf_23 : decode cX3_notLoaf 23 = .ok (.iconst 2, 1) := dk_5 (dk_at dksX3_notLoaf_0 23 rfl rfl)
theorem dX3_notLoaf_24 : decode cX3_notLoaf 24 = .ok (.invokevirtual 62, 3) := dk_182 0 62 (dk_at dksX3_notLoaf_1 0 rfl rfl)
theorem dX3_notLoaf_27 : decode cX3_notLoaf 27 = .ok (.bipush 8, 2) := dk_16 8 (dk_at dksX3_notLoaf_1 3 rfl rfl)
theorem dX3_notLoaf_29 : decode cX3_notLoaf 29 = .ok (.if_icmp .ne 7, 3) := dk_160 0 7 (dk_at dksX3_notLoaf_1 5 rfl rfl)
theorem dX3_notLoaf_32 : decode cX3_notLoaf 32 = .ok (.iconst 2, 1) := dk_5 (dk_at dksX3_notLoaf_1 8 rfl rfl)
theorem dX3_notLoaf_33 : decode cX3_notLoaf 33 = .ok (.goto 4, 3) := dk_167 0 4 (dk_at dksX3_notLoaf_1 9 rfl rfl)
theorem dX3_notLoaf_36 : decode cX3_notLoaf 36 = .ok (.iconst 0, 1) := dk_3 (dk_at dksX3_notLoaf_1 12 rfl rfl)
theorem dX3_notLoaf_37 : decode cX3_notLoaf 37 = .ok (.ireturn, 1) := dk_172 (dk_at dksX3_notLoaf_1 13 rfl rfl)
abbrev cX3_forms : ByteArray := prog_21_method_35_code
def yX3_forms : MethodName := ⟨RX3, "forms", "(II)I"⟩
def dkwX3_forms_2 : List UInt8 := [4, 100, 172]
abbrev dktX3_forms_2 : List UInt8 := dkwX3_forms_2 ++ []
def dkwX3_forms_1 : List UInt8 := [180, 0, 13, 29, 4, 96, 28, 133, 80, 42, 180, 0, 13, 5, 92, 47, 10, 97, 80, 42, 5, 182, 0, 62]
abbrev dktX3_forms_1 : List UInt8 := dkwX3_forms_1 ++ dktX3_forms_2
def dkwX3_forms_0 : List UInt8 := [16, 32, 6, 42, 5, 182, 0, 62, 104, 96, 62, 42, 180, 0, 13, 29, 3, 96, 27, 133, 80, 42]
abbrev dktX3_forms_0 : List UInt8 := dkwX3_forms_0 ++ dktX3_forms_1
theorem dksX3_forms_0 : cX3_forms.data.toList.drop 0 = dktX3_forms_0 := by decide +kernel
theorem dksX3_forms_1 : cX3_forms.data.toList.drop 22 = dktX3_forms_1 := dk_seg dksX3_forms_0 22 rfl rfl
theorem dksX3_forms_2 : cX3_forms.data.toList.drop 46 = dktX3_forms_2 := dk_seg dksX3_forms_1 24 rfl rfl
theorem dX3_forms_0 : decode cX3_forms 0 = .ok (.bipush 32, 2) := dk_16 32 (dk_at dksX3_forms_0 0 rfl rfl)
theorem dX3_forms_2 : decode cX3_forms 2 = .ok (.iconst 3, 1) := dk_6 (dk_at dksX3_forms_0 2 rfl rfl)
theorem dX3_forms_3 : decode cX3_forms 3 = .ok (.aload_n 0, 1) := dk_42 (dk_at dksX3_forms_0 3 rfl rfl)
theorem dX3_forms_4 : decode cX3_forms 4 = .ok (.iconst 2, 1) := dk_5 (dk_at dksX3_forms_0 4 rfl rfl)
theorem dX3_forms_5 : decode cX3_forms 5 = .ok (.invokevirtual 62, 3) := dk_182 0 62 (dk_at dksX3_forms_0 5 rfl rfl)
theorem dX3_forms_8 : decode cX3_forms 8 = .ok (.imul, 1) := dk_104 (dk_at dksX3_forms_0 8 rfl rfl)
theorem dX3_forms_9 : decode cX3_forms 9 = .ok (.iadd, 1) := dk_96 (dk_at dksX3_forms_0 9 rfl rfl)
theorem dX3_forms_10 : decode cX3_forms 10 = .ok (.istore_n 3, 1) := dk_62 (dk_at dksX3_forms_0 10 rfl rfl)
theorem dX3_forms_11 : decode cX3_forms 11 = .ok (.aload_n 0, 1) := dk_42 (dk_at dksX3_forms_0 11 rfl rfl)
theorem dX3_forms_12 : decode cX3_forms 12 = .ok (.getfield 13, 3) := dk_180 0 13 (dk_at dksX3_forms_0 12 rfl rfl)
theorem dX3_forms_15 : decode cX3_forms 15 = .ok (.iload_n 3, 1) := dk_29 (dk_at dksX3_forms_0 15 rfl rfl)
theorem dX3_forms_16 : decode cX3_forms 16 = .ok (.iconst 0, 1) := dk_3 (dk_at dksX3_forms_0 16 rfl rfl)
theorem dX3_forms_17 : decode cX3_forms 17 = .ok (.iadd, 1) := dk_96 (dk_at dksX3_forms_0 17 rfl rfl)
theorem dX3_forms_18 : decode cX3_forms 18 = .ok (.iload_n 1, 1) := dk_27 (dk_at dksX3_forms_0 18 rfl rfl)
theorem dX3_forms_19 : decode cX3_forms 19 = .ok (.i2l, 1) := dk_133 (dk_at dksX3_forms_0 19 rfl rfl)
theorem dX3_forms_20 : decode cX3_forms 20 = .ok (.lastore, 1) := dk_80 (dk_at dksX3_forms_0 20 rfl rfl)
theorem dX3_forms_21 : decode cX3_forms 21 = .ok (.aload_n 0, 1) := dk_42 (dk_at dksX3_forms_0 21 rfl rfl)
theorem dX3_forms_22 : decode cX3_forms 22 = .ok (.getfield 13, 3) := dk_180 0 13 (dk_at dksX3_forms_1 0 rfl rfl)
theorem dX3_forms_25 : decode cX3_forms 25 = .ok (.iload_n 3, 1) := dk_29 (dk_at dksX3_forms_1 3 rfl rfl)
theorem dX3_forms_26 : decode cX3_forms 26 = .ok (.iconst 1, 1) := dk_4 (dk_at dksX3_forms_1 4 rfl rfl)
theorem dX3_forms_27 : decode cX3_forms 27 = .ok (.iadd, 1) := dk_96 (dk_at dksX3_forms_1 5 rfl rfl)
theorem dX3_forms_28 : decode cX3_forms 28 = .ok (.iload_n 2, 1) := dk_28 (dk_at dksX3_forms_1 6 rfl rfl)
theorem dX3_forms_29 : decode cX3_forms 29 = .ok (.i2l, 1) := dk_133 (dk_at dksX3_forms_1 7 rfl rfl)
theorem dX3_forms_30 : decode cX3_forms 30 = .ok (.lastore, 1) := dk_80 (dk_at dksX3_forms_1 8 rfl rfl)
theorem dX3_forms_31 : decode cX3_forms 31 = .ok (.aload_n 0, 1) := dk_42 (dk_at dksX3_forms_1 9 rfl rfl)
theorem dX3_forms_32 : decode cX3_forms 32 = .ok (.getfield 13, 3) := dk_180 0 13 (dk_at dksX3_forms_1 10 rfl rfl)
theorem dX3_forms_35 : decode cX3_forms 35 = .ok (.iconst 2, 1) := dk_5 (dk_at dksX3_forms_1 13 rfl rfl)
theorem dX3_forms_36 : decode cX3_forms 36 = .ok (.dup2, 1) := dk_92 (dk_at dksX3_forms_1 14 rfl rfl)
theorem dX3_forms_37 : decode cX3_forms 37 = .ok (.laload, 1) := dk_47 (dk_at dksX3_forms_1 15 rfl rfl)
theorem dX3_forms_38 : decode cX3_forms 38 = .ok (.lconst 1, 1) := dk_10 (dk_at dksX3_forms_1 16 rfl rfl)
theorem dX3_forms_39 : decode cX3_forms 39 = .ok (.ladd, 1) := dk_97 (dk_at dksX3_forms_1 17 rfl rfl)
theorem dX3_forms_40 : decode cX3_forms 40 = .ok (.lastore, 1) := dk_80 (dk_at dksX3_forms_1 18 rfl rfl)
theorem dX3_forms_41 : decode cX3_forms 41 = .ok (.aload_n 0, 1) := dk_42 (dk_at dksX3_forms_1 19 rfl rfl)
theorem dX3_forms_42 : decode cX3_forms 42 = .ok (.iconst 2, 1) := dk_5 (dk_at dksX3_forms_1 20 rfl rfl)
theorem dX3_forms_43 : decode cX3_forms 43 = .ok (.invokevirtual 62, 3) := dk_182 0 62 (dk_at dksX3_forms_1 21 rfl rfl)
theorem dX3_forms_46 : decode cX3_forms 46 = .ok (.iconst 1, 1) := dk_4 (dk_at dksX3_forms_2 0 rfl rfl)
theorem dX3_forms_47 : decode cX3_forms 47 = .ok (.isub, 1) := dk_100 (dk_at dksX3_forms_2 1 rfl rfl)
theorem dX3_forms_48 : decode cX3_forms 48 = .ok (.ireturn, 1) := dk_172 (dk_at dksX3_forms_2 2 rfl rfl)
abbrev cX3_sellLoaf : ByteArray := prog_21_method_38_code
def yX3_sellLoaf : MethodName := ⟨RX3, "sellLoaf", "(I)I"⟩
def dkwX3_sellLoaf_1 : List UInt8 := [27, 182, 0, 139, 172]
abbrev dktX3_sellLoaf_1 : List UInt8 := dkwX3_sellLoaf_1 ++ []
def dkwX3_sellLoaf_0 : List UInt8 := [42, 3, 181, 0, 1, 42, 27, 182, 0, 136, 154, 0, 9, 42, 4, 182, 0, 81, 172, 42, 182, 0, 84, 42]
abbrev dktX3_sellLoaf_0 : List UInt8 := dkwX3_sellLoaf_0 ++ dktX3_sellLoaf_1
theorem dksX3_sellLoaf_0 : cX3_sellLoaf.data.toList.drop 0 = dktX3_sellLoaf_0 := by decide +kernel
theorem dksX3_sellLoaf_1 : cX3_sellLoaf.data.toList.drop 24 = dktX3_sellLoaf_1 := dk_seg dksX3_sellLoaf_0 24 rfl rfl
theorem dX3_sellLoaf_0 : decode cX3_sellLoaf 0 = .ok (.aload_n 0, 1) := dk_42 (dk_at dksX3_sellLoaf_0 0 rfl rfl)
theorem dX3_sellLoaf_1 : decode cX3_sellLoaf 1 = .ok (.iconst 0, 1) := dk_3 (dk_at dksX3_sellLoaf_0 1 rfl rfl)
theorem dX3_sellLoaf_2 : decode cX3_sellLoaf 2 = .ok (.putfield 1, 3) := dk_181 0 1 (dk_at dksX3_sellLoaf_0 2 rfl rfl)
theorem dX3_sellLoaf_5 : decode cX3_sellLoaf 5 = .ok (.aload_n 0, 1) := dk_42 (dk_at dksX3_sellLoaf_0 5 rfl rfl)
theorem dX3_sellLoaf_6 : decode cX3_sellLoaf 6 = .ok (.iload_n 1, 1) := dk_27 (dk_at dksX3_sellLoaf_0 6 rfl rfl)
theorem dX3_sellLoaf_7 : decode cX3_sellLoaf 7 = .ok (.invokevirtual 136, 3) := dk_182 0 136 (dk_at dksX3_sellLoaf_0 7 rfl rfl)
theorem dX3_sellLoaf_10 : decode cX3_sellLoaf 10 = .ok (.ifCond .ne 9, 3) := dk_154 0 9 (dk_at dksX3_sellLoaf_0 10 rfl rfl)
theorem dX3_sellLoaf_13 : decode cX3_sellLoaf 13 = .ok (.aload_n 0, 1) := dk_42 (dk_at dksX3_sellLoaf_0 13 rfl rfl)
theorem dX3_sellLoaf_14 : decode cX3_sellLoaf 14 = .ok (.iconst 1, 1) := dk_4 (dk_at dksX3_sellLoaf_0 14 rfl rfl)
theorem dX3_sellLoaf_15 : decode cX3_sellLoaf 15 = .ok (.invokevirtual 81, 3) := dk_182 0 81 (dk_at dksX3_sellLoaf_0 15 rfl rfl)
theorem dX3_sellLoaf_18 : decode cX3_sellLoaf 18 = .ok (.ireturn, 1) := dk_172 (dk_at dksX3_sellLoaf_0 18 rfl rfl)
theorem dX3_sellLoaf_19 : decode cX3_sellLoaf 19 = .ok (.aload_n 0, 1) := dk_42 (dk_at dksX3_sellLoaf_0 19 rfl rfl)
theorem dX3_sellLoaf_20 : decode cX3_sellLoaf 20 = .ok (.invokevirtual 84, 3) := dk_182 0 84 (dk_at dksX3_sellLoaf_0 20 rfl rfl)
theorem dX3_sellLoaf_23 : decode cX3_sellLoaf 23 = .ok (.aload_n 0, 1) := dk_42 (dk_at dksX3_sellLoaf_0 23 rfl rfl)
theorem dX3_sellLoaf_24 : decode cX3_sellLoaf 24 = .ok (.iload_n 1, 1) := dk_27 (dk_at dksX3_sellLoaf_1 0 rfl rfl)
theorem dX3_sellLoaf_25 : decode cX3_sellLoaf 25 = .ok (.invokevirtual 139, 3) := dk_182 0 139 (dk_at dksX3_sellLoaf_1 1 rfl rfl)
theorem dX3_sellLoaf_28 : decode cX3_sellLoaf 28 = .ok (.ireturn, 1) := dk_172 (dk_at dksX3_sellLoaf_1 4 rfl rfl)
abbrev cX3_isLoaf : ByteArray := prog_21_method_27_code
def yX3_isLoaf : MethodName := ⟨RX3, "isLoaf", "(I)Z"⟩
def dkwX3_isLoaf_0 : List UInt8 := [27, 3, 42, 5, 182, 0, 62, 4, 100, 184, 0, 66, 172]
abbrev dktX3_isLoaf_0 : List UInt8 := dkwX3_isLoaf_0 ++ []
theorem dksX3_isLoaf_0 : cX3_isLoaf.data.toList.drop 0 = dktX3_isLoaf_0 := by decide +kernel
theorem dX3_isLoaf_0 : decode cX3_isLoaf 0 = .ok (.iload_n 1, 1) := dk_27 (dk_at dksX3_isLoaf_0 0 rfl rfl)
theorem dX3_isLoaf_1 : decode cX3_isLoaf 1 = .ok (.iconst 0, 1) := dk_3 (dk_at dksX3_isLoaf_0 1 rfl rfl)
theorem dX3_isLoaf_2 : decode cX3_isLoaf 2 = .ok (.aload_n 0, 1) := dk_42 (dk_at dksX3_isLoaf_0 2 rfl rfl)
theorem dX3_isLoaf_3 : decode cX3_isLoaf 3 = .ok (.iconst 2, 1) := dk_5 (dk_at dksX3_isLoaf_0 3 rfl rfl)
theorem dX3_isLoaf_4 : decode cX3_isLoaf 4 = .ok (.invokevirtual 62, 3) := dk_182 0 62 (dk_at dksX3_isLoaf_0 4 rfl rfl)
theorem dX3_isLoaf_7 : decode cX3_isLoaf 7 = .ok (.iconst 1, 1) := dk_4 (dk_at dksX3_isLoaf_0 7 rfl rfl)
theorem dX3_isLoaf_8 : decode cX3_isLoaf 8 = .ok (.isub, 1) := dk_100 (dk_at dksX3_isLoaf_0 8 rfl rfl)
theorem dX3_isLoaf_9 : decode cX3_isLoaf 9 = .ok (.invokestatic 66, 3) := dk_184 0 66 (dk_at dksX3_isLoaf_0 9 rfl rfl)
theorem dX3_isLoaf_12 : decode cX3_isLoaf 12 = .ok (.ireturn, 1) := dk_172 (dk_at dksX3_isLoaf_0 12 rfl rfl)
abbrev cX3_sells : ByteArray := prog_21_method_37_code
def yX3_sells : MethodName := ⟨RX3, "sells", "(I)I"⟩
def dkwX3_sells_4 : List UInt8 := [80, 132, 4, 1, 167, 255, 237, 28, 172]
abbrev dktX3_sells_4 : List UInt8 := dkwX3_sells_4 ++ []
def dkwX3_sells_3 : List UInt8 := [132, 4, 1, 167, 255, 231, 3, 54, 4, 21, 4, 6, 162, 0, 19, 42, 180, 0, 13, 29, 21, 4, 96, 9]
abbrev dktX3_sells_3 : List UInt8 := dkwX3_sells_3 ++ dktX3_sells_4
def dkwX3_sells_2 : List UInt8 := [21, 4, 29, 162, 0, 25, 42, 180, 0, 13, 21, 4, 42, 180, 0, 13, 21, 4, 6, 96, 47, 80]
abbrev dktX3_sells_2 : List UInt8 := dkwX3_sells_2 ++ dktX3_sells_3
def dkwX3_sells_1 : List UInt8 := [92, 47, 10, 101, 80, 16, 32, 6, 42, 5, 182, 0, 62, 104, 96, 62, 16, 32, 6, 27, 104, 96, 54, 4]
abbrev dktX3_sells_1 : List UInt8 := dkwX3_sells_1 ++ dktX3_sells_2
def dkwX3_sells_0 : List UInt8 := [42, 27, 5, 182, 0, 121, 61, 42, 180, 0, 13, 16, 8, 92, 47, 28, 133, 97, 80, 42, 180, 0, 13, 5]
abbrev dktX3_sells_0 : List UInt8 := dkwX3_sells_0 ++ dktX3_sells_1
theorem dksX3_sells_0 : cX3_sells.data.toList.drop 0 = dktX3_sells_0 := by decide +kernel
theorem dksX3_sells_1 : cX3_sells.data.toList.drop 24 = dktX3_sells_1 := dk_seg dksX3_sells_0 24 rfl rfl
theorem dksX3_sells_2 : cX3_sells.data.toList.drop 48 = dktX3_sells_2 := dk_seg dksX3_sells_1 24 rfl rfl
theorem dksX3_sells_3 : cX3_sells.data.toList.drop 70 = dktX3_sells_3 := dk_seg dksX3_sells_2 22 rfl rfl
theorem dksX3_sells_4 : cX3_sells.data.toList.drop 94 = dktX3_sells_4 := dk_seg dksX3_sells_3 24 rfl rfl
theorem dX3_sells_0 : decode cX3_sells 0 = .ok (.aload_n 0, 1) := dk_42 (dk_at dksX3_sells_0 0 rfl rfl)
theorem dX3_sells_1 : decode cX3_sells 1 = .ok (.iload_n 1, 1) := dk_27 (dk_at dksX3_sells_0 1 rfl rfl)
theorem dX3_sells_2 : decode cX3_sells 2 = .ok (.iconst 2, 1) := dk_5 (dk_at dksX3_sells_0 2 rfl rfl)
theorem dX3_sells_3 : decode cX3_sells 3 = .ok (.invokevirtual 121, 3) := dk_182 0 121 (dk_at dksX3_sells_0 3 rfl rfl)
theorem dX3_sells_6 : decode cX3_sells 6 = .ok (.istore_n 2, 1) := dk_61 (dk_at dksX3_sells_0 6 rfl rfl)
theorem dX3_sells_7 : decode cX3_sells 7 = .ok (.aload_n 0, 1) := dk_42 (dk_at dksX3_sells_0 7 rfl rfl)
theorem dX3_sells_8 : decode cX3_sells 8 = .ok (.getfield 13, 3) := dk_180 0 13 (dk_at dksX3_sells_0 8 rfl rfl)
theorem dX3_sells_11 : decode cX3_sells 11 = .ok (.bipush 8, 2) := dk_16 8 (dk_at dksX3_sells_0 11 rfl rfl)
theorem dX3_sells_13 : decode cX3_sells 13 = .ok (.dup2, 1) := dk_92 (dk_at dksX3_sells_0 13 rfl rfl)
theorem dX3_sells_14 : decode cX3_sells 14 = .ok (.laload, 1) := dk_47 (dk_at dksX3_sells_0 14 rfl rfl)
theorem dX3_sells_15 : decode cX3_sells 15 = .ok (.iload_n 2, 1) := dk_28 (dk_at dksX3_sells_0 15 rfl rfl)
theorem dX3_sells_16 : decode cX3_sells 16 = .ok (.i2l, 1) := dk_133 (dk_at dksX3_sells_0 16 rfl rfl)
theorem dX3_sells_17 : decode cX3_sells 17 = .ok (.ladd, 1) := dk_97 (dk_at dksX3_sells_0 17 rfl rfl)
theorem dX3_sells_18 : decode cX3_sells 18 = .ok (.lastore, 1) := dk_80 (dk_at dksX3_sells_0 18 rfl rfl)
theorem dX3_sells_19 : decode cX3_sells 19 = .ok (.aload_n 0, 1) := dk_42 (dk_at dksX3_sells_0 19 rfl rfl)
theorem dX3_sells_20 : decode cX3_sells 20 = .ok (.getfield 13, 3) := dk_180 0 13 (dk_at dksX3_sells_0 20 rfl rfl)
theorem dX3_sells_23 : decode cX3_sells 23 = .ok (.iconst 2, 1) := dk_5 (dk_at dksX3_sells_0 23 rfl rfl)
theorem dX3_sells_24 : decode cX3_sells 24 = .ok (.dup2, 1) := dk_92 (dk_at dksX3_sells_1 0 rfl rfl)
theorem dX3_sells_25 : decode cX3_sells 25 = .ok (.laload, 1) := dk_47 (dk_at dksX3_sells_1 1 rfl rfl)
theorem dX3_sells_26 : decode cX3_sells 26 = .ok (.lconst 1, 1) := dk_10 (dk_at dksX3_sells_1 2 rfl rfl)
theorem dX3_sells_27 : decode cX3_sells 27 = .ok (.lsub, 1) := dk_101 (dk_at dksX3_sells_1 3 rfl rfl)
theorem dX3_sells_28 : decode cX3_sells 28 = .ok (.lastore, 1) := dk_80 (dk_at dksX3_sells_1 4 rfl rfl)
theorem dX3_sells_29 : decode cX3_sells 29 = .ok (.bipush 32, 2) := dk_16 32 (dk_at dksX3_sells_1 5 rfl rfl)
theorem dX3_sells_31 : decode cX3_sells 31 = .ok (.iconst 3, 1) := dk_6 (dk_at dksX3_sells_1 7 rfl rfl)
theorem dX3_sells_32 : decode cX3_sells 32 = .ok (.aload_n 0, 1) := dk_42 (dk_at dksX3_sells_1 8 rfl rfl)
theorem dX3_sells_33 : decode cX3_sells 33 = .ok (.iconst 2, 1) := dk_5 (dk_at dksX3_sells_1 9 rfl rfl)
theorem dX3_sells_34 : decode cX3_sells 34 = .ok (.invokevirtual 62, 3) := dk_182 0 62 (dk_at dksX3_sells_1 10 rfl rfl)
theorem dX3_sells_37 : decode cX3_sells 37 = .ok (.imul, 1) := dk_104 (dk_at dksX3_sells_1 13 rfl rfl)
theorem dX3_sells_38 : decode cX3_sells 38 = .ok (.iadd, 1) := dk_96 (dk_at dksX3_sells_1 14 rfl rfl)
theorem dX3_sells_39 : decode cX3_sells 39 = .ok (.istore_n 3, 1) := dk_62 (dk_at dksX3_sells_1 15 rfl rfl)
theorem dX3_sells_40 : decode cX3_sells 40 = .ok (.bipush 32, 2) := dk_16 32 (dk_at dksX3_sells_1 16 rfl rfl)
theorem dX3_sells_42 : decode cX3_sells 42 = .ok (.iconst 3, 1) := dk_6 (dk_at dksX3_sells_1 18 rfl rfl)
theorem dX3_sells_43 : decode cX3_sells 43 = .ok (.iload_n 1, 1) := dk_27 (dk_at dksX3_sells_1 19 rfl rfl)
theorem dX3_sells_44 : decode cX3_sells 44 = .ok (.imul, 1) := dk_104 (dk_at dksX3_sells_1 20 rfl rfl)
theorem dX3_sells_45 : decode cX3_sells 45 = .ok (.iadd, 1) := dk_96 (dk_at dksX3_sells_1 21 rfl rfl)
theorem dX3_sells_46 : decode cX3_sells 46 = .ok (.istore 4, 2) := dk_54 4 (dk_at dksX3_sells_1 22 rfl rfl)
theorem dX3_sells_48 : decode cX3_sells 48 = .ok (.iload 4, 2) := dk_21 4 (dk_at dksX3_sells_2 0 rfl rfl)
theorem dX3_sells_50 : decode cX3_sells 50 = .ok (.iload_n 3, 1) := dk_29 (dk_at dksX3_sells_2 2 rfl rfl)
theorem dX3_sells_51 : decode cX3_sells 51 = .ok (.if_icmp .ge 25, 3) := dk_162 0 25 (dk_at dksX3_sells_2 3 rfl rfl)
theorem dX3_sells_54 : decode cX3_sells 54 = .ok (.aload_n 0, 1) := dk_42 (dk_at dksX3_sells_2 6 rfl rfl)
theorem dX3_sells_55 : decode cX3_sells 55 = .ok (.getfield 13, 3) := dk_180 0 13 (dk_at dksX3_sells_2 7 rfl rfl)
theorem dX3_sells_58 : decode cX3_sells 58 = .ok (.iload 4, 2) := dk_21 4 (dk_at dksX3_sells_2 10 rfl rfl)
theorem dX3_sells_60 : decode cX3_sells 60 = .ok (.aload_n 0, 1) := dk_42 (dk_at dksX3_sells_2 12 rfl rfl)
theorem dX3_sells_61 : decode cX3_sells 61 = .ok (.getfield 13, 3) := dk_180 0 13 (dk_at dksX3_sells_2 13 rfl rfl)
theorem dX3_sells_64 : decode cX3_sells 64 = .ok (.iload 4, 2) := dk_21 4 (dk_at dksX3_sells_2 16 rfl rfl)
theorem dX3_sells_66 : decode cX3_sells 66 = .ok (.iconst 3, 1) := dk_6 (dk_at dksX3_sells_2 18 rfl rfl)
theorem dX3_sells_67 : decode cX3_sells 67 = .ok (.iadd, 1) := dk_96 (dk_at dksX3_sells_2 19 rfl rfl)
theorem dX3_sells_68 : decode cX3_sells 68 = .ok (.laload, 1) := dk_47 (dk_at dksX3_sells_2 20 rfl rfl)
theorem dX3_sells_69 : decode cX3_sells 69 = .ok (.lastore, 1) := dk_80 (dk_at dksX3_sells_2 21 rfl rfl)
theorem dX3_sells_70 : decode cX3_sells 70 = .ok (.iinc 4 1, 3) := dk_132 4 1 (dk_at dksX3_sells_3 0 rfl rfl)
theorem dX3_sells_73 : decode cX3_sells 73 = .ok (.goto (-25), 3) := dk_167 255 231 (dk_at dksX3_sells_3 3 rfl rfl)
theorem dX3_sells_76 : decode cX3_sells 76 = .ok (.iconst 0, 1) := dk_3 (dk_at dksX3_sells_3 6 rfl rfl)
theorem dX3_sells_77 : decode cX3_sells 77 = .ok (.istore 4, 2) := dk_54 4 (dk_at dksX3_sells_3 7 rfl rfl)
theorem dX3_sells_79 : decode cX3_sells 79 = .ok (.iload 4, 2) := dk_21 4 (dk_at dksX3_sells_3 9 rfl rfl)
theorem dX3_sells_81 : decode cX3_sells 81 = .ok (.iconst 3, 1) := dk_6 (dk_at dksX3_sells_3 11 rfl rfl)
theorem dX3_sells_82 : decode cX3_sells 82 = .ok (.if_icmp .ge 19, 3) := dk_162 0 19 (dk_at dksX3_sells_3 12 rfl rfl)
theorem dX3_sells_85 : decode cX3_sells 85 = .ok (.aload_n 0, 1) := dk_42 (dk_at dksX3_sells_3 15 rfl rfl)
theorem dX3_sells_86 : decode cX3_sells 86 = .ok (.getfield 13, 3) := dk_180 0 13 (dk_at dksX3_sells_3 16 rfl rfl)
theorem dX3_sells_89 : decode cX3_sells 89 = .ok (.iload_n 3, 1) := dk_29 (dk_at dksX3_sells_3 19 rfl rfl)
theorem dX3_sells_90 : decode cX3_sells 90 = .ok (.iload 4, 2) := dk_21 4 (dk_at dksX3_sells_3 20 rfl rfl)
theorem dX3_sells_92 : decode cX3_sells 92 = .ok (.iadd, 1) := dk_96 (dk_at dksX3_sells_3 22 rfl rfl)
theorem dX3_sells_93 : decode cX3_sells 93 = .ok (.lconst 0, 1) := dk_9 (dk_at dksX3_sells_3 23 rfl rfl)
theorem dX3_sells_94 : decode cX3_sells 94 = .ok (.lastore, 1) := dk_80 (dk_at dksX3_sells_4 0 rfl rfl)
theorem dX3_sells_95 : decode cX3_sells 95 = .ok (.iinc 4 1, 3) := dk_132 4 1 (dk_at dksX3_sells_4 1 rfl rfl)
theorem dX3_sells_98 : decode cX3_sells 98 = .ok (.goto (-19), 3) := dk_167 255 237 (dk_at dksX3_sells_4 4 rfl rfl)
theorem dX3_sells_101 : decode cX3_sells 101 = .ok (.iload_n 2, 1) := dk_28 (dk_at dksX3_sells_4 7 rfl rfl)
theorem dX3_sells_102 : decode cX3_sells 102 = .ok (.ireturn, 1) := dk_172 (dk_at dksX3_sells_4 8 rfl rfl)
abbrev cX3_loaf : ByteArray := prog_21_method_28_code
def yX3_loaf : MethodName := ⟨RX3, "loaf", "(II)I"⟩
def dkwX3_loaf_0 : List UInt8 := [42, 16, 32, 6, 27, 104, 96, 28, 96, 182, 0, 62, 172]
abbrev dktX3_loaf_0 : List UInt8 := dkwX3_loaf_0 ++ []
theorem dksX3_loaf_0 : cX3_loaf.data.toList.drop 0 = dktX3_loaf_0 := by decide +kernel
theorem dX3_loaf_0 : decode cX3_loaf 0 = .ok (.aload_n 0, 1) := dk_42 (dk_at dksX3_loaf_0 0 rfl rfl)
theorem dX3_loaf_1 : decode cX3_loaf 1 = .ok (.bipush 32, 2) := dk_16 32 (dk_at dksX3_loaf_0 1 rfl rfl)
theorem dX3_loaf_3 : decode cX3_loaf 3 = .ok (.iconst 3, 1) := dk_6 (dk_at dksX3_loaf_0 3 rfl rfl)
theorem dX3_loaf_4 : decode cX3_loaf 4 = .ok (.iload_n 1, 1) := dk_27 (dk_at dksX3_loaf_0 4 rfl rfl)
theorem dX3_loaf_5 : decode cX3_loaf 5 = .ok (.imul, 1) := dk_104 (dk_at dksX3_loaf_0 5 rfl rfl)
theorem dX3_loaf_6 : decode cX3_loaf 6 = .ok (.iadd, 1) := dk_96 (dk_at dksX3_loaf_0 6 rfl rfl)
theorem dX3_loaf_7 : decode cX3_loaf 7 = .ok (.iload_n 2, 1) := dk_28 (dk_at dksX3_loaf_0 7 rfl rfl)
theorem dX3_loaf_8 : decode cX3_loaf 8 = .ok (.iadd, 1) := dk_96 (dk_at dksX3_loaf_0 8 rfl rfl)
theorem dX3_loaf_9 : decode cX3_loaf 9 = .ok (.invokevirtual 62, 3) := dk_182 0 62 (dk_at dksX3_loaf_0 9 rfl rfl)
theorem dX3_loaf_12 : decode cX3_loaf 12 = .ok (.ireturn, 1) := dk_172 (dk_at dksX3_loaf_0 12 rfl rfl)
abbrev cX3_setScale : ByteArray := prog_21_method_41_code
def yX3_setScale : MethodName := ⟨RX3, "setScale", "(I)I"⟩
def dkwX3_setScale_1 : List UInt8 := [182, 0, 84, 42, 6, 27, 182, 0, 151, 172]
abbrev dktX3_setScale_1 : List UInt8 := dkwX3_setScale_1 ++ []
def dkwX3_setScale_0 : List UInt8 := [42, 3, 181, 0, 1, 42, 27, 182, 0, 148, 61, 28, 153, 0, 9, 42, 28, 182, 0, 81, 172, 42]
abbrev dktX3_setScale_0 : List UInt8 := dkwX3_setScale_0 ++ dktX3_setScale_1
theorem dksX3_setScale_0 : cX3_setScale.data.toList.drop 0 = dktX3_setScale_0 := by decide +kernel
theorem dksX3_setScale_1 : cX3_setScale.data.toList.drop 22 = dktX3_setScale_1 := dk_seg dksX3_setScale_0 22 rfl rfl
theorem dX3_setScale_0 : decode cX3_setScale 0 = .ok (.aload_n 0, 1) := dk_42 (dk_at dksX3_setScale_0 0 rfl rfl)
theorem dX3_setScale_1 : decode cX3_setScale 1 = .ok (.iconst 0, 1) := dk_3 (dk_at dksX3_setScale_0 1 rfl rfl)
theorem dX3_setScale_2 : decode cX3_setScale 2 = .ok (.putfield 1, 3) := dk_181 0 1 (dk_at dksX3_setScale_0 2 rfl rfl)
theorem dX3_setScale_5 : decode cX3_setScale 5 = .ok (.aload_n 0, 1) := dk_42 (dk_at dksX3_setScale_0 5 rfl rfl)
theorem dX3_setScale_6 : decode cX3_setScale 6 = .ok (.iload_n 1, 1) := dk_27 (dk_at dksX3_setScale_0 6 rfl rfl)
theorem dX3_setScale_7 : decode cX3_setScale 7 = .ok (.invokevirtual 148, 3) := dk_182 0 148 (dk_at dksX3_setScale_0 7 rfl rfl)
theorem dX3_setScale_10 : decode cX3_setScale 10 = .ok (.istore_n 2, 1) := dk_61 (dk_at dksX3_setScale_0 10 rfl rfl)
theorem dX3_setScale_11 : decode cX3_setScale 11 = .ok (.iload_n 2, 1) := dk_28 (dk_at dksX3_setScale_0 11 rfl rfl)
theorem dX3_setScale_12 : decode cX3_setScale 12 = .ok (.ifCond .eq 9, 3) := dk_153 0 9 (dk_at dksX3_setScale_0 12 rfl rfl)
theorem dX3_setScale_15 : decode cX3_setScale 15 = .ok (.aload_n 0, 1) := dk_42 (dk_at dksX3_setScale_0 15 rfl rfl)
theorem dX3_setScale_16 : decode cX3_setScale 16 = .ok (.iload_n 2, 1) := dk_28 (dk_at dksX3_setScale_0 16 rfl rfl)
theorem dX3_setScale_17 : decode cX3_setScale 17 = .ok (.invokevirtual 81, 3) := dk_182 0 81 (dk_at dksX3_setScale_0 17 rfl rfl)
theorem dX3_setScale_20 : decode cX3_setScale 20 = .ok (.ireturn, 1) := dk_172 (dk_at dksX3_setScale_0 20 rfl rfl)
theorem dX3_setScale_21 : decode cX3_setScale 21 = .ok (.aload_n 0, 1) := dk_42 (dk_at dksX3_setScale_0 21 rfl rfl)
theorem dX3_setScale_22 : decode cX3_setScale 22 = .ok (.invokevirtual 84, 3) := dk_182 0 84 (dk_at dksX3_setScale_1 0 rfl rfl)
theorem dX3_setScale_25 : decode cX3_setScale 25 = .ok (.aload_n 0, 1) := dk_42 (dk_at dksX3_setScale_1 3 rfl rfl)
theorem dX3_setScale_26 : decode cX3_setScale 26 = .ok (.iconst 3, 1) := dk_6 (dk_at dksX3_setScale_1 4 rfl rfl)
theorem dX3_setScale_27 : decode cX3_setScale 27 = .ok (.iload_n 1, 1) := dk_27 (dk_at dksX3_setScale_1 5 rfl rfl)
theorem dX3_setScale_28 : decode cX3_setScale 28 = .ok (.invokevirtual 151, 3) := dk_182 0 151 (dk_at dksX3_setScale_1 6 rfl rfl)
theorem dX3_setScale_31 : decode cX3_setScale 31 = .ok (.ireturn, 1) := dk_172 (dk_at dksX3_setScale_1 9 rfl rfl)
abbrev cX3_notScale : ByteArray := prog_21_method_39_code
def yX3_notScale : MethodName := ⟨RX3, "notScale", "(I)I"⟩
def dkwX3_notScale_1 : List UInt8 := [167, 0, 4, 3, 172]
abbrev dktX3_notScale_1 : List UInt8 := dkwX3_notScale_1 ++ []
def dkwX3_notScale_0 : List UInt8 := [27, 3, 7, 184, 0, 66, 154, 0, 5, 4, 172, 42, 182, 0, 142, 42, 182, 0, 145, 96, 158, 0, 7, 5]
abbrev dktX3_notScale_0 : List UInt8 := dkwX3_notScale_0 ++ dktX3_notScale_1
theorem dksX3_notScale_0 : cX3_notScale.data.toList.drop 0 = dktX3_notScale_0 := by decide +kernel
theorem dksX3_notScale_1 : cX3_notScale.data.toList.drop 24 = dktX3_notScale_1 := dk_seg dksX3_notScale_0 24 rfl rfl
theorem dX3_notScale_0 : decode cX3_notScale 0 = .ok (.iload_n 1, 1) := dk_27 (dk_at dksX3_notScale_0 0 rfl rfl)
theorem dX3_notScale_1 : decode cX3_notScale 1 = .ok (.iconst 0, 1) := dk_3 (dk_at dksX3_notScale_0 1 rfl rfl)
theorem dX3_notScale_2 : decode cX3_notScale 2 = .ok (.iconst 4, 1) := dk_7 (dk_at dksX3_notScale_0 2 rfl rfl)
theorem dX3_notScale_3 : decode cX3_notScale 3 = .ok (.invokestatic 66, 3) := dk_184 0 66 (dk_at dksX3_notScale_0 3 rfl rfl)
theorem dX3_notScale_6 : decode cX3_notScale 6 = .ok (.ifCond .ne 5, 3) := dk_154 0 5 (dk_at dksX3_notScale_0 6 rfl rfl)
theorem dX3_notScale_9 : decode cX3_notScale 9 = .ok (.iconst 1, 1) := dk_4 (dk_at dksX3_notScale_0 9 rfl rfl)
theorem dX3_notScale_10 : decode cX3_notScale 10 = .ok (.ireturn, 1) := dk_172 (dk_at dksX3_notScale_0 10 rfl rfl)
theorem dX3_notScale_11 : decode cX3_notScale 11 = .ok (.aload_n 0, 1) := dk_42 (dk_at dksX3_notScale_0 11 rfl rfl)
theorem dX3_notScale_12 : decode cX3_notScale 12 = .ok (.invokevirtual 142, 3) := dk_182 0 142 (dk_at dksX3_notScale_0 12 rfl rfl)
theorem dX3_notScale_15 : decode cX3_notScale 15 = .ok (.aload_n 0, 1) := dk_42 (dk_at dksX3_notScale_0 15 rfl rfl)
theorem dX3_notScale_16 : decode cX3_notScale 16 = .ok (.invokevirtual 145, 3) := dk_182 0 145 (dk_at dksX3_notScale_0 16 rfl rfl)
theorem dX3_notScale_19 : decode cX3_notScale 19 = .ok (.iadd, 1) := dk_96 (dk_at dksX3_notScale_0 19 rfl rfl)
theorem dX3_notScale_20 : decode cX3_notScale 20 = .ok (.ifCond .le 7, 3) := dk_158 0 7 (dk_at dksX3_notScale_0 20 rfl rfl)
theorem dX3_notScale_23 : decode cX3_notScale 23 = .ok (.iconst 2, 1) := dk_5 (dk_at dksX3_notScale_0 23 rfl rfl)
theorem dX3_notScale_24 : decode cX3_notScale 24 = .ok (.goto 4, 3) := dk_167 0 4 (dk_at dksX3_notScale_1 0 rfl rfl)
theorem dX3_notScale_27 : decode cX3_notScale 27 = .ok (.iconst 0, 1) := dk_3 (dk_at dksX3_notScale_1 3 rfl rfl)
theorem dX3_notScale_28 : decode cX3_notScale 28 = .ok (.ireturn, 1) := dk_172 (dk_at dksX3_notScale_1 4 rfl rfl)
abbrev cX3_contents : ByteArray := prog_21_method_29_code
def yX3_contents : MethodName := ⟨RX3, "contents", "()I"⟩
def dkwX3_contents_1 : List UInt8 := [132, 2, 1, 167, 255, 235, 27, 172]
abbrev dktX3_contents_1 : List UInt8 := dkwX3_contents_1 ++ []
def dkwX3_contents_0 : List UInt8 := [3, 60, 3, 61, 28, 42, 4, 182, 0, 62, 162, 0, 18, 27, 42, 28, 4, 182, 0, 118, 96, 60]
abbrev dktX3_contents_0 : List UInt8 := dkwX3_contents_0 ++ dktX3_contents_1
theorem dksX3_contents_0 : cX3_contents.data.toList.drop 0 = dktX3_contents_0 := by decide +kernel
theorem dksX3_contents_1 : cX3_contents.data.toList.drop 22 = dktX3_contents_1 := dk_seg dksX3_contents_0 22 rfl rfl
theorem dX3_contents_0 : decode cX3_contents 0 = .ok (.iconst 0, 1) := dk_3 (dk_at dksX3_contents_0 0 rfl rfl)
theorem dX3_contents_1 : decode cX3_contents 1 = .ok (.istore_n 1, 1) := dk_60 (dk_at dksX3_contents_0 1 rfl rfl)
theorem dX3_contents_2 : decode cX3_contents 2 = .ok (.iconst 0, 1) := dk_3 (dk_at dksX3_contents_0 2 rfl rfl)
theorem dX3_contents_3 : decode cX3_contents 3 = .ok (.istore_n 2, 1) := dk_61 (dk_at dksX3_contents_0 3 rfl rfl)
theorem dX3_contents_4 : decode cX3_contents 4 = .ok (.iload_n 2, 1) := dk_28 (dk_at dksX3_contents_0 4 rfl rfl)
theorem dX3_contents_5 : decode cX3_contents 5 = .ok (.aload_n 0, 1) := dk_42 (dk_at dksX3_contents_0 5 rfl rfl)
theorem dX3_contents_6 : decode cX3_contents 6 = .ok (.iconst 1, 1) := dk_4 (dk_at dksX3_contents_0 6 rfl rfl)
theorem dX3_contents_7 : decode cX3_contents 7 = .ok (.invokevirtual 62, 3) := dk_182 0 62 (dk_at dksX3_contents_0 7 rfl rfl)
theorem dX3_contents_10 : decode cX3_contents 10 = .ok (.if_icmp .ge 18, 3) := dk_162 0 18 (dk_at dksX3_contents_0 10 rfl rfl)
theorem dX3_contents_13 : decode cX3_contents 13 = .ok (.iload_n 1, 1) := dk_27 (dk_at dksX3_contents_0 13 rfl rfl)
theorem dX3_contents_14 : decode cX3_contents 14 = .ok (.aload_n 0, 1) := dk_42 (dk_at dksX3_contents_0 14 rfl rfl)
theorem dX3_contents_15 : decode cX3_contents 15 = .ok (.iload_n 2, 1) := dk_28 (dk_at dksX3_contents_0 15 rfl rfl)
theorem dX3_contents_16 : decode cX3_contents 16 = .ok (.iconst 1, 1) := dk_4 (dk_at dksX3_contents_0 16 rfl rfl)
theorem dX3_contents_17 : decode cX3_contents 17 = .ok (.invokevirtual 118, 3) := dk_182 0 118 (dk_at dksX3_contents_0 17 rfl rfl)
theorem dX3_contents_20 : decode cX3_contents 20 = .ok (.iadd, 1) := dk_96 (dk_at dksX3_contents_0 20 rfl rfl)
theorem dX3_contents_21 : decode cX3_contents 21 = .ok (.istore_n 1, 1) := dk_60 (dk_at dksX3_contents_0 21 rfl rfl)
theorem dX3_contents_22 : decode cX3_contents 22 = .ok (.iinc 2 1, 3) := dk_132 2 1 (dk_at dksX3_contents_1 0 rfl rfl)
theorem dX3_contents_25 : decode cX3_contents 25 = .ok (.goto (-21), 3) := dk_167 255 235 (dk_at dksX3_contents_1 3 rfl rfl)
theorem dX3_contents_28 : decode cX3_contents 28 = .ok (.iload_n 1, 1) := dk_27 (dk_at dksX3_contents_1 6 rfl rfl)
theorem dX3_contents_29 : decode cX3_contents 29 = .ok (.ireturn, 1) := dk_172 (dk_at dksX3_contents_1 7 rfl rfl)
abbrev cX3_bowl : ByteArray := prog_21_method_26_code
def yX3_bowl : MethodName := ⟨RX3, "bowl", "(II)I"⟩
def dkwX3_bowl_0 : List UInt8 := [42, 16, 22, 5, 27, 104, 96, 28, 96, 182, 0, 62, 172]
abbrev dktX3_bowl_0 : List UInt8 := dkwX3_bowl_0 ++ []
theorem dksX3_bowl_0 : cX3_bowl.data.toList.drop 0 = dktX3_bowl_0 := by decide +kernel
theorem dX3_bowl_0 : decode cX3_bowl 0 = .ok (.aload_n 0, 1) := dk_42 (dk_at dksX3_bowl_0 0 rfl rfl)
theorem dX3_bowl_1 : decode cX3_bowl 1 = .ok (.bipush 22, 2) := dk_16 22 (dk_at dksX3_bowl_0 1 rfl rfl)
theorem dX3_bowl_3 : decode cX3_bowl 3 = .ok (.iconst 2, 1) := dk_5 (dk_at dksX3_bowl_0 3 rfl rfl)
theorem dX3_bowl_4 : decode cX3_bowl 4 = .ok (.iload_n 1, 1) := dk_27 (dk_at dksX3_bowl_0 4 rfl rfl)
theorem dX3_bowl_5 : decode cX3_bowl 5 = .ok (.imul, 1) := dk_104 (dk_at dksX3_bowl_0 5 rfl rfl)
theorem dX3_bowl_6 : decode cX3_bowl 6 = .ok (.iadd, 1) := dk_96 (dk_at dksX3_bowl_0 6 rfl rfl)
theorem dX3_bowl_7 : decode cX3_bowl 7 = .ok (.iload_n 2, 1) := dk_28 (dk_at dksX3_bowl_0 7 rfl rfl)
theorem dX3_bowl_8 : decode cX3_bowl 8 = .ok (.iadd, 1) := dk_96 (dk_at dksX3_bowl_0 8 rfl rfl)
theorem dX3_bowl_9 : decode cX3_bowl 9 = .ok (.invokevirtual 62, 3) := dk_182 0 62 (dk_at dksX3_bowl_0 9 rfl rfl)
theorem dX3_bowl_12 : decode cX3_bowl 12 = .ok (.ireturn, 1) := dk_172 (dk_at dksX3_bowl_0 12 rfl rfl)
abbrev cX3_inLoaves : ByteArray := prog_21_method_30_code
def yX3_inLoaves : MethodName := ⟨RX3, "inLoaves", "()I"⟩
def dkwX3_inLoaves_1 : List UInt8 := [132, 2, 1, 167, 255, 235, 27, 172]
abbrev dktX3_inLoaves_1 : List UInt8 := dkwX3_inLoaves_1 ++ []
def dkwX3_inLoaves_0 : List UInt8 := [3, 60, 3, 61, 28, 42, 5, 182, 0, 62, 162, 0, 18, 27, 42, 28, 5, 182, 0, 121, 96, 60]
abbrev dktX3_inLoaves_0 : List UInt8 := dkwX3_inLoaves_0 ++ dktX3_inLoaves_1
theorem dksX3_inLoaves_0 : cX3_inLoaves.data.toList.drop 0 = dktX3_inLoaves_0 := by decide +kernel
theorem dksX3_inLoaves_1 : cX3_inLoaves.data.toList.drop 22 = dktX3_inLoaves_1 := dk_seg dksX3_inLoaves_0 22 rfl rfl
theorem dX3_inLoaves_0 : decode cX3_inLoaves 0 = .ok (.iconst 0, 1) := dk_3 (dk_at dksX3_inLoaves_0 0 rfl rfl)
theorem dX3_inLoaves_1 : decode cX3_inLoaves 1 = .ok (.istore_n 1, 1) := dk_60 (dk_at dksX3_inLoaves_0 1 rfl rfl)
theorem dX3_inLoaves_2 : decode cX3_inLoaves 2 = .ok (.iconst 0, 1) := dk_3 (dk_at dksX3_inLoaves_0 2 rfl rfl)
theorem dX3_inLoaves_3 : decode cX3_inLoaves 3 = .ok (.istore_n 2, 1) := dk_61 (dk_at dksX3_inLoaves_0 3 rfl rfl)
theorem dX3_inLoaves_4 : decode cX3_inLoaves 4 = .ok (.iload_n 2, 1) := dk_28 (dk_at dksX3_inLoaves_0 4 rfl rfl)
theorem dX3_inLoaves_5 : decode cX3_inLoaves 5 = .ok (.aload_n 0, 1) := dk_42 (dk_at dksX3_inLoaves_0 5 rfl rfl)
theorem dX3_inLoaves_6 : decode cX3_inLoaves 6 = .ok (.iconst 2, 1) := dk_5 (dk_at dksX3_inLoaves_0 6 rfl rfl)
theorem dX3_inLoaves_7 : decode cX3_inLoaves 7 = .ok (.invokevirtual 62, 3) := dk_182 0 62 (dk_at dksX3_inLoaves_0 7 rfl rfl)
theorem dX3_inLoaves_10 : decode cX3_inLoaves 10 = .ok (.if_icmp .ge 18, 3) := dk_162 0 18 (dk_at dksX3_inLoaves_0 10 rfl rfl)
theorem dX3_inLoaves_13 : decode cX3_inLoaves 13 = .ok (.iload_n 1, 1) := dk_27 (dk_at dksX3_inLoaves_0 13 rfl rfl)
theorem dX3_inLoaves_14 : decode cX3_inLoaves 14 = .ok (.aload_n 0, 1) := dk_42 (dk_at dksX3_inLoaves_0 14 rfl rfl)
theorem dX3_inLoaves_15 : decode cX3_inLoaves 15 = .ok (.iload_n 2, 1) := dk_28 (dk_at dksX3_inLoaves_0 15 rfl rfl)
theorem dX3_inLoaves_16 : decode cX3_inLoaves 16 = .ok (.iconst 2, 1) := dk_5 (dk_at dksX3_inLoaves_0 16 rfl rfl)
theorem dX3_inLoaves_17 : decode cX3_inLoaves 17 = .ok (.invokevirtual 121, 3) := dk_182 0 121 (dk_at dksX3_inLoaves_0 17 rfl rfl)
theorem dX3_inLoaves_20 : decode cX3_inLoaves 20 = .ok (.iadd, 1) := dk_96 (dk_at dksX3_inLoaves_0 20 rfl rfl)
theorem dX3_inLoaves_21 : decode cX3_inLoaves 21 = .ok (.istore_n 1, 1) := dk_60 (dk_at dksX3_inLoaves_0 21 rfl rfl)
theorem dX3_inLoaves_22 : decode cX3_inLoaves 22 = .ok (.iinc 2 1, 3) := dk_132 2 1 (dk_at dksX3_inLoaves_1 0 rfl rfl)
theorem dX3_inLoaves_25 : decode cX3_inLoaves 25 = .ok (.goto (-21), 3) := dk_167 255 235 (dk_at dksX3_inLoaves_1 3 rfl rfl)
theorem dX3_inLoaves_28 : decode cX3_inLoaves 28 = .ok (.iload_n 1, 1) := dk_27 (dk_at dksX3_inLoaves_1 6 rfl rfl)
theorem dX3_inLoaves_29 : decode cX3_inLoaves 29 = .ok (.ireturn, 1) := dk_172 (dk_at dksX3_inLoaves_1 7 rfl rfl)
abbrev cX3_takes : ByteArray := prog_21_method_40_code
def yX3_takes : MethodName := ⟨RX3, "takes", "(II)I"⟩
def dkwX3_takes_0 : List UInt8 := [42, 27, 182, 0, 62, 62, 42, 180, 0, 13, 27, 28, 133, 80, 29, 172]
abbrev dktX3_takes_0 : List UInt8 := dkwX3_takes_0 ++ []
theorem dksX3_takes_0 : cX3_takes.data.toList.drop 0 = dktX3_takes_0 := by decide +kernel
theorem dX3_takes_0 : decode cX3_takes 0 = .ok (.aload_n 0, 1) := dk_42 (dk_at dksX3_takes_0 0 rfl rfl)
theorem dX3_takes_1 : decode cX3_takes 1 = .ok (.iload_n 1, 1) := dk_27 (dk_at dksX3_takes_0 1 rfl rfl)
theorem dX3_takes_2 : decode cX3_takes 2 = .ok (.invokevirtual 62, 3) := dk_182 0 62 (dk_at dksX3_takes_0 2 rfl rfl)
theorem dX3_takes_5 : decode cX3_takes 5 = .ok (.istore_n 3, 1) := dk_62 (dk_at dksX3_takes_0 5 rfl rfl)
theorem dX3_takes_6 : decode cX3_takes 6 = .ok (.aload_n 0, 1) := dk_42 (dk_at dksX3_takes_0 6 rfl rfl)
theorem dX3_takes_7 : decode cX3_takes 7 = .ok (.getfield 13, 3) := dk_180 0 13 (dk_at dksX3_takes_0 7 rfl rfl)
theorem dX3_takes_10 : decode cX3_takes 10 = .ok (.iload_n 1, 1) := dk_27 (dk_at dksX3_takes_0 10 rfl rfl)
theorem dX3_takes_11 : decode cX3_takes 11 = .ok (.iload_n 2, 1) := dk_28 (dk_at dksX3_takes_0 11 rfl rfl)
theorem dX3_takes_12 : decode cX3_takes 12 = .ok (.i2l, 1) := dk_133 (dk_at dksX3_takes_0 12 rfl rfl)
theorem dX3_takes_13 : decode cX3_takes 13 = .ok (.lastore, 1) := dk_80 (dk_at dksX3_takes_0 13 rfl rfl)
theorem dX3_takes_14 : decode cX3_takes 14 = .ok (.iload_n 3, 1) := dk_29 (dk_at dksX3_takes_0 14 rfl rfl)
theorem dX3_takes_15 : decode cX3_takes 15 = .ok (.ireturn, 1) := dk_172 (dk_at dksX3_takes_0 15 rfl rfl)
abbrev cX3_setRounding : ByteArray := prog_21_method_43_code
def yX3_setRounding : MethodName := ⟨RX3, "setRounding", "(C)C"⟩
def dkwX3_setRounding_1 : List UInt8 := [7, 27, 182, 0, 151, 146, 172]
abbrev dktX3_setRounding_1 : List UInt8 := dkwX3_setRounding_1 ++ []
def dkwX3_setRounding_0 : List UInt8 := [42, 3, 181, 0, 1, 27, 184, 0, 154, 154, 0, 10, 42, 4, 182, 0, 81, 146, 172, 42, 182, 0, 84, 42]
abbrev dktX3_setRounding_0 : List UInt8 := dkwX3_setRounding_0 ++ dktX3_setRounding_1
theorem dksX3_setRounding_0 : cX3_setRounding.data.toList.drop 0 = dktX3_setRounding_0 := by decide +kernel
theorem dksX3_setRounding_1 : cX3_setRounding.data.toList.drop 24 = dktX3_setRounding_1 := dk_seg dksX3_setRounding_0 24 rfl rfl
theorem dX3_setRounding_0 : decode cX3_setRounding 0 = .ok (.aload_n 0, 1) := dk_42 (dk_at dksX3_setRounding_0 0 rfl rfl)
theorem dX3_setRounding_1 : decode cX3_setRounding 1 = .ok (.iconst 0, 1) := dk_3 (dk_at dksX3_setRounding_0 1 rfl rfl)
theorem dX3_setRounding_2 : decode cX3_setRounding 2 = .ok (.putfield 1, 3) := dk_181 0 1 (dk_at dksX3_setRounding_0 2 rfl rfl)
theorem dX3_setRounding_5 : decode cX3_setRounding 5 = .ok (.iload_n 1, 1) := dk_27 (dk_at dksX3_setRounding_0 5 rfl rfl)
theorem dX3_setRounding_6 : decode cX3_setRounding 6 = .ok (.invokestatic 154, 3) := dk_184 0 154 (dk_at dksX3_setRounding_0 6 rfl rfl)
theorem dX3_setRounding_9 : decode cX3_setRounding 9 = .ok (.ifCond .ne 10, 3) := dk_154 0 10 (dk_at dksX3_setRounding_0 9 rfl rfl)
theorem dX3_setRounding_12 : decode cX3_setRounding 12 = .ok (.aload_n 0, 1) := dk_42 (dk_at dksX3_setRounding_0 12 rfl rfl)
theorem dX3_setRounding_13 : decode cX3_setRounding 13 = .ok (.iconst 1, 1) := dk_4 (dk_at dksX3_setRounding_0 13 rfl rfl)
theorem dX3_setRounding_14 : decode cX3_setRounding 14 = .ok (.invokevirtual 81, 3) := dk_182 0 81 (dk_at dksX3_setRounding_0 14 rfl rfl)
theorem dX3_setRounding_17 : decode cX3_setRounding 17 = .ok (.i2c, 1) := dk_146 (dk_at dksX3_setRounding_0 17 rfl rfl)
theorem dX3_setRounding_18 : decode cX3_setRounding 18 = .ok (.ireturn, 1) := dk_172 (dk_at dksX3_setRounding_0 18 rfl rfl)
theorem dX3_setRounding_19 : decode cX3_setRounding 19 = .ok (.aload_n 0, 1) := dk_42 (dk_at dksX3_setRounding_0 19 rfl rfl)
theorem dX3_setRounding_20 : decode cX3_setRounding 20 = .ok (.invokevirtual 84, 3) := dk_182 0 84 (dk_at dksX3_setRounding_0 20 rfl rfl)
theorem dX3_setRounding_23 : decode cX3_setRounding 23 = .ok (.aload_n 0, 1) := dk_42 (dk_at dksX3_setRounding_0 23 rfl rfl)
theorem dX3_setRounding_24 : decode cX3_setRounding 24 = .ok (.iconst 4, 1) := dk_7 (dk_at dksX3_setRounding_1 0 rfl rfl)
theorem dX3_setRounding_25 : decode cX3_setRounding 25 = .ok (.iload_n 1, 1) := dk_27 (dk_at dksX3_setRounding_1 1 rfl rfl)
theorem dX3_setRounding_26 : decode cX3_setRounding 26 = .ok (.invokevirtual 151, 3) := dk_182 0 151 (dk_at dksX3_setRounding_1 2 rfl rfl)
theorem dX3_setRounding_29 : decode cX3_setRounding 29 = .ok (.i2c, 1) := dk_146 (dk_at dksX3_setRounding_1 5 rfl rfl)
theorem dX3_setRounding_30 : decode cX3_setRounding 30 = .ok (.ireturn, 1) := dk_172 (dk_at dksX3_setRounding_1 6 rfl rfl)
abbrev cX3_isRule : ByteArray := prog_21_method_42_code
def yX3_isRule : MethodName := ⟨RX3, "isRule", "(I)Z"⟩
def dkwX3_isRule_1 : List UInt8 := [4, 167, 0, 4, 3, 172]
abbrev dktX3_isRule_1 : List UInt8 := dkwX3_isRule_1 ++ []
def dkwX3_isRule_0 : List UInt8 := [26, 16, 100, 159, 0, 21, 26, 16, 117, 159, 0, 15, 26, 16, 104, 159, 0, 9, 26, 16, 101, 160, 0, 7]
abbrev dktX3_isRule_0 : List UInt8 := dkwX3_isRule_0 ++ dktX3_isRule_1
theorem dksX3_isRule_0 : cX3_isRule.data.toList.drop 0 = dktX3_isRule_0 := by decide +kernel
theorem dksX3_isRule_1 : cX3_isRule.data.toList.drop 24 = dktX3_isRule_1 := dk_seg dksX3_isRule_0 24 rfl rfl
theorem dX3_isRule_0 : decode cX3_isRule 0 = .ok (.iload_n 0, 1) := dk_26 (dk_at dksX3_isRule_0 0 rfl rfl)
theorem dX3_isRule_1 : decode cX3_isRule 1 = .ok (.bipush 100, 2) := dk_16 100 (dk_at dksX3_isRule_0 1 rfl rfl)
theorem dX3_isRule_3 : decode cX3_isRule 3 = .ok (.if_icmp .eq 21, 3) := dk_159 0 21 (dk_at dksX3_isRule_0 3 rfl rfl)
theorem dX3_isRule_6 : decode cX3_isRule 6 = .ok (.iload_n 0, 1) := dk_26 (dk_at dksX3_isRule_0 6 rfl rfl)
theorem dX3_isRule_7 : decode cX3_isRule 7 = .ok (.bipush 117, 2) := dk_16 117 (dk_at dksX3_isRule_0 7 rfl rfl)
theorem dX3_isRule_9 : decode cX3_isRule 9 = .ok (.if_icmp .eq 15, 3) := dk_159 0 15 (dk_at dksX3_isRule_0 9 rfl rfl)
theorem dX3_isRule_12 : decode cX3_isRule 12 = .ok (.iload_n 0, 1) := dk_26 (dk_at dksX3_isRule_0 12 rfl rfl)
theorem dX3_isRule_13 : decode cX3_isRule 13 = .ok (.bipush 104, 2) := dk_16 104 (dk_at dksX3_isRule_0 13 rfl rfl)
theorem dX3_isRule_15 : decode cX3_isRule 15 = .ok (.if_icmp .eq 9, 3) := dk_159 0 9 (dk_at dksX3_isRule_0 15 rfl rfl)
theorem dX3_isRule_18 : decode cX3_isRule 18 = .ok (.iload_n 0, 1) := dk_26 (dk_at dksX3_isRule_0 18 rfl rfl)
theorem dX3_isRule_19 : decode cX3_isRule 19 = .ok (.bipush 101, 2) := dk_16 101 (dk_at dksX3_isRule_0 19 rfl rfl)
theorem dX3_isRule_21 : decode cX3_isRule 21 = .ok (.if_icmp .ne 7, 3) := dk_160 0 7 (dk_at dksX3_isRule_0 21 rfl rfl)
theorem dX3_isRule_24 : decode cX3_isRule 24 = .ok (.iconst 1, 1) := dk_4 (dk_at dksX3_isRule_1 0 rfl rfl)
theorem dX3_isRule_25 : decode cX3_isRule 25 = .ok (.goto 4, 3) := dk_167 0 4 (dk_at dksX3_isRule_1 1 rfl rfl)
theorem dX3_isRule_28 : decode cX3_isRule 28 = .ok (.iconst 0, 1) := dk_3 (dk_at dksX3_isRule_1 4 rfl rfl)
theorem dX3_isRule_29 : decode cX3_isRule 29 = .ok (.ireturn, 1) := dk_172 (dk_at dksX3_isRule_1 5 rfl rfl)
abbrev cX3_pour : ByteArray := prog_21_method_46_code
def yX3_pour : MethodName := ⟨RX3, "pour", "(II)I"⟩
def dkwX3_pour_1 : List UInt8 := [42, 27, 28, 182, 0, 167, 172]
abbrev dktX3_pour_1 : List UInt8 := dkwX3_pour_1 ++ []
def dkwX3_pour_0 : List UInt8 := [42, 3, 181, 0, 1, 42, 27, 28, 182, 0, 164, 153, 0, 9, 42, 4, 182, 0, 81, 172, 42, 182, 0, 84]
abbrev dktX3_pour_0 : List UInt8 := dkwX3_pour_0 ++ dktX3_pour_1
theorem dksX3_pour_0 : cX3_pour.data.toList.drop 0 = dktX3_pour_0 := by decide +kernel
theorem dksX3_pour_1 : cX3_pour.data.toList.drop 24 = dktX3_pour_1 := dk_seg dksX3_pour_0 24 rfl rfl
theorem dX3_pour_0 : decode cX3_pour 0 = .ok (.aload_n 0, 1) := dk_42 (dk_at dksX3_pour_0 0 rfl rfl)
theorem dX3_pour_1 : decode cX3_pour 1 = .ok (.iconst 0, 1) := dk_3 (dk_at dksX3_pour_0 1 rfl rfl)
theorem dX3_pour_2 : decode cX3_pour 2 = .ok (.putfield 1, 3) := dk_181 0 1 (dk_at dksX3_pour_0 2 rfl rfl)
theorem dX3_pour_5 : decode cX3_pour 5 = .ok (.aload_n 0, 1) := dk_42 (dk_at dksX3_pour_0 5 rfl rfl)
theorem dX3_pour_6 : decode cX3_pour 6 = .ok (.iload_n 1, 1) := dk_27 (dk_at dksX3_pour_0 6 rfl rfl)
theorem dX3_pour_7 : decode cX3_pour 7 = .ok (.iload_n 2, 1) := dk_28 (dk_at dksX3_pour_0 7 rfl rfl)
theorem dX3_pour_8 : decode cX3_pour 8 = .ok (.invokevirtual 164, 3) := dk_182 0 164 (dk_at dksX3_pour_0 8 rfl rfl)
theorem dX3_pour_11 : decode cX3_pour 11 = .ok (.ifCond .eq 9, 3) := dk_153 0 9 (dk_at dksX3_pour_0 11 rfl rfl)
theorem dX3_pour_14 : decode cX3_pour 14 = .ok (.aload_n 0, 1) := dk_42 (dk_at dksX3_pour_0 14 rfl rfl)
theorem dX3_pour_15 : decode cX3_pour 15 = .ok (.iconst 1, 1) := dk_4 (dk_at dksX3_pour_0 15 rfl rfl)
theorem dX3_pour_16 : decode cX3_pour 16 = .ok (.invokevirtual 81, 3) := dk_182 0 81 (dk_at dksX3_pour_0 16 rfl rfl)
theorem dX3_pour_19 : decode cX3_pour 19 = .ok (.ireturn, 1) := dk_172 (dk_at dksX3_pour_0 19 rfl rfl)
theorem dX3_pour_20 : decode cX3_pour 20 = .ok (.aload_n 0, 1) := dk_42 (dk_at dksX3_pour_0 20 rfl rfl)
theorem dX3_pour_21 : decode cX3_pour 21 = .ok (.invokevirtual 84, 3) := dk_182 0 84 (dk_at dksX3_pour_0 21 rfl rfl)
theorem dX3_pour_24 : decode cX3_pour 24 = .ok (.aload_n 0, 1) := dk_42 (dk_at dksX3_pour_1 0 rfl rfl)
theorem dX3_pour_25 : decode cX3_pour 25 = .ok (.iload_n 1, 1) := dk_27 (dk_at dksX3_pour_1 1 rfl rfl)
theorem dX3_pour_26 : decode cX3_pour 26 = .ok (.iload_n 2, 1) := dk_28 (dk_at dksX3_pour_1 2 rfl rfl)
theorem dX3_pour_27 : decode cX3_pour 27 = .ok (.invokevirtual 167, 3) := dk_182 0 167 (dk_at dksX3_pour_1 3 rfl rfl)
theorem dX3_pour_30 : decode cX3_pour 30 = .ok (.ireturn, 1) := dk_172 (dk_at dksX3_pour_1 6 rfl rfl)
abbrev cX3_notPour : ByteArray := prog_21_method_44_code
def yX3_notPour : MethodName := ⟨RX3, "notPour", "(II)I"⟩
def dkwX3_notPour_0 : List UInt8 := [42, 27, 182, 0, 93, 153, 0, 15, 42, 28, 182, 0, 157, 153, 0, 7, 3, 167, 0, 4, 4, 172]
abbrev dktX3_notPour_0 : List UInt8 := dkwX3_notPour_0 ++ []
theorem dksX3_notPour_0 : cX3_notPour.data.toList.drop 0 = dktX3_notPour_0 := by decide +kernel
theorem dX3_notPour_0 : decode cX3_notPour 0 = .ok (.aload_n 0, 1) := dk_42 (dk_at dksX3_notPour_0 0 rfl rfl)
theorem dX3_notPour_1 : decode cX3_notPour 1 = .ok (.iload_n 1, 1) := dk_27 (dk_at dksX3_notPour_0 1 rfl rfl)
theorem dX3_notPour_2 : decode cX3_notPour 2 = .ok (.invokevirtual 93, 3) := dk_182 0 93 (dk_at dksX3_notPour_0 2 rfl rfl)
theorem dX3_notPour_5 : decode cX3_notPour 5 = .ok (.ifCond .eq 15, 3) := dk_153 0 15 (dk_at dksX3_notPour_0 5 rfl rfl)
theorem dX3_notPour_8 : decode cX3_notPour 8 = .ok (.aload_n 0, 1) := dk_42 (dk_at dksX3_notPour_0 8 rfl rfl)
theorem dX3_notPour_9 : decode cX3_notPour 9 = .ok (.iload_n 2, 1) := dk_28 (dk_at dksX3_notPour_0 9 rfl rfl)
theorem dX3_notPour_10 : decode cX3_notPour 10 = .ok (.invokevirtual 157, 3) := dk_182 0 157 (dk_at dksX3_notPour_0 10 rfl rfl)
theorem dX3_notPour_13 : decode cX3_notPour 13 = .ok (.ifCond .eq 7, 3) := dk_153 0 7 (dk_at dksX3_notPour_0 13 rfl rfl)
theorem dX3_notPour_16 : decode cX3_notPour 16 = .ok (.iconst 0, 1) := dk_3 (dk_at dksX3_notPour_0 16 rfl rfl)
theorem dX3_notPour_17 : decode cX3_notPour 17 = .ok (.goto 4, 3) := dk_167 0 4 (dk_at dksX3_notPour_0 17 rfl rfl)
theorem dX3_notPour_20 : decode cX3_notPour 20 = .ok (.iconst 1, 1) := dk_4 (dk_at dksX3_notPour_0 20 rfl rfl)
theorem dX3_notPour_21 : decode cX3_notPour 21 = .ok (.ireturn, 1) := dk_172 (dk_at dksX3_notPour_0 21 rfl rfl)
abbrev cX3_isBowl : ByteArray := prog_21_method_25_code
def yX3_isBowl : MethodName := ⟨RX3, "isBowl", "(I)Z"⟩
def dkwX3_isBowl_0 : List UInt8 := [27, 3, 42, 4, 182, 0, 62, 4, 100, 184, 0, 66, 172]
abbrev dktX3_isBowl_0 : List UInt8 := dkwX3_isBowl_0 ++ []
theorem dksX3_isBowl_0 : cX3_isBowl.data.toList.drop 0 = dktX3_isBowl_0 := by decide +kernel
theorem dX3_isBowl_0 : decode cX3_isBowl 0 = .ok (.iload_n 1, 1) := dk_27 (dk_at dksX3_isBowl_0 0 rfl rfl)
theorem dX3_isBowl_1 : decode cX3_isBowl 1 = .ok (.iconst 0, 1) := dk_3 (dk_at dksX3_isBowl_0 1 rfl rfl)
theorem dX3_isBowl_2 : decode cX3_isBowl 2 = .ok (.aload_n 0, 1) := dk_42 (dk_at dksX3_isBowl_0 2 rfl rfl)
theorem dX3_isBowl_3 : decode cX3_isBowl 3 = .ok (.iconst 1, 1) := dk_4 (dk_at dksX3_isBowl_0 3 rfl rfl)
theorem dX3_isBowl_4 : decode cX3_isBowl 4 = .ok (.invokevirtual 62, 3) := dk_182 0 62 (dk_at dksX3_isBowl_0 4 rfl rfl)
theorem dX3_isBowl_7 : decode cX3_isBowl 7 = .ok (.iconst 1, 1) := dk_4 (dk_at dksX3_isBowl_0 7 rfl rfl)
theorem dX3_isBowl_8 : decode cX3_isBowl 8 = .ok (.isub, 1) := dk_100 (dk_at dksX3_isBowl_0 8 rfl rfl)
theorem dX3_isBowl_9 : decode cX3_isBowl 9 = .ok (.invokestatic 66, 3) := dk_184 0 66 (dk_at dksX3_isBowl_0 9 rfl rfl)
theorem dX3_isBowl_12 : decode cX3_isBowl 12 = .ok (.ireturn, 1) := dk_172 (dk_at dksX3_isBowl_0 12 rfl rfl)
abbrev cX3_pours : ByteArray := prog_21_method_45_code
def yX3_pours : MethodName := ⟨RX3, "pours", "(II)I"⟩
def dkwX3_pours_5 : List UInt8 := [16, 7, 92, 47, 29, 133, 97, 80, 29, 172]
abbrev dktX3_pours_5 : List UInt8 := dkwX3_pours_5 ++ []
def dkwX3_pours_4 : List UInt8 := [4, 96, 92, 47, 21, 6, 133, 97, 80, 29, 21, 6, 100, 62, 132, 4, 1, 167, 255, 187, 42, 180, 0, 13]
abbrev dktX3_pours_4 : List UInt8 := dkwX3_pours_4 ++ dktX3_pours_5
def dkwX3_pours_3 : List UInt8 := [21, 5, 162, 0, 7, 29, 167, 0, 5, 21, 5, 54, 6, 42, 180, 0, 13, 16, 22, 5, 21, 4, 104, 96]
abbrev dktX3_pours_3 : List UInt8 := dkwX3_pours_3 ++ dktX3_pours_4
def dkwX3_pours_2 : List UInt8 := [182, 0, 62, 162, 0, 65, 42, 21, 4, 3, 182, 0, 118, 42, 21, 4, 4, 182, 0, 118, 100, 54, 5, 29]
abbrev dktX3_pours_2 : List UInt8 := dkwX3_pours_2 ++ dktX3_pours_3
def dkwX3_pours_1 : List UInt8 := [92, 47, 42, 27, 182, 0, 160, 97, 80, 42, 27, 3, 4, 182, 0, 74, 28, 54, 4, 21, 4, 42, 4]
abbrev dktX3_pours_1 : List UInt8 := dkwX3_pours_1 ++ dktX3_pours_2
def dkwX3_pours_0 : List UInt8 := [42, 27, 182, 0, 113, 62, 42, 180, 0, 13, 16, 6, 92, 47, 29, 133, 97, 80, 42, 180, 0, 13, 16, 9]
abbrev dktX3_pours_0 : List UInt8 := dkwX3_pours_0 ++ dktX3_pours_1
theorem dksX3_pours_0 : cX3_pours.data.toList.drop 0 = dktX3_pours_0 := by decide +kernel
theorem dksX3_pours_1 : cX3_pours.data.toList.drop 24 = dktX3_pours_1 := dk_seg dksX3_pours_0 24 rfl rfl
theorem dksX3_pours_2 : cX3_pours.data.toList.drop 47 = dktX3_pours_2 := dk_seg dksX3_pours_1 23 rfl rfl
theorem dksX3_pours_3 : cX3_pours.data.toList.drop 71 = dktX3_pours_3 := dk_seg dksX3_pours_2 24 rfl rfl
theorem dksX3_pours_4 : cX3_pours.data.toList.drop 95 = dktX3_pours_4 := dk_seg dksX3_pours_3 24 rfl rfl
theorem dksX3_pours_5 : cX3_pours.data.toList.drop 119 = dktX3_pours_5 := dk_seg dksX3_pours_4 24 rfl rfl
theorem dX3_pours_0 : decode cX3_pours 0 = .ok (.aload_n 0, 1) := dk_42 (dk_at dksX3_pours_0 0 rfl rfl)
theorem dX3_pours_1 : decode cX3_pours 1 = .ok (.iload_n 1, 1) := dk_27 (dk_at dksX3_pours_0 1 rfl rfl)
theorem dX3_pours_2 : decode cX3_pours 2 = .ok (.invokevirtual 113, 3) := dk_182 0 113 (dk_at dksX3_pours_0 2 rfl rfl)
theorem dX3_pours_5 : decode cX3_pours 5 = .ok (.istore_n 3, 1) := dk_62 (dk_at dksX3_pours_0 5 rfl rfl)
theorem dX3_pours_6 : decode cX3_pours 6 = .ok (.aload_n 0, 1) := dk_42 (dk_at dksX3_pours_0 6 rfl rfl)
theorem dX3_pours_7 : decode cX3_pours 7 = .ok (.getfield 13, 3) := dk_180 0 13 (dk_at dksX3_pours_0 7 rfl rfl)
theorem dX3_pours_10 : decode cX3_pours 10 = .ok (.bipush 6, 2) := dk_16 6 (dk_at dksX3_pours_0 10 rfl rfl)
theorem dX3_pours_12 : decode cX3_pours 12 = .ok (.dup2, 1) := dk_92 (dk_at dksX3_pours_0 12 rfl rfl)
theorem dX3_pours_13 : decode cX3_pours 13 = .ok (.laload, 1) := dk_47 (dk_at dksX3_pours_0 13 rfl rfl)
theorem dX3_pours_14 : decode cX3_pours 14 = .ok (.iload_n 3, 1) := dk_29 (dk_at dksX3_pours_0 14 rfl rfl)
theorem dX3_pours_15 : decode cX3_pours 15 = .ok (.i2l, 1) := dk_133 (dk_at dksX3_pours_0 15 rfl rfl)
theorem dX3_pours_16 : decode cX3_pours 16 = .ok (.ladd, 1) := dk_97 (dk_at dksX3_pours_0 16 rfl rfl)
theorem dX3_pours_17 : decode cX3_pours 17 = .ok (.lastore, 1) := dk_80 (dk_at dksX3_pours_0 17 rfl rfl)
theorem dX3_pours_18 : decode cX3_pours 18 = .ok (.aload_n 0, 1) := dk_42 (dk_at dksX3_pours_0 18 rfl rfl)
theorem dX3_pours_19 : decode cX3_pours 19 = .ok (.getfield 13, 3) := dk_180 0 13 (dk_at dksX3_pours_0 19 rfl rfl)
theorem dX3_pours_22 : decode cX3_pours 22 = .ok (.bipush 9, 2) := dk_16 9 (dk_at dksX3_pours_0 22 rfl rfl)
theorem dX3_pours_24 : decode cX3_pours 24 = .ok (.dup2, 1) := dk_92 (dk_at dksX3_pours_1 0 rfl rfl)
theorem dX3_pours_25 : decode cX3_pours 25 = .ok (.laload, 1) := dk_47 (dk_at dksX3_pours_1 1 rfl rfl)
theorem dX3_pours_26 : decode cX3_pours 26 = .ok (.aload_n 0, 1) := dk_42 (dk_at dksX3_pours_1 2 rfl rfl)
theorem dX3_pours_27 : decode cX3_pours 27 = .ok (.iload_n 1, 1) := dk_27 (dk_at dksX3_pours_1 3 rfl rfl)
theorem dX3_pours_28 : decode cX3_pours 28 = .ok (.invokevirtual 160, 3) := dk_182 0 160 (dk_at dksX3_pours_1 4 rfl rfl)
theorem dX3_pours_31 : decode cX3_pours 31 = .ok (.ladd, 1) := dk_97 (dk_at dksX3_pours_1 7 rfl rfl)
theorem dX3_pours_32 : decode cX3_pours 32 = .ok (.lastore, 1) := dk_80 (dk_at dksX3_pours_1 8 rfl rfl)
theorem dX3_pours_33 : decode cX3_pours 33 = .ok (.aload_n 0, 1) := dk_42 (dk_at dksX3_pours_1 9 rfl rfl)
theorem dX3_pours_34 : decode cX3_pours 34 = .ok (.iload_n 1, 1) := dk_27 (dk_at dksX3_pours_1 10 rfl rfl)
theorem dX3_pours_35 : decode cX3_pours 35 = .ok (.iconst 0, 1) := dk_3 (dk_at dksX3_pours_1 11 rfl rfl)
theorem dX3_pours_36 : decode cX3_pours 36 = .ok (.iconst 1, 1) := dk_4 (dk_at dksX3_pours_1 12 rfl rfl)
theorem dX3_pours_37 : decode cX3_pours 37 = .ok (.invokevirtual 74, 3) := dk_182 0 74 (dk_at dksX3_pours_1 13 rfl rfl)
theorem dX3_pours_40 : decode cX3_pours 40 = .ok (.iload_n 2, 1) := dk_28 (dk_at dksX3_pours_1 16 rfl rfl)
theorem dX3_pours_41 : decode cX3_pours 41 = .ok (.istore 4, 2) := dk_54 4 (dk_at dksX3_pours_1 17 rfl rfl)
theorem dX3_pours_43 : decode cX3_pours 43 = .ok (.iload 4, 2) := dk_21 4 (dk_at dksX3_pours_1 19 rfl rfl)
theorem dX3_pours_45 : decode cX3_pours 45 = .ok (.aload_n 0, 1) := dk_42 (dk_at dksX3_pours_1 21 rfl rfl)
theorem dX3_pours_46 : decode cX3_pours 46 = .ok (.iconst 1, 1) := dk_4 (dk_at dksX3_pours_1 22 rfl rfl)
theorem dX3_pours_47 : decode cX3_pours 47 = .ok (.invokevirtual 62, 3) := dk_182 0 62 (dk_at dksX3_pours_2 0 rfl rfl)
theorem dX3_pours_50 : decode cX3_pours 50 = .ok (.if_icmp .ge 65, 3) := dk_162 0 65 (dk_at dksX3_pours_2 3 rfl rfl)
theorem dX3_pours_53 : decode cX3_pours 53 = .ok (.aload_n 0, 1) := dk_42 (dk_at dksX3_pours_2 6 rfl rfl)
theorem dX3_pours_54 : decode cX3_pours 54 = .ok (.iload 4, 2) := dk_21 4 (dk_at dksX3_pours_2 7 rfl rfl)
theorem dX3_pours_56 : decode cX3_pours 56 = .ok (.iconst 0, 1) := dk_3 (dk_at dksX3_pours_2 9 rfl rfl)
theorem dX3_pours_57 : decode cX3_pours 57 = .ok (.invokevirtual 118, 3) := dk_182 0 118 (dk_at dksX3_pours_2 10 rfl rfl)
theorem dX3_pours_60 : decode cX3_pours 60 = .ok (.aload_n 0, 1) := dk_42 (dk_at dksX3_pours_2 13 rfl rfl)
theorem dX3_pours_61 : decode cX3_pours 61 = .ok (.iload 4, 2) := dk_21 4 (dk_at dksX3_pours_2 14 rfl rfl)
theorem dX3_pours_63 : decode cX3_pours 63 = .ok (.iconst 1, 1) := dk_4 (dk_at dksX3_pours_2 16 rfl rfl)
theorem dX3_pours_64 : decode cX3_pours 64 = .ok (.invokevirtual 118, 3) := dk_182 0 118 (dk_at dksX3_pours_2 17 rfl rfl)
theorem dX3_pours_67 : decode cX3_pours 67 = .ok (.isub, 1) := dk_100 (dk_at dksX3_pours_2 20 rfl rfl)
theorem dX3_pours_68 : decode cX3_pours 68 = .ok (.istore 5, 2) := dk_54 5 (dk_at dksX3_pours_2 21 rfl rfl)
theorem dX3_pours_70 : decode cX3_pours 70 = .ok (.iload_n 3, 1) := dk_29 (dk_at dksX3_pours_2 23 rfl rfl)
theorem dX3_pours_71 : decode cX3_pours 71 = .ok (.iload 5, 2) := dk_21 5 (dk_at dksX3_pours_3 0 rfl rfl)
theorem dX3_pours_73 : decode cX3_pours 73 = .ok (.if_icmp .ge 7, 3) := dk_162 0 7 (dk_at dksX3_pours_3 2 rfl rfl)
theorem dX3_pours_76 : decode cX3_pours 76 = .ok (.iload_n 3, 1) := dk_29 (dk_at dksX3_pours_3 5 rfl rfl)
theorem dX3_pours_77 : decode cX3_pours 77 = .ok (.goto 5, 3) := dk_167 0 5 (dk_at dksX3_pours_3 6 rfl rfl)
theorem dX3_pours_80 : decode cX3_pours 80 = .ok (.iload 5, 2) := dk_21 5 (dk_at dksX3_pours_3 9 rfl rfl)
theorem dX3_pours_82 : decode cX3_pours 82 = .ok (.istore 6, 2) := dk_54 6 (dk_at dksX3_pours_3 11 rfl rfl)
theorem dX3_pours_84 : decode cX3_pours 84 = .ok (.aload_n 0, 1) := dk_42 (dk_at dksX3_pours_3 13 rfl rfl)
theorem dX3_pours_85 : decode cX3_pours 85 = .ok (.getfield 13, 3) := dk_180 0 13 (dk_at dksX3_pours_3 14 rfl rfl)
theorem dX3_pours_88 : decode cX3_pours 88 = .ok (.bipush 22, 2) := dk_16 22 (dk_at dksX3_pours_3 17 rfl rfl)
theorem dX3_pours_90 : decode cX3_pours 90 = .ok (.iconst 2, 1) := dk_5 (dk_at dksX3_pours_3 19 rfl rfl)
theorem dX3_pours_91 : decode cX3_pours 91 = .ok (.iload 4, 2) := dk_21 4 (dk_at dksX3_pours_3 20 rfl rfl)
theorem dX3_pours_93 : decode cX3_pours 93 = .ok (.imul, 1) := dk_104 (dk_at dksX3_pours_3 22 rfl rfl)
theorem dX3_pours_94 : decode cX3_pours 94 = .ok (.iadd, 1) := dk_96 (dk_at dksX3_pours_3 23 rfl rfl)
theorem dX3_pours_95 : decode cX3_pours 95 = .ok (.iconst 1, 1) := dk_4 (dk_at dksX3_pours_4 0 rfl rfl)
theorem dX3_pours_96 : decode cX3_pours 96 = .ok (.iadd, 1) := dk_96 (dk_at dksX3_pours_4 1 rfl rfl)
theorem dX3_pours_97 : decode cX3_pours 97 = .ok (.dup2, 1) := dk_92 (dk_at dksX3_pours_4 2 rfl rfl)
theorem dX3_pours_98 : decode cX3_pours 98 = .ok (.laload, 1) := dk_47 (dk_at dksX3_pours_4 3 rfl rfl)
theorem dX3_pours_99 : decode cX3_pours 99 = .ok (.iload 6, 2) := dk_21 6 (dk_at dksX3_pours_4 4 rfl rfl)
theorem dX3_pours_101 : decode cX3_pours 101 = .ok (.i2l, 1) := dk_133 (dk_at dksX3_pours_4 6 rfl rfl)
theorem dX3_pours_102 : decode cX3_pours 102 = .ok (.ladd, 1) := dk_97 (dk_at dksX3_pours_4 7 rfl rfl)
theorem dX3_pours_103 : decode cX3_pours 103 = .ok (.lastore, 1) := dk_80 (dk_at dksX3_pours_4 8 rfl rfl)
theorem dX3_pours_104 : decode cX3_pours 104 = .ok (.iload_n 3, 1) := dk_29 (dk_at dksX3_pours_4 9 rfl rfl)
theorem dX3_pours_105 : decode cX3_pours 105 = .ok (.iload 6, 2) := dk_21 6 (dk_at dksX3_pours_4 10 rfl rfl)
theorem dX3_pours_107 : decode cX3_pours 107 = .ok (.isub, 1) := dk_100 (dk_at dksX3_pours_4 12 rfl rfl)
theorem dX3_pours_108 : decode cX3_pours 108 = .ok (.istore_n 3, 1) := dk_62 (dk_at dksX3_pours_4 13 rfl rfl)
theorem dX3_pours_109 : decode cX3_pours 109 = .ok (.iinc 4 1, 3) := dk_132 4 1 (dk_at dksX3_pours_4 14 rfl rfl)
theorem dX3_pours_112 : decode cX3_pours 112 = .ok (.goto (-69), 3) := dk_167 255 187 (dk_at dksX3_pours_4 17 rfl rfl)
theorem dX3_pours_115 : decode cX3_pours 115 = .ok (.aload_n 0, 1) := dk_42 (dk_at dksX3_pours_4 20 rfl rfl)
theorem dX3_pours_116 : decode cX3_pours 116 = .ok (.getfield 13, 3) := dk_180 0 13 (dk_at dksX3_pours_4 21 rfl rfl)
theorem dX3_pours_119 : decode cX3_pours 119 = .ok (.bipush 7, 2) := dk_16 7 (dk_at dksX3_pours_5 0 rfl rfl)
theorem dX3_pours_121 : decode cX3_pours 121 = .ok (.dup2, 1) := dk_92 (dk_at dksX3_pours_5 2 rfl rfl)
theorem dX3_pours_122 : decode cX3_pours 122 = .ok (.laload, 1) := dk_47 (dk_at dksX3_pours_5 3 rfl rfl)
theorem dX3_pours_123 : decode cX3_pours 123 = .ok (.iload_n 3, 1) := dk_29 (dk_at dksX3_pours_5 4 rfl rfl)
theorem dX3_pours_124 : decode cX3_pours 124 = .ok (.i2l, 1) := dk_133 (dk_at dksX3_pours_5 5 rfl rfl)
theorem dX3_pours_125 : decode cX3_pours 125 = .ok (.ladd, 1) := dk_97 (dk_at dksX3_pours_5 6 rfl rfl)
theorem dX3_pours_126 : decode cX3_pours 126 = .ok (.lastore, 1) := dk_80 (dk_at dksX3_pours_5 7 rfl rfl)
theorem dX3_pours_127 : decode cX3_pours 127 = .ok (.iload_n 3, 1) := dk_29 (dk_at dksX3_pours_5 8 rfl rfl)
theorem dX3_pours_128 : decode cX3_pours 128 = .ok (.ireturn, 1) := dk_172 (dk_at dksX3_pours_5 9 rfl rfl)
abbrev cX3_crumbs : ByteArray := prog_21_method_23_code
def yX3_crumbs : MethodName := ⟨RX3, "crumbs", "(I)I"⟩
def dkwX3_crumbs_5 : List UInt8 := [104, 29, 160, 0, 18, 21, 4, 5, 112, 4, 160, 0, 10, 21, 4, 4, 96, 167, 0, 5, 21, 4, 172]
abbrev dktX3_crumbs_5 : List UInt8 := dkwX3_crumbs_5 ++ []
def dkwX3_crumbs_4 : List UInt8 := [161, 0, 10, 21, 4, 4, 96, 167, 0, 5, 21, 4, 172, 5, 21, 5, 104, 29, 163, 0, 19, 5, 21, 5]
abbrev dktX3_crumbs_4 : List UInt8 := dkwX3_crumbs_4 ++ dktX3_crumbs_5
def dkwX3_crumbs_3 : List UInt8 := [21, 4, 172, 21, 5, 158, 0, 10, 21, 4, 4, 96, 167, 0, 5, 21, 4, 172, 5, 21, 5, 104, 29]
abbrev dktX3_crumbs_3 : List UInt8 := dkwX3_crumbs_3 ++ dktX3_crumbs_4
def dkwX3_crumbs_2 : List UInt8 := [171, 0, 0, 0, 0, 70, 0, 0, 0, 3, 0, 0, 0, 100, 0, 0, 0, 34, 0, 0, 0, 104, 0, 0, 0, 52, 0, 0, 0, 117, 0, 0, 0, 37]
abbrev dktX3_crumbs_2 : List UInt8 := dkwX3_crumbs_2 ++ dktX3_crumbs_3
def dkwX3_crumbs_1 : List UInt8 := [28, 29, 112, 54, 5, 42, 7, 182, 0, 62]
abbrev dktX3_crumbs_1 : List UInt8 := dkwX3_crumbs_1 ++ dktX3_crumbs_2
def dkwX3_crumbs_0 : List UInt8 := [42, 27, 3, 182, 0, 90, 42, 182, 0, 109, 104, 61, 42, 27, 4, 182, 0, 90, 62, 28, 29, 108, 54, 4]
abbrev dktX3_crumbs_0 : List UInt8 := dkwX3_crumbs_0 ++ dktX3_crumbs_1
theorem dksX3_crumbs_0 : cX3_crumbs.data.toList.drop 0 = dktX3_crumbs_0 := by decide +kernel
theorem dksX3_crumbs_1 : cX3_crumbs.data.toList.drop 24 = dktX3_crumbs_1 := dk_seg dksX3_crumbs_0 24 rfl rfl
theorem dksX3_crumbs_2 : cX3_crumbs.data.toList.drop 34 = dktX3_crumbs_2 := dk_seg dksX3_crumbs_1 10 rfl rfl
theorem dksX3_crumbs_3 : cX3_crumbs.data.toList.drop 68 = dktX3_crumbs_3 := dk_seg dksX3_crumbs_2 34 rfl rfl
theorem dksX3_crumbs_4 : cX3_crumbs.data.toList.drop 91 = dktX3_crumbs_4 := dk_seg dksX3_crumbs_3 23 rfl rfl
theorem dksX3_crumbs_5 : cX3_crumbs.data.toList.drop 115 = dktX3_crumbs_5 := dk_seg dksX3_crumbs_4 24 rfl rfl
theorem dX3_crumbs_0 : decode cX3_crumbs 0 = .ok (.aload_n 0, 1) := dk_42 (dk_at dksX3_crumbs_0 0 rfl rfl)
theorem dX3_crumbs_1 : decode cX3_crumbs 1 = .ok (.iload_n 1, 1) := dk_27 (dk_at dksX3_crumbs_0 1 rfl rfl)
theorem dX3_crumbs_2 : decode cX3_crumbs 2 = .ok (.iconst 0, 1) := dk_3 (dk_at dksX3_crumbs_0 2 rfl rfl)
theorem dX3_crumbs_3 : decode cX3_crumbs 3 = .ok (.invokevirtual 90, 3) := dk_182 0 90 (dk_at dksX3_crumbs_0 3 rfl rfl)
theorem dX3_crumbs_6 : decode cX3_crumbs 6 = .ok (.aload_n 0, 1) := dk_42 (dk_at dksX3_crumbs_0 6 rfl rfl)
theorem dX3_crumbs_7 : decode cX3_crumbs 7 = .ok (.invokevirtual 109, 3) := dk_182 0 109 (dk_at dksX3_crumbs_0 7 rfl rfl)
theorem dX3_crumbs_10 : decode cX3_crumbs 10 = .ok (.imul, 1) := dk_104 (dk_at dksX3_crumbs_0 10 rfl rfl)
theorem dX3_crumbs_11 : decode cX3_crumbs 11 = .ok (.istore_n 2, 1) := dk_61 (dk_at dksX3_crumbs_0 11 rfl rfl)
theorem dX3_crumbs_12 : decode cX3_crumbs 12 = .ok (.aload_n 0, 1) := dk_42 (dk_at dksX3_crumbs_0 12 rfl rfl)
theorem dX3_crumbs_13 : decode cX3_crumbs 13 = .ok (.iload_n 1, 1) := dk_27 (dk_at dksX3_crumbs_0 13 rfl rfl)
theorem dX3_crumbs_14 : decode cX3_crumbs 14 = .ok (.iconst 1, 1) := dk_4 (dk_at dksX3_crumbs_0 14 rfl rfl)
theorem dX3_crumbs_15 : decode cX3_crumbs 15 = .ok (.invokevirtual 90, 3) := dk_182 0 90 (dk_at dksX3_crumbs_0 15 rfl rfl)
theorem dX3_crumbs_18 : decode cX3_crumbs 18 = .ok (.istore_n 3, 1) := dk_62 (dk_at dksX3_crumbs_0 18 rfl rfl)
theorem dX3_crumbs_19 : decode cX3_crumbs 19 = .ok (.iload_n 2, 1) := dk_28 (dk_at dksX3_crumbs_0 19 rfl rfl)
theorem dX3_crumbs_20 : decode cX3_crumbs 20 = .ok (.iload_n 3, 1) := dk_29 (dk_at dksX3_crumbs_0 20 rfl rfl)
theorem dX3_crumbs_21 : decode cX3_crumbs 21 = .ok (.idiv, 1) := dk_108 (dk_at dksX3_crumbs_0 21 rfl rfl)
theorem dX3_crumbs_22 : decode cX3_crumbs 22 = .ok (.istore 4, 2) := dk_54 4 (dk_at dksX3_crumbs_0 22 rfl rfl)
theorem dX3_crumbs_24 : decode cX3_crumbs 24 = .ok (.iload_n 2, 1) := dk_28 (dk_at dksX3_crumbs_1 0 rfl rfl)
theorem dX3_crumbs_25 : decode cX3_crumbs 25 = .ok (.iload_n 3, 1) := dk_29 (dk_at dksX3_crumbs_1 1 rfl rfl)
theorem dX3_crumbs_26 : decode cX3_crumbs 26 = .ok (.irem, 1) := dk_112 (dk_at dksX3_crumbs_1 2 rfl rfl)
theorem dX3_crumbs_27 : decode cX3_crumbs 27 = .ok (.istore 5, 2) := dk_54 5 (dk_at dksX3_crumbs_1 3 rfl rfl)
theorem dX3_crumbs_29 : decode cX3_crumbs 29 = .ok (.aload_n 0, 1) := dk_42 (dk_at dksX3_crumbs_1 5 rfl rfl)
theorem dX3_crumbs_30 : decode cX3_crumbs 30 = .ok (.iconst 4, 1) := dk_7 (dk_at dksX3_crumbs_1 6 rfl rfl)
theorem dX3_crumbs_31 : decode cX3_crumbs 31 = .ok (.invokevirtual 62, 3) := dk_182 0 62 (dk_at dksX3_crumbs_1 7 rfl rfl)
theorem dX3_crumbs_34 : decode cX3_crumbs 34 = .ok (.lookupswitch 70 #[(100, 34), (104, 52), (117, 37)], 34) := by decide +kernel
theorem dX3_crumbs_68 : decode cX3_crumbs 68 = .ok (.iload 4, 2) := dk_21 4 (dk_at dksX3_crumbs_3 0 rfl rfl)
theorem dX3_crumbs_70 : decode cX3_crumbs 70 = .ok (.ireturn, 1) := dk_172 (dk_at dksX3_crumbs_3 2 rfl rfl)
theorem dX3_crumbs_71 : decode cX3_crumbs 71 = .ok (.iload 5, 2) := dk_21 5 (dk_at dksX3_crumbs_3 3 rfl rfl)
theorem dX3_crumbs_73 : decode cX3_crumbs 73 = .ok (.ifCond .le 10, 3) := dk_158 0 10 (dk_at dksX3_crumbs_3 5 rfl rfl)
theorem dX3_crumbs_76 : decode cX3_crumbs 76 = .ok (.iload 4, 2) := dk_21 4 (dk_at dksX3_crumbs_3 8 rfl rfl)
theorem dX3_crumbs_78 : decode cX3_crumbs 78 = .ok (.iconst 1, 1) := dk_4 (dk_at dksX3_crumbs_3 10 rfl rfl)
theorem dX3_crumbs_79 : decode cX3_crumbs 79 = .ok (.iadd, 1) := dk_96 (dk_at dksX3_crumbs_3 11 rfl rfl)
theorem dX3_crumbs_80 : decode cX3_crumbs 80 = .ok (.goto 5, 3) := dk_167 0 5 (dk_at dksX3_crumbs_3 12 rfl rfl)
theorem dX3_crumbs_83 : decode cX3_crumbs 83 = .ok (.iload 4, 2) := dk_21 4 (dk_at dksX3_crumbs_3 15 rfl rfl)
theorem dX3_crumbs_85 : decode cX3_crumbs 85 = .ok (.ireturn, 1) := dk_172 (dk_at dksX3_crumbs_3 17 rfl rfl)
theorem dX3_crumbs_86 : decode cX3_crumbs 86 = .ok (.iconst 2, 1) := dk_5 (dk_at dksX3_crumbs_3 18 rfl rfl)
theorem dX3_crumbs_87 : decode cX3_crumbs 87 = .ok (.iload 5, 2) := dk_21 5 (dk_at dksX3_crumbs_3 19 rfl rfl)
theorem dX3_crumbs_89 : decode cX3_crumbs 89 = .ok (.imul, 1) := dk_104 (dk_at dksX3_crumbs_3 21 rfl rfl)
theorem dX3_crumbs_90 : decode cX3_crumbs 90 = .ok (.iload_n 3, 1) := dk_29 (dk_at dksX3_crumbs_3 22 rfl rfl)
theorem dX3_crumbs_91 : decode cX3_crumbs 91 = .ok (.if_icmp .lt 10, 3) := dk_161 0 10 (dk_at dksX3_crumbs_4 0 rfl rfl)
theorem dX3_crumbs_94 : decode cX3_crumbs 94 = .ok (.iload 4, 2) := dk_21 4 (dk_at dksX3_crumbs_4 3 rfl rfl)
theorem dX3_crumbs_96 : decode cX3_crumbs 96 = .ok (.iconst 1, 1) := dk_4 (dk_at dksX3_crumbs_4 5 rfl rfl)
theorem dX3_crumbs_97 : decode cX3_crumbs 97 = .ok (.iadd, 1) := dk_96 (dk_at dksX3_crumbs_4 6 rfl rfl)
theorem dX3_crumbs_98 : decode cX3_crumbs 98 = .ok (.goto 5, 3) := dk_167 0 5 (dk_at dksX3_crumbs_4 7 rfl rfl)
theorem dX3_crumbs_101 : decode cX3_crumbs 101 = .ok (.iload 4, 2) := dk_21 4 (dk_at dksX3_crumbs_4 10 rfl rfl)
theorem dX3_crumbs_103 : decode cX3_crumbs 103 = .ok (.ireturn, 1) := dk_172 (dk_at dksX3_crumbs_4 12 rfl rfl)
theorem dX3_crumbs_104 : decode cX3_crumbs 104 = .ok (.iconst 2, 1) := dk_5 (dk_at dksX3_crumbs_4 13 rfl rfl)
theorem dX3_crumbs_105 : decode cX3_crumbs 105 = .ok (.iload 5, 2) := dk_21 5 (dk_at dksX3_crumbs_4 14 rfl rfl)
theorem dX3_crumbs_107 : decode cX3_crumbs 107 = .ok (.imul, 1) := dk_104 (dk_at dksX3_crumbs_4 16 rfl rfl)
theorem dX3_crumbs_108 : decode cX3_crumbs 108 = .ok (.iload_n 3, 1) := dk_29 (dk_at dksX3_crumbs_4 17 rfl rfl)
theorem dX3_crumbs_109 : decode cX3_crumbs 109 = .ok (.if_icmp .gt 19, 3) := dk_163 0 19 (dk_at dksX3_crumbs_4 18 rfl rfl)
theorem dX3_crumbs_112 : decode cX3_crumbs 112 = .ok (.iconst 2, 1) := dk_5 (dk_at dksX3_crumbs_4 21 rfl rfl)
theorem dX3_crumbs_113 : decode cX3_crumbs 113 = .ok (.iload 5, 2) := dk_21 5 (dk_at dksX3_crumbs_4 22 rfl rfl)
theorem dX3_crumbs_115 : decode cX3_crumbs 115 = .ok (.imul, 1) := dk_104 (dk_at dksX3_crumbs_5 0 rfl rfl)
theorem dX3_crumbs_116 : decode cX3_crumbs 116 = .ok (.iload_n 3, 1) := dk_29 (dk_at dksX3_crumbs_5 1 rfl rfl)
theorem dX3_crumbs_117 : decode cX3_crumbs 117 = .ok (.if_icmp .ne 18, 3) := dk_160 0 18 (dk_at dksX3_crumbs_5 2 rfl rfl)
theorem dX3_crumbs_120 : decode cX3_crumbs 120 = .ok (.iload 4, 2) := dk_21 4 (dk_at dksX3_crumbs_5 5 rfl rfl)
theorem dX3_crumbs_122 : decode cX3_crumbs 122 = .ok (.iconst 2, 1) := dk_5 (dk_at dksX3_crumbs_5 7 rfl rfl)
theorem dX3_crumbs_123 : decode cX3_crumbs 123 = .ok (.irem, 1) := dk_112 (dk_at dksX3_crumbs_5 8 rfl rfl)
theorem dX3_crumbs_124 : decode cX3_crumbs 124 = .ok (.iconst 1, 1) := dk_4 (dk_at dksX3_crumbs_5 9 rfl rfl)
theorem dX3_crumbs_125 : decode cX3_crumbs 125 = .ok (.if_icmp .ne 10, 3) := dk_160 0 10 (dk_at dksX3_crumbs_5 10 rfl rfl)
theorem dX3_crumbs_128 : decode cX3_crumbs 128 = .ok (.iload 4, 2) := dk_21 4 (dk_at dksX3_crumbs_5 13 rfl rfl)
theorem dX3_crumbs_130 : decode cX3_crumbs 130 = .ok (.iconst 1, 1) := dk_4 (dk_at dksX3_crumbs_5 15 rfl rfl)
theorem dX3_crumbs_131 : decode cX3_crumbs 131 = .ok (.iadd, 1) := dk_96 (dk_at dksX3_crumbs_5 16 rfl rfl)
theorem dX3_crumbs_132 : decode cX3_crumbs 132 = .ok (.goto 5, 3) := dk_167 0 5 (dk_at dksX3_crumbs_5 17 rfl rfl)
theorem dX3_crumbs_135 : decode cX3_crumbs 135 = .ok (.iload 4, 2) := dk_21 4 (dk_at dksX3_crumbs_5 20 rfl rfl)
theorem dX3_crumbs_137 : decode cX3_crumbs 137 = .ok (.ireturn, 1) := dk_172 (dk_at dksX3_crumbs_5 22 rfl rfl)
abbrev cX3_power : ByteArray := prog_21_method_22_code
def yX3_power : MethodName := ⟨RX3, "power", "()I"⟩
def dkwX3_power_1 : List UInt8 := [27, 172]
abbrev dktX3_power_1 : List UInt8 := dkwX3_power_1 ++ []
def dkwX3_power_0 : List UInt8 := [4, 60, 3, 61, 28, 42, 6, 182, 0, 62, 162, 0, 14, 27, 16, 10, 104, 60, 132, 2, 1, 167, 255, 239]
abbrev dktX3_power_0 : List UInt8 := dkwX3_power_0 ++ dktX3_power_1
theorem dksX3_power_0 : cX3_power.data.toList.drop 0 = dktX3_power_0 := by decide +kernel
theorem dksX3_power_1 : cX3_power.data.toList.drop 24 = dktX3_power_1 := dk_seg dksX3_power_0 24 rfl rfl
theorem dX3_power_0 : decode cX3_power 0 = .ok (.iconst 1, 1) := dk_4 (dk_at dksX3_power_0 0 rfl rfl)
theorem dX3_power_1 : decode cX3_power 1 = .ok (.istore_n 1, 1) := dk_60 (dk_at dksX3_power_0 1 rfl rfl)
theorem dX3_power_2 : decode cX3_power 2 = .ok (.iconst 0, 1) := dk_3 (dk_at dksX3_power_0 2 rfl rfl)
theorem dX3_power_3 : decode cX3_power 3 = .ok (.istore_n 2, 1) := dk_61 (dk_at dksX3_power_0 3 rfl rfl)
theorem dX3_power_4 : decode cX3_power 4 = .ok (.iload_n 2, 1) := dk_28 (dk_at dksX3_power_0 4 rfl rfl)
theorem dX3_power_5 : decode cX3_power 5 = .ok (.aload_n 0, 1) := dk_42 (dk_at dksX3_power_0 5 rfl rfl)
theorem dX3_power_6 : decode cX3_power 6 = .ok (.iconst 3, 1) := dk_6 (dk_at dksX3_power_0 6 rfl rfl)
theorem dX3_power_7 : decode cX3_power 7 = .ok (.invokevirtual 62, 3) := dk_182 0 62 (dk_at dksX3_power_0 7 rfl rfl)
theorem dX3_power_10 : decode cX3_power 10 = .ok (.if_icmp .ge 14, 3) := dk_162 0 14 (dk_at dksX3_power_0 10 rfl rfl)
theorem dX3_power_13 : decode cX3_power 13 = .ok (.iload_n 1, 1) := dk_27 (dk_at dksX3_power_0 13 rfl rfl)
theorem dX3_power_14 : decode cX3_power 14 = .ok (.bipush 10, 2) := dk_16 10 (dk_at dksX3_power_0 14 rfl rfl)
theorem dX3_power_16 : decode cX3_power 16 = .ok (.imul, 1) := dk_104 (dk_at dksX3_power_0 16 rfl rfl)
theorem dX3_power_17 : decode cX3_power 17 = .ok (.istore_n 1, 1) := dk_60 (dk_at dksX3_power_0 17 rfl rfl)
theorem dX3_power_18 : decode cX3_power 18 = .ok (.iinc 2 1, 3) := dk_132 2 1 (dk_at dksX3_power_0 18 rfl rfl)
theorem dX3_power_21 : decode cX3_power 21 = .ok (.goto (-17), 3) := dk_167 255 239 (dk_at dksX3_power_0 21 rfl rfl)
theorem dX3_power_24 : decode cX3_power 24 = .ok (.iload_n 1, 1) := dk_27 (dk_at dksX3_power_1 0 rfl rfl)
theorem dX3_power_25 : decode cX3_power 25 = .ok (.ireturn, 1) := dk_172 (dk_at dksX3_power_1 1 rfl rfl)
abbrev cX3_error : ByteArray := prog_21_method_24_code
def yX3_error : MethodName := ⟨RX3, "error", "(I)J"⟩
def dkwX3_error_1 : List UInt8 := [182, 0, 113, 133, 32, 105, 101, 20, 0, 116, 32, 109, 105, 173]
abbrev dktX3_error_1 : List UInt8 := dkwX3_error_1 ++ []
def dkwX3_error_0 : List UInt8 := [42, 27, 4, 182, 0, 90, 133, 65, 42, 27, 3, 182, 0, 90, 133, 42, 182, 0, 109, 133, 105, 42, 27]
abbrev dktX3_error_0 : List UInt8 := dkwX3_error_0 ++ dktX3_error_1
theorem dksX3_error_0 : cX3_error.data.toList.drop 0 = dktX3_error_0 := by decide +kernel
theorem dksX3_error_1 : cX3_error.data.toList.drop 23 = dktX3_error_1 := dk_seg dksX3_error_0 23 rfl rfl
theorem dX3_error_0 : decode cX3_error 0 = .ok (.aload_n 0, 1) := dk_42 (dk_at dksX3_error_0 0 rfl rfl)
theorem dX3_error_1 : decode cX3_error 1 = .ok (.iload_n 1, 1) := dk_27 (dk_at dksX3_error_0 1 rfl rfl)
theorem dX3_error_2 : decode cX3_error 2 = .ok (.iconst 1, 1) := dk_4 (dk_at dksX3_error_0 2 rfl rfl)
theorem dX3_error_3 : decode cX3_error 3 = .ok (.invokevirtual 90, 3) := dk_182 0 90 (dk_at dksX3_error_0 3 rfl rfl)
theorem dX3_error_6 : decode cX3_error 6 = .ok (.i2l, 1) := dk_133 (dk_at dksX3_error_0 6 rfl rfl)
theorem dX3_error_7 : decode cX3_error 7 = .ok (.lstore_n 2, 1) := dk_65 (dk_at dksX3_error_0 7 rfl rfl)
theorem dX3_error_8 : decode cX3_error 8 = .ok (.aload_n 0, 1) := dk_42 (dk_at dksX3_error_0 8 rfl rfl)
theorem dX3_error_9 : decode cX3_error 9 = .ok (.iload_n 1, 1) := dk_27 (dk_at dksX3_error_0 9 rfl rfl)
theorem dX3_error_10 : decode cX3_error 10 = .ok (.iconst 0, 1) := dk_3 (dk_at dksX3_error_0 10 rfl rfl)
theorem dX3_error_11 : decode cX3_error 11 = .ok (.invokevirtual 90, 3) := dk_182 0 90 (dk_at dksX3_error_0 11 rfl rfl)
theorem dX3_error_14 : decode cX3_error 14 = .ok (.i2l, 1) := dk_133 (dk_at dksX3_error_0 14 rfl rfl)
theorem dX3_error_15 : decode cX3_error 15 = .ok (.aload_n 0, 1) := dk_42 (dk_at dksX3_error_0 15 rfl rfl)
theorem dX3_error_16 : decode cX3_error 16 = .ok (.invokevirtual 109, 3) := dk_182 0 109 (dk_at dksX3_error_0 16 rfl rfl)
theorem dX3_error_19 : decode cX3_error 19 = .ok (.i2l, 1) := dk_133 (dk_at dksX3_error_0 19 rfl rfl)
theorem dX3_error_20 : decode cX3_error 20 = .ok (.lmul, 1) := dk_105 (dk_at dksX3_error_0 20 rfl rfl)
theorem dX3_error_21 : decode cX3_error 21 = .ok (.aload_n 0, 1) := dk_42 (dk_at dksX3_error_0 21 rfl rfl)
theorem dX3_error_22 : decode cX3_error 22 = .ok (.iload_n 1, 1) := dk_27 (dk_at dksX3_error_0 22 rfl rfl)
theorem dX3_error_23 : decode cX3_error 23 = .ok (.invokevirtual 113, 3) := dk_182 0 113 (dk_at dksX3_error_1 0 rfl rfl)
theorem dX3_error_26 : decode cX3_error 26 = .ok (.i2l, 1) := dk_133 (dk_at dksX3_error_1 3 rfl rfl)
theorem dX3_error_27 : decode cX3_error 27 = .ok (.lload_n 2, 1) := dk_32 (dk_at dksX3_error_1 4 rfl rfl)
theorem dX3_error_28 : decode cX3_error 28 = .ok (.lmul, 1) := dk_105 (dk_at dksX3_error_1 5 rfl rfl)
theorem dX3_error_29 : decode cX3_error 29 = .ok (.lsub, 1) := dk_101 (dk_at dksX3_error_1 6 rfl rfl)
theorem dX3_error_30 : decode cX3_error 30 = .ok (.ldc2_w 116, 3) := dk_20 0 116 (dk_at dksX3_error_1 7 rfl rfl)
theorem dX3_error_33 : decode cX3_error 33 = .ok (.lload_n 2, 1) := dk_32 (dk_at dksX3_error_1 10 rfl rfl)
theorem dX3_error_34 : decode cX3_error 34 = .ok (.ldiv, 1) := dk_109 (dk_at dksX3_error_1 11 rfl rfl)
theorem dX3_error_35 : decode cX3_error 35 = .ok (.lmul, 1) := dk_105 (dk_at dksX3_error_1 12 rfl rfl)
theorem dX3_error_36 : decode cX3_error 36 = .ok (.lreturn, 1) := dk_173 (dk_at dksX3_error_1 13 rfl rfl)
abbrev cX3_empty : ByteArray := prog_21_method_48_code
def yX3_empty : MethodName := ⟨RX3, "empty", "(I)I"⟩
def dkwX3_empty_1 : List UInt8 := [27, 182, 0, 170, 172]
abbrev dktX3_empty_1 : List UInt8 := dkwX3_empty_1 ++ []
def dkwX3_empty_0 : List UInt8 := [42, 3, 181, 0, 1, 42, 27, 182, 0, 157, 154, 0, 9, 42, 4, 182, 0, 81, 172, 42, 182, 0, 84, 42]
abbrev dktX3_empty_0 : List UInt8 := dkwX3_empty_0 ++ dktX3_empty_1
theorem dksX3_empty_0 : cX3_empty.data.toList.drop 0 = dktX3_empty_0 := by decide +kernel
theorem dksX3_empty_1 : cX3_empty.data.toList.drop 24 = dktX3_empty_1 := dk_seg dksX3_empty_0 24 rfl rfl
theorem dX3_empty_0 : decode cX3_empty 0 = .ok (.aload_n 0, 1) := dk_42 (dk_at dksX3_empty_0 0 rfl rfl)
theorem dX3_empty_1 : decode cX3_empty 1 = .ok (.iconst 0, 1) := dk_3 (dk_at dksX3_empty_0 1 rfl rfl)
theorem dX3_empty_2 : decode cX3_empty 2 = .ok (.putfield 1, 3) := dk_181 0 1 (dk_at dksX3_empty_0 2 rfl rfl)
theorem dX3_empty_5 : decode cX3_empty 5 = .ok (.aload_n 0, 1) := dk_42 (dk_at dksX3_empty_0 5 rfl rfl)
theorem dX3_empty_6 : decode cX3_empty 6 = .ok (.iload_n 1, 1) := dk_27 (dk_at dksX3_empty_0 6 rfl rfl)
theorem dX3_empty_7 : decode cX3_empty 7 = .ok (.invokevirtual 157, 3) := dk_182 0 157 (dk_at dksX3_empty_0 7 rfl rfl)
theorem dX3_empty_10 : decode cX3_empty 10 = .ok (.ifCond .ne 9, 3) := dk_154 0 9 (dk_at dksX3_empty_0 10 rfl rfl)
theorem dX3_empty_13 : decode cX3_empty 13 = .ok (.aload_n 0, 1) := dk_42 (dk_at dksX3_empty_0 13 rfl rfl)
theorem dX3_empty_14 : decode cX3_empty 14 = .ok (.iconst 1, 1) := dk_4 (dk_at dksX3_empty_0 14 rfl rfl)
theorem dX3_empty_15 : decode cX3_empty 15 = .ok (.invokevirtual 81, 3) := dk_182 0 81 (dk_at dksX3_empty_0 15 rfl rfl)
theorem dX3_empty_18 : decode cX3_empty 18 = .ok (.ireturn, 1) := dk_172 (dk_at dksX3_empty_0 18 rfl rfl)
theorem dX3_empty_19 : decode cX3_empty 19 = .ok (.aload_n 0, 1) := dk_42 (dk_at dksX3_empty_0 19 rfl rfl)
theorem dX3_empty_20 : decode cX3_empty 20 = .ok (.invokevirtual 84, 3) := dk_182 0 84 (dk_at dksX3_empty_0 20 rfl rfl)
theorem dX3_empty_23 : decode cX3_empty 23 = .ok (.aload_n 0, 1) := dk_42 (dk_at dksX3_empty_0 23 rfl rfl)
theorem dX3_empty_24 : decode cX3_empty 24 = .ok (.iload_n 1, 1) := dk_27 (dk_at dksX3_empty_1 0 rfl rfl)
theorem dX3_empty_25 : decode cX3_empty 25 = .ok (.invokevirtual 170, 3) := dk_182 0 170 (dk_at dksX3_empty_1 1 rfl rfl)
theorem dX3_empty_28 : decode cX3_empty 28 = .ok (.ireturn, 1) := dk_172 (dk_at dksX3_empty_1 4 rfl rfl)
abbrev cX3_empties : ByteArray := prog_21_method_47_code
def yX3_empties : MethodName := ⟨RX3, "empties", "(I)I"⟩
def dkwX3_empties_1 : List UInt8 := [97, 80, 28, 172]
abbrev dktX3_empties_1 : List UInt8 := dkwX3_empties_1 ++ []
def dkwX3_empties_0 : List UInt8 := [42, 16, 22, 5, 27, 104, 96, 4, 96, 3, 182, 0, 151, 61, 42, 180, 0, 13, 16, 8, 92, 47, 28, 133]
abbrev dktX3_empties_0 : List UInt8 := dkwX3_empties_0 ++ dktX3_empties_1
theorem dksX3_empties_0 : cX3_empties.data.toList.drop 0 = dktX3_empties_0 := by decide +kernel
theorem dksX3_empties_1 : cX3_empties.data.toList.drop 24 = dktX3_empties_1 := dk_seg dksX3_empties_0 24 rfl rfl
theorem dX3_empties_0 : decode cX3_empties 0 = .ok (.aload_n 0, 1) := dk_42 (dk_at dksX3_empties_0 0 rfl rfl)
theorem dX3_empties_1 : decode cX3_empties 1 = .ok (.bipush 22, 2) := dk_16 22 (dk_at dksX3_empties_0 1 rfl rfl)
theorem dX3_empties_3 : decode cX3_empties 3 = .ok (.iconst 2, 1) := dk_5 (dk_at dksX3_empties_0 3 rfl rfl)
theorem dX3_empties_4 : decode cX3_empties 4 = .ok (.iload_n 1, 1) := dk_27 (dk_at dksX3_empties_0 4 rfl rfl)
theorem dX3_empties_5 : decode cX3_empties 5 = .ok (.imul, 1) := dk_104 (dk_at dksX3_empties_0 5 rfl rfl)
theorem dX3_empties_6 : decode cX3_empties 6 = .ok (.iadd, 1) := dk_96 (dk_at dksX3_empties_0 6 rfl rfl)
theorem dX3_empties_7 : decode cX3_empties 7 = .ok (.iconst 1, 1) := dk_4 (dk_at dksX3_empties_0 7 rfl rfl)
theorem dX3_empties_8 : decode cX3_empties 8 = .ok (.iadd, 1) := dk_96 (dk_at dksX3_empties_0 8 rfl rfl)
theorem dX3_empties_9 : decode cX3_empties 9 = .ok (.iconst 0, 1) := dk_3 (dk_at dksX3_empties_0 9 rfl rfl)
theorem dX3_empties_10 : decode cX3_empties 10 = .ok (.invokevirtual 151, 3) := dk_182 0 151 (dk_at dksX3_empties_0 10 rfl rfl)
theorem dX3_empties_13 : decode cX3_empties 13 = .ok (.istore_n 2, 1) := dk_61 (dk_at dksX3_empties_0 13 rfl rfl)
theorem dX3_empties_14 : decode cX3_empties 14 = .ok (.aload_n 0, 1) := dk_42 (dk_at dksX3_empties_0 14 rfl rfl)
theorem dX3_empties_15 : decode cX3_empties 15 = .ok (.getfield 13, 3) := dk_180 0 13 (dk_at dksX3_empties_0 15 rfl rfl)
theorem dX3_empties_18 : decode cX3_empties 18 = .ok (.bipush 8, 2) := dk_16 8 (dk_at dksX3_empties_0 18 rfl rfl)
theorem dX3_empties_20 : decode cX3_empties 20 = .ok (.dup2, 1) := dk_92 (dk_at dksX3_empties_0 20 rfl rfl)
theorem dX3_empties_21 : decode cX3_empties 21 = .ok (.laload, 1) := dk_47 (dk_at dksX3_empties_0 21 rfl rfl)
theorem dX3_empties_22 : decode cX3_empties 22 = .ok (.iload_n 2, 1) := dk_28 (dk_at dksX3_empties_0 22 rfl rfl)
theorem dX3_empties_23 : decode cX3_empties 23 = .ok (.i2l, 1) := dk_133 (dk_at dksX3_empties_0 23 rfl rfl)
theorem dX3_empties_24 : decode cX3_empties 24 = .ok (.ladd, 1) := dk_97 (dk_at dksX3_empties_1 0 rfl rfl)
theorem dX3_empties_25 : decode cX3_empties 25 = .ok (.lastore, 1) := dk_80 (dk_at dksX3_empties_1 1 rfl rfl)
theorem dX3_empties_26 : decode cX3_empties 26 = .ok (.iload_n 2, 1) := dk_28 (dk_at dksX3_empties_1 2 rfl rfl)
theorem dX3_empties_27 : decode cX3_empties 27 = .ok (.ireturn, 1) := dk_172 (dk_at dksX3_empties_1 3 rfl rfl)
abbrev cX3_bake : ByteArray := prog_21_method_55_code
def yX3_bake : MethodName := ⟨RX3, "bake", "(I)I"⟩
def dkwX3_bake_1 : List UInt8 := [182, 0, 84, 42, 27, 182, 0, 188, 172]
abbrev dktX3_bake_1 : List UInt8 := dkwX3_bake_1 ++ []
def dkwX3_bake_0 : List UInt8 := [42, 3, 181, 0, 1, 42, 27, 182, 0, 185, 61, 28, 153, 0, 9, 42, 28, 182, 0, 81, 172, 42]
abbrev dktX3_bake_0 : List UInt8 := dkwX3_bake_0 ++ dktX3_bake_1
theorem dksX3_bake_0 : cX3_bake.data.toList.drop 0 = dktX3_bake_0 := by decide +kernel
theorem dksX3_bake_1 : cX3_bake.data.toList.drop 22 = dktX3_bake_1 := dk_seg dksX3_bake_0 22 rfl rfl
theorem dX3_bake_0 : decode cX3_bake 0 = .ok (.aload_n 0, 1) := dk_42 (dk_at dksX3_bake_0 0 rfl rfl)
theorem dX3_bake_1 : decode cX3_bake 1 = .ok (.iconst 0, 1) := dk_3 (dk_at dksX3_bake_0 1 rfl rfl)
theorem dX3_bake_2 : decode cX3_bake 2 = .ok (.putfield 1, 3) := dk_181 0 1 (dk_at dksX3_bake_0 2 rfl rfl)
theorem dX3_bake_5 : decode cX3_bake 5 = .ok (.aload_n 0, 1) := dk_42 (dk_at dksX3_bake_0 5 rfl rfl)
theorem dX3_bake_6 : decode cX3_bake 6 = .ok (.iload_n 1, 1) := dk_27 (dk_at dksX3_bake_0 6 rfl rfl)
theorem dX3_bake_7 : decode cX3_bake 7 = .ok (.invokevirtual 185, 3) := dk_182 0 185 (dk_at dksX3_bake_0 7 rfl rfl)
theorem dX3_bake_10 : decode cX3_bake 10 = .ok (.istore_n 2, 1) := dk_61 (dk_at dksX3_bake_0 10 rfl rfl)
theorem dX3_bake_11 : decode cX3_bake 11 = .ok (.iload_n 2, 1) := dk_28 (dk_at dksX3_bake_0 11 rfl rfl)
theorem dX3_bake_12 : decode cX3_bake 12 = .ok (.ifCond .eq 9, 3) := dk_153 0 9 (dk_at dksX3_bake_0 12 rfl rfl)
theorem dX3_bake_15 : decode cX3_bake 15 = .ok (.aload_n 0, 1) := dk_42 (dk_at dksX3_bake_0 15 rfl rfl)
theorem dX3_bake_16 : decode cX3_bake 16 = .ok (.iload_n 2, 1) := dk_28 (dk_at dksX3_bake_0 16 rfl rfl)
theorem dX3_bake_17 : decode cX3_bake 17 = .ok (.invokevirtual 81, 3) := dk_182 0 81 (dk_at dksX3_bake_0 17 rfl rfl)
theorem dX3_bake_20 : decode cX3_bake 20 = .ok (.ireturn, 1) := dk_172 (dk_at dksX3_bake_0 20 rfl rfl)
theorem dX3_bake_21 : decode cX3_bake 21 = .ok (.aload_n 0, 1) := dk_42 (dk_at dksX3_bake_0 21 rfl rfl)
theorem dX3_bake_22 : decode cX3_bake 22 = .ok (.invokevirtual 84, 3) := dk_182 0 84 (dk_at dksX3_bake_1 0 rfl rfl)
theorem dX3_bake_25 : decode cX3_bake 25 = .ok (.aload_n 0, 1) := dk_42 (dk_at dksX3_bake_1 3 rfl rfl)
theorem dX3_bake_26 : decode cX3_bake 26 = .ok (.iload_n 1, 1) := dk_27 (dk_at dksX3_bake_1 4 rfl rfl)
theorem dX3_bake_27 : decode cX3_bake 27 = .ok (.invokevirtual 188, 3) := dk_182 0 188 (dk_at dksX3_bake_1 5 rfl rfl)
theorem dX3_bake_30 : decode cX3_bake 30 = .ok (.ireturn, 1) := dk_172 (dk_at dksX3_bake_1 8 rfl rfl)
abbrev cX3_notBake : ByteArray := prog_21_method_53_code
def yX3_notBake : MethodName := ⟨RX3, "notBake", "(I)I"⟩
def dkwX3_notBake_1 : List UInt8 := [182, 0, 118, 154, 0, 7, 6, 167, 0, 4, 3, 172]
abbrev dktX3_notBake_1 : List UInt8 := dkwX3_notBake_1 ++ []
def dkwX3_notBake_0 : List UInt8 := [42, 27, 182, 0, 157, 154, 0, 5, 4, 172, 42, 5, 182, 0, 62, 154, 0, 5, 5, 172, 42, 27, 4]
abbrev dktX3_notBake_0 : List UInt8 := dkwX3_notBake_0 ++ dktX3_notBake_1
theorem dksX3_notBake_0 : cX3_notBake.data.toList.drop 0 = dktX3_notBake_0 := by decide +kernel
theorem dksX3_notBake_1 : cX3_notBake.data.toList.drop 23 = dktX3_notBake_1 := dk_seg dksX3_notBake_0 23 rfl rfl
theorem dX3_notBake_0 : decode cX3_notBake 0 = .ok (.aload_n 0, 1) := dk_42 (dk_at dksX3_notBake_0 0 rfl rfl)
theorem dX3_notBake_1 : decode cX3_notBake 1 = .ok (.iload_n 1, 1) := dk_27 (dk_at dksX3_notBake_0 1 rfl rfl)
theorem dX3_notBake_2 : decode cX3_notBake 2 = .ok (.invokevirtual 157, 3) := dk_182 0 157 (dk_at dksX3_notBake_0 2 rfl rfl)
theorem dX3_notBake_5 : decode cX3_notBake 5 = .ok (.ifCond .ne 5, 3) := dk_154 0 5 (dk_at dksX3_notBake_0 5 rfl rfl)
theorem dX3_notBake_8 : decode cX3_notBake 8 = .ok (.iconst 1, 1) := dk_4 (dk_at dksX3_notBake_0 8 rfl rfl)
theorem dX3_notBake_9 : decode cX3_notBake 9 = .ok (.ireturn, 1) := dk_172 (dk_at dksX3_notBake_0 9 rfl rfl)
theorem dX3_notBake_10 : decode cX3_notBake 10 = .ok (.aload_n 0, 1) := dk_42 (dk_at dksX3_notBake_0 10 rfl rfl)
theorem dX3_notBake_11 : decode cX3_notBake 11 = .ok (.iconst 2, 1) := dk_5 (dk_at dksX3_notBake_0 11 rfl rfl)
theorem dX3_notBake_12 : decode cX3_notBake 12 = .ok (.invokevirtual 62, 3) := dk_182 0 62 (dk_at dksX3_notBake_0 12 rfl rfl)
theorem dX3_notBake_15 : decode cX3_notBake 15 = .ok (.ifCond .ne 5, 3) := dk_154 0 5 (dk_at dksX3_notBake_0 15 rfl rfl)
theorem dX3_notBake_18 : decode cX3_notBake 18 = .ok (.iconst 2, 1) := dk_5 (dk_at dksX3_notBake_0 18 rfl rfl)
theorem dX3_notBake_19 : decode cX3_notBake 19 = .ok (.ireturn, 1) := dk_172 (dk_at dksX3_notBake_0 19 rfl rfl)
theorem dX3_notBake_20 : decode cX3_notBake 20 = .ok (.aload_n 0, 1) := dk_42 (dk_at dksX3_notBake_0 20 rfl rfl)
theorem dX3_notBake_21 : decode cX3_notBake 21 = .ok (.iload_n 1, 1) := dk_27 (dk_at dksX3_notBake_0 21 rfl rfl)
theorem dX3_notBake_22 : decode cX3_notBake 22 = .ok (.iconst 1, 1) := dk_4 (dk_at dksX3_notBake_0 22 rfl rfl)
theorem dX3_notBake_23 : decode cX3_notBake 23 = .ok (.invokevirtual 118, 3) := dk_182 0 118 (dk_at dksX3_notBake_1 0 rfl rfl)
theorem dX3_notBake_26 : decode cX3_notBake 26 = .ok (.ifCond .ne 7, 3) := dk_154 0 7 (dk_at dksX3_notBake_1 3 rfl rfl)
theorem dX3_notBake_29 : decode cX3_notBake 29 = .ok (.iconst 3, 1) := dk_6 (dk_at dksX3_notBake_1 6 rfl rfl)
theorem dX3_notBake_30 : decode cX3_notBake 30 = .ok (.goto 4, 3) := dk_167 0 4 (dk_at dksX3_notBake_1 7 rfl rfl)
theorem dX3_notBake_33 : decode cX3_notBake 33 = .ok (.iconst 0, 1) := dk_3 (dk_at dksX3_notBake_1 10 rfl rfl)
theorem dX3_notBake_34 : decode cX3_notBake 34 = .ok (.ireturn, 1) := dk_172 (dk_at dksX3_notBake_1 11 rfl rfl)
abbrev cX3_bakes : ByteArray := prog_21_method_54_code
def yX3_bakes : MethodName := ⟨RX3, "bakes", "(I)I"⟩
def dkwX3_bakes_2 : List UInt8 := [97, 80, 132, 3, 1, 167, 255, 221, 28, 172]
abbrev dktX3_bakes_2 : List UInt8 := dkwX3_bakes_2 ++ []
def dkwX3_bakes_1 : List UInt8 := [162, 0, 32, 42, 180, 0, 13, 16, 32, 6, 29, 104, 96, 5, 96, 92, 47, 42, 28, 29, 182, 0, 182, 133]
abbrev dktX3_bakes_1 : List UInt8 := dkwX3_bakes_1 ++ dktX3_bakes_2
def dkwX3_bakes_0 : List UInt8 := [42, 16, 22, 5, 27, 104, 96, 4, 96, 3, 182, 0, 151, 61, 3, 62, 29, 42, 5, 182, 0, 62]
abbrev dktX3_bakes_0 : List UInt8 := dkwX3_bakes_0 ++ dktX3_bakes_1
theorem dksX3_bakes_0 : cX3_bakes.data.toList.drop 0 = dktX3_bakes_0 := by decide +kernel
theorem dksX3_bakes_1 : cX3_bakes.data.toList.drop 22 = dktX3_bakes_1 := dk_seg dksX3_bakes_0 22 rfl rfl
theorem dksX3_bakes_2 : cX3_bakes.data.toList.drop 46 = dktX3_bakes_2 := dk_seg dksX3_bakes_1 24 rfl rfl
theorem dX3_bakes_0 : decode cX3_bakes 0 = .ok (.aload_n 0, 1) := dk_42 (dk_at dksX3_bakes_0 0 rfl rfl)
theorem dX3_bakes_1 : decode cX3_bakes 1 = .ok (.bipush 22, 2) := dk_16 22 (dk_at dksX3_bakes_0 1 rfl rfl)
theorem dX3_bakes_3 : decode cX3_bakes 3 = .ok (.iconst 2, 1) := dk_5 (dk_at dksX3_bakes_0 3 rfl rfl)
theorem dX3_bakes_4 : decode cX3_bakes 4 = .ok (.iload_n 1, 1) := dk_27 (dk_at dksX3_bakes_0 4 rfl rfl)
theorem dX3_bakes_5 : decode cX3_bakes 5 = .ok (.imul, 1) := dk_104 (dk_at dksX3_bakes_0 5 rfl rfl)
theorem dX3_bakes_6 : decode cX3_bakes 6 = .ok (.iadd, 1) := dk_96 (dk_at dksX3_bakes_0 6 rfl rfl)
theorem dX3_bakes_7 : decode cX3_bakes 7 = .ok (.iconst 1, 1) := dk_4 (dk_at dksX3_bakes_0 7 rfl rfl)
theorem dX3_bakes_8 : decode cX3_bakes 8 = .ok (.iadd, 1) := dk_96 (dk_at dksX3_bakes_0 8 rfl rfl)
theorem dX3_bakes_9 : decode cX3_bakes 9 = .ok (.iconst 0, 1) := dk_3 (dk_at dksX3_bakes_0 9 rfl rfl)
theorem dX3_bakes_10 : decode cX3_bakes 10 = .ok (.invokevirtual 151, 3) := dk_182 0 151 (dk_at dksX3_bakes_0 10 rfl rfl)
theorem dX3_bakes_13 : decode cX3_bakes 13 = .ok (.istore_n 2, 1) := dk_61 (dk_at dksX3_bakes_0 13 rfl rfl)
theorem dX3_bakes_14 : decode cX3_bakes 14 = .ok (.iconst 0, 1) := dk_3 (dk_at dksX3_bakes_0 14 rfl rfl)
theorem dX3_bakes_15 : decode cX3_bakes 15 = .ok (.istore_n 3, 1) := dk_62 (dk_at dksX3_bakes_0 15 rfl rfl)
theorem dX3_bakes_16 : decode cX3_bakes 16 = .ok (.iload_n 3, 1) := dk_29 (dk_at dksX3_bakes_0 16 rfl rfl)
theorem dX3_bakes_17 : decode cX3_bakes 17 = .ok (.aload_n 0, 1) := dk_42 (dk_at dksX3_bakes_0 17 rfl rfl)
theorem dX3_bakes_18 : decode cX3_bakes 18 = .ok (.iconst 2, 1) := dk_5 (dk_at dksX3_bakes_0 18 rfl rfl)
theorem dX3_bakes_19 : decode cX3_bakes 19 = .ok (.invokevirtual 62, 3) := dk_182 0 62 (dk_at dksX3_bakes_0 19 rfl rfl)
theorem dX3_bakes_22 : decode cX3_bakes 22 = .ok (.if_icmp .ge 32, 3) := dk_162 0 32 (dk_at dksX3_bakes_1 0 rfl rfl)
theorem dX3_bakes_25 : decode cX3_bakes 25 = .ok (.aload_n 0, 1) := dk_42 (dk_at dksX3_bakes_1 3 rfl rfl)
theorem dX3_bakes_26 : decode cX3_bakes 26 = .ok (.getfield 13, 3) := dk_180 0 13 (dk_at dksX3_bakes_1 4 rfl rfl)
theorem dX3_bakes_29 : decode cX3_bakes 29 = .ok (.bipush 32, 2) := dk_16 32 (dk_at dksX3_bakes_1 7 rfl rfl)
theorem dX3_bakes_31 : decode cX3_bakes 31 = .ok (.iconst 3, 1) := dk_6 (dk_at dksX3_bakes_1 9 rfl rfl)
theorem dX3_bakes_32 : decode cX3_bakes 32 = .ok (.iload_n 3, 1) := dk_29 (dk_at dksX3_bakes_1 10 rfl rfl)
theorem dX3_bakes_33 : decode cX3_bakes 33 = .ok (.imul, 1) := dk_104 (dk_at dksX3_bakes_1 11 rfl rfl)
theorem dX3_bakes_34 : decode cX3_bakes 34 = .ok (.iadd, 1) := dk_96 (dk_at dksX3_bakes_1 12 rfl rfl)
theorem dX3_bakes_35 : decode cX3_bakes 35 = .ok (.iconst 2, 1) := dk_5 (dk_at dksX3_bakes_1 13 rfl rfl)
theorem dX3_bakes_36 : decode cX3_bakes 36 = .ok (.iadd, 1) := dk_96 (dk_at dksX3_bakes_1 14 rfl rfl)
theorem dX3_bakes_37 : decode cX3_bakes 37 = .ok (.dup2, 1) := dk_92 (dk_at dksX3_bakes_1 15 rfl rfl)
theorem dX3_bakes_38 : decode cX3_bakes 38 = .ok (.laload, 1) := dk_47 (dk_at dksX3_bakes_1 16 rfl rfl)
theorem dX3_bakes_39 : decode cX3_bakes 39 = .ok (.aload_n 0, 1) := dk_42 (dk_at dksX3_bakes_1 17 rfl rfl)
theorem dX3_bakes_40 : decode cX3_bakes 40 = .ok (.iload_n 2, 1) := dk_28 (dk_at dksX3_bakes_1 18 rfl rfl)
theorem dX3_bakes_41 : decode cX3_bakes 41 = .ok (.iload_n 3, 1) := dk_29 (dk_at dksX3_bakes_1 19 rfl rfl)
theorem dX3_bakes_42 : decode cX3_bakes 42 = .ok (.invokevirtual 182, 3) := dk_182 0 182 (dk_at dksX3_bakes_1 20 rfl rfl)
theorem dX3_bakes_45 : decode cX3_bakes 45 = .ok (.i2l, 1) := dk_133 (dk_at dksX3_bakes_1 23 rfl rfl)
theorem dX3_bakes_46 : decode cX3_bakes 46 = .ok (.ladd, 1) := dk_97 (dk_at dksX3_bakes_2 0 rfl rfl)
theorem dX3_bakes_47 : decode cX3_bakes 47 = .ok (.lastore, 1) := dk_80 (dk_at dksX3_bakes_2 1 rfl rfl)
theorem dX3_bakes_48 : decode cX3_bakes 48 = .ok (.iinc 3 1, 3) := dk_132 3 1 (dk_at dksX3_bakes_2 2 rfl rfl)
theorem dX3_bakes_51 : decode cX3_bakes 51 = .ok (.goto (-35), 3) := dk_167 255 221 (dk_at dksX3_bakes_2 5 rfl rfl)
theorem dX3_bakes_54 : decode cX3_bakes 54 = .ok (.iload_n 2, 1) := dk_28 (dk_at dksX3_bakes_2 8 rfl rfl)
theorem dX3_bakes_55 : decode cX3_bakes 55 = .ok (.ireturn, 1) := dk_172 (dk_at dksX3_bakes_2 9 rfl rfl)
abbrev cX3_shared : ByteArray := prog_21_method_52_code
def yX3_shared : MethodName := ⟨RX3, "shared", "(II)I"⟩
def dkwX3_shared_4 : List UInt8 := [162, 0, 7, 4, 167, 0, 4, 3, 96, 172]
abbrev dktX3_shared_4 : List UInt8 := dkwX3_shared_4 ++ []
def dkwX3_shared_3 : List UInt8 := [167, 0, 4, 3, 96, 54, 4, 132, 5, 1, 167, 255, 185, 42, 27, 28, 182, 0, 176, 21, 4, 29]
abbrev dktX3_shared_3 : List UInt8 := dkwX3_shared_3 ++ dktX3_shared_4
def dkwX3_shared_2 : List UInt8 := [27, 21, 5, 182, 0, 179, 42, 27, 28, 182, 0, 179, 160, 0, 13, 21, 5, 28, 162, 0, 7, 4]
abbrev dktX3_shared_2 : List UInt8 := dkwX3_shared_2 ++ dktX3_shared_3
def dkwX3_shared_1 : List UInt8 := [182, 0, 176, 100, 62, 21, 4, 42, 27, 21, 5, 182, 0, 179, 42, 27, 28, 182, 0, 179, 163, 0, 25, 42]
abbrev dktX3_shared_1 : List UInt8 := dkwX3_shared_1 ++ dktX3_shared_2
def dkwX3_shared_0 : List UInt8 := [27, 62, 3, 54, 4, 3, 54, 5, 21, 5, 42, 5, 182, 0, 62, 162, 0, 67, 29, 42, 27, 21, 5]
abbrev dktX3_shared_0 : List UInt8 := dkwX3_shared_0 ++ dktX3_shared_1
theorem dksX3_shared_0 : cX3_shared.data.toList.drop 0 = dktX3_shared_0 := by decide +kernel
theorem dksX3_shared_1 : cX3_shared.data.toList.drop 23 = dktX3_shared_1 := dk_seg dksX3_shared_0 23 rfl rfl
theorem dksX3_shared_2 : cX3_shared.data.toList.drop 47 = dktX3_shared_2 := dk_seg dksX3_shared_1 24 rfl rfl
theorem dksX3_shared_3 : cX3_shared.data.toList.drop 69 = dktX3_shared_3 := dk_seg dksX3_shared_2 22 rfl rfl
theorem dksX3_shared_4 : cX3_shared.data.toList.drop 91 = dktX3_shared_4 := dk_seg dksX3_shared_3 22 rfl rfl
theorem dX3_shared_0 : decode cX3_shared 0 = .ok (.iload_n 1, 1) := dk_27 (dk_at dksX3_shared_0 0 rfl rfl)
theorem dX3_shared_1 : decode cX3_shared 1 = .ok (.istore_n 3, 1) := dk_62 (dk_at dksX3_shared_0 1 rfl rfl)
theorem dX3_shared_2 : decode cX3_shared 2 = .ok (.iconst 0, 1) := dk_3 (dk_at dksX3_shared_0 2 rfl rfl)
theorem dX3_shared_3 : decode cX3_shared 3 = .ok (.istore 4, 2) := dk_54 4 (dk_at dksX3_shared_0 3 rfl rfl)
theorem dX3_shared_5 : decode cX3_shared 5 = .ok (.iconst 0, 1) := dk_3 (dk_at dksX3_shared_0 5 rfl rfl)
theorem dX3_shared_6 : decode cX3_shared 6 = .ok (.istore 5, 2) := dk_54 5 (dk_at dksX3_shared_0 6 rfl rfl)
theorem dX3_shared_8 : decode cX3_shared 8 = .ok (.iload 5, 2) := dk_21 5 (dk_at dksX3_shared_0 8 rfl rfl)
theorem dX3_shared_10 : decode cX3_shared 10 = .ok (.aload_n 0, 1) := dk_42 (dk_at dksX3_shared_0 10 rfl rfl)
theorem dX3_shared_11 : decode cX3_shared 11 = .ok (.iconst 2, 1) := dk_5 (dk_at dksX3_shared_0 11 rfl rfl)
theorem dX3_shared_12 : decode cX3_shared 12 = .ok (.invokevirtual 62, 3) := dk_182 0 62 (dk_at dksX3_shared_0 12 rfl rfl)
theorem dX3_shared_15 : decode cX3_shared 15 = .ok (.if_icmp .ge 67, 3) := dk_162 0 67 (dk_at dksX3_shared_0 15 rfl rfl)
theorem dX3_shared_18 : decode cX3_shared 18 = .ok (.iload_n 3, 1) := dk_29 (dk_at dksX3_shared_0 18 rfl rfl)
theorem dX3_shared_19 : decode cX3_shared 19 = .ok (.aload_n 0, 1) := dk_42 (dk_at dksX3_shared_0 19 rfl rfl)
theorem dX3_shared_20 : decode cX3_shared 20 = .ok (.iload_n 1, 1) := dk_27 (dk_at dksX3_shared_0 20 rfl rfl)
theorem dX3_shared_21 : decode cX3_shared 21 = .ok (.iload 5, 2) := dk_21 5 (dk_at dksX3_shared_0 21 rfl rfl)
theorem dX3_shared_23 : decode cX3_shared 23 = .ok (.invokevirtual 176, 3) := dk_182 0 176 (dk_at dksX3_shared_1 0 rfl rfl)
theorem dX3_shared_26 : decode cX3_shared 26 = .ok (.isub, 1) := dk_100 (dk_at dksX3_shared_1 3 rfl rfl)
theorem dX3_shared_27 : decode cX3_shared 27 = .ok (.istore_n 3, 1) := dk_62 (dk_at dksX3_shared_1 4 rfl rfl)
theorem dX3_shared_28 : decode cX3_shared 28 = .ok (.iload 4, 2) := dk_21 4 (dk_at dksX3_shared_1 5 rfl rfl)
theorem dX3_shared_30 : decode cX3_shared 30 = .ok (.aload_n 0, 1) := dk_42 (dk_at dksX3_shared_1 7 rfl rfl)
theorem dX3_shared_31 : decode cX3_shared 31 = .ok (.iload_n 1, 1) := dk_27 (dk_at dksX3_shared_1 8 rfl rfl)
theorem dX3_shared_32 : decode cX3_shared 32 = .ok (.iload 5, 2) := dk_21 5 (dk_at dksX3_shared_1 9 rfl rfl)
theorem dX3_shared_34 : decode cX3_shared 34 = .ok (.invokevirtual 179, 3) := dk_182 0 179 (dk_at dksX3_shared_1 11 rfl rfl)
theorem dX3_shared_37 : decode cX3_shared 37 = .ok (.aload_n 0, 1) := dk_42 (dk_at dksX3_shared_1 14 rfl rfl)
theorem dX3_shared_38 : decode cX3_shared 38 = .ok (.iload_n 1, 1) := dk_27 (dk_at dksX3_shared_1 15 rfl rfl)
theorem dX3_shared_39 : decode cX3_shared 39 = .ok (.iload_n 2, 1) := dk_28 (dk_at dksX3_shared_1 16 rfl rfl)
theorem dX3_shared_40 : decode cX3_shared 40 = .ok (.invokevirtual 179, 3) := dk_182 0 179 (dk_at dksX3_shared_1 17 rfl rfl)
theorem dX3_shared_43 : decode cX3_shared 43 = .ok (.if_icmp .gt 25, 3) := dk_163 0 25 (dk_at dksX3_shared_1 20 rfl rfl)
theorem dX3_shared_46 : decode cX3_shared 46 = .ok (.aload_n 0, 1) := dk_42 (dk_at dksX3_shared_1 23 rfl rfl)
theorem dX3_shared_47 : decode cX3_shared 47 = .ok (.iload_n 1, 1) := dk_27 (dk_at dksX3_shared_2 0 rfl rfl)
theorem dX3_shared_48 : decode cX3_shared 48 = .ok (.iload 5, 2) := dk_21 5 (dk_at dksX3_shared_2 1 rfl rfl)
theorem dX3_shared_50 : decode cX3_shared 50 = .ok (.invokevirtual 179, 3) := dk_182 0 179 (dk_at dksX3_shared_2 3 rfl rfl)
theorem dX3_shared_53 : decode cX3_shared 53 = .ok (.aload_n 0, 1) := dk_42 (dk_at dksX3_shared_2 6 rfl rfl)
theorem dX3_shared_54 : decode cX3_shared 54 = .ok (.iload_n 1, 1) := dk_27 (dk_at dksX3_shared_2 7 rfl rfl)
theorem dX3_shared_55 : decode cX3_shared 55 = .ok (.iload_n 2, 1) := dk_28 (dk_at dksX3_shared_2 8 rfl rfl)
theorem dX3_shared_56 : decode cX3_shared 56 = .ok (.invokevirtual 179, 3) := dk_182 0 179 (dk_at dksX3_shared_2 9 rfl rfl)
theorem dX3_shared_59 : decode cX3_shared 59 = .ok (.if_icmp .ne 13, 3) := dk_160 0 13 (dk_at dksX3_shared_2 12 rfl rfl)
theorem dX3_shared_62 : decode cX3_shared 62 = .ok (.iload 5, 2) := dk_21 5 (dk_at dksX3_shared_2 15 rfl rfl)
theorem dX3_shared_64 : decode cX3_shared 64 = .ok (.iload_n 2, 1) := dk_28 (dk_at dksX3_shared_2 17 rfl rfl)
theorem dX3_shared_65 : decode cX3_shared 65 = .ok (.if_icmp .ge 7, 3) := dk_162 0 7 (dk_at dksX3_shared_2 18 rfl rfl)
theorem dX3_shared_68 : decode cX3_shared 68 = .ok (.iconst 1, 1) := dk_4 (dk_at dksX3_shared_2 21 rfl rfl)
theorem dX3_shared_69 : decode cX3_shared 69 = .ok (.goto 4, 3) := dk_167 0 4 (dk_at dksX3_shared_3 0 rfl rfl)
theorem dX3_shared_72 : decode cX3_shared 72 = .ok (.iconst 0, 1) := dk_3 (dk_at dksX3_shared_3 3 rfl rfl)
theorem dX3_shared_73 : decode cX3_shared 73 = .ok (.iadd, 1) := dk_96 (dk_at dksX3_shared_3 4 rfl rfl)
theorem dX3_shared_74 : decode cX3_shared 74 = .ok (.istore 4, 2) := dk_54 4 (dk_at dksX3_shared_3 5 rfl rfl)
theorem dX3_shared_76 : decode cX3_shared 76 = .ok (.iinc 5 1, 3) := dk_132 5 1 (dk_at dksX3_shared_3 7 rfl rfl)
theorem dX3_shared_79 : decode cX3_shared 79 = .ok (.goto (-71), 3) := dk_167 255 185 (dk_at dksX3_shared_3 10 rfl rfl)
theorem dX3_shared_82 : decode cX3_shared 82 = .ok (.aload_n 0, 1) := dk_42 (dk_at dksX3_shared_3 13 rfl rfl)
theorem dX3_shared_83 : decode cX3_shared 83 = .ok (.iload_n 1, 1) := dk_27 (dk_at dksX3_shared_3 14 rfl rfl)
theorem dX3_shared_84 : decode cX3_shared 84 = .ok (.iload_n 2, 1) := dk_28 (dk_at dksX3_shared_3 15 rfl rfl)
theorem dX3_shared_85 : decode cX3_shared 85 = .ok (.invokevirtual 176, 3) := dk_182 0 176 (dk_at dksX3_shared_3 16 rfl rfl)
theorem dX3_shared_88 : decode cX3_shared 88 = .ok (.iload 4, 2) := dk_21 4 (dk_at dksX3_shared_3 19 rfl rfl)
theorem dX3_shared_90 : decode cX3_shared 90 = .ok (.iload_n 3, 1) := dk_29 (dk_at dksX3_shared_3 21 rfl rfl)
theorem dX3_shared_91 : decode cX3_shared 91 = .ok (.if_icmp .ge 7, 3) := dk_162 0 7 (dk_at dksX3_shared_4 0 rfl rfl)
theorem dX3_shared_94 : decode cX3_shared 94 = .ok (.iconst 1, 1) := dk_4 (dk_at dksX3_shared_4 3 rfl rfl)
theorem dX3_shared_95 : decode cX3_shared 95 = .ok (.goto 4, 3) := dk_167 0 4 (dk_at dksX3_shared_4 4 rfl rfl)
theorem dX3_shared_98 : decode cX3_shared 98 = .ok (.iconst 0, 1) := dk_3 (dk_at dksX3_shared_4 7 rfl rfl)
theorem dX3_shared_99 : decode cX3_shared 99 = .ok (.iadd, 1) := dk_96 (dk_at dksX3_shared_4 8 rfl rfl)
theorem dX3_shared_100 : decode cX3_shared 100 = .ok (.ireturn, 1) := dk_172 (dk_at dksX3_shared_4 9 rfl rfl)
abbrev cX3_quota : ByteArray := prog_21_method_50_code
def yX3_quota : MethodName := ⟨RX3, "quota", "(II)I"⟩
def dkwX3_quota_0 : List UInt8 := [27, 42, 28, 3, 182, 0, 121, 104, 42, 182, 0, 173, 108, 172]
abbrev dktX3_quota_0 : List UInt8 := dkwX3_quota_0 ++ []
theorem dksX3_quota_0 : cX3_quota.data.toList.drop 0 = dktX3_quota_0 := by decide +kernel
theorem dX3_quota_0 : decode cX3_quota 0 = .ok (.iload_n 1, 1) := dk_27 (dk_at dksX3_quota_0 0 rfl rfl)
theorem dX3_quota_1 : decode cX3_quota 1 = .ok (.aload_n 0, 1) := dk_42 (dk_at dksX3_quota_0 1 rfl rfl)
theorem dX3_quota_2 : decode cX3_quota 2 = .ok (.iload_n 2, 1) := dk_28 (dk_at dksX3_quota_0 2 rfl rfl)
theorem dX3_quota_3 : decode cX3_quota 3 = .ok (.iconst 0, 1) := dk_3 (dk_at dksX3_quota_0 3 rfl rfl)
theorem dX3_quota_4 : decode cX3_quota 4 = .ok (.invokevirtual 121, 3) := dk_182 0 121 (dk_at dksX3_quota_0 4 rfl rfl)
theorem dX3_quota_7 : decode cX3_quota 7 = .ok (.imul, 1) := dk_104 (dk_at dksX3_quota_0 7 rfl rfl)
theorem dX3_quota_8 : decode cX3_quota 8 = .ok (.aload_n 0, 1) := dk_42 (dk_at dksX3_quota_0 8 rfl rfl)
theorem dX3_quota_9 : decode cX3_quota 9 = .ok (.invokevirtual 173, 3) := dk_182 0 173 (dk_at dksX3_quota_0 9 rfl rfl)
theorem dX3_quota_12 : decode cX3_quota 12 = .ok (.idiv, 1) := dk_108 (dk_at dksX3_quota_0 12 rfl rfl)
theorem dX3_quota_13 : decode cX3_quota 13 = .ok (.ireturn, 1) := dk_172 (dk_at dksX3_quota_0 13 rfl rfl)
abbrev cX3_weights : ByteArray := prog_21_method_49_code
def yX3_weights : MethodName := ⟨RX3, "weights", "()I"⟩
def dkwX3_weights_1 : List UInt8 := [132, 2, 1, 167, 255, 235, 27, 172]
abbrev dktX3_weights_1 : List UInt8 := dkwX3_weights_1 ++ []
def dkwX3_weights_0 : List UInt8 := [3, 60, 3, 61, 28, 42, 5, 182, 0, 62, 162, 0, 18, 27, 42, 28, 3, 182, 0, 121, 96, 60]
abbrev dktX3_weights_0 : List UInt8 := dkwX3_weights_0 ++ dktX3_weights_1
theorem dksX3_weights_0 : cX3_weights.data.toList.drop 0 = dktX3_weights_0 := by decide +kernel
theorem dksX3_weights_1 : cX3_weights.data.toList.drop 22 = dktX3_weights_1 := dk_seg dksX3_weights_0 22 rfl rfl
theorem dX3_weights_0 : decode cX3_weights 0 = .ok (.iconst 0, 1) := dk_3 (dk_at dksX3_weights_0 0 rfl rfl)
theorem dX3_weights_1 : decode cX3_weights 1 = .ok (.istore_n 1, 1) := dk_60 (dk_at dksX3_weights_0 1 rfl rfl)
theorem dX3_weights_2 : decode cX3_weights 2 = .ok (.iconst 0, 1) := dk_3 (dk_at dksX3_weights_0 2 rfl rfl)
theorem dX3_weights_3 : decode cX3_weights 3 = .ok (.istore_n 2, 1) := dk_61 (dk_at dksX3_weights_0 3 rfl rfl)
theorem dX3_weights_4 : decode cX3_weights 4 = .ok (.iload_n 2, 1) := dk_28 (dk_at dksX3_weights_0 4 rfl rfl)
theorem dX3_weights_5 : decode cX3_weights 5 = .ok (.aload_n 0, 1) := dk_42 (dk_at dksX3_weights_0 5 rfl rfl)
theorem dX3_weights_6 : decode cX3_weights 6 = .ok (.iconst 2, 1) := dk_5 (dk_at dksX3_weights_0 6 rfl rfl)
theorem dX3_weights_7 : decode cX3_weights 7 = .ok (.invokevirtual 62, 3) := dk_182 0 62 (dk_at dksX3_weights_0 7 rfl rfl)
theorem dX3_weights_10 : decode cX3_weights 10 = .ok (.if_icmp .ge 18, 3) := dk_162 0 18 (dk_at dksX3_weights_0 10 rfl rfl)
theorem dX3_weights_13 : decode cX3_weights 13 = .ok (.iload_n 1, 1) := dk_27 (dk_at dksX3_weights_0 13 rfl rfl)
theorem dX3_weights_14 : decode cX3_weights 14 = .ok (.aload_n 0, 1) := dk_42 (dk_at dksX3_weights_0 14 rfl rfl)
theorem dX3_weights_15 : decode cX3_weights 15 = .ok (.iload_n 2, 1) := dk_28 (dk_at dksX3_weights_0 15 rfl rfl)
theorem dX3_weights_16 : decode cX3_weights 16 = .ok (.iconst 0, 1) := dk_3 (dk_at dksX3_weights_0 16 rfl rfl)
theorem dX3_weights_17 : decode cX3_weights 17 = .ok (.invokevirtual 121, 3) := dk_182 0 121 (dk_at dksX3_weights_0 17 rfl rfl)
theorem dX3_weights_20 : decode cX3_weights 20 = .ok (.iadd, 1) := dk_96 (dk_at dksX3_weights_0 20 rfl rfl)
theorem dX3_weights_21 : decode cX3_weights 21 = .ok (.istore_n 1, 1) := dk_60 (dk_at dksX3_weights_0 21 rfl rfl)
theorem dX3_weights_22 : decode cX3_weights 22 = .ok (.iinc 2 1, 3) := dk_132 2 1 (dk_at dksX3_weights_1 0 rfl rfl)
theorem dX3_weights_25 : decode cX3_weights 25 = .ok (.goto (-21), 3) := dk_167 255 235 (dk_at dksX3_weights_1 3 rfl rfl)
theorem dX3_weights_28 : decode cX3_weights 28 = .ok (.iload_n 1, 1) := dk_27 (dk_at dksX3_weights_1 6 rfl rfl)
theorem dX3_weights_29 : decode cX3_weights 29 = .ok (.ireturn, 1) := dk_172 (dk_at dksX3_weights_1 7 rfl rfl)
abbrev cX3_rest : ByteArray := prog_21_method_51_code
def yX3_rest : MethodName := ⟨RX3, "rest", "(II)I"⟩
def dkwX3_rest_0 : List UInt8 := [27, 42, 28, 3, 182, 0, 121, 104, 42, 182, 0, 173, 112, 172]
abbrev dktX3_rest_0 : List UInt8 := dkwX3_rest_0 ++ []
theorem dksX3_rest_0 : cX3_rest.data.toList.drop 0 = dktX3_rest_0 := by decide +kernel
theorem dX3_rest_0 : decode cX3_rest 0 = .ok (.iload_n 1, 1) := dk_27 (dk_at dksX3_rest_0 0 rfl rfl)
theorem dX3_rest_1 : decode cX3_rest 1 = .ok (.aload_n 0, 1) := dk_42 (dk_at dksX3_rest_0 1 rfl rfl)
theorem dX3_rest_2 : decode cX3_rest 2 = .ok (.iload_n 2, 1) := dk_28 (dk_at dksX3_rest_0 2 rfl rfl)
theorem dX3_rest_3 : decode cX3_rest 3 = .ok (.iconst 0, 1) := dk_3 (dk_at dksX3_rest_0 3 rfl rfl)
theorem dX3_rest_4 : decode cX3_rest 4 = .ok (.invokevirtual 121, 3) := dk_182 0 121 (dk_at dksX3_rest_0 4 rfl rfl)
theorem dX3_rest_7 : decode cX3_rest 7 = .ok (.imul, 1) := dk_104 (dk_at dksX3_rest_0 7 rfl rfl)
theorem dX3_rest_8 : decode cX3_rest 8 = .ok (.aload_n 0, 1) := dk_42 (dk_at dksX3_rest_0 8 rfl rfl)
theorem dX3_rest_9 : decode cX3_rest 9 = .ok (.invokevirtual 173, 3) := dk_182 0 173 (dk_at dksX3_rest_0 9 rfl rfl)
theorem dX3_rest_12 : decode cX3_rest 12 = .ok (.irem, 1) := dk_112 (dk_at dksX3_rest_0 12 rfl rfl)
theorem dX3_rest_13 : decode cX3_rest 13 = .ok (.ireturn, 1) := dk_172 (dk_at dksX3_rest_0 13 rfl rfl)
abbrev cX3_setOvens : ByteArray := prog_21_method_57_code
def yX3_setOvens : MethodName := ⟨RX3, "setOvens", "(I)I"⟩
def dkwX3_setOvens_1 : List UInt8 := [27, 182, 0, 151, 172]
abbrev dktX3_setOvens_1 : List UInt8 := dkwX3_setOvens_1 ++ []
def dkwX3_setOvens_0 : List UInt8 := [42, 3, 181, 0, 1, 27, 184, 0, 191, 153, 0, 9, 42, 4, 182, 0, 81, 172, 42, 182, 0, 84, 42, 8]
abbrev dktX3_setOvens_0 : List UInt8 := dkwX3_setOvens_0 ++ dktX3_setOvens_1
theorem dksX3_setOvens_0 : cX3_setOvens.data.toList.drop 0 = dktX3_setOvens_0 := by decide +kernel
theorem dksX3_setOvens_1 : cX3_setOvens.data.toList.drop 24 = dktX3_setOvens_1 := dk_seg dksX3_setOvens_0 24 rfl rfl
theorem dX3_setOvens_0 : decode cX3_setOvens 0 = .ok (.aload_n 0, 1) := dk_42 (dk_at dksX3_setOvens_0 0 rfl rfl)
theorem dX3_setOvens_1 : decode cX3_setOvens 1 = .ok (.iconst 0, 1) := dk_3 (dk_at dksX3_setOvens_0 1 rfl rfl)
theorem dX3_setOvens_2 : decode cX3_setOvens 2 = .ok (.putfield 1, 3) := dk_181 0 1 (dk_at dksX3_setOvens_0 2 rfl rfl)
theorem dX3_setOvens_5 : decode cX3_setOvens 5 = .ok (.iload_n 1, 1) := dk_27 (dk_at dksX3_setOvens_0 5 rfl rfl)
theorem dX3_setOvens_6 : decode cX3_setOvens 6 = .ok (.invokestatic 191, 3) := dk_184 0 191 (dk_at dksX3_setOvens_0 6 rfl rfl)
theorem dX3_setOvens_9 : decode cX3_setOvens 9 = .ok (.ifCond .eq 9, 3) := dk_153 0 9 (dk_at dksX3_setOvens_0 9 rfl rfl)
theorem dX3_setOvens_12 : decode cX3_setOvens 12 = .ok (.aload_n 0, 1) := dk_42 (dk_at dksX3_setOvens_0 12 rfl rfl)
theorem dX3_setOvens_13 : decode cX3_setOvens 13 = .ok (.iconst 1, 1) := dk_4 (dk_at dksX3_setOvens_0 13 rfl rfl)
theorem dX3_setOvens_14 : decode cX3_setOvens 14 = .ok (.invokevirtual 81, 3) := dk_182 0 81 (dk_at dksX3_setOvens_0 14 rfl rfl)
theorem dX3_setOvens_17 : decode cX3_setOvens 17 = .ok (.ireturn, 1) := dk_172 (dk_at dksX3_setOvens_0 17 rfl rfl)
theorem dX3_setOvens_18 : decode cX3_setOvens 18 = .ok (.aload_n 0, 1) := dk_42 (dk_at dksX3_setOvens_0 18 rfl rfl)
theorem dX3_setOvens_19 : decode cX3_setOvens 19 = .ok (.invokevirtual 84, 3) := dk_182 0 84 (dk_at dksX3_setOvens_0 19 rfl rfl)
theorem dX3_setOvens_22 : decode cX3_setOvens 22 = .ok (.aload_n 0, 1) := dk_42 (dk_at dksX3_setOvens_0 22 rfl rfl)
theorem dX3_setOvens_23 : decode cX3_setOvens 23 = .ok (.iconst 5, 1) := dk_8 (dk_at dksX3_setOvens_0 23 rfl rfl)
theorem dX3_setOvens_24 : decode cX3_setOvens 24 = .ok (.iload_n 1, 1) := dk_27 (dk_at dksX3_setOvens_1 0 rfl rfl)
theorem dX3_setOvens_25 : decode cX3_setOvens 25 = .ok (.invokevirtual 151, 3) := dk_182 0 151 (dk_at dksX3_setOvens_1 1 rfl rfl)
theorem dX3_setOvens_28 : decode cX3_setOvens 28 = .ok (.ireturn, 1) := dk_172 (dk_at dksX3_setOvens_1 4 rfl rfl)
abbrev cX3_notOvens : ByteArray := prog_21_method_56_code
def yX3_notOvens : MethodName := ⟨RX3, "notOvens", "(I)I"⟩
def dkwX3_notOvens_0 : List UInt8 := [26, 4, 6, 184, 0, 66, 153, 0, 7, 3, 167, 0, 4, 4, 172]
abbrev dktX3_notOvens_0 : List UInt8 := dkwX3_notOvens_0 ++ []
theorem dksX3_notOvens_0 : cX3_notOvens.data.toList.drop 0 = dktX3_notOvens_0 := by decide +kernel
theorem dX3_notOvens_0 : decode cX3_notOvens 0 = .ok (.iload_n 0, 1) := dk_26 (dk_at dksX3_notOvens_0 0 rfl rfl)
theorem dX3_notOvens_1 : decode cX3_notOvens 1 = .ok (.iconst 1, 1) := dk_4 (dk_at dksX3_notOvens_0 1 rfl rfl)
theorem dX3_notOvens_2 : decode cX3_notOvens 2 = .ok (.iconst 3, 1) := dk_6 (dk_at dksX3_notOvens_0 2 rfl rfl)
theorem dX3_notOvens_3 : decode cX3_notOvens 3 = .ok (.invokestatic 66, 3) := dk_184 0 66 (dk_at dksX3_notOvens_0 3 rfl rfl)
theorem dX3_notOvens_6 : decode cX3_notOvens 6 = .ok (.ifCond .eq 7, 3) := dk_153 0 7 (dk_at dksX3_notOvens_0 6 rfl rfl)
theorem dX3_notOvens_9 : decode cX3_notOvens 9 = .ok (.iconst 0, 1) := dk_3 (dk_at dksX3_notOvens_0 9 rfl rfl)
theorem dX3_notOvens_10 : decode cX3_notOvens 10 = .ok (.goto 4, 3) := dk_167 0 4 (dk_at dksX3_notOvens_0 10 rfl rfl)
theorem dX3_notOvens_13 : decode cX3_notOvens 13 = .ok (.iconst 1, 1) := dk_4 (dk_at dksX3_notOvens_0 13 rfl rfl)
theorem dX3_notOvens_14 : decode cX3_notOvens 14 = .ok (.ireturn, 1) := dk_172 (dk_at dksX3_notOvens_0 14 rfl rfl)
abbrev cX3_doughCount : ByteArray := prog_21_method_59_code
def yX3_doughCount : MethodName := ⟨RX3, "doughCount", "()I"⟩
def dkwX3_doughCount_0 : List UInt8 := [42, 3, 182, 0, 194, 172]
abbrev dktX3_doughCount_0 : List UInt8 := dkwX3_doughCount_0 ++ []
theorem dksX3_doughCount_0 : cX3_doughCount.data.toList.drop 0 = dktX3_doughCount_0 := by decide +kernel
theorem dX3_doughCount_0 : decode cX3_doughCount 0 = .ok (.aload_n 0, 1) := dk_42 (dk_at dksX3_doughCount_0 0 rfl rfl)
theorem dX3_doughCount_1 : decode cX3_doughCount 1 = .ok (.iconst 0, 1) := dk_3 (dk_at dksX3_doughCount_0 1 rfl rfl)
theorem dX3_doughCount_2 : decode cX3_doughCount 2 = .ok (.invokevirtual 194, 3) := dk_182 0 194 (dk_at dksX3_doughCount_0 2 rfl rfl)
theorem dX3_doughCount_5 : decode cX3_doughCount 5 = .ok (.ireturn, 1) := dk_172 (dk_at dksX3_doughCount_0 5 rfl rfl)
abbrev cX3_told : ByteArray := prog_21_method_58_code
def yX3_told : MethodName := ⟨RX3, "told", "(I)I"⟩
def dkwX3_told_0 : List UInt8 := [42, 3, 181, 0, 1, 42, 27, 182, 0, 62, 172]
abbrev dktX3_told_0 : List UInt8 := dkwX3_told_0 ++ []
theorem dksX3_told_0 : cX3_told.data.toList.drop 0 = dktX3_told_0 := by decide +kernel
theorem dX3_told_0 : decode cX3_told 0 = .ok (.aload_n 0, 1) := dk_42 (dk_at dksX3_told_0 0 rfl rfl)
theorem dX3_told_1 : decode cX3_told 1 = .ok (.iconst 0, 1) := dk_3 (dk_at dksX3_told_0 1 rfl rfl)
theorem dX3_told_2 : decode cX3_told 2 = .ok (.putfield 1, 3) := dk_181 0 1 (dk_at dksX3_told_0 2 rfl rfl)
theorem dX3_told_5 : decode cX3_told 5 = .ok (.aload_n 0, 1) := dk_42 (dk_at dksX3_told_0 5 rfl rfl)
theorem dX3_told_6 : decode cX3_told 6 = .ok (.iload_n 1, 1) := dk_27 (dk_at dksX3_told_0 6 rfl rfl)
theorem dX3_told_7 : decode cX3_told 7 = .ok (.invokevirtual 62, 3) := dk_182 0 62 (dk_at dksX3_told_0 7 rfl rfl)
theorem dX3_told_10 : decode cX3_told 10 = .ok (.ireturn, 1) := dk_172 (dk_at dksX3_told_0 10 rfl rfl)
abbrev cX3_numeratorOf : ByteArray := prog_21_method_61_code
def yX3_numeratorOf : MethodName := ⟨RX3, "numeratorOf", "(I)I"⟩
def dkwX3_numeratorOf_0 : List UInt8 := [42, 27, 3, 182, 0, 197, 172]
abbrev dktX3_numeratorOf_0 : List UInt8 := dkwX3_numeratorOf_0 ++ []
theorem dksX3_numeratorOf_0 : cX3_numeratorOf.data.toList.drop 0 = dktX3_numeratorOf_0 := by decide +kernel
theorem dX3_numeratorOf_0 : decode cX3_numeratorOf 0 = .ok (.aload_n 0, 1) := dk_42 (dk_at dksX3_numeratorOf_0 0 rfl rfl)
theorem dX3_numeratorOf_1 : decode cX3_numeratorOf 1 = .ok (.iload_n 1, 1) := dk_27 (dk_at dksX3_numeratorOf_0 1 rfl rfl)
theorem dX3_numeratorOf_2 : decode cX3_numeratorOf 2 = .ok (.iconst 0, 1) := dk_3 (dk_at dksX3_numeratorOf_0 2 rfl rfl)
theorem dX3_numeratorOf_3 : decode cX3_numeratorOf 3 = .ok (.invokevirtual 197, 3) := dk_182 0 197 (dk_at dksX3_numeratorOf_0 3 rfl rfl)
theorem dX3_numeratorOf_6 : decode cX3_numeratorOf 6 = .ok (.ireturn, 1) := dk_172 (dk_at dksX3_numeratorOf_0 6 rfl rfl)
abbrev cX3_ofDough : ByteArray := prog_21_method_60_code
def yX3_ofDough : MethodName := ⟨RX3, "ofDough", "(II)I"⟩
def dkwX3_ofDough_1 : List UInt8 := [182, 0, 81, 172]
abbrev dktX3_ofDough_1 : List UInt8 := dkwX3_ofDough_1 ++ []
def dkwX3_ofDough_0 : List UInt8 := [42, 3, 181, 0, 1, 42, 27, 182, 0, 93, 153, 0, 12, 42, 27, 28, 182, 0, 90, 167, 0, 8, 42, 4]
abbrev dktX3_ofDough_0 : List UInt8 := dkwX3_ofDough_0 ++ dktX3_ofDough_1
theorem dksX3_ofDough_0 : cX3_ofDough.data.toList.drop 0 = dktX3_ofDough_0 := by decide +kernel
theorem dksX3_ofDough_1 : cX3_ofDough.data.toList.drop 24 = dktX3_ofDough_1 := dk_seg dksX3_ofDough_0 24 rfl rfl
theorem dX3_ofDough_0 : decode cX3_ofDough 0 = .ok (.aload_n 0, 1) := dk_42 (dk_at dksX3_ofDough_0 0 rfl rfl)
theorem dX3_ofDough_1 : decode cX3_ofDough 1 = .ok (.iconst 0, 1) := dk_3 (dk_at dksX3_ofDough_0 1 rfl rfl)
theorem dX3_ofDough_2 : decode cX3_ofDough 2 = .ok (.putfield 1, 3) := dk_181 0 1 (dk_at dksX3_ofDough_0 2 rfl rfl)
theorem dX3_ofDough_5 : decode cX3_ofDough 5 = .ok (.aload_n 0, 1) := dk_42 (dk_at dksX3_ofDough_0 5 rfl rfl)
theorem dX3_ofDough_6 : decode cX3_ofDough 6 = .ok (.iload_n 1, 1) := dk_27 (dk_at dksX3_ofDough_0 6 rfl rfl)
theorem dX3_ofDough_7 : decode cX3_ofDough 7 = .ok (.invokevirtual 93, 3) := dk_182 0 93 (dk_at dksX3_ofDough_0 7 rfl rfl)
theorem dX3_ofDough_10 : decode cX3_ofDough 10 = .ok (.ifCond .eq 12, 3) := dk_153 0 12 (dk_at dksX3_ofDough_0 10 rfl rfl)
theorem dX3_ofDough_13 : decode cX3_ofDough 13 = .ok (.aload_n 0, 1) := dk_42 (dk_at dksX3_ofDough_0 13 rfl rfl)
theorem dX3_ofDough_14 : decode cX3_ofDough 14 = .ok (.iload_n 1, 1) := dk_27 (dk_at dksX3_ofDough_0 14 rfl rfl)
theorem dX3_ofDough_15 : decode cX3_ofDough 15 = .ok (.iload_n 2, 1) := dk_28 (dk_at dksX3_ofDough_0 15 rfl rfl)
theorem dX3_ofDough_16 : decode cX3_ofDough 16 = .ok (.invokevirtual 90, 3) := dk_182 0 90 (dk_at dksX3_ofDough_0 16 rfl rfl)
theorem dX3_ofDough_19 : decode cX3_ofDough 19 = .ok (.goto 8, 3) := dk_167 0 8 (dk_at dksX3_ofDough_0 19 rfl rfl)
theorem dX3_ofDough_22 : decode cX3_ofDough 22 = .ok (.aload_n 0, 1) := dk_42 (dk_at dksX3_ofDough_0 22 rfl rfl)
theorem dX3_ofDough_23 : decode cX3_ofDough 23 = .ok (.iconst 1, 1) := dk_4 (dk_at dksX3_ofDough_0 23 rfl rfl)
theorem dX3_ofDough_24 : decode cX3_ofDough 24 = .ok (.invokevirtual 81, 3) := dk_182 0 81 (dk_at dksX3_ofDough_1 0 rfl rfl)
theorem dX3_ofDough_27 : decode cX3_ofDough 27 = .ok (.ireturn, 1) := dk_172 (dk_at dksX3_ofDough_1 3 rfl rfl)
abbrev cX3_denominatorOf : ByteArray := prog_21_method_62_code
def yX3_denominatorOf : MethodName := ⟨RX3, "denominatorOf", "(I)I"⟩
def dkwX3_denominatorOf_0 : List UInt8 := [42, 27, 4, 182, 0, 197, 172]
abbrev dktX3_denominatorOf_0 : List UInt8 := dkwX3_denominatorOf_0 ++ []
theorem dksX3_denominatorOf_0 : cX3_denominatorOf.data.toList.drop 0 = dktX3_denominatorOf_0 := by decide +kernel
theorem dX3_denominatorOf_0 : decode cX3_denominatorOf 0 = .ok (.aload_n 0, 1) := dk_42 (dk_at dksX3_denominatorOf_0 0 rfl rfl)
theorem dX3_denominatorOf_1 : decode cX3_denominatorOf 1 = .ok (.iload_n 1, 1) := dk_27 (dk_at dksX3_denominatorOf_0 1 rfl rfl)
theorem dX3_denominatorOf_2 : decode cX3_denominatorOf 2 = .ok (.iconst 1, 1) := dk_4 (dk_at dksX3_denominatorOf_0 2 rfl rfl)
theorem dX3_denominatorOf_3 : decode cX3_denominatorOf 3 = .ok (.invokevirtual 197, 3) := dk_182 0 197 (dk_at dksX3_denominatorOf_0 3 rfl rfl)
theorem dX3_denominatorOf_6 : decode cX3_denominatorOf 6 = .ok (.ireturn, 1) := dk_172 (dk_at dksX3_denominatorOf_0 6 rfl rfl)
abbrev cX3_crumbsIn : ByteArray := prog_21_method_63_code
def yX3_crumbsIn : MethodName := ⟨RX3, "crumbsIn", "(I)I"⟩
def dkwX3_crumbsIn_1 : List UInt8 := [182, 0, 81, 172]
abbrev dktX3_crumbsIn_1 : List UInt8 := dkwX3_crumbsIn_1 ++ []
def dkwX3_crumbsIn_0 : List UInt8 := [42, 3, 181, 0, 1, 42, 27, 182, 0, 93, 153, 0, 11, 42, 27, 182, 0, 113, 167, 0, 8, 42, 4]
abbrev dktX3_crumbsIn_0 : List UInt8 := dkwX3_crumbsIn_0 ++ dktX3_crumbsIn_1
theorem dksX3_crumbsIn_0 : cX3_crumbsIn.data.toList.drop 0 = dktX3_crumbsIn_0 := by decide +kernel
theorem dksX3_crumbsIn_1 : cX3_crumbsIn.data.toList.drop 23 = dktX3_crumbsIn_1 := dk_seg dksX3_crumbsIn_0 23 rfl rfl
theorem dX3_crumbsIn_0 : decode cX3_crumbsIn 0 = .ok (.aload_n 0, 1) := dk_42 (dk_at dksX3_crumbsIn_0 0 rfl rfl)
theorem dX3_crumbsIn_1 : decode cX3_crumbsIn 1 = .ok (.iconst 0, 1) := dk_3 (dk_at dksX3_crumbsIn_0 1 rfl rfl)
theorem dX3_crumbsIn_2 : decode cX3_crumbsIn 2 = .ok (.putfield 1, 3) := dk_181 0 1 (dk_at dksX3_crumbsIn_0 2 rfl rfl)
theorem dX3_crumbsIn_5 : decode cX3_crumbsIn 5 = .ok (.aload_n 0, 1) := dk_42 (dk_at dksX3_crumbsIn_0 5 rfl rfl)
theorem dX3_crumbsIn_6 : decode cX3_crumbsIn 6 = .ok (.iload_n 1, 1) := dk_27 (dk_at dksX3_crumbsIn_0 6 rfl rfl)
theorem dX3_crumbsIn_7 : decode cX3_crumbsIn 7 = .ok (.invokevirtual 93, 3) := dk_182 0 93 (dk_at dksX3_crumbsIn_0 7 rfl rfl)
theorem dX3_crumbsIn_10 : decode cX3_crumbsIn 10 = .ok (.ifCond .eq 11, 3) := dk_153 0 11 (dk_at dksX3_crumbsIn_0 10 rfl rfl)
theorem dX3_crumbsIn_13 : decode cX3_crumbsIn 13 = .ok (.aload_n 0, 1) := dk_42 (dk_at dksX3_crumbsIn_0 13 rfl rfl)
theorem dX3_crumbsIn_14 : decode cX3_crumbsIn 14 = .ok (.iload_n 1, 1) := dk_27 (dk_at dksX3_crumbsIn_0 14 rfl rfl)
theorem dX3_crumbsIn_15 : decode cX3_crumbsIn 15 = .ok (.invokevirtual 113, 3) := dk_182 0 113 (dk_at dksX3_crumbsIn_0 15 rfl rfl)
theorem dX3_crumbsIn_18 : decode cX3_crumbsIn 18 = .ok (.goto 8, 3) := dk_167 0 8 (dk_at dksX3_crumbsIn_0 18 rfl rfl)
theorem dX3_crumbsIn_21 : decode cX3_crumbsIn 21 = .ok (.aload_n 0, 1) := dk_42 (dk_at dksX3_crumbsIn_0 21 rfl rfl)
theorem dX3_crumbsIn_22 : decode cX3_crumbsIn 22 = .ok (.iconst 1, 1) := dk_4 (dk_at dksX3_crumbsIn_0 22 rfl rfl)
theorem dX3_crumbsIn_23 : decode cX3_crumbsIn 23 = .ok (.invokevirtual 81, 3) := dk_182 0 81 (dk_at dksX3_crumbsIn_1 0 rfl rfl)
theorem dX3_crumbsIn_26 : decode cX3_crumbsIn 26 = .ok (.ireturn, 1) := dk_172 (dk_at dksX3_crumbsIn_1 3 rfl rfl)
abbrev cX3_crumbsByDigits : ByteArray := prog_21_method_64_code
def yX3_crumbsByDigits : MethodName := ⟨RX3, "crumbsByDigits", "(I)I"⟩
def dkwX3_crumbsByDigits_0 : List UInt8 := [42, 27, 182, 0, 200, 172]
abbrev dktX3_crumbsByDigits_0 : List UInt8 := dkwX3_crumbsByDigits_0 ++ []
theorem dksX3_crumbsByDigits_0 : cX3_crumbsByDigits.data.toList.drop 0 = dktX3_crumbsByDigits_0 := by decide +kernel
theorem dX3_crumbsByDigits_0 : decode cX3_crumbsByDigits 0 = .ok (.aload_n 0, 1) := dk_42 (dk_at dksX3_crumbsByDigits_0 0 rfl rfl)
theorem dX3_crumbsByDigits_1 : decode cX3_crumbsByDigits 1 = .ok (.iload_n 1, 1) := dk_27 (dk_at dksX3_crumbsByDigits_0 1 rfl rfl)
theorem dX3_crumbsByDigits_2 : decode cX3_crumbsByDigits 2 = .ok (.invokevirtual 200, 3) := dk_182 0 200 (dk_at dksX3_crumbsByDigits_0 2 rfl rfl)
theorem dX3_crumbsByDigits_5 : decode cX3_crumbsByDigits 5 = .ok (.ireturn, 1) := dk_172 (dk_at dksX3_crumbsByDigits_0 5 rfl rfl)
abbrev cX3_doughByAmount : ByteArray := prog_21_method_66_code
def yX3_doughByAmount : MethodName := ⟨RX3, "doughByAmount", "(I)I"⟩
def dkwX3_doughByAmount_3 : List UInt8 := [167, 255, 209, 29, 27, 160, 0, 5, 28, 172, 132, 2, 1, 167, 255, 182, 42, 4, 182, 0, 81, 172]
abbrev dktX3_doughByAmount_3 : List UInt8 := dkwX3_doughByAmount_3 ++ []
def dkwX3_doughByAmount_2 : List UInt8 := [182, 0, 203, 154, 0, 13, 21, 4, 28, 162, 0, 7, 4, 167, 0, 4, 3, 96, 62, 132, 4, 1]
abbrev dktX3_doughByAmount_2 : List UInt8 := dkwX3_doughByAmount_2 ++ dktX3_doughByAmount_3
def dkwX3_doughByAmount_1 : List UInt8 := [3, 182, 0, 62, 162, 0, 43, 29, 42, 21, 4, 28, 182, 0, 203, 154, 0, 19, 42, 28, 21, 4]
abbrev dktX3_doughByAmount_1 : List UInt8 := dkwX3_doughByAmount_1 ++ dktX3_doughByAmount_2
def dkwX3_doughByAmount_0 : List UInt8 := [42, 3, 181, 0, 1, 3, 61, 28, 42, 3, 182, 0, 62, 162, 0, 71, 3, 62, 3, 54, 4, 21, 4, 42]
abbrev dktX3_doughByAmount_0 : List UInt8 := dkwX3_doughByAmount_0 ++ dktX3_doughByAmount_1
theorem dksX3_doughByAmount_0 : cX3_doughByAmount.data.toList.drop 0 = dktX3_doughByAmount_0 := by decide +kernel
theorem dksX3_doughByAmount_1 : cX3_doughByAmount.data.toList.drop 24 = dktX3_doughByAmount_1 := dk_seg dksX3_doughByAmount_0 24 rfl rfl
theorem dksX3_doughByAmount_2 : cX3_doughByAmount.data.toList.drop 46 = dktX3_doughByAmount_2 := dk_seg dksX3_doughByAmount_1 22 rfl rfl
theorem dksX3_doughByAmount_3 : cX3_doughByAmount.data.toList.drop 68 = dktX3_doughByAmount_3 := dk_seg dksX3_doughByAmount_2 22 rfl rfl
theorem dX3_doughByAmount_0 : decode cX3_doughByAmount 0 = .ok (.aload_n 0, 1) := dk_42 (dk_at dksX3_doughByAmount_0 0 rfl rfl)
theorem dX3_doughByAmount_1 : decode cX3_doughByAmount 1 = .ok (.iconst 0, 1) := dk_3 (dk_at dksX3_doughByAmount_0 1 rfl rfl)
theorem dX3_doughByAmount_2 : decode cX3_doughByAmount 2 = .ok (.putfield 1, 3) := dk_181 0 1 (dk_at dksX3_doughByAmount_0 2 rfl rfl)
theorem dX3_doughByAmount_5 : decode cX3_doughByAmount 5 = .ok (.iconst 0, 1) := dk_3 (dk_at dksX3_doughByAmount_0 5 rfl rfl)
theorem dX3_doughByAmount_6 : decode cX3_doughByAmount 6 = .ok (.istore_n 2, 1) := dk_61 (dk_at dksX3_doughByAmount_0 6 rfl rfl)
theorem dX3_doughByAmount_7 : decode cX3_doughByAmount 7 = .ok (.iload_n 2, 1) := dk_28 (dk_at dksX3_doughByAmount_0 7 rfl rfl)
theorem dX3_doughByAmount_8 : decode cX3_doughByAmount 8 = .ok (.aload_n 0, 1) := dk_42 (dk_at dksX3_doughByAmount_0 8 rfl rfl)
theorem dX3_doughByAmount_9 : decode cX3_doughByAmount 9 = .ok (.iconst 0, 1) := dk_3 (dk_at dksX3_doughByAmount_0 9 rfl rfl)
theorem dX3_doughByAmount_10 : decode cX3_doughByAmount 10 = .ok (.invokevirtual 62, 3) := dk_182 0 62 (dk_at dksX3_doughByAmount_0 10 rfl rfl)
theorem dX3_doughByAmount_13 : decode cX3_doughByAmount 13 = .ok (.if_icmp .ge 71, 3) := dk_162 0 71 (dk_at dksX3_doughByAmount_0 13 rfl rfl)
theorem dX3_doughByAmount_16 : decode cX3_doughByAmount 16 = .ok (.iconst 0, 1) := dk_3 (dk_at dksX3_doughByAmount_0 16 rfl rfl)
theorem dX3_doughByAmount_17 : decode cX3_doughByAmount 17 = .ok (.istore_n 3, 1) := dk_62 (dk_at dksX3_doughByAmount_0 17 rfl rfl)
theorem dX3_doughByAmount_18 : decode cX3_doughByAmount 18 = .ok (.iconst 0, 1) := dk_3 (dk_at dksX3_doughByAmount_0 18 rfl rfl)
theorem dX3_doughByAmount_19 : decode cX3_doughByAmount 19 = .ok (.istore 4, 2) := dk_54 4 (dk_at dksX3_doughByAmount_0 19 rfl rfl)
theorem dX3_doughByAmount_21 : decode cX3_doughByAmount 21 = .ok (.iload 4, 2) := dk_21 4 (dk_at dksX3_doughByAmount_0 21 rfl rfl)
theorem dX3_doughByAmount_23 : decode cX3_doughByAmount 23 = .ok (.aload_n 0, 1) := dk_42 (dk_at dksX3_doughByAmount_0 23 rfl rfl)
theorem dX3_doughByAmount_24 : decode cX3_doughByAmount 24 = .ok (.iconst 0, 1) := dk_3 (dk_at dksX3_doughByAmount_1 0 rfl rfl)
theorem dX3_doughByAmount_25 : decode cX3_doughByAmount 25 = .ok (.invokevirtual 62, 3) := dk_182 0 62 (dk_at dksX3_doughByAmount_1 1 rfl rfl)
theorem dX3_doughByAmount_28 : decode cX3_doughByAmount 28 = .ok (.if_icmp .ge 43, 3) := dk_162 0 43 (dk_at dksX3_doughByAmount_1 4 rfl rfl)
theorem dX3_doughByAmount_31 : decode cX3_doughByAmount 31 = .ok (.iload_n 3, 1) := dk_29 (dk_at dksX3_doughByAmount_1 7 rfl rfl)
theorem dX3_doughByAmount_32 : decode cX3_doughByAmount 32 = .ok (.aload_n 0, 1) := dk_42 (dk_at dksX3_doughByAmount_1 8 rfl rfl)
theorem dX3_doughByAmount_33 : decode cX3_doughByAmount 33 = .ok (.iload 4, 2) := dk_21 4 (dk_at dksX3_doughByAmount_1 9 rfl rfl)
theorem dX3_doughByAmount_35 : decode cX3_doughByAmount 35 = .ok (.iload_n 2, 1) := dk_28 (dk_at dksX3_doughByAmount_1 11 rfl rfl)
theorem dX3_doughByAmount_36 : decode cX3_doughByAmount 36 = .ok (.invokevirtual 203, 3) := dk_182 0 203 (dk_at dksX3_doughByAmount_1 12 rfl rfl)
theorem dX3_doughByAmount_39 : decode cX3_doughByAmount 39 = .ok (.ifCond .ne 19, 3) := dk_154 0 19 (dk_at dksX3_doughByAmount_1 15 rfl rfl)
theorem dX3_doughByAmount_42 : decode cX3_doughByAmount 42 = .ok (.aload_n 0, 1) := dk_42 (dk_at dksX3_doughByAmount_1 18 rfl rfl)
theorem dX3_doughByAmount_43 : decode cX3_doughByAmount 43 = .ok (.iload_n 2, 1) := dk_28 (dk_at dksX3_doughByAmount_1 19 rfl rfl)
theorem dX3_doughByAmount_44 : decode cX3_doughByAmount 44 = .ok (.iload 4, 2) := dk_21 4 (dk_at dksX3_doughByAmount_1 20 rfl rfl)
theorem dX3_doughByAmount_46 : decode cX3_doughByAmount 46 = .ok (.invokevirtual 203, 3) := dk_182 0 203 (dk_at dksX3_doughByAmount_2 0 rfl rfl)
theorem dX3_doughByAmount_49 : decode cX3_doughByAmount 49 = .ok (.ifCond .ne 13, 3) := dk_154 0 13 (dk_at dksX3_doughByAmount_2 3 rfl rfl)
theorem dX3_doughByAmount_52 : decode cX3_doughByAmount 52 = .ok (.iload 4, 2) := dk_21 4 (dk_at dksX3_doughByAmount_2 6 rfl rfl)
theorem dX3_doughByAmount_54 : decode cX3_doughByAmount 54 = .ok (.iload_n 2, 1) := dk_28 (dk_at dksX3_doughByAmount_2 8 rfl rfl)
theorem dX3_doughByAmount_55 : decode cX3_doughByAmount 55 = .ok (.if_icmp .ge 7, 3) := dk_162 0 7 (dk_at dksX3_doughByAmount_2 9 rfl rfl)
theorem dX3_doughByAmount_58 : decode cX3_doughByAmount 58 = .ok (.iconst 1, 1) := dk_4 (dk_at dksX3_doughByAmount_2 12 rfl rfl)
theorem dX3_doughByAmount_59 : decode cX3_doughByAmount 59 = .ok (.goto 4, 3) := dk_167 0 4 (dk_at dksX3_doughByAmount_2 13 rfl rfl)
theorem dX3_doughByAmount_62 : decode cX3_doughByAmount 62 = .ok (.iconst 0, 1) := dk_3 (dk_at dksX3_doughByAmount_2 16 rfl rfl)
theorem dX3_doughByAmount_63 : decode cX3_doughByAmount 63 = .ok (.iadd, 1) := dk_96 (dk_at dksX3_doughByAmount_2 17 rfl rfl)
theorem dX3_doughByAmount_64 : decode cX3_doughByAmount 64 = .ok (.istore_n 3, 1) := dk_62 (dk_at dksX3_doughByAmount_2 18 rfl rfl)
theorem dX3_doughByAmount_65 : decode cX3_doughByAmount 65 = .ok (.iinc 4 1, 3) := dk_132 4 1 (dk_at dksX3_doughByAmount_2 19 rfl rfl)
theorem dX3_doughByAmount_68 : decode cX3_doughByAmount 68 = .ok (.goto (-47), 3) := dk_167 255 209 (dk_at dksX3_doughByAmount_3 0 rfl rfl)
theorem dX3_doughByAmount_71 : decode cX3_doughByAmount 71 = .ok (.iload_n 3, 1) := dk_29 (dk_at dksX3_doughByAmount_3 3 rfl rfl)
theorem dX3_doughByAmount_72 : decode cX3_doughByAmount 72 = .ok (.iload_n 1, 1) := dk_27 (dk_at dksX3_doughByAmount_3 4 rfl rfl)
theorem dX3_doughByAmount_73 : decode cX3_doughByAmount 73 = .ok (.if_icmp .ne 5, 3) := dk_160 0 5 (dk_at dksX3_doughByAmount_3 5 rfl rfl)
theorem dX3_doughByAmount_76 : decode cX3_doughByAmount 76 = .ok (.iload_n 2, 1) := dk_28 (dk_at dksX3_doughByAmount_3 8 rfl rfl)
theorem dX3_doughByAmount_77 : decode cX3_doughByAmount 77 = .ok (.ireturn, 1) := dk_172 (dk_at dksX3_doughByAmount_3 9 rfl rfl)
theorem dX3_doughByAmount_78 : decode cX3_doughByAmount 78 = .ok (.iinc 2 1, 3) := dk_132 2 1 (dk_at dksX3_doughByAmount_3 10 rfl rfl)
theorem dX3_doughByAmount_81 : decode cX3_doughByAmount 81 = .ok (.goto (-74), 3) := dk_167 255 182 (dk_at dksX3_doughByAmount_3 13 rfl rfl)
theorem dX3_doughByAmount_84 : decode cX3_doughByAmount 84 = .ok (.aload_n 0, 1) := dk_42 (dk_at dksX3_doughByAmount_3 16 rfl rfl)
theorem dX3_doughByAmount_85 : decode cX3_doughByAmount 85 = .ok (.iconst 1, 1) := dk_4 (dk_at dksX3_doughByAmount_3 17 rfl rfl)
theorem dX3_doughByAmount_86 : decode cX3_doughByAmount 86 = .ok (.invokevirtual 81, 3) := dk_182 0 81 (dk_at dksX3_doughByAmount_3 18 rfl rfl)
theorem dX3_doughByAmount_89 : decode cX3_doughByAmount 89 = .ok (.ireturn, 1) := dk_172 (dk_at dksX3_doughByAmount_3 21 rfl rfl)
abbrev cX3_isMore : ByteArray := prog_21_method_65_code
def yX3_isMore : MethodName := ⟨RX3, "isMore", "(II)Z"⟩
def dkwX3_isMore_1 : List UInt8 := [182, 0, 90, 104, 164, 0, 7, 4, 167, 0, 4, 3, 172]
abbrev dktX3_isMore_1 : List UInt8 := dkwX3_isMore_1 ++ []
def dkwX3_isMore_0 : List UInt8 := [42, 27, 3, 182, 0, 90, 42, 28, 4, 182, 0, 90, 104, 42, 28, 3, 182, 0, 90, 42, 27, 4]
abbrev dktX3_isMore_0 : List UInt8 := dkwX3_isMore_0 ++ dktX3_isMore_1
theorem dksX3_isMore_0 : cX3_isMore.data.toList.drop 0 = dktX3_isMore_0 := by decide +kernel
theorem dksX3_isMore_1 : cX3_isMore.data.toList.drop 22 = dktX3_isMore_1 := dk_seg dksX3_isMore_0 22 rfl rfl
theorem dX3_isMore_0 : decode cX3_isMore 0 = .ok (.aload_n 0, 1) := dk_42 (dk_at dksX3_isMore_0 0 rfl rfl)
theorem dX3_isMore_1 : decode cX3_isMore 1 = .ok (.iload_n 1, 1) := dk_27 (dk_at dksX3_isMore_0 1 rfl rfl)
theorem dX3_isMore_2 : decode cX3_isMore 2 = .ok (.iconst 0, 1) := dk_3 (dk_at dksX3_isMore_0 2 rfl rfl)
theorem dX3_isMore_3 : decode cX3_isMore 3 = .ok (.invokevirtual 90, 3) := dk_182 0 90 (dk_at dksX3_isMore_0 3 rfl rfl)
theorem dX3_isMore_6 : decode cX3_isMore 6 = .ok (.aload_n 0, 1) := dk_42 (dk_at dksX3_isMore_0 6 rfl rfl)
theorem dX3_isMore_7 : decode cX3_isMore 7 = .ok (.iload_n 2, 1) := dk_28 (dk_at dksX3_isMore_0 7 rfl rfl)
theorem dX3_isMore_8 : decode cX3_isMore 8 = .ok (.iconst 1, 1) := dk_4 (dk_at dksX3_isMore_0 8 rfl rfl)
theorem dX3_isMore_9 : decode cX3_isMore 9 = .ok (.invokevirtual 90, 3) := dk_182 0 90 (dk_at dksX3_isMore_0 9 rfl rfl)
theorem dX3_isMore_12 : decode cX3_isMore 12 = .ok (.imul, 1) := dk_104 (dk_at dksX3_isMore_0 12 rfl rfl)
theorem dX3_isMore_13 : decode cX3_isMore 13 = .ok (.aload_n 0, 1) := dk_42 (dk_at dksX3_isMore_0 13 rfl rfl)
theorem dX3_isMore_14 : decode cX3_isMore 14 = .ok (.iload_n 2, 1) := dk_28 (dk_at dksX3_isMore_0 14 rfl rfl)
theorem dX3_isMore_15 : decode cX3_isMore 15 = .ok (.iconst 0, 1) := dk_3 (dk_at dksX3_isMore_0 15 rfl rfl)
theorem dX3_isMore_16 : decode cX3_isMore 16 = .ok (.invokevirtual 90, 3) := dk_182 0 90 (dk_at dksX3_isMore_0 16 rfl rfl)
theorem dX3_isMore_19 : decode cX3_isMore 19 = .ok (.aload_n 0, 1) := dk_42 (dk_at dksX3_isMore_0 19 rfl rfl)
theorem dX3_isMore_20 : decode cX3_isMore 20 = .ok (.iload_n 1, 1) := dk_27 (dk_at dksX3_isMore_0 20 rfl rfl)
theorem dX3_isMore_21 : decode cX3_isMore 21 = .ok (.iconst 1, 1) := dk_4 (dk_at dksX3_isMore_0 21 rfl rfl)
theorem dX3_isMore_22 : decode cX3_isMore 22 = .ok (.invokevirtual 90, 3) := dk_182 0 90 (dk_at dksX3_isMore_1 0 rfl rfl)
theorem dX3_isMore_25 : decode cX3_isMore 25 = .ok (.imul, 1) := dk_104 (dk_at dksX3_isMore_1 3 rfl rfl)
theorem dX3_isMore_26 : decode cX3_isMore 26 = .ok (.if_icmp .le 7, 3) := dk_164 0 7 (dk_at dksX3_isMore_1 4 rfl rfl)
theorem dX3_isMore_29 : decode cX3_isMore 29 = .ok (.iconst 1, 1) := dk_4 (dk_at dksX3_isMore_1 7 rfl rfl)
theorem dX3_isMore_30 : decode cX3_isMore 30 = .ok (.goto 4, 3) := dk_167 0 4 (dk_at dksX3_isMore_1 8 rfl rfl)
theorem dX3_isMore_33 : decode cX3_isMore 33 = .ok (.iconst 0, 1) := dk_3 (dk_at dksX3_isMore_1 11 rfl rfl)
theorem dX3_isMore_34 : decode cX3_isMore 34 = .ok (.ireturn, 1) := dk_172 (dk_at dksX3_isMore_1 12 rfl rfl)
abbrev cX3_nearestNumerator : ByteArray := prog_21_method_70_code
def yX3_nearestNumerator : MethodName := ⟨RX3, "nearestNumerator", "(III)I"⟩
def dkwX3_nearestNumerator_1 : List UInt8 := [182, 0, 81, 172, 42, 27, 28, 29, 182, 0, 224, 42, 180, 0, 213, 172]
abbrev dktX3_nearestNumerator_1 : List UInt8 := dkwX3_nearestNumerator_1 ++ []
def dkwX3_nearestNumerator_0 : List UInt8 := [42, 3, 181, 0, 1, 42, 27, 28, 29, 182, 0, 220, 54, 4, 21, 4, 153, 0, 10, 42, 21, 4]
abbrev dktX3_nearestNumerator_0 : List UInt8 := dkwX3_nearestNumerator_0 ++ dktX3_nearestNumerator_1
theorem dksX3_nearestNumerator_0 : cX3_nearestNumerator.data.toList.drop 0 = dktX3_nearestNumerator_0 := by decide +kernel
theorem dksX3_nearestNumerator_1 : cX3_nearestNumerator.data.toList.drop 22 = dktX3_nearestNumerator_1 := dk_seg dksX3_nearestNumerator_0 22 rfl rfl
theorem dX3_nearestNumerator_0 : decode cX3_nearestNumerator 0 = .ok (.aload_n 0, 1) := dk_42 (dk_at dksX3_nearestNumerator_0 0 rfl rfl)
theorem dX3_nearestNumerator_1 : decode cX3_nearestNumerator 1 = .ok (.iconst 0, 1) := dk_3 (dk_at dksX3_nearestNumerator_0 1 rfl rfl)
theorem dX3_nearestNumerator_2 : decode cX3_nearestNumerator 2 = .ok (.putfield 1, 3) := dk_181 0 1 (dk_at dksX3_nearestNumerator_0 2 rfl rfl)
theorem dX3_nearestNumerator_5 : decode cX3_nearestNumerator 5 = .ok (.aload_n 0, 1) := dk_42 (dk_at dksX3_nearestNumerator_0 5 rfl rfl)
theorem dX3_nearestNumerator_6 : decode cX3_nearestNumerator 6 = .ok (.iload_n 1, 1) := dk_27 (dk_at dksX3_nearestNumerator_0 6 rfl rfl)
theorem dX3_nearestNumerator_7 : decode cX3_nearestNumerator 7 = .ok (.iload_n 2, 1) := dk_28 (dk_at dksX3_nearestNumerator_0 7 rfl rfl)
theorem dX3_nearestNumerator_8 : decode cX3_nearestNumerator 8 = .ok (.iload_n 3, 1) := dk_29 (dk_at dksX3_nearestNumerator_0 8 rfl rfl)
theorem dX3_nearestNumerator_9 : decode cX3_nearestNumerator 9 = .ok (.invokevirtual 220, 3) := dk_182 0 220 (dk_at dksX3_nearestNumerator_0 9 rfl rfl)
theorem dX3_nearestNumerator_12 : decode cX3_nearestNumerator 12 = .ok (.istore 4, 2) := dk_54 4 (dk_at dksX3_nearestNumerator_0 12 rfl rfl)
theorem dX3_nearestNumerator_14 : decode cX3_nearestNumerator 14 = .ok (.iload 4, 2) := dk_21 4 (dk_at dksX3_nearestNumerator_0 14 rfl rfl)
theorem dX3_nearestNumerator_16 : decode cX3_nearestNumerator 16 = .ok (.ifCond .eq 10, 3) := dk_153 0 10 (dk_at dksX3_nearestNumerator_0 16 rfl rfl)
theorem dX3_nearestNumerator_19 : decode cX3_nearestNumerator 19 = .ok (.aload_n 0, 1) := dk_42 (dk_at dksX3_nearestNumerator_0 19 rfl rfl)
theorem dX3_nearestNumerator_20 : decode cX3_nearestNumerator 20 = .ok (.iload 4, 2) := dk_21 4 (dk_at dksX3_nearestNumerator_0 20 rfl rfl)
theorem dX3_nearestNumerator_22 : decode cX3_nearestNumerator 22 = .ok (.invokevirtual 81, 3) := dk_182 0 81 (dk_at dksX3_nearestNumerator_1 0 rfl rfl)
theorem dX3_nearestNumerator_25 : decode cX3_nearestNumerator 25 = .ok (.ireturn, 1) := dk_172 (dk_at dksX3_nearestNumerator_1 3 rfl rfl)
theorem dX3_nearestNumerator_26 : decode cX3_nearestNumerator 26 = .ok (.aload_n 0, 1) := dk_42 (dk_at dksX3_nearestNumerator_1 4 rfl rfl)
theorem dX3_nearestNumerator_27 : decode cX3_nearestNumerator 27 = .ok (.iload_n 1, 1) := dk_27 (dk_at dksX3_nearestNumerator_1 5 rfl rfl)
theorem dX3_nearestNumerator_28 : decode cX3_nearestNumerator 28 = .ok (.iload_n 2, 1) := dk_28 (dk_at dksX3_nearestNumerator_1 6 rfl rfl)
theorem dX3_nearestNumerator_29 : decode cX3_nearestNumerator 29 = .ok (.iload_n 3, 1) := dk_29 (dk_at dksX3_nearestNumerator_1 7 rfl rfl)
theorem dX3_nearestNumerator_30 : decode cX3_nearestNumerator 30 = .ok (.invokevirtual 224, 3) := dk_182 0 224 (dk_at dksX3_nearestNumerator_1 8 rfl rfl)
theorem dX3_nearestNumerator_33 : decode cX3_nearestNumerator 33 = .ok (.aload_n 0, 1) := dk_42 (dk_at dksX3_nearestNumerator_1 11 rfl rfl)
theorem dX3_nearestNumerator_34 : decode cX3_nearestNumerator 34 = .ok (.getfield 213, 3) := dk_180 0 213 (dk_at dksX3_nearestNumerator_1 12 rfl rfl)
theorem dX3_nearestNumerator_37 : decode cX3_nearestNumerator 37 = .ok (.ireturn, 1) := dk_172 (dk_at dksX3_nearestNumerator_1 15 rfl rfl)
abbrev cX3_notNearest : ByteArray := prog_21_method_67_code
def yX3_notNearest : MethodName := ⟨RX3, "notNearest", "(III)I"⟩
def dkwX3_notNearest_1 : List UInt8 := [184, 0, 66, 154, 0, 5, 5, 172, 42, 28, 3, 182, 0, 90, 154, 0, 7, 6, 167, 0, 4, 3, 172]
abbrev dktX3_notNearest_1 : List UInt8 := dkwX3_notNearest_1 ++ []
def dkwX3_notNearest_0 : List UInt8 := [42, 27, 182, 0, 93, 153, 0, 11, 42, 28, 182, 0, 93, 154, 0, 5, 4, 172, 29, 4, 16, 99]
abbrev dktX3_notNearest_0 : List UInt8 := dkwX3_notNearest_0 ++ dktX3_notNearest_1
theorem dksX3_notNearest_0 : cX3_notNearest.data.toList.drop 0 = dktX3_notNearest_0 := by decide +kernel
theorem dksX3_notNearest_1 : cX3_notNearest.data.toList.drop 22 = dktX3_notNearest_1 := dk_seg dksX3_notNearest_0 22 rfl rfl
theorem dX3_notNearest_0 : decode cX3_notNearest 0 = .ok (.aload_n 0, 1) := dk_42 (dk_at dksX3_notNearest_0 0 rfl rfl)
theorem dX3_notNearest_1 : decode cX3_notNearest 1 = .ok (.iload_n 1, 1) := dk_27 (dk_at dksX3_notNearest_0 1 rfl rfl)
theorem dX3_notNearest_2 : decode cX3_notNearest 2 = .ok (.invokevirtual 93, 3) := dk_182 0 93 (dk_at dksX3_notNearest_0 2 rfl rfl)
theorem dX3_notNearest_5 : decode cX3_notNearest 5 = .ok (.ifCond .eq 11, 3) := dk_153 0 11 (dk_at dksX3_notNearest_0 5 rfl rfl)
theorem dX3_notNearest_8 : decode cX3_notNearest 8 = .ok (.aload_n 0, 1) := dk_42 (dk_at dksX3_notNearest_0 8 rfl rfl)
theorem dX3_notNearest_9 : decode cX3_notNearest 9 = .ok (.iload_n 2, 1) := dk_28 (dk_at dksX3_notNearest_0 9 rfl rfl)
theorem dX3_notNearest_10 : decode cX3_notNearest 10 = .ok (.invokevirtual 93, 3) := dk_182 0 93 (dk_at dksX3_notNearest_0 10 rfl rfl)
theorem dX3_notNearest_13 : decode cX3_notNearest 13 = .ok (.ifCond .ne 5, 3) := dk_154 0 5 (dk_at dksX3_notNearest_0 13 rfl rfl)
theorem dX3_notNearest_16 : decode cX3_notNearest 16 = .ok (.iconst 1, 1) := dk_4 (dk_at dksX3_notNearest_0 16 rfl rfl)
theorem dX3_notNearest_17 : decode cX3_notNearest 17 = .ok (.ireturn, 1) := dk_172 (dk_at dksX3_notNearest_0 17 rfl rfl)
theorem dX3_notNearest_18 : decode cX3_notNearest 18 = .ok (.iload_n 3, 1) := dk_29 (dk_at dksX3_notNearest_0 18 rfl rfl)
theorem dX3_notNearest_19 : decode cX3_notNearest 19 = .ok (.iconst 1, 1) := dk_4 (dk_at dksX3_notNearest_0 19 rfl rfl)
theorem dX3_notNearest_20 : decode cX3_notNearest 20 = .ok (.bipush 99, 2) := dk_16 99 (dk_at dksX3_notNearest_0 20 rfl rfl)
theorem dX3_notNearest_22 : decode cX3_notNearest 22 = .ok (.invokestatic 66, 3) := dk_184 0 66 (dk_at dksX3_notNearest_1 0 rfl rfl)
theorem dX3_notNearest_25 : decode cX3_notNearest 25 = .ok (.ifCond .ne 5, 3) := dk_154 0 5 (dk_at dksX3_notNearest_1 3 rfl rfl)
theorem dX3_notNearest_28 : decode cX3_notNearest 28 = .ok (.iconst 2, 1) := dk_5 (dk_at dksX3_notNearest_1 6 rfl rfl)
theorem dX3_notNearest_29 : decode cX3_notNearest 29 = .ok (.ireturn, 1) := dk_172 (dk_at dksX3_notNearest_1 7 rfl rfl)
theorem dX3_notNearest_30 : decode cX3_notNearest 30 = .ok (.aload_n 0, 1) := dk_42 (dk_at dksX3_notNearest_1 8 rfl rfl)
theorem dX3_notNearest_31 : decode cX3_notNearest 31 = .ok (.iload_n 2, 1) := dk_28 (dk_at dksX3_notNearest_1 9 rfl rfl)
theorem dX3_notNearest_32 : decode cX3_notNearest 32 = .ok (.iconst 0, 1) := dk_3 (dk_at dksX3_notNearest_1 10 rfl rfl)
theorem dX3_notNearest_33 : decode cX3_notNearest 33 = .ok (.invokevirtual 90, 3) := dk_182 0 90 (dk_at dksX3_notNearest_1 11 rfl rfl)
theorem dX3_notNearest_36 : decode cX3_notNearest 36 = .ok (.ifCond .ne 7, 3) := dk_154 0 7 (dk_at dksX3_notNearest_1 14 rfl rfl)
theorem dX3_notNearest_39 : decode cX3_notNearest 39 = .ok (.iconst 3, 1) := dk_6 (dk_at dksX3_notNearest_1 17 rfl rfl)
theorem dX3_notNearest_40 : decode cX3_notNearest 40 = .ok (.goto 4, 3) := dk_167 0 4 (dk_at dksX3_notNearest_1 18 rfl rfl)
theorem dX3_notNearest_43 : decode cX3_notNearest 43 = .ok (.iconst 0, 1) := dk_3 (dk_at dksX3_notNearest_1 21 rfl rfl)
theorem dX3_notNearest_44 : decode cX3_notNearest 44 = .ok (.ireturn, 1) := dk_172 (dk_at dksX3_notNearest_1 22 rfl rfl)
abbrev cX3_finds : ByteArray := prog_21_method_69_code
def yX3_finds : MethodName := ⟨RX3, "finds", "(III)V"⟩
def dkwX3_finds_3 : List UInt8 := [4, 96, 21, 6, 21, 4, 21, 5, 182, 0, 216, 132, 6, 1, 167, 255, 209, 177]
abbrev dktX3_finds_3 : List UInt8 := dkwX3_finds_3 ++ []
def dkwX3_finds_2 : List UInt8 := [21, 6, 104, 21, 5, 108, 21, 6, 21, 4, 21, 5, 182, 0, 216, 42, 21, 4, 21, 6, 104, 21, 5, 108]
abbrev dktX3_finds_2 : List UInt8 := dkwX3_finds_2 ++ dktX3_finds_3
def dkwX3_finds_1 : List UInt8 := [182, 0, 90, 104, 54, 5, 42, 3, 181, 0, 207, 4, 54, 6, 21, 6, 29, 163, 0, 47, 42, 21, 4]
abbrev dktX3_finds_1 : List UInt8 := dkwX3_finds_1 ++ dktX3_finds_2
def dkwX3_finds_0 : List UInt8 := [42, 27, 3, 182, 0, 90, 42, 28, 4, 182, 0, 90, 104, 54, 4, 42, 27, 4, 182, 0, 90, 42, 28, 3]
abbrev dktX3_finds_0 : List UInt8 := dkwX3_finds_0 ++ dktX3_finds_1
theorem dksX3_finds_0 : cX3_finds.data.toList.drop 0 = dktX3_finds_0 := by decide +kernel
theorem dksX3_finds_1 : cX3_finds.data.toList.drop 24 = dktX3_finds_1 := dk_seg dksX3_finds_0 24 rfl rfl
theorem dksX3_finds_2 : cX3_finds.data.toList.drop 47 = dktX3_finds_2 := dk_seg dksX3_finds_1 23 rfl rfl
theorem dksX3_finds_3 : cX3_finds.data.toList.drop 71 = dktX3_finds_3 := dk_seg dksX3_finds_2 24 rfl rfl
theorem dX3_finds_0 : decode cX3_finds 0 = .ok (.aload_n 0, 1) := dk_42 (dk_at dksX3_finds_0 0 rfl rfl)
theorem dX3_finds_1 : decode cX3_finds 1 = .ok (.iload_n 1, 1) := dk_27 (dk_at dksX3_finds_0 1 rfl rfl)
theorem dX3_finds_2 : decode cX3_finds 2 = .ok (.iconst 0, 1) := dk_3 (dk_at dksX3_finds_0 2 rfl rfl)
theorem dX3_finds_3 : decode cX3_finds 3 = .ok (.invokevirtual 90, 3) := dk_182 0 90 (dk_at dksX3_finds_0 3 rfl rfl)
theorem dX3_finds_6 : decode cX3_finds 6 = .ok (.aload_n 0, 1) := dk_42 (dk_at dksX3_finds_0 6 rfl rfl)
theorem dX3_finds_7 : decode cX3_finds 7 = .ok (.iload_n 2, 1) := dk_28 (dk_at dksX3_finds_0 7 rfl rfl)
theorem dX3_finds_8 : decode cX3_finds 8 = .ok (.iconst 1, 1) := dk_4 (dk_at dksX3_finds_0 8 rfl rfl)
theorem dX3_finds_9 : decode cX3_finds 9 = .ok (.invokevirtual 90, 3) := dk_182 0 90 (dk_at dksX3_finds_0 9 rfl rfl)
theorem dX3_finds_12 : decode cX3_finds 12 = .ok (.imul, 1) := dk_104 (dk_at dksX3_finds_0 12 rfl rfl)
theorem dX3_finds_13 : decode cX3_finds 13 = .ok (.istore 4, 2) := dk_54 4 (dk_at dksX3_finds_0 13 rfl rfl)
theorem dX3_finds_15 : decode cX3_finds 15 = .ok (.aload_n 0, 1) := dk_42 (dk_at dksX3_finds_0 15 rfl rfl)
theorem dX3_finds_16 : decode cX3_finds 16 = .ok (.iload_n 1, 1) := dk_27 (dk_at dksX3_finds_0 16 rfl rfl)
theorem dX3_finds_17 : decode cX3_finds 17 = .ok (.iconst 1, 1) := dk_4 (dk_at dksX3_finds_0 17 rfl rfl)
theorem dX3_finds_18 : decode cX3_finds 18 = .ok (.invokevirtual 90, 3) := dk_182 0 90 (dk_at dksX3_finds_0 18 rfl rfl)
theorem dX3_finds_21 : decode cX3_finds 21 = .ok (.aload_n 0, 1) := dk_42 (dk_at dksX3_finds_0 21 rfl rfl)
theorem dX3_finds_22 : decode cX3_finds 22 = .ok (.iload_n 2, 1) := dk_28 (dk_at dksX3_finds_0 22 rfl rfl)
theorem dX3_finds_23 : decode cX3_finds 23 = .ok (.iconst 0, 1) := dk_3 (dk_at dksX3_finds_0 23 rfl rfl)
theorem dX3_finds_24 : decode cX3_finds 24 = .ok (.invokevirtual 90, 3) := dk_182 0 90 (dk_at dksX3_finds_1 0 rfl rfl)
theorem dX3_finds_27 : decode cX3_finds 27 = .ok (.imul, 1) := dk_104 (dk_at dksX3_finds_1 3 rfl rfl)
theorem dX3_finds_28 : decode cX3_finds 28 = .ok (.istore 5, 2) := dk_54 5 (dk_at dksX3_finds_1 4 rfl rfl)
theorem dX3_finds_30 : decode cX3_finds 30 = .ok (.aload_n 0, 1) := dk_42 (dk_at dksX3_finds_1 6 rfl rfl)
theorem dX3_finds_31 : decode cX3_finds 31 = .ok (.iconst 0, 1) := dk_3 (dk_at dksX3_finds_1 7 rfl rfl)
theorem dX3_finds_32 : decode cX3_finds 32 = .ok (.putfield 207, 3) := dk_181 0 207 (dk_at dksX3_finds_1 8 rfl rfl)
theorem dX3_finds_35 : decode cX3_finds 35 = .ok (.iconst 1, 1) := dk_4 (dk_at dksX3_finds_1 11 rfl rfl)
theorem dX3_finds_36 : decode cX3_finds 36 = .ok (.istore 6, 2) := dk_54 6 (dk_at dksX3_finds_1 12 rfl rfl)
theorem dX3_finds_38 : decode cX3_finds 38 = .ok (.iload 6, 2) := dk_21 6 (dk_at dksX3_finds_1 14 rfl rfl)
theorem dX3_finds_40 : decode cX3_finds 40 = .ok (.iload_n 3, 1) := dk_29 (dk_at dksX3_finds_1 16 rfl rfl)
theorem dX3_finds_41 : decode cX3_finds 41 = .ok (.if_icmp .gt 47, 3) := dk_163 0 47 (dk_at dksX3_finds_1 17 rfl rfl)
theorem dX3_finds_44 : decode cX3_finds 44 = .ok (.aload_n 0, 1) := dk_42 (dk_at dksX3_finds_1 20 rfl rfl)
theorem dX3_finds_45 : decode cX3_finds 45 = .ok (.iload 4, 2) := dk_21 4 (dk_at dksX3_finds_1 21 rfl rfl)
theorem dX3_finds_47 : decode cX3_finds 47 = .ok (.iload 6, 2) := dk_21 6 (dk_at dksX3_finds_2 0 rfl rfl)
theorem dX3_finds_49 : decode cX3_finds 49 = .ok (.imul, 1) := dk_104 (dk_at dksX3_finds_2 2 rfl rfl)
theorem dX3_finds_50 : decode cX3_finds 50 = .ok (.iload 5, 2) := dk_21 5 (dk_at dksX3_finds_2 3 rfl rfl)
theorem dX3_finds_52 : decode cX3_finds 52 = .ok (.idiv, 1) := dk_108 (dk_at dksX3_finds_2 5 rfl rfl)
theorem dX3_finds_53 : decode cX3_finds 53 = .ok (.iload 6, 2) := dk_21 6 (dk_at dksX3_finds_2 6 rfl rfl)
theorem dX3_finds_55 : decode cX3_finds 55 = .ok (.iload 4, 2) := dk_21 4 (dk_at dksX3_finds_2 8 rfl rfl)
theorem dX3_finds_57 : decode cX3_finds 57 = .ok (.iload 5, 2) := dk_21 5 (dk_at dksX3_finds_2 10 rfl rfl)
theorem dX3_finds_59 : decode cX3_finds 59 = .ok (.invokevirtual 216, 3) := dk_182 0 216 (dk_at dksX3_finds_2 12 rfl rfl)
theorem dX3_finds_62 : decode cX3_finds 62 = .ok (.aload_n 0, 1) := dk_42 (dk_at dksX3_finds_2 15 rfl rfl)
theorem dX3_finds_63 : decode cX3_finds 63 = .ok (.iload 4, 2) := dk_21 4 (dk_at dksX3_finds_2 16 rfl rfl)
theorem dX3_finds_65 : decode cX3_finds 65 = .ok (.iload 6, 2) := dk_21 6 (dk_at dksX3_finds_2 18 rfl rfl)
theorem dX3_finds_67 : decode cX3_finds 67 = .ok (.imul, 1) := dk_104 (dk_at dksX3_finds_2 20 rfl rfl)
theorem dX3_finds_68 : decode cX3_finds 68 = .ok (.iload 5, 2) := dk_21 5 (dk_at dksX3_finds_2 21 rfl rfl)
theorem dX3_finds_70 : decode cX3_finds 70 = .ok (.idiv, 1) := dk_108 (dk_at dksX3_finds_2 23 rfl rfl)
theorem dX3_finds_71 : decode cX3_finds 71 = .ok (.iconst 1, 1) := dk_4 (dk_at dksX3_finds_3 0 rfl rfl)
theorem dX3_finds_72 : decode cX3_finds 72 = .ok (.iadd, 1) := dk_96 (dk_at dksX3_finds_3 1 rfl rfl)
theorem dX3_finds_73 : decode cX3_finds 73 = .ok (.iload 6, 2) := dk_21 6 (dk_at dksX3_finds_3 2 rfl rfl)
theorem dX3_finds_75 : decode cX3_finds 75 = .ok (.iload 4, 2) := dk_21 4 (dk_at dksX3_finds_3 4 rfl rfl)
theorem dX3_finds_77 : decode cX3_finds 77 = .ok (.iload 5, 2) := dk_21 5 (dk_at dksX3_finds_3 6 rfl rfl)
theorem dX3_finds_79 : decode cX3_finds 79 = .ok (.invokevirtual 216, 3) := dk_182 0 216 (dk_at dksX3_finds_3 8 rfl rfl)
theorem dX3_finds_82 : decode cX3_finds 82 = .ok (.iinc 6 1, 3) := dk_132 6 1 (dk_at dksX3_finds_3 11 rfl rfl)
theorem dX3_finds_85 : decode cX3_finds 85 = .ok (.goto (-47), 3) := dk_167 255 209 (dk_at dksX3_finds_3 14 rfl rfl)
theorem dX3_finds_88 : decode cX3_finds 88 = .ok (.return_, 1) := dk_177 (dk_at dksX3_finds_3 17 rfl rfl)
abbrev cX3_tries : ByteArray := prog_21_method_68_code
def yX3_tries : MethodName := ⟨RX3, "tries", "(IIII)V"⟩
def dkwX3_tries_2 : List UInt8 := [181, 0, 213, 42, 28, 181, 0, 207, 42, 21, 5, 181, 0, 210, 177]
abbrev dktX3_tries_2 : List UInt8 := dkwX3_tries_2 ++ []
def dkwX3_tries_1 : List UInt8 := [158, 0, 20, 21, 5, 42, 180, 0, 207, 104, 42, 180, 0, 210, 28, 104, 161, 0, 4, 177, 42, 27]
abbrev dktX3_tries_1 : List UInt8 := dkwX3_tries_1 ++ dktX3_tries_2
def dkwX3_tries_0 : List UInt8 := [29, 28, 104, 27, 21, 4, 104, 100, 54, 5, 21, 5, 156, 0, 8, 21, 5, 116, 54, 5, 42, 180, 0, 207]
abbrev dktX3_tries_0 : List UInt8 := dkwX3_tries_0 ++ dktX3_tries_1
theorem dksX3_tries_0 : cX3_tries.data.toList.drop 0 = dktX3_tries_0 := by decide +kernel
theorem dksX3_tries_1 : cX3_tries.data.toList.drop 24 = dktX3_tries_1 := dk_seg dksX3_tries_0 24 rfl rfl
theorem dksX3_tries_2 : cX3_tries.data.toList.drop 46 = dktX3_tries_2 := dk_seg dksX3_tries_1 22 rfl rfl
theorem dX3_tries_0 : decode cX3_tries 0 = .ok (.iload_n 3, 1) := dk_29 (dk_at dksX3_tries_0 0 rfl rfl)
theorem dX3_tries_1 : decode cX3_tries 1 = .ok (.iload_n 2, 1) := dk_28 (dk_at dksX3_tries_0 1 rfl rfl)
theorem dX3_tries_2 : decode cX3_tries 2 = .ok (.imul, 1) := dk_104 (dk_at dksX3_tries_0 2 rfl rfl)
theorem dX3_tries_3 : decode cX3_tries 3 = .ok (.iload_n 1, 1) := dk_27 (dk_at dksX3_tries_0 3 rfl rfl)
theorem dX3_tries_4 : decode cX3_tries 4 = .ok (.iload 4, 2) := dk_21 4 (dk_at dksX3_tries_0 4 rfl rfl)
theorem dX3_tries_6 : decode cX3_tries 6 = .ok (.imul, 1) := dk_104 (dk_at dksX3_tries_0 6 rfl rfl)
theorem dX3_tries_7 : decode cX3_tries 7 = .ok (.isub, 1) := dk_100 (dk_at dksX3_tries_0 7 rfl rfl)
theorem dX3_tries_8 : decode cX3_tries 8 = .ok (.istore 5, 2) := dk_54 5 (dk_at dksX3_tries_0 8 rfl rfl)
theorem dX3_tries_10 : decode cX3_tries 10 = .ok (.iload 5, 2) := dk_21 5 (dk_at dksX3_tries_0 10 rfl rfl)
theorem dX3_tries_12 : decode cX3_tries 12 = .ok (.ifCond .ge 8, 3) := dk_156 0 8 (dk_at dksX3_tries_0 12 rfl rfl)
theorem dX3_tries_15 : decode cX3_tries 15 = .ok (.iload 5, 2) := dk_21 5 (dk_at dksX3_tries_0 15 rfl rfl)
theorem dX3_tries_17 : decode cX3_tries 17 = .ok (.ineg, 1) := dk_116 (dk_at dksX3_tries_0 17 rfl rfl)
theorem dX3_tries_18 : decode cX3_tries 18 = .ok (.istore 5, 2) := dk_54 5 (dk_at dksX3_tries_0 18 rfl rfl)
theorem dX3_tries_20 : decode cX3_tries 20 = .ok (.aload_n 0, 1) := dk_42 (dk_at dksX3_tries_0 20 rfl rfl)
theorem dX3_tries_21 : decode cX3_tries 21 = .ok (.getfield 207, 3) := dk_180 0 207 (dk_at dksX3_tries_0 21 rfl rfl)
theorem dX3_tries_24 : decode cX3_tries 24 = .ok (.ifCond .le 20, 3) := dk_158 0 20 (dk_at dksX3_tries_1 0 rfl rfl)
theorem dX3_tries_27 : decode cX3_tries 27 = .ok (.iload 5, 2) := dk_21 5 (dk_at dksX3_tries_1 3 rfl rfl)
theorem dX3_tries_29 : decode cX3_tries 29 = .ok (.aload_n 0, 1) := dk_42 (dk_at dksX3_tries_1 5 rfl rfl)
theorem dX3_tries_30 : decode cX3_tries 30 = .ok (.getfield 207, 3) := dk_180 0 207 (dk_at dksX3_tries_1 6 rfl rfl)
theorem dX3_tries_33 : decode cX3_tries 33 = .ok (.imul, 1) := dk_104 (dk_at dksX3_tries_1 9 rfl rfl)
theorem dX3_tries_34 : decode cX3_tries 34 = .ok (.aload_n 0, 1) := dk_42 (dk_at dksX3_tries_1 10 rfl rfl)
theorem dX3_tries_35 : decode cX3_tries 35 = .ok (.getfield 210, 3) := dk_180 0 210 (dk_at dksX3_tries_1 11 rfl rfl)
theorem dX3_tries_38 : decode cX3_tries 38 = .ok (.iload_n 2, 1) := dk_28 (dk_at dksX3_tries_1 14 rfl rfl)
theorem dX3_tries_39 : decode cX3_tries 39 = .ok (.imul, 1) := dk_104 (dk_at dksX3_tries_1 15 rfl rfl)
theorem dX3_tries_40 : decode cX3_tries 40 = .ok (.if_icmp .lt 4, 3) := dk_161 0 4 (dk_at dksX3_tries_1 16 rfl rfl)
theorem dX3_tries_43 : decode cX3_tries 43 = .ok (.return_, 1) := dk_177 (dk_at dksX3_tries_1 19 rfl rfl)
theorem dX3_tries_44 : decode cX3_tries 44 = .ok (.aload_n 0, 1) := dk_42 (dk_at dksX3_tries_1 20 rfl rfl)
theorem dX3_tries_45 : decode cX3_tries 45 = .ok (.iload_n 1, 1) := dk_27 (dk_at dksX3_tries_1 21 rfl rfl)
theorem dX3_tries_46 : decode cX3_tries 46 = .ok (.putfield 213, 3) := dk_181 0 213 (dk_at dksX3_tries_2 0 rfl rfl)
theorem dX3_tries_49 : decode cX3_tries 49 = .ok (.aload_n 0, 1) := dk_42 (dk_at dksX3_tries_2 3 rfl rfl)
theorem dX3_tries_50 : decode cX3_tries 50 = .ok (.iload_n 2, 1) := dk_28 (dk_at dksX3_tries_2 4 rfl rfl)
theorem dX3_tries_51 : decode cX3_tries 51 = .ok (.putfield 207, 3) := dk_181 0 207 (dk_at dksX3_tries_2 5 rfl rfl)
theorem dX3_tries_54 : decode cX3_tries 54 = .ok (.aload_n 0, 1) := dk_42 (dk_at dksX3_tries_2 8 rfl rfl)
theorem dX3_tries_55 : decode cX3_tries 55 = .ok (.iload 5, 2) := dk_21 5 (dk_at dksX3_tries_2 9 rfl rfl)
theorem dX3_tries_57 : decode cX3_tries 57 = .ok (.putfield 210, 3) := dk_181 0 210 (dk_at dksX3_tries_2 11 rfl rfl)
theorem dX3_tries_60 : decode cX3_tries 60 = .ok (.return_, 1) := dk_177 (dk_at dksX3_tries_2 14 rfl rfl)
abbrev cX3_nearestDenominator : ByteArray := prog_21_method_71_code
def yX3_nearestDenominator : MethodName := ⟨RX3, "nearestDenominator", "(III)I"⟩
def dkwX3_nearestDenominator_1 : List UInt8 := [182, 0, 81, 172, 42, 27, 28, 29, 182, 0, 224, 42, 180, 0, 207, 172]
abbrev dktX3_nearestDenominator_1 : List UInt8 := dkwX3_nearestDenominator_1 ++ []
def dkwX3_nearestDenominator_0 : List UInt8 := [42, 3, 181, 0, 1, 42, 27, 28, 29, 182, 0, 220, 54, 4, 21, 4, 153, 0, 10, 42, 21, 4]
abbrev dktX3_nearestDenominator_0 : List UInt8 := dkwX3_nearestDenominator_0 ++ dktX3_nearestDenominator_1
theorem dksX3_nearestDenominator_0 : cX3_nearestDenominator.data.toList.drop 0 = dktX3_nearestDenominator_0 := by decide +kernel
theorem dksX3_nearestDenominator_1 : cX3_nearestDenominator.data.toList.drop 22 = dktX3_nearestDenominator_1 := dk_seg dksX3_nearestDenominator_0 22 rfl rfl
theorem dX3_nearestDenominator_0 : decode cX3_nearestDenominator 0 = .ok (.aload_n 0, 1) := dk_42 (dk_at dksX3_nearestDenominator_0 0 rfl rfl)
theorem dX3_nearestDenominator_1 : decode cX3_nearestDenominator 1 = .ok (.iconst 0, 1) := dk_3 (dk_at dksX3_nearestDenominator_0 1 rfl rfl)
theorem dX3_nearestDenominator_2 : decode cX3_nearestDenominator 2 = .ok (.putfield 1, 3) := dk_181 0 1 (dk_at dksX3_nearestDenominator_0 2 rfl rfl)
theorem dX3_nearestDenominator_5 : decode cX3_nearestDenominator 5 = .ok (.aload_n 0, 1) := dk_42 (dk_at dksX3_nearestDenominator_0 5 rfl rfl)
theorem dX3_nearestDenominator_6 : decode cX3_nearestDenominator 6 = .ok (.iload_n 1, 1) := dk_27 (dk_at dksX3_nearestDenominator_0 6 rfl rfl)
theorem dX3_nearestDenominator_7 : decode cX3_nearestDenominator 7 = .ok (.iload_n 2, 1) := dk_28 (dk_at dksX3_nearestDenominator_0 7 rfl rfl)
theorem dX3_nearestDenominator_8 : decode cX3_nearestDenominator 8 = .ok (.iload_n 3, 1) := dk_29 (dk_at dksX3_nearestDenominator_0 8 rfl rfl)
theorem dX3_nearestDenominator_9 : decode cX3_nearestDenominator 9 = .ok (.invokevirtual 220, 3) := dk_182 0 220 (dk_at dksX3_nearestDenominator_0 9 rfl rfl)
theorem dX3_nearestDenominator_12 : decode cX3_nearestDenominator 12 = .ok (.istore 4, 2) := dk_54 4 (dk_at dksX3_nearestDenominator_0 12 rfl rfl)
theorem dX3_nearestDenominator_14 : decode cX3_nearestDenominator 14 = .ok (.iload 4, 2) := dk_21 4 (dk_at dksX3_nearestDenominator_0 14 rfl rfl)
theorem dX3_nearestDenominator_16 : decode cX3_nearestDenominator 16 = .ok (.ifCond .eq 10, 3) := dk_153 0 10 (dk_at dksX3_nearestDenominator_0 16 rfl rfl)
theorem dX3_nearestDenominator_19 : decode cX3_nearestDenominator 19 = .ok (.aload_n 0, 1) := dk_42 (dk_at dksX3_nearestDenominator_0 19 rfl rfl)
theorem dX3_nearestDenominator_20 : decode cX3_nearestDenominator 20 = .ok (.iload 4, 2) := dk_21 4 (dk_at dksX3_nearestDenominator_0 20 rfl rfl)
theorem dX3_nearestDenominator_22 : decode cX3_nearestDenominator 22 = .ok (.invokevirtual 81, 3) := dk_182 0 81 (dk_at dksX3_nearestDenominator_1 0 rfl rfl)
theorem dX3_nearestDenominator_25 : decode cX3_nearestDenominator 25 = .ok (.ireturn, 1) := dk_172 (dk_at dksX3_nearestDenominator_1 3 rfl rfl)
theorem dX3_nearestDenominator_26 : decode cX3_nearestDenominator 26 = .ok (.aload_n 0, 1) := dk_42 (dk_at dksX3_nearestDenominator_1 4 rfl rfl)
theorem dX3_nearestDenominator_27 : decode cX3_nearestDenominator 27 = .ok (.iload_n 1, 1) := dk_27 (dk_at dksX3_nearestDenominator_1 5 rfl rfl)
theorem dX3_nearestDenominator_28 : decode cX3_nearestDenominator 28 = .ok (.iload_n 2, 1) := dk_28 (dk_at dksX3_nearestDenominator_1 6 rfl rfl)
theorem dX3_nearestDenominator_29 : decode cX3_nearestDenominator 29 = .ok (.iload_n 3, 1) := dk_29 (dk_at dksX3_nearestDenominator_1 7 rfl rfl)
theorem dX3_nearestDenominator_30 : decode cX3_nearestDenominator 30 = .ok (.invokevirtual 224, 3) := dk_182 0 224 (dk_at dksX3_nearestDenominator_1 8 rfl rfl)
theorem dX3_nearestDenominator_33 : decode cX3_nearestDenominator 33 = .ok (.aload_n 0, 1) := dk_42 (dk_at dksX3_nearestDenominator_1 11 rfl rfl)
theorem dX3_nearestDenominator_34 : decode cX3_nearestDenominator 34 = .ok (.getfield 207, 3) := dk_180 0 207 (dk_at dksX3_nearestDenominator_1 12 rfl rfl)
theorem dX3_nearestDenominator_37 : decode cX3_nearestDenominator 37 = .ok (.ireturn, 1) := dk_172 (dk_at dksX3_nearestDenominator_1 15 rfl rfl)
abbrev cX3_denominatorByTrying : ByteArray := prog_21_method_72_code
def yX3_denominatorByTrying : MethodName := ⟨RX3, "denominatorByTrying", "(III)I"⟩
def dkwX3_denominatorByTrying_0 : List UInt8 := [42, 27, 28, 29, 182, 0, 227, 172]
abbrev dktX3_denominatorByTrying_0 : List UInt8 := dkwX3_denominatorByTrying_0 ++ []
theorem dksX3_denominatorByTrying_0 : cX3_denominatorByTrying.data.toList.drop 0 = dktX3_denominatorByTrying_0 := by decide +kernel
theorem dX3_denominatorByTrying_0 : decode cX3_denominatorByTrying 0 = .ok (.aload_n 0, 1) := dk_42 (dk_at dksX3_denominatorByTrying_0 0 rfl rfl)
theorem dX3_denominatorByTrying_1 : decode cX3_denominatorByTrying 1 = .ok (.iload_n 1, 1) := dk_27 (dk_at dksX3_denominatorByTrying_0 1 rfl rfl)
theorem dX3_denominatorByTrying_2 : decode cX3_denominatorByTrying 2 = .ok (.iload_n 2, 1) := dk_28 (dk_at dksX3_denominatorByTrying_0 2 rfl rfl)
theorem dX3_denominatorByTrying_3 : decode cX3_denominatorByTrying 3 = .ok (.iload_n 3, 1) := dk_29 (dk_at dksX3_denominatorByTrying_0 3 rfl rfl)
theorem dX3_denominatorByTrying_4 : decode cX3_denominatorByTrying 4 = .ok (.invokevirtual 227, 3) := dk_182 0 227 (dk_at dksX3_denominatorByTrying_0 4 rfl rfl)
theorem dX3_denominatorByTrying_7 : decode cX3_denominatorByTrying 7 = .ok (.ireturn, 1) := dk_172 (dk_at dksX3_denominatorByTrying_0 7 rfl rfl)
abbrev cX3_bowlCount : ByteArray := prog_21_method_73_code
def yX3_bowlCount : MethodName := ⟨RX3, "bowlCount", "()I"⟩
def dkwX3_bowlCount_0 : List UInt8 := [42, 4, 182, 0, 194, 172]
abbrev dktX3_bowlCount_0 : List UInt8 := dkwX3_bowlCount_0 ++ []
theorem dksX3_bowlCount_0 : cX3_bowlCount.data.toList.drop 0 = dktX3_bowlCount_0 := by decide +kernel
theorem dX3_bowlCount_0 : decode cX3_bowlCount 0 = .ok (.aload_n 0, 1) := dk_42 (dk_at dksX3_bowlCount_0 0 rfl rfl)
theorem dX3_bowlCount_1 : decode cX3_bowlCount 1 = .ok (.iconst 1, 1) := dk_4 (dk_at dksX3_bowlCount_0 1 rfl rfl)
theorem dX3_bowlCount_2 : decode cX3_bowlCount 2 = .ok (.invokevirtual 194, 3) := dk_182 0 194 (dk_at dksX3_bowlCount_0 2 rfl rfl)
theorem dX3_bowlCount_5 : decode cX3_bowlCount 5 = .ok (.ireturn, 1) := dk_172 (dk_at dksX3_bowlCount_0 5 rfl rfl)
abbrev cX3_capacityOf : ByteArray := prog_21_method_75_code
def yX3_capacityOf : MethodName := ⟨RX3, "capacityOf", "(I)I"⟩
def dkwX3_capacityOf_0 : List UInt8 := [42, 27, 3, 182, 0, 230, 172]
abbrev dktX3_capacityOf_0 : List UInt8 := dkwX3_capacityOf_0 ++ []
theorem dksX3_capacityOf_0 : cX3_capacityOf.data.toList.drop 0 = dktX3_capacityOf_0 := by decide +kernel
theorem dX3_capacityOf_0 : decode cX3_capacityOf 0 = .ok (.aload_n 0, 1) := dk_42 (dk_at dksX3_capacityOf_0 0 rfl rfl)
theorem dX3_capacityOf_1 : decode cX3_capacityOf 1 = .ok (.iload_n 1, 1) := dk_27 (dk_at dksX3_capacityOf_0 1 rfl rfl)
theorem dX3_capacityOf_2 : decode cX3_capacityOf 2 = .ok (.iconst 0, 1) := dk_3 (dk_at dksX3_capacityOf_0 2 rfl rfl)
theorem dX3_capacityOf_3 : decode cX3_capacityOf 3 = .ok (.invokevirtual 230, 3) := dk_182 0 230 (dk_at dksX3_capacityOf_0 3 rfl rfl)
theorem dX3_capacityOf_6 : decode cX3_capacityOf 6 = .ok (.ireturn, 1) := dk_172 (dk_at dksX3_capacityOf_0 6 rfl rfl)
abbrev cX3_ofBowl : ByteArray := prog_21_method_74_code
def yX3_ofBowl : MethodName := ⟨RX3, "ofBowl", "(II)I"⟩
def dkwX3_ofBowl_1 : List UInt8 := [182, 0, 81, 172]
abbrev dktX3_ofBowl_1 : List UInt8 := dkwX3_ofBowl_1 ++ []
def dkwX3_ofBowl_0 : List UInt8 := [42, 3, 181, 0, 1, 42, 27, 182, 0, 157, 153, 0, 12, 42, 27, 28, 182, 0, 118, 167, 0, 8, 42, 4]
abbrev dktX3_ofBowl_0 : List UInt8 := dkwX3_ofBowl_0 ++ dktX3_ofBowl_1
theorem dksX3_ofBowl_0 : cX3_ofBowl.data.toList.drop 0 = dktX3_ofBowl_0 := by decide +kernel
theorem dksX3_ofBowl_1 : cX3_ofBowl.data.toList.drop 24 = dktX3_ofBowl_1 := dk_seg dksX3_ofBowl_0 24 rfl rfl
theorem dX3_ofBowl_0 : decode cX3_ofBowl 0 = .ok (.aload_n 0, 1) := dk_42 (dk_at dksX3_ofBowl_0 0 rfl rfl)
theorem dX3_ofBowl_1 : decode cX3_ofBowl 1 = .ok (.iconst 0, 1) := dk_3 (dk_at dksX3_ofBowl_0 1 rfl rfl)
theorem dX3_ofBowl_2 : decode cX3_ofBowl 2 = .ok (.putfield 1, 3) := dk_181 0 1 (dk_at dksX3_ofBowl_0 2 rfl rfl)
theorem dX3_ofBowl_5 : decode cX3_ofBowl 5 = .ok (.aload_n 0, 1) := dk_42 (dk_at dksX3_ofBowl_0 5 rfl rfl)
theorem dX3_ofBowl_6 : decode cX3_ofBowl 6 = .ok (.iload_n 1, 1) := dk_27 (dk_at dksX3_ofBowl_0 6 rfl rfl)
theorem dX3_ofBowl_7 : decode cX3_ofBowl 7 = .ok (.invokevirtual 157, 3) := dk_182 0 157 (dk_at dksX3_ofBowl_0 7 rfl rfl)
theorem dX3_ofBowl_10 : decode cX3_ofBowl 10 = .ok (.ifCond .eq 12, 3) := dk_153 0 12 (dk_at dksX3_ofBowl_0 10 rfl rfl)
theorem dX3_ofBowl_13 : decode cX3_ofBowl 13 = .ok (.aload_n 0, 1) := dk_42 (dk_at dksX3_ofBowl_0 13 rfl rfl)
theorem dX3_ofBowl_14 : decode cX3_ofBowl 14 = .ok (.iload_n 1, 1) := dk_27 (dk_at dksX3_ofBowl_0 14 rfl rfl)
theorem dX3_ofBowl_15 : decode cX3_ofBowl 15 = .ok (.iload_n 2, 1) := dk_28 (dk_at dksX3_ofBowl_0 15 rfl rfl)
theorem dX3_ofBowl_16 : decode cX3_ofBowl 16 = .ok (.invokevirtual 118, 3) := dk_182 0 118 (dk_at dksX3_ofBowl_0 16 rfl rfl)
theorem dX3_ofBowl_19 : decode cX3_ofBowl 19 = .ok (.goto 8, 3) := dk_167 0 8 (dk_at dksX3_ofBowl_0 19 rfl rfl)
theorem dX3_ofBowl_22 : decode cX3_ofBowl 22 = .ok (.aload_n 0, 1) := dk_42 (dk_at dksX3_ofBowl_0 22 rfl rfl)
theorem dX3_ofBowl_23 : decode cX3_ofBowl 23 = .ok (.iconst 1, 1) := dk_4 (dk_at dksX3_ofBowl_0 23 rfl rfl)
theorem dX3_ofBowl_24 : decode cX3_ofBowl 24 = .ok (.invokevirtual 81, 3) := dk_182 0 81 (dk_at dksX3_ofBowl_1 0 rfl rfl)
theorem dX3_ofBowl_27 : decode cX3_ofBowl 27 = .ok (.ireturn, 1) := dk_172 (dk_at dksX3_ofBowl_1 3 rfl rfl)
abbrev cX3_contentOf : ByteArray := prog_21_method_76_code
def yX3_contentOf : MethodName := ⟨RX3, "contentOf", "(I)I"⟩
def dkwX3_contentOf_0 : List UInt8 := [42, 27, 4, 182, 0, 230, 172]
abbrev dktX3_contentOf_0 : List UInt8 := dkwX3_contentOf_0 ++ []
theorem dksX3_contentOf_0 : cX3_contentOf.data.toList.drop 0 = dktX3_contentOf_0 := by decide +kernel
theorem dX3_contentOf_0 : decode cX3_contentOf 0 = .ok (.aload_n 0, 1) := dk_42 (dk_at dksX3_contentOf_0 0 rfl rfl)
theorem dX3_contentOf_1 : decode cX3_contentOf 1 = .ok (.iload_n 1, 1) := dk_27 (dk_at dksX3_contentOf_0 1 rfl rfl)
theorem dX3_contentOf_2 : decode cX3_contentOf 2 = .ok (.iconst 1, 1) := dk_4 (dk_at dksX3_contentOf_0 2 rfl rfl)
theorem dX3_contentOf_3 : decode cX3_contentOf 3 = .ok (.invokevirtual 230, 3) := dk_182 0 230 (dk_at dksX3_contentOf_0 3 rfl rfl)
theorem dX3_contentOf_6 : decode cX3_contentOf 6 = .ok (.ireturn, 1) := dk_172 (dk_at dksX3_contentOf_0 6 rfl rfl)
abbrev cX3_roomFrom : ByteArray := prog_21_method_77_code
def yX3_roomFrom : MethodName := ⟨RX3, "roomFrom", "(I)I"⟩
def dkwX3_roomFrom_2 : List UInt8 := [132, 3, 1, 167, 255, 228, 28, 172]
abbrev dktX3_roomFrom_2 : List UInt8 := dkwX3_roomFrom_2 ++ []
def dkwX3_roomFrom_1 : List UInt8 := [42, 4, 182, 0, 62, 162, 0, 25, 28, 42, 29, 3, 182, 0, 118, 42, 29, 4, 182, 0, 118, 100, 96, 61]
abbrev dktX3_roomFrom_1 : List UInt8 := dkwX3_roomFrom_1 ++ dktX3_roomFrom_2
def dkwX3_roomFrom_0 : List UInt8 := [42, 3, 181, 0, 1, 42, 27, 182, 0, 157, 154, 0, 9, 42, 4, 182, 0, 81, 172, 3, 61, 27, 62, 29]
abbrev dktX3_roomFrom_0 : List UInt8 := dkwX3_roomFrom_0 ++ dktX3_roomFrom_1
theorem dksX3_roomFrom_0 : cX3_roomFrom.data.toList.drop 0 = dktX3_roomFrom_0 := by decide +kernel
theorem dksX3_roomFrom_1 : cX3_roomFrom.data.toList.drop 24 = dktX3_roomFrom_1 := dk_seg dksX3_roomFrom_0 24 rfl rfl
theorem dksX3_roomFrom_2 : cX3_roomFrom.data.toList.drop 48 = dktX3_roomFrom_2 := dk_seg dksX3_roomFrom_1 24 rfl rfl
theorem dX3_roomFrom_0 : decode cX3_roomFrom 0 = .ok (.aload_n 0, 1) := dk_42 (dk_at dksX3_roomFrom_0 0 rfl rfl)
theorem dX3_roomFrom_1 : decode cX3_roomFrom 1 = .ok (.iconst 0, 1) := dk_3 (dk_at dksX3_roomFrom_0 1 rfl rfl)
theorem dX3_roomFrom_2 : decode cX3_roomFrom 2 = .ok (.putfield 1, 3) := dk_181 0 1 (dk_at dksX3_roomFrom_0 2 rfl rfl)
theorem dX3_roomFrom_5 : decode cX3_roomFrom 5 = .ok (.aload_n 0, 1) := dk_42 (dk_at dksX3_roomFrom_0 5 rfl rfl)
theorem dX3_roomFrom_6 : decode cX3_roomFrom 6 = .ok (.iload_n 1, 1) := dk_27 (dk_at dksX3_roomFrom_0 6 rfl rfl)
theorem dX3_roomFrom_7 : decode cX3_roomFrom 7 = .ok (.invokevirtual 157, 3) := dk_182 0 157 (dk_at dksX3_roomFrom_0 7 rfl rfl)
theorem dX3_roomFrom_10 : decode cX3_roomFrom 10 = .ok (.ifCond .ne 9, 3) := dk_154 0 9 (dk_at dksX3_roomFrom_0 10 rfl rfl)
theorem dX3_roomFrom_13 : decode cX3_roomFrom 13 = .ok (.aload_n 0, 1) := dk_42 (dk_at dksX3_roomFrom_0 13 rfl rfl)
theorem dX3_roomFrom_14 : decode cX3_roomFrom 14 = .ok (.iconst 1, 1) := dk_4 (dk_at dksX3_roomFrom_0 14 rfl rfl)
theorem dX3_roomFrom_15 : decode cX3_roomFrom 15 = .ok (.invokevirtual 81, 3) := dk_182 0 81 (dk_at dksX3_roomFrom_0 15 rfl rfl)
theorem dX3_roomFrom_18 : decode cX3_roomFrom 18 = .ok (.ireturn, 1) := dk_172 (dk_at dksX3_roomFrom_0 18 rfl rfl)
theorem dX3_roomFrom_19 : decode cX3_roomFrom 19 = .ok (.iconst 0, 1) := dk_3 (dk_at dksX3_roomFrom_0 19 rfl rfl)
theorem dX3_roomFrom_20 : decode cX3_roomFrom 20 = .ok (.istore_n 2, 1) := dk_61 (dk_at dksX3_roomFrom_0 20 rfl rfl)
theorem dX3_roomFrom_21 : decode cX3_roomFrom 21 = .ok (.iload_n 1, 1) := dk_27 (dk_at dksX3_roomFrom_0 21 rfl rfl)
theorem dX3_roomFrom_22 : decode cX3_roomFrom 22 = .ok (.istore_n 3, 1) := dk_62 (dk_at dksX3_roomFrom_0 22 rfl rfl)
theorem dX3_roomFrom_23 : decode cX3_roomFrom 23 = .ok (.iload_n 3, 1) := dk_29 (dk_at dksX3_roomFrom_0 23 rfl rfl)
theorem dX3_roomFrom_24 : decode cX3_roomFrom 24 = .ok (.aload_n 0, 1) := dk_42 (dk_at dksX3_roomFrom_1 0 rfl rfl)
theorem dX3_roomFrom_25 : decode cX3_roomFrom 25 = .ok (.iconst 1, 1) := dk_4 (dk_at dksX3_roomFrom_1 1 rfl rfl)
theorem dX3_roomFrom_26 : decode cX3_roomFrom 26 = .ok (.invokevirtual 62, 3) := dk_182 0 62 (dk_at dksX3_roomFrom_1 2 rfl rfl)
theorem dX3_roomFrom_29 : decode cX3_roomFrom 29 = .ok (.if_icmp .ge 25, 3) := dk_162 0 25 (dk_at dksX3_roomFrom_1 5 rfl rfl)
theorem dX3_roomFrom_32 : decode cX3_roomFrom 32 = .ok (.iload_n 2, 1) := dk_28 (dk_at dksX3_roomFrom_1 8 rfl rfl)
theorem dX3_roomFrom_33 : decode cX3_roomFrom 33 = .ok (.aload_n 0, 1) := dk_42 (dk_at dksX3_roomFrom_1 9 rfl rfl)
theorem dX3_roomFrom_34 : decode cX3_roomFrom 34 = .ok (.iload_n 3, 1) := dk_29 (dk_at dksX3_roomFrom_1 10 rfl rfl)
theorem dX3_roomFrom_35 : decode cX3_roomFrom 35 = .ok (.iconst 0, 1) := dk_3 (dk_at dksX3_roomFrom_1 11 rfl rfl)
theorem dX3_roomFrom_36 : decode cX3_roomFrom 36 = .ok (.invokevirtual 118, 3) := dk_182 0 118 (dk_at dksX3_roomFrom_1 12 rfl rfl)
theorem dX3_roomFrom_39 : decode cX3_roomFrom 39 = .ok (.aload_n 0, 1) := dk_42 (dk_at dksX3_roomFrom_1 15 rfl rfl)
theorem dX3_roomFrom_40 : decode cX3_roomFrom 40 = .ok (.iload_n 3, 1) := dk_29 (dk_at dksX3_roomFrom_1 16 rfl rfl)
theorem dX3_roomFrom_41 : decode cX3_roomFrom 41 = .ok (.iconst 1, 1) := dk_4 (dk_at dksX3_roomFrom_1 17 rfl rfl)
theorem dX3_roomFrom_42 : decode cX3_roomFrom 42 = .ok (.invokevirtual 118, 3) := dk_182 0 118 (dk_at dksX3_roomFrom_1 18 rfl rfl)
theorem dX3_roomFrom_45 : decode cX3_roomFrom 45 = .ok (.isub, 1) := dk_100 (dk_at dksX3_roomFrom_1 21 rfl rfl)
theorem dX3_roomFrom_46 : decode cX3_roomFrom 46 = .ok (.iadd, 1) := dk_96 (dk_at dksX3_roomFrom_1 22 rfl rfl)
theorem dX3_roomFrom_47 : decode cX3_roomFrom 47 = .ok (.istore_n 2, 1) := dk_61 (dk_at dksX3_roomFrom_1 23 rfl rfl)
theorem dX3_roomFrom_48 : decode cX3_roomFrom 48 = .ok (.iinc 3 1, 3) := dk_132 3 1 (dk_at dksX3_roomFrom_2 0 rfl rfl)
theorem dX3_roomFrom_51 : decode cX3_roomFrom 51 = .ok (.goto (-28), 3) := dk_167 255 228 (dk_at dksX3_roomFrom_2 3 rfl rfl)
theorem dX3_roomFrom_54 : decode cX3_roomFrom 54 = .ok (.iload_n 2, 1) := dk_28 (dk_at dksX3_roomFrom_2 6 rfl rfl)
theorem dX3_roomFrom_55 : decode cX3_roomFrom 55 = .ok (.ireturn, 1) := dk_172 (dk_at dksX3_roomFrom_2 7 rfl rfl)
abbrev cX3_fullestBowl : ByteArray := prog_21_method_78_code
def yX3_fullestBowl : MethodName := ⟨RX3, "fullestBowl", "()I"⟩
def dkwX3_fullestBowl_2 : List UInt8 := [167, 0, 4, 27, 60, 132, 2, 1, 167, 255, 223, 27, 172]
abbrev dktX3_fullestBowl_2 : List UInt8 := dkwX3_fullestBowl_2 ++ []
def dkwX3_fullestBowl_1 : List UInt8 := [42, 4, 182, 0, 62, 162, 0, 30, 42, 28, 4, 182, 0, 118, 42, 27, 4, 182, 0, 118, 164, 0, 7, 28]
abbrev dktX3_fullestBowl_1 : List UInt8 := dkwX3_fullestBowl_1 ++ dktX3_fullestBowl_2
def dkwX3_fullestBowl_0 : List UInt8 := [42, 3, 181, 0, 1, 42, 4, 182, 0, 62, 154, 0, 9, 42, 4, 182, 0, 81, 172, 3, 60, 4, 61, 28]
abbrev dktX3_fullestBowl_0 : List UInt8 := dkwX3_fullestBowl_0 ++ dktX3_fullestBowl_1
theorem dksX3_fullestBowl_0 : cX3_fullestBowl.data.toList.drop 0 = dktX3_fullestBowl_0 := by decide +kernel
theorem dksX3_fullestBowl_1 : cX3_fullestBowl.data.toList.drop 24 = dktX3_fullestBowl_1 := dk_seg dksX3_fullestBowl_0 24 rfl rfl
theorem dksX3_fullestBowl_2 : cX3_fullestBowl.data.toList.drop 48 = dktX3_fullestBowl_2 := dk_seg dksX3_fullestBowl_1 24 rfl rfl
theorem dX3_fullestBowl_0 : decode cX3_fullestBowl 0 = .ok (.aload_n 0, 1) := dk_42 (dk_at dksX3_fullestBowl_0 0 rfl rfl)
theorem dX3_fullestBowl_1 : decode cX3_fullestBowl 1 = .ok (.iconst 0, 1) := dk_3 (dk_at dksX3_fullestBowl_0 1 rfl rfl)
theorem dX3_fullestBowl_2 : decode cX3_fullestBowl 2 = .ok (.putfield 1, 3) := dk_181 0 1 (dk_at dksX3_fullestBowl_0 2 rfl rfl)
theorem dX3_fullestBowl_5 : decode cX3_fullestBowl 5 = .ok (.aload_n 0, 1) := dk_42 (dk_at dksX3_fullestBowl_0 5 rfl rfl)
theorem dX3_fullestBowl_6 : decode cX3_fullestBowl 6 = .ok (.iconst 1, 1) := dk_4 (dk_at dksX3_fullestBowl_0 6 rfl rfl)
theorem dX3_fullestBowl_7 : decode cX3_fullestBowl 7 = .ok (.invokevirtual 62, 3) := dk_182 0 62 (dk_at dksX3_fullestBowl_0 7 rfl rfl)
theorem dX3_fullestBowl_10 : decode cX3_fullestBowl 10 = .ok (.ifCond .ne 9, 3) := dk_154 0 9 (dk_at dksX3_fullestBowl_0 10 rfl rfl)
theorem dX3_fullestBowl_13 : decode cX3_fullestBowl 13 = .ok (.aload_n 0, 1) := dk_42 (dk_at dksX3_fullestBowl_0 13 rfl rfl)
theorem dX3_fullestBowl_14 : decode cX3_fullestBowl 14 = .ok (.iconst 1, 1) := dk_4 (dk_at dksX3_fullestBowl_0 14 rfl rfl)
theorem dX3_fullestBowl_15 : decode cX3_fullestBowl 15 = .ok (.invokevirtual 81, 3) := dk_182 0 81 (dk_at dksX3_fullestBowl_0 15 rfl rfl)
theorem dX3_fullestBowl_18 : decode cX3_fullestBowl 18 = .ok (.ireturn, 1) := dk_172 (dk_at dksX3_fullestBowl_0 18 rfl rfl)
theorem dX3_fullestBowl_19 : decode cX3_fullestBowl 19 = .ok (.iconst 0, 1) := dk_3 (dk_at dksX3_fullestBowl_0 19 rfl rfl)
theorem dX3_fullestBowl_20 : decode cX3_fullestBowl 20 = .ok (.istore_n 1, 1) := dk_60 (dk_at dksX3_fullestBowl_0 20 rfl rfl)
theorem dX3_fullestBowl_21 : decode cX3_fullestBowl 21 = .ok (.iconst 1, 1) := dk_4 (dk_at dksX3_fullestBowl_0 21 rfl rfl)
theorem dX3_fullestBowl_22 : decode cX3_fullestBowl 22 = .ok (.istore_n 2, 1) := dk_61 (dk_at dksX3_fullestBowl_0 22 rfl rfl)
theorem dX3_fullestBowl_23 : decode cX3_fullestBowl 23 = .ok (.iload_n 2, 1) := dk_28 (dk_at dksX3_fullestBowl_0 23 rfl rfl)
theorem dX3_fullestBowl_24 : decode cX3_fullestBowl 24 = .ok (.aload_n 0, 1) := dk_42 (dk_at dksX3_fullestBowl_1 0 rfl rfl)
theorem dX3_fullestBowl_25 : decode cX3_fullestBowl 25 = .ok (.iconst 1, 1) := dk_4 (dk_at dksX3_fullestBowl_1 1 rfl rfl)
theorem dX3_fullestBowl_26 : decode cX3_fullestBowl 26 = .ok (.invokevirtual 62, 3) := dk_182 0 62 (dk_at dksX3_fullestBowl_1 2 rfl rfl)
theorem dX3_fullestBowl_29 : decode cX3_fullestBowl 29 = .ok (.if_icmp .ge 30, 3) := dk_162 0 30 (dk_at dksX3_fullestBowl_1 5 rfl rfl)
theorem dX3_fullestBowl_32 : decode cX3_fullestBowl 32 = .ok (.aload_n 0, 1) := dk_42 (dk_at dksX3_fullestBowl_1 8 rfl rfl)
theorem dX3_fullestBowl_33 : decode cX3_fullestBowl 33 = .ok (.iload_n 2, 1) := dk_28 (dk_at dksX3_fullestBowl_1 9 rfl rfl)
theorem dX3_fullestBowl_34 : decode cX3_fullestBowl 34 = .ok (.iconst 1, 1) := dk_4 (dk_at dksX3_fullestBowl_1 10 rfl rfl)
theorem dX3_fullestBowl_35 : decode cX3_fullestBowl 35 = .ok (.invokevirtual 118, 3) := dk_182 0 118 (dk_at dksX3_fullestBowl_1 11 rfl rfl)
theorem dX3_fullestBowl_38 : decode cX3_fullestBowl 38 = .ok (.aload_n 0, 1) := dk_42 (dk_at dksX3_fullestBowl_1 14 rfl rfl)
theorem dX3_fullestBowl_39 : decode cX3_fullestBowl 39 = .ok (.iload_n 1, 1) := dk_27 (dk_at dksX3_fullestBowl_1 15 rfl rfl)
theorem dX3_fullestBowl_40 : decode cX3_fullestBowl 40 = .ok (.iconst 1, 1) := dk_4 (dk_at dksX3_fullestBowl_1 16 rfl rfl)
theorem dX3_fullestBowl_41 : decode cX3_fullestBowl 41 = .ok (.invokevirtual 118, 3) := dk_182 0 118 (dk_at dksX3_fullestBowl_1 17 rfl rfl)
theorem dX3_fullestBowl_44 : decode cX3_fullestBowl 44 = .ok (.if_icmp .le 7, 3) := dk_164 0 7 (dk_at dksX3_fullestBowl_1 20 rfl rfl)
theorem dX3_fullestBowl_47 : decode cX3_fullestBowl 47 = .ok (.iload_n 2, 1) := dk_28 (dk_at dksX3_fullestBowl_1 23 rfl rfl)
theorem dX3_fullestBowl_48 : decode cX3_fullestBowl 48 = .ok (.goto 4, 3) := dk_167 0 4 (dk_at dksX3_fullestBowl_2 0 rfl rfl)
theorem dX3_fullestBowl_51 : decode cX3_fullestBowl 51 = .ok (.iload_n 1, 1) := dk_27 (dk_at dksX3_fullestBowl_2 3 rfl rfl)
theorem dX3_fullestBowl_52 : decode cX3_fullestBowl 52 = .ok (.istore_n 1, 1) := dk_60 (dk_at dksX3_fullestBowl_2 4 rfl rfl)
theorem dX3_fullestBowl_53 : decode cX3_fullestBowl 53 = .ok (.iinc 2 1, 3) := dk_132 2 1 (dk_at dksX3_fullestBowl_2 5 rfl rfl)
theorem dX3_fullestBowl_56 : decode cX3_fullestBowl 56 = .ok (.goto (-33), 3) := dk_167 255 223 (dk_at dksX3_fullestBowl_2 8 rfl rfl)
theorem dX3_fullestBowl_59 : decode cX3_fullestBowl 59 = .ok (.iload_n 1, 1) := dk_27 (dk_at dksX3_fullestBowl_2 11 rfl rfl)
theorem dX3_fullestBowl_60 : decode cX3_fullestBowl 60 = .ok (.ireturn, 1) := dk_172 (dk_at dksX3_fullestBowl_2 12 rfl rfl)
abbrev cX3_loafCount : ByteArray := prog_21_method_79_code
def yX3_loafCount : MethodName := ⟨RX3, "loafCount", "()I"⟩
def dkwX3_loafCount_0 : List UInt8 := [42, 5, 182, 0, 194, 172]
abbrev dktX3_loafCount_0 : List UInt8 := dkwX3_loafCount_0 ++ []
theorem dksX3_loafCount_0 : cX3_loafCount.data.toList.drop 0 = dktX3_loafCount_0 := by decide +kernel
theorem dX3_loafCount_0 : decode cX3_loafCount 0 = .ok (.aload_n 0, 1) := dk_42 (dk_at dksX3_loafCount_0 0 rfl rfl)
theorem dX3_loafCount_1 : decode cX3_loafCount 1 = .ok (.iconst 2, 1) := dk_5 (dk_at dksX3_loafCount_0 1 rfl rfl)
theorem dX3_loafCount_2 : decode cX3_loafCount 2 = .ok (.invokevirtual 194, 3) := dk_182 0 194 (dk_at dksX3_loafCount_0 2 rfl rfl)
theorem dX3_loafCount_5 : decode cX3_loafCount 5 = .ok (.ireturn, 1) := dk_172 (dk_at dksX3_loafCount_0 5 rfl rfl)
abbrev cX3_weightOf : ByteArray := prog_21_method_81_code
def yX3_weightOf : MethodName := ⟨RX3, "weightOf", "(I)I"⟩
def dkwX3_weightOf_0 : List UInt8 := [42, 27, 3, 182, 0, 233, 172]
abbrev dktX3_weightOf_0 : List UInt8 := dkwX3_weightOf_0 ++ []
theorem dksX3_weightOf_0 : cX3_weightOf.data.toList.drop 0 = dktX3_weightOf_0 := by decide +kernel
theorem dX3_weightOf_0 : decode cX3_weightOf 0 = .ok (.aload_n 0, 1) := dk_42 (dk_at dksX3_weightOf_0 0 rfl rfl)
theorem dX3_weightOf_1 : decode cX3_weightOf 1 = .ok (.iload_n 1, 1) := dk_27 (dk_at dksX3_weightOf_0 1 rfl rfl)
theorem dX3_weightOf_2 : decode cX3_weightOf 2 = .ok (.iconst 0, 1) := dk_3 (dk_at dksX3_weightOf_0 2 rfl rfl)
theorem dX3_weightOf_3 : decode cX3_weightOf 3 = .ok (.invokevirtual 233, 3) := dk_182 0 233 (dk_at dksX3_weightOf_0 3 rfl rfl)
theorem dX3_weightOf_6 : decode cX3_weightOf 6 = .ok (.ireturn, 1) := dk_172 (dk_at dksX3_weightOf_0 6 rfl rfl)
abbrev cX3_ofLoaf : ByteArray := prog_21_method_80_code
def yX3_ofLoaf : MethodName := ⟨RX3, "ofLoaf", "(II)I"⟩
def dkwX3_ofLoaf_1 : List UInt8 := [182, 0, 81, 172]
abbrev dktX3_ofLoaf_1 : List UInt8 := dkwX3_ofLoaf_1 ++ []
def dkwX3_ofLoaf_0 : List UInt8 := [42, 3, 181, 0, 1, 42, 27, 182, 0, 136, 153, 0, 12, 42, 27, 28, 182, 0, 121, 167, 0, 8, 42, 4]
abbrev dktX3_ofLoaf_0 : List UInt8 := dkwX3_ofLoaf_0 ++ dktX3_ofLoaf_1
theorem dksX3_ofLoaf_0 : cX3_ofLoaf.data.toList.drop 0 = dktX3_ofLoaf_0 := by decide +kernel
theorem dksX3_ofLoaf_1 : cX3_ofLoaf.data.toList.drop 24 = dktX3_ofLoaf_1 := dk_seg dksX3_ofLoaf_0 24 rfl rfl
theorem dX3_ofLoaf_0 : decode cX3_ofLoaf 0 = .ok (.aload_n 0, 1) := dk_42 (dk_at dksX3_ofLoaf_0 0 rfl rfl)
theorem dX3_ofLoaf_1 : decode cX3_ofLoaf 1 = .ok (.iconst 0, 1) := dk_3 (dk_at dksX3_ofLoaf_0 1 rfl rfl)
theorem dX3_ofLoaf_2 : decode cX3_ofLoaf 2 = .ok (.putfield 1, 3) := dk_181 0 1 (dk_at dksX3_ofLoaf_0 2 rfl rfl)
theorem dX3_ofLoaf_5 : decode cX3_ofLoaf 5 = .ok (.aload_n 0, 1) := dk_42 (dk_at dksX3_ofLoaf_0 5 rfl rfl)
theorem dX3_ofLoaf_6 : decode cX3_ofLoaf 6 = .ok (.iload_n 1, 1) := dk_27 (dk_at dksX3_ofLoaf_0 6 rfl rfl)
theorem dX3_ofLoaf_7 : decode cX3_ofLoaf 7 = .ok (.invokevirtual 136, 3) := dk_182 0 136 (dk_at dksX3_ofLoaf_0 7 rfl rfl)
theorem dX3_ofLoaf_10 : decode cX3_ofLoaf 10 = .ok (.ifCond .eq 12, 3) := dk_153 0 12 (dk_at dksX3_ofLoaf_0 10 rfl rfl)
theorem dX3_ofLoaf_13 : decode cX3_ofLoaf 13 = .ok (.aload_n 0, 1) := dk_42 (dk_at dksX3_ofLoaf_0 13 rfl rfl)
theorem dX3_ofLoaf_14 : decode cX3_ofLoaf 14 = .ok (.iload_n 1, 1) := dk_27 (dk_at dksX3_ofLoaf_0 14 rfl rfl)
theorem dX3_ofLoaf_15 : decode cX3_ofLoaf 15 = .ok (.iload_n 2, 1) := dk_28 (dk_at dksX3_ofLoaf_0 15 rfl rfl)
theorem dX3_ofLoaf_16 : decode cX3_ofLoaf 16 = .ok (.invokevirtual 121, 3) := dk_182 0 121 (dk_at dksX3_ofLoaf_0 16 rfl rfl)
theorem dX3_ofLoaf_19 : decode cX3_ofLoaf 19 = .ok (.goto 8, 3) := dk_167 0 8 (dk_at dksX3_ofLoaf_0 19 rfl rfl)
theorem dX3_ofLoaf_22 : decode cX3_ofLoaf 22 = .ok (.aload_n 0, 1) := dk_42 (dk_at dksX3_ofLoaf_0 22 rfl rfl)
theorem dX3_ofLoaf_23 : decode cX3_ofLoaf 23 = .ok (.iconst 1, 1) := dk_4 (dk_at dksX3_ofLoaf_0 23 rfl rfl)
theorem dX3_ofLoaf_24 : decode cX3_ofLoaf 24 = .ok (.invokevirtual 81, 3) := dk_182 0 81 (dk_at dksX3_ofLoaf_1 0 rfl rfl)
theorem dX3_ofLoaf_27 : decode cX3_ofLoaf 27 = .ok (.ireturn, 1) := dk_172 (dk_at dksX3_ofLoaf_1 3 rfl rfl)
abbrev cX3_minutesOf : ByteArray := prog_21_method_82_code
def yX3_minutesOf : MethodName := ⟨RX3, "minutesOf", "(I)I"⟩
def dkwX3_minutesOf_0 : List UInt8 := [42, 27, 4, 182, 0, 233, 172]
abbrev dktX3_minutesOf_0 : List UInt8 := dkwX3_minutesOf_0 ++ []
theorem dksX3_minutesOf_0 : cX3_minutesOf.data.toList.drop 0 = dktX3_minutesOf_0 := by decide +kernel
theorem dX3_minutesOf_0 : decode cX3_minutesOf 0 = .ok (.aload_n 0, 1) := dk_42 (dk_at dksX3_minutesOf_0 0 rfl rfl)
theorem dX3_minutesOf_1 : decode cX3_minutesOf 1 = .ok (.iload_n 1, 1) := dk_27 (dk_at dksX3_minutesOf_0 1 rfl rfl)
theorem dX3_minutesOf_2 : decode cX3_minutesOf 2 = .ok (.iconst 1, 1) := dk_4 (dk_at dksX3_minutesOf_0 2 rfl rfl)
theorem dX3_minutesOf_3 : decode cX3_minutesOf 3 = .ok (.invokevirtual 233, 3) := dk_182 0 233 (dk_at dksX3_minutesOf_0 3 rfl rfl)
theorem dX3_minutesOf_6 : decode cX3_minutesOf 6 = .ok (.ireturn, 1) := dk_172 (dk_at dksX3_minutesOf_0 6 rfl rfl)
abbrev cX3_crumbsOf : ByteArray := prog_21_method_83_code
def yX3_crumbsOf : MethodName := ⟨RX3, "crumbsOf", "(I)I"⟩
def dkwX3_crumbsOf_0 : List UInt8 := [42, 27, 5, 182, 0, 233, 172]
abbrev dktX3_crumbsOf_0 : List UInt8 := dkwX3_crumbsOf_0 ++ []
theorem dksX3_crumbsOf_0 : cX3_crumbsOf.data.toList.drop 0 = dktX3_crumbsOf_0 := by decide +kernel
theorem dX3_crumbsOf_0 : decode cX3_crumbsOf 0 = .ok (.aload_n 0, 1) := dk_42 (dk_at dksX3_crumbsOf_0 0 rfl rfl)
theorem dX3_crumbsOf_1 : decode cX3_crumbsOf 1 = .ok (.iload_n 1, 1) := dk_27 (dk_at dksX3_crumbsOf_0 1 rfl rfl)
theorem dX3_crumbsOf_2 : decode cX3_crumbsOf 2 = .ok (.iconst 2, 1) := dk_5 (dk_at dksX3_crumbsOf_0 2 rfl rfl)
theorem dX3_crumbsOf_3 : decode cX3_crumbsOf 3 = .ok (.invokevirtual 233, 3) := dk_182 0 233 (dk_at dksX3_crumbsOf_0 3 rfl rfl)
theorem dX3_crumbsOf_6 : decode cX3_crumbsOf 6 = .ok (.ireturn, 1) := dk_172 (dk_at dksX3_crumbsOf_0 6 rfl rfl)
abbrev cX3_share : ByteArray := prog_21_method_84_code
def yX3_share : MethodName := ⟨RX3, "share", "(II)I"⟩
def dkwX3_share_1 : List UInt8 := [4, 182, 0, 118, 28, 182, 0, 182, 167, 0, 8, 42, 4, 182, 0, 81, 172]
abbrev dktX3_share_1 : List UInt8 := dkwX3_share_1 ++ []
def dkwX3_share_0 : List UInt8 := [42, 3, 181, 0, 1, 42, 27, 182, 0, 157, 153, 0, 25, 42, 28, 182, 0, 136, 153, 0, 17, 42, 42, 27]
abbrev dktX3_share_0 : List UInt8 := dkwX3_share_0 ++ dktX3_share_1
theorem dksX3_share_0 : cX3_share.data.toList.drop 0 = dktX3_share_0 := by decide +kernel
theorem dksX3_share_1 : cX3_share.data.toList.drop 24 = dktX3_share_1 := dk_seg dksX3_share_0 24 rfl rfl
theorem dX3_share_0 : decode cX3_share 0 = .ok (.aload_n 0, 1) := dk_42 (dk_at dksX3_share_0 0 rfl rfl)
theorem dX3_share_1 : decode cX3_share 1 = .ok (.iconst 0, 1) := dk_3 (dk_at dksX3_share_0 1 rfl rfl)
theorem dX3_share_2 : decode cX3_share 2 = .ok (.putfield 1, 3) := dk_181 0 1 (dk_at dksX3_share_0 2 rfl rfl)
theorem dX3_share_5 : decode cX3_share 5 = .ok (.aload_n 0, 1) := dk_42 (dk_at dksX3_share_0 5 rfl rfl)
theorem dX3_share_6 : decode cX3_share 6 = .ok (.iload_n 1, 1) := dk_27 (dk_at dksX3_share_0 6 rfl rfl)
theorem dX3_share_7 : decode cX3_share 7 = .ok (.invokevirtual 157, 3) := dk_182 0 157 (dk_at dksX3_share_0 7 rfl rfl)
theorem dX3_share_10 : decode cX3_share 10 = .ok (.ifCond .eq 25, 3) := dk_153 0 25 (dk_at dksX3_share_0 10 rfl rfl)
theorem dX3_share_13 : decode cX3_share 13 = .ok (.aload_n 0, 1) := dk_42 (dk_at dksX3_share_0 13 rfl rfl)
theorem dX3_share_14 : decode cX3_share 14 = .ok (.iload_n 2, 1) := dk_28 (dk_at dksX3_share_0 14 rfl rfl)
theorem dX3_share_15 : decode cX3_share 15 = .ok (.invokevirtual 136, 3) := dk_182 0 136 (dk_at dksX3_share_0 15 rfl rfl)
theorem dX3_share_18 : decode cX3_share 18 = .ok (.ifCond .eq 17, 3) := dk_153 0 17 (dk_at dksX3_share_0 18 rfl rfl)
theorem dX3_share_21 : decode cX3_share 21 = .ok (.aload_n 0, 1) := dk_42 (dk_at dksX3_share_0 21 rfl rfl)
theorem dX3_share_22 : decode cX3_share 22 = .ok (.aload_n 0, 1) := dk_42 (dk_at dksX3_share_0 22 rfl rfl)
theorem dX3_share_23 : decode cX3_share 23 = .ok (.iload_n 1, 1) := dk_27 (dk_at dksX3_share_0 23 rfl rfl)
theorem dX3_share_24 : decode cX3_share 24 = .ok (.iconst 1, 1) := dk_4 (dk_at dksX3_share_1 0 rfl rfl)
theorem dX3_share_25 : decode cX3_share 25 = .ok (.invokevirtual 118, 3) := dk_182 0 118 (dk_at dksX3_share_1 1 rfl rfl)
theorem dX3_share_28 : decode cX3_share 28 = .ok (.iload_n 2, 1) := dk_28 (dk_at dksX3_share_1 4 rfl rfl)
theorem dX3_share_29 : decode cX3_share 29 = .ok (.invokevirtual 182, 3) := dk_182 0 182 (dk_at dksX3_share_1 5 rfl rfl)
theorem dX3_share_32 : decode cX3_share 32 = .ok (.goto 8, 3) := dk_167 0 8 (dk_at dksX3_share_1 8 rfl rfl)
theorem dX3_share_35 : decode cX3_share 35 = .ok (.aload_n 0, 1) := dk_42 (dk_at dksX3_share_1 11 rfl rfl)
theorem dX3_share_36 : decode cX3_share 36 = .ok (.iconst 1, 1) := dk_4 (dk_at dksX3_share_1 12 rfl rfl)
theorem dX3_share_37 : decode cX3_share 37 = .ok (.invokevirtual 81, 3) := dk_182 0 81 (dk_at dksX3_share_1 13 rfl rfl)
theorem dX3_share_40 : decode cX3_share 40 = .ok (.ireturn, 1) := dk_172 (dk_at dksX3_share_1 16 rfl rfl)
abbrev cX3_shareByRanks : ByteArray := prog_21_method_85_code
def yX3_shareByRanks : MethodName := ⟨RX3, "shareByRanks", "(II)I"⟩
def dkwX3_shareByRanks_0 : List UInt8 := [42, 27, 28, 182, 0, 236, 172]
abbrev dktX3_shareByRanks_0 : List UInt8 := dkwX3_shareByRanks_0 ++ []
theorem dksX3_shareByRanks_0 : cX3_shareByRanks.data.toList.drop 0 = dktX3_shareByRanks_0 := by decide +kernel
theorem dX3_shareByRanks_0 : decode cX3_shareByRanks 0 = .ok (.aload_n 0, 1) := dk_42 (dk_at dksX3_shareByRanks_0 0 rfl rfl)
theorem dX3_shareByRanks_1 : decode cX3_shareByRanks 1 = .ok (.iload_n 1, 1) := dk_27 (dk_at dksX3_shareByRanks_0 1 rfl rfl)
theorem dX3_shareByRanks_2 : decode cX3_shareByRanks 2 = .ok (.iload_n 2, 1) := dk_28 (dk_at dksX3_shareByRanks_0 2 rfl rfl)
theorem dX3_shareByRanks_3 : decode cX3_shareByRanks 3 = .ok (.invokevirtual 236, 3) := dk_182 0 236 (dk_at dksX3_shareByRanks_0 3 rfl rfl)
theorem dX3_shareByRanks_6 : decode cX3_shareByRanks 6 = .ok (.ireturn, 1) := dk_172 (dk_at dksX3_shareByRanks_0 6 rfl rfl)
abbrev cX3_loafByCrumbs : ByteArray := prog_21_method_87_code
def yX3_loafByCrumbs : MethodName := ⟨RX3, "loafByCrumbs", "(I)I"⟩
def dkwX3_loafByCrumbs_1 : List UInt8 := [5, 182, 0, 239, 172]
abbrev dktX3_loafByCrumbs_1 : List UInt8 := dkwX3_loafByCrumbs_1 ++ []
def dkwX3_loafByCrumbs_0 : List UInt8 := [42, 3, 181, 0, 1, 42, 27, 5, 182, 0, 239, 156, 0, 11, 42, 4, 182, 0, 81, 167, 0, 9, 42, 27]
abbrev dktX3_loafByCrumbs_0 : List UInt8 := dkwX3_loafByCrumbs_0 ++ dktX3_loafByCrumbs_1
theorem dksX3_loafByCrumbs_0 : cX3_loafByCrumbs.data.toList.drop 0 = dktX3_loafByCrumbs_0 := by decide +kernel
theorem dksX3_loafByCrumbs_1 : cX3_loafByCrumbs.data.toList.drop 24 = dktX3_loafByCrumbs_1 := dk_seg dksX3_loafByCrumbs_0 24 rfl rfl
theorem dX3_loafByCrumbs_0 : decode cX3_loafByCrumbs 0 = .ok (.aload_n 0, 1) := dk_42 (dk_at dksX3_loafByCrumbs_0 0 rfl rfl)
theorem dX3_loafByCrumbs_1 : decode cX3_loafByCrumbs 1 = .ok (.iconst 0, 1) := dk_3 (dk_at dksX3_loafByCrumbs_0 1 rfl rfl)
theorem dX3_loafByCrumbs_2 : decode cX3_loafByCrumbs 2 = .ok (.putfield 1, 3) := dk_181 0 1 (dk_at dksX3_loafByCrumbs_0 2 rfl rfl)
theorem dX3_loafByCrumbs_5 : decode cX3_loafByCrumbs 5 = .ok (.aload_n 0, 1) := dk_42 (dk_at dksX3_loafByCrumbs_0 5 rfl rfl)
theorem dX3_loafByCrumbs_6 : decode cX3_loafByCrumbs 6 = .ok (.iload_n 1, 1) := dk_27 (dk_at dksX3_loafByCrumbs_0 6 rfl rfl)
theorem dX3_loafByCrumbs_7 : decode cX3_loafByCrumbs 7 = .ok (.iconst 2, 1) := dk_5 (dk_at dksX3_loafByCrumbs_0 7 rfl rfl)
theorem dX3_loafByCrumbs_8 : decode cX3_loafByCrumbs 8 = .ok (.invokevirtual 239, 3) := dk_182 0 239 (dk_at dksX3_loafByCrumbs_0 8 rfl rfl)
theorem dX3_loafByCrumbs_11 : decode cX3_loafByCrumbs 11 = .ok (.ifCond .ge 11, 3) := dk_156 0 11 (dk_at dksX3_loafByCrumbs_0 11 rfl rfl)
theorem dX3_loafByCrumbs_14 : decode cX3_loafByCrumbs 14 = .ok (.aload_n 0, 1) := dk_42 (dk_at dksX3_loafByCrumbs_0 14 rfl rfl)
theorem dX3_loafByCrumbs_15 : decode cX3_loafByCrumbs 15 = .ok (.iconst 1, 1) := dk_4 (dk_at dksX3_loafByCrumbs_0 15 rfl rfl)
theorem dX3_loafByCrumbs_16 : decode cX3_loafByCrumbs 16 = .ok (.invokevirtual 81, 3) := dk_182 0 81 (dk_at dksX3_loafByCrumbs_0 16 rfl rfl)
theorem dX3_loafByCrumbs_19 : decode cX3_loafByCrumbs 19 = .ok (.goto 9, 3) := dk_167 0 9 (dk_at dksX3_loafByCrumbs_0 19 rfl rfl)
theorem dX3_loafByCrumbs_22 : decode cX3_loafByCrumbs 22 = .ok (.aload_n 0, 1) := dk_42 (dk_at dksX3_loafByCrumbs_0 22 rfl rfl)
theorem dX3_loafByCrumbs_23 : decode cX3_loafByCrumbs 23 = .ok (.iload_n 1, 1) := dk_27 (dk_at dksX3_loafByCrumbs_0 23 rfl rfl)
theorem dX3_loafByCrumbs_24 : decode cX3_loafByCrumbs 24 = .ok (.iconst 2, 1) := dk_5 (dk_at dksX3_loafByCrumbs_1 0 rfl rfl)
theorem dX3_loafByCrumbs_25 : decode cX3_loafByCrumbs 25 = .ok (.invokevirtual 239, 3) := dk_182 0 239 (dk_at dksX3_loafByCrumbs_1 1 rfl rfl)
theorem dX3_loafByCrumbs_28 : decode cX3_loafByCrumbs 28 = .ok (.ireturn, 1) := dk_172 (dk_at dksX3_loafByCrumbs_1 4 rfl rfl)
abbrev cX3_ranked : ByteArray := prog_21_method_86_code
def yX3_ranked : MethodName := ⟨RX3, "ranked", "(II)I"⟩
def dkwX3_ranked_4 : List UInt8 := [172]
abbrev dktX3_ranked_4 : List UInt8 := dkwX3_ranked_4 ++ []
def dkwX3_ranked_3 : List UInt8 := [96, 54, 4, 132, 5, 1, 167, 255, 195, 21, 4, 27, 160, 0, 5, 29, 172, 132, 3, 1, 167, 255, 166, 2]
abbrev dktX3_ranked_3 : List UInt8 := dkwX3_ranked_3 ++ dktX3_ranked_4
def dkwX3_ranked_2 : List UInt8 := [28, 182, 0, 121, 42, 29, 28, 182, 0, 121, 160, 0, 13, 21, 5, 29, 162, 0, 7, 4, 167, 0, 4, 3]
abbrev dktX3_ranked_2 : List UInt8 := dkwX3_ranked_2 ++ dktX3_ranked_3
def dkwX3_ranked_1 : List UInt8 := [162, 0, 57, 21, 4, 42, 21, 5, 28, 182, 0, 121, 42, 29, 28, 182, 0, 121, 163, 0, 25, 42, 21, 5]
abbrev dktX3_ranked_1 : List UInt8 := dkwX3_ranked_1 ++ dktX3_ranked_2
def dkwX3_ranked_0 : List UInt8 := [3, 62, 29, 42, 5, 182, 0, 62, 162, 0, 87, 3, 54, 4, 3, 54, 5, 21, 5, 42, 5, 182, 0, 62]
abbrev dktX3_ranked_0 : List UInt8 := dkwX3_ranked_0 ++ dktX3_ranked_1
theorem dksX3_ranked_0 : cX3_ranked.data.toList.drop 0 = dktX3_ranked_0 := by decide +kernel
theorem dksX3_ranked_1 : cX3_ranked.data.toList.drop 24 = dktX3_ranked_1 := dk_seg dksX3_ranked_0 24 rfl rfl
theorem dksX3_ranked_2 : cX3_ranked.data.toList.drop 48 = dktX3_ranked_2 := dk_seg dksX3_ranked_1 24 rfl rfl
theorem dksX3_ranked_3 : cX3_ranked.data.toList.drop 72 = dktX3_ranked_3 := dk_seg dksX3_ranked_2 24 rfl rfl
theorem dksX3_ranked_4 : cX3_ranked.data.toList.drop 96 = dktX3_ranked_4 := dk_seg dksX3_ranked_3 24 rfl rfl
theorem dX3_ranked_0 : decode cX3_ranked 0 = .ok (.iconst 0, 1) := dk_3 (dk_at dksX3_ranked_0 0 rfl rfl)
theorem dX3_ranked_1 : decode cX3_ranked 1 = .ok (.istore_n 3, 1) := dk_62 (dk_at dksX3_ranked_0 1 rfl rfl)
theorem dX3_ranked_2 : decode cX3_ranked 2 = .ok (.iload_n 3, 1) := dk_29 (dk_at dksX3_ranked_0 2 rfl rfl)
theorem dX3_ranked_3 : decode cX3_ranked 3 = .ok (.aload_n 0, 1) := dk_42 (dk_at dksX3_ranked_0 3 rfl rfl)
theorem dX3_ranked_4 : decode cX3_ranked 4 = .ok (.iconst 2, 1) := dk_5 (dk_at dksX3_ranked_0 4 rfl rfl)
theorem dX3_ranked_5 : decode cX3_ranked 5 = .ok (.invokevirtual 62, 3) := dk_182 0 62 (dk_at dksX3_ranked_0 5 rfl rfl)
theorem dX3_ranked_8 : decode cX3_ranked 8 = .ok (.if_icmp .ge 87, 3) := dk_162 0 87 (dk_at dksX3_ranked_0 8 rfl rfl)
theorem dX3_ranked_11 : decode cX3_ranked 11 = .ok (.iconst 0, 1) := dk_3 (dk_at dksX3_ranked_0 11 rfl rfl)
theorem dX3_ranked_12 : decode cX3_ranked 12 = .ok (.istore 4, 2) := dk_54 4 (dk_at dksX3_ranked_0 12 rfl rfl)
theorem dX3_ranked_14 : decode cX3_ranked 14 = .ok (.iconst 0, 1) := dk_3 (dk_at dksX3_ranked_0 14 rfl rfl)
theorem dX3_ranked_15 : decode cX3_ranked 15 = .ok (.istore 5, 2) := dk_54 5 (dk_at dksX3_ranked_0 15 rfl rfl)
theorem dX3_ranked_17 : decode cX3_ranked 17 = .ok (.iload 5, 2) := dk_21 5 (dk_at dksX3_ranked_0 17 rfl rfl)
theorem dX3_ranked_19 : decode cX3_ranked 19 = .ok (.aload_n 0, 1) := dk_42 (dk_at dksX3_ranked_0 19 rfl rfl)
theorem dX3_ranked_20 : decode cX3_ranked 20 = .ok (.iconst 2, 1) := dk_5 (dk_at dksX3_ranked_0 20 rfl rfl)
theorem dX3_ranked_21 : decode cX3_ranked 21 = .ok (.invokevirtual 62, 3) := dk_182 0 62 (dk_at dksX3_ranked_0 21 rfl rfl)
theorem dX3_ranked_24 : decode cX3_ranked 24 = .ok (.if_icmp .ge 57, 3) := dk_162 0 57 (dk_at dksX3_ranked_1 0 rfl rfl)
theorem dX3_ranked_27 : decode cX3_ranked 27 = .ok (.iload 4, 2) := dk_21 4 (dk_at dksX3_ranked_1 3 rfl rfl)
theorem dX3_ranked_29 : decode cX3_ranked 29 = .ok (.aload_n 0, 1) := dk_42 (dk_at dksX3_ranked_1 5 rfl rfl)
theorem dX3_ranked_30 : decode cX3_ranked 30 = .ok (.iload 5, 2) := dk_21 5 (dk_at dksX3_ranked_1 6 rfl rfl)
theorem dX3_ranked_32 : decode cX3_ranked 32 = .ok (.iload_n 2, 1) := dk_28 (dk_at dksX3_ranked_1 8 rfl rfl)
theorem dX3_ranked_33 : decode cX3_ranked 33 = .ok (.invokevirtual 121, 3) := dk_182 0 121 (dk_at dksX3_ranked_1 9 rfl rfl)
theorem dX3_ranked_36 : decode cX3_ranked 36 = .ok (.aload_n 0, 1) := dk_42 (dk_at dksX3_ranked_1 12 rfl rfl)
theorem dX3_ranked_37 : decode cX3_ranked 37 = .ok (.iload_n 3, 1) := dk_29 (dk_at dksX3_ranked_1 13 rfl rfl)
theorem dX3_ranked_38 : decode cX3_ranked 38 = .ok (.iload_n 2, 1) := dk_28 (dk_at dksX3_ranked_1 14 rfl rfl)
theorem dX3_ranked_39 : decode cX3_ranked 39 = .ok (.invokevirtual 121, 3) := dk_182 0 121 (dk_at dksX3_ranked_1 15 rfl rfl)
theorem dX3_ranked_42 : decode cX3_ranked 42 = .ok (.if_icmp .gt 25, 3) := dk_163 0 25 (dk_at dksX3_ranked_1 18 rfl rfl)
theorem dX3_ranked_45 : decode cX3_ranked 45 = .ok (.aload_n 0, 1) := dk_42 (dk_at dksX3_ranked_1 21 rfl rfl)
theorem dX3_ranked_46 : decode cX3_ranked 46 = .ok (.iload 5, 2) := dk_21 5 (dk_at dksX3_ranked_1 22 rfl rfl)
theorem dX3_ranked_48 : decode cX3_ranked 48 = .ok (.iload_n 2, 1) := dk_28 (dk_at dksX3_ranked_2 0 rfl rfl)
theorem dX3_ranked_49 : decode cX3_ranked 49 = .ok (.invokevirtual 121, 3) := dk_182 0 121 (dk_at dksX3_ranked_2 1 rfl rfl)
theorem dX3_ranked_52 : decode cX3_ranked 52 = .ok (.aload_n 0, 1) := dk_42 (dk_at dksX3_ranked_2 4 rfl rfl)
theorem dX3_ranked_53 : decode cX3_ranked 53 = .ok (.iload_n 3, 1) := dk_29 (dk_at dksX3_ranked_2 5 rfl rfl)
theorem dX3_ranked_54 : decode cX3_ranked 54 = .ok (.iload_n 2, 1) := dk_28 (dk_at dksX3_ranked_2 6 rfl rfl)
theorem dX3_ranked_55 : decode cX3_ranked 55 = .ok (.invokevirtual 121, 3) := dk_182 0 121 (dk_at dksX3_ranked_2 7 rfl rfl)
theorem dX3_ranked_58 : decode cX3_ranked 58 = .ok (.if_icmp .ne 13, 3) := dk_160 0 13 (dk_at dksX3_ranked_2 10 rfl rfl)
theorem dX3_ranked_61 : decode cX3_ranked 61 = .ok (.iload 5, 2) := dk_21 5 (dk_at dksX3_ranked_2 13 rfl rfl)
theorem dX3_ranked_63 : decode cX3_ranked 63 = .ok (.iload_n 3, 1) := dk_29 (dk_at dksX3_ranked_2 15 rfl rfl)
theorem dX3_ranked_64 : decode cX3_ranked 64 = .ok (.if_icmp .ge 7, 3) := dk_162 0 7 (dk_at dksX3_ranked_2 16 rfl rfl)
theorem dX3_ranked_67 : decode cX3_ranked 67 = .ok (.iconst 1, 1) := dk_4 (dk_at dksX3_ranked_2 19 rfl rfl)
theorem dX3_ranked_68 : decode cX3_ranked 68 = .ok (.goto 4, 3) := dk_167 0 4 (dk_at dksX3_ranked_2 20 rfl rfl)
theorem dX3_ranked_71 : decode cX3_ranked 71 = .ok (.iconst 0, 1) := dk_3 (dk_at dksX3_ranked_2 23 rfl rfl)
theorem dX3_ranked_72 : decode cX3_ranked 72 = .ok (.iadd, 1) := dk_96 (dk_at dksX3_ranked_3 0 rfl rfl)
theorem dX3_ranked_73 : decode cX3_ranked 73 = .ok (.istore 4, 2) := dk_54 4 (dk_at dksX3_ranked_3 1 rfl rfl)
theorem dX3_ranked_75 : decode cX3_ranked 75 = .ok (.iinc 5 1, 3) := dk_132 5 1 (dk_at dksX3_ranked_3 3 rfl rfl)
theorem dX3_ranked_78 : decode cX3_ranked 78 = .ok (.goto (-61), 3) := dk_167 255 195 (dk_at dksX3_ranked_3 6 rfl rfl)
theorem dX3_ranked_81 : decode cX3_ranked 81 = .ok (.iload 4, 2) := dk_21 4 (dk_at dksX3_ranked_3 9 rfl rfl)
theorem dX3_ranked_83 : decode cX3_ranked 83 = .ok (.iload_n 1, 1) := dk_27 (dk_at dksX3_ranked_3 11 rfl rfl)
theorem dX3_ranked_84 : decode cX3_ranked 84 = .ok (.if_icmp .ne 5, 3) := dk_160 0 5 (dk_at dksX3_ranked_3 12 rfl rfl)
theorem dX3_ranked_87 : decode cX3_ranked 87 = .ok (.iload_n 3, 1) := dk_29 (dk_at dksX3_ranked_3 15 rfl rfl)
theorem dX3_ranked_88 : decode cX3_ranked 88 = .ok (.ireturn, 1) := dk_172 (dk_at dksX3_ranked_3 16 rfl rfl)
theorem dX3_ranked_89 : decode cX3_ranked 89 = .ok (.iinc 3 1, 3) := dk_132 3 1 (dk_at dksX3_ranked_3 17 rfl rfl)
theorem dX3_ranked_92 : decode cX3_ranked 92 = .ok (.goto (-90), 3) := dk_167 255 166 (dk_at dksX3_ranked_3 20 rfl rfl)
theorem dX3_ranked_95 : decode cX3_ranked 95 = .ok (.iconst (-1), 1) := dk_2 (dk_at dksX3_ranked_3 23 rfl rfl)
theorem dX3_ranked_96 : decode cX3_ranked 96 = .ok (.ireturn, 1) := dk_172 (dk_at dksX3_ranked_4 0 rfl rfl)
abbrev cX3_ovens : ByteArray := prog_21_method_88_code
def yX3_ovens : MethodName := ⟨RX3, "ovens", "()I"⟩
def dkwX3_ovens_0 : List UInt8 := [42, 8, 182, 0, 194, 172]
abbrev dktX3_ovens_0 : List UInt8 := dkwX3_ovens_0 ++ []
theorem dksX3_ovens_0 : cX3_ovens.data.toList.drop 0 = dktX3_ovens_0 := by decide +kernel
theorem dX3_ovens_0 : decode cX3_ovens 0 = .ok (.aload_n 0, 1) := dk_42 (dk_at dksX3_ovens_0 0 rfl rfl)
theorem dX3_ovens_1 : decode cX3_ovens 1 = .ok (.iconst 5, 1) := dk_8 (dk_at dksX3_ovens_0 1 rfl rfl)
theorem dX3_ovens_2 : decode cX3_ovens 2 = .ok (.invokevirtual 194, 3) := dk_182 0 194 (dk_at dksX3_ovens_0 2 rfl rfl)
theorem dX3_ovens_5 : decode cX3_ovens 5 = .ok (.ireturn, 1) := dk_172 (dk_at dksX3_ovens_0 5 rfl rfl)
abbrev cX3_shortestTime : ByteArray := prog_21_method_92_code
def yX3_shortestTime : MethodName := ⟨RX3, "shortestTime", "()I"⟩
def dkwX3_shortestTime_3 : List UInt8 := [172]
abbrev dktX3_shortestTime_3 : List UInt8 := dkwX3_shortestTime_3 ++ []
def dkwX3_shortestTime_2 : List UInt8 := [182, 0, 248, 28, 162, 0, 11, 42, 29, 182, 0, 248, 167, 0, 4, 28, 61, 132, 3, 1, 167, 255, 229, 28]
abbrev dktX3_shortestTime_2 : List UInt8 := dkwX3_shortestTime_2 ++ dktX3_shortestTime_3
def dkwX3_shortestTime_1 : List UInt8 := [104, 60, 132, 2, 1, 167, 255, 236, 42, 3, 182, 0, 248, 61, 4, 62, 29, 27, 162, 0, 28, 42, 29]
abbrev dktX3_shortestTime_1 : List UInt8 := dkwX3_shortestTime_1 ++ dktX3_shortestTime_2
def dkwX3_shortestTime_0 : List UInt8 := [42, 3, 181, 0, 1, 4, 60, 3, 61, 28, 42, 5, 182, 0, 62, 162, 0, 17, 27, 42, 8, 182, 0, 62]
abbrev dktX3_shortestTime_0 : List UInt8 := dkwX3_shortestTime_0 ++ dktX3_shortestTime_1
theorem dksX3_shortestTime_0 : cX3_shortestTime.data.toList.drop 0 = dktX3_shortestTime_0 := by decide +kernel
theorem dksX3_shortestTime_1 : cX3_shortestTime.data.toList.drop 24 = dktX3_shortestTime_1 := dk_seg dksX3_shortestTime_0 24 rfl rfl
theorem dksX3_shortestTime_2 : cX3_shortestTime.data.toList.drop 47 = dktX3_shortestTime_2 := dk_seg dksX3_shortestTime_1 23 rfl rfl
theorem dksX3_shortestTime_3 : cX3_shortestTime.data.toList.drop 71 = dktX3_shortestTime_3 := dk_seg dksX3_shortestTime_2 24 rfl rfl
theorem dX3_shortestTime_0 : decode cX3_shortestTime 0 = .ok (.aload_n 0, 1) := dk_42 (dk_at dksX3_shortestTime_0 0 rfl rfl)
theorem dX3_shortestTime_1 : decode cX3_shortestTime 1 = .ok (.iconst 0, 1) := dk_3 (dk_at dksX3_shortestTime_0 1 rfl rfl)
theorem dX3_shortestTime_2 : decode cX3_shortestTime 2 = .ok (.putfield 1, 3) := dk_181 0 1 (dk_at dksX3_shortestTime_0 2 rfl rfl)
theorem dX3_shortestTime_5 : decode cX3_shortestTime 5 = .ok (.iconst 1, 1) := dk_4 (dk_at dksX3_shortestTime_0 5 rfl rfl)
theorem dX3_shortestTime_6 : decode cX3_shortestTime 6 = .ok (.istore_n 1, 1) := dk_60 (dk_at dksX3_shortestTime_0 6 rfl rfl)
theorem dX3_shortestTime_7 : decode cX3_shortestTime 7 = .ok (.iconst 0, 1) := dk_3 (dk_at dksX3_shortestTime_0 7 rfl rfl)
theorem dX3_shortestTime_8 : decode cX3_shortestTime 8 = .ok (.istore_n 2, 1) := dk_61 (dk_at dksX3_shortestTime_0 8 rfl rfl)
theorem dX3_shortestTime_9 : decode cX3_shortestTime 9 = .ok (.iload_n 2, 1) := dk_28 (dk_at dksX3_shortestTime_0 9 rfl rfl)
theorem dX3_shortestTime_10 : decode cX3_shortestTime 10 = .ok (.aload_n 0, 1) := dk_42 (dk_at dksX3_shortestTime_0 10 rfl rfl)
theorem dX3_shortestTime_11 : decode cX3_shortestTime 11 = .ok (.iconst 2, 1) := dk_5 (dk_at dksX3_shortestTime_0 11 rfl rfl)
theorem dX3_shortestTime_12 : decode cX3_shortestTime 12 = .ok (.invokevirtual 62, 3) := dk_182 0 62 (dk_at dksX3_shortestTime_0 12 rfl rfl)
theorem dX3_shortestTime_15 : decode cX3_shortestTime 15 = .ok (.if_icmp .ge 17, 3) := dk_162 0 17 (dk_at dksX3_shortestTime_0 15 rfl rfl)
theorem dX3_shortestTime_18 : decode cX3_shortestTime 18 = .ok (.iload_n 1, 1) := dk_27 (dk_at dksX3_shortestTime_0 18 rfl rfl)
theorem dX3_shortestTime_19 : decode cX3_shortestTime 19 = .ok (.aload_n 0, 1) := dk_42 (dk_at dksX3_shortestTime_0 19 rfl rfl)
theorem dX3_shortestTime_20 : decode cX3_shortestTime 20 = .ok (.iconst 5, 1) := dk_8 (dk_at dksX3_shortestTime_0 20 rfl rfl)
theorem dX3_shortestTime_21 : decode cX3_shortestTime 21 = .ok (.invokevirtual 62, 3) := dk_182 0 62 (dk_at dksX3_shortestTime_0 21 rfl rfl)
theorem dX3_shortestTime_24 : decode cX3_shortestTime 24 = .ok (.imul, 1) := dk_104 (dk_at dksX3_shortestTime_1 0 rfl rfl)
theorem dX3_shortestTime_25 : decode cX3_shortestTime 25 = .ok (.istore_n 1, 1) := dk_60 (dk_at dksX3_shortestTime_1 1 rfl rfl)
theorem dX3_shortestTime_26 : decode cX3_shortestTime 26 = .ok (.iinc 2 1, 3) := dk_132 2 1 (dk_at dksX3_shortestTime_1 2 rfl rfl)
theorem dX3_shortestTime_29 : decode cX3_shortestTime 29 = .ok (.goto (-20), 3) := dk_167 255 236 (dk_at dksX3_shortestTime_1 5 rfl rfl)
theorem dX3_shortestTime_32 : decode cX3_shortestTime 32 = .ok (.aload_n 0, 1) := dk_42 (dk_at dksX3_shortestTime_1 8 rfl rfl)
theorem dX3_shortestTime_33 : decode cX3_shortestTime 33 = .ok (.iconst 0, 1) := dk_3 (dk_at dksX3_shortestTime_1 9 rfl rfl)
theorem dX3_shortestTime_34 : decode cX3_shortestTime 34 = .ok (.invokevirtual 248, 3) := dk_182 0 248 (dk_at dksX3_shortestTime_1 10 rfl rfl)
theorem dX3_shortestTime_37 : decode cX3_shortestTime 37 = .ok (.istore_n 2, 1) := dk_61 (dk_at dksX3_shortestTime_1 13 rfl rfl)
theorem dX3_shortestTime_38 : decode cX3_shortestTime 38 = .ok (.iconst 1, 1) := dk_4 (dk_at dksX3_shortestTime_1 14 rfl rfl)
theorem dX3_shortestTime_39 : decode cX3_shortestTime 39 = .ok (.istore_n 3, 1) := dk_62 (dk_at dksX3_shortestTime_1 15 rfl rfl)
theorem dX3_shortestTime_40 : decode cX3_shortestTime 40 = .ok (.iload_n 3, 1) := dk_29 (dk_at dksX3_shortestTime_1 16 rfl rfl)
theorem dX3_shortestTime_41 : decode cX3_shortestTime 41 = .ok (.iload_n 1, 1) := dk_27 (dk_at dksX3_shortestTime_1 17 rfl rfl)
theorem dX3_shortestTime_42 : decode cX3_shortestTime 42 = .ok (.if_icmp .ge 28, 3) := dk_162 0 28 (dk_at dksX3_shortestTime_1 18 rfl rfl)
theorem dX3_shortestTime_45 : decode cX3_shortestTime 45 = .ok (.aload_n 0, 1) := dk_42 (dk_at dksX3_shortestTime_1 21 rfl rfl)
theorem dX3_shortestTime_46 : decode cX3_shortestTime 46 = .ok (.iload_n 3, 1) := dk_29 (dk_at dksX3_shortestTime_1 22 rfl rfl)
theorem dX3_shortestTime_47 : decode cX3_shortestTime 47 = .ok (.invokevirtual 248, 3) := dk_182 0 248 (dk_at dksX3_shortestTime_2 0 rfl rfl)
theorem dX3_shortestTime_50 : decode cX3_shortestTime 50 = .ok (.iload_n 2, 1) := dk_28 (dk_at dksX3_shortestTime_2 3 rfl rfl)
theorem dX3_shortestTime_51 : decode cX3_shortestTime 51 = .ok (.if_icmp .ge 11, 3) := dk_162 0 11 (dk_at dksX3_shortestTime_2 4 rfl rfl)
theorem dX3_shortestTime_54 : decode cX3_shortestTime 54 = .ok (.aload_n 0, 1) := dk_42 (dk_at dksX3_shortestTime_2 7 rfl rfl)
theorem dX3_shortestTime_55 : decode cX3_shortestTime 55 = .ok (.iload_n 3, 1) := dk_29 (dk_at dksX3_shortestTime_2 8 rfl rfl)
theorem dX3_shortestTime_56 : decode cX3_shortestTime 56 = .ok (.invokevirtual 248, 3) := dk_182 0 248 (dk_at dksX3_shortestTime_2 9 rfl rfl)
theorem dX3_shortestTime_59 : decode cX3_shortestTime 59 = .ok (.goto 4, 3) := dk_167 0 4 (dk_at dksX3_shortestTime_2 12 rfl rfl)
theorem dX3_shortestTime_62 : decode cX3_shortestTime 62 = .ok (.iload_n 2, 1) := dk_28 (dk_at dksX3_shortestTime_2 15 rfl rfl)
theorem dX3_shortestTime_63 : decode cX3_shortestTime 63 = .ok (.istore_n 2, 1) := dk_61 (dk_at dksX3_shortestTime_2 16 rfl rfl)
theorem dX3_shortestTime_64 : decode cX3_shortestTime 64 = .ok (.iinc 3 1, 3) := dk_132 3 1 (dk_at dksX3_shortestTime_2 17 rfl rfl)
theorem dX3_shortestTime_67 : decode cX3_shortestTime 67 = .ok (.goto (-27), 3) := dk_167 255 229 (dk_at dksX3_shortestTime_2 20 rfl rfl)
theorem dX3_shortestTime_70 : decode cX3_shortestTime 70 = .ok (.iload_n 2, 1) := dk_28 (dk_at dksX3_shortestTime_2 23 rfl rfl)
theorem dX3_shortestTime_71 : decode cX3_shortestTime 71 = .ok (.ireturn, 1) := dk_172 (dk_at dksX3_shortestTime_3 0 rfl rfl)
abbrev cX3_timeOf : ByteArray := prog_21_method_91_code
def yX3_timeOf : MethodName := ⟨RX3, "timeOf", "(I)I"⟩
def dkwX3_timeOf_2 : List UInt8 := [132, 3, 1, 167, 255, 215, 42, 182, 0, 245, 172]
abbrev dktX3_timeOf_2 : List UInt8 := dkwX3_timeOf_2 ++ []
def dkwX3_timeOf_1 : List UInt8 := [182, 0, 62, 112, 92, 46, 42, 29, 4, 182, 0, 121, 96, 79, 28, 42, 8, 182, 0, 62, 108, 61]
abbrev dktX3_timeOf_1 : List UInt8 := dkwX3_timeOf_1 ++ dktX3_timeOf_2
def dkwX3_timeOf_0 : List UInt8 := [42, 182, 0, 242, 27, 61, 3, 62, 29, 42, 5, 182, 0, 62, 162, 0, 38, 42, 180, 0, 26, 28, 42, 8]
abbrev dktX3_timeOf_0 : List UInt8 := dkwX3_timeOf_0 ++ dktX3_timeOf_1
theorem dksX3_timeOf_0 : cX3_timeOf.data.toList.drop 0 = dktX3_timeOf_0 := by decide +kernel
theorem dksX3_timeOf_1 : cX3_timeOf.data.toList.drop 24 = dktX3_timeOf_1 := dk_seg dksX3_timeOf_0 24 rfl rfl
theorem dksX3_timeOf_2 : cX3_timeOf.data.toList.drop 46 = dktX3_timeOf_2 := dk_seg dksX3_timeOf_1 22 rfl rfl
theorem dX3_timeOf_0 : decode cX3_timeOf 0 = .ok (.aload_n 0, 1) := dk_42 (dk_at dksX3_timeOf_0 0 rfl rfl)
theorem dX3_timeOf_1 : decode cX3_timeOf 1 = .ok (.invokevirtual 242, 3) := dk_182 0 242 (dk_at dksX3_timeOf_0 1 rfl rfl)
theorem dX3_timeOf_4 : decode cX3_timeOf 4 = .ok (.iload_n 1, 1) := dk_27 (dk_at dksX3_timeOf_0 4 rfl rfl)
theorem dX3_timeOf_5 : decode cX3_timeOf 5 = .ok (.istore_n 2, 1) := dk_61 (dk_at dksX3_timeOf_0 5 rfl rfl)
theorem dX3_timeOf_6 : decode cX3_timeOf 6 = .ok (.iconst 0, 1) := dk_3 (dk_at dksX3_timeOf_0 6 rfl rfl)
theorem dX3_timeOf_7 : decode cX3_timeOf 7 = .ok (.istore_n 3, 1) := dk_62 (dk_at dksX3_timeOf_0 7 rfl rfl)
theorem dX3_timeOf_8 : decode cX3_timeOf 8 = .ok (.iload_n 3, 1) := dk_29 (dk_at dksX3_timeOf_0 8 rfl rfl)
theorem dX3_timeOf_9 : decode cX3_timeOf 9 = .ok (.aload_n 0, 1) := dk_42 (dk_at dksX3_timeOf_0 9 rfl rfl)
theorem dX3_timeOf_10 : decode cX3_timeOf 10 = .ok (.iconst 2, 1) := dk_5 (dk_at dksX3_timeOf_0 10 rfl rfl)
theorem dX3_timeOf_11 : decode cX3_timeOf 11 = .ok (.invokevirtual 62, 3) := dk_182 0 62 (dk_at dksX3_timeOf_0 11 rfl rfl)
theorem dX3_timeOf_14 : decode cX3_timeOf 14 = .ok (.if_icmp .ge 38, 3) := dk_162 0 38 (dk_at dksX3_timeOf_0 14 rfl rfl)
theorem dX3_timeOf_17 : decode cX3_timeOf 17 = .ok (.aload_n 0, 1) := dk_42 (dk_at dksX3_timeOf_0 17 rfl rfl)
theorem dX3_timeOf_18 : decode cX3_timeOf 18 = .ok (.getfield 26, 3) := dk_180 0 26 (dk_at dksX3_timeOf_0 18 rfl rfl)
theorem dX3_timeOf_21 : decode cX3_timeOf 21 = .ok (.iload_n 2, 1) := dk_28 (dk_at dksX3_timeOf_0 21 rfl rfl)
theorem dX3_timeOf_22 : decode cX3_timeOf 22 = .ok (.aload_n 0, 1) := dk_42 (dk_at dksX3_timeOf_0 22 rfl rfl)
theorem dX3_timeOf_23 : decode cX3_timeOf 23 = .ok (.iconst 5, 1) := dk_8 (dk_at dksX3_timeOf_0 23 rfl rfl)
theorem dX3_timeOf_24 : decode cX3_timeOf 24 = .ok (.invokevirtual 62, 3) := dk_182 0 62 (dk_at dksX3_timeOf_1 0 rfl rfl)
theorem dX3_timeOf_27 : decode cX3_timeOf 27 = .ok (.irem, 1) := dk_112 (dk_at dksX3_timeOf_1 3 rfl rfl)
theorem dX3_timeOf_28 : decode cX3_timeOf 28 = .ok (.dup2, 1) := dk_92 (dk_at dksX3_timeOf_1 4 rfl rfl)
theorem dX3_timeOf_29 : decode cX3_timeOf 29 = .ok (.iaload, 1) := dk_46 (dk_at dksX3_timeOf_1 5 rfl rfl)
theorem dX3_timeOf_30 : decode cX3_timeOf 30 = .ok (.aload_n 0, 1) := dk_42 (dk_at dksX3_timeOf_1 6 rfl rfl)
theorem dX3_timeOf_31 : decode cX3_timeOf 31 = .ok (.iload_n 3, 1) := dk_29 (dk_at dksX3_timeOf_1 7 rfl rfl)
theorem dX3_timeOf_32 : decode cX3_timeOf 32 = .ok (.iconst 1, 1) := dk_4 (dk_at dksX3_timeOf_1 8 rfl rfl)
theorem dX3_timeOf_33 : decode cX3_timeOf 33 = .ok (.invokevirtual 121, 3) := dk_182 0 121 (dk_at dksX3_timeOf_1 9 rfl rfl)
theorem dX3_timeOf_36 : decode cX3_timeOf 36 = .ok (.iadd, 1) := dk_96 (dk_at dksX3_timeOf_1 12 rfl rfl)
theorem dX3_timeOf_37 : decode cX3_timeOf 37 = .ok (.iastore, 1) := dk_79 (dk_at dksX3_timeOf_1 13 rfl rfl)
theorem dX3_timeOf_38 : decode cX3_timeOf 38 = .ok (.iload_n 2, 1) := dk_28 (dk_at dksX3_timeOf_1 14 rfl rfl)
theorem dX3_timeOf_39 : decode cX3_timeOf 39 = .ok (.aload_n 0, 1) := dk_42 (dk_at dksX3_timeOf_1 15 rfl rfl)
theorem dX3_timeOf_40 : decode cX3_timeOf 40 = .ok (.iconst 5, 1) := dk_8 (dk_at dksX3_timeOf_1 16 rfl rfl)
theorem dX3_timeOf_41 : decode cX3_timeOf 41 = .ok (.invokevirtual 62, 3) := dk_182 0 62 (dk_at dksX3_timeOf_1 17 rfl rfl)
theorem dX3_timeOf_44 : decode cX3_timeOf 44 = .ok (.idiv, 1) := dk_108 (dk_at dksX3_timeOf_1 20 rfl rfl)
theorem dX3_timeOf_45 : decode cX3_timeOf 45 = .ok (.istore_n 2, 1) := dk_61 (dk_at dksX3_timeOf_1 21 rfl rfl)
theorem dX3_timeOf_46 : decode cX3_timeOf 46 = .ok (.iinc 3 1, 3) := dk_132 3 1 (dk_at dksX3_timeOf_2 0 rfl rfl)
theorem dX3_timeOf_49 : decode cX3_timeOf 49 = .ok (.goto (-41), 3) := dk_167 255 215 (dk_at dksX3_timeOf_2 3 rfl rfl)
theorem dX3_timeOf_52 : decode cX3_timeOf 52 = .ok (.aload_n 0, 1) := dk_42 (dk_at dksX3_timeOf_2 6 rfl rfl)
theorem dX3_timeOf_53 : decode cX3_timeOf 53 = .ok (.invokevirtual 245, 3) := dk_182 0 245 (dk_at dksX3_timeOf_2 7 rfl rfl)
theorem dX3_timeOf_56 : decode cX3_timeOf 56 = .ok (.ireturn, 1) := dk_172 (dk_at dksX3_timeOf_2 10 rfl rfl)
abbrev cX3_starts : ByteArray := prog_21_method_90_code
def yX3_starts : MethodName := ⟨RX3, "starts", "()V"⟩
def dkwX3_starts_0 : List UInt8 := [3, 60, 27, 6, 162, 0, 16, 42, 180, 0, 26, 27, 3, 79, 132, 1, 1, 167, 255, 241, 177]
abbrev dktX3_starts_0 : List UInt8 := dkwX3_starts_0 ++ []
theorem dksX3_starts_0 : cX3_starts.data.toList.drop 0 = dktX3_starts_0 := by decide +kernel
theorem dX3_starts_0 : decode cX3_starts 0 = .ok (.iconst 0, 1) := dk_3 (dk_at dksX3_starts_0 0 rfl rfl)
theorem dX3_starts_1 : decode cX3_starts 1 = .ok (.istore_n 1, 1) := dk_60 (dk_at dksX3_starts_0 1 rfl rfl)
theorem dX3_starts_2 : decode cX3_starts 2 = .ok (.iload_n 1, 1) := dk_27 (dk_at dksX3_starts_0 2 rfl rfl)
theorem dX3_starts_3 : decode cX3_starts 3 = .ok (.iconst 3, 1) := dk_6 (dk_at dksX3_starts_0 3 rfl rfl)
theorem dX3_starts_4 : decode cX3_starts 4 = .ok (.if_icmp .ge 16, 3) := dk_162 0 16 (dk_at dksX3_starts_0 4 rfl rfl)
theorem dX3_starts_7 : decode cX3_starts 7 = .ok (.aload_n 0, 1) := dk_42 (dk_at dksX3_starts_0 7 rfl rfl)
theorem dX3_starts_8 : decode cX3_starts 8 = .ok (.getfield 26, 3) := dk_180 0 26 (dk_at dksX3_starts_0 8 rfl rfl)
theorem dX3_starts_11 : decode cX3_starts 11 = .ok (.iload_n 1, 1) := dk_27 (dk_at dksX3_starts_0 11 rfl rfl)
theorem dX3_starts_12 : decode cX3_starts 12 = .ok (.iconst 0, 1) := dk_3 (dk_at dksX3_starts_0 12 rfl rfl)
theorem dX3_starts_13 : decode cX3_starts 13 = .ok (.iastore, 1) := dk_79 (dk_at dksX3_starts_0 13 rfl rfl)
theorem dX3_starts_14 : decode cX3_starts 14 = .ok (.iinc 1 1, 3) := dk_132 1 1 (dk_at dksX3_starts_0 14 rfl rfl)
theorem dX3_starts_17 : decode cX3_starts 17 = .ok (.goto (-15), 3) := dk_167 255 241 (dk_at dksX3_starts_0 17 rfl rfl)
theorem dX3_starts_20 : decode cX3_starts 20 = .ok (.return_, 1) := dk_177 (dk_at dksX3_starts_0 20 rfl rfl)
abbrev cX3_longest : ByteArray := prog_21_method_89_code
def yX3_longest : MethodName := ⟨RX3, "longest", "()I"⟩
def dkwX3_longest_1 : List UInt8 := [42, 180, 0, 26, 28, 46, 167, 0, 4, 27, 60, 132, 2, 1, 167, 255, 227, 27, 172]
abbrev dktX3_longest_1 : List UInt8 := dkwX3_longest_1 ++ []
def dkwX3_longest_0 : List UInt8 := [42, 180, 0, 26, 3, 46, 60, 4, 61, 28, 6, 162, 0, 30, 42, 180, 0, 26, 28, 46, 27, 164, 0, 12]
abbrev dktX3_longest_0 : List UInt8 := dkwX3_longest_0 ++ dktX3_longest_1
theorem dksX3_longest_0 : cX3_longest.data.toList.drop 0 = dktX3_longest_0 := by decide +kernel
theorem dksX3_longest_1 : cX3_longest.data.toList.drop 24 = dktX3_longest_1 := dk_seg dksX3_longest_0 24 rfl rfl
theorem dX3_longest_0 : decode cX3_longest 0 = .ok (.aload_n 0, 1) := dk_42 (dk_at dksX3_longest_0 0 rfl rfl)
theorem dX3_longest_1 : decode cX3_longest 1 = .ok (.getfield 26, 3) := dk_180 0 26 (dk_at dksX3_longest_0 1 rfl rfl)
theorem dX3_longest_4 : decode cX3_longest 4 = .ok (.iconst 0, 1) := dk_3 (dk_at dksX3_longest_0 4 rfl rfl)
theorem dX3_longest_5 : decode cX3_longest 5 = .ok (.iaload, 1) := dk_46 (dk_at dksX3_longest_0 5 rfl rfl)
theorem dX3_longest_6 : decode cX3_longest 6 = .ok (.istore_n 1, 1) := dk_60 (dk_at dksX3_longest_0 6 rfl rfl)
theorem dX3_longest_7 : decode cX3_longest 7 = .ok (.iconst 1, 1) := dk_4 (dk_at dksX3_longest_0 7 rfl rfl)
theorem dX3_longest_8 : decode cX3_longest 8 = .ok (.istore_n 2, 1) := dk_61 (dk_at dksX3_longest_0 8 rfl rfl)
theorem dX3_longest_9 : decode cX3_longest 9 = .ok (.iload_n 2, 1) := dk_28 (dk_at dksX3_longest_0 9 rfl rfl)
theorem dX3_longest_10 : decode cX3_longest 10 = .ok (.iconst 3, 1) := dk_6 (dk_at dksX3_longest_0 10 rfl rfl)
theorem dX3_longest_11 : decode cX3_longest 11 = .ok (.if_icmp .ge 30, 3) := dk_162 0 30 (dk_at dksX3_longest_0 11 rfl rfl)
theorem dX3_longest_14 : decode cX3_longest 14 = .ok (.aload_n 0, 1) := dk_42 (dk_at dksX3_longest_0 14 rfl rfl)
theorem dX3_longest_15 : decode cX3_longest 15 = .ok (.getfield 26, 3) := dk_180 0 26 (dk_at dksX3_longest_0 15 rfl rfl)
theorem dX3_longest_18 : decode cX3_longest 18 = .ok (.iload_n 2, 1) := dk_28 (dk_at dksX3_longest_0 18 rfl rfl)
theorem dX3_longest_19 : decode cX3_longest 19 = .ok (.iaload, 1) := dk_46 (dk_at dksX3_longest_0 19 rfl rfl)
theorem dX3_longest_20 : decode cX3_longest 20 = .ok (.iload_n 1, 1) := dk_27 (dk_at dksX3_longest_0 20 rfl rfl)
theorem dX3_longest_21 : decode cX3_longest 21 = .ok (.if_icmp .le 12, 3) := dk_164 0 12 (dk_at dksX3_longest_0 21 rfl rfl)
theorem dX3_longest_24 : decode cX3_longest 24 = .ok (.aload_n 0, 1) := dk_42 (dk_at dksX3_longest_1 0 rfl rfl)
theorem dX3_longest_25 : decode cX3_longest 25 = .ok (.getfield 26, 3) := dk_180 0 26 (dk_at dksX3_longest_1 1 rfl rfl)
theorem dX3_longest_28 : decode cX3_longest 28 = .ok (.iload_n 2, 1) := dk_28 (dk_at dksX3_longest_1 4 rfl rfl)
theorem dX3_longest_29 : decode cX3_longest 29 = .ok (.iaload, 1) := dk_46 (dk_at dksX3_longest_1 5 rfl rfl)
theorem dX3_longest_30 : decode cX3_longest 30 = .ok (.goto 4, 3) := dk_167 0 4 (dk_at dksX3_longest_1 6 rfl rfl)
theorem dX3_longest_33 : decode cX3_longest 33 = .ok (.iload_n 1, 1) := dk_27 (dk_at dksX3_longest_1 9 rfl rfl)
theorem dX3_longest_34 : decode cX3_longest 34 = .ok (.istore_n 1, 1) := dk_60 (dk_at dksX3_longest_1 10 rfl rfl)
theorem dX3_longest_35 : decode cX3_longest 35 = .ok (.iinc 2 1, 3) := dk_132 2 1 (dk_at dksX3_longest_1 11 rfl rfl)
theorem dX3_longest_38 : decode cX3_longest 38 = .ok (.goto (-29), 3) := dk_167 255 227 (dk_at dksX3_longest_1 14 rfl rfl)
theorem dX3_longest_41 : decode cX3_longest 41 = .ok (.iload_n 1, 1) := dk_27 (dk_at dksX3_longest_1 17 rfl rfl)
theorem dX3_longest_42 : decode cX3_longest 42 = .ok (.ireturn, 1) := dk_172 (dk_at dksX3_longest_1 18 rfl rfl)
abbrev cX3_shortestTimeByDeciding : ByteArray := prog_21_method_93_code
def yX3_shortestTimeByDeciding : MethodName := ⟨RX3, "shortestTimeByDeciding", "()I"⟩
theorem dX3_shortestTimeByDeciding_0 : decode cX3_shortestTimeByDeciding 0 = .ok (.aload_n 0, 1) := by decide +kernel
theorem dX3_shortestTimeByDeciding_1 : decode cX3_shortestTimeByDeciding 1 = .ok (.invokevirtual 251, 3) := by decide +kernel
theorem dX3_shortestTimeByDeciding_4 : decode cX3_shortestTimeByDeciding 4 = .ok (.ireturn, 1) := by decide +kernel
abbrev cX3_greedyTime : ByteArray := prog_21_method_94_code
def yX3_greedyTime : MethodName := ⟨RX3, "greedyTime", "()I"⟩
def dkwX3_greedyTime_3 : List UInt8 := [182, 0, 239, 4, 182, 0, 121, 96, 79, 132, 1, 1, 167, 255, 184, 42, 182, 0, 245, 172]
abbrev dktX3_greedyTime_3 : List UInt8 := dkwX3_greedyTime_3 ++ []
def dkwX3_greedyTime_2 : List UInt8 := [29, 167, 0, 4, 28, 61, 132, 3, 1, 167, 255, 223, 42, 180, 0, 26, 28, 92, 46, 42, 42, 27, 4]
abbrev dktX3_greedyTime_2 : List UInt8 := dkwX3_greedyTime_2 ++ dktX3_greedyTime_3
def dkwX3_greedyTime_1 : List UInt8 := [29, 42, 8, 182, 0, 62, 162, 0, 30, 42, 180, 0, 26, 29, 46, 42, 180, 0, 26, 28, 46, 162, 0, 7]
abbrev dktX3_greedyTime_1 : List UInt8 := dkwX3_greedyTime_1 ++ dktX3_greedyTime_2
def dkwX3_greedyTime_0 : List UInt8 := [42, 3, 181, 0, 1, 42, 182, 0, 242, 3, 60, 27, 42, 5, 182, 0, 62, 162, 0, 69, 3, 61, 4, 62]
abbrev dktX3_greedyTime_0 : List UInt8 := dkwX3_greedyTime_0 ++ dktX3_greedyTime_1
theorem dksX3_greedyTime_0 : cX3_greedyTime.data.toList.drop 0 = dktX3_greedyTime_0 := by decide +kernel
theorem dksX3_greedyTime_1 : cX3_greedyTime.data.toList.drop 24 = dktX3_greedyTime_1 := dk_seg dksX3_greedyTime_0 24 rfl rfl
theorem dksX3_greedyTime_2 : cX3_greedyTime.data.toList.drop 48 = dktX3_greedyTime_2 := dk_seg dksX3_greedyTime_1 24 rfl rfl
theorem dksX3_greedyTime_3 : cX3_greedyTime.data.toList.drop 71 = dktX3_greedyTime_3 := dk_seg dksX3_greedyTime_2 23 rfl rfl
theorem dX3_greedyTime_0 : decode cX3_greedyTime 0 = .ok (.aload_n 0, 1) := dk_42 (dk_at dksX3_greedyTime_0 0 rfl rfl)
theorem dX3_greedyTime_1 : decode cX3_greedyTime 1 = .ok (.iconst 0, 1) := dk_3 (dk_at dksX3_greedyTime_0 1 rfl rfl)
theorem dX3_greedyTime_2 : decode cX3_greedyTime 2 = .ok (.putfield 1, 3) := dk_181 0 1 (dk_at dksX3_greedyTime_0 2 rfl rfl)
theorem dX3_greedyTime_5 : decode cX3_greedyTime 5 = .ok (.aload_n 0, 1) := dk_42 (dk_at dksX3_greedyTime_0 5 rfl rfl)
theorem dX3_greedyTime_6 : decode cX3_greedyTime 6 = .ok (.invokevirtual 242, 3) := dk_182 0 242 (dk_at dksX3_greedyTime_0 6 rfl rfl)
theorem dX3_greedyTime_9 : decode cX3_greedyTime 9 = .ok (.iconst 0, 1) := dk_3 (dk_at dksX3_greedyTime_0 9 rfl rfl)
theorem dX3_greedyTime_10 : decode cX3_greedyTime 10 = .ok (.istore_n 1, 1) := dk_60 (dk_at dksX3_greedyTime_0 10 rfl rfl)
theorem dX3_greedyTime_11 : decode cX3_greedyTime 11 = .ok (.iload_n 1, 1) := dk_27 (dk_at dksX3_greedyTime_0 11 rfl rfl)
theorem dX3_greedyTime_12 : decode cX3_greedyTime 12 = .ok (.aload_n 0, 1) := dk_42 (dk_at dksX3_greedyTime_0 12 rfl rfl)
theorem dX3_greedyTime_13 : decode cX3_greedyTime 13 = .ok (.iconst 2, 1) := dk_5 (dk_at dksX3_greedyTime_0 13 rfl rfl)
theorem dX3_greedyTime_14 : decode cX3_greedyTime 14 = .ok (.invokevirtual 62, 3) := dk_182 0 62 (dk_at dksX3_greedyTime_0 14 rfl rfl)
theorem dX3_greedyTime_17 : decode cX3_greedyTime 17 = .ok (.if_icmp .ge 69, 3) := dk_162 0 69 (dk_at dksX3_greedyTime_0 17 rfl rfl)
theorem dX3_greedyTime_20 : decode cX3_greedyTime 20 = .ok (.iconst 0, 1) := dk_3 (dk_at dksX3_greedyTime_0 20 rfl rfl)
theorem dX3_greedyTime_21 : decode cX3_greedyTime 21 = .ok (.istore_n 2, 1) := dk_61 (dk_at dksX3_greedyTime_0 21 rfl rfl)
theorem dX3_greedyTime_22 : decode cX3_greedyTime 22 = .ok (.iconst 1, 1) := dk_4 (dk_at dksX3_greedyTime_0 22 rfl rfl)
theorem dX3_greedyTime_23 : decode cX3_greedyTime 23 = .ok (.istore_n 3, 1) := dk_62 (dk_at dksX3_greedyTime_0 23 rfl rfl)
theorem dX3_greedyTime_24 : decode cX3_greedyTime 24 = .ok (.iload_n 3, 1) := dk_29 (dk_at dksX3_greedyTime_1 0 rfl rfl)
theorem dX3_greedyTime_25 : decode cX3_greedyTime 25 = .ok (.aload_n 0, 1) := dk_42 (dk_at dksX3_greedyTime_1 1 rfl rfl)
theorem dX3_greedyTime_26 : decode cX3_greedyTime 26 = .ok (.iconst 5, 1) := dk_8 (dk_at dksX3_greedyTime_1 2 rfl rfl)
theorem dX3_greedyTime_27 : decode cX3_greedyTime 27 = .ok (.invokevirtual 62, 3) := dk_182 0 62 (dk_at dksX3_greedyTime_1 3 rfl rfl)
theorem dX3_greedyTime_30 : decode cX3_greedyTime 30 = .ok (.if_icmp .ge 30, 3) := dk_162 0 30 (dk_at dksX3_greedyTime_1 6 rfl rfl)
theorem dX3_greedyTime_33 : decode cX3_greedyTime 33 = .ok (.aload_n 0, 1) := dk_42 (dk_at dksX3_greedyTime_1 9 rfl rfl)
theorem dX3_greedyTime_34 : decode cX3_greedyTime 34 = .ok (.getfield 26, 3) := dk_180 0 26 (dk_at dksX3_greedyTime_1 10 rfl rfl)
theorem dX3_greedyTime_37 : decode cX3_greedyTime 37 = .ok (.iload_n 3, 1) := dk_29 (dk_at dksX3_greedyTime_1 13 rfl rfl)
theorem dX3_greedyTime_38 : decode cX3_greedyTime 38 = .ok (.iaload, 1) := dk_46 (dk_at dksX3_greedyTime_1 14 rfl rfl)
theorem dX3_greedyTime_39 : decode cX3_greedyTime 39 = .ok (.aload_n 0, 1) := dk_42 (dk_at dksX3_greedyTime_1 15 rfl rfl)
theorem dX3_greedyTime_40 : decode cX3_greedyTime 40 = .ok (.getfield 26, 3) := dk_180 0 26 (dk_at dksX3_greedyTime_1 16 rfl rfl)
theorem dX3_greedyTime_43 : decode cX3_greedyTime 43 = .ok (.iload_n 2, 1) := dk_28 (dk_at dksX3_greedyTime_1 19 rfl rfl)
theorem dX3_greedyTime_44 : decode cX3_greedyTime 44 = .ok (.iaload, 1) := dk_46 (dk_at dksX3_greedyTime_1 20 rfl rfl)
theorem dX3_greedyTime_45 : decode cX3_greedyTime 45 = .ok (.if_icmp .ge 7, 3) := dk_162 0 7 (dk_at dksX3_greedyTime_1 21 rfl rfl)
theorem dX3_greedyTime_48 : decode cX3_greedyTime 48 = .ok (.iload_n 3, 1) := dk_29 (dk_at dksX3_greedyTime_2 0 rfl rfl)
theorem dX3_greedyTime_49 : decode cX3_greedyTime 49 = .ok (.goto 4, 3) := dk_167 0 4 (dk_at dksX3_greedyTime_2 1 rfl rfl)
theorem dX3_greedyTime_52 : decode cX3_greedyTime 52 = .ok (.iload_n 2, 1) := dk_28 (dk_at dksX3_greedyTime_2 4 rfl rfl)
theorem dX3_greedyTime_53 : decode cX3_greedyTime 53 = .ok (.istore_n 2, 1) := dk_61 (dk_at dksX3_greedyTime_2 5 rfl rfl)
theorem dX3_greedyTime_54 : decode cX3_greedyTime 54 = .ok (.iinc 3 1, 3) := dk_132 3 1 (dk_at dksX3_greedyTime_2 6 rfl rfl)
theorem dX3_greedyTime_57 : decode cX3_greedyTime 57 = .ok (.goto (-33), 3) := dk_167 255 223 (dk_at dksX3_greedyTime_2 9 rfl rfl)
theorem dX3_greedyTime_60 : decode cX3_greedyTime 60 = .ok (.aload_n 0, 1) := dk_42 (dk_at dksX3_greedyTime_2 12 rfl rfl)
theorem dX3_greedyTime_61 : decode cX3_greedyTime 61 = .ok (.getfield 26, 3) := dk_180 0 26 (dk_at dksX3_greedyTime_2 13 rfl rfl)
theorem dX3_greedyTime_64 : decode cX3_greedyTime 64 = .ok (.iload_n 2, 1) := dk_28 (dk_at dksX3_greedyTime_2 16 rfl rfl)
theorem dX3_greedyTime_65 : decode cX3_greedyTime 65 = .ok (.dup2, 1) := dk_92 (dk_at dksX3_greedyTime_2 17 rfl rfl)
theorem dX3_greedyTime_66 : decode cX3_greedyTime 66 = .ok (.iaload, 1) := dk_46 (dk_at dksX3_greedyTime_2 18 rfl rfl)
theorem dX3_greedyTime_67 : decode cX3_greedyTime 67 = .ok (.aload_n 0, 1) := dk_42 (dk_at dksX3_greedyTime_2 19 rfl rfl)
theorem dX3_greedyTime_68 : decode cX3_greedyTime 68 = .ok (.aload_n 0, 1) := dk_42 (dk_at dksX3_greedyTime_2 20 rfl rfl)
theorem dX3_greedyTime_69 : decode cX3_greedyTime 69 = .ok (.iload_n 1, 1) := dk_27 (dk_at dksX3_greedyTime_2 21 rfl rfl)
theorem dX3_greedyTime_70 : decode cX3_greedyTime 70 = .ok (.iconst 1, 1) := dk_4 (dk_at dksX3_greedyTime_2 22 rfl rfl)
theorem dX3_greedyTime_71 : decode cX3_greedyTime 71 = .ok (.invokevirtual 239, 3) := dk_182 0 239 (dk_at dksX3_greedyTime_3 0 rfl rfl)
theorem dX3_greedyTime_74 : decode cX3_greedyTime 74 = .ok (.iconst 1, 1) := dk_4 (dk_at dksX3_greedyTime_3 3 rfl rfl)
theorem dX3_greedyTime_75 : decode cX3_greedyTime 75 = .ok (.invokevirtual 121, 3) := dk_182 0 121 (dk_at dksX3_greedyTime_3 4 rfl rfl)
theorem dX3_greedyTime_78 : decode cX3_greedyTime 78 = .ok (.iadd, 1) := dk_96 (dk_at dksX3_greedyTime_3 7 rfl rfl)
theorem dX3_greedyTime_79 : decode cX3_greedyTime 79 = .ok (.iastore, 1) := dk_79 (dk_at dksX3_greedyTime_3 8 rfl rfl)
theorem dX3_greedyTime_80 : decode cX3_greedyTime 80 = .ok (.iinc 1 1, 3) := dk_132 1 1 (dk_at dksX3_greedyTime_3 9 rfl rfl)
theorem dX3_greedyTime_83 : decode cX3_greedyTime 83 = .ok (.goto (-72), 3) := dk_167 255 184 (dk_at dksX3_greedyTime_3 12 rfl rfl)
theorem dX3_greedyTime_86 : decode cX3_greedyTime 86 = .ok (.aload_n 0, 1) := dk_42 (dk_at dksX3_greedyTime_3 15 rfl rfl)
theorem dX3_greedyTime_87 : decode cX3_greedyTime 87 = .ok (.invokevirtual 245, 3) := dk_182 0 245 (dk_at dksX3_greedyTime_3 16 rfl rfl)
theorem dX3_greedyTime_90 : decode cX3_greedyTime 90 = .ok (.ireturn, 1) := dk_172 (dk_at dksX3_greedyTime_3 19 rfl rfl)
abbrev cX3_pouredTotal : ByteArray := prog_21_method_96_code
def yX3_pouredTotal : MethodName := ⟨RX3, "pouredTotal", "()J"⟩
def dkwX3_pouredTotal_0 : List UInt8 := [42, 16, 6, 182, 0, 254, 173]
abbrev dktX3_pouredTotal_0 : List UInt8 := dkwX3_pouredTotal_0 ++ []
theorem dksX3_pouredTotal_0 : cX3_pouredTotal.data.toList.drop 0 = dktX3_pouredTotal_0 := by decide +kernel
theorem dX3_pouredTotal_0 : decode cX3_pouredTotal 0 = .ok (.aload_n 0, 1) := dk_42 (dk_at dksX3_pouredTotal_0 0 rfl rfl)
theorem dX3_pouredTotal_1 : decode cX3_pouredTotal 1 = .ok (.bipush 6, 2) := dk_16 6 (dk_at dksX3_pouredTotal_0 1 rfl rfl)
theorem dX3_pouredTotal_3 : decode cX3_pouredTotal 3 = .ok (.invokevirtual 254, 3) := dk_182 0 254 (dk_at dksX3_pouredTotal_0 3 rfl rfl)
theorem dX3_pouredTotal_6 : decode cX3_pouredTotal 6 = .ok (.lreturn, 1) := dk_173 (dk_at dksX3_pouredTotal_0 6 rfl rfl)
abbrev cX3_toldLong : ByteArray := prog_21_method_95_code
def yX3_toldLong : MethodName := ⟨RX3, "toldLong", "(I)J"⟩
def dkwX3_toldLong_0 : List UInt8 := [42, 3, 181, 0, 1, 42, 180, 0, 13, 27, 47, 173]
abbrev dktX3_toldLong_0 : List UInt8 := dkwX3_toldLong_0 ++ []
theorem dksX3_toldLong_0 : cX3_toldLong.data.toList.drop 0 = dktX3_toldLong_0 := by decide +kernel
theorem dX3_toldLong_0 : decode cX3_toldLong 0 = .ok (.aload_n 0, 1) := dk_42 (dk_at dksX3_toldLong_0 0 rfl rfl)
theorem dX3_toldLong_1 : decode cX3_toldLong 1 = .ok (.iconst 0, 1) := dk_3 (dk_at dksX3_toldLong_0 1 rfl rfl)
theorem dX3_toldLong_2 : decode cX3_toldLong 2 = .ok (.putfield 1, 3) := dk_181 0 1 (dk_at dksX3_toldLong_0 2 rfl rfl)
theorem dX3_toldLong_5 : decode cX3_toldLong 5 = .ok (.aload_n 0, 1) := dk_42 (dk_at dksX3_toldLong_0 5 rfl rfl)
theorem dX3_toldLong_6 : decode cX3_toldLong 6 = .ok (.getfield 13, 3) := dk_180 0 13 (dk_at dksX3_toldLong_0 6 rfl rfl)
theorem dX3_toldLong_9 : decode cX3_toldLong 9 = .ok (.iload_n 1, 1) := dk_27 (dk_at dksX3_toldLong_0 9 rfl rfl)
theorem dX3_toldLong_10 : decode cX3_toldLong 10 = .ok (.laload, 1) := dk_47 (dk_at dksX3_toldLong_0 10 rfl rfl)
theorem dX3_toldLong_11 : decode cX3_toldLong 11 = .ok (.lreturn, 1) := dk_173 (dk_at dksX3_toldLong_0 11 rfl rfl)
abbrev cX3_spilledTotal : ByteArray := prog_21_method_97_code
def yX3_spilledTotal : MethodName := ⟨RX3, "spilledTotal", "()J"⟩
def dkwX3_spilledTotal_0 : List UInt8 := [42, 16, 7, 182, 0, 254, 173]
abbrev dktX3_spilledTotal_0 : List UInt8 := dkwX3_spilledTotal_0 ++ []
theorem dksX3_spilledTotal_0 : cX3_spilledTotal.data.toList.drop 0 = dktX3_spilledTotal_0 := by decide +kernel
theorem dX3_spilledTotal_0 : decode cX3_spilledTotal 0 = .ok (.aload_n 0, 1) := dk_42 (dk_at dksX3_spilledTotal_0 0 rfl rfl)
theorem dX3_spilledTotal_1 : decode cX3_spilledTotal 1 = .ok (.bipush 7, 2) := dk_16 7 (dk_at dksX3_spilledTotal_0 1 rfl rfl)
theorem dX3_spilledTotal_3 : decode cX3_spilledTotal 3 = .ok (.invokevirtual 254, 3) := dk_182 0 254 (dk_at dksX3_spilledTotal_0 3 rfl rfl)
theorem dX3_spilledTotal_6 : decode cX3_spilledTotal 6 = .ok (.lreturn, 1) := dk_173 (dk_at dksX3_spilledTotal_0 6 rfl rfl)
abbrev cX3_goneTotal : ByteArray := prog_21_method_98_code
def yX3_goneTotal : MethodName := ⟨RX3, "goneTotal", "()J"⟩
def dkwX3_goneTotal_0 : List UInt8 := [42, 16, 8, 182, 0, 254, 173]
abbrev dktX3_goneTotal_0 : List UInt8 := dkwX3_goneTotal_0 ++ []
theorem dksX3_goneTotal_0 : cX3_goneTotal.data.toList.drop 0 = dktX3_goneTotal_0 := by decide +kernel
theorem dX3_goneTotal_0 : decode cX3_goneTotal 0 = .ok (.aload_n 0, 1) := dk_42 (dk_at dksX3_goneTotal_0 0 rfl rfl)
theorem dX3_goneTotal_1 : decode cX3_goneTotal 1 = .ok (.bipush 8, 2) := dk_16 8 (dk_at dksX3_goneTotal_0 1 rfl rfl)
theorem dX3_goneTotal_3 : decode cX3_goneTotal 3 = .ok (.invokevirtual 254, 3) := dk_182 0 254 (dk_at dksX3_goneTotal_0 3 rfl rfl)
theorem dX3_goneTotal_6 : decode cX3_goneTotal 6 = .ok (.lreturn, 1) := dk_173 (dk_at dksX3_goneTotal_0 6 rfl rfl)
abbrev cX3_crumbsNow : ByteArray := prog_21_method_99_code
def yX3_crumbsNow : MethodName := ⟨RX3, "crumbsNow", "()I"⟩
def dkwX3_crumbsNow_0 : List UInt8 := [42, 3, 181, 0, 1, 42, 182, 0, 142, 42, 182, 0, 145, 96, 172]
abbrev dktX3_crumbsNow_0 : List UInt8 := dkwX3_crumbsNow_0 ++ []
theorem dksX3_crumbsNow_0 : cX3_crumbsNow.data.toList.drop 0 = dktX3_crumbsNow_0 := by decide +kernel
theorem dX3_crumbsNow_0 : decode cX3_crumbsNow 0 = .ok (.aload_n 0, 1) := dk_42 (dk_at dksX3_crumbsNow_0 0 rfl rfl)
theorem dX3_crumbsNow_1 : decode cX3_crumbsNow 1 = .ok (.iconst 0, 1) := dk_3 (dk_at dksX3_crumbsNow_0 1 rfl rfl)
theorem dX3_crumbsNow_2 : decode cX3_crumbsNow 2 = .ok (.putfield 1, 3) := dk_181 0 1 (dk_at dksX3_crumbsNow_0 2 rfl rfl)
theorem dX3_crumbsNow_5 : decode cX3_crumbsNow 5 = .ok (.aload_n 0, 1) := dk_42 (dk_at dksX3_crumbsNow_0 5 rfl rfl)
theorem dX3_crumbsNow_6 : decode cX3_crumbsNow 6 = .ok (.invokevirtual 142, 3) := dk_182 0 142 (dk_at dksX3_crumbsNow_0 6 rfl rfl)
theorem dX3_crumbsNow_9 : decode cX3_crumbsNow 9 = .ok (.aload_n 0, 1) := dk_42 (dk_at dksX3_crumbsNow_0 9 rfl rfl)
theorem dX3_crumbsNow_10 : decode cX3_crumbsNow 10 = .ok (.invokevirtual 145, 3) := dk_182 0 145 (dk_at dksX3_crumbsNow_0 10 rfl rfl)
theorem dX3_crumbsNow_13 : decode cX3_crumbsNow 13 = .ok (.iadd, 1) := dk_96 (dk_at dksX3_crumbsNow_0 13 rfl rfl)
theorem dX3_crumbsNow_14 : decode cX3_crumbsNow 14 = .ok (.ireturn, 1) := dk_172 (dk_at dksX3_crumbsNow_0 14 rfl rfl)
abbrev cX3_crumbsByAccounts : ByteArray := prog_21_method_100_code
def yX3_crumbsByAccounts : MethodName := ⟨RX3, "crumbsByAccounts", "()J"⟩
def dkwX3_crumbsByAccounts_0 : List UInt8 := [42, 182, 1, 1, 133, 173]
abbrev dktX3_crumbsByAccounts_0 : List UInt8 := dkwX3_crumbsByAccounts_0 ++ []
theorem dksX3_crumbsByAccounts_0 : cX3_crumbsByAccounts.data.toList.drop 0 = dktX3_crumbsByAccounts_0 := by decide +kernel
theorem dX3_crumbsByAccounts_0 : decode cX3_crumbsByAccounts 0 = .ok (.aload_n 0, 1) := dk_42 (dk_at dksX3_crumbsByAccounts_0 0 rfl rfl)
theorem dX3_crumbsByAccounts_1 : decode cX3_crumbsByAccounts 1 = .ok (.invokevirtual 257, 3) := dk_182 1 1 (dk_at dksX3_crumbsByAccounts_0 1 rfl rfl)
theorem dX3_crumbsByAccounts_4 : decode cX3_crumbsByAccounts 4 = .ok (.i2l, 1) := dk_133 (dk_at dksX3_crumbsByAccounts_0 4 rfl rfl)
theorem dX3_crumbsByAccounts_5 : decode cX3_crumbsByAccounts 5 = .ok (.lreturn, 1) := dk_173 (dk_at dksX3_crumbsByAccounts_0 5 rfl rfl)
abbrev cX3_errorTotal : ByteArray := prog_21_method_101_code
def yX3_errorTotal : MethodName := ⟨RX3, "errorTotal", "()J"⟩
def dkwX3_errorTotal_0 : List UInt8 := [42, 16, 9, 182, 0, 254, 173]
abbrev dktX3_errorTotal_0 : List UInt8 := dkwX3_errorTotal_0 ++ []
theorem dksX3_errorTotal_0 : cX3_errorTotal.data.toList.drop 0 = dktX3_errorTotal_0 := by decide +kernel
theorem dX3_errorTotal_0 : decode cX3_errorTotal 0 = .ok (.aload_n 0, 1) := dk_42 (dk_at dksX3_errorTotal_0 0 rfl rfl)
theorem dX3_errorTotal_1 : decode cX3_errorTotal 1 = .ok (.bipush 9, 2) := dk_16 9 (dk_at dksX3_errorTotal_0 1 rfl rfl)
theorem dX3_errorTotal_3 : decode cX3_errorTotal 3 = .ok (.invokevirtual 254, 3) := dk_182 0 254 (dk_at dksX3_errorTotal_0 3 rfl rfl)
theorem dX3_errorTotal_6 : decode cX3_errorTotal 6 = .ok (.lreturn, 1) := dk_173 (dk_at dksX3_errorTotal_0 6 rfl rfl)
abbrev cX3_errorByAccounts : ByteArray := prog_21_method_102_code
def yX3_errorByAccounts : MethodName := ⟨RX3, "errorByAccounts", "()J"⟩
def dkwX3_errorByAccounts_0 : List UInt8 := [42, 16, 9, 182, 0, 254, 173]
abbrev dktX3_errorByAccounts_0 : List UInt8 := dkwX3_errorByAccounts_0 ++ []
theorem dksX3_errorByAccounts_0 : cX3_errorByAccounts.data.toList.drop 0 = dktX3_errorByAccounts_0 := by decide +kernel
theorem dX3_errorByAccounts_0 : decode cX3_errorByAccounts 0 = .ok (.aload_n 0, 1) := dk_42 (dk_at dksX3_errorByAccounts_0 0 rfl rfl)
theorem dX3_errorByAccounts_1 : decode cX3_errorByAccounts 1 = .ok (.bipush 9, 2) := dk_16 9 (dk_at dksX3_errorByAccounts_0 1 rfl rfl)
theorem dX3_errorByAccounts_3 : decode cX3_errorByAccounts 3 = .ok (.invokevirtual 254, 3) := dk_182 0 254 (dk_at dksX3_errorByAccounts_0 3 rfl rfl)
theorem dX3_errorByAccounts_6 : decode cX3_errorByAccounts 6 = .ok (.lreturn, 1) := dk_173 (dk_at dksX3_errorByAccounts_0 6 rfl rfl)
abbrev cX3_meanCrumbs : ByteArray := prog_21_method_103_code
def yX3_meanCrumbs : MethodName := ⟨RX3, "meanCrumbs", "()D"⟩
def dkwX3_meanCrumbs_1 : List UInt8 := [182, 0, 145, 135, 42, 5, 182, 0, 62, 135, 111, 175]
abbrev dktX3_meanCrumbs_1 : List UInt8 := dkwX3_meanCrumbs_1 ++ []
def dkwX3_meanCrumbs_0 : List UInt8 := [42, 3, 181, 0, 1, 42, 5, 182, 0, 62, 154, 0, 12, 42, 4, 182, 0, 81, 135, 167, 0, 15, 42]
abbrev dktX3_meanCrumbs_0 : List UInt8 := dkwX3_meanCrumbs_0 ++ dktX3_meanCrumbs_1
theorem dksX3_meanCrumbs_0 : cX3_meanCrumbs.data.toList.drop 0 = dktX3_meanCrumbs_0 := by decide +kernel
theorem dksX3_meanCrumbs_1 : cX3_meanCrumbs.data.toList.drop 23 = dktX3_meanCrumbs_1 := dk_seg dksX3_meanCrumbs_0 23 rfl rfl
theorem dX3_meanCrumbs_0 : decode cX3_meanCrumbs 0 = .ok (.aload_n 0, 1) := dk_42 (dk_at dksX3_meanCrumbs_0 0 rfl rfl)
theorem dX3_meanCrumbs_1 : decode cX3_meanCrumbs 1 = .ok (.iconst 0, 1) := dk_3 (dk_at dksX3_meanCrumbs_0 1 rfl rfl)
theorem dX3_meanCrumbs_2 : decode cX3_meanCrumbs 2 = .ok (.putfield 1, 3) := dk_181 0 1 (dk_at dksX3_meanCrumbs_0 2 rfl rfl)
theorem dX3_meanCrumbs_5 : decode cX3_meanCrumbs 5 = .ok (.aload_n 0, 1) := dk_42 (dk_at dksX3_meanCrumbs_0 5 rfl rfl)
theorem dX3_meanCrumbs_6 : decode cX3_meanCrumbs 6 = .ok (.iconst 2, 1) := dk_5 (dk_at dksX3_meanCrumbs_0 6 rfl rfl)
theorem dX3_meanCrumbs_7 : decode cX3_meanCrumbs 7 = .ok (.invokevirtual 62, 3) := dk_182 0 62 (dk_at dksX3_meanCrumbs_0 7 rfl rfl)
theorem dX3_meanCrumbs_10 : decode cX3_meanCrumbs 10 = .ok (.ifCond .ne 12, 3) := dk_154 0 12 (dk_at dksX3_meanCrumbs_0 10 rfl rfl)
theorem dX3_meanCrumbs_13 : decode cX3_meanCrumbs 13 = .ok (.aload_n 0, 1) := dk_42 (dk_at dksX3_meanCrumbs_0 13 rfl rfl)
theorem dX3_meanCrumbs_14 : decode cX3_meanCrumbs 14 = .ok (.iconst 1, 1) := dk_4 (dk_at dksX3_meanCrumbs_0 14 rfl rfl)
theorem dX3_meanCrumbs_15 : decode cX3_meanCrumbs 15 = .ok (.invokevirtual 81, 3) := dk_182 0 81 (dk_at dksX3_meanCrumbs_0 15 rfl rfl)
theorem dX3_meanCrumbs_18 : decode cX3_meanCrumbs 18 = .ok (.i2d, 1) := dk_135 (dk_at dksX3_meanCrumbs_0 18 rfl rfl)
theorem dX3_meanCrumbs_19 : decode cX3_meanCrumbs 19 = .ok (.goto 15, 3) := dk_167 0 15 (dk_at dksX3_meanCrumbs_0 19 rfl rfl)
theorem dX3_meanCrumbs_22 : decode cX3_meanCrumbs 22 = .ok (.aload_n 0, 1) := dk_42 (dk_at dksX3_meanCrumbs_0 22 rfl rfl)
theorem dX3_meanCrumbs_23 : decode cX3_meanCrumbs 23 = .ok (.invokevirtual 145, 3) := dk_182 0 145 (dk_at dksX3_meanCrumbs_1 0 rfl rfl)
theorem dX3_meanCrumbs_26 : decode cX3_meanCrumbs 26 = .ok (.i2d, 1) := dk_135 (dk_at dksX3_meanCrumbs_1 3 rfl rfl)
theorem dX3_meanCrumbs_27 : decode cX3_meanCrumbs 27 = .ok (.aload_n 0, 1) := dk_42 (dk_at dksX3_meanCrumbs_1 4 rfl rfl)
theorem dX3_meanCrumbs_28 : decode cX3_meanCrumbs 28 = .ok (.iconst 2, 1) := dk_5 (dk_at dksX3_meanCrumbs_1 5 rfl rfl)
theorem dX3_meanCrumbs_29 : decode cX3_meanCrumbs 29 = .ok (.invokevirtual 62, 3) := dk_182 0 62 (dk_at dksX3_meanCrumbs_1 6 rfl rfl)
theorem dX3_meanCrumbs_32 : decode cX3_meanCrumbs 32 = .ok (.i2d, 1) := dk_135 (dk_at dksX3_meanCrumbs_1 9 rfl rfl)
theorem dX3_meanCrumbs_33 : decode cX3_meanCrumbs 33 = .ok (.ddiv, 1) := dk_111 (dk_at dksX3_meanCrumbs_1 10 rfl rfl)
theorem dX3_meanCrumbs_34 : decode cX3_meanCrumbs 34 = .ok (.dreturn, 1) := dk_175 (dk_at dksX3_meanCrumbs_1 11 rfl rfl)
abbrev cX3_fullShare : ByteArray := prog_21_method_104_code
def yX3_fullShare : MethodName := ⟨RX3, "fullShare", "()F"⟩
def dkwX3_fullShare_2 : List UInt8 := [42, 182, 0, 142, 134, 27, 134, 110, 174]
abbrev dktX3_fullShare_2 : List UInt8 := dkwX3_fullShare_2 ++ []
def dkwX3_fullShare_1 : List UInt8 := [182, 0, 118, 96, 60, 132, 2, 1, 167, 255, 235, 27, 154, 0, 12, 42, 4, 182, 0, 81, 134, 167, 0, 11]
abbrev dktX3_fullShare_1 : List UInt8 := dkwX3_fullShare_1 ++ dktX3_fullShare_2
def dkwX3_fullShare_0 : List UInt8 := [42, 3, 181, 0, 1, 3, 60, 3, 61, 28, 42, 4, 182, 0, 62, 162, 0, 18, 27, 42, 28, 3]
abbrev dktX3_fullShare_0 : List UInt8 := dkwX3_fullShare_0 ++ dktX3_fullShare_1
theorem dksX3_fullShare_0 : cX3_fullShare.data.toList.drop 0 = dktX3_fullShare_0 := by decide +kernel
theorem dksX3_fullShare_1 : cX3_fullShare.data.toList.drop 22 = dktX3_fullShare_1 := dk_seg dksX3_fullShare_0 22 rfl rfl
theorem dksX3_fullShare_2 : cX3_fullShare.data.toList.drop 46 = dktX3_fullShare_2 := dk_seg dksX3_fullShare_1 24 rfl rfl
theorem dX3_fullShare_0 : decode cX3_fullShare 0 = .ok (.aload_n 0, 1) := dk_42 (dk_at dksX3_fullShare_0 0 rfl rfl)
theorem dX3_fullShare_1 : decode cX3_fullShare 1 = .ok (.iconst 0, 1) := dk_3 (dk_at dksX3_fullShare_0 1 rfl rfl)
theorem dX3_fullShare_2 : decode cX3_fullShare 2 = .ok (.putfield 1, 3) := dk_181 0 1 (dk_at dksX3_fullShare_0 2 rfl rfl)
theorem dX3_fullShare_5 : decode cX3_fullShare 5 = .ok (.iconst 0, 1) := dk_3 (dk_at dksX3_fullShare_0 5 rfl rfl)
theorem dX3_fullShare_6 : decode cX3_fullShare 6 = .ok (.istore_n 1, 1) := dk_60 (dk_at dksX3_fullShare_0 6 rfl rfl)
theorem dX3_fullShare_7 : decode cX3_fullShare 7 = .ok (.iconst 0, 1) := dk_3 (dk_at dksX3_fullShare_0 7 rfl rfl)
theorem dX3_fullShare_8 : decode cX3_fullShare 8 = .ok (.istore_n 2, 1) := dk_61 (dk_at dksX3_fullShare_0 8 rfl rfl)
theorem dX3_fullShare_9 : decode cX3_fullShare 9 = .ok (.iload_n 2, 1) := dk_28 (dk_at dksX3_fullShare_0 9 rfl rfl)
theorem dX3_fullShare_10 : decode cX3_fullShare 10 = .ok (.aload_n 0, 1) := dk_42 (dk_at dksX3_fullShare_0 10 rfl rfl)
theorem dX3_fullShare_11 : decode cX3_fullShare 11 = .ok (.iconst 1, 1) := dk_4 (dk_at dksX3_fullShare_0 11 rfl rfl)
theorem dX3_fullShare_12 : decode cX3_fullShare 12 = .ok (.invokevirtual 62, 3) := dk_182 0 62 (dk_at dksX3_fullShare_0 12 rfl rfl)
theorem dX3_fullShare_15 : decode cX3_fullShare 15 = .ok (.if_icmp .ge 18, 3) := dk_162 0 18 (dk_at dksX3_fullShare_0 15 rfl rfl)
theorem dX3_fullShare_18 : decode cX3_fullShare 18 = .ok (.iload_n 1, 1) := dk_27 (dk_at dksX3_fullShare_0 18 rfl rfl)
theorem dX3_fullShare_19 : decode cX3_fullShare 19 = .ok (.aload_n 0, 1) := dk_42 (dk_at dksX3_fullShare_0 19 rfl rfl)
theorem dX3_fullShare_20 : decode cX3_fullShare 20 = .ok (.iload_n 2, 1) := dk_28 (dk_at dksX3_fullShare_0 20 rfl rfl)
theorem dX3_fullShare_21 : decode cX3_fullShare 21 = .ok (.iconst 0, 1) := dk_3 (dk_at dksX3_fullShare_0 21 rfl rfl)
theorem dX3_fullShare_22 : decode cX3_fullShare 22 = .ok (.invokevirtual 118, 3) := dk_182 0 118 (dk_at dksX3_fullShare_1 0 rfl rfl)
theorem dX3_fullShare_25 : decode cX3_fullShare 25 = .ok (.iadd, 1) := dk_96 (dk_at dksX3_fullShare_1 3 rfl rfl)
theorem dX3_fullShare_26 : decode cX3_fullShare 26 = .ok (.istore_n 1, 1) := dk_60 (dk_at dksX3_fullShare_1 4 rfl rfl)
theorem dX3_fullShare_27 : decode cX3_fullShare 27 = .ok (.iinc 2 1, 3) := dk_132 2 1 (dk_at dksX3_fullShare_1 5 rfl rfl)
theorem dX3_fullShare_30 : decode cX3_fullShare 30 = .ok (.goto (-21), 3) := dk_167 255 235 (dk_at dksX3_fullShare_1 8 rfl rfl)
theorem dX3_fullShare_33 : decode cX3_fullShare 33 = .ok (.iload_n 1, 1) := dk_27 (dk_at dksX3_fullShare_1 11 rfl rfl)
theorem dX3_fullShare_34 : decode cX3_fullShare 34 = .ok (.ifCond .ne 12, 3) := dk_154 0 12 (dk_at dksX3_fullShare_1 12 rfl rfl)
theorem dX3_fullShare_37 : decode cX3_fullShare 37 = .ok (.aload_n 0, 1) := dk_42 (dk_at dksX3_fullShare_1 15 rfl rfl)
theorem dX3_fullShare_38 : decode cX3_fullShare 38 = .ok (.iconst 1, 1) := dk_4 (dk_at dksX3_fullShare_1 16 rfl rfl)
theorem dX3_fullShare_39 : decode cX3_fullShare 39 = .ok (.invokevirtual 81, 3) := dk_182 0 81 (dk_at dksX3_fullShare_1 17 rfl rfl)
theorem dX3_fullShare_42 : decode cX3_fullShare 42 = .ok (.i2f, 1) := dk_134 (dk_at dksX3_fullShare_1 20 rfl rfl)
theorem dX3_fullShare_43 : decode cX3_fullShare 43 = .ok (.goto 11, 3) := dk_167 0 11 (dk_at dksX3_fullShare_1 21 rfl rfl)
theorem dX3_fullShare_46 : decode cX3_fullShare 46 = .ok (.aload_n 0, 1) := dk_42 (dk_at dksX3_fullShare_2 0 rfl rfl)
theorem dX3_fullShare_47 : decode cX3_fullShare 47 = .ok (.invokevirtual 142, 3) := dk_182 0 142 (dk_at dksX3_fullShare_2 1 rfl rfl)
theorem dX3_fullShare_50 : decode cX3_fullShare 50 = .ok (.i2f, 1) := dk_134 (dk_at dksX3_fullShare_2 4 rfl rfl)
theorem dX3_fullShare_51 : decode cX3_fullShare 51 = .ok (.iload_n 1, 1) := dk_27 (dk_at dksX3_fullShare_2 5 rfl rfl)
theorem dX3_fullShare_52 : decode cX3_fullShare 52 = .ok (.i2f, 1) := dk_134 (dk_at dksX3_fullShare_2 6 rfl rfl)
theorem dX3_fullShare_53 : decode cX3_fullShare 53 = .ok (.fdiv, 1) := dk_110 (dk_at dksX3_fullShare_2 7 rfl rfl)
theorem dX3_fullShare_54 : decode cX3_fullShare 54 = .ok (.freturn, 1) := dk_174 (dk_at dksX3_fullShare_2 8 rfl rfl)
abbrev cX3_isConsistent : ByteArray := prog_21_method_105_code
def yX3_isConsistent : MethodName := ⟨RX3, "isConsistent", "()Z"⟩
def dkwX3_isConsistent_1 : List UInt8 := [16, 8, 47, 101, 42, 182, 1, 1, 133, 148, 154, 0, 7, 4, 167, 0, 4, 3, 172]
abbrev dktX3_isConsistent_1 : List UInt8 := dkwX3_isConsistent_1 ++ []
def dkwX3_isConsistent_0 : List UInt8 := [42, 3, 181, 0, 1, 42, 180, 0, 13, 16, 6, 47, 42, 180, 0, 13, 16, 7, 47, 101, 42, 180, 0, 13]
abbrev dktX3_isConsistent_0 : List UInt8 := dkwX3_isConsistent_0 ++ dktX3_isConsistent_1
theorem dksX3_isConsistent_0 : cX3_isConsistent.data.toList.drop 0 = dktX3_isConsistent_0 := by decide +kernel
theorem dksX3_isConsistent_1 : cX3_isConsistent.data.toList.drop 24 = dktX3_isConsistent_1 := dk_seg dksX3_isConsistent_0 24 rfl rfl
theorem dX3_isConsistent_0 : decode cX3_isConsistent 0 = .ok (.aload_n 0, 1) := dk_42 (dk_at dksX3_isConsistent_0 0 rfl rfl)
theorem dX3_isConsistent_1 : decode cX3_isConsistent 1 = .ok (.iconst 0, 1) := dk_3 (dk_at dksX3_isConsistent_0 1 rfl rfl)
theorem dX3_isConsistent_2 : decode cX3_isConsistent 2 = .ok (.putfield 1, 3) := dk_181 0 1 (dk_at dksX3_isConsistent_0 2 rfl rfl)
theorem dX3_isConsistent_5 : decode cX3_isConsistent 5 = .ok (.aload_n 0, 1) := dk_42 (dk_at dksX3_isConsistent_0 5 rfl rfl)
theorem dX3_isConsistent_6 : decode cX3_isConsistent 6 = .ok (.getfield 13, 3) := dk_180 0 13 (dk_at dksX3_isConsistent_0 6 rfl rfl)
theorem dX3_isConsistent_9 : decode cX3_isConsistent 9 = .ok (.bipush 6, 2) := dk_16 6 (dk_at dksX3_isConsistent_0 9 rfl rfl)
theorem dX3_isConsistent_11 : decode cX3_isConsistent 11 = .ok (.laload, 1) := dk_47 (dk_at dksX3_isConsistent_0 11 rfl rfl)
theorem dX3_isConsistent_12 : decode cX3_isConsistent 12 = .ok (.aload_n 0, 1) := dk_42 (dk_at dksX3_isConsistent_0 12 rfl rfl)
theorem dX3_isConsistent_13 : decode cX3_isConsistent 13 = .ok (.getfield 13, 3) := dk_180 0 13 (dk_at dksX3_isConsistent_0 13 rfl rfl)
theorem dX3_isConsistent_16 : decode cX3_isConsistent 16 = .ok (.bipush 7, 2) := dk_16 7 (dk_at dksX3_isConsistent_0 16 rfl rfl)
theorem dX3_isConsistent_18 : decode cX3_isConsistent 18 = .ok (.laload, 1) := dk_47 (dk_at dksX3_isConsistent_0 18 rfl rfl)
theorem dX3_isConsistent_19 : decode cX3_isConsistent 19 = .ok (.lsub, 1) := dk_101 (dk_at dksX3_isConsistent_0 19 rfl rfl)
theorem dX3_isConsistent_20 : decode cX3_isConsistent 20 = .ok (.aload_n 0, 1) := dk_42 (dk_at dksX3_isConsistent_0 20 rfl rfl)
theorem dX3_isConsistent_21 : decode cX3_isConsistent 21 = .ok (.getfield 13, 3) := dk_180 0 13 (dk_at dksX3_isConsistent_0 21 rfl rfl)
theorem dX3_isConsistent_24 : decode cX3_isConsistent 24 = .ok (.bipush 8, 2) := dk_16 8 (dk_at dksX3_isConsistent_1 0 rfl rfl)
theorem dX3_isConsistent_26 : decode cX3_isConsistent 26 = .ok (.laload, 1) := dk_47 (dk_at dksX3_isConsistent_1 2 rfl rfl)
theorem dX3_isConsistent_27 : decode cX3_isConsistent 27 = .ok (.lsub, 1) := dk_101 (dk_at dksX3_isConsistent_1 3 rfl rfl)
theorem dX3_isConsistent_28 : decode cX3_isConsistent 28 = .ok (.aload_n 0, 1) := dk_42 (dk_at dksX3_isConsistent_1 4 rfl rfl)
theorem dX3_isConsistent_29 : decode cX3_isConsistent 29 = .ok (.invokevirtual 257, 3) := dk_182 1 1 (dk_at dksX3_isConsistent_1 5 rfl rfl)
theorem dX3_isConsistent_32 : decode cX3_isConsistent 32 = .ok (.i2l, 1) := dk_133 (dk_at dksX3_isConsistent_1 8 rfl rfl)
theorem dX3_isConsistent_33 : decode cX3_isConsistent 33 = .ok (.lcmp, 1) := dk_148 (dk_at dksX3_isConsistent_1 9 rfl rfl)
theorem dX3_isConsistent_34 : decode cX3_isConsistent 34 = .ok (.ifCond .ne 7, 3) := dk_154 0 7 (dk_at dksX3_isConsistent_1 10 rfl rfl)
theorem dX3_isConsistent_37 : decode cX3_isConsistent 37 = .ok (.iconst 1, 1) := dk_4 (dk_at dksX3_isConsistent_1 13 rfl rfl)
theorem dX3_isConsistent_38 : decode cX3_isConsistent 38 = .ok (.goto 4, 3) := dk_167 0 4 (dk_at dksX3_isConsistent_1 14 rfl rfl)
theorem dX3_isConsistent_41 : decode cX3_isConsistent 41 = .ok (.iconst 0, 1) := dk_3 (dk_at dksX3_isConsistent_1 17 rfl rfl)
theorem dX3_isConsistent_42 : decode cX3_isConsistent 42 = .ok (.ireturn, 1) := dk_172 (dk_at dksX3_isConsistent_1 18 rfl rfl)
abbrev cX3_renderDough : ByteArray := prog_21_method_109_code
def yX3_renderDough : MethodName := ⟨RX3, "renderDough", "(I)I"⟩
def dkwX3_renderDough_4 : List UInt8 := [108, 16, 10, 112, 96, 182, 1, 7, 28, 16, 10, 108, 61, 167, 255, 230, 42, 180, 1, 4, 172]
abbrev dktX3_renderDough_4 : List UInt8 := dkwX3_renderDough_4 ++ []
def dkwX3_renderDough_3 : List UInt8 := [182, 1, 7, 42, 182, 0, 109, 16, 10, 108, 61, 28, 158, 0, 28, 42, 16, 48, 42, 27, 182, 0, 113, 28]
abbrev dktX3_renderDough_3 : List UInt8 := dkwX3_renderDough_3 ++ dktX3_renderDough_4
def dkwX3_renderDough_2 : List UInt8 := [27, 182, 0, 113, 42, 182, 0, 109, 108, 182, 1, 11, 42, 182, 0, 109, 4, 164, 0, 9, 42, 16, 46]
abbrev dktX3_renderDough_2 : List UInt8 := dkwX3_renderDough_2 ++ dktX3_renderDough_3
def dkwX3_renderDough_1 : List UInt8 := [42, 42, 27, 3, 182, 0, 90, 42, 27, 4, 182, 0, 90, 182, 1, 14, 42, 16, 61, 182, 1, 7, 42, 42]
abbrev dktX3_renderDough_1 : List UInt8 := dkwX3_renderDough_1 ++ dktX3_renderDough_2
def dkwX3_renderDough_0 : List UInt8 := [42, 3, 181, 0, 1, 42, 27, 182, 0, 93, 154, 0, 9, 42, 4, 182, 0, 81, 172, 42, 3, 181, 1, 4]
abbrev dktX3_renderDough_0 : List UInt8 := dkwX3_renderDough_0 ++ dktX3_renderDough_1
theorem dksX3_renderDough_0 : cX3_renderDough.data.toList.drop 0 = dktX3_renderDough_0 := by decide +kernel
theorem dksX3_renderDough_1 : cX3_renderDough.data.toList.drop 24 = dktX3_renderDough_1 := dk_seg dksX3_renderDough_0 24 rfl rfl
theorem dksX3_renderDough_2 : cX3_renderDough.data.toList.drop 48 = dktX3_renderDough_2 := dk_seg dksX3_renderDough_1 24 rfl rfl
theorem dksX3_renderDough_3 : cX3_renderDough.data.toList.drop 71 = dktX3_renderDough_3 := dk_seg dksX3_renderDough_2 23 rfl rfl
theorem dksX3_renderDough_4 : cX3_renderDough.data.toList.drop 95 = dktX3_renderDough_4 := dk_seg dksX3_renderDough_3 24 rfl rfl
theorem dX3_renderDough_0 : decode cX3_renderDough 0 = .ok (.aload_n 0, 1) := dk_42 (dk_at dksX3_renderDough_0 0 rfl rfl)
theorem dX3_renderDough_1 : decode cX3_renderDough 1 = .ok (.iconst 0, 1) := dk_3 (dk_at dksX3_renderDough_0 1 rfl rfl)
theorem dX3_renderDough_2 : decode cX3_renderDough 2 = .ok (.putfield 1, 3) := dk_181 0 1 (dk_at dksX3_renderDough_0 2 rfl rfl)
theorem dX3_renderDough_5 : decode cX3_renderDough 5 = .ok (.aload_n 0, 1) := dk_42 (dk_at dksX3_renderDough_0 5 rfl rfl)
theorem dX3_renderDough_6 : decode cX3_renderDough 6 = .ok (.iload_n 1, 1) := dk_27 (dk_at dksX3_renderDough_0 6 rfl rfl)
theorem dX3_renderDough_7 : decode cX3_renderDough 7 = .ok (.invokevirtual 93, 3) := dk_182 0 93 (dk_at dksX3_renderDough_0 7 rfl rfl)
theorem dX3_renderDough_10 : decode cX3_renderDough 10 = .ok (.ifCond .ne 9, 3) := dk_154 0 9 (dk_at dksX3_renderDough_0 10 rfl rfl)
theorem dX3_renderDough_13 : decode cX3_renderDough 13 = .ok (.aload_n 0, 1) := dk_42 (dk_at dksX3_renderDough_0 13 rfl rfl)
theorem dX3_renderDough_14 : decode cX3_renderDough 14 = .ok (.iconst 1, 1) := dk_4 (dk_at dksX3_renderDough_0 14 rfl rfl)
theorem dX3_renderDough_15 : decode cX3_renderDough 15 = .ok (.invokevirtual 81, 3) := dk_182 0 81 (dk_at dksX3_renderDough_0 15 rfl rfl)
theorem dX3_renderDough_18 : decode cX3_renderDough 18 = .ok (.ireturn, 1) := dk_172 (dk_at dksX3_renderDough_0 18 rfl rfl)
theorem dX3_renderDough_19 : decode cX3_renderDough 19 = .ok (.aload_n 0, 1) := dk_42 (dk_at dksX3_renderDough_0 19 rfl rfl)
theorem dX3_renderDough_20 : decode cX3_renderDough 20 = .ok (.iconst 0, 1) := dk_3 (dk_at dksX3_renderDough_0 20 rfl rfl)
theorem dX3_renderDough_21 : decode cX3_renderDough 21 = .ok (.putfield 260, 3) := dk_181 1 4 (dk_at dksX3_renderDough_0 21 rfl rfl)
theorem dX3_renderDough_24 : decode cX3_renderDough 24 = .ok (.aload_n 0, 1) := dk_42 (dk_at dksX3_renderDough_1 0 rfl rfl)
theorem dX3_renderDough_25 : decode cX3_renderDough 25 = .ok (.aload_n 0, 1) := dk_42 (dk_at dksX3_renderDough_1 1 rfl rfl)
theorem dX3_renderDough_26 : decode cX3_renderDough 26 = .ok (.iload_n 1, 1) := dk_27 (dk_at dksX3_renderDough_1 2 rfl rfl)
theorem dX3_renderDough_27 : decode cX3_renderDough 27 = .ok (.iconst 0, 1) := dk_3 (dk_at dksX3_renderDough_1 3 rfl rfl)
theorem dX3_renderDough_28 : decode cX3_renderDough 28 = .ok (.invokevirtual 90, 3) := dk_182 0 90 (dk_at dksX3_renderDough_1 4 rfl rfl)
theorem dX3_renderDough_31 : decode cX3_renderDough 31 = .ok (.aload_n 0, 1) := dk_42 (dk_at dksX3_renderDough_1 7 rfl rfl)
theorem dX3_renderDough_32 : decode cX3_renderDough 32 = .ok (.iload_n 1, 1) := dk_27 (dk_at dksX3_renderDough_1 8 rfl rfl)
theorem dX3_renderDough_33 : decode cX3_renderDough 33 = .ok (.iconst 1, 1) := dk_4 (dk_at dksX3_renderDough_1 9 rfl rfl)
theorem dX3_renderDough_34 : decode cX3_renderDough 34 = .ok (.invokevirtual 90, 3) := dk_182 0 90 (dk_at dksX3_renderDough_1 10 rfl rfl)
theorem dX3_renderDough_37 : decode cX3_renderDough 37 = .ok (.invokevirtual 270, 3) := dk_182 1 14 (dk_at dksX3_renderDough_1 13 rfl rfl)
theorem dX3_renderDough_40 : decode cX3_renderDough 40 = .ok (.aload_n 0, 1) := dk_42 (dk_at dksX3_renderDough_1 16 rfl rfl)
theorem dX3_renderDough_41 : decode cX3_renderDough 41 = .ok (.bipush 61, 2) := dk_16 61 (dk_at dksX3_renderDough_1 17 rfl rfl)
theorem dX3_renderDough_43 : decode cX3_renderDough 43 = .ok (.invokevirtual 263, 3) := dk_182 1 7 (dk_at dksX3_renderDough_1 19 rfl rfl)
theorem dX3_renderDough_46 : decode cX3_renderDough 46 = .ok (.aload_n 0, 1) := dk_42 (dk_at dksX3_renderDough_1 22 rfl rfl)
theorem dX3_renderDough_47 : decode cX3_renderDough 47 = .ok (.aload_n 0, 1) := dk_42 (dk_at dksX3_renderDough_1 23 rfl rfl)
theorem dX3_renderDough_48 : decode cX3_renderDough 48 = .ok (.iload_n 1, 1) := dk_27 (dk_at dksX3_renderDough_2 0 rfl rfl)
theorem dX3_renderDough_49 : decode cX3_renderDough 49 = .ok (.invokevirtual 113, 3) := dk_182 0 113 (dk_at dksX3_renderDough_2 1 rfl rfl)
theorem dX3_renderDough_52 : decode cX3_renderDough 52 = .ok (.aload_n 0, 1) := dk_42 (dk_at dksX3_renderDough_2 4 rfl rfl)
theorem dX3_renderDough_53 : decode cX3_renderDough 53 = .ok (.invokevirtual 109, 3) := dk_182 0 109 (dk_at dksX3_renderDough_2 5 rfl rfl)
theorem dX3_renderDough_56 : decode cX3_renderDough 56 = .ok (.idiv, 1) := dk_108 (dk_at dksX3_renderDough_2 8 rfl rfl)
theorem dX3_renderDough_57 : decode cX3_renderDough 57 = .ok (.invokevirtual 267, 3) := dk_182 1 11 (dk_at dksX3_renderDough_2 9 rfl rfl)
theorem dX3_renderDough_60 : decode cX3_renderDough 60 = .ok (.aload_n 0, 1) := dk_42 (dk_at dksX3_renderDough_2 12 rfl rfl)
theorem dX3_renderDough_61 : decode cX3_renderDough 61 = .ok (.invokevirtual 109, 3) := dk_182 0 109 (dk_at dksX3_renderDough_2 13 rfl rfl)
theorem dX3_renderDough_64 : decode cX3_renderDough 64 = .ok (.iconst 1, 1) := dk_4 (dk_at dksX3_renderDough_2 16 rfl rfl)
theorem dX3_renderDough_65 : decode cX3_renderDough 65 = .ok (.if_icmp .le 9, 3) := dk_164 0 9 (dk_at dksX3_renderDough_2 17 rfl rfl)
theorem dX3_renderDough_68 : decode cX3_renderDough 68 = .ok (.aload_n 0, 1) := dk_42 (dk_at dksX3_renderDough_2 20 rfl rfl)
theorem dX3_renderDough_69 : decode cX3_renderDough 69 = .ok (.bipush 46, 2) := dk_16 46 (dk_at dksX3_renderDough_2 21 rfl rfl)
theorem dX3_renderDough_71 : decode cX3_renderDough 71 = .ok (.invokevirtual 263, 3) := dk_182 1 7 (dk_at dksX3_renderDough_3 0 rfl rfl)
theorem dX3_renderDough_74 : decode cX3_renderDough 74 = .ok (.aload_n 0, 1) := dk_42 (dk_at dksX3_renderDough_3 3 rfl rfl)
theorem dX3_renderDough_75 : decode cX3_renderDough 75 = .ok (.invokevirtual 109, 3) := dk_182 0 109 (dk_at dksX3_renderDough_3 4 rfl rfl)
theorem dX3_renderDough_78 : decode cX3_renderDough 78 = .ok (.bipush 10, 2) := dk_16 10 (dk_at dksX3_renderDough_3 7 rfl rfl)
theorem dX3_renderDough_80 : decode cX3_renderDough 80 = .ok (.idiv, 1) := dk_108 (dk_at dksX3_renderDough_3 9 rfl rfl)
theorem dX3_renderDough_81 : decode cX3_renderDough 81 = .ok (.istore_n 2, 1) := dk_61 (dk_at dksX3_renderDough_3 10 rfl rfl)
theorem dX3_renderDough_82 : decode cX3_renderDough 82 = .ok (.iload_n 2, 1) := dk_28 (dk_at dksX3_renderDough_3 11 rfl rfl)
theorem dX3_renderDough_83 : decode cX3_renderDough 83 = .ok (.ifCond .le 28, 3) := dk_158 0 28 (dk_at dksX3_renderDough_3 12 rfl rfl)
theorem dX3_renderDough_86 : decode cX3_renderDough 86 = .ok (.aload_n 0, 1) := dk_42 (dk_at dksX3_renderDough_3 15 rfl rfl)
theorem dX3_renderDough_87 : decode cX3_renderDough 87 = .ok (.bipush 48, 2) := dk_16 48 (dk_at dksX3_renderDough_3 16 rfl rfl)
theorem dX3_renderDough_89 : decode cX3_renderDough 89 = .ok (.aload_n 0, 1) := dk_42 (dk_at dksX3_renderDough_3 18 rfl rfl)
theorem dX3_renderDough_90 : decode cX3_renderDough 90 = .ok (.iload_n 1, 1) := dk_27 (dk_at dksX3_renderDough_3 19 rfl rfl)
theorem dX3_renderDough_91 : decode cX3_renderDough 91 = .ok (.invokevirtual 113, 3) := dk_182 0 113 (dk_at dksX3_renderDough_3 20 rfl rfl)
theorem dX3_renderDough_94 : decode cX3_renderDough 94 = .ok (.iload_n 2, 1) := dk_28 (dk_at dksX3_renderDough_3 23 rfl rfl)
theorem dX3_renderDough_95 : decode cX3_renderDough 95 = .ok (.idiv, 1) := dk_108 (dk_at dksX3_renderDough_4 0 rfl rfl)
theorem dX3_renderDough_96 : decode cX3_renderDough 96 = .ok (.bipush 10, 2) := dk_16 10 (dk_at dksX3_renderDough_4 1 rfl rfl)
theorem dX3_renderDough_98 : decode cX3_renderDough 98 = .ok (.irem, 1) := dk_112 (dk_at dksX3_renderDough_4 3 rfl rfl)
theorem dX3_renderDough_99 : decode cX3_renderDough 99 = .ok (.iadd, 1) := dk_96 (dk_at dksX3_renderDough_4 4 rfl rfl)
theorem dX3_renderDough_100 : decode cX3_renderDough 100 = .ok (.invokevirtual 263, 3) := dk_182 1 7 (dk_at dksX3_renderDough_4 5 rfl rfl)
theorem dX3_renderDough_103 : decode cX3_renderDough 103 = .ok (.iload_n 2, 1) := dk_28 (dk_at dksX3_renderDough_4 8 rfl rfl)
theorem dX3_renderDough_104 : decode cX3_renderDough 104 = .ok (.bipush 10, 2) := dk_16 10 (dk_at dksX3_renderDough_4 9 rfl rfl)
theorem dX3_renderDough_106 : decode cX3_renderDough 106 = .ok (.idiv, 1) := dk_108 (dk_at dksX3_renderDough_4 11 rfl rfl)
theorem dX3_renderDough_107 : decode cX3_renderDough 107 = .ok (.istore_n 2, 1) := dk_61 (dk_at dksX3_renderDough_4 12 rfl rfl)
theorem dX3_renderDough_108 : decode cX3_renderDough 108 = .ok (.goto (-26), 3) := dk_167 255 230 (dk_at dksX3_renderDough_4 13 rfl rfl)
theorem dX3_renderDough_111 : decode cX3_renderDough 111 = .ok (.aload_n 0, 1) := dk_42 (dk_at dksX3_renderDough_4 16 rfl rfl)
theorem dX3_renderDough_112 : decode cX3_renderDough 112 = .ok (.getfield 260, 3) := dk_180 1 4 (dk_at dksX3_renderDough_4 17 rfl rfl)
theorem dX3_renderDough_115 : decode cX3_renderDough 115 = .ok (.ireturn, 1) := dk_172 (dk_at dksX3_renderDough_4 20 rfl rfl)
abbrev cX3_writesTwo : ByteArray := prog_21_method_108_code
def yX3_writesTwo : MethodName := ⟨RX3, "writesTwo", "(II)V"⟩
def dkwX3_writesTwo_0 : List UInt8 := [42, 27, 182, 1, 11, 42, 16, 47, 182, 1, 7, 42, 28, 182, 1, 11, 177]
abbrev dktX3_writesTwo_0 : List UInt8 := dkwX3_writesTwo_0 ++ []
theorem dksX3_writesTwo_0 : cX3_writesTwo.data.toList.drop 0 = dktX3_writesTwo_0 := by decide +kernel
theorem dX3_writesTwo_0 : decode cX3_writesTwo 0 = .ok (.aload_n 0, 1) := dk_42 (dk_at dksX3_writesTwo_0 0 rfl rfl)
theorem dX3_writesTwo_1 : decode cX3_writesTwo 1 = .ok (.iload_n 1, 1) := dk_27 (dk_at dksX3_writesTwo_0 1 rfl rfl)
theorem dX3_writesTwo_2 : decode cX3_writesTwo 2 = .ok (.invokevirtual 267, 3) := dk_182 1 11 (dk_at dksX3_writesTwo_0 2 rfl rfl)
theorem dX3_writesTwo_5 : decode cX3_writesTwo 5 = .ok (.aload_n 0, 1) := dk_42 (dk_at dksX3_writesTwo_0 5 rfl rfl)
theorem dX3_writesTwo_6 : decode cX3_writesTwo 6 = .ok (.bipush 47, 2) := dk_16 47 (dk_at dksX3_writesTwo_0 6 rfl rfl)
theorem dX3_writesTwo_8 : decode cX3_writesTwo 8 = .ok (.invokevirtual 263, 3) := dk_182 1 7 (dk_at dksX3_writesTwo_0 8 rfl rfl)
theorem dX3_writesTwo_11 : decode cX3_writesTwo 11 = .ok (.aload_n 0, 1) := dk_42 (dk_at dksX3_writesTwo_0 11 rfl rfl)
theorem dX3_writesTwo_12 : decode cX3_writesTwo 12 = .ok (.iload_n 2, 1) := dk_28 (dk_at dksX3_writesTwo_0 12 rfl rfl)
theorem dX3_writesTwo_13 : decode cX3_writesTwo 13 = .ok (.invokevirtual 267, 3) := dk_182 1 11 (dk_at dksX3_writesTwo_0 13 rfl rfl)
theorem dX3_writesTwo_16 : decode cX3_writesTwo 16 = .ok (.return_, 1) := dk_177 (dk_at dksX3_writesTwo_0 16 rfl rfl)
abbrev cX3_writesNumber : ByteArray := prog_21_method_107_code
def yX3_writesNumber : MethodName := ⟨RX3, "writesNumber", "(I)V"⟩
def dkwX3_writesNumber_1 : List UInt8 := [42, 16, 48, 27, 29, 108, 16, 10, 112, 96, 182, 1, 7, 29, 16, 10, 108, 62, 167, 255, 234, 177]
abbrev dktX3_writesNumber_1 : List UInt8 := dkwX3_writesNumber_1 ++ []
def dkwX3_writesNumber_0 : List UInt8 := [4, 61, 27, 28, 108, 16, 9, 164, 0, 11, 28, 16, 10, 104, 61, 167, 255, 243, 28, 62, 29, 158, 0, 24]
abbrev dktX3_writesNumber_0 : List UInt8 := dkwX3_writesNumber_0 ++ dktX3_writesNumber_1
theorem dksX3_writesNumber_0 : cX3_writesNumber.data.toList.drop 0 = dktX3_writesNumber_0 := by decide +kernel
theorem dksX3_writesNumber_1 : cX3_writesNumber.data.toList.drop 24 = dktX3_writesNumber_1 := dk_seg dksX3_writesNumber_0 24 rfl rfl
theorem dX3_writesNumber_0 : decode cX3_writesNumber 0 = .ok (.iconst 1, 1) := dk_4 (dk_at dksX3_writesNumber_0 0 rfl rfl)
theorem dX3_writesNumber_1 : decode cX3_writesNumber 1 = .ok (.istore_n 2, 1) := dk_61 (dk_at dksX3_writesNumber_0 1 rfl rfl)
theorem dX3_writesNumber_2 : decode cX3_writesNumber 2 = .ok (.iload_n 1, 1) := dk_27 (dk_at dksX3_writesNumber_0 2 rfl rfl)
theorem dX3_writesNumber_3 : decode cX3_writesNumber 3 = .ok (.iload_n 2, 1) := dk_28 (dk_at dksX3_writesNumber_0 3 rfl rfl)
theorem dX3_writesNumber_4 : decode cX3_writesNumber 4 = .ok (.idiv, 1) := dk_108 (dk_at dksX3_writesNumber_0 4 rfl rfl)
theorem dX3_writesNumber_5 : decode cX3_writesNumber 5 = .ok (.bipush 9, 2) := dk_16 9 (dk_at dksX3_writesNumber_0 5 rfl rfl)
theorem dX3_writesNumber_7 : decode cX3_writesNumber 7 = .ok (.if_icmp .le 11, 3) := dk_164 0 11 (dk_at dksX3_writesNumber_0 7 rfl rfl)
theorem dX3_writesNumber_10 : decode cX3_writesNumber 10 = .ok (.iload_n 2, 1) := dk_28 (dk_at dksX3_writesNumber_0 10 rfl rfl)
theorem dX3_writesNumber_11 : decode cX3_writesNumber 11 = .ok (.bipush 10, 2) := dk_16 10 (dk_at dksX3_writesNumber_0 11 rfl rfl)
theorem dX3_writesNumber_13 : decode cX3_writesNumber 13 = .ok (.imul, 1) := dk_104 (dk_at dksX3_writesNumber_0 13 rfl rfl)
theorem dX3_writesNumber_14 : decode cX3_writesNumber 14 = .ok (.istore_n 2, 1) := dk_61 (dk_at dksX3_writesNumber_0 14 rfl rfl)
theorem dX3_writesNumber_15 : decode cX3_writesNumber 15 = .ok (.goto (-13), 3) := dk_167 255 243 (dk_at dksX3_writesNumber_0 15 rfl rfl)
theorem dX3_writesNumber_18 : decode cX3_writesNumber 18 = .ok (.iload_n 2, 1) := dk_28 (dk_at dksX3_writesNumber_0 18 rfl rfl)
theorem dX3_writesNumber_19 : decode cX3_writesNumber 19 = .ok (.istore_n 3, 1) := dk_62 (dk_at dksX3_writesNumber_0 19 rfl rfl)
theorem dX3_writesNumber_20 : decode cX3_writesNumber 20 = .ok (.iload_n 3, 1) := dk_29 (dk_at dksX3_writesNumber_0 20 rfl rfl)
theorem dX3_writesNumber_21 : decode cX3_writesNumber 21 = .ok (.ifCond .le 24, 3) := dk_158 0 24 (dk_at dksX3_writesNumber_0 21 rfl rfl)
theorem dX3_writesNumber_24 : decode cX3_writesNumber 24 = .ok (.aload_n 0, 1) := dk_42 (dk_at dksX3_writesNumber_1 0 rfl rfl)
theorem dX3_writesNumber_25 : decode cX3_writesNumber 25 = .ok (.bipush 48, 2) := dk_16 48 (dk_at dksX3_writesNumber_1 1 rfl rfl)
theorem dX3_writesNumber_27 : decode cX3_writesNumber 27 = .ok (.iload_n 1, 1) := dk_27 (dk_at dksX3_writesNumber_1 3 rfl rfl)
theorem dX3_writesNumber_28 : decode cX3_writesNumber 28 = .ok (.iload_n 3, 1) := dk_29 (dk_at dksX3_writesNumber_1 4 rfl rfl)
theorem dX3_writesNumber_29 : decode cX3_writesNumber 29 = .ok (.idiv, 1) := dk_108 (dk_at dksX3_writesNumber_1 5 rfl rfl)
theorem dX3_writesNumber_30 : decode cX3_writesNumber 30 = .ok (.bipush 10, 2) := dk_16 10 (dk_at dksX3_writesNumber_1 6 rfl rfl)
theorem dX3_writesNumber_32 : decode cX3_writesNumber 32 = .ok (.irem, 1) := dk_112 (dk_at dksX3_writesNumber_1 8 rfl rfl)
theorem dX3_writesNumber_33 : decode cX3_writesNumber 33 = .ok (.iadd, 1) := dk_96 (dk_at dksX3_writesNumber_1 9 rfl rfl)
theorem dX3_writesNumber_34 : decode cX3_writesNumber 34 = .ok (.invokevirtual 263, 3) := dk_182 1 7 (dk_at dksX3_writesNumber_1 10 rfl rfl)
theorem dX3_writesNumber_37 : decode cX3_writesNumber 37 = .ok (.iload_n 3, 1) := dk_29 (dk_at dksX3_writesNumber_1 13 rfl rfl)
theorem dX3_writesNumber_38 : decode cX3_writesNumber 38 = .ok (.bipush 10, 2) := dk_16 10 (dk_at dksX3_writesNumber_1 14 rfl rfl)
theorem dX3_writesNumber_40 : decode cX3_writesNumber 40 = .ok (.idiv, 1) := dk_108 (dk_at dksX3_writesNumber_1 16 rfl rfl)
theorem dX3_writesNumber_41 : decode cX3_writesNumber 41 = .ok (.istore_n 3, 1) := dk_62 (dk_at dksX3_writesNumber_1 17 rfl rfl)
theorem dX3_writesNumber_42 : decode cX3_writesNumber 42 = .ok (.goto (-22), 3) := dk_167 255 234 (dk_at dksX3_writesNumber_1 18 rfl rfl)
theorem dX3_writesNumber_45 : decode cX3_writesNumber 45 = .ok (.return_, 1) := dk_177 (dk_at dksX3_writesNumber_1 21 rfl rfl)
abbrev cX3_writes : ByteArray := prog_21_method_106_code
def yX3_writes : MethodName := ⟨RX3, "writes", "(I)V"⟩
def dkwX3_writes_0 : List UInt8 := [42, 180, 0, 30, 42, 180, 1, 4, 27, 146, 85, 42, 89, 180, 1, 4, 4, 96, 181, 1, 4, 177]
abbrev dktX3_writes_0 : List UInt8 := dkwX3_writes_0 ++ []
theorem dksX3_writes_0 : cX3_writes.data.toList.drop 0 = dktX3_writes_0 := by decide +kernel
theorem dX3_writes_0 : decode cX3_writes 0 = .ok (.aload_n 0, 1) := dk_42 (dk_at dksX3_writes_0 0 rfl rfl)
theorem dX3_writes_1 : decode cX3_writes 1 = .ok (.getfield 30, 3) := dk_180 0 30 (dk_at dksX3_writes_0 1 rfl rfl)
theorem dX3_writes_4 : decode cX3_writes 4 = .ok (.aload_n 0, 1) := dk_42 (dk_at dksX3_writes_0 4 rfl rfl)
theorem dX3_writes_5 : decode cX3_writes 5 = .ok (.getfield 260, 3) := dk_180 1 4 (dk_at dksX3_writes_0 5 rfl rfl)
theorem dX3_writes_8 : decode cX3_writes 8 = .ok (.iload_n 1, 1) := dk_27 (dk_at dksX3_writes_0 8 rfl rfl)
theorem dX3_writes_9 : decode cX3_writes 9 = .ok (.i2c, 1) := dk_146 (dk_at dksX3_writes_0 9 rfl rfl)
theorem dX3_writes_10 : decode cX3_writes 10 = .ok (.castore, 1) := dk_85 (dk_at dksX3_writes_0 10 rfl rfl)
theorem dX3_writes_11 : decode cX3_writes 11 = .ok (.aload_n 0, 1) := dk_42 (dk_at dksX3_writes_0 11 rfl rfl)
theorem dX3_writes_12 : decode cX3_writes 12 = .ok (.dup, 1) := dk_89 (dk_at dksX3_writes_0 12 rfl rfl)
theorem dX3_writes_13 : decode cX3_writes 13 = .ok (.getfield 260, 3) := dk_180 1 4 (dk_at dksX3_writes_0 13 rfl rfl)
theorem dX3_writes_16 : decode cX3_writes 16 = .ok (.iconst 1, 1) := dk_4 (dk_at dksX3_writes_0 16 rfl rfl)
theorem dX3_writes_17 : decode cX3_writes 17 = .ok (.iadd, 1) := dk_96 (dk_at dksX3_writes_0 17 rfl rfl)
theorem dX3_writes_18 : decode cX3_writes 18 = .ok (.putfield 260, 3) := dk_181 1 4 (dk_at dksX3_writes_0 18 rfl rfl)
theorem dX3_writes_21 : decode cX3_writes 21 = .ok (.return_, 1) := dk_177 (dk_at dksX3_writes_0 21 rfl rfl)
abbrev cX3_renderBowls : ByteArray := prog_21_method_110_code
def yX3_renderBowls : MethodName := ⟨RX3, "renderBowls", "()I"⟩
def dkwX3_renderBowls_2 : List UInt8 := [182, 1, 14, 132, 1, 1, 167, 255, 218, 42, 180, 1, 4, 172]
abbrev dktX3_renderBowls_2 : List UInt8 := dkwX3_renderBowls_2 ++ []
def dkwX3_renderBowls_1 : List UInt8 := [158, 0, 9, 42, 16, 32, 182, 1, 7, 42, 42, 27, 4, 182, 0, 118, 42, 27, 3, 182, 0, 118]
abbrev dktX3_renderBowls_1 : List UInt8 := dkwX3_renderBowls_1 ++ dktX3_renderBowls_2
def dkwX3_renderBowls_0 : List UInt8 := [42, 3, 181, 0, 1, 42, 3, 181, 1, 4, 3, 60, 27, 42, 4, 182, 0, 62, 162, 0, 35, 27]
abbrev dktX3_renderBowls_0 : List UInt8 := dkwX3_renderBowls_0 ++ dktX3_renderBowls_1
theorem dksX3_renderBowls_0 : cX3_renderBowls.data.toList.drop 0 = dktX3_renderBowls_0 := by decide +kernel
theorem dksX3_renderBowls_1 : cX3_renderBowls.data.toList.drop 22 = dktX3_renderBowls_1 := dk_seg dksX3_renderBowls_0 22 rfl rfl
theorem dksX3_renderBowls_2 : cX3_renderBowls.data.toList.drop 44 = dktX3_renderBowls_2 := dk_seg dksX3_renderBowls_1 22 rfl rfl
theorem dX3_renderBowls_0 : decode cX3_renderBowls 0 = .ok (.aload_n 0, 1) := dk_42 (dk_at dksX3_renderBowls_0 0 rfl rfl)
theorem dX3_renderBowls_1 : decode cX3_renderBowls 1 = .ok (.iconst 0, 1) := dk_3 (dk_at dksX3_renderBowls_0 1 rfl rfl)
theorem dX3_renderBowls_2 : decode cX3_renderBowls 2 = .ok (.putfield 1, 3) := dk_181 0 1 (dk_at dksX3_renderBowls_0 2 rfl rfl)
theorem dX3_renderBowls_5 : decode cX3_renderBowls 5 = .ok (.aload_n 0, 1) := dk_42 (dk_at dksX3_renderBowls_0 5 rfl rfl)
theorem dX3_renderBowls_6 : decode cX3_renderBowls 6 = .ok (.iconst 0, 1) := dk_3 (dk_at dksX3_renderBowls_0 6 rfl rfl)
theorem dX3_renderBowls_7 : decode cX3_renderBowls 7 = .ok (.putfield 260, 3) := dk_181 1 4 (dk_at dksX3_renderBowls_0 7 rfl rfl)
theorem dX3_renderBowls_10 : decode cX3_renderBowls 10 = .ok (.iconst 0, 1) := dk_3 (dk_at dksX3_renderBowls_0 10 rfl rfl)
theorem dX3_renderBowls_11 : decode cX3_renderBowls 11 = .ok (.istore_n 1, 1) := dk_60 (dk_at dksX3_renderBowls_0 11 rfl rfl)
theorem dX3_renderBowls_12 : decode cX3_renderBowls 12 = .ok (.iload_n 1, 1) := dk_27 (dk_at dksX3_renderBowls_0 12 rfl rfl)
theorem dX3_renderBowls_13 : decode cX3_renderBowls 13 = .ok (.aload_n 0, 1) := dk_42 (dk_at dksX3_renderBowls_0 13 rfl rfl)
theorem dX3_renderBowls_14 : decode cX3_renderBowls 14 = .ok (.iconst 1, 1) := dk_4 (dk_at dksX3_renderBowls_0 14 rfl rfl)
theorem dX3_renderBowls_15 : decode cX3_renderBowls 15 = .ok (.invokevirtual 62, 3) := dk_182 0 62 (dk_at dksX3_renderBowls_0 15 rfl rfl)
theorem dX3_renderBowls_18 : decode cX3_renderBowls 18 = .ok (.if_icmp .ge 35, 3) := dk_162 0 35 (dk_at dksX3_renderBowls_0 18 rfl rfl)
theorem dX3_renderBowls_21 : decode cX3_renderBowls 21 = .ok (.iload_n 1, 1) := dk_27 (dk_at dksX3_renderBowls_0 21 rfl rfl)
theorem dX3_renderBowls_22 : decode cX3_renderBowls 22 = .ok (.ifCond .le 9, 3) := dk_158 0 9 (dk_at dksX3_renderBowls_1 0 rfl rfl)
theorem dX3_renderBowls_25 : decode cX3_renderBowls 25 = .ok (.aload_n 0, 1) := dk_42 (dk_at dksX3_renderBowls_1 3 rfl rfl)
theorem dX3_renderBowls_26 : decode cX3_renderBowls 26 = .ok (.bipush 32, 2) := dk_16 32 (dk_at dksX3_renderBowls_1 4 rfl rfl)
theorem dX3_renderBowls_28 : decode cX3_renderBowls 28 = .ok (.invokevirtual 263, 3) := dk_182 1 7 (dk_at dksX3_renderBowls_1 6 rfl rfl)
theorem dX3_renderBowls_31 : decode cX3_renderBowls 31 = .ok (.aload_n 0, 1) := dk_42 (dk_at dksX3_renderBowls_1 9 rfl rfl)
theorem dX3_renderBowls_32 : decode cX3_renderBowls 32 = .ok (.aload_n 0, 1) := dk_42 (dk_at dksX3_renderBowls_1 10 rfl rfl)
theorem dX3_renderBowls_33 : decode cX3_renderBowls 33 = .ok (.iload_n 1, 1) := dk_27 (dk_at dksX3_renderBowls_1 11 rfl rfl)
theorem dX3_renderBowls_34 : decode cX3_renderBowls 34 = .ok (.iconst 1, 1) := dk_4 (dk_at dksX3_renderBowls_1 12 rfl rfl)
theorem dX3_renderBowls_35 : decode cX3_renderBowls 35 = .ok (.invokevirtual 118, 3) := dk_182 0 118 (dk_at dksX3_renderBowls_1 13 rfl rfl)
theorem dX3_renderBowls_38 : decode cX3_renderBowls 38 = .ok (.aload_n 0, 1) := dk_42 (dk_at dksX3_renderBowls_1 16 rfl rfl)
theorem dX3_renderBowls_39 : decode cX3_renderBowls 39 = .ok (.iload_n 1, 1) := dk_27 (dk_at dksX3_renderBowls_1 17 rfl rfl)
theorem dX3_renderBowls_40 : decode cX3_renderBowls 40 = .ok (.iconst 0, 1) := dk_3 (dk_at dksX3_renderBowls_1 18 rfl rfl)
theorem dX3_renderBowls_41 : decode cX3_renderBowls 41 = .ok (.invokevirtual 118, 3) := dk_182 0 118 (dk_at dksX3_renderBowls_1 19 rfl rfl)
theorem dX3_renderBowls_44 : decode cX3_renderBowls 44 = .ok (.invokevirtual 270, 3) := dk_182 1 14 (dk_at dksX3_renderBowls_2 0 rfl rfl)
theorem dX3_renderBowls_47 : decode cX3_renderBowls 47 = .ok (.iinc 1 1, 3) := dk_132 1 1 (dk_at dksX3_renderBowls_2 3 rfl rfl)
theorem dX3_renderBowls_50 : decode cX3_renderBowls 50 = .ok (.goto (-38), 3) := dk_167 255 218 (dk_at dksX3_renderBowls_2 6 rfl rfl)
theorem dX3_renderBowls_53 : decode cX3_renderBowls 53 = .ok (.aload_n 0, 1) := dk_42 (dk_at dksX3_renderBowls_2 9 rfl rfl)
theorem dX3_renderBowls_54 : decode cX3_renderBowls 54 = .ok (.getfield 260, 3) := dk_180 1 4 (dk_at dksX3_renderBowls_2 10 rfl rfl)
theorem dX3_renderBowls_57 : decode cX3_renderBowls 57 = .ok (.ireturn, 1) := dk_172 (dk_at dksX3_renderBowls_2 13 rfl rfl)
abbrev cX3_outputAt : ByteArray := prog_21_method_111_code
def yX3_outputAt : MethodName := ⟨RX3, "outputAt", "(I)C"⟩
def dkwX3_outputAt_1 : List UInt8 := [52, 172, 42, 4, 182, 0, 81, 146, 172]
abbrev dktX3_outputAt_1 : List UInt8 := dkwX3_outputAt_1 ++ []
def dkwX3_outputAt_0 : List UInt8 := [42, 3, 181, 0, 1, 27, 3, 42, 180, 1, 4, 4, 100, 184, 0, 66, 153, 0, 10, 42, 180, 0, 30, 27]
abbrev dktX3_outputAt_0 : List UInt8 := dkwX3_outputAt_0 ++ dktX3_outputAt_1
theorem dksX3_outputAt_0 : cX3_outputAt.data.toList.drop 0 = dktX3_outputAt_0 := by decide +kernel
theorem dksX3_outputAt_1 : cX3_outputAt.data.toList.drop 24 = dktX3_outputAt_1 := dk_seg dksX3_outputAt_0 24 rfl rfl
theorem dX3_outputAt_0 : decode cX3_outputAt 0 = .ok (.aload_n 0, 1) := dk_42 (dk_at dksX3_outputAt_0 0 rfl rfl)
theorem dX3_outputAt_1 : decode cX3_outputAt 1 = .ok (.iconst 0, 1) := dk_3 (dk_at dksX3_outputAt_0 1 rfl rfl)
theorem dX3_outputAt_2 : decode cX3_outputAt 2 = .ok (.putfield 1, 3) := dk_181 0 1 (dk_at dksX3_outputAt_0 2 rfl rfl)
theorem dX3_outputAt_5 : decode cX3_outputAt 5 = .ok (.iload_n 1, 1) := dk_27 (dk_at dksX3_outputAt_0 5 rfl rfl)
theorem dX3_outputAt_6 : decode cX3_outputAt 6 = .ok (.iconst 0, 1) := dk_3 (dk_at dksX3_outputAt_0 6 rfl rfl)
theorem dX3_outputAt_7 : decode cX3_outputAt 7 = .ok (.aload_n 0, 1) := dk_42 (dk_at dksX3_outputAt_0 7 rfl rfl)
theorem dX3_outputAt_8 : decode cX3_outputAt 8 = .ok (.getfield 260, 3) := dk_180 1 4 (dk_at dksX3_outputAt_0 8 rfl rfl)
theorem dX3_outputAt_11 : decode cX3_outputAt 11 = .ok (.iconst 1, 1) := dk_4 (dk_at dksX3_outputAt_0 11 rfl rfl)
theorem dX3_outputAt_12 : decode cX3_outputAt 12 = .ok (.isub, 1) := dk_100 (dk_at dksX3_outputAt_0 12 rfl rfl)
theorem dX3_outputAt_13 : decode cX3_outputAt 13 = .ok (.invokestatic 66, 3) := dk_184 0 66 (dk_at dksX3_outputAt_0 13 rfl rfl)
theorem dX3_outputAt_16 : decode cX3_outputAt 16 = .ok (.ifCond .eq 10, 3) := dk_153 0 10 (dk_at dksX3_outputAt_0 16 rfl rfl)
theorem dX3_outputAt_19 : decode cX3_outputAt 19 = .ok (.aload_n 0, 1) := dk_42 (dk_at dksX3_outputAt_0 19 rfl rfl)
theorem dX3_outputAt_20 : decode cX3_outputAt 20 = .ok (.getfield 30, 3) := dk_180 0 30 (dk_at dksX3_outputAt_0 20 rfl rfl)
theorem dX3_outputAt_23 : decode cX3_outputAt 23 = .ok (.iload_n 1, 1) := dk_27 (dk_at dksX3_outputAt_0 23 rfl rfl)
theorem dX3_outputAt_24 : decode cX3_outputAt 24 = .ok (.caload, 1) := dk_52 (dk_at dksX3_outputAt_1 0 rfl rfl)
theorem dX3_outputAt_25 : decode cX3_outputAt 25 = .ok (.ireturn, 1) := dk_172 (dk_at dksX3_outputAt_1 1 rfl rfl)
theorem dX3_outputAt_26 : decode cX3_outputAt 26 = .ok (.aload_n 0, 1) := dk_42 (dk_at dksX3_outputAt_1 2 rfl rfl)
theorem dX3_outputAt_27 : decode cX3_outputAt 27 = .ok (.iconst 1, 1) := dk_4 (dk_at dksX3_outputAt_1 3 rfl rfl)
theorem dX3_outputAt_28 : decode cX3_outputAt 28 = .ok (.invokevirtual 81, 3) := dk_182 0 81 (dk_at dksX3_outputAt_1 4 rfl rfl)
theorem dX3_outputAt_31 : decode cX3_outputAt 31 = .ok (.i2c, 1) := dk_146 (dk_at dksX3_outputAt_1 7 rfl rfl)
theorem dX3_outputAt_32 : decode cX3_outputAt 32 = .ok (.ireturn, 1) := dk_172 (dk_at dksX3_outputAt_1 8 rfl rfl)
abbrev cX3_type : ByteArray := prog_21_method_112_code
def yX3_type : MethodName := ⟨RX3, "type", "(C)I"⟩
def dkwX3_type_2 : List UInt8 := [42, 89, 180, 1, 18, 4, 96, 181, 1, 18, 42, 180, 1, 18, 172]
abbrev dktX3_type_2 : List UInt8 := dkwX3_type_2 ++ []
def dkwX3_type_1 : List UInt8 := [180, 1, 18, 16, 60, 160, 0, 9, 42, 5, 182, 0, 81, 172, 42, 180, 0, 34, 42, 180, 1, 18, 27, 85]
abbrev dktX3_type_1 : List UInt8 := dkwX3_type_1 ++ dktX3_type_2
def dkwX3_type_0 : List UInt8 := [42, 3, 181, 0, 1, 27, 16, 32, 16, 126, 184, 0, 66, 154, 0, 9, 42, 4, 182, 0, 81, 172, 42]
abbrev dktX3_type_0 : List UInt8 := dkwX3_type_0 ++ dktX3_type_1
theorem dksX3_type_0 : cX3_type.data.toList.drop 0 = dktX3_type_0 := by decide +kernel
theorem dksX3_type_1 : cX3_type.data.toList.drop 23 = dktX3_type_1 := dk_seg dksX3_type_0 23 rfl rfl
theorem dksX3_type_2 : cX3_type.data.toList.drop 47 = dktX3_type_2 := dk_seg dksX3_type_1 24 rfl rfl
theorem dX3_type_0 : decode cX3_type 0 = .ok (.aload_n 0, 1) := dk_42 (dk_at dksX3_type_0 0 rfl rfl)
theorem dX3_type_1 : decode cX3_type 1 = .ok (.iconst 0, 1) := dk_3 (dk_at dksX3_type_0 1 rfl rfl)
theorem dX3_type_2 : decode cX3_type 2 = .ok (.putfield 1, 3) := dk_181 0 1 (dk_at dksX3_type_0 2 rfl rfl)
theorem dX3_type_5 : decode cX3_type 5 = .ok (.iload_n 1, 1) := dk_27 (dk_at dksX3_type_0 5 rfl rfl)
theorem dX3_type_6 : decode cX3_type 6 = .ok (.bipush 32, 2) := dk_16 32 (dk_at dksX3_type_0 6 rfl rfl)
theorem dX3_type_8 : decode cX3_type 8 = .ok (.bipush 126, 2) := dk_16 126 (dk_at dksX3_type_0 8 rfl rfl)
theorem dX3_type_10 : decode cX3_type 10 = .ok (.invokestatic 66, 3) := dk_184 0 66 (dk_at dksX3_type_0 10 rfl rfl)
theorem dX3_type_13 : decode cX3_type 13 = .ok (.ifCond .ne 9, 3) := dk_154 0 9 (dk_at dksX3_type_0 13 rfl rfl)
theorem dX3_type_16 : decode cX3_type 16 = .ok (.aload_n 0, 1) := dk_42 (dk_at dksX3_type_0 16 rfl rfl)
theorem dX3_type_17 : decode cX3_type 17 = .ok (.iconst 1, 1) := dk_4 (dk_at dksX3_type_0 17 rfl rfl)
theorem dX3_type_18 : decode cX3_type 18 = .ok (.invokevirtual 81, 3) := dk_182 0 81 (dk_at dksX3_type_0 18 rfl rfl)
theorem dX3_type_21 : decode cX3_type 21 = .ok (.ireturn, 1) := dk_172 (dk_at dksX3_type_0 21 rfl rfl)
theorem dX3_type_22 : decode cX3_type 22 = .ok (.aload_n 0, 1) := dk_42 (dk_at dksX3_type_0 22 rfl rfl)
theorem dX3_type_23 : decode cX3_type 23 = .ok (.getfield 274, 3) := dk_180 1 18 (dk_at dksX3_type_1 0 rfl rfl)
theorem dX3_type_26 : decode cX3_type 26 = .ok (.bipush 60, 2) := dk_16 60 (dk_at dksX3_type_1 3 rfl rfl)
theorem dX3_type_28 : decode cX3_type 28 = .ok (.if_icmp .ne 9, 3) := dk_160 0 9 (dk_at dksX3_type_1 5 rfl rfl)
theorem dX3_type_31 : decode cX3_type 31 = .ok (.aload_n 0, 1) := dk_42 (dk_at dksX3_type_1 8 rfl rfl)
theorem dX3_type_32 : decode cX3_type 32 = .ok (.iconst 2, 1) := dk_5 (dk_at dksX3_type_1 9 rfl rfl)
theorem dX3_type_33 : decode cX3_type 33 = .ok (.invokevirtual 81, 3) := dk_182 0 81 (dk_at dksX3_type_1 10 rfl rfl)
theorem dX3_type_36 : decode cX3_type 36 = .ok (.ireturn, 1) := dk_172 (dk_at dksX3_type_1 13 rfl rfl)
theorem dX3_type_37 : decode cX3_type 37 = .ok (.aload_n 0, 1) := dk_42 (dk_at dksX3_type_1 14 rfl rfl)
theorem dX3_type_38 : decode cX3_type 38 = .ok (.getfield 34, 3) := dk_180 0 34 (dk_at dksX3_type_1 15 rfl rfl)
theorem dX3_type_41 : decode cX3_type 41 = .ok (.aload_n 0, 1) := dk_42 (dk_at dksX3_type_1 18 rfl rfl)
theorem dX3_type_42 : decode cX3_type 42 = .ok (.getfield 274, 3) := dk_180 1 18 (dk_at dksX3_type_1 19 rfl rfl)
theorem dX3_type_45 : decode cX3_type 45 = .ok (.iload_n 1, 1) := dk_27 (dk_at dksX3_type_1 22 rfl rfl)
theorem dX3_type_46 : decode cX3_type 46 = .ok (.castore, 1) := dk_85 (dk_at dksX3_type_1 23 rfl rfl)
theorem dX3_type_47 : decode cX3_type 47 = .ok (.aload_n 0, 1) := dk_42 (dk_at dksX3_type_2 0 rfl rfl)
theorem dX3_type_48 : decode cX3_type 48 = .ok (.dup, 1) := dk_89 (dk_at dksX3_type_2 1 rfl rfl)
theorem dX3_type_49 : decode cX3_type 49 = .ok (.getfield 274, 3) := dk_180 1 18 (dk_at dksX3_type_2 2 rfl rfl)
theorem dX3_type_52 : decode cX3_type 52 = .ok (.iconst 1, 1) := dk_4 (dk_at dksX3_type_2 5 rfl rfl)
theorem dX3_type_53 : decode cX3_type 53 = .ok (.iadd, 1) := dk_96 (dk_at dksX3_type_2 6 rfl rfl)
theorem dX3_type_54 : decode cX3_type 54 = .ok (.putfield 274, 3) := dk_181 1 18 (dk_at dksX3_type_2 7 rfl rfl)
theorem dX3_type_57 : decode cX3_type 57 = .ok (.aload_n 0, 1) := dk_42 (dk_at dksX3_type_2 10 rfl rfl)
theorem dX3_type_58 : decode cX3_type 58 = .ok (.getfield 274, 3) := dk_180 1 18 (dk_at dksX3_type_2 11 rfl rfl)
theorem dX3_type_61 : decode cX3_type 61 = .ok (.ireturn, 1) := dk_172 (dk_at dksX3_type_2 14 rfl rfl)
abbrev cX3_runScript : ByteArray := prog_21_method_127_code
def yX3_runScript : MethodName := ⟨RX3, "runScript", "()I"⟩
def dkwX3_runScript_3 : List UInt8 := [42, 5, 182, 0, 81, 172]
abbrev dktX3_runScript_3 : List UInt8 := dkwX3_runScript_3 ++ []
def dkwX3_runScript_2 : List UInt8 := [153, 0, 12, 42, 182, 0, 59, 42, 180, 1, 59, 172, 42, 182, 1, 77, 42, 42, 180, 1, 59, 181, 0, 40]
abbrev dktX3_runScript_2 : List UInt8 := dkwX3_runScript_2 ++ dktX3_runScript_3
def dkwX3_runScript_1 : List UInt8 := [181, 1, 18, 42, 4, 182, 0, 81, 172, 42, 182, 0, 56, 42, 182, 1, 74, 60, 42, 3, 181, 1, 18, 27]
abbrev dktX3_runScript_1 : List UInt8 := dkwX3_runScript_1 ++ dktX3_runScript_2
def dkwX3_runScript_0 : List UInt8 := [42, 3, 181, 0, 1, 42, 182, 1, 71, 154, 0, 22, 42, 42, 180, 1, 21, 181, 0, 37, 42, 3]
abbrev dktX3_runScript_0 : List UInt8 := dkwX3_runScript_0 ++ dktX3_runScript_1
theorem dksX3_runScript_0 : cX3_runScript.data.toList.drop 0 = dktX3_runScript_0 := by decide +kernel
theorem dksX3_runScript_1 : cX3_runScript.data.toList.drop 22 = dktX3_runScript_1 := dk_seg dksX3_runScript_0 22 rfl rfl
theorem dksX3_runScript_2 : cX3_runScript.data.toList.drop 46 = dktX3_runScript_2 := dk_seg dksX3_runScript_1 24 rfl rfl
theorem dksX3_runScript_3 : cX3_runScript.data.toList.drop 70 = dktX3_runScript_3 := dk_seg dksX3_runScript_2 24 rfl rfl
theorem dX3_runScript_0 : decode cX3_runScript 0 = .ok (.aload_n 0, 1) := dk_42 (dk_at dksX3_runScript_0 0 rfl rfl)
theorem dX3_runScript_1 : decode cX3_runScript 1 = .ok (.iconst 0, 1) := dk_3 (dk_at dksX3_runScript_0 1 rfl rfl)
theorem dX3_runScript_2 : decode cX3_runScript 2 = .ok (.putfield 1, 3) := dk_181 0 1 (dk_at dksX3_runScript_0 2 rfl rfl)
theorem dX3_runScript_5 : decode cX3_runScript 5 = .ok (.aload_n 0, 1) := dk_42 (dk_at dksX3_runScript_0 5 rfl rfl)
theorem dX3_runScript_6 : decode cX3_runScript 6 = .ok (.invokevirtual 327, 3) := dk_182 1 71 (dk_at dksX3_runScript_0 6 rfl rfl)
theorem dX3_runScript_9 : decode cX3_runScript 9 = .ok (.ifCond .ne 22, 3) := dk_154 0 22 (dk_at dksX3_runScript_0 9 rfl rfl)
theorem dX3_runScript_12 : decode cX3_runScript 12 = .ok (.aload_n 0, 1) := dk_42 (dk_at dksX3_runScript_0 12 rfl rfl)
theorem dX3_runScript_13 : decode cX3_runScript 13 = .ok (.aload_n 0, 1) := dk_42 (dk_at dksX3_runScript_0 13 rfl rfl)
theorem dX3_runScript_14 : decode cX3_runScript 14 = .ok (.getfield 277, 3) := dk_180 1 21 (dk_at dksX3_runScript_0 14 rfl rfl)
theorem dX3_runScript_17 : decode cX3_runScript 17 = .ok (.putfield 37, 3) := dk_181 0 37 (dk_at dksX3_runScript_0 17 rfl rfl)
theorem dX3_runScript_20 : decode cX3_runScript 20 = .ok (.aload_n 0, 1) := dk_42 (dk_at dksX3_runScript_0 20 rfl rfl)
theorem dX3_runScript_21 : decode cX3_runScript 21 = .ok (.iconst 0, 1) := dk_3 (dk_at dksX3_runScript_0 21 rfl rfl)
theorem dX3_runScript_22 : decode cX3_runScript 22 = .ok (.putfield 274, 3) := dk_181 1 18 (dk_at dksX3_runScript_1 0 rfl rfl)
theorem dX3_runScript_25 : decode cX3_runScript 25 = .ok (.aload_n 0, 1) := dk_42 (dk_at dksX3_runScript_1 3 rfl rfl)
theorem dX3_runScript_26 : decode cX3_runScript 26 = .ok (.iconst 1, 1) := dk_4 (dk_at dksX3_runScript_1 4 rfl rfl)
theorem dX3_runScript_27 : decode cX3_runScript 27 = .ok (.invokevirtual 81, 3) := dk_182 0 81 (dk_at dksX3_runScript_1 5 rfl rfl)
theorem dX3_runScript_30 : decode cX3_runScript 30 = .ok (.ireturn, 1) := dk_172 (dk_at dksX3_runScript_1 8 rfl rfl)
theorem dX3_runScript_31 : decode cX3_runScript 31 = .ok (.aload_n 0, 1) := dk_42 (dk_at dksX3_runScript_1 9 rfl rfl)
theorem dX3_runScript_32 : decode cX3_runScript 32 = .ok (.invokevirtual 56, 3) := dk_182 0 56 (dk_at dksX3_runScript_1 10 rfl rfl)
theorem dX3_runScript_35 : decode cX3_runScript 35 = .ok (.aload_n 0, 1) := dk_42 (dk_at dksX3_runScript_1 13 rfl rfl)
theorem dX3_runScript_36 : decode cX3_runScript 36 = .ok (.invokevirtual 330, 3) := dk_182 1 74 (dk_at dksX3_runScript_1 14 rfl rfl)
theorem dX3_runScript_39 : decode cX3_runScript 39 = .ok (.istore_n 1, 1) := dk_60 (dk_at dksX3_runScript_1 17 rfl rfl)
theorem dX3_runScript_40 : decode cX3_runScript 40 = .ok (.aload_n 0, 1) := dk_42 (dk_at dksX3_runScript_1 18 rfl rfl)
theorem dX3_runScript_41 : decode cX3_runScript 41 = .ok (.iconst 0, 1) := dk_3 (dk_at dksX3_runScript_1 19 rfl rfl)
theorem dX3_runScript_42 : decode cX3_runScript 42 = .ok (.putfield 274, 3) := dk_181 1 18 (dk_at dksX3_runScript_1 20 rfl rfl)
theorem dX3_runScript_45 : decode cX3_runScript 45 = .ok (.iload_n 1, 1) := dk_27 (dk_at dksX3_runScript_1 23 rfl rfl)
theorem dX3_runScript_46 : decode cX3_runScript 46 = .ok (.ifCond .eq 12, 3) := dk_153 0 12 (dk_at dksX3_runScript_2 0 rfl rfl)
theorem dX3_runScript_49 : decode cX3_runScript 49 = .ok (.aload_n 0, 1) := dk_42 (dk_at dksX3_runScript_2 3 rfl rfl)
theorem dX3_runScript_50 : decode cX3_runScript 50 = .ok (.invokevirtual 59, 3) := dk_182 0 59 (dk_at dksX3_runScript_2 4 rfl rfl)
theorem dX3_runScript_53 : decode cX3_runScript 53 = .ok (.aload_n 0, 1) := dk_42 (dk_at dksX3_runScript_2 7 rfl rfl)
theorem dX3_runScript_54 : decode cX3_runScript 54 = .ok (.getfield 315, 3) := dk_180 1 59 (dk_at dksX3_runScript_2 8 rfl rfl)
theorem dX3_runScript_57 : decode cX3_runScript 57 = .ok (.ireturn, 1) := dk_172 (dk_at dksX3_runScript_2 11 rfl rfl)
theorem dX3_runScript_58 : decode cX3_runScript 58 = .ok (.aload_n 0, 1) := dk_42 (dk_at dksX3_runScript_2 12 rfl rfl)
theorem dX3_runScript_59 : decode cX3_runScript 59 = .ok (.invokevirtual 333, 3) := dk_182 1 77 (dk_at dksX3_runScript_2 13 rfl rfl)
theorem dX3_runScript_62 : decode cX3_runScript 62 = .ok (.aload_n 0, 1) := dk_42 (dk_at dksX3_runScript_2 16 rfl rfl)
theorem dX3_runScript_63 : decode cX3_runScript 63 = .ok (.aload_n 0, 1) := dk_42 (dk_at dksX3_runScript_2 17 rfl rfl)
theorem dX3_runScript_64 : decode cX3_runScript 64 = .ok (.getfield 315, 3) := dk_180 1 59 (dk_at dksX3_runScript_2 18 rfl rfl)
theorem dX3_runScript_67 : decode cX3_runScript 67 = .ok (.putfield 40, 3) := dk_181 0 40 (dk_at dksX3_runScript_2 21 rfl rfl)
theorem dX3_runScript_70 : decode cX3_runScript 70 = .ok (.aload_n 0, 1) := dk_42 (dk_at dksX3_runScript_3 0 rfl rfl)
theorem dX3_runScript_71 : decode cX3_runScript 71 = .ok (.iconst 2, 1) := dk_5 (dk_at dksX3_runScript_3 1 rfl rfl)
theorem dX3_runScript_72 : decode cX3_runScript 72 = .ok (.invokevirtual 81, 3) := dk_182 0 81 (dk_at dksX3_runScript_3 2 rfl rfl)
theorem dX3_runScript_75 : decode cX3_runScript 75 = .ok (.ireturn, 1) := dk_172 (dk_at dksX3_runScript_3 5 rfl rfl)
abbrev cX3_readsAll : ByteArray := prog_21_method_122_code
def yX3_readsAll : MethodName := ⟨RX3, "readsAll", "()Z"⟩
def dkwX3_readsAll_1 : List UInt8 := [182, 1, 30, 60, 167, 255, 236, 42, 180, 1, 21, 42, 180, 1, 18, 160, 0, 7, 4, 167, 0, 4, 3, 172]
abbrev dktX3_readsAll_1 : List UInt8 := dkwX3_readsAll_1 ++ []
def dkwX3_readsAll_0 : List UInt8 := [42, 3, 181, 1, 21, 4, 60, 27, 153, 0, 22, 42, 182, 1, 52, 154, 0, 5, 3, 172, 42, 16, 59]
abbrev dktX3_readsAll_0 : List UInt8 := dkwX3_readsAll_0 ++ dktX3_readsAll_1
theorem dksX3_readsAll_0 : cX3_readsAll.data.toList.drop 0 = dktX3_readsAll_0 := by decide +kernel
theorem dksX3_readsAll_1 : cX3_readsAll.data.toList.drop 23 = dktX3_readsAll_1 := dk_seg dksX3_readsAll_0 23 rfl rfl
theorem dX3_readsAll_0 : decode cX3_readsAll 0 = .ok (.aload_n 0, 1) := dk_42 (dk_at dksX3_readsAll_0 0 rfl rfl)
theorem dX3_readsAll_1 : decode cX3_readsAll 1 = .ok (.iconst 0, 1) := dk_3 (dk_at dksX3_readsAll_0 1 rfl rfl)
theorem dX3_readsAll_2 : decode cX3_readsAll 2 = .ok (.putfield 277, 3) := dk_181 1 21 (dk_at dksX3_readsAll_0 2 rfl rfl)
theorem dX3_readsAll_5 : decode cX3_readsAll 5 = .ok (.iconst 1, 1) := dk_4 (dk_at dksX3_readsAll_0 5 rfl rfl)
theorem dX3_readsAll_6 : decode cX3_readsAll 6 = .ok (.istore_n 1, 1) := dk_60 (dk_at dksX3_readsAll_0 6 rfl rfl)
theorem dX3_readsAll_7 : decode cX3_readsAll 7 = .ok (.iload_n 1, 1) := dk_27 (dk_at dksX3_readsAll_0 7 rfl rfl)
theorem dX3_readsAll_8 : decode cX3_readsAll 8 = .ok (.ifCond .eq 22, 3) := dk_153 0 22 (dk_at dksX3_readsAll_0 8 rfl rfl)
theorem dX3_readsAll_11 : decode cX3_readsAll 11 = .ok (.aload_n 0, 1) := dk_42 (dk_at dksX3_readsAll_0 11 rfl rfl)
theorem dX3_readsAll_12 : decode cX3_readsAll 12 = .ok (.invokevirtual 308, 3) := dk_182 1 52 (dk_at dksX3_readsAll_0 12 rfl rfl)
theorem dX3_readsAll_15 : decode cX3_readsAll 15 = .ok (.ifCond .ne 5, 3) := dk_154 0 5 (dk_at dksX3_readsAll_0 15 rfl rfl)
theorem dX3_readsAll_18 : decode cX3_readsAll 18 = .ok (.iconst 0, 1) := dk_3 (dk_at dksX3_readsAll_0 18 rfl rfl)
theorem dX3_readsAll_19 : decode cX3_readsAll 19 = .ok (.ireturn, 1) := dk_172 (dk_at dksX3_readsAll_0 19 rfl rfl)
theorem dX3_readsAll_20 : decode cX3_readsAll 20 = .ok (.aload_n 0, 1) := dk_42 (dk_at dksX3_readsAll_0 20 rfl rfl)
theorem dX3_readsAll_21 : decode cX3_readsAll 21 = .ok (.bipush 59, 2) := dk_16 59 (dk_at dksX3_readsAll_0 21 rfl rfl)
theorem dX3_readsAll_23 : decode cX3_readsAll 23 = .ok (.invokevirtual 286, 3) := dk_182 1 30 (dk_at dksX3_readsAll_1 0 rfl rfl)
theorem dX3_readsAll_26 : decode cX3_readsAll 26 = .ok (.istore_n 1, 1) := dk_60 (dk_at dksX3_readsAll_1 3 rfl rfl)
theorem dX3_readsAll_27 : decode cX3_readsAll 27 = .ok (.goto (-20), 3) := dk_167 255 236 (dk_at dksX3_readsAll_1 4 rfl rfl)
theorem dX3_readsAll_30 : decode cX3_readsAll 30 = .ok (.aload_n 0, 1) := dk_42 (dk_at dksX3_readsAll_1 7 rfl rfl)
theorem dX3_readsAll_31 : decode cX3_readsAll 31 = .ok (.getfield 277, 3) := dk_180 1 21 (dk_at dksX3_readsAll_1 8 rfl rfl)
theorem dX3_readsAll_34 : decode cX3_readsAll 34 = .ok (.aload_n 0, 1) := dk_42 (dk_at dksX3_readsAll_1 11 rfl rfl)
theorem dX3_readsAll_35 : decode cX3_readsAll 35 = .ok (.getfield 274, 3) := dk_180 1 18 (dk_at dksX3_readsAll_1 12 rfl rfl)
theorem dX3_readsAll_38 : decode cX3_readsAll 38 = .ok (.if_icmp .ne 7, 3) := dk_160 0 7 (dk_at dksX3_readsAll_1 15 rfl rfl)
theorem dX3_readsAll_41 : decode cX3_readsAll 41 = .ok (.iconst 1, 1) := dk_4 (dk_at dksX3_readsAll_1 18 rfl rfl)
theorem dX3_readsAll_42 : decode cX3_readsAll 42 = .ok (.goto 4, 3) := dk_167 0 4 (dk_at dksX3_readsAll_1 19 rfl rfl)
theorem dX3_readsAll_45 : decode cX3_readsAll 45 = .ok (.iconst 0, 1) := dk_3 (dk_at dksX3_readsAll_1 22 rfl rfl)
theorem dX3_readsAll_46 : decode cX3_readsAll 46 = .ok (.ireturn, 1) := dk_172 (dk_at dksX3_readsAll_1 23 rfl rfl)
abbrev cX3_readsCommand : ByteArray := prog_21_method_121_code
def yX3_readsCommand : MethodName := ⟨RX3, "readsCommand", "()Z"⟩
def dkwX3_readsCommand_18 : List UInt8 := [42, 3, 182, 1, 27, 153, 0, 7, 4, 167, 0, 4, 3, 172]
abbrev dktX3_readsCommand_18 : List UInt8 := dkwX3_readsCommand_18 ++ []
def dkwX3_readsCommand_17 : List UInt8 := [182, 1, 30, 153, 0, 33, 42, 16, 115, 182, 1, 30, 153, 0, 24, 42, 16, 32, 182, 1, 30, 153, 0, 15]
abbrev dktX3_readsCommand_17 : List UInt8 := dkwX3_readsCommand_17 ++ dktX3_readsCommand_18
def dkwX3_readsCommand_16 : List UInt8 := [153, 0, 60, 42, 16, 118, 182, 1, 30, 153, 0, 51, 42, 16, 101, 182, 1, 30, 153, 0, 42, 42, 16, 110]
abbrev dktX3_readsCommand_16 : List UInt8 := dkwX3_readsCommand_16 ++ dktX3_readsCommand_17
def dkwX3_readsCommand_15 : List UInt8 := [153, 0, 15, 42, 3, 182, 1, 27, 153, 0, 7, 4, 167, 0, 4, 3, 172, 42, 16, 111, 182, 1, 30]
abbrev dktX3_readsCommand_15 : List UInt8 := dkwX3_readsCommand_15 ++ dktX3_readsCommand_16
def dkwX3_readsCommand_14 : List UInt8 := [42, 16, 116, 182, 1, 30, 153, 0, 33, 42, 16, 121, 182, 1, 30, 153, 0, 24, 42, 16, 32, 182, 1, 30]
abbrev dktX3_readsCommand_14 : List UInt8 := dkwX3_readsCommand_14 ++ dktX3_readsCommand_15
def dkwX3_readsCommand_13 : List UInt8 := [182, 1, 30, 153, 0, 62, 42, 16, 109, 182, 1, 30, 153, 0, 51, 42, 16, 112, 182, 1, 30, 153, 0, 42]
abbrev dktX3_readsCommand_13 : List UInt8 := dkwX3_readsCommand_13 ++ dktX3_readsCommand_14
def dkwX3_readsCommand_12 : List UInt8 := [182, 1, 30, 153, 0, 14, 42, 182, 1, 39, 153, 0, 7, 4, 167, 0, 4, 3, 172, 42, 16, 101]
abbrev dktX3_readsCommand_12 : List UInt8 := dkwX3_readsCommand_12 ++ dktX3_readsCommand_13
def dkwX3_readsCommand_11 : List UInt8 := [153, 0, 43, 42, 16, 111, 182, 1, 30, 153, 0, 32, 42, 16, 117, 182, 1, 30, 153, 0, 23, 42, 16, 114]
abbrev dktX3_readsCommand_11 : List UInt8 := dkwX3_readsCommand_11 ++ dktX3_readsCommand_12
def dkwX3_readsCommand_10 : List UInt8 := [182, 1, 46, 172, 42, 16, 114, 182, 1, 30, 153, 0, 8, 42, 182, 1, 49, 172, 42, 16, 112, 182, 1, 30]
abbrev dktX3_readsCommand_10 : List UInt8 := dkwX3_readsCommand_10 ++ dktX3_readsCommand_11
def dkwX3_readsCommand_9 : List UInt8 := [4, 182, 1, 33, 153, 0, 7, 4, 167, 0, 4, 3, 172, 42, 16, 115, 182, 1, 30, 153, 0, 8, 42]
abbrev dktX3_readsCommand_9 : List UInt8 := dkwX3_readsCommand_9 ++ dktX3_readsCommand_10
def dkwX3_readsCommand_8 : List UInt8 := [182, 1, 30, 153, 0, 32, 42, 3, 182, 1, 33, 153, 0, 24, 42, 16, 32, 182, 1, 30, 153, 0, 15, 42]
abbrev dktX3_readsCommand_8 : List UInt8 := dkwX3_readsCommand_8 ++ dktX3_readsCommand_9
def dkwX3_readsCommand_7 : List UInt8 := [153, 0, 59, 42, 16, 97, 182, 1, 30, 153, 0, 50, 42, 16, 102, 182, 1, 30, 153, 0, 41, 42, 16, 32]
abbrev dktX3_readsCommand_7 : List UInt8 := dkwX3_readsCommand_7 ++ dktX3_readsCommand_8
def dkwX3_readsCommand_6 : List UInt8 := [153, 0, 8, 42, 182, 1, 43, 172, 42, 16, 108, 182, 1, 30, 153, 0, 70, 42, 16, 111, 182, 1, 30]
abbrev dktX3_readsCommand_6 : List UInt8 := dkwX3_readsCommand_6 ++ dktX3_readsCommand_7
def dkwX3_readsCommand_5 : List UInt8 := [153, 0, 14, 42, 182, 1, 39, 153, 0, 7, 4, 167, 0, 4, 3, 172, 42, 16, 98, 182, 1, 30]
abbrev dktX3_readsCommand_5 : List UInt8 := dkwX3_readsCommand_5 ++ dktX3_readsCommand_6
def dkwX3_readsCommand_4 : List UInt8 := [16, 109, 182, 1, 30, 153, 0, 34, 42, 16, 105, 182, 1, 30, 153, 0, 23, 42, 16, 120, 182, 1, 30]
abbrev dktX3_readsCommand_4 : List UInt8 := dkwX3_readsCommand_4 ++ dktX3_readsCommand_5
def dkwX3_readsCommand_3 : List UInt8 := [16, 47, 182, 1, 30, 153, 0, 15, 42, 4, 182, 1, 33, 153, 0, 7, 4, 167, 0, 4, 3, 172, 42]
abbrev dktX3_readsCommand_3 : List UInt8 := dkwX3_readsCommand_3 ++ dktX3_readsCommand_4
def dkwX3_readsCommand_2 : List UInt8 := [182, 1, 30, 153, 0, 41, 42, 16, 32, 182, 1, 30, 153, 0, 32, 42, 3, 182, 1, 33, 153, 0, 24, 42]
abbrev dktX3_readsCommand_2 : List UInt8 := dkwX3_readsCommand_2 ++ dktX3_readsCommand_3
def dkwX3_readsCommand_1 : List UInt8 := [153, 0, 68, 42, 16, 117, 182, 1, 30, 153, 0, 59, 42, 16, 103, 182, 1, 30, 153, 0, 50, 42, 16, 104]
abbrev dktX3_readsCommand_1 : List UInt8 := dkwX3_readsCommand_1 ++ dktX3_readsCommand_2
def dkwX3_readsCommand_0 : List UInt8 := [42, 42, 182, 1, 24, 181, 1, 36, 42, 16, 100, 182, 1, 30, 153, 0, 79, 42, 16, 111, 182, 1, 30]
abbrev dktX3_readsCommand_0 : List UInt8 := dkwX3_readsCommand_0 ++ dktX3_readsCommand_1
theorem dksX3_readsCommand_0 : cX3_readsCommand.data.toList.drop 0 = dktX3_readsCommand_0 := by decide +kernel
theorem dksX3_readsCommand_1 : cX3_readsCommand.data.toList.drop 23 = dktX3_readsCommand_1 := dk_seg dksX3_readsCommand_0 23 rfl rfl
theorem dksX3_readsCommand_2 : cX3_readsCommand.data.toList.drop 47 = dktX3_readsCommand_2 := dk_seg dksX3_readsCommand_1 24 rfl rfl
theorem dksX3_readsCommand_3 : cX3_readsCommand.data.toList.drop 71 = dktX3_readsCommand_3 := dk_seg dksX3_readsCommand_2 24 rfl rfl
theorem dksX3_readsCommand_4 : cX3_readsCommand.data.toList.drop 94 = dktX3_readsCommand_4 := dk_seg dksX3_readsCommand_3 23 rfl rfl
theorem dksX3_readsCommand_5 : cX3_readsCommand.data.toList.drop 117 = dktX3_readsCommand_5 := dk_seg dksX3_readsCommand_4 23 rfl rfl
theorem dksX3_readsCommand_6 : cX3_readsCommand.data.toList.drop 139 = dktX3_readsCommand_6 := dk_seg dksX3_readsCommand_5 22 rfl rfl
theorem dksX3_readsCommand_7 : cX3_readsCommand.data.toList.drop 162 = dktX3_readsCommand_7 := dk_seg dksX3_readsCommand_6 23 rfl rfl
theorem dksX3_readsCommand_8 : cX3_readsCommand.data.toList.drop 186 = dktX3_readsCommand_8 := dk_seg dksX3_readsCommand_7 24 rfl rfl
theorem dksX3_readsCommand_9 : cX3_readsCommand.data.toList.drop 210 = dktX3_readsCommand_9 := dk_seg dksX3_readsCommand_8 24 rfl rfl
theorem dksX3_readsCommand_10 : cX3_readsCommand.data.toList.drop 233 = dktX3_readsCommand_10 := dk_seg dksX3_readsCommand_9 23 rfl rfl
theorem dksX3_readsCommand_11 : cX3_readsCommand.data.toList.drop 257 = dktX3_readsCommand_11 := dk_seg dksX3_readsCommand_10 24 rfl rfl
theorem dksX3_readsCommand_12 : cX3_readsCommand.data.toList.drop 281 = dktX3_readsCommand_12 := dk_seg dksX3_readsCommand_11 24 rfl rfl
theorem dksX3_readsCommand_13 : cX3_readsCommand.data.toList.drop 303 = dktX3_readsCommand_13 := dk_seg dksX3_readsCommand_12 22 rfl rfl
theorem dksX3_readsCommand_14 : cX3_readsCommand.data.toList.drop 327 = dktX3_readsCommand_14 := dk_seg dksX3_readsCommand_13 24 rfl rfl
theorem dksX3_readsCommand_15 : cX3_readsCommand.data.toList.drop 351 = dktX3_readsCommand_15 := dk_seg dksX3_readsCommand_14 24 rfl rfl
theorem dksX3_readsCommand_16 : cX3_readsCommand.data.toList.drop 374 = dktX3_readsCommand_16 := dk_seg dksX3_readsCommand_15 23 rfl rfl
theorem dksX3_readsCommand_17 : cX3_readsCommand.data.toList.drop 398 = dktX3_readsCommand_17 := dk_seg dksX3_readsCommand_16 24 rfl rfl
theorem dksX3_readsCommand_18 : cX3_readsCommand.data.toList.drop 422 = dktX3_readsCommand_18 := dk_seg dksX3_readsCommand_17 24 rfl rfl
theorem dX3_readsCommand_0 : decode cX3_readsCommand 0 = .ok (.aload_n 0, 1) := dk_42 (dk_at dksX3_readsCommand_0 0 rfl rfl)
theorem dX3_readsCommand_1 : decode cX3_readsCommand 1 = .ok (.aload_n 0, 1) := dk_42 (dk_at dksX3_readsCommand_0 1 rfl rfl)
theorem dX3_readsCommand_2 : decode cX3_readsCommand 2 = .ok (.invokevirtual 280, 3) := dk_182 1 24 (dk_at dksX3_readsCommand_0 2 rfl rfl)
theorem dX3_readsCommand_5 : decode cX3_readsCommand 5 = .ok (.putfield 292, 3) := dk_181 1 36 (dk_at dksX3_readsCommand_0 5 rfl rfl)
theorem dX3_readsCommand_8 : decode cX3_readsCommand 8 = .ok (.aload_n 0, 1) := dk_42 (dk_at dksX3_readsCommand_0 8 rfl rfl)
theorem dX3_readsCommand_9 : decode cX3_readsCommand 9 = .ok (.bipush 100, 2) := dk_16 100 (dk_at dksX3_readsCommand_0 9 rfl rfl)
theorem dX3_readsCommand_11 : decode cX3_readsCommand 11 = .ok (.invokevirtual 286, 3) := dk_182 1 30 (dk_at dksX3_readsCommand_0 11 rfl rfl)
theorem dX3_readsCommand_14 : decode cX3_readsCommand 14 = .ok (.ifCond .eq 79, 3) := dk_153 0 79 (dk_at dksX3_readsCommand_0 14 rfl rfl)
theorem dX3_readsCommand_17 : decode cX3_readsCommand 17 = .ok (.aload_n 0, 1) := dk_42 (dk_at dksX3_readsCommand_0 17 rfl rfl)
theorem dX3_readsCommand_18 : decode cX3_readsCommand 18 = .ok (.bipush 111, 2) := dk_16 111 (dk_at dksX3_readsCommand_0 18 rfl rfl)
theorem dX3_readsCommand_20 : decode cX3_readsCommand 20 = .ok (.invokevirtual 286, 3) := dk_182 1 30 (dk_at dksX3_readsCommand_0 20 rfl rfl)
theorem dX3_readsCommand_23 : decode cX3_readsCommand 23 = .ok (.ifCond .eq 68, 3) := dk_153 0 68 (dk_at dksX3_readsCommand_1 0 rfl rfl)
theorem dX3_readsCommand_26 : decode cX3_readsCommand 26 = .ok (.aload_n 0, 1) := dk_42 (dk_at dksX3_readsCommand_1 3 rfl rfl)
theorem dX3_readsCommand_27 : decode cX3_readsCommand 27 = .ok (.bipush 117, 2) := dk_16 117 (dk_at dksX3_readsCommand_1 4 rfl rfl)
theorem dX3_readsCommand_29 : decode cX3_readsCommand 29 = .ok (.invokevirtual 286, 3) := dk_182 1 30 (dk_at dksX3_readsCommand_1 6 rfl rfl)
theorem dX3_readsCommand_32 : decode cX3_readsCommand 32 = .ok (.ifCond .eq 59, 3) := dk_153 0 59 (dk_at dksX3_readsCommand_1 9 rfl rfl)
theorem dX3_readsCommand_35 : decode cX3_readsCommand 35 = .ok (.aload_n 0, 1) := dk_42 (dk_at dksX3_readsCommand_1 12 rfl rfl)
theorem dX3_readsCommand_36 : decode cX3_readsCommand 36 = .ok (.bipush 103, 2) := dk_16 103 (dk_at dksX3_readsCommand_1 13 rfl rfl)
theorem dX3_readsCommand_38 : decode cX3_readsCommand 38 = .ok (.invokevirtual 286, 3) := dk_182 1 30 (dk_at dksX3_readsCommand_1 15 rfl rfl)
theorem dX3_readsCommand_41 : decode cX3_readsCommand 41 = .ok (.ifCond .eq 50, 3) := dk_153 0 50 (dk_at dksX3_readsCommand_1 18 rfl rfl)
theorem dX3_readsCommand_44 : decode cX3_readsCommand 44 = .ok (.aload_n 0, 1) := dk_42 (dk_at dksX3_readsCommand_1 21 rfl rfl)
theorem dX3_readsCommand_45 : decode cX3_readsCommand 45 = .ok (.bipush 104, 2) := dk_16 104 (dk_at dksX3_readsCommand_1 22 rfl rfl)
theorem dX3_readsCommand_47 : decode cX3_readsCommand 47 = .ok (.invokevirtual 286, 3) := dk_182 1 30 (dk_at dksX3_readsCommand_2 0 rfl rfl)
theorem dX3_readsCommand_50 : decode cX3_readsCommand 50 = .ok (.ifCond .eq 41, 3) := dk_153 0 41 (dk_at dksX3_readsCommand_2 3 rfl rfl)
theorem dX3_readsCommand_53 : decode cX3_readsCommand 53 = .ok (.aload_n 0, 1) := dk_42 (dk_at dksX3_readsCommand_2 6 rfl rfl)
theorem dX3_readsCommand_54 : decode cX3_readsCommand 54 = .ok (.bipush 32, 2) := dk_16 32 (dk_at dksX3_readsCommand_2 7 rfl rfl)
theorem dX3_readsCommand_56 : decode cX3_readsCommand 56 = .ok (.invokevirtual 286, 3) := dk_182 1 30 (dk_at dksX3_readsCommand_2 9 rfl rfl)
theorem dX3_readsCommand_59 : decode cX3_readsCommand 59 = .ok (.ifCond .eq 32, 3) := dk_153 0 32 (dk_at dksX3_readsCommand_2 12 rfl rfl)
theorem dX3_readsCommand_62 : decode cX3_readsCommand 62 = .ok (.aload_n 0, 1) := dk_42 (dk_at dksX3_readsCommand_2 15 rfl rfl)
theorem dX3_readsCommand_63 : decode cX3_readsCommand 63 = .ok (.iconst 0, 1) := dk_3 (dk_at dksX3_readsCommand_2 16 rfl rfl)
theorem dX3_readsCommand_64 : decode cX3_readsCommand 64 = .ok (.invokevirtual 289, 3) := dk_182 1 33 (dk_at dksX3_readsCommand_2 17 rfl rfl)
theorem dX3_readsCommand_67 : decode cX3_readsCommand 67 = .ok (.ifCond .eq 24, 3) := dk_153 0 24 (dk_at dksX3_readsCommand_2 20 rfl rfl)
theorem dX3_readsCommand_70 : decode cX3_readsCommand 70 = .ok (.aload_n 0, 1) := dk_42 (dk_at dksX3_readsCommand_2 23 rfl rfl)
theorem dX3_readsCommand_71 : decode cX3_readsCommand 71 = .ok (.bipush 47, 2) := dk_16 47 (dk_at dksX3_readsCommand_3 0 rfl rfl)
theorem dX3_readsCommand_73 : decode cX3_readsCommand 73 = .ok (.invokevirtual 286, 3) := dk_182 1 30 (dk_at dksX3_readsCommand_3 2 rfl rfl)
theorem dX3_readsCommand_76 : decode cX3_readsCommand 76 = .ok (.ifCond .eq 15, 3) := dk_153 0 15 (dk_at dksX3_readsCommand_3 5 rfl rfl)
theorem dX3_readsCommand_79 : decode cX3_readsCommand 79 = .ok (.aload_n 0, 1) := dk_42 (dk_at dksX3_readsCommand_3 8 rfl rfl)
theorem dX3_readsCommand_80 : decode cX3_readsCommand 80 = .ok (.iconst 1, 1) := dk_4 (dk_at dksX3_readsCommand_3 9 rfl rfl)
theorem dX3_readsCommand_81 : decode cX3_readsCommand 81 = .ok (.invokevirtual 289, 3) := dk_182 1 33 (dk_at dksX3_readsCommand_3 10 rfl rfl)
theorem dX3_readsCommand_84 : decode cX3_readsCommand 84 = .ok (.ifCond .eq 7, 3) := dk_153 0 7 (dk_at dksX3_readsCommand_3 13 rfl rfl)
theorem dX3_readsCommand_87 : decode cX3_readsCommand 87 = .ok (.iconst 1, 1) := dk_4 (dk_at dksX3_readsCommand_3 16 rfl rfl)
theorem dX3_readsCommand_88 : decode cX3_readsCommand 88 = .ok (.goto 4, 3) := dk_167 0 4 (dk_at dksX3_readsCommand_3 17 rfl rfl)
theorem dX3_readsCommand_91 : decode cX3_readsCommand 91 = .ok (.iconst 0, 1) := dk_3 (dk_at dksX3_readsCommand_3 20 rfl rfl)
theorem dX3_readsCommand_92 : decode cX3_readsCommand 92 = .ok (.ireturn, 1) := dk_172 (dk_at dksX3_readsCommand_3 21 rfl rfl)
theorem dX3_readsCommand_93 : decode cX3_readsCommand 93 = .ok (.aload_n 0, 1) := dk_42 (dk_at dksX3_readsCommand_3 22 rfl rfl)
theorem dX3_readsCommand_94 : decode cX3_readsCommand 94 = .ok (.bipush 109, 2) := dk_16 109 (dk_at dksX3_readsCommand_4 0 rfl rfl)
theorem dX3_readsCommand_96 : decode cX3_readsCommand 96 = .ok (.invokevirtual 286, 3) := dk_182 1 30 (dk_at dksX3_readsCommand_4 2 rfl rfl)
theorem dX3_readsCommand_99 : decode cX3_readsCommand 99 = .ok (.ifCond .eq 34, 3) := dk_153 0 34 (dk_at dksX3_readsCommand_4 5 rfl rfl)
theorem dX3_readsCommand_102 : decode cX3_readsCommand 102 = .ok (.aload_n 0, 1) := dk_42 (dk_at dksX3_readsCommand_4 8 rfl rfl)
theorem dX3_readsCommand_103 : decode cX3_readsCommand 103 = .ok (.bipush 105, 2) := dk_16 105 (dk_at dksX3_readsCommand_4 9 rfl rfl)
theorem dX3_readsCommand_105 : decode cX3_readsCommand 105 = .ok (.invokevirtual 286, 3) := dk_182 1 30 (dk_at dksX3_readsCommand_4 11 rfl rfl)
theorem dX3_readsCommand_108 : decode cX3_readsCommand 108 = .ok (.ifCond .eq 23, 3) := dk_153 0 23 (dk_at dksX3_readsCommand_4 14 rfl rfl)
theorem dX3_readsCommand_111 : decode cX3_readsCommand 111 = .ok (.aload_n 0, 1) := dk_42 (dk_at dksX3_readsCommand_4 17 rfl rfl)
theorem dX3_readsCommand_112 : decode cX3_readsCommand 112 = .ok (.bipush 120, 2) := dk_16 120 (dk_at dksX3_readsCommand_4 18 rfl rfl)
theorem dX3_readsCommand_114 : decode cX3_readsCommand 114 = .ok (.invokevirtual 286, 3) := dk_182 1 30 (dk_at dksX3_readsCommand_4 20 rfl rfl)
theorem dX3_readsCommand_117 : decode cX3_readsCommand 117 = .ok (.ifCond .eq 14, 3) := dk_153 0 14 (dk_at dksX3_readsCommand_5 0 rfl rfl)
theorem dX3_readsCommand_120 : decode cX3_readsCommand 120 = .ok (.aload_n 0, 1) := dk_42 (dk_at dksX3_readsCommand_5 3 rfl rfl)
theorem dX3_readsCommand_121 : decode cX3_readsCommand 121 = .ok (.invokevirtual 295, 3) := dk_182 1 39 (dk_at dksX3_readsCommand_5 4 rfl rfl)
theorem dX3_readsCommand_124 : decode cX3_readsCommand 124 = .ok (.ifCond .eq 7, 3) := dk_153 0 7 (dk_at dksX3_readsCommand_5 7 rfl rfl)
theorem dX3_readsCommand_127 : decode cX3_readsCommand 127 = .ok (.iconst 1, 1) := dk_4 (dk_at dksX3_readsCommand_5 10 rfl rfl)
theorem dX3_readsCommand_128 : decode cX3_readsCommand 128 = .ok (.goto 4, 3) := dk_167 0 4 (dk_at dksX3_readsCommand_5 11 rfl rfl)
theorem dX3_readsCommand_131 : decode cX3_readsCommand 131 = .ok (.iconst 0, 1) := dk_3 (dk_at dksX3_readsCommand_5 14 rfl rfl)
theorem dX3_readsCommand_132 : decode cX3_readsCommand 132 = .ok (.ireturn, 1) := dk_172 (dk_at dksX3_readsCommand_5 15 rfl rfl)
theorem dX3_readsCommand_133 : decode cX3_readsCommand 133 = .ok (.aload_n 0, 1) := dk_42 (dk_at dksX3_readsCommand_5 16 rfl rfl)
theorem dX3_readsCommand_134 : decode cX3_readsCommand 134 = .ok (.bipush 98, 2) := dk_16 98 (dk_at dksX3_readsCommand_5 17 rfl rfl)
theorem dX3_readsCommand_136 : decode cX3_readsCommand 136 = .ok (.invokevirtual 286, 3) := dk_182 1 30 (dk_at dksX3_readsCommand_5 19 rfl rfl)
theorem dX3_readsCommand_139 : decode cX3_readsCommand 139 = .ok (.ifCond .eq 8, 3) := dk_153 0 8 (dk_at dksX3_readsCommand_6 0 rfl rfl)
theorem dX3_readsCommand_142 : decode cX3_readsCommand 142 = .ok (.aload_n 0, 1) := dk_42 (dk_at dksX3_readsCommand_6 3 rfl rfl)
theorem dX3_readsCommand_143 : decode cX3_readsCommand 143 = .ok (.invokevirtual 299, 3) := dk_182 1 43 (dk_at dksX3_readsCommand_6 4 rfl rfl)
theorem dX3_readsCommand_146 : decode cX3_readsCommand 146 = .ok (.ireturn, 1) := dk_172 (dk_at dksX3_readsCommand_6 7 rfl rfl)
theorem dX3_readsCommand_147 : decode cX3_readsCommand 147 = .ok (.aload_n 0, 1) := dk_42 (dk_at dksX3_readsCommand_6 8 rfl rfl)
theorem dX3_readsCommand_148 : decode cX3_readsCommand 148 = .ok (.bipush 108, 2) := dk_16 108 (dk_at dksX3_readsCommand_6 9 rfl rfl)
theorem dX3_readsCommand_150 : decode cX3_readsCommand 150 = .ok (.invokevirtual 286, 3) := dk_182 1 30 (dk_at dksX3_readsCommand_6 11 rfl rfl)
theorem dX3_readsCommand_153 : decode cX3_readsCommand 153 = .ok (.ifCond .eq 70, 3) := dk_153 0 70 (dk_at dksX3_readsCommand_6 14 rfl rfl)
theorem dX3_readsCommand_156 : decode cX3_readsCommand 156 = .ok (.aload_n 0, 1) := dk_42 (dk_at dksX3_readsCommand_6 17 rfl rfl)
theorem dX3_readsCommand_157 : decode cX3_readsCommand 157 = .ok (.bipush 111, 2) := dk_16 111 (dk_at dksX3_readsCommand_6 18 rfl rfl)
theorem dX3_readsCommand_159 : decode cX3_readsCommand 159 = .ok (.invokevirtual 286, 3) := dk_182 1 30 (dk_at dksX3_readsCommand_6 20 rfl rfl)
theorem dX3_readsCommand_162 : decode cX3_readsCommand 162 = .ok (.ifCond .eq 59, 3) := dk_153 0 59 (dk_at dksX3_readsCommand_7 0 rfl rfl)
theorem dX3_readsCommand_165 : decode cX3_readsCommand 165 = .ok (.aload_n 0, 1) := dk_42 (dk_at dksX3_readsCommand_7 3 rfl rfl)
theorem dX3_readsCommand_166 : decode cX3_readsCommand 166 = .ok (.bipush 97, 2) := dk_16 97 (dk_at dksX3_readsCommand_7 4 rfl rfl)
theorem dX3_readsCommand_168 : decode cX3_readsCommand 168 = .ok (.invokevirtual 286, 3) := dk_182 1 30 (dk_at dksX3_readsCommand_7 6 rfl rfl)
theorem dX3_readsCommand_171 : decode cX3_readsCommand 171 = .ok (.ifCond .eq 50, 3) := dk_153 0 50 (dk_at dksX3_readsCommand_7 9 rfl rfl)
theorem dX3_readsCommand_174 : decode cX3_readsCommand 174 = .ok (.aload_n 0, 1) := dk_42 (dk_at dksX3_readsCommand_7 12 rfl rfl)
theorem dX3_readsCommand_175 : decode cX3_readsCommand 175 = .ok (.bipush 102, 2) := dk_16 102 (dk_at dksX3_readsCommand_7 13 rfl rfl)
theorem dX3_readsCommand_177 : decode cX3_readsCommand 177 = .ok (.invokevirtual 286, 3) := dk_182 1 30 (dk_at dksX3_readsCommand_7 15 rfl rfl)
theorem dX3_readsCommand_180 : decode cX3_readsCommand 180 = .ok (.ifCond .eq 41, 3) := dk_153 0 41 (dk_at dksX3_readsCommand_7 18 rfl rfl)
theorem dX3_readsCommand_183 : decode cX3_readsCommand 183 = .ok (.aload_n 0, 1) := dk_42 (dk_at dksX3_readsCommand_7 21 rfl rfl)
theorem dX3_readsCommand_184 : decode cX3_readsCommand 184 = .ok (.bipush 32, 2) := dk_16 32 (dk_at dksX3_readsCommand_7 22 rfl rfl)
theorem dX3_readsCommand_186 : decode cX3_readsCommand 186 = .ok (.invokevirtual 286, 3) := dk_182 1 30 (dk_at dksX3_readsCommand_8 0 rfl rfl)
theorem dX3_readsCommand_189 : decode cX3_readsCommand 189 = .ok (.ifCond .eq 32, 3) := dk_153 0 32 (dk_at dksX3_readsCommand_8 3 rfl rfl)
theorem dX3_readsCommand_192 : decode cX3_readsCommand 192 = .ok (.aload_n 0, 1) := dk_42 (dk_at dksX3_readsCommand_8 6 rfl rfl)
theorem dX3_readsCommand_193 : decode cX3_readsCommand 193 = .ok (.iconst 0, 1) := dk_3 (dk_at dksX3_readsCommand_8 7 rfl rfl)
theorem dX3_readsCommand_194 : decode cX3_readsCommand 194 = .ok (.invokevirtual 289, 3) := dk_182 1 33 (dk_at dksX3_readsCommand_8 8 rfl rfl)
theorem dX3_readsCommand_197 : decode cX3_readsCommand 197 = .ok (.ifCond .eq 24, 3) := dk_153 0 24 (dk_at dksX3_readsCommand_8 11 rfl rfl)
theorem dX3_readsCommand_200 : decode cX3_readsCommand 200 = .ok (.aload_n 0, 1) := dk_42 (dk_at dksX3_readsCommand_8 14 rfl rfl)
theorem dX3_readsCommand_201 : decode cX3_readsCommand 201 = .ok (.bipush 32, 2) := dk_16 32 (dk_at dksX3_readsCommand_8 15 rfl rfl)
theorem dX3_readsCommand_203 : decode cX3_readsCommand 203 = .ok (.invokevirtual 286, 3) := dk_182 1 30 (dk_at dksX3_readsCommand_8 17 rfl rfl)
theorem dX3_readsCommand_206 : decode cX3_readsCommand 206 = .ok (.ifCond .eq 15, 3) := dk_153 0 15 (dk_at dksX3_readsCommand_8 20 rfl rfl)
theorem dX3_readsCommand_209 : decode cX3_readsCommand 209 = .ok (.aload_n 0, 1) := dk_42 (dk_at dksX3_readsCommand_8 23 rfl rfl)
theorem dX3_readsCommand_210 : decode cX3_readsCommand 210 = .ok (.iconst 1, 1) := dk_4 (dk_at dksX3_readsCommand_9 0 rfl rfl)
theorem dX3_readsCommand_211 : decode cX3_readsCommand 211 = .ok (.invokevirtual 289, 3) := dk_182 1 33 (dk_at dksX3_readsCommand_9 1 rfl rfl)
theorem dX3_readsCommand_214 : decode cX3_readsCommand 214 = .ok (.ifCond .eq 7, 3) := dk_153 0 7 (dk_at dksX3_readsCommand_9 4 rfl rfl)
theorem dX3_readsCommand_217 : decode cX3_readsCommand 217 = .ok (.iconst 1, 1) := dk_4 (dk_at dksX3_readsCommand_9 7 rfl rfl)
theorem dX3_readsCommand_218 : decode cX3_readsCommand 218 = .ok (.goto 4, 3) := dk_167 0 4 (dk_at dksX3_readsCommand_9 8 rfl rfl)
theorem dX3_readsCommand_221 : decode cX3_readsCommand 221 = .ok (.iconst 0, 1) := dk_3 (dk_at dksX3_readsCommand_9 11 rfl rfl)
theorem dX3_readsCommand_222 : decode cX3_readsCommand 222 = .ok (.ireturn, 1) := dk_172 (dk_at dksX3_readsCommand_9 12 rfl rfl)
theorem dX3_readsCommand_223 : decode cX3_readsCommand 223 = .ok (.aload_n 0, 1) := dk_42 (dk_at dksX3_readsCommand_9 13 rfl rfl)
theorem dX3_readsCommand_224 : decode cX3_readsCommand 224 = .ok (.bipush 115, 2) := dk_16 115 (dk_at dksX3_readsCommand_9 14 rfl rfl)
theorem dX3_readsCommand_226 : decode cX3_readsCommand 226 = .ok (.invokevirtual 286, 3) := dk_182 1 30 (dk_at dksX3_readsCommand_9 16 rfl rfl)
theorem dX3_readsCommand_229 : decode cX3_readsCommand 229 = .ok (.ifCond .eq 8, 3) := dk_153 0 8 (dk_at dksX3_readsCommand_9 19 rfl rfl)
theorem dX3_readsCommand_232 : decode cX3_readsCommand 232 = .ok (.aload_n 0, 1) := dk_42 (dk_at dksX3_readsCommand_9 22 rfl rfl)
theorem dX3_readsCommand_233 : decode cX3_readsCommand 233 = .ok (.invokevirtual 302, 3) := dk_182 1 46 (dk_at dksX3_readsCommand_10 0 rfl rfl)
theorem dX3_readsCommand_236 : decode cX3_readsCommand 236 = .ok (.ireturn, 1) := dk_172 (dk_at dksX3_readsCommand_10 3 rfl rfl)
theorem dX3_readsCommand_237 : decode cX3_readsCommand 237 = .ok (.aload_n 0, 1) := dk_42 (dk_at dksX3_readsCommand_10 4 rfl rfl)
theorem dX3_readsCommand_238 : decode cX3_readsCommand 238 = .ok (.bipush 114, 2) := dk_16 114 (dk_at dksX3_readsCommand_10 5 rfl rfl)
theorem dX3_readsCommand_240 : decode cX3_readsCommand 240 = .ok (.invokevirtual 286, 3) := dk_182 1 30 (dk_at dksX3_readsCommand_10 7 rfl rfl)
theorem dX3_readsCommand_243 : decode cX3_readsCommand 243 = .ok (.ifCond .eq 8, 3) := dk_153 0 8 (dk_at dksX3_readsCommand_10 10 rfl rfl)
theorem dX3_readsCommand_246 : decode cX3_readsCommand 246 = .ok (.aload_n 0, 1) := dk_42 (dk_at dksX3_readsCommand_10 13 rfl rfl)
theorem dX3_readsCommand_247 : decode cX3_readsCommand 247 = .ok (.invokevirtual 305, 3) := dk_182 1 49 (dk_at dksX3_readsCommand_10 14 rfl rfl)
theorem dX3_readsCommand_250 : decode cX3_readsCommand 250 = .ok (.ireturn, 1) := dk_172 (dk_at dksX3_readsCommand_10 17 rfl rfl)
theorem dX3_readsCommand_251 : decode cX3_readsCommand 251 = .ok (.aload_n 0, 1) := dk_42 (dk_at dksX3_readsCommand_10 18 rfl rfl)
theorem dX3_readsCommand_252 : decode cX3_readsCommand 252 = .ok (.bipush 112, 2) := dk_16 112 (dk_at dksX3_readsCommand_10 19 rfl rfl)
theorem dX3_readsCommand_254 : decode cX3_readsCommand 254 = .ok (.invokevirtual 286, 3) := dk_182 1 30 (dk_at dksX3_readsCommand_10 21 rfl rfl)
theorem dX3_readsCommand_257 : decode cX3_readsCommand 257 = .ok (.ifCond .eq 43, 3) := dk_153 0 43 (dk_at dksX3_readsCommand_11 0 rfl rfl)
theorem dX3_readsCommand_260 : decode cX3_readsCommand 260 = .ok (.aload_n 0, 1) := dk_42 (dk_at dksX3_readsCommand_11 3 rfl rfl)
theorem dX3_readsCommand_261 : decode cX3_readsCommand 261 = .ok (.bipush 111, 2) := dk_16 111 (dk_at dksX3_readsCommand_11 4 rfl rfl)
theorem dX3_readsCommand_263 : decode cX3_readsCommand 263 = .ok (.invokevirtual 286, 3) := dk_182 1 30 (dk_at dksX3_readsCommand_11 6 rfl rfl)
theorem dX3_readsCommand_266 : decode cX3_readsCommand 266 = .ok (.ifCond .eq 32, 3) := dk_153 0 32 (dk_at dksX3_readsCommand_11 9 rfl rfl)
theorem dX3_readsCommand_269 : decode cX3_readsCommand 269 = .ok (.aload_n 0, 1) := dk_42 (dk_at dksX3_readsCommand_11 12 rfl rfl)
theorem dX3_readsCommand_270 : decode cX3_readsCommand 270 = .ok (.bipush 117, 2) := dk_16 117 (dk_at dksX3_readsCommand_11 13 rfl rfl)
theorem dX3_readsCommand_272 : decode cX3_readsCommand 272 = .ok (.invokevirtual 286, 3) := dk_182 1 30 (dk_at dksX3_readsCommand_11 15 rfl rfl)
theorem dX3_readsCommand_275 : decode cX3_readsCommand 275 = .ok (.ifCond .eq 23, 3) := dk_153 0 23 (dk_at dksX3_readsCommand_11 18 rfl rfl)
theorem dX3_readsCommand_278 : decode cX3_readsCommand 278 = .ok (.aload_n 0, 1) := dk_42 (dk_at dksX3_readsCommand_11 21 rfl rfl)
theorem dX3_readsCommand_279 : decode cX3_readsCommand 279 = .ok (.bipush 114, 2) := dk_16 114 (dk_at dksX3_readsCommand_11 22 rfl rfl)
theorem dX3_readsCommand_281 : decode cX3_readsCommand 281 = .ok (.invokevirtual 286, 3) := dk_182 1 30 (dk_at dksX3_readsCommand_12 0 rfl rfl)
theorem dX3_readsCommand_284 : decode cX3_readsCommand 284 = .ok (.ifCond .eq 14, 3) := dk_153 0 14 (dk_at dksX3_readsCommand_12 3 rfl rfl)
theorem dX3_readsCommand_287 : decode cX3_readsCommand 287 = .ok (.aload_n 0, 1) := dk_42 (dk_at dksX3_readsCommand_12 6 rfl rfl)
theorem dX3_readsCommand_288 : decode cX3_readsCommand 288 = .ok (.invokevirtual 295, 3) := dk_182 1 39 (dk_at dksX3_readsCommand_12 7 rfl rfl)
theorem dX3_readsCommand_291 : decode cX3_readsCommand 291 = .ok (.ifCond .eq 7, 3) := dk_153 0 7 (dk_at dksX3_readsCommand_12 10 rfl rfl)
theorem dX3_readsCommand_294 : decode cX3_readsCommand 294 = .ok (.iconst 1, 1) := dk_4 (dk_at dksX3_readsCommand_12 13 rfl rfl)
theorem dX3_readsCommand_295 : decode cX3_readsCommand 295 = .ok (.goto 4, 3) := dk_167 0 4 (dk_at dksX3_readsCommand_12 14 rfl rfl)
theorem dX3_readsCommand_298 : decode cX3_readsCommand 298 = .ok (.iconst 0, 1) := dk_3 (dk_at dksX3_readsCommand_12 17 rfl rfl)
theorem dX3_readsCommand_299 : decode cX3_readsCommand 299 = .ok (.ireturn, 1) := dk_172 (dk_at dksX3_readsCommand_12 18 rfl rfl)
theorem dX3_readsCommand_300 : decode cX3_readsCommand 300 = .ok (.aload_n 0, 1) := dk_42 (dk_at dksX3_readsCommand_12 19 rfl rfl)
theorem dX3_readsCommand_301 : decode cX3_readsCommand 301 = .ok (.bipush 101, 2) := dk_16 101 (dk_at dksX3_readsCommand_12 20 rfl rfl)
theorem dX3_readsCommand_303 : decode cX3_readsCommand 303 = .ok (.invokevirtual 286, 3) := dk_182 1 30 (dk_at dksX3_readsCommand_13 0 rfl rfl)
theorem dX3_readsCommand_306 : decode cX3_readsCommand 306 = .ok (.ifCond .eq 62, 3) := dk_153 0 62 (dk_at dksX3_readsCommand_13 3 rfl rfl)
theorem dX3_readsCommand_309 : decode cX3_readsCommand 309 = .ok (.aload_n 0, 1) := dk_42 (dk_at dksX3_readsCommand_13 6 rfl rfl)
theorem dX3_readsCommand_310 : decode cX3_readsCommand 310 = .ok (.bipush 109, 2) := dk_16 109 (dk_at dksX3_readsCommand_13 7 rfl rfl)
theorem dX3_readsCommand_312 : decode cX3_readsCommand 312 = .ok (.invokevirtual 286, 3) := dk_182 1 30 (dk_at dksX3_readsCommand_13 9 rfl rfl)
theorem dX3_readsCommand_315 : decode cX3_readsCommand 315 = .ok (.ifCond .eq 51, 3) := dk_153 0 51 (dk_at dksX3_readsCommand_13 12 rfl rfl)
theorem dX3_readsCommand_318 : decode cX3_readsCommand 318 = .ok (.aload_n 0, 1) := dk_42 (dk_at dksX3_readsCommand_13 15 rfl rfl)
theorem dX3_readsCommand_319 : decode cX3_readsCommand 319 = .ok (.bipush 112, 2) := dk_16 112 (dk_at dksX3_readsCommand_13 16 rfl rfl)
theorem dX3_readsCommand_321 : decode cX3_readsCommand 321 = .ok (.invokevirtual 286, 3) := dk_182 1 30 (dk_at dksX3_readsCommand_13 18 rfl rfl)
theorem dX3_readsCommand_324 : decode cX3_readsCommand 324 = .ok (.ifCond .eq 42, 3) := dk_153 0 42 (dk_at dksX3_readsCommand_13 21 rfl rfl)
theorem dX3_readsCommand_327 : decode cX3_readsCommand 327 = .ok (.aload_n 0, 1) := dk_42 (dk_at dksX3_readsCommand_14 0 rfl rfl)
theorem dX3_readsCommand_328 : decode cX3_readsCommand 328 = .ok (.bipush 116, 2) := dk_16 116 (dk_at dksX3_readsCommand_14 1 rfl rfl)
theorem dX3_readsCommand_330 : decode cX3_readsCommand 330 = .ok (.invokevirtual 286, 3) := dk_182 1 30 (dk_at dksX3_readsCommand_14 3 rfl rfl)
theorem dX3_readsCommand_333 : decode cX3_readsCommand 333 = .ok (.ifCond .eq 33, 3) := dk_153 0 33 (dk_at dksX3_readsCommand_14 6 rfl rfl)
theorem dX3_readsCommand_336 : decode cX3_readsCommand 336 = .ok (.aload_n 0, 1) := dk_42 (dk_at dksX3_readsCommand_14 9 rfl rfl)
theorem dX3_readsCommand_337 : decode cX3_readsCommand 337 = .ok (.bipush 121, 2) := dk_16 121 (dk_at dksX3_readsCommand_14 10 rfl rfl)
theorem dX3_readsCommand_339 : decode cX3_readsCommand 339 = .ok (.invokevirtual 286, 3) := dk_182 1 30 (dk_at dksX3_readsCommand_14 12 rfl rfl)
theorem dX3_readsCommand_342 : decode cX3_readsCommand 342 = .ok (.ifCond .eq 24, 3) := dk_153 0 24 (dk_at dksX3_readsCommand_14 15 rfl rfl)
theorem dX3_readsCommand_345 : decode cX3_readsCommand 345 = .ok (.aload_n 0, 1) := dk_42 (dk_at dksX3_readsCommand_14 18 rfl rfl)
theorem dX3_readsCommand_346 : decode cX3_readsCommand 346 = .ok (.bipush 32, 2) := dk_16 32 (dk_at dksX3_readsCommand_14 19 rfl rfl)
theorem dX3_readsCommand_348 : decode cX3_readsCommand 348 = .ok (.invokevirtual 286, 3) := dk_182 1 30 (dk_at dksX3_readsCommand_14 21 rfl rfl)
theorem dX3_readsCommand_351 : decode cX3_readsCommand 351 = .ok (.ifCond .eq 15, 3) := dk_153 0 15 (dk_at dksX3_readsCommand_15 0 rfl rfl)
theorem dX3_readsCommand_354 : decode cX3_readsCommand 354 = .ok (.aload_n 0, 1) := dk_42 (dk_at dksX3_readsCommand_15 3 rfl rfl)
theorem dX3_readsCommand_355 : decode cX3_readsCommand 355 = .ok (.iconst 0, 1) := dk_3 (dk_at dksX3_readsCommand_15 4 rfl rfl)
theorem dX3_readsCommand_356 : decode cX3_readsCommand 356 = .ok (.invokevirtual 283, 3) := dk_182 1 27 (dk_at dksX3_readsCommand_15 5 rfl rfl)
theorem dX3_readsCommand_359 : decode cX3_readsCommand 359 = .ok (.ifCond .eq 7, 3) := dk_153 0 7 (dk_at dksX3_readsCommand_15 8 rfl rfl)
theorem dX3_readsCommand_362 : decode cX3_readsCommand 362 = .ok (.iconst 1, 1) := dk_4 (dk_at dksX3_readsCommand_15 11 rfl rfl)
theorem dX3_readsCommand_363 : decode cX3_readsCommand 363 = .ok (.goto 4, 3) := dk_167 0 4 (dk_at dksX3_readsCommand_15 12 rfl rfl)
theorem dX3_readsCommand_366 : decode cX3_readsCommand 366 = .ok (.iconst 0, 1) := dk_3 (dk_at dksX3_readsCommand_15 15 rfl rfl)
theorem dX3_readsCommand_367 : decode cX3_readsCommand 367 = .ok (.ireturn, 1) := dk_172 (dk_at dksX3_readsCommand_15 16 rfl rfl)
theorem dX3_readsCommand_368 : decode cX3_readsCommand 368 = .ok (.aload_n 0, 1) := dk_42 (dk_at dksX3_readsCommand_15 17 rfl rfl)
theorem dX3_readsCommand_369 : decode cX3_readsCommand 369 = .ok (.bipush 111, 2) := dk_16 111 (dk_at dksX3_readsCommand_15 18 rfl rfl)
theorem dX3_readsCommand_371 : decode cX3_readsCommand 371 = .ok (.invokevirtual 286, 3) := dk_182 1 30 (dk_at dksX3_readsCommand_15 20 rfl rfl)
theorem dX3_readsCommand_374 : decode cX3_readsCommand 374 = .ok (.ifCond .eq 60, 3) := dk_153 0 60 (dk_at dksX3_readsCommand_16 0 rfl rfl)
theorem dX3_readsCommand_377 : decode cX3_readsCommand 377 = .ok (.aload_n 0, 1) := dk_42 (dk_at dksX3_readsCommand_16 3 rfl rfl)
theorem dX3_readsCommand_378 : decode cX3_readsCommand 378 = .ok (.bipush 118, 2) := dk_16 118 (dk_at dksX3_readsCommand_16 4 rfl rfl)
theorem dX3_readsCommand_380 : decode cX3_readsCommand 380 = .ok (.invokevirtual 286, 3) := dk_182 1 30 (dk_at dksX3_readsCommand_16 6 rfl rfl)
theorem dX3_readsCommand_383 : decode cX3_readsCommand 383 = .ok (.ifCond .eq 51, 3) := dk_153 0 51 (dk_at dksX3_readsCommand_16 9 rfl rfl)
theorem dX3_readsCommand_386 : decode cX3_readsCommand 386 = .ok (.aload_n 0, 1) := dk_42 (dk_at dksX3_readsCommand_16 12 rfl rfl)
theorem dX3_readsCommand_387 : decode cX3_readsCommand 387 = .ok (.bipush 101, 2) := dk_16 101 (dk_at dksX3_readsCommand_16 13 rfl rfl)
theorem dX3_readsCommand_389 : decode cX3_readsCommand 389 = .ok (.invokevirtual 286, 3) := dk_182 1 30 (dk_at dksX3_readsCommand_16 15 rfl rfl)
theorem dX3_readsCommand_392 : decode cX3_readsCommand 392 = .ok (.ifCond .eq 42, 3) := dk_153 0 42 (dk_at dksX3_readsCommand_16 18 rfl rfl)
theorem dX3_readsCommand_395 : decode cX3_readsCommand 395 = .ok (.aload_n 0, 1) := dk_42 (dk_at dksX3_readsCommand_16 21 rfl rfl)
theorem dX3_readsCommand_396 : decode cX3_readsCommand 396 = .ok (.bipush 110, 2) := dk_16 110 (dk_at dksX3_readsCommand_16 22 rfl rfl)
theorem dX3_readsCommand_398 : decode cX3_readsCommand 398 = .ok (.invokevirtual 286, 3) := dk_182 1 30 (dk_at dksX3_readsCommand_17 0 rfl rfl)
theorem dX3_readsCommand_401 : decode cX3_readsCommand 401 = .ok (.ifCond .eq 33, 3) := dk_153 0 33 (dk_at dksX3_readsCommand_17 3 rfl rfl)
theorem dX3_readsCommand_404 : decode cX3_readsCommand 404 = .ok (.aload_n 0, 1) := dk_42 (dk_at dksX3_readsCommand_17 6 rfl rfl)
theorem dX3_readsCommand_405 : decode cX3_readsCommand 405 = .ok (.bipush 115, 2) := dk_16 115 (dk_at dksX3_readsCommand_17 7 rfl rfl)
theorem dX3_readsCommand_407 : decode cX3_readsCommand 407 = .ok (.invokevirtual 286, 3) := dk_182 1 30 (dk_at dksX3_readsCommand_17 9 rfl rfl)
theorem dX3_readsCommand_410 : decode cX3_readsCommand 410 = .ok (.ifCond .eq 24, 3) := dk_153 0 24 (dk_at dksX3_readsCommand_17 12 rfl rfl)
theorem dX3_readsCommand_413 : decode cX3_readsCommand 413 = .ok (.aload_n 0, 1) := dk_42 (dk_at dksX3_readsCommand_17 15 rfl rfl)
theorem dX3_readsCommand_414 : decode cX3_readsCommand 414 = .ok (.bipush 32, 2) := dk_16 32 (dk_at dksX3_readsCommand_17 16 rfl rfl)
theorem dX3_readsCommand_416 : decode cX3_readsCommand 416 = .ok (.invokevirtual 286, 3) := dk_182 1 30 (dk_at dksX3_readsCommand_17 18 rfl rfl)
theorem dX3_readsCommand_419 : decode cX3_readsCommand 419 = .ok (.ifCond .eq 15, 3) := dk_153 0 15 (dk_at dksX3_readsCommand_17 21 rfl rfl)
theorem dX3_readsCommand_422 : decode cX3_readsCommand 422 = .ok (.aload_n 0, 1) := dk_42 (dk_at dksX3_readsCommand_18 0 rfl rfl)
theorem dX3_readsCommand_423 : decode cX3_readsCommand 423 = .ok (.iconst 0, 1) := dk_3 (dk_at dksX3_readsCommand_18 1 rfl rfl)
theorem dX3_readsCommand_424 : decode cX3_readsCommand 424 = .ok (.invokevirtual 283, 3) := dk_182 1 27 (dk_at dksX3_readsCommand_18 2 rfl rfl)
theorem dX3_readsCommand_427 : decode cX3_readsCommand 427 = .ok (.ifCond .eq 7, 3) := dk_153 0 7 (dk_at dksX3_readsCommand_18 5 rfl rfl)
theorem dX3_readsCommand_430 : decode cX3_readsCommand 430 = .ok (.iconst 1, 1) := dk_4 (dk_at dksX3_readsCommand_18 8 rfl rfl)
theorem dX3_readsCommand_431 : decode cX3_readsCommand 431 = .ok (.goto 4, 3) := dk_167 0 4 (dk_at dksX3_readsCommand_18 9 rfl rfl)
theorem dX3_readsCommand_434 : decode cX3_readsCommand 434 = .ok (.iconst 0, 1) := dk_3 (dk_at dksX3_readsCommand_18 12 rfl rfl)
theorem dX3_readsCommand_435 : decode cX3_readsCommand 435 = .ok (.ireturn, 1) := dk_172 (dk_at dksX3_readsCommand_18 13 rfl rfl)
abbrev cX3_nextChar : ByteArray := prog_21_method_113_code
def yX3_nextChar : MethodName := ⟨RX3, "nextChar", "()I"⟩
def dkwX3_nextChar_1 : List UInt8 := [172]
abbrev dktX3_nextChar_1 : List UInt8 := dkwX3_nextChar_1 ++ []
def dkwX3_nextChar_0 : List UInt8 := [42, 180, 1, 21, 42, 180, 1, 18, 162, 0, 15, 42, 180, 0, 34, 42, 180, 1, 21, 52, 167, 0, 4, 2]
abbrev dktX3_nextChar_0 : List UInt8 := dkwX3_nextChar_0 ++ dktX3_nextChar_1
theorem dksX3_nextChar_0 : cX3_nextChar.data.toList.drop 0 = dktX3_nextChar_0 := by decide +kernel
theorem dksX3_nextChar_1 : cX3_nextChar.data.toList.drop 24 = dktX3_nextChar_1 := dk_seg dksX3_nextChar_0 24 rfl rfl
theorem dX3_nextChar_0 : decode cX3_nextChar 0 = .ok (.aload_n 0, 1) := dk_42 (dk_at dksX3_nextChar_0 0 rfl rfl)
theorem dX3_nextChar_1 : decode cX3_nextChar 1 = .ok (.getfield 277, 3) := dk_180 1 21 (dk_at dksX3_nextChar_0 1 rfl rfl)
theorem dX3_nextChar_4 : decode cX3_nextChar 4 = .ok (.aload_n 0, 1) := dk_42 (dk_at dksX3_nextChar_0 4 rfl rfl)
theorem dX3_nextChar_5 : decode cX3_nextChar 5 = .ok (.getfield 274, 3) := dk_180 1 18 (dk_at dksX3_nextChar_0 5 rfl rfl)
theorem dX3_nextChar_8 : decode cX3_nextChar 8 = .ok (.if_icmp .ge 15, 3) := dk_162 0 15 (dk_at dksX3_nextChar_0 8 rfl rfl)
theorem dX3_nextChar_11 : decode cX3_nextChar 11 = .ok (.aload_n 0, 1) := dk_42 (dk_at dksX3_nextChar_0 11 rfl rfl)
theorem dX3_nextChar_12 : decode cX3_nextChar 12 = .ok (.getfield 34, 3) := dk_180 0 34 (dk_at dksX3_nextChar_0 12 rfl rfl)
theorem dX3_nextChar_15 : decode cX3_nextChar 15 = .ok (.aload_n 0, 1) := dk_42 (dk_at dksX3_nextChar_0 15 rfl rfl)
theorem dX3_nextChar_16 : decode cX3_nextChar 16 = .ok (.getfield 277, 3) := dk_180 1 21 (dk_at dksX3_nextChar_0 16 rfl rfl)
theorem dX3_nextChar_19 : decode cX3_nextChar 19 = .ok (.caload, 1) := dk_52 (dk_at dksX3_nextChar_0 19 rfl rfl)
theorem dX3_nextChar_20 : decode cX3_nextChar 20 = .ok (.goto 4, 3) := dk_167 0 4 (dk_at dksX3_nextChar_0 20 rfl rfl)
theorem dX3_nextChar_23 : decode cX3_nextChar 23 = .ok (.iconst (-1), 1) := dk_2 (dk_at dksX3_nextChar_0 23 rfl rfl)
theorem dX3_nextChar_24 : decode cX3_nextChar 24 = .ok (.ireturn, 1) := dk_172 (dk_at dksX3_nextChar_1 0 rfl rfl)
abbrev cX3_reads : ByteArray := prog_21_method_114_code
def yX3_reads : MethodName := ⟨RX3, "reads", "(I)Z"⟩
def dkwX3_reads_0 : List UInt8 := [42, 182, 1, 24, 27, 159, 0, 5, 3, 172, 42, 89, 180, 1, 21, 4, 96, 181, 1, 21, 4, 172]
abbrev dktX3_reads_0 : List UInt8 := dkwX3_reads_0 ++ []
theorem dksX3_reads_0 : cX3_reads.data.toList.drop 0 = dktX3_reads_0 := by decide +kernel
theorem dX3_reads_0 : decode cX3_reads 0 = .ok (.aload_n 0, 1) := dk_42 (dk_at dksX3_reads_0 0 rfl rfl)
theorem dX3_reads_1 : decode cX3_reads 1 = .ok (.invokevirtual 280, 3) := dk_182 1 24 (dk_at dksX3_reads_0 1 rfl rfl)
theorem dX3_reads_4 : decode cX3_reads 4 = .ok (.iload_n 1, 1) := dk_27 (dk_at dksX3_reads_0 4 rfl rfl)
theorem dX3_reads_5 : decode cX3_reads 5 = .ok (.if_icmp .eq 5, 3) := dk_159 0 5 (dk_at dksX3_reads_0 5 rfl rfl)
theorem dX3_reads_8 : decode cX3_reads 8 = .ok (.iconst 0, 1) := dk_3 (dk_at dksX3_reads_0 8 rfl rfl)
theorem dX3_reads_9 : decode cX3_reads 9 = .ok (.ireturn, 1) := dk_172 (dk_at dksX3_reads_0 9 rfl rfl)
theorem dX3_reads_10 : decode cX3_reads 10 = .ok (.aload_n 0, 1) := dk_42 (dk_at dksX3_reads_0 10 rfl rfl)
theorem dX3_reads_11 : decode cX3_reads 11 = .ok (.dup, 1) := dk_89 (dk_at dksX3_reads_0 11 rfl rfl)
theorem dX3_reads_12 : decode cX3_reads 12 = .ok (.getfield 277, 3) := dk_180 1 21 (dk_at dksX3_reads_0 12 rfl rfl)
theorem dX3_reads_15 : decode cX3_reads 15 = .ok (.iconst 1, 1) := dk_4 (dk_at dksX3_reads_0 15 rfl rfl)
theorem dX3_reads_16 : decode cX3_reads 16 = .ok (.iadd, 1) := dk_96 (dk_at dksX3_reads_0 16 rfl rfl)
theorem dX3_reads_17 : decode cX3_reads 17 = .ok (.putfield 277, 3) := dk_181 1 21 (dk_at dksX3_reads_0 17 rfl rfl)
theorem dX3_reads_20 : decode cX3_reads 20 = .ok (.iconst 1, 1) := dk_4 (dk_at dksX3_reads_0 20 rfl rfl)
theorem dX3_reads_21 : decode cX3_reads 21 = .ok (.ireturn, 1) := dk_172 (dk_at dksX3_reads_0 21 rfl rfl)
abbrev cX3_readsNumber : ByteArray := prog_21_method_116_code
def yX3_readsNumber : MethodName := ⟨RX3, "readsNumber", "(I)Z"⟩
def dkwX3_readsNumber_3 : List UInt8 := [4, 172]
abbrev dktX3_readsNumber_3 : List UInt8 := dkwX3_readsNumber_3 ++ []
def dkwX3_readsNumber_2 : List UInt8 := [182, 1, 24, 96, 16, 48, 100, 79, 42, 89, 180, 1, 21, 4, 96, 181, 1, 21, 132, 2, 1, 167, 255, 201]
abbrev dktX3_readsNumber_2 : List UInt8 := dkwX3_readsNumber_2 ++ dktX3_readsNumber_3
def dkwX3_readsNumber_1 : List UInt8 := [16, 57, 184, 0, 66, 153, 0, 42, 42, 180, 0, 43, 27, 16, 10, 42, 180, 0, 43, 27, 46, 104, 42]
abbrev dktX3_readsNumber_1 : List UInt8 := dkwX3_readsNumber_1 ++ dktX3_readsNumber_2
def dkwX3_readsNumber_0 : List UInt8 := [42, 27, 182, 1, 27, 154, 0, 5, 3, 172, 3, 61, 28, 6, 162, 0, 56, 42, 182, 1, 24, 16, 48]
abbrev dktX3_readsNumber_0 : List UInt8 := dkwX3_readsNumber_0 ++ dktX3_readsNumber_1
theorem dksX3_readsNumber_0 : cX3_readsNumber.data.toList.drop 0 = dktX3_readsNumber_0 := by decide +kernel
theorem dksX3_readsNumber_1 : cX3_readsNumber.data.toList.drop 23 = dktX3_readsNumber_1 := dk_seg dksX3_readsNumber_0 23 rfl rfl
theorem dksX3_readsNumber_2 : cX3_readsNumber.data.toList.drop 46 = dktX3_readsNumber_2 := dk_seg dksX3_readsNumber_1 23 rfl rfl
theorem dksX3_readsNumber_3 : cX3_readsNumber.data.toList.drop 70 = dktX3_readsNumber_3 := dk_seg dksX3_readsNumber_2 24 rfl rfl
theorem dX3_readsNumber_0 : decode cX3_readsNumber 0 = .ok (.aload_n 0, 1) := dk_42 (dk_at dksX3_readsNumber_0 0 rfl rfl)
theorem dX3_readsNumber_1 : decode cX3_readsNumber 1 = .ok (.iload_n 1, 1) := dk_27 (dk_at dksX3_readsNumber_0 1 rfl rfl)
theorem dX3_readsNumber_2 : decode cX3_readsNumber 2 = .ok (.invokevirtual 283, 3) := dk_182 1 27 (dk_at dksX3_readsNumber_0 2 rfl rfl)
theorem dX3_readsNumber_5 : decode cX3_readsNumber 5 = .ok (.ifCond .ne 5, 3) := dk_154 0 5 (dk_at dksX3_readsNumber_0 5 rfl rfl)
theorem dX3_readsNumber_8 : decode cX3_readsNumber 8 = .ok (.iconst 0, 1) := dk_3 (dk_at dksX3_readsNumber_0 8 rfl rfl)
theorem dX3_readsNumber_9 : decode cX3_readsNumber 9 = .ok (.ireturn, 1) := dk_172 (dk_at dksX3_readsNumber_0 9 rfl rfl)
theorem dX3_readsNumber_10 : decode cX3_readsNumber 10 = .ok (.iconst 0, 1) := dk_3 (dk_at dksX3_readsNumber_0 10 rfl rfl)
theorem dX3_readsNumber_11 : decode cX3_readsNumber 11 = .ok (.istore_n 2, 1) := dk_61 (dk_at dksX3_readsNumber_0 11 rfl rfl)
theorem dX3_readsNumber_12 : decode cX3_readsNumber 12 = .ok (.iload_n 2, 1) := dk_28 (dk_at dksX3_readsNumber_0 12 rfl rfl)
theorem dX3_readsNumber_13 : decode cX3_readsNumber 13 = .ok (.iconst 3, 1) := dk_6 (dk_at dksX3_readsNumber_0 13 rfl rfl)
theorem dX3_readsNumber_14 : decode cX3_readsNumber 14 = .ok (.if_icmp .ge 56, 3) := dk_162 0 56 (dk_at dksX3_readsNumber_0 14 rfl rfl)
theorem dX3_readsNumber_17 : decode cX3_readsNumber 17 = .ok (.aload_n 0, 1) := dk_42 (dk_at dksX3_readsNumber_0 17 rfl rfl)
theorem dX3_readsNumber_18 : decode cX3_readsNumber 18 = .ok (.invokevirtual 280, 3) := dk_182 1 24 (dk_at dksX3_readsNumber_0 18 rfl rfl)
theorem dX3_readsNumber_21 : decode cX3_readsNumber 21 = .ok (.bipush 48, 2) := dk_16 48 (dk_at dksX3_readsNumber_0 21 rfl rfl)
theorem dX3_readsNumber_23 : decode cX3_readsNumber 23 = .ok (.bipush 57, 2) := dk_16 57 (dk_at dksX3_readsNumber_1 0 rfl rfl)
theorem dX3_readsNumber_25 : decode cX3_readsNumber 25 = .ok (.invokestatic 66, 3) := dk_184 0 66 (dk_at dksX3_readsNumber_1 2 rfl rfl)
theorem dX3_readsNumber_28 : decode cX3_readsNumber 28 = .ok (.ifCond .eq 42, 3) := dk_153 0 42 (dk_at dksX3_readsNumber_1 5 rfl rfl)
theorem dX3_readsNumber_31 : decode cX3_readsNumber 31 = .ok (.aload_n 0, 1) := dk_42 (dk_at dksX3_readsNumber_1 8 rfl rfl)
theorem dX3_readsNumber_32 : decode cX3_readsNumber 32 = .ok (.getfield 43, 3) := dk_180 0 43 (dk_at dksX3_readsNumber_1 9 rfl rfl)
theorem dX3_readsNumber_35 : decode cX3_readsNumber 35 = .ok (.iload_n 1, 1) := dk_27 (dk_at dksX3_readsNumber_1 12 rfl rfl)
theorem dX3_readsNumber_36 : decode cX3_readsNumber 36 = .ok (.bipush 10, 2) := dk_16 10 (dk_at dksX3_readsNumber_1 13 rfl rfl)
theorem dX3_readsNumber_38 : decode cX3_readsNumber 38 = .ok (.aload_n 0, 1) := dk_42 (dk_at dksX3_readsNumber_1 15 rfl rfl)
theorem dX3_readsNumber_39 : decode cX3_readsNumber 39 = .ok (.getfield 43, 3) := dk_180 0 43 (dk_at dksX3_readsNumber_1 16 rfl rfl)
theorem dX3_readsNumber_42 : decode cX3_readsNumber 42 = .ok (.iload_n 1, 1) := dk_27 (dk_at dksX3_readsNumber_1 19 rfl rfl)
theorem dX3_readsNumber_43 : decode cX3_readsNumber 43 = .ok (.iaload, 1) := dk_46 (dk_at dksX3_readsNumber_1 20 rfl rfl)
theorem dX3_readsNumber_44 : decode cX3_readsNumber 44 = .ok (.imul, 1) := dk_104 (dk_at dksX3_readsNumber_1 21 rfl rfl)
theorem dX3_readsNumber_45 : decode cX3_readsNumber 45 = .ok (.aload_n 0, 1) := dk_42 (dk_at dksX3_readsNumber_1 22 rfl rfl)
theorem dX3_readsNumber_46 : decode cX3_readsNumber 46 = .ok (.invokevirtual 280, 3) := dk_182 1 24 (dk_at dksX3_readsNumber_2 0 rfl rfl)
theorem dX3_readsNumber_49 : decode cX3_readsNumber 49 = .ok (.iadd, 1) := dk_96 (dk_at dksX3_readsNumber_2 3 rfl rfl)
theorem dX3_readsNumber_50 : decode cX3_readsNumber 50 = .ok (.bipush 48, 2) := dk_16 48 (dk_at dksX3_readsNumber_2 4 rfl rfl)
theorem dX3_readsNumber_52 : decode cX3_readsNumber 52 = .ok (.isub, 1) := dk_100 (dk_at dksX3_readsNumber_2 6 rfl rfl)
theorem dX3_readsNumber_53 : decode cX3_readsNumber 53 = .ok (.iastore, 1) := dk_79 (dk_at dksX3_readsNumber_2 7 rfl rfl)
theorem dX3_readsNumber_54 : decode cX3_readsNumber 54 = .ok (.aload_n 0, 1) := dk_42 (dk_at dksX3_readsNumber_2 8 rfl rfl)
theorem dX3_readsNumber_55 : decode cX3_readsNumber 55 = .ok (.dup, 1) := dk_89 (dk_at dksX3_readsNumber_2 9 rfl rfl)
theorem dX3_readsNumber_56 : decode cX3_readsNumber 56 = .ok (.getfield 277, 3) := dk_180 1 21 (dk_at dksX3_readsNumber_2 10 rfl rfl)
theorem dX3_readsNumber_59 : decode cX3_readsNumber 59 = .ok (.iconst 1, 1) := dk_4 (dk_at dksX3_readsNumber_2 13 rfl rfl)
theorem dX3_readsNumber_60 : decode cX3_readsNumber 60 = .ok (.iadd, 1) := dk_96 (dk_at dksX3_readsNumber_2 14 rfl rfl)
theorem dX3_readsNumber_61 : decode cX3_readsNumber 61 = .ok (.putfield 277, 3) := dk_181 1 21 (dk_at dksX3_readsNumber_2 15 rfl rfl)
theorem dX3_readsNumber_64 : decode cX3_readsNumber 64 = .ok (.iinc 2 1, 3) := dk_132 2 1 (dk_at dksX3_readsNumber_2 18 rfl rfl)
theorem dX3_readsNumber_67 : decode cX3_readsNumber 67 = .ok (.goto (-55), 3) := dk_167 255 201 (dk_at dksX3_readsNumber_2 21 rfl rfl)
theorem dX3_readsNumber_70 : decode cX3_readsNumber 70 = .ok (.iconst 1, 1) := dk_4 (dk_at dksX3_readsNumber_3 0 rfl rfl)
theorem dX3_readsNumber_71 : decode cX3_readsNumber 71 = .ok (.ireturn, 1) := dk_172 (dk_at dksX3_readsNumber_3 1 rfl rfl)
abbrev cX3_readsDigit : ByteArray := prog_21_method_115_code
def yX3_readsDigit : MethodName := ⟨RX3, "readsDigit", "(I)Z"⟩
def dkwX3_readsDigit_1 : List UInt8 := [182, 1, 24, 16, 48, 100, 79, 42, 89, 180, 1, 21, 4, 96, 181, 1, 21, 4, 172]
abbrev dktX3_readsDigit_1 : List UInt8 := dkwX3_readsDigit_1 ++ []
def dkwX3_readsDigit_0 : List UInt8 := [42, 182, 1, 24, 16, 48, 16, 57, 184, 0, 66, 154, 0, 5, 3, 172, 42, 180, 0, 43, 27, 42]
abbrev dktX3_readsDigit_0 : List UInt8 := dkwX3_readsDigit_0 ++ dktX3_readsDigit_1
theorem dksX3_readsDigit_0 : cX3_readsDigit.data.toList.drop 0 = dktX3_readsDigit_0 := by decide +kernel
theorem dksX3_readsDigit_1 : cX3_readsDigit.data.toList.drop 22 = dktX3_readsDigit_1 := dk_seg dksX3_readsDigit_0 22 rfl rfl
theorem dX3_readsDigit_0 : decode cX3_readsDigit 0 = .ok (.aload_n 0, 1) := dk_42 (dk_at dksX3_readsDigit_0 0 rfl rfl)
theorem dX3_readsDigit_1 : decode cX3_readsDigit 1 = .ok (.invokevirtual 280, 3) := dk_182 1 24 (dk_at dksX3_readsDigit_0 1 rfl rfl)
theorem dX3_readsDigit_4 : decode cX3_readsDigit 4 = .ok (.bipush 48, 2) := dk_16 48 (dk_at dksX3_readsDigit_0 4 rfl rfl)
theorem dX3_readsDigit_6 : decode cX3_readsDigit 6 = .ok (.bipush 57, 2) := dk_16 57 (dk_at dksX3_readsDigit_0 6 rfl rfl)
theorem dX3_readsDigit_8 : decode cX3_readsDigit 8 = .ok (.invokestatic 66, 3) := dk_184 0 66 (dk_at dksX3_readsDigit_0 8 rfl rfl)
theorem dX3_readsDigit_11 : decode cX3_readsDigit 11 = .ok (.ifCond .ne 5, 3) := dk_154 0 5 (dk_at dksX3_readsDigit_0 11 rfl rfl)
theorem dX3_readsDigit_14 : decode cX3_readsDigit 14 = .ok (.iconst 0, 1) := dk_3 (dk_at dksX3_readsDigit_0 14 rfl rfl)
theorem dX3_readsDigit_15 : decode cX3_readsDigit 15 = .ok (.ireturn, 1) := dk_172 (dk_at dksX3_readsDigit_0 15 rfl rfl)
theorem dX3_readsDigit_16 : decode cX3_readsDigit 16 = .ok (.aload_n 0, 1) := dk_42 (dk_at dksX3_readsDigit_0 16 rfl rfl)
theorem dX3_readsDigit_17 : decode cX3_readsDigit 17 = .ok (.getfield 43, 3) := dk_180 0 43 (dk_at dksX3_readsDigit_0 17 rfl rfl)
theorem dX3_readsDigit_20 : decode cX3_readsDigit 20 = .ok (.iload_n 1, 1) := dk_27 (dk_at dksX3_readsDigit_0 20 rfl rfl)
theorem dX3_readsDigit_21 : decode cX3_readsDigit 21 = .ok (.aload_n 0, 1) := dk_42 (dk_at dksX3_readsDigit_0 21 rfl rfl)
theorem dX3_readsDigit_22 : decode cX3_readsDigit 22 = .ok (.invokevirtual 280, 3) := dk_182 1 24 (dk_at dksX3_readsDigit_1 0 rfl rfl)
theorem dX3_readsDigit_25 : decode cX3_readsDigit 25 = .ok (.bipush 48, 2) := dk_16 48 (dk_at dksX3_readsDigit_1 3 rfl rfl)
theorem dX3_readsDigit_27 : decode cX3_readsDigit 27 = .ok (.isub, 1) := dk_100 (dk_at dksX3_readsDigit_1 5 rfl rfl)
theorem dX3_readsDigit_28 : decode cX3_readsDigit 28 = .ok (.iastore, 1) := dk_79 (dk_at dksX3_readsDigit_1 6 rfl rfl)
theorem dX3_readsDigit_29 : decode cX3_readsDigit 29 = .ok (.aload_n 0, 1) := dk_42 (dk_at dksX3_readsDigit_1 7 rfl rfl)
theorem dX3_readsDigit_30 : decode cX3_readsDigit 30 = .ok (.dup, 1) := dk_89 (dk_at dksX3_readsDigit_1 8 rfl rfl)
theorem dX3_readsDigit_31 : decode cX3_readsDigit 31 = .ok (.getfield 277, 3) := dk_180 1 21 (dk_at dksX3_readsDigit_1 9 rfl rfl)
theorem dX3_readsDigit_34 : decode cX3_readsDigit 34 = .ok (.iconst 1, 1) := dk_4 (dk_at dksX3_readsDigit_1 12 rfl rfl)
theorem dX3_readsDigit_35 : decode cX3_readsDigit 35 = .ok (.iadd, 1) := dk_96 (dk_at dksX3_readsDigit_1 13 rfl rfl)
theorem dX3_readsDigit_36 : decode cX3_readsDigit 36 = .ok (.putfield 277, 3) := dk_181 1 21 (dk_at dksX3_readsDigit_1 14 rfl rfl)
theorem dX3_readsDigit_39 : decode cX3_readsDigit 39 = .ok (.iconst 1, 1) := dk_4 (dk_at dksX3_readsDigit_1 17 rfl rfl)
theorem dX3_readsDigit_40 : decode cX3_readsDigit 40 = .ok (.ireturn, 1) := dk_172 (dk_at dksX3_readsDigit_1 18 rfl rfl)
abbrev cX3_readsTwo : ByteArray := prog_21_method_117_code
def yX3_readsTwo : MethodName := ⟨RX3, "readsTwo", "()Z"⟩
def dkwX3_readsTwo_1 : List UInt8 := [153, 0, 7, 4, 167, 0, 4, 3, 172]
abbrev dktX3_readsTwo_1 : List UInt8 := dkwX3_readsTwo_1 ++ []
def dkwX3_readsTwo_0 : List UInt8 := [42, 16, 32, 182, 1, 30, 153, 0, 23, 42, 3, 182, 1, 27, 153, 0, 15, 42, 4, 182, 1, 27]
abbrev dktX3_readsTwo_0 : List UInt8 := dkwX3_readsTwo_0 ++ dktX3_readsTwo_1
theorem dksX3_readsTwo_0 : cX3_readsTwo.data.toList.drop 0 = dktX3_readsTwo_0 := by decide +kernel
theorem dksX3_readsTwo_1 : cX3_readsTwo.data.toList.drop 22 = dktX3_readsTwo_1 := dk_seg dksX3_readsTwo_0 22 rfl rfl
theorem dX3_readsTwo_0 : decode cX3_readsTwo 0 = .ok (.aload_n 0, 1) := dk_42 (dk_at dksX3_readsTwo_0 0 rfl rfl)
theorem dX3_readsTwo_1 : decode cX3_readsTwo 1 = .ok (.bipush 32, 2) := dk_16 32 (dk_at dksX3_readsTwo_0 1 rfl rfl)
theorem dX3_readsTwo_3 : decode cX3_readsTwo 3 = .ok (.invokevirtual 286, 3) := dk_182 1 30 (dk_at dksX3_readsTwo_0 3 rfl rfl)
theorem dX3_readsTwo_6 : decode cX3_readsTwo 6 = .ok (.ifCond .eq 23, 3) := dk_153 0 23 (dk_at dksX3_readsTwo_0 6 rfl rfl)
theorem dX3_readsTwo_9 : decode cX3_readsTwo 9 = .ok (.aload_n 0, 1) := dk_42 (dk_at dksX3_readsTwo_0 9 rfl rfl)
theorem dX3_readsTwo_10 : decode cX3_readsTwo 10 = .ok (.iconst 0, 1) := dk_3 (dk_at dksX3_readsTwo_0 10 rfl rfl)
theorem dX3_readsTwo_11 : decode cX3_readsTwo 11 = .ok (.invokevirtual 283, 3) := dk_182 1 27 (dk_at dksX3_readsTwo_0 11 rfl rfl)
theorem dX3_readsTwo_14 : decode cX3_readsTwo 14 = .ok (.ifCond .eq 15, 3) := dk_153 0 15 (dk_at dksX3_readsTwo_0 14 rfl rfl)
theorem dX3_readsTwo_17 : decode cX3_readsTwo 17 = .ok (.aload_n 0, 1) := dk_42 (dk_at dksX3_readsTwo_0 17 rfl rfl)
theorem dX3_readsTwo_18 : decode cX3_readsTwo 18 = .ok (.iconst 1, 1) := dk_4 (dk_at dksX3_readsTwo_0 18 rfl rfl)
theorem dX3_readsTwo_19 : decode cX3_readsTwo 19 = .ok (.invokevirtual 283, 3) := dk_182 1 27 (dk_at dksX3_readsTwo_0 19 rfl rfl)
theorem dX3_readsTwo_22 : decode cX3_readsTwo 22 = .ok (.ifCond .eq 7, 3) := dk_153 0 7 (dk_at dksX3_readsTwo_1 0 rfl rfl)
theorem dX3_readsTwo_25 : decode cX3_readsTwo 25 = .ok (.iconst 1, 1) := dk_4 (dk_at dksX3_readsTwo_1 3 rfl rfl)
theorem dX3_readsTwo_26 : decode cX3_readsTwo 26 = .ok (.goto 4, 3) := dk_167 0 4 (dk_at dksX3_readsTwo_1 4 rfl rfl)
theorem dX3_readsTwo_29 : decode cX3_readsTwo 29 = .ok (.iconst 0, 1) := dk_3 (dk_at dksX3_readsTwo_1 7 rfl rfl)
theorem dX3_readsTwo_30 : decode cX3_readsTwo 30 = .ok (.ireturn, 1) := dk_172 (dk_at dksX3_readsTwo_1 8 rfl rfl)
abbrev cX3_readsB : ByteArray := prog_21_method_118_code
def yX3_readsB : MethodName := ⟨RX3, "readsB", "()Z"⟩
def dkwX3_readsB_4 : List UInt8 := [182, 1, 27, 153, 0, 7, 4, 167, 0, 4, 3, 172]
abbrev dktX3_readsB_4 : List UInt8 := dkwX3_readsB_4 ++ []
def dkwX3_readsB_3 : List UInt8 := [153, 0, 33, 42, 16, 101, 182, 1, 30, 153, 0, 24, 42, 16, 32, 182, 1, 30, 153, 0, 15, 42, 3]
abbrev dktX3_readsB_3 : List UInt8 := dkwX3_readsB_3 ++ dktX3_readsB_4
def dkwX3_readsB_2 : List UInt8 := [3, 172, 42, 16, 107, 181, 1, 36, 42, 16, 97, 182, 1, 30, 153, 0, 42, 42, 16, 107, 182, 1, 30]
abbrev dktX3_readsB_2 : List UInt8 := dkwX3_readsB_2 ++ dktX3_readsB_3
def dkwX3_readsB_1 : List UInt8 := [153, 0, 24, 42, 16, 32, 182, 1, 30, 153, 0, 15, 42, 3, 182, 1, 33, 153, 0, 7, 4, 167, 0, 4]
abbrev dktX3_readsB_1 : List UInt8 := dkwX3_readsB_1 ++ dktX3_readsB_2
def dkwX3_readsB_0 : List UInt8 := [42, 16, 111, 182, 1, 30, 153, 0, 44, 42, 16, 119, 182, 1, 30, 153, 0, 33, 42, 16, 108, 182, 1, 30]
abbrev dktX3_readsB_0 : List UInt8 := dkwX3_readsB_0 ++ dktX3_readsB_1
theorem dksX3_readsB_0 : cX3_readsB.data.toList.drop 0 = dktX3_readsB_0 := by decide +kernel
theorem dksX3_readsB_1 : cX3_readsB.data.toList.drop 24 = dktX3_readsB_1 := dk_seg dksX3_readsB_0 24 rfl rfl
theorem dksX3_readsB_2 : cX3_readsB.data.toList.drop 48 = dktX3_readsB_2 := dk_seg dksX3_readsB_1 24 rfl rfl
theorem dksX3_readsB_3 : cX3_readsB.data.toList.drop 71 = dktX3_readsB_3 := dk_seg dksX3_readsB_2 23 rfl rfl
theorem dksX3_readsB_4 : cX3_readsB.data.toList.drop 94 = dktX3_readsB_4 := dk_seg dksX3_readsB_3 23 rfl rfl
theorem dX3_readsB_0 : decode cX3_readsB 0 = .ok (.aload_n 0, 1) := dk_42 (dk_at dksX3_readsB_0 0 rfl rfl)
theorem dX3_readsB_1 : decode cX3_readsB 1 = .ok (.bipush 111, 2) := dk_16 111 (dk_at dksX3_readsB_0 1 rfl rfl)
theorem dX3_readsB_3 : decode cX3_readsB 3 = .ok (.invokevirtual 286, 3) := dk_182 1 30 (dk_at dksX3_readsB_0 3 rfl rfl)
theorem dX3_readsB_6 : decode cX3_readsB 6 = .ok (.ifCond .eq 44, 3) := dk_153 0 44 (dk_at dksX3_readsB_0 6 rfl rfl)
theorem dX3_readsB_9 : decode cX3_readsB 9 = .ok (.aload_n 0, 1) := dk_42 (dk_at dksX3_readsB_0 9 rfl rfl)
theorem dX3_readsB_10 : decode cX3_readsB 10 = .ok (.bipush 119, 2) := dk_16 119 (dk_at dksX3_readsB_0 10 rfl rfl)
theorem dX3_readsB_12 : decode cX3_readsB 12 = .ok (.invokevirtual 286, 3) := dk_182 1 30 (dk_at dksX3_readsB_0 12 rfl rfl)
theorem dX3_readsB_15 : decode cX3_readsB 15 = .ok (.ifCond .eq 33, 3) := dk_153 0 33 (dk_at dksX3_readsB_0 15 rfl rfl)
theorem dX3_readsB_18 : decode cX3_readsB 18 = .ok (.aload_n 0, 1) := dk_42 (dk_at dksX3_readsB_0 18 rfl rfl)
theorem dX3_readsB_19 : decode cX3_readsB 19 = .ok (.bipush 108, 2) := dk_16 108 (dk_at dksX3_readsB_0 19 rfl rfl)
theorem dX3_readsB_21 : decode cX3_readsB 21 = .ok (.invokevirtual 286, 3) := dk_182 1 30 (dk_at dksX3_readsB_0 21 rfl rfl)
theorem dX3_readsB_24 : decode cX3_readsB 24 = .ok (.ifCond .eq 24, 3) := dk_153 0 24 (dk_at dksX3_readsB_1 0 rfl rfl)
theorem dX3_readsB_27 : decode cX3_readsB 27 = .ok (.aload_n 0, 1) := dk_42 (dk_at dksX3_readsB_1 3 rfl rfl)
theorem dX3_readsB_28 : decode cX3_readsB 28 = .ok (.bipush 32, 2) := dk_16 32 (dk_at dksX3_readsB_1 4 rfl rfl)
theorem dX3_readsB_30 : decode cX3_readsB 30 = .ok (.invokevirtual 286, 3) := dk_182 1 30 (dk_at dksX3_readsB_1 6 rfl rfl)
theorem dX3_readsB_33 : decode cX3_readsB 33 = .ok (.ifCond .eq 15, 3) := dk_153 0 15 (dk_at dksX3_readsB_1 9 rfl rfl)
theorem dX3_readsB_36 : decode cX3_readsB 36 = .ok (.aload_n 0, 1) := dk_42 (dk_at dksX3_readsB_1 12 rfl rfl)
theorem dX3_readsB_37 : decode cX3_readsB 37 = .ok (.iconst 0, 1) := dk_3 (dk_at dksX3_readsB_1 13 rfl rfl)
theorem dX3_readsB_38 : decode cX3_readsB 38 = .ok (.invokevirtual 289, 3) := dk_182 1 33 (dk_at dksX3_readsB_1 14 rfl rfl)
theorem dX3_readsB_41 : decode cX3_readsB 41 = .ok (.ifCond .eq 7, 3) := dk_153 0 7 (dk_at dksX3_readsB_1 17 rfl rfl)
theorem dX3_readsB_44 : decode cX3_readsB 44 = .ok (.iconst 1, 1) := dk_4 (dk_at dksX3_readsB_1 20 rfl rfl)
theorem dX3_readsB_45 : decode cX3_readsB 45 = .ok (.goto 4, 3) := dk_167 0 4 (dk_at dksX3_readsB_1 21 rfl rfl)
theorem dX3_readsB_48 : decode cX3_readsB 48 = .ok (.iconst 0, 1) := dk_3 (dk_at dksX3_readsB_2 0 rfl rfl)
theorem dX3_readsB_49 : decode cX3_readsB 49 = .ok (.ireturn, 1) := dk_172 (dk_at dksX3_readsB_2 1 rfl rfl)
theorem dX3_readsB_50 : decode cX3_readsB 50 = .ok (.aload_n 0, 1) := dk_42 (dk_at dksX3_readsB_2 2 rfl rfl)
theorem dX3_readsB_51 : decode cX3_readsB 51 = .ok (.bipush 107, 2) := dk_16 107 (dk_at dksX3_readsB_2 3 rfl rfl)
theorem dX3_readsB_53 : decode cX3_readsB 53 = .ok (.putfield 292, 3) := dk_181 1 36 (dk_at dksX3_readsB_2 5 rfl rfl)
theorem dX3_readsB_56 : decode cX3_readsB 56 = .ok (.aload_n 0, 1) := dk_42 (dk_at dksX3_readsB_2 8 rfl rfl)
theorem dX3_readsB_57 : decode cX3_readsB 57 = .ok (.bipush 97, 2) := dk_16 97 (dk_at dksX3_readsB_2 9 rfl rfl)
theorem dX3_readsB_59 : decode cX3_readsB 59 = .ok (.invokevirtual 286, 3) := dk_182 1 30 (dk_at dksX3_readsB_2 11 rfl rfl)
theorem dX3_readsB_62 : decode cX3_readsB 62 = .ok (.ifCond .eq 42, 3) := dk_153 0 42 (dk_at dksX3_readsB_2 14 rfl rfl)
theorem dX3_readsB_65 : decode cX3_readsB 65 = .ok (.aload_n 0, 1) := dk_42 (dk_at dksX3_readsB_2 17 rfl rfl)
theorem dX3_readsB_66 : decode cX3_readsB 66 = .ok (.bipush 107, 2) := dk_16 107 (dk_at dksX3_readsB_2 18 rfl rfl)
theorem dX3_readsB_68 : decode cX3_readsB 68 = .ok (.invokevirtual 286, 3) := dk_182 1 30 (dk_at dksX3_readsB_2 20 rfl rfl)
theorem dX3_readsB_71 : decode cX3_readsB 71 = .ok (.ifCond .eq 33, 3) := dk_153 0 33 (dk_at dksX3_readsB_3 0 rfl rfl)
theorem dX3_readsB_74 : decode cX3_readsB 74 = .ok (.aload_n 0, 1) := dk_42 (dk_at dksX3_readsB_3 3 rfl rfl)
theorem dX3_readsB_75 : decode cX3_readsB 75 = .ok (.bipush 101, 2) := dk_16 101 (dk_at dksX3_readsB_3 4 rfl rfl)
theorem dX3_readsB_77 : decode cX3_readsB 77 = .ok (.invokevirtual 286, 3) := dk_182 1 30 (dk_at dksX3_readsB_3 6 rfl rfl)
theorem dX3_readsB_80 : decode cX3_readsB 80 = .ok (.ifCond .eq 24, 3) := dk_153 0 24 (dk_at dksX3_readsB_3 9 rfl rfl)
theorem dX3_readsB_83 : decode cX3_readsB 83 = .ok (.aload_n 0, 1) := dk_42 (dk_at dksX3_readsB_3 12 rfl rfl)
theorem dX3_readsB_84 : decode cX3_readsB 84 = .ok (.bipush 32, 2) := dk_16 32 (dk_at dksX3_readsB_3 13 rfl rfl)
theorem dX3_readsB_86 : decode cX3_readsB 86 = .ok (.invokevirtual 286, 3) := dk_182 1 30 (dk_at dksX3_readsB_3 15 rfl rfl)
theorem dX3_readsB_89 : decode cX3_readsB 89 = .ok (.ifCond .eq 15, 3) := dk_153 0 15 (dk_at dksX3_readsB_3 18 rfl rfl)
theorem dX3_readsB_92 : decode cX3_readsB 92 = .ok (.aload_n 0, 1) := dk_42 (dk_at dksX3_readsB_3 21 rfl rfl)
theorem dX3_readsB_93 : decode cX3_readsB 93 = .ok (.iconst 0, 1) := dk_3 (dk_at dksX3_readsB_3 22 rfl rfl)
theorem dX3_readsB_94 : decode cX3_readsB 94 = .ok (.invokevirtual 283, 3) := dk_182 1 27 (dk_at dksX3_readsB_4 0 rfl rfl)
theorem dX3_readsB_97 : decode cX3_readsB 97 = .ok (.ifCond .eq 7, 3) := dk_153 0 7 (dk_at dksX3_readsB_4 3 rfl rfl)
theorem dX3_readsB_100 : decode cX3_readsB 100 = .ok (.iconst 1, 1) := dk_4 (dk_at dksX3_readsB_4 6 rfl rfl)
theorem dX3_readsB_101 : decode cX3_readsB 101 = .ok (.goto 4, 3) := dk_167 0 4 (dk_at dksX3_readsB_4 7 rfl rfl)
theorem dX3_readsB_104 : decode cX3_readsB 104 = .ok (.iconst 0, 1) := dk_3 (dk_at dksX3_readsB_4 10 rfl rfl)
theorem dX3_readsB_105 : decode cX3_readsB 105 = .ok (.ireturn, 1) := dk_172 (dk_at dksX3_readsB_4 11 rfl rfl)
abbrev cX3_readsS : ByteArray := prog_21_method_119_code
def yX3_readsS : MethodName := ⟨RX3, "readsS", "()Z"⟩
def dkwX3_readsS_4 : List UInt8 := [182, 1, 30, 153, 0, 15, 42, 3, 182, 1, 27, 153, 0, 7, 4, 167, 0, 4, 3, 172]
abbrev dktX3_readsS_4 : List UInt8 := dkwX3_readsS_4 ++ []
def dkwX3_readsS_3 : List UInt8 := [153, 0, 42, 42, 16, 108, 182, 1, 30, 153, 0, 33, 42, 16, 101, 182, 1, 30, 153, 0, 24, 42, 16, 32]
abbrev dktX3_readsS_3 : List UInt8 := dkwX3_readsS_3 ++ dktX3_readsS_4
def dkwX3_readsS_2 : List UInt8 := [3, 172, 42, 16, 99, 181, 1, 36, 42, 16, 99, 182, 1, 30, 153, 0, 51, 42, 16, 97, 182, 1, 30]
abbrev dktX3_readsS_2 : List UInt8 := dkwX3_readsS_2 ++ dktX3_readsS_3
def dkwX3_readsS_1 : List UInt8 := [153, 0, 24, 42, 16, 32, 182, 1, 30, 153, 0, 15, 42, 3, 182, 1, 27, 153, 0, 7, 4, 167, 0, 4]
abbrev dktX3_readsS_1 : List UInt8 := dkwX3_readsS_1 ++ dktX3_readsS_2
def dkwX3_readsS_0 : List UInt8 := [42, 16, 101, 182, 1, 30, 153, 0, 44, 42, 16, 108, 182, 1, 30, 153, 0, 33, 42, 16, 108, 182, 1, 30]
abbrev dktX3_readsS_0 : List UInt8 := dkwX3_readsS_0 ++ dktX3_readsS_1
theorem dksX3_readsS_0 : cX3_readsS.data.toList.drop 0 = dktX3_readsS_0 := by decide +kernel
theorem dksX3_readsS_1 : cX3_readsS.data.toList.drop 24 = dktX3_readsS_1 := dk_seg dksX3_readsS_0 24 rfl rfl
theorem dksX3_readsS_2 : cX3_readsS.data.toList.drop 48 = dktX3_readsS_2 := dk_seg dksX3_readsS_1 24 rfl rfl
theorem dksX3_readsS_3 : cX3_readsS.data.toList.drop 71 = dktX3_readsS_3 := dk_seg dksX3_readsS_2 23 rfl rfl
theorem dksX3_readsS_4 : cX3_readsS.data.toList.drop 95 = dktX3_readsS_4 := dk_seg dksX3_readsS_3 24 rfl rfl
theorem dX3_readsS_0 : decode cX3_readsS 0 = .ok (.aload_n 0, 1) := dk_42 (dk_at dksX3_readsS_0 0 rfl rfl)
theorem dX3_readsS_1 : decode cX3_readsS 1 = .ok (.bipush 101, 2) := dk_16 101 (dk_at dksX3_readsS_0 1 rfl rfl)
theorem dX3_readsS_3 : decode cX3_readsS 3 = .ok (.invokevirtual 286, 3) := dk_182 1 30 (dk_at dksX3_readsS_0 3 rfl rfl)
theorem dX3_readsS_6 : decode cX3_readsS 6 = .ok (.ifCond .eq 44, 3) := dk_153 0 44 (dk_at dksX3_readsS_0 6 rfl rfl)
theorem dX3_readsS_9 : decode cX3_readsS 9 = .ok (.aload_n 0, 1) := dk_42 (dk_at dksX3_readsS_0 9 rfl rfl)
theorem dX3_readsS_10 : decode cX3_readsS 10 = .ok (.bipush 108, 2) := dk_16 108 (dk_at dksX3_readsS_0 10 rfl rfl)
theorem dX3_readsS_12 : decode cX3_readsS 12 = .ok (.invokevirtual 286, 3) := dk_182 1 30 (dk_at dksX3_readsS_0 12 rfl rfl)
theorem dX3_readsS_15 : decode cX3_readsS 15 = .ok (.ifCond .eq 33, 3) := dk_153 0 33 (dk_at dksX3_readsS_0 15 rfl rfl)
theorem dX3_readsS_18 : decode cX3_readsS 18 = .ok (.aload_n 0, 1) := dk_42 (dk_at dksX3_readsS_0 18 rfl rfl)
theorem dX3_readsS_19 : decode cX3_readsS 19 = .ok (.bipush 108, 2) := dk_16 108 (dk_at dksX3_readsS_0 19 rfl rfl)
theorem dX3_readsS_21 : decode cX3_readsS 21 = .ok (.invokevirtual 286, 3) := dk_182 1 30 (dk_at dksX3_readsS_0 21 rfl rfl)
theorem dX3_readsS_24 : decode cX3_readsS 24 = .ok (.ifCond .eq 24, 3) := dk_153 0 24 (dk_at dksX3_readsS_1 0 rfl rfl)
theorem dX3_readsS_27 : decode cX3_readsS 27 = .ok (.aload_n 0, 1) := dk_42 (dk_at dksX3_readsS_1 3 rfl rfl)
theorem dX3_readsS_28 : decode cX3_readsS 28 = .ok (.bipush 32, 2) := dk_16 32 (dk_at dksX3_readsS_1 4 rfl rfl)
theorem dX3_readsS_30 : decode cX3_readsS 30 = .ok (.invokevirtual 286, 3) := dk_182 1 30 (dk_at dksX3_readsS_1 6 rfl rfl)
theorem dX3_readsS_33 : decode cX3_readsS 33 = .ok (.ifCond .eq 15, 3) := dk_153 0 15 (dk_at dksX3_readsS_1 9 rfl rfl)
theorem dX3_readsS_36 : decode cX3_readsS 36 = .ok (.aload_n 0, 1) := dk_42 (dk_at dksX3_readsS_1 12 rfl rfl)
theorem dX3_readsS_37 : decode cX3_readsS 37 = .ok (.iconst 0, 1) := dk_3 (dk_at dksX3_readsS_1 13 rfl rfl)
theorem dX3_readsS_38 : decode cX3_readsS 38 = .ok (.invokevirtual 283, 3) := dk_182 1 27 (dk_at dksX3_readsS_1 14 rfl rfl)
theorem dX3_readsS_41 : decode cX3_readsS 41 = .ok (.ifCond .eq 7, 3) := dk_153 0 7 (dk_at dksX3_readsS_1 17 rfl rfl)
theorem dX3_readsS_44 : decode cX3_readsS 44 = .ok (.iconst 1, 1) := dk_4 (dk_at dksX3_readsS_1 20 rfl rfl)
theorem dX3_readsS_45 : decode cX3_readsS 45 = .ok (.goto 4, 3) := dk_167 0 4 (dk_at dksX3_readsS_1 21 rfl rfl)
theorem dX3_readsS_48 : decode cX3_readsS 48 = .ok (.iconst 0, 1) := dk_3 (dk_at dksX3_readsS_2 0 rfl rfl)
theorem dX3_readsS_49 : decode cX3_readsS 49 = .ok (.ireturn, 1) := dk_172 (dk_at dksX3_readsS_2 1 rfl rfl)
theorem dX3_readsS_50 : decode cX3_readsS 50 = .ok (.aload_n 0, 1) := dk_42 (dk_at dksX3_readsS_2 2 rfl rfl)
theorem dX3_readsS_51 : decode cX3_readsS 51 = .ok (.bipush 99, 2) := dk_16 99 (dk_at dksX3_readsS_2 3 rfl rfl)
theorem dX3_readsS_53 : decode cX3_readsS 53 = .ok (.putfield 292, 3) := dk_181 1 36 (dk_at dksX3_readsS_2 5 rfl rfl)
theorem dX3_readsS_56 : decode cX3_readsS 56 = .ok (.aload_n 0, 1) := dk_42 (dk_at dksX3_readsS_2 8 rfl rfl)
theorem dX3_readsS_57 : decode cX3_readsS 57 = .ok (.bipush 99, 2) := dk_16 99 (dk_at dksX3_readsS_2 9 rfl rfl)
theorem dX3_readsS_59 : decode cX3_readsS 59 = .ok (.invokevirtual 286, 3) := dk_182 1 30 (dk_at dksX3_readsS_2 11 rfl rfl)
theorem dX3_readsS_62 : decode cX3_readsS 62 = .ok (.ifCond .eq 51, 3) := dk_153 0 51 (dk_at dksX3_readsS_2 14 rfl rfl)
theorem dX3_readsS_65 : decode cX3_readsS 65 = .ok (.aload_n 0, 1) := dk_42 (dk_at dksX3_readsS_2 17 rfl rfl)
theorem dX3_readsS_66 : decode cX3_readsS 66 = .ok (.bipush 97, 2) := dk_16 97 (dk_at dksX3_readsS_2 18 rfl rfl)
theorem dX3_readsS_68 : decode cX3_readsS 68 = .ok (.invokevirtual 286, 3) := dk_182 1 30 (dk_at dksX3_readsS_2 20 rfl rfl)
theorem dX3_readsS_71 : decode cX3_readsS 71 = .ok (.ifCond .eq 42, 3) := dk_153 0 42 (dk_at dksX3_readsS_3 0 rfl rfl)
theorem dX3_readsS_74 : decode cX3_readsS 74 = .ok (.aload_n 0, 1) := dk_42 (dk_at dksX3_readsS_3 3 rfl rfl)
theorem dX3_readsS_75 : decode cX3_readsS 75 = .ok (.bipush 108, 2) := dk_16 108 (dk_at dksX3_readsS_3 4 rfl rfl)
theorem dX3_readsS_77 : decode cX3_readsS 77 = .ok (.invokevirtual 286, 3) := dk_182 1 30 (dk_at dksX3_readsS_3 6 rfl rfl)
theorem dX3_readsS_80 : decode cX3_readsS 80 = .ok (.ifCond .eq 33, 3) := dk_153 0 33 (dk_at dksX3_readsS_3 9 rfl rfl)
theorem dX3_readsS_83 : decode cX3_readsS 83 = .ok (.aload_n 0, 1) := dk_42 (dk_at dksX3_readsS_3 12 rfl rfl)
theorem dX3_readsS_84 : decode cX3_readsS 84 = .ok (.bipush 101, 2) := dk_16 101 (dk_at dksX3_readsS_3 13 rfl rfl)
theorem dX3_readsS_86 : decode cX3_readsS 86 = .ok (.invokevirtual 286, 3) := dk_182 1 30 (dk_at dksX3_readsS_3 15 rfl rfl)
theorem dX3_readsS_89 : decode cX3_readsS 89 = .ok (.ifCond .eq 24, 3) := dk_153 0 24 (dk_at dksX3_readsS_3 18 rfl rfl)
theorem dX3_readsS_92 : decode cX3_readsS 92 = .ok (.aload_n 0, 1) := dk_42 (dk_at dksX3_readsS_3 21 rfl rfl)
theorem dX3_readsS_93 : decode cX3_readsS 93 = .ok (.bipush 32, 2) := dk_16 32 (dk_at dksX3_readsS_3 22 rfl rfl)
theorem dX3_readsS_95 : decode cX3_readsS 95 = .ok (.invokevirtual 286, 3) := dk_182 1 30 (dk_at dksX3_readsS_4 0 rfl rfl)
theorem dX3_readsS_98 : decode cX3_readsS 98 = .ok (.ifCond .eq 15, 3) := dk_153 0 15 (dk_at dksX3_readsS_4 3 rfl rfl)
theorem dX3_readsS_101 : decode cX3_readsS 101 = .ok (.aload_n 0, 1) := dk_42 (dk_at dksX3_readsS_4 6 rfl rfl)
theorem dX3_readsS_102 : decode cX3_readsS 102 = .ok (.iconst 0, 1) := dk_3 (dk_at dksX3_readsS_4 7 rfl rfl)
theorem dX3_readsS_103 : decode cX3_readsS 103 = .ok (.invokevirtual 283, 3) := dk_182 1 27 (dk_at dksX3_readsS_4 8 rfl rfl)
theorem dX3_readsS_106 : decode cX3_readsS 106 = .ok (.ifCond .eq 7, 3) := dk_153 0 7 (dk_at dksX3_readsS_4 11 rfl rfl)
theorem dX3_readsS_109 : decode cX3_readsS 109 = .ok (.iconst 1, 1) := dk_4 (dk_at dksX3_readsS_4 14 rfl rfl)
theorem dX3_readsS_110 : decode cX3_readsS 110 = .ok (.goto 4, 3) := dk_167 0 4 (dk_at dksX3_readsS_4 15 rfl rfl)
theorem dX3_readsS_113 : decode cX3_readsS 113 = .ok (.iconst 0, 1) := dk_3 (dk_at dksX3_readsS_4 18 rfl rfl)
theorem dX3_readsS_114 : decode cX3_readsS 114 = .ok (.ireturn, 1) := dk_172 (dk_at dksX3_readsS_4 19 rfl rfl)
abbrev cX3_readsRule : ByteArray := prog_21_method_120_code
def yX3_readsRule : MethodName := ⟨RX3, "readsRule", "()Z"⟩
def dkwX3_readsRule_3 : List UInt8 := [180, 1, 21, 4, 96, 181, 1, 21, 4, 172]
abbrev dktX3_readsRule_3 : List UInt8 := dkwX3_readsRule_3 ++ []
def dkwX3_readsRule_2 : List UInt8 := [182, 1, 24, 184, 0, 154, 154, 0, 5, 3, 172, 42, 180, 0, 43, 3, 42, 182, 1, 24, 79, 42, 89]
abbrev dktX3_readsRule_2 : List UInt8 := dkwX3_readsRule_2 ++ dktX3_readsRule_3
def dkwX3_readsRule_1 : List UInt8 := [153, 0, 31, 42, 16, 100, 182, 1, 30, 153, 0, 22, 42, 16, 32, 182, 1, 30, 153, 0, 13, 42]
abbrev dktX3_readsRule_1 : List UInt8 := dkwX3_readsRule_1 ++ dktX3_readsRule_2
def dkwX3_readsRule_0 : List UInt8 := [42, 16, 111, 182, 1, 30, 153, 0, 49, 42, 16, 117, 182, 1, 30, 153, 0, 40, 42, 16, 110, 182, 1, 30]
abbrev dktX3_readsRule_0 : List UInt8 := dkwX3_readsRule_0 ++ dktX3_readsRule_1
theorem dksX3_readsRule_0 : cX3_readsRule.data.toList.drop 0 = dktX3_readsRule_0 := by decide +kernel
theorem dksX3_readsRule_1 : cX3_readsRule.data.toList.drop 24 = dktX3_readsRule_1 := dk_seg dksX3_readsRule_0 24 rfl rfl
theorem dksX3_readsRule_2 : cX3_readsRule.data.toList.drop 46 = dktX3_readsRule_2 := dk_seg dksX3_readsRule_1 22 rfl rfl
theorem dksX3_readsRule_3 : cX3_readsRule.data.toList.drop 69 = dktX3_readsRule_3 := dk_seg dksX3_readsRule_2 23 rfl rfl
theorem dX3_readsRule_0 : decode cX3_readsRule 0 = .ok (.aload_n 0, 1) := dk_42 (dk_at dksX3_readsRule_0 0 rfl rfl)
theorem dX3_readsRule_1 : decode cX3_readsRule 1 = .ok (.bipush 111, 2) := dk_16 111 (dk_at dksX3_readsRule_0 1 rfl rfl)
theorem dX3_readsRule_3 : decode cX3_readsRule 3 = .ok (.invokevirtual 286, 3) := dk_182 1 30 (dk_at dksX3_readsRule_0 3 rfl rfl)
theorem dX3_readsRule_6 : decode cX3_readsRule 6 = .ok (.ifCond .eq 49, 3) := dk_153 0 49 (dk_at dksX3_readsRule_0 6 rfl rfl)
theorem dX3_readsRule_9 : decode cX3_readsRule 9 = .ok (.aload_n 0, 1) := dk_42 (dk_at dksX3_readsRule_0 9 rfl rfl)
theorem dX3_readsRule_10 : decode cX3_readsRule 10 = .ok (.bipush 117, 2) := dk_16 117 (dk_at dksX3_readsRule_0 10 rfl rfl)
theorem dX3_readsRule_12 : decode cX3_readsRule 12 = .ok (.invokevirtual 286, 3) := dk_182 1 30 (dk_at dksX3_readsRule_0 12 rfl rfl)
theorem dX3_readsRule_15 : decode cX3_readsRule 15 = .ok (.ifCond .eq 40, 3) := dk_153 0 40 (dk_at dksX3_readsRule_0 15 rfl rfl)
theorem dX3_readsRule_18 : decode cX3_readsRule 18 = .ok (.aload_n 0, 1) := dk_42 (dk_at dksX3_readsRule_0 18 rfl rfl)
theorem dX3_readsRule_19 : decode cX3_readsRule 19 = .ok (.bipush 110, 2) := dk_16 110 (dk_at dksX3_readsRule_0 19 rfl rfl)
theorem dX3_readsRule_21 : decode cX3_readsRule 21 = .ok (.invokevirtual 286, 3) := dk_182 1 30 (dk_at dksX3_readsRule_0 21 rfl rfl)
theorem dX3_readsRule_24 : decode cX3_readsRule 24 = .ok (.ifCond .eq 31, 3) := dk_153 0 31 (dk_at dksX3_readsRule_1 0 rfl rfl)
theorem dX3_readsRule_27 : decode cX3_readsRule 27 = .ok (.aload_n 0, 1) := dk_42 (dk_at dksX3_readsRule_1 3 rfl rfl)
theorem dX3_readsRule_28 : decode cX3_readsRule 28 = .ok (.bipush 100, 2) := dk_16 100 (dk_at dksX3_readsRule_1 4 rfl rfl)
theorem dX3_readsRule_30 : decode cX3_readsRule 30 = .ok (.invokevirtual 286, 3) := dk_182 1 30 (dk_at dksX3_readsRule_1 6 rfl rfl)
theorem dX3_readsRule_33 : decode cX3_readsRule 33 = .ok (.ifCond .eq 22, 3) := dk_153 0 22 (dk_at dksX3_readsRule_1 9 rfl rfl)
theorem dX3_readsRule_36 : decode cX3_readsRule 36 = .ok (.aload_n 0, 1) := dk_42 (dk_at dksX3_readsRule_1 12 rfl rfl)
theorem dX3_readsRule_37 : decode cX3_readsRule 37 = .ok (.bipush 32, 2) := dk_16 32 (dk_at dksX3_readsRule_1 13 rfl rfl)
theorem dX3_readsRule_39 : decode cX3_readsRule 39 = .ok (.invokevirtual 286, 3) := dk_182 1 30 (dk_at dksX3_readsRule_1 15 rfl rfl)
theorem dX3_readsRule_42 : decode cX3_readsRule 42 = .ok (.ifCond .eq 13, 3) := dk_153 0 13 (dk_at dksX3_readsRule_1 18 rfl rfl)
theorem dX3_readsRule_45 : decode cX3_readsRule 45 = .ok (.aload_n 0, 1) := dk_42 (dk_at dksX3_readsRule_1 21 rfl rfl)
theorem dX3_readsRule_46 : decode cX3_readsRule 46 = .ok (.invokevirtual 280, 3) := dk_182 1 24 (dk_at dksX3_readsRule_2 0 rfl rfl)
theorem dX3_readsRule_49 : decode cX3_readsRule 49 = .ok (.invokestatic 154, 3) := dk_184 0 154 (dk_at dksX3_readsRule_2 3 rfl rfl)
theorem dX3_readsRule_52 : decode cX3_readsRule 52 = .ok (.ifCond .ne 5, 3) := dk_154 0 5 (dk_at dksX3_readsRule_2 6 rfl rfl)
theorem dX3_readsRule_55 : decode cX3_readsRule 55 = .ok (.iconst 0, 1) := dk_3 (dk_at dksX3_readsRule_2 9 rfl rfl)
theorem dX3_readsRule_56 : decode cX3_readsRule 56 = .ok (.ireturn, 1) := dk_172 (dk_at dksX3_readsRule_2 10 rfl rfl)
theorem dX3_readsRule_57 : decode cX3_readsRule 57 = .ok (.aload_n 0, 1) := dk_42 (dk_at dksX3_readsRule_2 11 rfl rfl)
theorem dX3_readsRule_58 : decode cX3_readsRule 58 = .ok (.getfield 43, 3) := dk_180 0 43 (dk_at dksX3_readsRule_2 12 rfl rfl)
theorem dX3_readsRule_61 : decode cX3_readsRule 61 = .ok (.iconst 0, 1) := dk_3 (dk_at dksX3_readsRule_2 15 rfl rfl)
theorem dX3_readsRule_62 : decode cX3_readsRule 62 = .ok (.aload_n 0, 1) := dk_42 (dk_at dksX3_readsRule_2 16 rfl rfl)
theorem dX3_readsRule_63 : decode cX3_readsRule 63 = .ok (.invokevirtual 280, 3) := dk_182 1 24 (dk_at dksX3_readsRule_2 17 rfl rfl)
theorem dX3_readsRule_66 : decode cX3_readsRule 66 = .ok (.iastore, 1) := dk_79 (dk_at dksX3_readsRule_2 20 rfl rfl)
theorem dX3_readsRule_67 : decode cX3_readsRule 67 = .ok (.aload_n 0, 1) := dk_42 (dk_at dksX3_readsRule_2 21 rfl rfl)
theorem dX3_readsRule_68 : decode cX3_readsRule 68 = .ok (.dup, 1) := dk_89 (dk_at dksX3_readsRule_2 22 rfl rfl)
theorem dX3_readsRule_69 : decode cX3_readsRule 69 = .ok (.getfield 277, 3) := dk_180 1 21 (dk_at dksX3_readsRule_3 0 rfl rfl)
theorem dX3_readsRule_72 : decode cX3_readsRule 72 = .ok (.iconst 1, 1) := dk_4 (dk_at dksX3_readsRule_3 3 rfl rfl)
theorem dX3_readsRule_73 : decode cX3_readsRule 73 = .ok (.iadd, 1) := dk_96 (dk_at dksX3_readsRule_3 4 rfl rfl)
theorem dX3_readsRule_74 : decode cX3_readsRule 74 = .ok (.putfield 277, 3) := dk_181 1 21 (dk_at dksX3_readsRule_3 5 rfl rfl)
theorem dX3_readsRule_77 : decode cX3_readsRule 77 = .ok (.iconst 1, 1) := dk_4 (dk_at dksX3_readsRule_3 8 rfl rfl)
theorem dX3_readsRule_78 : decode cX3_readsRule 78 = .ok (.ireturn, 1) := dk_172 (dk_at dksX3_readsRule_3 9 rfl rfl)
abbrev cX3_doesAll : ByteArray := prog_21_method_126_code
def yX3_doesAll : MethodName := ⟨RX3, "doesAll", "()Z"⟩
def dkwX3_doesAll_2 : List UInt8 := [180, 1, 59, 4, 96, 181, 1, 59, 42, 16, 59, 182, 1, 30, 60, 167, 255, 209, 4, 172]
abbrev dktX3_doesAll_2 : List UInt8 := dkwX3_doesAll_2 ++ []
def dkwX3_doesAll_1 : List UInt8 := [182, 1, 62, 61, 28, 153, 0, 10, 42, 28, 181, 1, 65, 3, 172, 42, 182, 1, 68, 87, 42, 89]
abbrev dktX3_doesAll_1 : List UInt8 := dkwX3_doesAll_1 ++ dktX3_doesAll_2
def dkwX3_doesAll_0 : List UInt8 := [42, 3, 181, 1, 59, 42, 3, 181, 1, 21, 4, 60, 27, 153, 0, 49, 42, 182, 1, 52, 87, 42]
abbrev dktX3_doesAll_0 : List UInt8 := dkwX3_doesAll_0 ++ dktX3_doesAll_1
theorem dksX3_doesAll_0 : cX3_doesAll.data.toList.drop 0 = dktX3_doesAll_0 := by decide +kernel
theorem dksX3_doesAll_1 : cX3_doesAll.data.toList.drop 22 = dktX3_doesAll_1 := dk_seg dksX3_doesAll_0 22 rfl rfl
theorem dksX3_doesAll_2 : cX3_doesAll.data.toList.drop 44 = dktX3_doesAll_2 := dk_seg dksX3_doesAll_1 22 rfl rfl
theorem dX3_doesAll_0 : decode cX3_doesAll 0 = .ok (.aload_n 0, 1) := dk_42 (dk_at dksX3_doesAll_0 0 rfl rfl)
theorem dX3_doesAll_1 : decode cX3_doesAll 1 = .ok (.iconst 0, 1) := dk_3 (dk_at dksX3_doesAll_0 1 rfl rfl)
theorem dX3_doesAll_2 : decode cX3_doesAll 2 = .ok (.putfield 315, 3) := dk_181 1 59 (dk_at dksX3_doesAll_0 2 rfl rfl)
theorem dX3_doesAll_5 : decode cX3_doesAll 5 = .ok (.aload_n 0, 1) := dk_42 (dk_at dksX3_doesAll_0 5 rfl rfl)
theorem dX3_doesAll_6 : decode cX3_doesAll 6 = .ok (.iconst 0, 1) := dk_3 (dk_at dksX3_doesAll_0 6 rfl rfl)
theorem dX3_doesAll_7 : decode cX3_doesAll 7 = .ok (.putfield 277, 3) := dk_181 1 21 (dk_at dksX3_doesAll_0 7 rfl rfl)
theorem dX3_doesAll_10 : decode cX3_doesAll 10 = .ok (.iconst 1, 1) := dk_4 (dk_at dksX3_doesAll_0 10 rfl rfl)
theorem dX3_doesAll_11 : decode cX3_doesAll 11 = .ok (.istore_n 1, 1) := dk_60 (dk_at dksX3_doesAll_0 11 rfl rfl)
theorem dX3_doesAll_12 : decode cX3_doesAll 12 = .ok (.iload_n 1, 1) := dk_27 (dk_at dksX3_doesAll_0 12 rfl rfl)
theorem dX3_doesAll_13 : decode cX3_doesAll 13 = .ok (.ifCond .eq 49, 3) := dk_153 0 49 (dk_at dksX3_doesAll_0 13 rfl rfl)
theorem dX3_doesAll_16 : decode cX3_doesAll 16 = .ok (.aload_n 0, 1) := dk_42 (dk_at dksX3_doesAll_0 16 rfl rfl)
theorem dX3_doesAll_17 : decode cX3_doesAll 17 = .ok (.invokevirtual 308, 3) := dk_182 1 52 (dk_at dksX3_doesAll_0 17 rfl rfl)
theorem dX3_doesAll_20 : decode cX3_doesAll 20 = .ok (.pop, 1) := dk_87 (dk_at dksX3_doesAll_0 20 rfl rfl)
theorem dX3_doesAll_21 : decode cX3_doesAll 21 = .ok (.aload_n 0, 1) := dk_42 (dk_at dksX3_doesAll_0 21 rfl rfl)
theorem dX3_doesAll_22 : decode cX3_doesAll 22 = .ok (.invokevirtual 318, 3) := dk_182 1 62 (dk_at dksX3_doesAll_1 0 rfl rfl)
theorem dX3_doesAll_25 : decode cX3_doesAll 25 = .ok (.istore_n 2, 1) := dk_61 (dk_at dksX3_doesAll_1 3 rfl rfl)
theorem dX3_doesAll_26 : decode cX3_doesAll 26 = .ok (.iload_n 2, 1) := dk_28 (dk_at dksX3_doesAll_1 4 rfl rfl)
theorem dX3_doesAll_27 : decode cX3_doesAll 27 = .ok (.ifCond .eq 10, 3) := dk_153 0 10 (dk_at dksX3_doesAll_1 5 rfl rfl)
theorem dX3_doesAll_30 : decode cX3_doesAll 30 = .ok (.aload_n 0, 1) := dk_42 (dk_at dksX3_doesAll_1 8 rfl rfl)
theorem dX3_doesAll_31 : decode cX3_doesAll 31 = .ok (.iload_n 2, 1) := dk_28 (dk_at dksX3_doesAll_1 9 rfl rfl)
theorem dX3_doesAll_32 : decode cX3_doesAll 32 = .ok (.putfield 321, 3) := dk_181 1 65 (dk_at dksX3_doesAll_1 10 rfl rfl)
theorem dX3_doesAll_35 : decode cX3_doesAll 35 = .ok (.iconst 0, 1) := dk_3 (dk_at dksX3_doesAll_1 13 rfl rfl)
theorem dX3_doesAll_36 : decode cX3_doesAll 36 = .ok (.ireturn, 1) := dk_172 (dk_at dksX3_doesAll_1 14 rfl rfl)
theorem dX3_doesAll_37 : decode cX3_doesAll 37 = .ok (.aload_n 0, 1) := dk_42 (dk_at dksX3_doesAll_1 15 rfl rfl)
theorem dX3_doesAll_38 : decode cX3_doesAll 38 = .ok (.invokevirtual 324, 3) := dk_182 1 68 (dk_at dksX3_doesAll_1 16 rfl rfl)
theorem dX3_doesAll_41 : decode cX3_doesAll 41 = .ok (.pop, 1) := dk_87 (dk_at dksX3_doesAll_1 19 rfl rfl)
theorem dX3_doesAll_42 : decode cX3_doesAll 42 = .ok (.aload_n 0, 1) := dk_42 (dk_at dksX3_doesAll_1 20 rfl rfl)
theorem dX3_doesAll_43 : decode cX3_doesAll 43 = .ok (.dup, 1) := dk_89 (dk_at dksX3_doesAll_1 21 rfl rfl)
theorem dX3_doesAll_44 : decode cX3_doesAll 44 = .ok (.getfield 315, 3) := dk_180 1 59 (dk_at dksX3_doesAll_2 0 rfl rfl)
theorem dX3_doesAll_47 : decode cX3_doesAll 47 = .ok (.iconst 1, 1) := dk_4 (dk_at dksX3_doesAll_2 3 rfl rfl)
theorem dX3_doesAll_48 : decode cX3_doesAll 48 = .ok (.iadd, 1) := dk_96 (dk_at dksX3_doesAll_2 4 rfl rfl)
theorem dX3_doesAll_49 : decode cX3_doesAll 49 = .ok (.putfield 315, 3) := dk_181 1 59 (dk_at dksX3_doesAll_2 5 rfl rfl)
theorem dX3_doesAll_52 : decode cX3_doesAll 52 = .ok (.aload_n 0, 1) := dk_42 (dk_at dksX3_doesAll_2 8 rfl rfl)
theorem dX3_doesAll_53 : decode cX3_doesAll 53 = .ok (.bipush 59, 2) := dk_16 59 (dk_at dksX3_doesAll_2 9 rfl rfl)
theorem dX3_doesAll_55 : decode cX3_doesAll 55 = .ok (.invokevirtual 286, 3) := dk_182 1 30 (dk_at dksX3_doesAll_2 11 rfl rfl)
theorem dX3_doesAll_58 : decode cX3_doesAll 58 = .ok (.istore_n 1, 1) := dk_60 (dk_at dksX3_doesAll_2 14 rfl rfl)
theorem dX3_doesAll_59 : decode cX3_doesAll 59 = .ok (.goto (-47), 3) := dk_167 255 209 (dk_at dksX3_doesAll_2 15 rfl rfl)
theorem dX3_doesAll_62 : decode cX3_doesAll 62 = .ok (.iconst 1, 1) := dk_4 (dk_at dksX3_doesAll_2 18 rfl rfl)
theorem dX3_doesAll_63 : decode cX3_doesAll 63 = .ok (.ireturn, 1) := dk_172 (dk_at dksX3_doesAll_2 19 rfl rfl)
abbrev cX3_notNow : ByteArray := prog_21_method_124_code
def yX3_notNow : MethodName := ⟨RX3, "notNow", "()I"⟩
def dkwX3_notNow_8 : List UInt8 := [3, 3, 184, 1, 55, 172, 3, 172]
abbrev dktX3_notNow_8 : List UInt8 := dkwX3_notNow_8 ++ []
def dkwX3_notNow_7 : List UInt8 := [16, 105, 172, 42, 27, 182, 0, 185, 16, 105, 16, 101, 16, 117, 184, 1, 55, 172, 27, 184, 0, 191, 16, 97]
abbrev dktX3_notNow_7 : List UInt8 := dkwX3_notNow_7 ++ dktX3_notNow_8
def dkwX3_notNow_6 : List UInt8 := [182, 0, 164, 16, 105, 3, 3, 184, 1, 55, 172, 42, 27, 182, 0, 157, 153, 0, 7, 3, 167, 0, 5]
abbrev dktX3_notNow_6 : List UInt8 := dkwX3_notNow_6 ++ dktX3_notNow_7
def dkwX3_notNow_5 : List UInt8 := [167, 0, 5, 16, 105, 172, 42, 27, 182, 0, 148, 16, 97, 16, 117, 3, 184, 1, 55, 172, 42, 27, 28]
abbrev dktX3_notNow_5 : List UInt8 := dkwX3_notNow_5 ++ dktX3_notNow_6
def dkwX3_notNow_4 : List UInt8 := [28, 182, 0, 130, 16, 97, 16, 115, 3, 184, 1, 55, 172, 42, 27, 182, 0, 136, 153, 0, 7, 3]
abbrev dktX3_notNow_4 : List UInt8 := dkwX3_notNow_4 ++ dktX3_notNow_5
def dkwX3_notNow_3 : List UInt8 := [16, 97, 16, 117, 184, 1, 55, 172, 42, 27, 182, 0, 124, 16, 97, 16, 115, 3, 184, 1, 55, 172, 42, 27]
abbrev dktX3_notNow_3 : List UInt8 := dkwX3_notNow_3 ++ dktX3_notNow_4
def dkwX3_notNow_2 : List UInt8 := [42, 27, 28, 182, 0, 78, 16, 97, 16, 115, 3, 184, 1, 55, 172, 42, 27, 28, 182, 0, 103, 16, 105]
abbrev dktX3_notNow_2 : List UInt8 := dkwX3_notNow_2 ++ dktX3_notNow_3
def dkwX3_notNow_1 : List UInt8 := [170, 0, 0, 0, 0, 231, 0, 0, 0, 98, 0, 0, 0, 115, 0, 0, 0, 117, 0, 0, 0, 161, 0, 0, 0, 86, 0, 0, 0, 189, 0, 0, 0, 231, 0, 0, 0, 231, 0, 0, 0, 231, 0, 0, 0, 231, 0, 0, 0, 231, 0, 0, 0, 204, 0, 0, 0, 131, 0, 0, 0, 101, 0, 0, 0, 231, 0, 0, 0, 219, 0, 0, 0, 175, 0, 0, 0, 231, 0, 0, 0, 231, 0, 0, 0, 146]
abbrev dktX3_notNow_1 : List UInt8 := dkwX3_notNow_1 ++ dktX3_notNow_2
def dkwX3_notNow_0 : List UInt8 := [42, 180, 0, 43, 3, 46, 60, 42, 180, 0, 43, 4, 46, 61, 42, 180, 1, 36]
abbrev dktX3_notNow_0 : List UInt8 := dkwX3_notNow_0 ++ dktX3_notNow_1
theorem dksX3_notNow_0 : cX3_notNow.data.toList.drop 0 = dktX3_notNow_0 := by decide +kernel
theorem dksX3_notNow_1 : cX3_notNow.data.toList.drop 18 = dktX3_notNow_1 := dk_seg dksX3_notNow_0 18 rfl rfl
theorem dksX3_notNow_2 : cX3_notNow.data.toList.drop 104 = dktX3_notNow_2 := dk_seg dksX3_notNow_1 86 rfl rfl
theorem dksX3_notNow_3 : cX3_notNow.data.toList.drop 127 = dktX3_notNow_3 := dk_seg dksX3_notNow_2 23 rfl rfl
theorem dksX3_notNow_4 : cX3_notNow.data.toList.drop 151 = dktX3_notNow_4 := dk_seg dksX3_notNow_3 24 rfl rfl
theorem dksX3_notNow_5 : cX3_notNow.data.toList.drop 173 = dktX3_notNow_5 := dk_seg dksX3_notNow_4 22 rfl rfl
theorem dksX3_notNow_6 : cX3_notNow.data.toList.drop 196 = dktX3_notNow_6 := dk_seg dksX3_notNow_5 23 rfl rfl
theorem dksX3_notNow_7 : cX3_notNow.data.toList.drop 219 = dktX3_notNow_7 := dk_seg dksX3_notNow_6 23 rfl rfl
theorem dksX3_notNow_8 : cX3_notNow.data.toList.drop 243 = dktX3_notNow_8 := dk_seg dksX3_notNow_7 24 rfl rfl
theorem dX3_notNow_0 : decode cX3_notNow 0 = .ok (.aload_n 0, 1) := dk_42 (dk_at dksX3_notNow_0 0 rfl rfl)
theorem dX3_notNow_1 : decode cX3_notNow 1 = .ok (.getfield 43, 3) := dk_180 0 43 (dk_at dksX3_notNow_0 1 rfl rfl)
theorem dX3_notNow_4 : decode cX3_notNow 4 = .ok (.iconst 0, 1) := dk_3 (dk_at dksX3_notNow_0 4 rfl rfl)
theorem dX3_notNow_5 : decode cX3_notNow 5 = .ok (.iaload, 1) := dk_46 (dk_at dksX3_notNow_0 5 rfl rfl)
theorem dX3_notNow_6 : decode cX3_notNow 6 = .ok (.istore_n 1, 1) := dk_60 (dk_at dksX3_notNow_0 6 rfl rfl)
theorem dX3_notNow_7 : decode cX3_notNow 7 = .ok (.aload_n 0, 1) := dk_42 (dk_at dksX3_notNow_0 7 rfl rfl)
theorem dX3_notNow_8 : decode cX3_notNow 8 = .ok (.getfield 43, 3) := dk_180 0 43 (dk_at dksX3_notNow_0 8 rfl rfl)
theorem dX3_notNow_11 : decode cX3_notNow 11 = .ok (.iconst 1, 1) := dk_4 (dk_at dksX3_notNow_0 11 rfl rfl)
theorem dX3_notNow_12 : decode cX3_notNow 12 = .ok (.iaload, 1) := dk_46 (dk_at dksX3_notNow_0 12 rfl rfl)
theorem dX3_notNow_13 : decode cX3_notNow 13 = .ok (.istore_n 2, 1) := dk_61 (dk_at dksX3_notNow_0 13 rfl rfl)
theorem dX3_notNow_14 : decode cX3_notNow 14 = .ok (.aload_n 0, 1) := dk_42 (dk_at dksX3_notNow_0 14 rfl rfl)
theorem dX3_notNow_15 : decode cX3_notNow 15 = .ok (.getfield 292, 3) := dk_180 1 36 (dk_at dksX3_notNow_0 15 rfl rfl)
theorem dX3_notNow_18 : decode cX3_notNow 18 = .ok (.tableswitch 231 98 115 #[117, 161, 86, 189, 231, 231, 231, 231, 231, 204, 131, 101, 231, 219, 175, 231, 231, 146], 86) := by decide +kernel
theorem dX3_notNow_104 : decode cX3_notNow 104 = .ok (.aload_n 0, 1) := dk_42 (dk_at dksX3_notNow_2 0 rfl rfl)
theorem dX3_notNow_105 : decode cX3_notNow 105 = .ok (.iload_n 1, 1) := dk_27 (dk_at dksX3_notNow_2 1 rfl rfl)
theorem dX3_notNow_106 : decode cX3_notNow 106 = .ok (.iload_n 2, 1) := dk_28 (dk_at dksX3_notNow_2 2 rfl rfl)
theorem dX3_notNow_107 : decode cX3_notNow 107 = .ok (.invokevirtual 78, 3) := dk_182 0 78 (dk_at dksX3_notNow_2 3 rfl rfl)
theorem dX3_notNow_110 : decode cX3_notNow 110 = .ok (.bipush 97, 2) := dk_16 97 (dk_at dksX3_notNow_2 6 rfl rfl)
theorem dX3_notNow_112 : decode cX3_notNow 112 = .ok (.bipush 115, 2) := dk_16 115 (dk_at dksX3_notNow_2 8 rfl rfl)
theorem dX3_notNow_114 : decode cX3_notNow 114 = .ok (.iconst 0, 1) := dk_3 (dk_at dksX3_notNow_2 10 rfl rfl)
theorem dX3_notNow_115 : decode cX3_notNow 115 = .ok (.invokestatic 311, 3) := dk_184 1 55 (dk_at dksX3_notNow_2 11 rfl rfl)
theorem dX3_notNow_118 : decode cX3_notNow 118 = .ok (.ireturn, 1) := dk_172 (dk_at dksX3_notNow_2 14 rfl rfl)
theorem dX3_notNow_119 : decode cX3_notNow 119 = .ok (.aload_n 0, 1) := dk_42 (dk_at dksX3_notNow_2 15 rfl rfl)
theorem dX3_notNow_120 : decode cX3_notNow 120 = .ok (.iload_n 1, 1) := dk_27 (dk_at dksX3_notNow_2 16 rfl rfl)
theorem dX3_notNow_121 : decode cX3_notNow 121 = .ok (.iload_n 2, 1) := dk_28 (dk_at dksX3_notNow_2 17 rfl rfl)
theorem dX3_notNow_122 : decode cX3_notNow 122 = .ok (.invokevirtual 103, 3) := dk_182 0 103 (dk_at dksX3_notNow_2 18 rfl rfl)
theorem dX3_notNow_125 : decode cX3_notNow 125 = .ok (.bipush 105, 2) := dk_16 105 (dk_at dksX3_notNow_2 21 rfl rfl)
theorem dX3_notNow_127 : decode cX3_notNow 127 = .ok (.bipush 97, 2) := dk_16 97 (dk_at dksX3_notNow_3 0 rfl rfl)
theorem dX3_notNow_129 : decode cX3_notNow 129 = .ok (.bipush 117, 2) := dk_16 117 (dk_at dksX3_notNow_3 2 rfl rfl)
theorem dX3_notNow_131 : decode cX3_notNow 131 = .ok (.invokestatic 311, 3) := dk_184 1 55 (dk_at dksX3_notNow_3 4 rfl rfl)
theorem dX3_notNow_134 : decode cX3_notNow 134 = .ok (.ireturn, 1) := dk_172 (dk_at dksX3_notNow_3 7 rfl rfl)
theorem dX3_notNow_135 : decode cX3_notNow 135 = .ok (.aload_n 0, 1) := dk_42 (dk_at dksX3_notNow_3 8 rfl rfl)
theorem dX3_notNow_136 : decode cX3_notNow 136 = .ok (.iload_n 1, 1) := dk_27 (dk_at dksX3_notNow_3 9 rfl rfl)
theorem dX3_notNow_137 : decode cX3_notNow 137 = .ok (.invokevirtual 124, 3) := dk_182 0 124 (dk_at dksX3_notNow_3 10 rfl rfl)
theorem dX3_notNow_140 : decode cX3_notNow 140 = .ok (.bipush 97, 2) := dk_16 97 (dk_at dksX3_notNow_3 13 rfl rfl)
theorem dX3_notNow_142 : decode cX3_notNow 142 = .ok (.bipush 115, 2) := dk_16 115 (dk_at dksX3_notNow_3 15 rfl rfl)
theorem dX3_notNow_144 : decode cX3_notNow 144 = .ok (.iconst 0, 1) := dk_3 (dk_at dksX3_notNow_3 17 rfl rfl)
theorem dX3_notNow_145 : decode cX3_notNow 145 = .ok (.invokestatic 311, 3) := dk_184 1 55 (dk_at dksX3_notNow_3 18 rfl rfl)
theorem dX3_notNow_148 : decode cX3_notNow 148 = .ok (.ireturn, 1) := dk_172 (dk_at dksX3_notNow_3 21 rfl rfl)
theorem dX3_notNow_149 : decode cX3_notNow 149 = .ok (.aload_n 0, 1) := dk_42 (dk_at dksX3_notNow_3 22 rfl rfl)
theorem dX3_notNow_150 : decode cX3_notNow 150 = .ok (.iload_n 1, 1) := dk_27 (dk_at dksX3_notNow_3 23 rfl rfl)
theorem dX3_notNow_151 : decode cX3_notNow 151 = .ok (.iload_n 2, 1) := dk_28 (dk_at dksX3_notNow_4 0 rfl rfl)
theorem dX3_notNow_152 : decode cX3_notNow 152 = .ok (.invokevirtual 130, 3) := dk_182 0 130 (dk_at dksX3_notNow_4 1 rfl rfl)
theorem dX3_notNow_155 : decode cX3_notNow 155 = .ok (.bipush 97, 2) := dk_16 97 (dk_at dksX3_notNow_4 4 rfl rfl)
theorem dX3_notNow_157 : decode cX3_notNow 157 = .ok (.bipush 115, 2) := dk_16 115 (dk_at dksX3_notNow_4 6 rfl rfl)
theorem dX3_notNow_159 : decode cX3_notNow 159 = .ok (.iconst 0, 1) := dk_3 (dk_at dksX3_notNow_4 8 rfl rfl)
theorem dX3_notNow_160 : decode cX3_notNow 160 = .ok (.invokestatic 311, 3) := dk_184 1 55 (dk_at dksX3_notNow_4 9 rfl rfl)
theorem dX3_notNow_163 : decode cX3_notNow 163 = .ok (.ireturn, 1) := dk_172 (dk_at dksX3_notNow_4 12 rfl rfl)
theorem dX3_notNow_164 : decode cX3_notNow 164 = .ok (.aload_n 0, 1) := dk_42 (dk_at dksX3_notNow_4 13 rfl rfl)
theorem dX3_notNow_165 : decode cX3_notNow 165 = .ok (.iload_n 1, 1) := dk_27 (dk_at dksX3_notNow_4 14 rfl rfl)
theorem dX3_notNow_166 : decode cX3_notNow 166 = .ok (.invokevirtual 136, 3) := dk_182 0 136 (dk_at dksX3_notNow_4 15 rfl rfl)
theorem dX3_notNow_169 : decode cX3_notNow 169 = .ok (.ifCond .eq 7, 3) := dk_153 0 7 (dk_at dksX3_notNow_4 18 rfl rfl)
theorem dX3_notNow_172 : decode cX3_notNow 172 = .ok (.iconst 0, 1) := dk_3 (dk_at dksX3_notNow_4 21 rfl rfl)
theorem dX3_notNow_173 : decode cX3_notNow 173 = .ok (.goto 5, 3) := dk_167 0 5 (dk_at dksX3_notNow_5 0 rfl rfl)
theorem dX3_notNow_176 : decode cX3_notNow 176 = .ok (.bipush 105, 2) := dk_16 105 (dk_at dksX3_notNow_5 3 rfl rfl)
theorem dX3_notNow_178 : decode cX3_notNow 178 = .ok (.ireturn, 1) := dk_172 (dk_at dksX3_notNow_5 5 rfl rfl)
theorem dX3_notNow_179 : decode cX3_notNow 179 = .ok (.aload_n 0, 1) := dk_42 (dk_at dksX3_notNow_5 6 rfl rfl)
theorem dX3_notNow_180 : decode cX3_notNow 180 = .ok (.iload_n 1, 1) := dk_27 (dk_at dksX3_notNow_5 7 rfl rfl)
theorem dX3_notNow_181 : decode cX3_notNow 181 = .ok (.invokevirtual 148, 3) := dk_182 0 148 (dk_at dksX3_notNow_5 8 rfl rfl)
theorem dX3_notNow_184 : decode cX3_notNow 184 = .ok (.bipush 97, 2) := dk_16 97 (dk_at dksX3_notNow_5 11 rfl rfl)
theorem dX3_notNow_186 : decode cX3_notNow 186 = .ok (.bipush 117, 2) := dk_16 117 (dk_at dksX3_notNow_5 13 rfl rfl)
theorem dX3_notNow_188 : decode cX3_notNow 188 = .ok (.iconst 0, 1) := dk_3 (dk_at dksX3_notNow_5 15 rfl rfl)
theorem dX3_notNow_189 : decode cX3_notNow 189 = .ok (.invokestatic 311, 3) := dk_184 1 55 (dk_at dksX3_notNow_5 16 rfl rfl)
theorem dX3_notNow_192 : decode cX3_notNow 192 = .ok (.ireturn, 1) := dk_172 (dk_at dksX3_notNow_5 19 rfl rfl)
theorem dX3_notNow_193 : decode cX3_notNow 193 = .ok (.aload_n 0, 1) := dk_42 (dk_at dksX3_notNow_5 20 rfl rfl)
theorem dX3_notNow_194 : decode cX3_notNow 194 = .ok (.iload_n 1, 1) := dk_27 (dk_at dksX3_notNow_5 21 rfl rfl)
theorem dX3_notNow_195 : decode cX3_notNow 195 = .ok (.iload_n 2, 1) := dk_28 (dk_at dksX3_notNow_5 22 rfl rfl)
theorem dX3_notNow_196 : decode cX3_notNow 196 = .ok (.invokevirtual 164, 3) := dk_182 0 164 (dk_at dksX3_notNow_6 0 rfl rfl)
theorem dX3_notNow_199 : decode cX3_notNow 199 = .ok (.bipush 105, 2) := dk_16 105 (dk_at dksX3_notNow_6 3 rfl rfl)
theorem dX3_notNow_201 : decode cX3_notNow 201 = .ok (.iconst 0, 1) := dk_3 (dk_at dksX3_notNow_6 5 rfl rfl)
theorem dX3_notNow_202 : decode cX3_notNow 202 = .ok (.iconst 0, 1) := dk_3 (dk_at dksX3_notNow_6 6 rfl rfl)
theorem dX3_notNow_203 : decode cX3_notNow 203 = .ok (.invokestatic 311, 3) := dk_184 1 55 (dk_at dksX3_notNow_6 7 rfl rfl)
theorem dX3_notNow_206 : decode cX3_notNow 206 = .ok (.ireturn, 1) := dk_172 (dk_at dksX3_notNow_6 10 rfl rfl)
theorem dX3_notNow_207 : decode cX3_notNow 207 = .ok (.aload_n 0, 1) := dk_42 (dk_at dksX3_notNow_6 11 rfl rfl)
theorem dX3_notNow_208 : decode cX3_notNow 208 = .ok (.iload_n 1, 1) := dk_27 (dk_at dksX3_notNow_6 12 rfl rfl)
theorem dX3_notNow_209 : decode cX3_notNow 209 = .ok (.invokevirtual 157, 3) := dk_182 0 157 (dk_at dksX3_notNow_6 13 rfl rfl)
theorem dX3_notNow_212 : decode cX3_notNow 212 = .ok (.ifCond .eq 7, 3) := dk_153 0 7 (dk_at dksX3_notNow_6 16 rfl rfl)
theorem dX3_notNow_215 : decode cX3_notNow 215 = .ok (.iconst 0, 1) := dk_3 (dk_at dksX3_notNow_6 19 rfl rfl)
theorem dX3_notNow_216 : decode cX3_notNow 216 = .ok (.goto 5, 3) := dk_167 0 5 (dk_at dksX3_notNow_6 20 rfl rfl)
theorem dX3_notNow_219 : decode cX3_notNow 219 = .ok (.bipush 105, 2) := dk_16 105 (dk_at dksX3_notNow_7 0 rfl rfl)
theorem dX3_notNow_221 : decode cX3_notNow 221 = .ok (.ireturn, 1) := dk_172 (dk_at dksX3_notNow_7 2 rfl rfl)
theorem dX3_notNow_222 : decode cX3_notNow 222 = .ok (.aload_n 0, 1) := dk_42 (dk_at dksX3_notNow_7 3 rfl rfl)
theorem dX3_notNow_223 : decode cX3_notNow 223 = .ok (.iload_n 1, 1) := dk_27 (dk_at dksX3_notNow_7 4 rfl rfl)
theorem dX3_notNow_224 : decode cX3_notNow 224 = .ok (.invokevirtual 185, 3) := dk_182 0 185 (dk_at dksX3_notNow_7 5 rfl rfl)
theorem dX3_notNow_227 : decode cX3_notNow 227 = .ok (.bipush 105, 2) := dk_16 105 (dk_at dksX3_notNow_7 8 rfl rfl)
theorem dX3_notNow_229 : decode cX3_notNow 229 = .ok (.bipush 101, 2) := dk_16 101 (dk_at dksX3_notNow_7 10 rfl rfl)
theorem dX3_notNow_231 : decode cX3_notNow 231 = .ok (.bipush 117, 2) := dk_16 117 (dk_at dksX3_notNow_7 12 rfl rfl)
theorem dX3_notNow_233 : decode cX3_notNow 233 = .ok (.invokestatic 311, 3) := dk_184 1 55 (dk_at dksX3_notNow_7 14 rfl rfl)
theorem dX3_notNow_236 : decode cX3_notNow 236 = .ok (.ireturn, 1) := dk_172 (dk_at dksX3_notNow_7 17 rfl rfl)
theorem dX3_notNow_237 : decode cX3_notNow 237 = .ok (.iload_n 1, 1) := dk_27 (dk_at dksX3_notNow_7 18 rfl rfl)
theorem dX3_notNow_238 : decode cX3_notNow 238 = .ok (.invokestatic 191, 3) := dk_184 0 191 (dk_at dksX3_notNow_7 19 rfl rfl)
theorem dX3_notNow_241 : decode cX3_notNow 241 = .ok (.bipush 97, 2) := dk_16 97 (dk_at dksX3_notNow_7 22 rfl rfl)
theorem dX3_notNow_243 : decode cX3_notNow 243 = .ok (.iconst 0, 1) := dk_3 (dk_at dksX3_notNow_8 0 rfl rfl)
theorem dX3_notNow_244 : decode cX3_notNow 244 = .ok (.iconst 0, 1) := dk_3 (dk_at dksX3_notNow_8 1 rfl rfl)
theorem dX3_notNow_245 : decode cX3_notNow 245 = .ok (.invokestatic 311, 3) := dk_184 1 55 (dk_at dksX3_notNow_8 2 rfl rfl)
theorem dX3_notNow_248 : decode cX3_notNow 248 = .ok (.ireturn, 1) := dk_172 (dk_at dksX3_notNow_8 5 rfl rfl)
theorem dX3_notNow_249 : decode cX3_notNow 249 = .ok (.iconst 0, 1) := dk_3 (dk_at dksX3_notNow_8 6 rfl rfl)
theorem dX3_notNow_250 : decode cX3_notNow 250 = .ok (.ireturn, 1) := dk_172 (dk_at dksX3_notNow_8 7 rfl rfl)
abbrev cX3_kind : ByteArray := prog_21_method_123_code
def yX3_kind : MethodName := ⟨RX3, "kind", "(IIII)I"⟩
def dkwX3_kind_1 : List UInt8 := [167, 0, 4, 29, 172]
abbrev dktX3_kind_1 : List UInt8 := dkwX3_kind_1 ++ []
def dkwX3_kind_0 : List UInt8 := [26, 154, 0, 7, 3, 167, 0, 22, 26, 4, 160, 0, 7, 27, 167, 0, 13, 26, 5, 160, 0, 7, 28]
abbrev dktX3_kind_0 : List UInt8 := dkwX3_kind_0 ++ dktX3_kind_1
theorem dksX3_kind_0 : cX3_kind.data.toList.drop 0 = dktX3_kind_0 := by decide +kernel
theorem dksX3_kind_1 : cX3_kind.data.toList.drop 23 = dktX3_kind_1 := dk_seg dksX3_kind_0 23 rfl rfl
theorem dX3_kind_0 : decode cX3_kind 0 = .ok (.iload_n 0, 1) := dk_26 (dk_at dksX3_kind_0 0 rfl rfl)
theorem dX3_kind_1 : decode cX3_kind 1 = .ok (.ifCond .ne 7, 3) := dk_154 0 7 (dk_at dksX3_kind_0 1 rfl rfl)
theorem dX3_kind_4 : decode cX3_kind 4 = .ok (.iconst 0, 1) := dk_3 (dk_at dksX3_kind_0 4 rfl rfl)
theorem dX3_kind_5 : decode cX3_kind 5 = .ok (.goto 22, 3) := dk_167 0 22 (dk_at dksX3_kind_0 5 rfl rfl)
theorem dX3_kind_8 : decode cX3_kind 8 = .ok (.iload_n 0, 1) := dk_26 (dk_at dksX3_kind_0 8 rfl rfl)
theorem dX3_kind_9 : decode cX3_kind 9 = .ok (.iconst 1, 1) := dk_4 (dk_at dksX3_kind_0 9 rfl rfl)
theorem dX3_kind_10 : decode cX3_kind 10 = .ok (.if_icmp .ne 7, 3) := dk_160 0 7 (dk_at dksX3_kind_0 10 rfl rfl)
theorem dX3_kind_13 : decode cX3_kind 13 = .ok (.iload_n 1, 1) := dk_27 (dk_at dksX3_kind_0 13 rfl rfl)
theorem dX3_kind_14 : decode cX3_kind 14 = .ok (.goto 13, 3) := dk_167 0 13 (dk_at dksX3_kind_0 14 rfl rfl)
theorem dX3_kind_17 : decode cX3_kind 17 = .ok (.iload_n 0, 1) := dk_26 (dk_at dksX3_kind_0 17 rfl rfl)
theorem dX3_kind_18 : decode cX3_kind 18 = .ok (.iconst 2, 1) := dk_5 (dk_at dksX3_kind_0 18 rfl rfl)
theorem dX3_kind_19 : decode cX3_kind 19 = .ok (.if_icmp .ne 7, 3) := dk_160 0 7 (dk_at dksX3_kind_0 19 rfl rfl)
theorem dX3_kind_22 : decode cX3_kind 22 = .ok (.iload_n 2, 1) := dk_28 (dk_at dksX3_kind_0 22 rfl rfl)
theorem dX3_kind_23 : decode cX3_kind 23 = .ok (.goto 4, 3) := dk_167 0 4 (dk_at dksX3_kind_1 0 rfl rfl)
theorem dX3_kind_26 : decode cX3_kind 26 = .ok (.iload_n 3, 1) := dk_29 (dk_at dksX3_kind_1 3 rfl rfl)
theorem dX3_kind_27 : decode cX3_kind 27 = .ok (.ireturn, 1) := dk_172 (dk_at dksX3_kind_1 4 rfl rfl)
abbrev cX3_doesNow : ByteArray := prog_21_method_125_code
def yX3_doesNow : MethodName := ⟨RX3, "doesNow", "()I"⟩
def dkwX3_doesNow_5 : List UInt8 := [182, 0, 151, 172]
abbrev dktX3_doesNow_5 : List UInt8 := dkwX3_doesNow_5 ++ []
def dkwX3_doesNow_4 : List UInt8 := [42, 27, 182, 0, 170, 172, 42, 27, 182, 0, 188, 172, 42, 8, 27, 182, 0, 151, 172, 42, 7, 27]
abbrev dktX3_doesNow_4 : List UInt8 := dkwX3_doesNow_4 ++ dktX3_doesNow_5
def dkwX3_doesNow_3 : List UInt8 := [182, 0, 133, 172, 42, 27, 182, 0, 139, 172, 42, 6, 27, 182, 0, 151, 172, 42, 27, 28, 182, 0, 167, 172]
abbrev dktX3_doesNow_3 : List UInt8 := dkwX3_doesNow_3 ++ dktX3_doesNow_4
def dkwX3_doesNow_2 : List UInt8 := [42, 27, 28, 182, 0, 87, 172, 42, 27, 28, 182, 0, 106, 172, 42, 27, 182, 0, 127, 172, 42, 27, 28]
abbrev dktX3_doesNow_2 : List UInt8 := dkwX3_doesNow_2 ++ dktX3_doesNow_3
def dkwX3_doesNow_1 : List UInt8 := [170, 0, 0, 0, 0, 152, 0, 0, 0, 98, 0, 0, 0, 115, 0, 0, 0, 100, 0, 0, 0, 119, 0, 0, 0, 86, 0, 0, 0, 133, 0, 0, 0, 152, 0, 0, 0, 152, 0, 0, 0, 152, 0, 0, 0, 152, 0, 0, 0, 152, 0, 0, 0, 139, 0, 0, 0, 106, 0, 0, 0, 93, 0, 0, 0, 152, 0, 0, 0, 145, 0, 0, 0, 126, 0, 0, 0, 152, 0, 0, 0, 152, 0, 0, 0, 113]
abbrev dktX3_doesNow_1 : List UInt8 := dkwX3_doesNow_1 ++ dktX3_doesNow_2
def dkwX3_doesNow_0 : List UInt8 := [42, 180, 0, 43, 3, 46, 60, 42, 180, 0, 43, 4, 46, 61, 42, 180, 1, 36]
abbrev dktX3_doesNow_0 : List UInt8 := dkwX3_doesNow_0 ++ dktX3_doesNow_1
theorem dksX3_doesNow_0 : cX3_doesNow.data.toList.drop 0 = dktX3_doesNow_0 := by decide +kernel
theorem dksX3_doesNow_1 : cX3_doesNow.data.toList.drop 18 = dktX3_doesNow_1 := dk_seg dksX3_doesNow_0 18 rfl rfl
theorem dksX3_doesNow_2 : cX3_doesNow.data.toList.drop 104 = dktX3_doesNow_2 := dk_seg dksX3_doesNow_1 86 rfl rfl
theorem dksX3_doesNow_3 : cX3_doesNow.data.toList.drop 127 = dktX3_doesNow_3 := dk_seg dksX3_doesNow_2 23 rfl rfl
theorem dksX3_doesNow_4 : cX3_doesNow.data.toList.drop 151 = dktX3_doesNow_4 := dk_seg dksX3_doesNow_3 24 rfl rfl
theorem dksX3_doesNow_5 : cX3_doesNow.data.toList.drop 173 = dktX3_doesNow_5 := dk_seg dksX3_doesNow_4 22 rfl rfl
theorem dX3_doesNow_0 : decode cX3_doesNow 0 = .ok (.aload_n 0, 1) := dk_42 (dk_at dksX3_doesNow_0 0 rfl rfl)
theorem dX3_doesNow_1 : decode cX3_doesNow 1 = .ok (.getfield 43, 3) := dk_180 0 43 (dk_at dksX3_doesNow_0 1 rfl rfl)
theorem dX3_doesNow_4 : decode cX3_doesNow 4 = .ok (.iconst 0, 1) := dk_3 (dk_at dksX3_doesNow_0 4 rfl rfl)
theorem dX3_doesNow_5 : decode cX3_doesNow 5 = .ok (.iaload, 1) := dk_46 (dk_at dksX3_doesNow_0 5 rfl rfl)
theorem dX3_doesNow_6 : decode cX3_doesNow 6 = .ok (.istore_n 1, 1) := dk_60 (dk_at dksX3_doesNow_0 6 rfl rfl)
theorem dX3_doesNow_7 : decode cX3_doesNow 7 = .ok (.aload_n 0, 1) := dk_42 (dk_at dksX3_doesNow_0 7 rfl rfl)
theorem dX3_doesNow_8 : decode cX3_doesNow 8 = .ok (.getfield 43, 3) := dk_180 0 43 (dk_at dksX3_doesNow_0 8 rfl rfl)
theorem dX3_doesNow_11 : decode cX3_doesNow 11 = .ok (.iconst 1, 1) := dk_4 (dk_at dksX3_doesNow_0 11 rfl rfl)
theorem dX3_doesNow_12 : decode cX3_doesNow 12 = .ok (.iaload, 1) := dk_46 (dk_at dksX3_doesNow_0 12 rfl rfl)
theorem dX3_doesNow_13 : decode cX3_doesNow 13 = .ok (.istore_n 2, 1) := dk_61 (dk_at dksX3_doesNow_0 13 rfl rfl)
theorem dX3_doesNow_14 : decode cX3_doesNow 14 = .ok (.aload_n 0, 1) := dk_42 (dk_at dksX3_doesNow_0 14 rfl rfl)
theorem dX3_doesNow_15 : decode cX3_doesNow 15 = .ok (.getfield 292, 3) := dk_180 1 36 (dk_at dksX3_doesNow_0 15 rfl rfl)
theorem dX3_doesNow_18 : decode cX3_doesNow 18 = .ok (.tableswitch 152 98 115 #[100, 119, 86, 133, 152, 152, 152, 152, 152, 139, 106, 93, 152, 145, 126, 152, 152, 113], 86) := by decide +kernel
theorem dX3_doesNow_104 : decode cX3_doesNow 104 = .ok (.aload_n 0, 1) := dk_42 (dk_at dksX3_doesNow_2 0 rfl rfl)
theorem dX3_doesNow_105 : decode cX3_doesNow 105 = .ok (.iload_n 1, 1) := dk_27 (dk_at dksX3_doesNow_2 1 rfl rfl)
theorem dX3_doesNow_106 : decode cX3_doesNow 106 = .ok (.iload_n 2, 1) := dk_28 (dk_at dksX3_doesNow_2 2 rfl rfl)
theorem dX3_doesNow_107 : decode cX3_doesNow 107 = .ok (.invokevirtual 87, 3) := dk_182 0 87 (dk_at dksX3_doesNow_2 3 rfl rfl)
theorem dX3_doesNow_110 : decode cX3_doesNow 110 = .ok (.ireturn, 1) := dk_172 (dk_at dksX3_doesNow_2 6 rfl rfl)
theorem dX3_doesNow_111 : decode cX3_doesNow 111 = .ok (.aload_n 0, 1) := dk_42 (dk_at dksX3_doesNow_2 7 rfl rfl)
theorem dX3_doesNow_112 : decode cX3_doesNow 112 = .ok (.iload_n 1, 1) := dk_27 (dk_at dksX3_doesNow_2 8 rfl rfl)
theorem dX3_doesNow_113 : decode cX3_doesNow 113 = .ok (.iload_n 2, 1) := dk_28 (dk_at dksX3_doesNow_2 9 rfl rfl)
theorem dX3_doesNow_114 : decode cX3_doesNow 114 = .ok (.invokevirtual 106, 3) := dk_182 0 106 (dk_at dksX3_doesNow_2 10 rfl rfl)
theorem dX3_doesNow_117 : decode cX3_doesNow 117 = .ok (.ireturn, 1) := dk_172 (dk_at dksX3_doesNow_2 13 rfl rfl)
theorem dX3_doesNow_118 : decode cX3_doesNow 118 = .ok (.aload_n 0, 1) := dk_42 (dk_at dksX3_doesNow_2 14 rfl rfl)
theorem dX3_doesNow_119 : decode cX3_doesNow 119 = .ok (.iload_n 1, 1) := dk_27 (dk_at dksX3_doesNow_2 15 rfl rfl)
theorem dX3_doesNow_120 : decode cX3_doesNow 120 = .ok (.invokevirtual 127, 3) := dk_182 0 127 (dk_at dksX3_doesNow_2 16 rfl rfl)
theorem dX3_doesNow_123 : decode cX3_doesNow 123 = .ok (.ireturn, 1) := dk_172 (dk_at dksX3_doesNow_2 19 rfl rfl)
theorem dX3_doesNow_124 : decode cX3_doesNow 124 = .ok (.aload_n 0, 1) := dk_42 (dk_at dksX3_doesNow_2 20 rfl rfl)
theorem dX3_doesNow_125 : decode cX3_doesNow 125 = .ok (.iload_n 1, 1) := dk_27 (dk_at dksX3_doesNow_2 21 rfl rfl)
theorem dX3_doesNow_126 : decode cX3_doesNow 126 = .ok (.iload_n 2, 1) := dk_28 (dk_at dksX3_doesNow_2 22 rfl rfl)
theorem dX3_doesNow_127 : decode cX3_doesNow 127 = .ok (.invokevirtual 133, 3) := dk_182 0 133 (dk_at dksX3_doesNow_3 0 rfl rfl)
theorem dX3_doesNow_130 : decode cX3_doesNow 130 = .ok (.ireturn, 1) := dk_172 (dk_at dksX3_doesNow_3 3 rfl rfl)
theorem dX3_doesNow_131 : decode cX3_doesNow 131 = .ok (.aload_n 0, 1) := dk_42 (dk_at dksX3_doesNow_3 4 rfl rfl)
theorem dX3_doesNow_132 : decode cX3_doesNow 132 = .ok (.iload_n 1, 1) := dk_27 (dk_at dksX3_doesNow_3 5 rfl rfl)
theorem dX3_doesNow_133 : decode cX3_doesNow 133 = .ok (.invokevirtual 139, 3) := dk_182 0 139 (dk_at dksX3_doesNow_3 6 rfl rfl)
theorem dX3_doesNow_136 : decode cX3_doesNow 136 = .ok (.ireturn, 1) := dk_172 (dk_at dksX3_doesNow_3 9 rfl rfl)
theorem dX3_doesNow_137 : decode cX3_doesNow 137 = .ok (.aload_n 0, 1) := dk_42 (dk_at dksX3_doesNow_3 10 rfl rfl)
theorem dX3_doesNow_138 : decode cX3_doesNow 138 = .ok (.iconst 3, 1) := dk_6 (dk_at dksX3_doesNow_3 11 rfl rfl)
theorem dX3_doesNow_139 : decode cX3_doesNow 139 = .ok (.iload_n 1, 1) := dk_27 (dk_at dksX3_doesNow_3 12 rfl rfl)
theorem dX3_doesNow_140 : decode cX3_doesNow 140 = .ok (.invokevirtual 151, 3) := dk_182 0 151 (dk_at dksX3_doesNow_3 13 rfl rfl)
theorem dX3_doesNow_143 : decode cX3_doesNow 143 = .ok (.ireturn, 1) := dk_172 (dk_at dksX3_doesNow_3 16 rfl rfl)
theorem dX3_doesNow_144 : decode cX3_doesNow 144 = .ok (.aload_n 0, 1) := dk_42 (dk_at dksX3_doesNow_3 17 rfl rfl)
theorem dX3_doesNow_145 : decode cX3_doesNow 145 = .ok (.iload_n 1, 1) := dk_27 (dk_at dksX3_doesNow_3 18 rfl rfl)
theorem dX3_doesNow_146 : decode cX3_doesNow 146 = .ok (.iload_n 2, 1) := dk_28 (dk_at dksX3_doesNow_3 19 rfl rfl)
theorem dX3_doesNow_147 : decode cX3_doesNow 147 = .ok (.invokevirtual 167, 3) := dk_182 0 167 (dk_at dksX3_doesNow_3 20 rfl rfl)
theorem dX3_doesNow_150 : decode cX3_doesNow 150 = .ok (.ireturn, 1) := dk_172 (dk_at dksX3_doesNow_3 23 rfl rfl)
theorem dX3_doesNow_151 : decode cX3_doesNow 151 = .ok (.aload_n 0, 1) := dk_42 (dk_at dksX3_doesNow_4 0 rfl rfl)
theorem dX3_doesNow_152 : decode cX3_doesNow 152 = .ok (.iload_n 1, 1) := dk_27 (dk_at dksX3_doesNow_4 1 rfl rfl)
theorem dX3_doesNow_153 : decode cX3_doesNow 153 = .ok (.invokevirtual 170, 3) := dk_182 0 170 (dk_at dksX3_doesNow_4 2 rfl rfl)
theorem dX3_doesNow_156 : decode cX3_doesNow 156 = .ok (.ireturn, 1) := dk_172 (dk_at dksX3_doesNow_4 5 rfl rfl)
theorem dX3_doesNow_157 : decode cX3_doesNow 157 = .ok (.aload_n 0, 1) := dk_42 (dk_at dksX3_doesNow_4 6 rfl rfl)
theorem dX3_doesNow_158 : decode cX3_doesNow 158 = .ok (.iload_n 1, 1) := dk_27 (dk_at dksX3_doesNow_4 7 rfl rfl)
theorem dX3_doesNow_159 : decode cX3_doesNow 159 = .ok (.invokevirtual 188, 3) := dk_182 0 188 (dk_at dksX3_doesNow_4 8 rfl rfl)
theorem dX3_doesNow_162 : decode cX3_doesNow 162 = .ok (.ireturn, 1) := dk_172 (dk_at dksX3_doesNow_4 11 rfl rfl)
theorem dX3_doesNow_163 : decode cX3_doesNow 163 = .ok (.aload_n 0, 1) := dk_42 (dk_at dksX3_doesNow_4 12 rfl rfl)
theorem dX3_doesNow_164 : decode cX3_doesNow 164 = .ok (.iconst 5, 1) := dk_8 (dk_at dksX3_doesNow_4 13 rfl rfl)
theorem dX3_doesNow_165 : decode cX3_doesNow 165 = .ok (.iload_n 1, 1) := dk_27 (dk_at dksX3_doesNow_4 14 rfl rfl)
theorem dX3_doesNow_166 : decode cX3_doesNow 166 = .ok (.invokevirtual 151, 3) := dk_182 0 151 (dk_at dksX3_doesNow_4 15 rfl rfl)
theorem dX3_doesNow_169 : decode cX3_doesNow 169 = .ok (.ireturn, 1) := dk_172 (dk_at dksX3_doesNow_4 18 rfl rfl)
theorem dX3_doesNow_170 : decode cX3_doesNow 170 = .ok (.aload_n 0, 1) := dk_42 (dk_at dksX3_doesNow_4 19 rfl rfl)
theorem dX3_doesNow_171 : decode cX3_doesNow 171 = .ok (.iconst 4, 1) := dk_7 (dk_at dksX3_doesNow_4 20 rfl rfl)
theorem dX3_doesNow_172 : decode cX3_doesNow 172 = .ok (.iload_n 1, 1) := dk_27 (dk_at dksX3_doesNow_4 21 rfl rfl)
theorem dX3_doesNow_173 : decode cX3_doesNow 173 = .ok (.invokevirtual 151, 3) := dk_182 0 151 (dk_at dksX3_doesNow_5 0 rfl rfl)
theorem dX3_doesNow_176 : decode cX3_doesNow 176 = .ok (.ireturn, 1) := dk_172 (dk_at dksX3_doesNow_5 3 rfl rfl)
abbrev cX3_goesBack : ByteArray := prog_21_method_7_code
def yX3_goesBack : MethodName := ⟨RX3, "goesBack", "()V"⟩
def dkwX3_goesBack_1 : List UInt8 := [167, 255, 235, 177]
abbrev dktX3_goesBack_1 : List UInt8 := dkwX3_goesBack_1 ++ []
def dkwX3_goesBack_0 : List UInt8 := [3, 60, 27, 16, 56, 162, 0, 21, 42, 180, 0, 13, 27, 42, 180, 0, 23, 27, 47, 80, 132, 1, 1]
abbrev dktX3_goesBack_0 : List UInt8 := dkwX3_goesBack_0 ++ dktX3_goesBack_1
theorem dksX3_goesBack_0 : cX3_goesBack.data.toList.drop 0 = dktX3_goesBack_0 := by decide +kernel
theorem dksX3_goesBack_1 : cX3_goesBack.data.toList.drop 23 = dktX3_goesBack_1 := dk_seg dksX3_goesBack_0 23 rfl rfl
theorem dX3_goesBack_0 : decode cX3_goesBack 0 = .ok (.iconst 0, 1) := dk_3 (dk_at dksX3_goesBack_0 0 rfl rfl)
theorem dX3_goesBack_1 : decode cX3_goesBack 1 = .ok (.istore_n 1, 1) := dk_60 (dk_at dksX3_goesBack_0 1 rfl rfl)
theorem dX3_goesBack_2 : decode cX3_goesBack 2 = .ok (.iload_n 1, 1) := dk_27 (dk_at dksX3_goesBack_0 2 rfl rfl)
theorem dX3_goesBack_3 : decode cX3_goesBack 3 = .ok (.bipush 56, 2) := dk_16 56 (dk_at dksX3_goesBack_0 3 rfl rfl)
theorem dX3_goesBack_5 : decode cX3_goesBack 5 = .ok (.if_icmp .ge 21, 3) := dk_162 0 21 (dk_at dksX3_goesBack_0 5 rfl rfl)
theorem dX3_goesBack_8 : decode cX3_goesBack 8 = .ok (.aload_n 0, 1) := dk_42 (dk_at dksX3_goesBack_0 8 rfl rfl)
theorem dX3_goesBack_9 : decode cX3_goesBack 9 = .ok (.getfield 13, 3) := dk_180 0 13 (dk_at dksX3_goesBack_0 9 rfl rfl)
theorem dX3_goesBack_12 : decode cX3_goesBack 12 = .ok (.iload_n 1, 1) := dk_27 (dk_at dksX3_goesBack_0 12 rfl rfl)
theorem dX3_goesBack_13 : decode cX3_goesBack 13 = .ok (.aload_n 0, 1) := dk_42 (dk_at dksX3_goesBack_0 13 rfl rfl)
theorem dX3_goesBack_14 : decode cX3_goesBack 14 = .ok (.getfield 23, 3) := dk_180 0 23 (dk_at dksX3_goesBack_0 14 rfl rfl)
theorem dX3_goesBack_17 : decode cX3_goesBack 17 = .ok (.iload_n 1, 1) := dk_27 (dk_at dksX3_goesBack_0 17 rfl rfl)
theorem dX3_goesBack_18 : decode cX3_goesBack 18 = .ok (.laload, 1) := dk_47 (dk_at dksX3_goesBack_0 18 rfl rfl)
theorem dX3_goesBack_19 : decode cX3_goesBack 19 = .ok (.lastore, 1) := dk_80 (dk_at dksX3_goesBack_0 19 rfl rfl)
theorem dX3_goesBack_20 : decode cX3_goesBack 20 = .ok (.iinc 1 1, 3) := dk_132 1 1 (dk_at dksX3_goesBack_0 20 rfl rfl)
theorem dX3_goesBack_23 : decode cX3_goesBack 23 = .ok (.goto (-21), 3) := dk_167 255 235 (dk_at dksX3_goesBack_1 0 rfl rfl)
theorem dX3_goesBack_26 : decode cX3_goesBack 26 = .ok (.return_, 1) := dk_177 (dk_at dksX3_goesBack_1 3 rfl rfl)
abbrev cX3_errorPosition : ByteArray := prog_21_method_128_code
def yX3_errorPosition : MethodName := ⟨RX3, "errorPosition", "()I"⟩
def dkwX3_errorPosition_1 : List UInt8 := [172]
abbrev dktX3_errorPosition_1 : List UInt8 := dkwX3_errorPosition_1 ++ []
def dkwX3_errorPosition_0 : List UInt8 := [42, 3, 181, 0, 1, 42, 180, 0, 37, 156, 0, 11, 42, 4, 182, 0, 81, 167, 0, 7, 42, 180, 0, 37]
abbrev dktX3_errorPosition_0 : List UInt8 := dkwX3_errorPosition_0 ++ dktX3_errorPosition_1
theorem dksX3_errorPosition_0 : cX3_errorPosition.data.toList.drop 0 = dktX3_errorPosition_0 := by decide +kernel
theorem dksX3_errorPosition_1 : cX3_errorPosition.data.toList.drop 24 = dktX3_errorPosition_1 := dk_seg dksX3_errorPosition_0 24 rfl rfl
theorem dX3_errorPosition_0 : decode cX3_errorPosition 0 = .ok (.aload_n 0, 1) := dk_42 (dk_at dksX3_errorPosition_0 0 rfl rfl)
theorem dX3_errorPosition_1 : decode cX3_errorPosition 1 = .ok (.iconst 0, 1) := dk_3 (dk_at dksX3_errorPosition_0 1 rfl rfl)
theorem dX3_errorPosition_2 : decode cX3_errorPosition 2 = .ok (.putfield 1, 3) := dk_181 0 1 (dk_at dksX3_errorPosition_0 2 rfl rfl)
theorem dX3_errorPosition_5 : decode cX3_errorPosition 5 = .ok (.aload_n 0, 1) := dk_42 (dk_at dksX3_errorPosition_0 5 rfl rfl)
theorem dX3_errorPosition_6 : decode cX3_errorPosition 6 = .ok (.getfield 37, 3) := dk_180 0 37 (dk_at dksX3_errorPosition_0 6 rfl rfl)
theorem dX3_errorPosition_9 : decode cX3_errorPosition 9 = .ok (.ifCond .ge 11, 3) := dk_156 0 11 (dk_at dksX3_errorPosition_0 9 rfl rfl)
theorem dX3_errorPosition_12 : decode cX3_errorPosition 12 = .ok (.aload_n 0, 1) := dk_42 (dk_at dksX3_errorPosition_0 12 rfl rfl)
theorem dX3_errorPosition_13 : decode cX3_errorPosition 13 = .ok (.iconst 1, 1) := dk_4 (dk_at dksX3_errorPosition_0 13 rfl rfl)
theorem dX3_errorPosition_14 : decode cX3_errorPosition 14 = .ok (.invokevirtual 81, 3) := dk_182 0 81 (dk_at dksX3_errorPosition_0 14 rfl rfl)
theorem dX3_errorPosition_17 : decode cX3_errorPosition 17 = .ok (.goto 7, 3) := dk_167 0 7 (dk_at dksX3_errorPosition_0 17 rfl rfl)
theorem dX3_errorPosition_20 : decode cX3_errorPosition 20 = .ok (.aload_n 0, 1) := dk_42 (dk_at dksX3_errorPosition_0 20 rfl rfl)
theorem dX3_errorPosition_21 : decode cX3_errorPosition 21 = .ok (.getfield 37, 3) := dk_180 0 37 (dk_at dksX3_errorPosition_0 21 rfl rfl)
theorem dX3_errorPosition_24 : decode cX3_errorPosition 24 = .ok (.ireturn, 1) := dk_172 (dk_at dksX3_errorPosition_1 0 rfl rfl)
abbrev cX3_failedCommand : ByteArray := prog_21_method_129_code
def yX3_failedCommand : MethodName := ⟨RX3, "failedCommand", "()I"⟩
def dkwX3_failedCommand_1 : List UInt8 := [172]
abbrev dktX3_failedCommand_1 : List UInt8 := dkwX3_failedCommand_1 ++ []
def dkwX3_failedCommand_0 : List UInt8 := [42, 3, 181, 0, 1, 42, 180, 0, 40, 156, 0, 11, 42, 4, 182, 0, 81, 167, 0, 7, 42, 180, 0, 40]
abbrev dktX3_failedCommand_0 : List UInt8 := dkwX3_failedCommand_0 ++ dktX3_failedCommand_1
theorem dksX3_failedCommand_0 : cX3_failedCommand.data.toList.drop 0 = dktX3_failedCommand_0 := by decide +kernel
theorem dksX3_failedCommand_1 : cX3_failedCommand.data.toList.drop 24 = dktX3_failedCommand_1 := dk_seg dksX3_failedCommand_0 24 rfl rfl
theorem dX3_failedCommand_0 : decode cX3_failedCommand 0 = .ok (.aload_n 0, 1) := dk_42 (dk_at dksX3_failedCommand_0 0 rfl rfl)
theorem dX3_failedCommand_1 : decode cX3_failedCommand 1 = .ok (.iconst 0, 1) := dk_3 (dk_at dksX3_failedCommand_0 1 rfl rfl)
theorem dX3_failedCommand_2 : decode cX3_failedCommand 2 = .ok (.putfield 1, 3) := dk_181 0 1 (dk_at dksX3_failedCommand_0 2 rfl rfl)
theorem dX3_failedCommand_5 : decode cX3_failedCommand 5 = .ok (.aload_n 0, 1) := dk_42 (dk_at dksX3_failedCommand_0 5 rfl rfl)
theorem dX3_failedCommand_6 : decode cX3_failedCommand 6 = .ok (.getfield 40, 3) := dk_180 0 40 (dk_at dksX3_failedCommand_0 6 rfl rfl)
theorem dX3_failedCommand_9 : decode cX3_failedCommand 9 = .ok (.ifCond .ge 11, 3) := dk_156 0 11 (dk_at dksX3_failedCommand_0 9 rfl rfl)
theorem dX3_failedCommand_12 : decode cX3_failedCommand 12 = .ok (.aload_n 0, 1) := dk_42 (dk_at dksX3_failedCommand_0 12 rfl rfl)
theorem dX3_failedCommand_13 : decode cX3_failedCommand 13 = .ok (.iconst 1, 1) := dk_4 (dk_at dksX3_failedCommand_0 13 rfl rfl)
theorem dX3_failedCommand_14 : decode cX3_failedCommand 14 = .ok (.invokevirtual 81, 3) := dk_182 0 81 (dk_at dksX3_failedCommand_0 14 rfl rfl)
theorem dX3_failedCommand_17 : decode cX3_failedCommand 17 = .ok (.goto 7, 3) := dk_167 0 7 (dk_at dksX3_failedCommand_0 17 rfl rfl)
theorem dX3_failedCommand_20 : decode cX3_failedCommand 20 = .ok (.aload_n 0, 1) := dk_42 (dk_at dksX3_failedCommand_0 20 rfl rfl)
theorem dX3_failedCommand_21 : decode cX3_failedCommand 21 = .ok (.getfield 40, 3) := dk_180 0 40 (dk_at dksX3_failedCommand_0 21 rfl rfl)
theorem dX3_failedCommand_24 : decode cX3_failedCommand 24 = .ok (.ireturn, 1) := dk_172 (dk_at dksX3_failedCommand_1 0 rfl rfl)
abbrev cX3_failureKind : ByteArray := prog_21_method_130_code
def yX3_failureKind : MethodName := ⟨RX3, "failureKind", "()C"⟩
def dkwX3_failureKind_1 : List UInt8 := [146, 172]
abbrev dktX3_failureKind_1 : List UInt8 := dkwX3_failureKind_1 ++ []
def dkwX3_failureKind_0 : List UInt8 := [42, 3, 181, 0, 1, 42, 180, 0, 40, 156, 0, 11, 42, 4, 182, 0, 81, 167, 0, 7, 42, 180, 1, 65]
abbrev dktX3_failureKind_0 : List UInt8 := dkwX3_failureKind_0 ++ dktX3_failureKind_1
theorem dksX3_failureKind_0 : cX3_failureKind.data.toList.drop 0 = dktX3_failureKind_0 := by decide +kernel
theorem dksX3_failureKind_1 : cX3_failureKind.data.toList.drop 24 = dktX3_failureKind_1 := dk_seg dksX3_failureKind_0 24 rfl rfl
theorem dX3_failureKind_0 : decode cX3_failureKind 0 = .ok (.aload_n 0, 1) := dk_42 (dk_at dksX3_failureKind_0 0 rfl rfl)
theorem dX3_failureKind_1 : decode cX3_failureKind 1 = .ok (.iconst 0, 1) := dk_3 (dk_at dksX3_failureKind_0 1 rfl rfl)
theorem dX3_failureKind_2 : decode cX3_failureKind 2 = .ok (.putfield 1, 3) := dk_181 0 1 (dk_at dksX3_failureKind_0 2 rfl rfl)
theorem dX3_failureKind_5 : decode cX3_failureKind 5 = .ok (.aload_n 0, 1) := dk_42 (dk_at dksX3_failureKind_0 5 rfl rfl)
theorem dX3_failureKind_6 : decode cX3_failureKind 6 = .ok (.getfield 40, 3) := dk_180 0 40 (dk_at dksX3_failureKind_0 6 rfl rfl)
theorem dX3_failureKind_9 : decode cX3_failureKind 9 = .ok (.ifCond .ge 11, 3) := dk_156 0 11 (dk_at dksX3_failureKind_0 9 rfl rfl)
theorem dX3_failureKind_12 : decode cX3_failureKind 12 = .ok (.aload_n 0, 1) := dk_42 (dk_at dksX3_failureKind_0 12 rfl rfl)
theorem dX3_failureKind_13 : decode cX3_failureKind 13 = .ok (.iconst 1, 1) := dk_4 (dk_at dksX3_failureKind_0 13 rfl rfl)
theorem dX3_failureKind_14 : decode cX3_failureKind 14 = .ok (.invokevirtual 81, 3) := dk_182 0 81 (dk_at dksX3_failureKind_0 14 rfl rfl)
theorem dX3_failureKind_17 : decode cX3_failureKind 17 = .ok (.goto 7, 3) := dk_167 0 7 (dk_at dksX3_failureKind_0 17 rfl rfl)
theorem dX3_failureKind_20 : decode cX3_failureKind 20 = .ok (.aload_n 0, 1) := dk_42 (dk_at dksX3_failureKind_0 20 rfl rfl)
theorem dX3_failureKind_21 : decode cX3_failureKind 21 = .ok (.getfield 321, 3) := dk_180 1 65 (dk_at dksX3_failureKind_0 21 rfl rfl)
theorem dX3_failureKind_24 : decode cX3_failureKind 24 = .ok (.i2c, 1) := dk_146 (dk_at dksX3_failureKind_1 0 rfl rfl)
theorem dX3_failureKind_25 : decode cX3_failureKind 25 = .ok (.ireturn, 1) := dk_172 (dk_at dksX3_failureKind_1 1 rfl rfl)
abbrev cX3_undo : ByteArray := prog_21_method_131_code
def yX3_undo : MethodName := ⟨RX3, "undo", "()I"⟩
def dkwX3_undo_3 : List UInt8 := [167, 255, 230, 42, 180, 0, 50, 172]
abbrev dktX3_undo_3 : List UInt8 := dkwX3_undo_3 ++ []
def dkwX3_undo_2 : List UInt8 := [162, 0, 26, 42, 180, 0, 13, 28, 42, 180, 0, 17, 16, 56, 27, 104, 28, 96, 47, 80, 132, 2, 1]
abbrev dktX3_undo_2 : List UInt8 := dkwX3_undo_2 ++ dktX3_undo_3
def dkwX3_undo_1 : List UInt8 := [100, 181, 0, 50, 42, 180, 0, 53, 42, 180, 0, 50, 96, 16, 8, 112, 60, 3, 61, 28, 16, 56]
abbrev dktX3_undo_1 : List UInt8 := dkwX3_undo_1 ++ dktX3_undo_2
def dkwX3_undo_0 : List UInt8 := [42, 3, 181, 0, 1, 42, 180, 0, 50, 154, 0, 9, 42, 4, 182, 0, 81, 172, 42, 89, 180, 0, 50, 4]
abbrev dktX3_undo_0 : List UInt8 := dkwX3_undo_0 ++ dktX3_undo_1
theorem dksX3_undo_0 : cX3_undo.data.toList.drop 0 = dktX3_undo_0 := by decide +kernel
theorem dksX3_undo_1 : cX3_undo.data.toList.drop 24 = dktX3_undo_1 := dk_seg dksX3_undo_0 24 rfl rfl
theorem dksX3_undo_2 : cX3_undo.data.toList.drop 46 = dktX3_undo_2 := dk_seg dksX3_undo_1 22 rfl rfl
theorem dksX3_undo_3 : cX3_undo.data.toList.drop 69 = dktX3_undo_3 := dk_seg dksX3_undo_2 23 rfl rfl
theorem dX3_undo_0 : decode cX3_undo 0 = .ok (.aload_n 0, 1) := dk_42 (dk_at dksX3_undo_0 0 rfl rfl)
theorem dX3_undo_1 : decode cX3_undo 1 = .ok (.iconst 0, 1) := dk_3 (dk_at dksX3_undo_0 1 rfl rfl)
theorem dX3_undo_2 : decode cX3_undo 2 = .ok (.putfield 1, 3) := dk_181 0 1 (dk_at dksX3_undo_0 2 rfl rfl)
theorem dX3_undo_5 : decode cX3_undo 5 = .ok (.aload_n 0, 1) := dk_42 (dk_at dksX3_undo_0 5 rfl rfl)
theorem dX3_undo_6 : decode cX3_undo 6 = .ok (.getfield 50, 3) := dk_180 0 50 (dk_at dksX3_undo_0 6 rfl rfl)
theorem dX3_undo_9 : decode cX3_undo 9 = .ok (.ifCond .ne 9, 3) := dk_154 0 9 (dk_at dksX3_undo_0 9 rfl rfl)
theorem dX3_undo_12 : decode cX3_undo 12 = .ok (.aload_n 0, 1) := dk_42 (dk_at dksX3_undo_0 12 rfl rfl)
theorem dX3_undo_13 : decode cX3_undo 13 = .ok (.iconst 1, 1) := dk_4 (dk_at dksX3_undo_0 13 rfl rfl)
theorem dX3_undo_14 : decode cX3_undo 14 = .ok (.invokevirtual 81, 3) := dk_182 0 81 (dk_at dksX3_undo_0 14 rfl rfl)
theorem dX3_undo_17 : decode cX3_undo 17 = .ok (.ireturn, 1) := dk_172 (dk_at dksX3_undo_0 17 rfl rfl)
theorem dX3_undo_18 : decode cX3_undo 18 = .ok (.aload_n 0, 1) := dk_42 (dk_at dksX3_undo_0 18 rfl rfl)
theorem dX3_undo_19 : decode cX3_undo 19 = .ok (.dup, 1) := dk_89 (dk_at dksX3_undo_0 19 rfl rfl)
theorem dX3_undo_20 : decode cX3_undo 20 = .ok (.getfield 50, 3) := dk_180 0 50 (dk_at dksX3_undo_0 20 rfl rfl)
theorem dX3_undo_23 : decode cX3_undo 23 = .ok (.iconst 1, 1) := dk_4 (dk_at dksX3_undo_0 23 rfl rfl)
theorem dX3_undo_24 : decode cX3_undo 24 = .ok (.isub, 1) := dk_100 (dk_at dksX3_undo_1 0 rfl rfl)
theorem dX3_undo_25 : decode cX3_undo 25 = .ok (.putfield 50, 3) := dk_181 0 50 (dk_at dksX3_undo_1 1 rfl rfl)
theorem dX3_undo_28 : decode cX3_undo 28 = .ok (.aload_n 0, 1) := dk_42 (dk_at dksX3_undo_1 4 rfl rfl)
theorem dX3_undo_29 : decode cX3_undo 29 = .ok (.getfield 53, 3) := dk_180 0 53 (dk_at dksX3_undo_1 5 rfl rfl)
theorem dX3_undo_32 : decode cX3_undo 32 = .ok (.aload_n 0, 1) := dk_42 (dk_at dksX3_undo_1 8 rfl rfl)
theorem dX3_undo_33 : decode cX3_undo 33 = .ok (.getfield 50, 3) := dk_180 0 50 (dk_at dksX3_undo_1 9 rfl rfl)
theorem dX3_undo_36 : decode cX3_undo 36 = .ok (.iadd, 1) := dk_96 (dk_at dksX3_undo_1 12 rfl rfl)
theorem dX3_undo_37 : decode cX3_undo 37 = .ok (.bipush 8, 2) := dk_16 8 (dk_at dksX3_undo_1 13 rfl rfl)
theorem dX3_undo_39 : decode cX3_undo 39 = .ok (.irem, 1) := dk_112 (dk_at dksX3_undo_1 15 rfl rfl)
theorem dX3_undo_40 : decode cX3_undo 40 = .ok (.istore_n 1, 1) := dk_60 (dk_at dksX3_undo_1 16 rfl rfl)
theorem dX3_undo_41 : decode cX3_undo 41 = .ok (.iconst 0, 1) := dk_3 (dk_at dksX3_undo_1 17 rfl rfl)
theorem dX3_undo_42 : decode cX3_undo 42 = .ok (.istore_n 2, 1) := dk_61 (dk_at dksX3_undo_1 18 rfl rfl)
theorem dX3_undo_43 : decode cX3_undo 43 = .ok (.iload_n 2, 1) := dk_28 (dk_at dksX3_undo_1 19 rfl rfl)
theorem dX3_undo_44 : decode cX3_undo 44 = .ok (.bipush 56, 2) := dk_16 56 (dk_at dksX3_undo_1 20 rfl rfl)
theorem dX3_undo_46 : decode cX3_undo 46 = .ok (.if_icmp .ge 26, 3) := dk_162 0 26 (dk_at dksX3_undo_2 0 rfl rfl)
theorem dX3_undo_49 : decode cX3_undo 49 = .ok (.aload_n 0, 1) := dk_42 (dk_at dksX3_undo_2 3 rfl rfl)
theorem dX3_undo_50 : decode cX3_undo 50 = .ok (.getfield 13, 3) := dk_180 0 13 (dk_at dksX3_undo_2 4 rfl rfl)
theorem dX3_undo_53 : decode cX3_undo 53 = .ok (.iload_n 2, 1) := dk_28 (dk_at dksX3_undo_2 7 rfl rfl)
theorem dX3_undo_54 : decode cX3_undo 54 = .ok (.aload_n 0, 1) := dk_42 (dk_at dksX3_undo_2 8 rfl rfl)
theorem dX3_undo_55 : decode cX3_undo 55 = .ok (.getfield 17, 3) := dk_180 0 17 (dk_at dksX3_undo_2 9 rfl rfl)
theorem dX3_undo_58 : decode cX3_undo 58 = .ok (.bipush 56, 2) := dk_16 56 (dk_at dksX3_undo_2 12 rfl rfl)
theorem dX3_undo_60 : decode cX3_undo 60 = .ok (.iload_n 1, 1) := dk_27 (dk_at dksX3_undo_2 14 rfl rfl)
theorem dX3_undo_61 : decode cX3_undo 61 = .ok (.imul, 1) := dk_104 (dk_at dksX3_undo_2 15 rfl rfl)
theorem dX3_undo_62 : decode cX3_undo 62 = .ok (.iload_n 2, 1) := dk_28 (dk_at dksX3_undo_2 16 rfl rfl)
theorem dX3_undo_63 : decode cX3_undo 63 = .ok (.iadd, 1) := dk_96 (dk_at dksX3_undo_2 17 rfl rfl)
theorem dX3_undo_64 : decode cX3_undo 64 = .ok (.laload, 1) := dk_47 (dk_at dksX3_undo_2 18 rfl rfl)
theorem dX3_undo_65 : decode cX3_undo 65 = .ok (.lastore, 1) := dk_80 (dk_at dksX3_undo_2 19 rfl rfl)
theorem dX3_undo_66 : decode cX3_undo 66 = .ok (.iinc 2 1, 3) := dk_132 2 1 (dk_at dksX3_undo_2 20 rfl rfl)
theorem dX3_undo_69 : decode cX3_undo 69 = .ok (.goto (-26), 3) := dk_167 255 230 (dk_at dksX3_undo_3 0 rfl rfl)
theorem dX3_undo_72 : decode cX3_undo 72 = .ok (.aload_n 0, 1) := dk_42 (dk_at dksX3_undo_3 3 rfl rfl)
theorem dX3_undo_73 : decode cX3_undo 73 = .ok (.getfield 50, 3) := dk_180 0 50 (dk_at dksX3_undo_3 4 rfl rfl)
theorem dX3_undo_76 : decode cX3_undo 76 = .ok (.ireturn, 1) := dk_172 (dk_at dksX3_undo_3 7 rfl rfl)
abbrev cX3_save : ByteArray := prog_21_method_132_code
def yX3_save : MethodName := ⟨RX3, "save", "()I"⟩
def dkwX3_save_1 : List UInt8 := [167, 255, 235, 42, 4, 181, 1, 80, 42, 182, 1, 1, 172]
abbrev dktX3_save_1 : List UInt8 := dkwX3_save_1 ++ []
def dkwX3_save_0 : List UInt8 := [3, 60, 27, 16, 56, 162, 0, 21, 42, 180, 0, 20, 27, 42, 180, 0, 13, 27, 47, 80, 132, 1, 1]
abbrev dktX3_save_0 : List UInt8 := dkwX3_save_0 ++ dktX3_save_1
theorem dksX3_save_0 : cX3_save.data.toList.drop 0 = dktX3_save_0 := by decide +kernel
theorem dksX3_save_1 : cX3_save.data.toList.drop 23 = dktX3_save_1 := dk_seg dksX3_save_0 23 rfl rfl
theorem dX3_save_0 : decode cX3_save 0 = .ok (.iconst 0, 1) := dk_3 (dk_at dksX3_save_0 0 rfl rfl)
theorem dX3_save_1 : decode cX3_save 1 = .ok (.istore_n 1, 1) := dk_60 (dk_at dksX3_save_0 1 rfl rfl)
theorem dX3_save_2 : decode cX3_save 2 = .ok (.iload_n 1, 1) := dk_27 (dk_at dksX3_save_0 2 rfl rfl)
theorem dX3_save_3 : decode cX3_save 3 = .ok (.bipush 56, 2) := dk_16 56 (dk_at dksX3_save_0 3 rfl rfl)
theorem dX3_save_5 : decode cX3_save 5 = .ok (.if_icmp .ge 21, 3) := dk_162 0 21 (dk_at dksX3_save_0 5 rfl rfl)
theorem dX3_save_8 : decode cX3_save 8 = .ok (.aload_n 0, 1) := dk_42 (dk_at dksX3_save_0 8 rfl rfl)
theorem dX3_save_9 : decode cX3_save 9 = .ok (.getfield 20, 3) := dk_180 0 20 (dk_at dksX3_save_0 9 rfl rfl)
theorem dX3_save_12 : decode cX3_save 12 = .ok (.iload_n 1, 1) := dk_27 (dk_at dksX3_save_0 12 rfl rfl)
theorem dX3_save_13 : decode cX3_save 13 = .ok (.aload_n 0, 1) := dk_42 (dk_at dksX3_save_0 13 rfl rfl)
theorem dX3_save_14 : decode cX3_save 14 = .ok (.getfield 13, 3) := dk_180 0 13 (dk_at dksX3_save_0 14 rfl rfl)
theorem dX3_save_17 : decode cX3_save 17 = .ok (.iload_n 1, 1) := dk_27 (dk_at dksX3_save_0 17 rfl rfl)
theorem dX3_save_18 : decode cX3_save 18 = .ok (.laload, 1) := dk_47 (dk_at dksX3_save_0 18 rfl rfl)
theorem dX3_save_19 : decode cX3_save 19 = .ok (.lastore, 1) := dk_80 (dk_at dksX3_save_0 19 rfl rfl)
theorem dX3_save_20 : decode cX3_save 20 = .ok (.iinc 1 1, 3) := dk_132 1 1 (dk_at dksX3_save_0 20 rfl rfl)
theorem dX3_save_23 : decode cX3_save 23 = .ok (.goto (-21), 3) := dk_167 255 235 (dk_at dksX3_save_1 0 rfl rfl)
theorem dX3_save_26 : decode cX3_save 26 = .ok (.aload_n 0, 1) := dk_42 (dk_at dksX3_save_1 3 rfl rfl)
theorem dX3_save_27 : decode cX3_save 27 = .ok (.iconst 1, 1) := dk_4 (dk_at dksX3_save_1 4 rfl rfl)
theorem dX3_save_28 : decode cX3_save 28 = .ok (.putfield 336, 3) := dk_181 1 80 (dk_at dksX3_save_1 5 rfl rfl)
theorem dX3_save_31 : decode cX3_save 31 = .ok (.aload_n 0, 1) := dk_42 (dk_at dksX3_save_1 8 rfl rfl)
theorem dX3_save_32 : decode cX3_save 32 = .ok (.invokevirtual 257, 3) := dk_182 1 1 (dk_at dksX3_save_1 9 rfl rfl)
theorem dX3_save_35 : decode cX3_save 35 = .ok (.ireturn, 1) := dk_172 (dk_at dksX3_save_1 12 rfl rfl)
abbrev cX3_restore : ByteArray := prog_21_method_133_code
def yX3_restore : MethodName := ⟨RX3, "restore", "()I"⟩
def dkwX3_restore_2 : List UInt8 := [181, 0, 50, 42, 3, 181, 0, 53, 42, 182, 1, 1, 172]
abbrev dktX3_restore_2 : List UInt8 := dkwX3_restore_2 ++ []
def dkwX3_restore_1 : List UInt8 := [162, 0, 21, 42, 180, 0, 13, 27, 42, 180, 0, 20, 27, 47, 80, 132, 1, 1, 167, 255, 235, 42, 3]
abbrev dktX3_restore_1 : List UInt8 := dkwX3_restore_1 ++ dktX3_restore_2
def dkwX3_restore_0 : List UInt8 := [42, 3, 181, 0, 1, 42, 180, 1, 80, 154, 0, 9, 42, 4, 182, 0, 81, 172, 3, 60, 27, 16, 56]
abbrev dktX3_restore_0 : List UInt8 := dkwX3_restore_0 ++ dktX3_restore_1
theorem dksX3_restore_0 : cX3_restore.data.toList.drop 0 = dktX3_restore_0 := by decide +kernel
theorem dksX3_restore_1 : cX3_restore.data.toList.drop 23 = dktX3_restore_1 := dk_seg dksX3_restore_0 23 rfl rfl
theorem dksX3_restore_2 : cX3_restore.data.toList.drop 46 = dktX3_restore_2 := dk_seg dksX3_restore_1 23 rfl rfl
theorem dX3_restore_0 : decode cX3_restore 0 = .ok (.aload_n 0, 1) := dk_42 (dk_at dksX3_restore_0 0 rfl rfl)
theorem dX3_restore_1 : decode cX3_restore 1 = .ok (.iconst 0, 1) := dk_3 (dk_at dksX3_restore_0 1 rfl rfl)
theorem dX3_restore_2 : decode cX3_restore 2 = .ok (.putfield 1, 3) := dk_181 0 1 (dk_at dksX3_restore_0 2 rfl rfl)
theorem dX3_restore_5 : decode cX3_restore 5 = .ok (.aload_n 0, 1) := dk_42 (dk_at dksX3_restore_0 5 rfl rfl)
theorem dX3_restore_6 : decode cX3_restore 6 = .ok (.getfield 336, 3) := dk_180 1 80 (dk_at dksX3_restore_0 6 rfl rfl)
theorem dX3_restore_9 : decode cX3_restore 9 = .ok (.ifCond .ne 9, 3) := dk_154 0 9 (dk_at dksX3_restore_0 9 rfl rfl)
theorem dX3_restore_12 : decode cX3_restore 12 = .ok (.aload_n 0, 1) := dk_42 (dk_at dksX3_restore_0 12 rfl rfl)
theorem dX3_restore_13 : decode cX3_restore 13 = .ok (.iconst 1, 1) := dk_4 (dk_at dksX3_restore_0 13 rfl rfl)
theorem dX3_restore_14 : decode cX3_restore 14 = .ok (.invokevirtual 81, 3) := dk_182 0 81 (dk_at dksX3_restore_0 14 rfl rfl)
theorem dX3_restore_17 : decode cX3_restore 17 = .ok (.ireturn, 1) := dk_172 (dk_at dksX3_restore_0 17 rfl rfl)
theorem dX3_restore_18 : decode cX3_restore 18 = .ok (.iconst 0, 1) := dk_3 (dk_at dksX3_restore_0 18 rfl rfl)
theorem dX3_restore_19 : decode cX3_restore 19 = .ok (.istore_n 1, 1) := dk_60 (dk_at dksX3_restore_0 19 rfl rfl)
theorem dX3_restore_20 : decode cX3_restore 20 = .ok (.iload_n 1, 1) := dk_27 (dk_at dksX3_restore_0 20 rfl rfl)
theorem dX3_restore_21 : decode cX3_restore 21 = .ok (.bipush 56, 2) := dk_16 56 (dk_at dksX3_restore_0 21 rfl rfl)
theorem dX3_restore_23 : decode cX3_restore 23 = .ok (.if_icmp .ge 21, 3) := dk_162 0 21 (dk_at dksX3_restore_1 0 rfl rfl)
theorem dX3_restore_26 : decode cX3_restore 26 = .ok (.aload_n 0, 1) := dk_42 (dk_at dksX3_restore_1 3 rfl rfl)
theorem dX3_restore_27 : decode cX3_restore 27 = .ok (.getfield 13, 3) := dk_180 0 13 (dk_at dksX3_restore_1 4 rfl rfl)
theorem dX3_restore_30 : decode cX3_restore 30 = .ok (.iload_n 1, 1) := dk_27 (dk_at dksX3_restore_1 7 rfl rfl)
theorem dX3_restore_31 : decode cX3_restore 31 = .ok (.aload_n 0, 1) := dk_42 (dk_at dksX3_restore_1 8 rfl rfl)
theorem dX3_restore_32 : decode cX3_restore 32 = .ok (.getfield 20, 3) := dk_180 0 20 (dk_at dksX3_restore_1 9 rfl rfl)
theorem dX3_restore_35 : decode cX3_restore 35 = .ok (.iload_n 1, 1) := dk_27 (dk_at dksX3_restore_1 12 rfl rfl)
theorem dX3_restore_36 : decode cX3_restore 36 = .ok (.laload, 1) := dk_47 (dk_at dksX3_restore_1 13 rfl rfl)
theorem dX3_restore_37 : decode cX3_restore 37 = .ok (.lastore, 1) := dk_80 (dk_at dksX3_restore_1 14 rfl rfl)
theorem dX3_restore_38 : decode cX3_restore 38 = .ok (.iinc 1 1, 3) := dk_132 1 1 (dk_at dksX3_restore_1 15 rfl rfl)
theorem dX3_restore_41 : decode cX3_restore 41 = .ok (.goto (-21), 3) := dk_167 255 235 (dk_at dksX3_restore_1 18 rfl rfl)
theorem dX3_restore_44 : decode cX3_restore 44 = .ok (.aload_n 0, 1) := dk_42 (dk_at dksX3_restore_1 21 rfl rfl)
theorem dX3_restore_45 : decode cX3_restore 45 = .ok (.iconst 0, 1) := dk_3 (dk_at dksX3_restore_1 22 rfl rfl)
theorem dX3_restore_46 : decode cX3_restore 46 = .ok (.putfield 50, 3) := dk_181 0 50 (dk_at dksX3_restore_2 0 rfl rfl)
theorem dX3_restore_49 : decode cX3_restore 49 = .ok (.aload_n 0, 1) := dk_42 (dk_at dksX3_restore_2 3 rfl rfl)
theorem dX3_restore_50 : decode cX3_restore 50 = .ok (.iconst 0, 1) := dk_3 (dk_at dksX3_restore_2 4 rfl rfl)
theorem dX3_restore_51 : decode cX3_restore 51 = .ok (.putfield 53, 3) := dk_181 0 53 (dk_at dksX3_restore_2 5 rfl rfl)
theorem dX3_restore_54 : decode cX3_restore 54 = .ok (.aload_n 0, 1) := dk_42 (dk_at dksX3_restore_2 8 rfl rfl)
theorem dX3_restore_55 : decode cX3_restore 55 = .ok (.invokevirtual 257, 3) := dk_182 1 1 (dk_at dksX3_restore_2 9 rfl rfl)
theorem dX3_restore_58 : decode cX3_restore 58 = .ok (.ireturn, 1) := dk_172 (dk_at dksX3_restore_2 12 rfl rfl)
theorem q138 : (Jvm.Cond.initialized "DoughLedgerModel") ∈ lw_all := lw_g (lw_at lw_m1 14 rfl) rfl
theorem q935 : (Jvm.Cond.selects "DoughLedgerModel" ({ cls := "java/lang/Object", name := "getClass", desc := "()Ljava/lang/Class;" } : Jvm.MethodName) ({ cls := "java/lang/Object", name := "getClass", desc := "()Ljava/lang/Class;" } : Jvm.MethodName)) ∈ lw_all := lw_g (lw_at lw_m4 91 rfl) rfl
theorem q2864 : (Jvm.Cond.selects "DoughLedgerModel" ({ cls := "java/lang/Object", name := "toString", desc := "()Ljava/lang/String;" } : Jvm.MethodName) ({ cls := "java/lang/Object", name := "toString", desc := "()Ljava/lang/String;" } : Jvm.MethodName)) ∈ lw_all := lw_g (lw_at lw_m12 100 rfl) rfl
theorem q3391 : (Jvm.Cond.instanceMethod ({ cls := "DoughLedgerModel", name := "thrown", desc := "()I" } : Jvm.MethodName)) ∈ lw_all := lw_g (lw_at lw_m14 147 rfl) rfl
theorem q3392 : (Jvm.Cond.selects "DoughLedgerModel" ({ cls := "DoughLedgerModel", name := "thrown", desc := "()I" } : Jvm.MethodName) ({ cls := "DoughLedgerModel", name := "thrown", desc := "()I" } : Jvm.MethodName)) ∈ lw_all := lw_g (lw_at lw_m14 148 rfl) rfl
theorem q3393 : (Jvm.Cond.code ({ cls := "DoughLedgerModel", name := "thrown", desc := "()I" } : Jvm.MethodName) prog_21_method_1_code (1 : Nat) (Option.some Jvm.ClassFile.FieldType.int)) ∈ lw_all := lw_g (lw_at lw_m14 149 rfl) rfl
theorem q3395 : (Jvm.Cond.instantiable "DoughLedgerModel" (23 : Nat)) ∈ lw_all := lw_g (lw_at lw_m14 151 rfl) rfl
theorem q3397 : (Jvm.Cond.instanceMethod ({ cls := "DoughLedgerModel", name := "<init>", desc := "()V" } : Jvm.MethodName)) ∈ lw_all := lw_g (lw_at lw_m14 153 rfl) rfl
theorem q3398 : (Jvm.Cond.code ({ cls := "DoughLedgerModel", name := "<init>", desc := "()V" } : Jvm.MethodName) prog_21_method_4_code (1 : Nat) (Option.none : Option Jvm.ClassFile.FieldType)) ∈ lw_all := lw_g (lw_at lw_m14 154 rfl) rfl
theorem q3399 : (Jvm.Cond.methodLink "DoughLedgerModel" (7 : Nat) ({ cls := "java/lang/Object", name := "<init>", desc := "()V" } : Jvm.MethodName)) ∈ lw_all := lw_g (lw_at lw_m14 155 rfl) rfl
theorem q3400 : (Jvm.Cond.constantLong "DoughLedgerModel" (46 : Nat) (2 : Int64)) ∈ lw_all := lw_g (lw_at lw_m14 156 rfl) rfl
theorem q3401 : (Jvm.Cond.constantLong "DoughLedgerModel" (48 : Nat) (104 : Int64)) ∈ lw_all := lw_g (lw_at lw_m14 157 rfl) rfl
theorem q3402 : (Jvm.Cond.fieldLink "DoughLedgerModel" (1 : Nat) "DoughLedgerModel" "thrown" "I") ∈ lw_all := lw_g (lw_at lw_m14 158 rfl) rfl
theorem q3403 : (Jvm.Cond.fieldLink "DoughLedgerModel" (13 : Nat) "DoughLedgerModel" "w" "[J") ∈ lw_all := lw_g (lw_at lw_m14 159 rfl) rfl
theorem q3404 : (Jvm.Cond.fieldLink "DoughLedgerModel" (17 : Nat) "DoughLedgerModel" "undos" "[J") ∈ lw_all := lw_g (lw_at lw_m14 160 rfl) rfl
theorem q3405 : (Jvm.Cond.fieldLink "DoughLedgerModel" (20 : Nat) "DoughLedgerModel" "savedRow" "[J") ∈ lw_all := lw_g (lw_at lw_m14 161 rfl) rfl
theorem q3406 : (Jvm.Cond.fieldLink "DoughLedgerModel" (23 : Nat) "DoughLedgerModel" "before" "[J") ∈ lw_all := lw_g (lw_at lw_m14 162 rfl) rfl
theorem q3407 : (Jvm.Cond.fieldLink "DoughLedgerModel" (50 : Nat) "DoughLedgerModel" "changes" "I") ∈ lw_all := lw_g (lw_at lw_m14 163 rfl) rfl
theorem q3408 : (Jvm.Cond.fieldLink "DoughLedgerModel" (53 : Nat) "DoughLedgerModel" "firstChange" "I") ∈ lw_all := lw_g (lw_at lw_m14 164 rfl) rfl
theorem q3409 : (Jvm.Cond.fieldLink "DoughLedgerModel" (336 : Nat) "DoughLedgerModel" "isSaved" "Z") ∈ lw_all := lw_g (lw_at lw_m14 165 rfl) rfl
theorem q3410 : (Jvm.Cond.fieldLink "DoughLedgerModel" (213 : Nat) "DoughLedgerModel" "nearAbove" "I") ∈ lw_all := lw_g (lw_at lw_m14 166 rfl) rfl
theorem q3411 : (Jvm.Cond.fieldLink "DoughLedgerModel" (207 : Nat) "DoughLedgerModel" "nearBelow" "I") ∈ lw_all := lw_g (lw_at lw_m14 167 rfl) rfl
theorem q3412 : (Jvm.Cond.fieldLink "DoughLedgerModel" (210 : Nat) "DoughLedgerModel" "nearOff" "I") ∈ lw_all := lw_g (lw_at lw_m14 168 rfl) rfl
theorem q3413 : (Jvm.Cond.fieldLink "DoughLedgerModel" (26 : Nat) "DoughLedgerModel" "times" "[I") ∈ lw_all := lw_g (lw_at lw_m14 169 rfl) rfl
theorem q3414 : (Jvm.Cond.fieldLink "DoughLedgerModel" (30 : Nat) "DoughLedgerModel" "line" "[C") ∈ lw_all := lw_g (lw_at lw_m14 170 rfl) rfl
theorem q3415 : (Jvm.Cond.fieldLink "DoughLedgerModel" (260 : Nat) "DoughLedgerModel" "lineLength" "I") ∈ lw_all := lw_g (lw_at lw_m14 171 rfl) rfl
theorem q3416 : (Jvm.Cond.fieldLink "DoughLedgerModel" (34 : Nat) "DoughLedgerModel" "text" "[C") ∈ lw_all := lw_g (lw_at lw_m14 172 rfl) rfl
theorem q3417 : (Jvm.Cond.fieldLink "DoughLedgerModel" (274 : Nat) "DoughLedgerModel" "textLength" "I") ∈ lw_all := lw_g (lw_at lw_m14 173 rfl) rfl
theorem q3418 : (Jvm.Cond.fieldLink "DoughLedgerModel" (277 : Nat) "DoughLedgerModel" "textAt" "I") ∈ lw_all := lw_g (lw_at lw_m14 174 rfl) rfl
theorem q3419 : (Jvm.Cond.fieldLink "DoughLedgerModel" (37 : Nat) "DoughLedgerModel" "errorAt" "I") ∈ lw_all := lw_g (lw_at lw_m14 175 rfl) rfl
theorem q3420 : (Jvm.Cond.fieldLink "DoughLedgerModel" (40 : Nat) "DoughLedgerModel" "failedAt" "I") ∈ lw_all := lw_g (lw_at lw_m14 176 rfl) rfl
theorem q3421 : (Jvm.Cond.fieldLink "DoughLedgerModel" (321 : Nat) "DoughLedgerModel" "failedKind" "I") ∈ lw_all := lw_g (lw_at lw_m14 177 rfl) rfl
theorem q3422 : (Jvm.Cond.fieldLink "DoughLedgerModel" (43 : Nat) "DoughLedgerModel" "numbers" "[I") ∈ lw_all := lw_g (lw_at lw_m14 178 rfl) rfl
theorem q3423 : (Jvm.Cond.fieldLink "DoughLedgerModel" (292 : Nat) "DoughLedgerModel" "sort" "I") ∈ lw_all := lw_g (lw_at lw_m14 179 rfl) rfl
theorem q3424 : (Jvm.Cond.fieldLink "DoughLedgerModel" (315 : Nat) "DoughLedgerModel" "done" "I") ∈ lw_all := lw_g (lw_at lw_m14 180 rfl) rfl
theorem q3425 : (Jvm.Cond.lays "DoughLedgerModel" "DoughLedgerModel" "thrown" "I") ∈ lw_all := lw_g (lw_at lw_m14 181 rfl) rfl
theorem q3426 : (Jvm.Cond.soleField "DoughLedgerModel" "thrown") ∈ lw_all := lw_g (lw_at lw_m14 182 rfl) rfl
theorem q3427 : (Jvm.Cond.laysFinal "DoughLedgerModel" "DoughLedgerModel" "w" "[J") ∈ lw_all := lw_g (lw_at lw_m14 183 rfl) rfl
theorem q3428 : (Jvm.Cond.soleField "DoughLedgerModel" "w") ∈ lw_all := lw_g (lw_at lw_m14 184 rfl) rfl
theorem q3429 : (Jvm.Cond.laysFinal "DoughLedgerModel" "DoughLedgerModel" "undos" "[J") ∈ lw_all := lw_g (lw_at lw_m14 185 rfl) rfl
theorem q3430 : (Jvm.Cond.soleField "DoughLedgerModel" "undos") ∈ lw_all := lw_g (lw_at lw_m14 186 rfl) rfl
theorem q3431 : (Jvm.Cond.laysFinal "DoughLedgerModel" "DoughLedgerModel" "savedRow" "[J") ∈ lw_all := lw_g (lw_at lw_m14 187 rfl) rfl
theorem q3432 : (Jvm.Cond.soleField "DoughLedgerModel" "savedRow") ∈ lw_all := lw_g (lw_at lw_m14 188 rfl) rfl
theorem q3433 : (Jvm.Cond.laysFinal "DoughLedgerModel" "DoughLedgerModel" "before" "[J") ∈ lw_all := lw_g (lw_at lw_m14 189 rfl) rfl
theorem q3434 : (Jvm.Cond.soleField "DoughLedgerModel" "before") ∈ lw_all := lw_g (lw_at lw_m14 190 rfl) rfl
theorem q3435 : (Jvm.Cond.lays "DoughLedgerModel" "DoughLedgerModel" "changes" "I") ∈ lw_all := lw_g (lw_at lw_m14 191 rfl) rfl
theorem q3436 : (Jvm.Cond.soleField "DoughLedgerModel" "changes") ∈ lw_all := lw_g (lw_at lw_m14 192 rfl) rfl
theorem q3437 : (Jvm.Cond.lays "DoughLedgerModel" "DoughLedgerModel" "firstChange" "I") ∈ lw_all := lw_g (lw_at lw_m14 193 rfl) rfl
theorem q3438 : (Jvm.Cond.soleField "DoughLedgerModel" "firstChange") ∈ lw_all := lw_g (lw_at lw_m14 194 rfl) rfl
theorem q3439 : (Jvm.Cond.lays "DoughLedgerModel" "DoughLedgerModel" "isSaved" "Z") ∈ lw_all := lw_g (lw_at lw_m14 195 rfl) rfl
theorem q3440 : (Jvm.Cond.soleField "DoughLedgerModel" "isSaved") ∈ lw_all := lw_g (lw_at lw_m14 196 rfl) rfl
theorem q3441 : (Jvm.Cond.lays "DoughLedgerModel" "DoughLedgerModel" "nearAbove" "I") ∈ lw_all := lw_g (lw_at lw_m14 197 rfl) rfl
theorem q3442 : (Jvm.Cond.soleField "DoughLedgerModel" "nearAbove") ∈ lw_all := lw_g (lw_at lw_m14 198 rfl) rfl
theorem q3443 : (Jvm.Cond.lays "DoughLedgerModel" "DoughLedgerModel" "nearBelow" "I") ∈ lw_all := lw_g (lw_at lw_m14 199 rfl) rfl
theorem q3444 : (Jvm.Cond.soleField "DoughLedgerModel" "nearBelow") ∈ lw_all := lw_g (lw_at lw_m14 200 rfl) rfl
theorem q3445 : (Jvm.Cond.lays "DoughLedgerModel" "DoughLedgerModel" "nearOff" "I") ∈ lw_all := lw_g (lw_at lw_m14 201 rfl) rfl
theorem q3446 : (Jvm.Cond.soleField "DoughLedgerModel" "nearOff") ∈ lw_all := lw_g (lw_at lw_m14 202 rfl) rfl
theorem q3447 : (Jvm.Cond.laysFinal "DoughLedgerModel" "DoughLedgerModel" "times" "[I") ∈ lw_all := lw_g (lw_at lw_m14 203 rfl) rfl
theorem q3448 : (Jvm.Cond.soleField "DoughLedgerModel" "times") ∈ lw_all := lw_g (lw_at lw_m14 204 rfl) rfl
theorem q3449 : (Jvm.Cond.laysFinal "DoughLedgerModel" "DoughLedgerModel" "line" "[C") ∈ lw_all := lw_g (lw_at lw_m14 205 rfl) rfl
theorem q3450 : (Jvm.Cond.soleField "DoughLedgerModel" "line") ∈ lw_all := lw_g (lw_at lw_m14 206 rfl) rfl
theorem q3451 : (Jvm.Cond.lays "DoughLedgerModel" "DoughLedgerModel" "lineLength" "I") ∈ lw_all := lw_g (lw_at lw_m14 207 rfl) rfl
theorem q3452 : (Jvm.Cond.soleField "DoughLedgerModel" "lineLength") ∈ lw_all := lw_g (lw_at lw_m14 208 rfl) rfl
theorem q3453 : (Jvm.Cond.laysFinal "DoughLedgerModel" "DoughLedgerModel" "text" "[C") ∈ lw_all := lw_g (lw_at lw_m14 209 rfl) rfl
theorem q3454 : (Jvm.Cond.soleField "DoughLedgerModel" "text") ∈ lw_all := lw_g (lw_at lw_m14 210 rfl) rfl
theorem q3455 : (Jvm.Cond.lays "DoughLedgerModel" "DoughLedgerModel" "textLength" "I") ∈ lw_all := lw_g (lw_at lw_m14 211 rfl) rfl
theorem q3456 : (Jvm.Cond.soleField "DoughLedgerModel" "textLength") ∈ lw_all := lw_g (lw_at lw_m14 212 rfl) rfl
theorem q3457 : (Jvm.Cond.lays "DoughLedgerModel" "DoughLedgerModel" "textAt" "I") ∈ lw_all := lw_g (lw_at lw_m14 213 rfl) rfl
theorem q3458 : (Jvm.Cond.soleField "DoughLedgerModel" "textAt") ∈ lw_all := lw_g (lw_at lw_m14 214 rfl) rfl
theorem q3459 : (Jvm.Cond.lays "DoughLedgerModel" "DoughLedgerModel" "errorAt" "I") ∈ lw_all := lw_g (lw_at lw_m14 215 rfl) rfl
theorem q3460 : (Jvm.Cond.soleField "DoughLedgerModel" "errorAt") ∈ lw_all := lw_g (lw_at lw_m14 216 rfl) rfl
theorem q3461 : (Jvm.Cond.lays "DoughLedgerModel" "DoughLedgerModel" "failedAt" "I") ∈ lw_all := lw_g (lw_at lw_m14 217 rfl) rfl
theorem q3462 : (Jvm.Cond.soleField "DoughLedgerModel" "failedAt") ∈ lw_all := lw_g (lw_at lw_m14 218 rfl) rfl
theorem q3463 : (Jvm.Cond.lays "DoughLedgerModel" "DoughLedgerModel" "failedKind" "I") ∈ lw_all := lw_g (lw_at lw_m14 219 rfl) rfl
theorem q3464 : (Jvm.Cond.soleField "DoughLedgerModel" "failedKind") ∈ lw_all := lw_g (lw_at lw_m14 220 rfl) rfl
theorem q3465 : (Jvm.Cond.laysFinal "DoughLedgerModel" "DoughLedgerModel" "numbers" "[I") ∈ lw_all := lw_g (lw_at lw_m14 221 rfl) rfl
theorem q3466 : (Jvm.Cond.soleField "DoughLedgerModel" "numbers") ∈ lw_all := lw_g (lw_at lw_m14 222 rfl) rfl
theorem q3467 : (Jvm.Cond.lays "DoughLedgerModel" "DoughLedgerModel" "sort" "I") ∈ lw_all := lw_g (lw_at lw_m14 223 rfl) rfl
theorem q3468 : (Jvm.Cond.soleField "DoughLedgerModel" "sort") ∈ lw_all := lw_g (lw_at lw_m14 224 rfl) rfl
theorem q3469 : (Jvm.Cond.lays "DoughLedgerModel" "DoughLedgerModel" "done" "I") ∈ lw_all := lw_g (lw_at lw_m14 225 rfl) rfl
theorem q3470 : (Jvm.Cond.soleField "DoughLedgerModel" "done") ∈ lw_all := lw_g (lw_at lw_m14 226 rfl) rfl
theorem q3471 : (Jvm.Cond.superclass "DoughLedgerModel" "java/lang/Object") ∈ lw_all := lw_g (lw_at lw_m14 227 rfl) rfl
theorem q3475 : (Jvm.Cond.instanceMethod ({ cls := "DoughLedgerModel", name := "addDough", desc := "(II)I" } : Jvm.MethodName)) ∈ lw_all := lw_g (lw_at lw_m14 231 rfl) rfl
theorem q3476 : (Jvm.Cond.selects "DoughLedgerModel" ({ cls := "DoughLedgerModel", name := "addDough", desc := "(II)I" } : Jvm.MethodName) ({ cls := "DoughLedgerModel", name := "addDough", desc := "(II)I" } : Jvm.MethodName)) ∈ lw_all := lw_g (lw_at lw_m14 232 rfl) rfl
theorem q3477 : (Jvm.Cond.code ({ cls := "DoughLedgerModel", name := "addDough", desc := "(II)I" } : Jvm.MethodName) prog_21_method_16_code (4 : Nat) (Option.some Jvm.ClassFile.FieldType.int)) ∈ lw_all := lw_g (lw_at lw_m14 233 rfl) rfl
theorem q3478 : (Jvm.Cond.methodLink "DoughLedgerModel" (78 : Nat) ({ cls := "DoughLedgerModel", name := "notDough", desc := "(II)I" } : Jvm.MethodName)) ∈ lw_all := lw_g (lw_at lw_m14 234 rfl) rfl
theorem q3479 : (Jvm.Cond.privateMethod ({ cls := "DoughLedgerModel", name := "notDough", desc := "(II)I" } : Jvm.MethodName)) ∈ lw_tbl := lw_at lw_m14 235 rfl
theorem q3480 : (Jvm.Cond.instanceMethod ({ cls := "DoughLedgerModel", name := "notDough", desc := "(II)I" } : Jvm.MethodName)) ∈ lw_all := lw_g (lw_at lw_m14 236 rfl) rfl
theorem q3481 : (Jvm.Cond.code ({ cls := "DoughLedgerModel", name := "notDough", desc := "(II)I" } : Jvm.MethodName) prog_21_method_14_code (3 : Nat) (Option.some Jvm.ClassFile.FieldType.int)) ∈ lw_all := lw_g (lw_at lw_m14 237 rfl) rfl
theorem q3482 : (Jvm.Cond.methodLink "DoughLedgerModel" (66 : Nat) ({ cls := "DoughLedgerModel", name := "isBetween", desc := "(III)Z" } : Jvm.MethodName)) ∈ lw_all := lw_g (lw_at lw_m14 238 rfl) rfl
theorem q3483 : (Jvm.Cond.static ({ cls := "DoughLedgerModel", name := "isBetween", desc := "(III)Z" } : Jvm.MethodName)) ∈ lw_all := lw_g (lw_at lw_m14 239 rfl) rfl
theorem q3484 : (Jvm.Cond.code ({ cls := "DoughLedgerModel", name := "isBetween", desc := "(III)Z" } : Jvm.MethodName) prog_21_method_3_code (3 : Nat) (Option.some Jvm.ClassFile.FieldType.boolean)) ∈ lw_all := lw_g (lw_at lw_m15 0 rfl) rfl
theorem q3485 : (Jvm.Cond.methodLink "DoughLedgerModel" (62 : Nat) ({ cls := "DoughLedgerModel", name := "at", desc := "(I)I" } : Jvm.MethodName)) ∈ lw_all := lw_g (lw_at lw_m15 1 rfl) rfl
theorem q3486 : (Jvm.Cond.privateMethod ({ cls := "DoughLedgerModel", name := "at", desc := "(I)I" } : Jvm.MethodName)) ∈ lw_tbl := lw_at lw_m15 2 rfl
theorem q3487 : (Jvm.Cond.instanceMethod ({ cls := "DoughLedgerModel", name := "at", desc := "(I)I" } : Jvm.MethodName)) ∈ lw_all := lw_g (lw_at lw_m15 3 rfl) rfl
theorem q3488 : (Jvm.Cond.code ({ cls := "DoughLedgerModel", name := "at", desc := "(I)I" } : Jvm.MethodName) prog_21_method_5_code (2 : Nat) (Option.some Jvm.ClassFile.FieldType.int)) ∈ lw_all := lw_g (lw_at lw_m15 4 rfl) rfl
theorem q3489 : (Jvm.Cond.methodLink "DoughLedgerModel" (81 : Nat) ({ cls := "DoughLedgerModel", name := "fails", desc := "(I)I" } : Jvm.MethodName)) ∈ lw_all := lw_g (lw_at lw_m15 5 rfl) rfl
theorem q3490 : (Jvm.Cond.privateMethod ({ cls := "DoughLedgerModel", name := "fails", desc := "(I)I" } : Jvm.MethodName)) ∈ lw_tbl := lw_at lw_m15 6 rfl
theorem q3491 : (Jvm.Cond.instanceMethod ({ cls := "DoughLedgerModel", name := "fails", desc := "(I)I" } : Jvm.MethodName)) ∈ lw_all := lw_g (lw_at lw_m15 7 rfl) rfl
theorem q3492 : (Jvm.Cond.code ({ cls := "DoughLedgerModel", name := "fails", desc := "(I)I" } : Jvm.MethodName) prog_21_method_2_code (2 : Nat) (Option.some Jvm.ClassFile.FieldType.int)) ∈ lw_all := lw_g (lw_at lw_m15 8 rfl) rfl
theorem q3493 : (Jvm.Cond.methodLink "DoughLedgerModel" (84 : Nat) ({ cls := "DoughLedgerModel", name := "remembers", desc := "()V" } : Jvm.MethodName)) ∈ lw_all := lw_g (lw_at lw_m15 9 rfl) rfl
theorem q3494 : (Jvm.Cond.privateMethod ({ cls := "DoughLedgerModel", name := "remembers", desc := "()V" } : Jvm.MethodName)) ∈ lw_tbl := lw_at lw_m15 10 rfl
theorem q3495 : (Jvm.Cond.instanceMethod ({ cls := "DoughLedgerModel", name := "remembers", desc := "()V" } : Jvm.MethodName)) ∈ lw_all := lw_g (lw_at lw_m15 11 rfl) rfl
theorem q3496 : (Jvm.Cond.code ({ cls := "DoughLedgerModel", name := "remembers", desc := "()V" } : Jvm.MethodName) prog_21_method_9_code (1 : Nat) (Option.none : Option Jvm.ClassFile.FieldType)) ∈ lw_all := lw_g (lw_at lw_m15 12 rfl) rfl
theorem q3497 : (Jvm.Cond.methodLink "DoughLedgerModel" (56 : Nat) ({ cls := "DoughLedgerModel", name := "copies", desc := "()V" } : Jvm.MethodName)) ∈ lw_all := lw_g (lw_at lw_m15 13 rfl) rfl
theorem q3498 : (Jvm.Cond.privateMethod ({ cls := "DoughLedgerModel", name := "copies", desc := "()V" } : Jvm.MethodName)) ∈ lw_tbl := lw_at lw_m15 14 rfl
theorem q3499 : (Jvm.Cond.instanceMethod ({ cls := "DoughLedgerModel", name := "copies", desc := "()V" } : Jvm.MethodName)) ∈ lw_all := lw_g (lw_at lw_m15 15 rfl) rfl
theorem q3500 : (Jvm.Cond.code ({ cls := "DoughLedgerModel", name := "copies", desc := "()V" } : Jvm.MethodName) prog_21_method_6_code (2 : Nat) (Option.none : Option Jvm.ClassFile.FieldType)) ∈ lw_all := lw_g (lw_at lw_m15 16 rfl) rfl
theorem q3501 : (Jvm.Cond.methodLink "DoughLedgerModel" (59 : Nat) ({ cls := "DoughLedgerModel", name := "keeps", desc := "()V" } : Jvm.MethodName)) ∈ lw_all := lw_g (lw_at lw_m15 17 rfl) rfl
theorem q3502 : (Jvm.Cond.privateMethod ({ cls := "DoughLedgerModel", name := "keeps", desc := "()V" } : Jvm.MethodName)) ∈ lw_tbl := lw_at lw_m15 18 rfl
theorem q3503 : (Jvm.Cond.instanceMethod ({ cls := "DoughLedgerModel", name := "keeps", desc := "()V" } : Jvm.MethodName)) ∈ lw_all := lw_g (lw_at lw_m15 19 rfl) rfl
theorem q3504 : (Jvm.Cond.code ({ cls := "DoughLedgerModel", name := "keeps", desc := "()V" } : Jvm.MethodName) prog_21_method_8_code (3 : Nat) (Option.none : Option Jvm.ClassFile.FieldType)) ∈ lw_all := lw_g (lw_at lw_m15 20 rfl) rfl
theorem q3505 : (Jvm.Cond.methodLink "DoughLedgerModel" (87 : Nat) ({ cls := "DoughLedgerModel", name := "makes", desc := "(II)I" } : Jvm.MethodName)) ∈ lw_all := lw_g (lw_at lw_m15 21 rfl) rfl
theorem q3506 : (Jvm.Cond.privateMethod ({ cls := "DoughLedgerModel", name := "makes", desc := "(II)I" } : Jvm.MethodName)) ∈ lw_tbl := lw_at lw_m15 22 rfl
theorem q3507 : (Jvm.Cond.instanceMethod ({ cls := "DoughLedgerModel", name := "makes", desc := "(II)I" } : Jvm.MethodName)) ∈ lw_all := lw_g (lw_at lw_m15 23 rfl) rfl
theorem q3508 : (Jvm.Cond.code ({ cls := "DoughLedgerModel", name := "makes", desc := "(II)I" } : Jvm.MethodName) prog_21_method_15_code (3 : Nat) (Option.some Jvm.ClassFile.FieldType.int)) ∈ lw_all := lw_g (lw_at lw_m15 24 rfl) rfl
theorem q3509 : (Jvm.Cond.methodLink "DoughLedgerModel" (74 : Nat) ({ cls := "DoughLedgerModel", name := "sets", desc := "(III)V" } : Jvm.MethodName)) ∈ lw_all := lw_g (lw_at lw_m15 25 rfl) rfl
theorem q3510 : (Jvm.Cond.privateMethod ({ cls := "DoughLedgerModel", name := "sets", desc := "(III)V" } : Jvm.MethodName)) ∈ lw_tbl := lw_at lw_m15 26 rfl
theorem q3511 : (Jvm.Cond.instanceMethod ({ cls := "DoughLedgerModel", name := "sets", desc := "(III)V" } : Jvm.MethodName)) ∈ lw_all := lw_g (lw_at lw_m15 27 rfl) rfl
theorem q3512 : (Jvm.Cond.code ({ cls := "DoughLedgerModel", name := "sets", desc := "(III)V" } : Jvm.MethodName) prog_21_method_13_code (5 : Nat) (Option.none : Option Jvm.ClassFile.FieldType)) ∈ lw_all := lw_g (lw_at lw_m15 28 rfl) rfl
theorem q3513 : (Jvm.Cond.methodLink "DoughLedgerModel" (70 : Nat) ({ cls := "DoughLedgerModel", name := "divisor", desc := "(II)I" } : Jvm.MethodName)) ∈ lw_all := lw_g (lw_at lw_m15 29 rfl) rfl
theorem q3514 : (Jvm.Cond.static ({ cls := "DoughLedgerModel", name := "divisor", desc := "(II)I" } : Jvm.MethodName)) ∈ lw_all := lw_g (lw_at lw_m15 30 rfl) rfl
theorem q3515 : (Jvm.Cond.code ({ cls := "DoughLedgerModel", name := "divisor", desc := "(II)I" } : Jvm.MethodName) prog_21_method_12_code (5 : Nat) (Option.some Jvm.ClassFile.FieldType.int)) ∈ lw_all := lw_g (lw_at lw_m15 31 rfl) rfl
theorem q3517 : (Jvm.Cond.instanceMethod ({ cls := "DoughLedgerModel", name := "mix", desc := "(II)I" } : Jvm.MethodName)) ∈ lw_all := lw_g (lw_at lw_m15 33 rfl) rfl
theorem q3518 : (Jvm.Cond.selects "DoughLedgerModel" ({ cls := "DoughLedgerModel", name := "mix", desc := "(II)I" } : Jvm.MethodName) ({ cls := "DoughLedgerModel", name := "mix", desc := "(II)I" } : Jvm.MethodName)) ∈ lw_all := lw_g (lw_at lw_m15 34 rfl) rfl
theorem q3519 : (Jvm.Cond.code ({ cls := "DoughLedgerModel", name := "mix", desc := "(II)I" } : Jvm.MethodName) prog_21_method_21_code (4 : Nat) (Option.some Jvm.ClassFile.FieldType.int)) ∈ lw_all := lw_g (lw_at lw_m15 35 rfl) rfl
theorem q3520 : (Jvm.Cond.methodLink "DoughLedgerModel" (103 : Nat) ({ cls := "DoughLedgerModel", name := "notMix", desc := "(II)I" } : Jvm.MethodName)) ∈ lw_all := lw_g (lw_at lw_m15 36 rfl) rfl
theorem q3521 : (Jvm.Cond.privateMethod ({ cls := "DoughLedgerModel", name := "notMix", desc := "(II)I" } : Jvm.MethodName)) ∈ lw_tbl := lw_at lw_m15 37 rfl
theorem q3522 : (Jvm.Cond.instanceMethod ({ cls := "DoughLedgerModel", name := "notMix", desc := "(II)I" } : Jvm.MethodName)) ∈ lw_all := lw_g (lw_at lw_m15 38 rfl) rfl
theorem q3523 : (Jvm.Cond.code ({ cls := "DoughLedgerModel", name := "notMix", desc := "(II)I" } : Jvm.MethodName) prog_21_method_19_code (4 : Nat) (Option.some Jvm.ClassFile.FieldType.int)) ∈ lw_all := lw_g (lw_at lw_m15 39 rfl) rfl
theorem q3524 : (Jvm.Cond.methodLink "DoughLedgerModel" (93 : Nat) ({ cls := "DoughLedgerModel", name := "isDough", desc := "(I)Z" } : Jvm.MethodName)) ∈ lw_all := lw_g (lw_at lw_m15 40 rfl) rfl
theorem q3525 : (Jvm.Cond.privateMethod ({ cls := "DoughLedgerModel", name := "isDough", desc := "(I)Z" } : Jvm.MethodName)) ∈ lw_tbl := lw_at lw_m15 41 rfl
theorem q3526 : (Jvm.Cond.instanceMethod ({ cls := "DoughLedgerModel", name := "isDough", desc := "(I)Z" } : Jvm.MethodName)) ∈ lw_all := lw_g (lw_at lw_m15 42 rfl) rfl
theorem q3527 : (Jvm.Cond.code ({ cls := "DoughLedgerModel", name := "isDough", desc := "(I)Z" } : Jvm.MethodName) prog_21_method_10_code (2 : Nat) (Option.some Jvm.ClassFile.FieldType.boolean)) ∈ lw_all := lw_g (lw_at lw_m15 43 rfl) rfl
theorem q3528 : (Jvm.Cond.methodLink "DoughLedgerModel" (97 : Nat) ({ cls := "DoughLedgerModel", name := "sumBelow", desc := "(II)I" } : Jvm.MethodName)) ∈ lw_all := lw_g (lw_at lw_m15 44 rfl) rfl
theorem q3529 : (Jvm.Cond.privateMethod ({ cls := "DoughLedgerModel", name := "sumBelow", desc := "(II)I" } : Jvm.MethodName)) ∈ lw_tbl := lw_at lw_m15 45 rfl
theorem q3530 : (Jvm.Cond.instanceMethod ({ cls := "DoughLedgerModel", name := "sumBelow", desc := "(II)I" } : Jvm.MethodName)) ∈ lw_all := lw_g (lw_at lw_m15 46 rfl) rfl
theorem q3531 : (Jvm.Cond.code ({ cls := "DoughLedgerModel", name := "sumBelow", desc := "(II)I" } : Jvm.MethodName) prog_21_method_18_code (3 : Nat) (Option.some Jvm.ClassFile.FieldType.int)) ∈ lw_all := lw_g (lw_at lw_m15 47 rfl) rfl
theorem q3532 : (Jvm.Cond.methodLink "DoughLedgerModel" (90 : Nat) ({ cls := "DoughLedgerModel", name := "dough", desc := "(II)I" } : Jvm.MethodName)) ∈ lw_all := lw_g (lw_at lw_m15 48 rfl) rfl
theorem q3533 : (Jvm.Cond.privateMethod ({ cls := "DoughLedgerModel", name := "dough", desc := "(II)I" } : Jvm.MethodName)) ∈ lw_tbl := lw_at lw_m15 49 rfl
theorem q3534 : (Jvm.Cond.instanceMethod ({ cls := "DoughLedgerModel", name := "dough", desc := "(II)I" } : Jvm.MethodName)) ∈ lw_all := lw_g (lw_at lw_m15 50 rfl) rfl
theorem q3535 : (Jvm.Cond.code ({ cls := "DoughLedgerModel", name := "dough", desc := "(II)I" } : Jvm.MethodName) prog_21_method_11_code (3 : Nat) (Option.some Jvm.ClassFile.FieldType.int)) ∈ lw_all := lw_g (lw_at lw_m15 51 rfl) rfl
theorem q3536 : (Jvm.Cond.methodLink "DoughLedgerModel" (100 : Nat) ({ cls := "DoughLedgerModel", name := "sumAbove", desc := "(II)I" } : Jvm.MethodName)) ∈ lw_all := lw_g (lw_at lw_m15 52 rfl) rfl
theorem q3537 : (Jvm.Cond.privateMethod ({ cls := "DoughLedgerModel", name := "sumAbove", desc := "(II)I" } : Jvm.MethodName)) ∈ lw_tbl := lw_at lw_m15 53 rfl
theorem q3538 : (Jvm.Cond.instanceMethod ({ cls := "DoughLedgerModel", name := "sumAbove", desc := "(II)I" } : Jvm.MethodName)) ∈ lw_all := lw_g (lw_at lw_m15 54 rfl) rfl
theorem q3539 : (Jvm.Cond.code ({ cls := "DoughLedgerModel", name := "sumAbove", desc := "(II)I" } : Jvm.MethodName) prog_21_method_17_code (3 : Nat) (Option.some Jvm.ClassFile.FieldType.int)) ∈ lw_all := lw_g (lw_at lw_m15 55 rfl) rfl
theorem q3540 : (Jvm.Cond.methodLink "DoughLedgerModel" (106 : Nat) ({ cls := "DoughLedgerModel", name := "mixes", desc := "(II)I" } : Jvm.MethodName)) ∈ lw_all := lw_g (lw_at lw_m15 56 rfl) rfl
theorem q3541 : (Jvm.Cond.privateMethod ({ cls := "DoughLedgerModel", name := "mixes", desc := "(II)I" } : Jvm.MethodName)) ∈ lw_tbl := lw_at lw_m15 57 rfl
theorem q3542 : (Jvm.Cond.instanceMethod ({ cls := "DoughLedgerModel", name := "mixes", desc := "(II)I" } : Jvm.MethodName)) ∈ lw_all := lw_g (lw_at lw_m15 58 rfl) rfl
theorem q3543 : (Jvm.Cond.code ({ cls := "DoughLedgerModel", name := "mixes", desc := "(II)I" } : Jvm.MethodName) prog_21_method_20_code (3 : Nat) (Option.some Jvm.ClassFile.FieldType.int)) ∈ lw_all := lw_g (lw_at lw_m15 59 rfl) rfl
theorem q3545 : (Jvm.Cond.instanceMethod ({ cls := "DoughLedgerModel", name := "addBowl", desc := "(I)I" } : Jvm.MethodName)) ∈ lw_all := lw_g (lw_at lw_m15 61 rfl) rfl
theorem q3546 : (Jvm.Cond.selects "DoughLedgerModel" ({ cls := "DoughLedgerModel", name := "addBowl", desc := "(I)I" } : Jvm.MethodName) ({ cls := "DoughLedgerModel", name := "addBowl", desc := "(I)I" } : Jvm.MethodName)) ∈ lw_all := lw_g (lw_at lw_m15 62 rfl) rfl
theorem q3547 : (Jvm.Cond.code ({ cls := "DoughLedgerModel", name := "addBowl", desc := "(I)I" } : Jvm.MethodName) prog_21_method_33_code (3 : Nat) (Option.some Jvm.ClassFile.FieldType.int)) ∈ lw_all := lw_g (lw_at lw_m15 63 rfl) rfl
theorem q3548 : (Jvm.Cond.methodLink "DoughLedgerModel" (124 : Nat) ({ cls := "DoughLedgerModel", name := "notBowl", desc := "(I)I" } : Jvm.MethodName)) ∈ lw_all := lw_g (lw_at lw_m15 64 rfl) rfl
theorem q3549 : (Jvm.Cond.privateMethod ({ cls := "DoughLedgerModel", name := "notBowl", desc := "(I)I" } : Jvm.MethodName)) ∈ lw_tbl := lw_at lw_m15 65 rfl
theorem q3550 : (Jvm.Cond.instanceMethod ({ cls := "DoughLedgerModel", name := "notBowl", desc := "(I)I" } : Jvm.MethodName)) ∈ lw_all := lw_g (lw_at lw_m15 66 rfl) rfl
theorem q3551 : (Jvm.Cond.code ({ cls := "DoughLedgerModel", name := "notBowl", desc := "(I)I" } : Jvm.MethodName) prog_21_method_31_code (2 : Nat) (Option.some Jvm.ClassFile.FieldType.int)) ∈ lw_all := lw_g (lw_at lw_m15 67 rfl) rfl
theorem q3552 : (Jvm.Cond.methodLink "DoughLedgerModel" (127 : Nat) ({ cls := "DoughLedgerModel", name := "buys", desc := "(I)I" } : Jvm.MethodName)) ∈ lw_all := lw_g (lw_at lw_m15 68 rfl) rfl
theorem q3553 : (Jvm.Cond.privateMethod ({ cls := "DoughLedgerModel", name := "buys", desc := "(I)I" } : Jvm.MethodName)) ∈ lw_tbl := lw_at lw_m15 69 rfl
theorem q3554 : (Jvm.Cond.instanceMethod ({ cls := "DoughLedgerModel", name := "buys", desc := "(I)I" } : Jvm.MethodName)) ∈ lw_all := lw_g (lw_at lw_m15 70 rfl) rfl
theorem q3555 : (Jvm.Cond.code ({ cls := "DoughLedgerModel", name := "buys", desc := "(I)I" } : Jvm.MethodName) prog_21_method_32_code (2 : Nat) (Option.some Jvm.ClassFile.FieldType.int)) ∈ lw_all := lw_g (lw_at lw_m15 71 rfl) rfl
theorem q3557 : (Jvm.Cond.instanceMethod ({ cls := "DoughLedgerModel", name := "addLoaf", desc := "(II)I" } : Jvm.MethodName)) ∈ lw_all := lw_g (lw_at lw_m15 73 rfl) rfl
theorem q3558 : (Jvm.Cond.selects "DoughLedgerModel" ({ cls := "DoughLedgerModel", name := "addLoaf", desc := "(II)I" } : Jvm.MethodName) ({ cls := "DoughLedgerModel", name := "addLoaf", desc := "(II)I" } : Jvm.MethodName)) ∈ lw_all := lw_g (lw_at lw_m15 74 rfl) rfl
theorem q3559 : (Jvm.Cond.code ({ cls := "DoughLedgerModel", name := "addLoaf", desc := "(II)I" } : Jvm.MethodName) prog_21_method_36_code (4 : Nat) (Option.some Jvm.ClassFile.FieldType.int)) ∈ lw_all := lw_g (lw_at lw_m15 75 rfl) rfl
theorem q3560 : (Jvm.Cond.methodLink "DoughLedgerModel" (130 : Nat) ({ cls := "DoughLedgerModel", name := "notLoaf", desc := "(II)I" } : Jvm.MethodName)) ∈ lw_all := lw_g (lw_at lw_m15 76 rfl) rfl
theorem q3561 : (Jvm.Cond.privateMethod ({ cls := "DoughLedgerModel", name := "notLoaf", desc := "(II)I" } : Jvm.MethodName)) ∈ lw_tbl := lw_at lw_m15 77 rfl
theorem q3562 : (Jvm.Cond.instanceMethod ({ cls := "DoughLedgerModel", name := "notLoaf", desc := "(II)I" } : Jvm.MethodName)) ∈ lw_all := lw_g (lw_at lw_m15 78 rfl) rfl
theorem q3563 : (Jvm.Cond.code ({ cls := "DoughLedgerModel", name := "notLoaf", desc := "(II)I" } : Jvm.MethodName) prog_21_method_34_code (3 : Nat) (Option.some Jvm.ClassFile.FieldType.int)) ∈ lw_all := lw_g (lw_at lw_m15 79 rfl) rfl
theorem q3564 : (Jvm.Cond.methodLink "DoughLedgerModel" (133 : Nat) ({ cls := "DoughLedgerModel", name := "forms", desc := "(II)I" } : Jvm.MethodName)) ∈ lw_all := lw_g (lw_at lw_m15 80 rfl) rfl
theorem q3565 : (Jvm.Cond.privateMethod ({ cls := "DoughLedgerModel", name := "forms", desc := "(II)I" } : Jvm.MethodName)) ∈ lw_tbl := lw_at lw_m15 81 rfl
theorem q3566 : (Jvm.Cond.instanceMethod ({ cls := "DoughLedgerModel", name := "forms", desc := "(II)I" } : Jvm.MethodName)) ∈ lw_all := lw_g (lw_at lw_m15 82 rfl) rfl
theorem q3567 : (Jvm.Cond.code ({ cls := "DoughLedgerModel", name := "forms", desc := "(II)I" } : Jvm.MethodName) prog_21_method_35_code (4 : Nat) (Option.some Jvm.ClassFile.FieldType.int)) ∈ lw_all := lw_g (lw_at lw_m15 83 rfl) rfl
theorem q3569 : (Jvm.Cond.instanceMethod ({ cls := "DoughLedgerModel", name := "sellLoaf", desc := "(I)I" } : Jvm.MethodName)) ∈ lw_all := lw_g (lw_at lw_m15 85 rfl) rfl
theorem q3570 : (Jvm.Cond.selects "DoughLedgerModel" ({ cls := "DoughLedgerModel", name := "sellLoaf", desc := "(I)I" } : Jvm.MethodName) ({ cls := "DoughLedgerModel", name := "sellLoaf", desc := "(I)I" } : Jvm.MethodName)) ∈ lw_all := lw_g (lw_at lw_m15 86 rfl) rfl
theorem q3571 : (Jvm.Cond.code ({ cls := "DoughLedgerModel", name := "sellLoaf", desc := "(I)I" } : Jvm.MethodName) prog_21_method_38_code (2 : Nat) (Option.some Jvm.ClassFile.FieldType.int)) ∈ lw_all := lw_g (lw_at lw_m15 87 rfl) rfl
theorem q3572 : (Jvm.Cond.methodLink "DoughLedgerModel" (136 : Nat) ({ cls := "DoughLedgerModel", name := "isLoaf", desc := "(I)Z" } : Jvm.MethodName)) ∈ lw_all := lw_g (lw_at lw_m15 88 rfl) rfl
theorem q3573 : (Jvm.Cond.privateMethod ({ cls := "DoughLedgerModel", name := "isLoaf", desc := "(I)Z" } : Jvm.MethodName)) ∈ lw_tbl := lw_at lw_m15 89 rfl
theorem q3574 : (Jvm.Cond.instanceMethod ({ cls := "DoughLedgerModel", name := "isLoaf", desc := "(I)Z" } : Jvm.MethodName)) ∈ lw_all := lw_g (lw_at lw_m15 90 rfl) rfl
theorem q3575 : (Jvm.Cond.code ({ cls := "DoughLedgerModel", name := "isLoaf", desc := "(I)Z" } : Jvm.MethodName) prog_21_method_27_code (2 : Nat) (Option.some Jvm.ClassFile.FieldType.boolean)) ∈ lw_all := lw_g (lw_at lw_m15 91 rfl) rfl
theorem q3576 : (Jvm.Cond.methodLink "DoughLedgerModel" (139 : Nat) ({ cls := "DoughLedgerModel", name := "sells", desc := "(I)I" } : Jvm.MethodName)) ∈ lw_all := lw_g (lw_at lw_m15 92 rfl) rfl
theorem q3577 : (Jvm.Cond.privateMethod ({ cls := "DoughLedgerModel", name := "sells", desc := "(I)I" } : Jvm.MethodName)) ∈ lw_tbl := lw_at lw_m15 93 rfl
theorem q3578 : (Jvm.Cond.instanceMethod ({ cls := "DoughLedgerModel", name := "sells", desc := "(I)I" } : Jvm.MethodName)) ∈ lw_all := lw_g (lw_at lw_m15 94 rfl) rfl
theorem q3579 : (Jvm.Cond.code ({ cls := "DoughLedgerModel", name := "sells", desc := "(I)I" } : Jvm.MethodName) prog_21_method_37_code (5 : Nat) (Option.some Jvm.ClassFile.FieldType.int)) ∈ lw_all := lw_g (lw_at lw_m15 95 rfl) rfl
theorem q3580 : (Jvm.Cond.methodLink "DoughLedgerModel" (121 : Nat) ({ cls := "DoughLedgerModel", name := "loaf", desc := "(II)I" } : Jvm.MethodName)) ∈ lw_all := lw_g (lw_at lw_m15 96 rfl) rfl
theorem q3581 : (Jvm.Cond.privateMethod ({ cls := "DoughLedgerModel", name := "loaf", desc := "(II)I" } : Jvm.MethodName)) ∈ lw_tbl := lw_at lw_m15 97 rfl
theorem q3582 : (Jvm.Cond.instanceMethod ({ cls := "DoughLedgerModel", name := "loaf", desc := "(II)I" } : Jvm.MethodName)) ∈ lw_all := lw_g (lw_at lw_m15 98 rfl) rfl
theorem q3583 : (Jvm.Cond.code ({ cls := "DoughLedgerModel", name := "loaf", desc := "(II)I" } : Jvm.MethodName) prog_21_method_28_code (3 : Nat) (Option.some Jvm.ClassFile.FieldType.int)) ∈ lw_all := lw_g (lw_at lw_m15 99 rfl) rfl
theorem q3585 : (Jvm.Cond.instanceMethod ({ cls := "DoughLedgerModel", name := "setScale", desc := "(I)I" } : Jvm.MethodName)) ∈ lw_all := lw_g (lw_at lw_m15 101 rfl) rfl
theorem q3586 : (Jvm.Cond.selects "DoughLedgerModel" ({ cls := "DoughLedgerModel", name := "setScale", desc := "(I)I" } : Jvm.MethodName) ({ cls := "DoughLedgerModel", name := "setScale", desc := "(I)I" } : Jvm.MethodName)) ∈ lw_all := lw_g (lw_at lw_m15 102 rfl) rfl
theorem q3587 : (Jvm.Cond.code ({ cls := "DoughLedgerModel", name := "setScale", desc := "(I)I" } : Jvm.MethodName) prog_21_method_41_code (3 : Nat) (Option.some Jvm.ClassFile.FieldType.int)) ∈ lw_all := lw_g (lw_at lw_m15 103 rfl) rfl
theorem q3588 : (Jvm.Cond.methodLink "DoughLedgerModel" (148 : Nat) ({ cls := "DoughLedgerModel", name := "notScale", desc := "(I)I" } : Jvm.MethodName)) ∈ lw_all := lw_g (lw_at lw_m15 104 rfl) rfl
theorem q3589 : (Jvm.Cond.privateMethod ({ cls := "DoughLedgerModel", name := "notScale", desc := "(I)I" } : Jvm.MethodName)) ∈ lw_tbl := lw_at lw_m15 105 rfl
theorem q3590 : (Jvm.Cond.instanceMethod ({ cls := "DoughLedgerModel", name := "notScale", desc := "(I)I" } : Jvm.MethodName)) ∈ lw_all := lw_g (lw_at lw_m15 106 rfl) rfl
theorem q3591 : (Jvm.Cond.code ({ cls := "DoughLedgerModel", name := "notScale", desc := "(I)I" } : Jvm.MethodName) prog_21_method_39_code (2 : Nat) (Option.some Jvm.ClassFile.FieldType.int)) ∈ lw_all := lw_g (lw_at lw_m15 107 rfl) rfl
theorem q3592 : (Jvm.Cond.methodLink "DoughLedgerModel" (142 : Nat) ({ cls := "DoughLedgerModel", name := "contents", desc := "()I" } : Jvm.MethodName)) ∈ lw_all := lw_g (lw_at lw_m15 108 rfl) rfl
theorem q3593 : (Jvm.Cond.privateMethod ({ cls := "DoughLedgerModel", name := "contents", desc := "()I" } : Jvm.MethodName)) ∈ lw_tbl := lw_at lw_m15 109 rfl
theorem q3594 : (Jvm.Cond.instanceMethod ({ cls := "DoughLedgerModel", name := "contents", desc := "()I" } : Jvm.MethodName)) ∈ lw_all := lw_g (lw_at lw_m15 110 rfl) rfl
theorem q3595 : (Jvm.Cond.code ({ cls := "DoughLedgerModel", name := "contents", desc := "()I" } : Jvm.MethodName) prog_21_method_29_code (3 : Nat) (Option.some Jvm.ClassFile.FieldType.int)) ∈ lw_all := lw_g (lw_at lw_m15 111 rfl) rfl
theorem q3596 : (Jvm.Cond.methodLink "DoughLedgerModel" (118 : Nat) ({ cls := "DoughLedgerModel", name := "bowl", desc := "(II)I" } : Jvm.MethodName)) ∈ lw_all := lw_g (lw_at lw_m15 112 rfl) rfl
theorem q3597 : (Jvm.Cond.privateMethod ({ cls := "DoughLedgerModel", name := "bowl", desc := "(II)I" } : Jvm.MethodName)) ∈ lw_tbl := lw_at lw_m15 113 rfl
theorem q3598 : (Jvm.Cond.instanceMethod ({ cls := "DoughLedgerModel", name := "bowl", desc := "(II)I" } : Jvm.MethodName)) ∈ lw_all := lw_g (lw_at lw_m15 114 rfl) rfl
theorem q3599 : (Jvm.Cond.code ({ cls := "DoughLedgerModel", name := "bowl", desc := "(II)I" } : Jvm.MethodName) prog_21_method_26_code (3 : Nat) (Option.some Jvm.ClassFile.FieldType.int)) ∈ lw_all := lw_g (lw_at lw_m15 115 rfl) rfl
theorem q3600 : (Jvm.Cond.methodLink "DoughLedgerModel" (145 : Nat) ({ cls := "DoughLedgerModel", name := "inLoaves", desc := "()I" } : Jvm.MethodName)) ∈ lw_all := lw_g (lw_at lw_m15 116 rfl) rfl
theorem q3601 : (Jvm.Cond.privateMethod ({ cls := "DoughLedgerModel", name := "inLoaves", desc := "()I" } : Jvm.MethodName)) ∈ lw_tbl := lw_at lw_m15 117 rfl
theorem q3602 : (Jvm.Cond.instanceMethod ({ cls := "DoughLedgerModel", name := "inLoaves", desc := "()I" } : Jvm.MethodName)) ∈ lw_all := lw_g (lw_at lw_m15 118 rfl) rfl
theorem q3603 : (Jvm.Cond.code ({ cls := "DoughLedgerModel", name := "inLoaves", desc := "()I" } : Jvm.MethodName) prog_21_method_30_code (3 : Nat) (Option.some Jvm.ClassFile.FieldType.int)) ∈ lw_all := lw_g (lw_at lw_m15 119 rfl) rfl
theorem q3604 : (Jvm.Cond.methodLink "DoughLedgerModel" (151 : Nat) ({ cls := "DoughLedgerModel", name := "takes", desc := "(II)I" } : Jvm.MethodName)) ∈ lw_all := lw_g (lw_at lw_m15 120 rfl) rfl
theorem q3605 : (Jvm.Cond.privateMethod ({ cls := "DoughLedgerModel", name := "takes", desc := "(II)I" } : Jvm.MethodName)) ∈ lw_tbl := lw_at lw_m15 121 rfl
theorem q3606 : (Jvm.Cond.instanceMethod ({ cls := "DoughLedgerModel", name := "takes", desc := "(II)I" } : Jvm.MethodName)) ∈ lw_all := lw_g (lw_at lw_m15 122 rfl) rfl
theorem q3607 : (Jvm.Cond.code ({ cls := "DoughLedgerModel", name := "takes", desc := "(II)I" } : Jvm.MethodName) prog_21_method_40_code (4 : Nat) (Option.some Jvm.ClassFile.FieldType.int)) ∈ lw_all := lw_g (lw_at lw_m15 123 rfl) rfl
theorem q3609 : (Jvm.Cond.instanceMethod ({ cls := "DoughLedgerModel", name := "setRounding", desc := "(C)C" } : Jvm.MethodName)) ∈ lw_all := lw_g (lw_at lw_m15 125 rfl) rfl
theorem q3610 : (Jvm.Cond.selects "DoughLedgerModel" ({ cls := "DoughLedgerModel", name := "setRounding", desc := "(C)C" } : Jvm.MethodName) ({ cls := "DoughLedgerModel", name := "setRounding", desc := "(C)C" } : Jvm.MethodName)) ∈ lw_all := lw_g (lw_at lw_m15 126 rfl) rfl
theorem q3611 : (Jvm.Cond.code ({ cls := "DoughLedgerModel", name := "setRounding", desc := "(C)C" } : Jvm.MethodName) prog_21_method_43_code (2 : Nat) (Option.some Jvm.ClassFile.FieldType.char)) ∈ lw_all := lw_g (lw_at lw_m15 127 rfl) rfl
theorem q3612 : (Jvm.Cond.methodLink "DoughLedgerModel" (154 : Nat) ({ cls := "DoughLedgerModel", name := "isRule", desc := "(I)Z" } : Jvm.MethodName)) ∈ lw_all := lw_g (lw_at lw_m15 128 rfl) rfl
theorem q3613 : (Jvm.Cond.static ({ cls := "DoughLedgerModel", name := "isRule", desc := "(I)Z" } : Jvm.MethodName)) ∈ lw_all := lw_g (lw_at lw_m15 129 rfl) rfl
theorem q3614 : (Jvm.Cond.code ({ cls := "DoughLedgerModel", name := "isRule", desc := "(I)Z" } : Jvm.MethodName) prog_21_method_42_code (1 : Nat) (Option.some Jvm.ClassFile.FieldType.boolean)) ∈ lw_all := lw_g (lw_at lw_m15 130 rfl) rfl
theorem q3616 : (Jvm.Cond.instanceMethod ({ cls := "DoughLedgerModel", name := "pour", desc := "(II)I" } : Jvm.MethodName)) ∈ lw_all := lw_g (lw_at lw_m15 132 rfl) rfl
theorem q3617 : (Jvm.Cond.selects "DoughLedgerModel" ({ cls := "DoughLedgerModel", name := "pour", desc := "(II)I" } : Jvm.MethodName) ({ cls := "DoughLedgerModel", name := "pour", desc := "(II)I" } : Jvm.MethodName)) ∈ lw_all := lw_g (lw_at lw_m15 133 rfl) rfl
theorem q3618 : (Jvm.Cond.code ({ cls := "DoughLedgerModel", name := "pour", desc := "(II)I" } : Jvm.MethodName) prog_21_method_46_code (3 : Nat) (Option.some Jvm.ClassFile.FieldType.int)) ∈ lw_all := lw_g (lw_at lw_m15 134 rfl) rfl
theorem q3619 : (Jvm.Cond.methodLink "DoughLedgerModel" (164 : Nat) ({ cls := "DoughLedgerModel", name := "notPour", desc := "(II)I" } : Jvm.MethodName)) ∈ lw_all := lw_g (lw_at lw_m15 135 rfl) rfl
theorem q3620 : (Jvm.Cond.privateMethod ({ cls := "DoughLedgerModel", name := "notPour", desc := "(II)I" } : Jvm.MethodName)) ∈ lw_tbl := lw_at lw_m15 136 rfl
theorem q3621 : (Jvm.Cond.instanceMethod ({ cls := "DoughLedgerModel", name := "notPour", desc := "(II)I" } : Jvm.MethodName)) ∈ lw_all := lw_g (lw_at lw_m15 137 rfl) rfl
theorem q3622 : (Jvm.Cond.code ({ cls := "DoughLedgerModel", name := "notPour", desc := "(II)I" } : Jvm.MethodName) prog_21_method_44_code (3 : Nat) (Option.some Jvm.ClassFile.FieldType.int)) ∈ lw_all := lw_g (lw_at lw_m15 138 rfl) rfl
theorem q3623 : (Jvm.Cond.methodLink "DoughLedgerModel" (157 : Nat) ({ cls := "DoughLedgerModel", name := "isBowl", desc := "(I)Z" } : Jvm.MethodName)) ∈ lw_all := lw_g (lw_at lw_m15 139 rfl) rfl
theorem q3624 : (Jvm.Cond.privateMethod ({ cls := "DoughLedgerModel", name := "isBowl", desc := "(I)Z" } : Jvm.MethodName)) ∈ lw_tbl := lw_at lw_m15 140 rfl
theorem q3625 : (Jvm.Cond.instanceMethod ({ cls := "DoughLedgerModel", name := "isBowl", desc := "(I)Z" } : Jvm.MethodName)) ∈ lw_all := lw_g (lw_at lw_m15 141 rfl) rfl
theorem q3626 : (Jvm.Cond.code ({ cls := "DoughLedgerModel", name := "isBowl", desc := "(I)Z" } : Jvm.MethodName) prog_21_method_25_code (2 : Nat) (Option.some Jvm.ClassFile.FieldType.boolean)) ∈ lw_all := lw_g (lw_at lw_m15 142 rfl) rfl
theorem q3627 : (Jvm.Cond.methodLink "DoughLedgerModel" (167 : Nat) ({ cls := "DoughLedgerModel", name := "pours", desc := "(II)I" } : Jvm.MethodName)) ∈ lw_all := lw_g (lw_at lw_m15 143 rfl) rfl
theorem q3628 : (Jvm.Cond.privateMethod ({ cls := "DoughLedgerModel", name := "pours", desc := "(II)I" } : Jvm.MethodName)) ∈ lw_tbl := lw_at lw_m15 144 rfl
theorem q3629 : (Jvm.Cond.instanceMethod ({ cls := "DoughLedgerModel", name := "pours", desc := "(II)I" } : Jvm.MethodName)) ∈ lw_all := lw_g (lw_at lw_m15 145 rfl) rfl
theorem q3630 : (Jvm.Cond.code ({ cls := "DoughLedgerModel", name := "pours", desc := "(II)I" } : Jvm.MethodName) prog_21_method_45_code (7 : Nat) (Option.some Jvm.ClassFile.FieldType.int)) ∈ lw_all := lw_g (lw_at lw_m15 146 rfl) rfl
theorem q3631 : (Jvm.Cond.methodLink "DoughLedgerModel" (113 : Nat) ({ cls := "DoughLedgerModel", name := "crumbs", desc := "(I)I" } : Jvm.MethodName)) ∈ lw_all := lw_g (lw_at lw_m15 147 rfl) rfl
theorem q3632 : (Jvm.Cond.privateMethod ({ cls := "DoughLedgerModel", name := "crumbs", desc := "(I)I" } : Jvm.MethodName)) ∈ lw_tbl := lw_at lw_m15 148 rfl
theorem q3633 : (Jvm.Cond.instanceMethod ({ cls := "DoughLedgerModel", name := "crumbs", desc := "(I)I" } : Jvm.MethodName)) ∈ lw_all := lw_g (lw_at lw_m15 149 rfl) rfl
theorem q3634 : (Jvm.Cond.code ({ cls := "DoughLedgerModel", name := "crumbs", desc := "(I)I" } : Jvm.MethodName) prog_21_method_23_code (6 : Nat) (Option.some Jvm.ClassFile.FieldType.int)) ∈ lw_all := lw_g (lw_at lw_m15 150 rfl) rfl
theorem q3635 : (Jvm.Cond.methodLink "DoughLedgerModel" (109 : Nat) ({ cls := "DoughLedgerModel", name := "power", desc := "()I" } : Jvm.MethodName)) ∈ lw_all := lw_g (lw_at lw_m15 151 rfl) rfl
theorem q3636 : (Jvm.Cond.privateMethod ({ cls := "DoughLedgerModel", name := "power", desc := "()I" } : Jvm.MethodName)) ∈ lw_tbl := lw_at lw_m15 152 rfl
theorem q3637 : (Jvm.Cond.instanceMethod ({ cls := "DoughLedgerModel", name := "power", desc := "()I" } : Jvm.MethodName)) ∈ lw_all := lw_g (lw_at lw_m15 153 rfl) rfl
theorem q3638 : (Jvm.Cond.code ({ cls := "DoughLedgerModel", name := "power", desc := "()I" } : Jvm.MethodName) prog_21_method_22_code (3 : Nat) (Option.some Jvm.ClassFile.FieldType.int)) ∈ lw_all := lw_g (lw_at lw_m15 154 rfl) rfl
theorem q3639 : (Jvm.Cond.methodLink "DoughLedgerModel" (160 : Nat) ({ cls := "DoughLedgerModel", name := "error", desc := "(I)J" } : Jvm.MethodName)) ∈ lw_all := lw_g (lw_at lw_m15 155 rfl) rfl
theorem q3640 : (Jvm.Cond.privateMethod ({ cls := "DoughLedgerModel", name := "error", desc := "(I)J" } : Jvm.MethodName)) ∈ lw_tbl := lw_at lw_m15 156 rfl
theorem q3641 : (Jvm.Cond.instanceMethod ({ cls := "DoughLedgerModel", name := "error", desc := "(I)J" } : Jvm.MethodName)) ∈ lw_all := lw_g (lw_at lw_m15 157 rfl) rfl
theorem q3642 : (Jvm.Cond.code ({ cls := "DoughLedgerModel", name := "error", desc := "(I)J" } : Jvm.MethodName) prog_21_method_24_code (4 : Nat) (Option.some Jvm.ClassFile.FieldType.long)) ∈ lw_all := lw_g (lw_at lw_m15 158 rfl) rfl
theorem q3643 : (Jvm.Cond.constantLong "DoughLedgerModel" (116 : Nat) (27720 : Int64)) ∈ lw_all := lw_g (lw_at lw_m15 159 rfl) rfl
theorem q3645 : (Jvm.Cond.instanceMethod ({ cls := "DoughLedgerModel", name := "empty", desc := "(I)I" } : Jvm.MethodName)) ∈ lw_all := lw_g (lw_at lw_m15 161 rfl) rfl
theorem q3646 : (Jvm.Cond.selects "DoughLedgerModel" ({ cls := "DoughLedgerModel", name := "empty", desc := "(I)I" } : Jvm.MethodName) ({ cls := "DoughLedgerModel", name := "empty", desc := "(I)I" } : Jvm.MethodName)) ∈ lw_all := lw_g (lw_at lw_m15 162 rfl) rfl
theorem q3647 : (Jvm.Cond.code ({ cls := "DoughLedgerModel", name := "empty", desc := "(I)I" } : Jvm.MethodName) prog_21_method_48_code (2 : Nat) (Option.some Jvm.ClassFile.FieldType.int)) ∈ lw_all := lw_g (lw_at lw_m15 163 rfl) rfl
theorem q3648 : (Jvm.Cond.methodLink "DoughLedgerModel" (170 : Nat) ({ cls := "DoughLedgerModel", name := "empties", desc := "(I)I" } : Jvm.MethodName)) ∈ lw_all := lw_g (lw_at lw_m15 164 rfl) rfl
theorem q3649 : (Jvm.Cond.privateMethod ({ cls := "DoughLedgerModel", name := "empties", desc := "(I)I" } : Jvm.MethodName)) ∈ lw_tbl := lw_at lw_m15 165 rfl
theorem q3650 : (Jvm.Cond.instanceMethod ({ cls := "DoughLedgerModel", name := "empties", desc := "(I)I" } : Jvm.MethodName)) ∈ lw_all := lw_g (lw_at lw_m15 166 rfl) rfl
theorem q3651 : (Jvm.Cond.code ({ cls := "DoughLedgerModel", name := "empties", desc := "(I)I" } : Jvm.MethodName) prog_21_method_47_code (3 : Nat) (Option.some Jvm.ClassFile.FieldType.int)) ∈ lw_all := lw_g (lw_at lw_m15 167 rfl) rfl
theorem q3653 : (Jvm.Cond.instanceMethod ({ cls := "DoughLedgerModel", name := "bake", desc := "(I)I" } : Jvm.MethodName)) ∈ lw_all := lw_g (lw_at lw_m15 169 rfl) rfl
theorem q3654 : (Jvm.Cond.selects "DoughLedgerModel" ({ cls := "DoughLedgerModel", name := "bake", desc := "(I)I" } : Jvm.MethodName) ({ cls := "DoughLedgerModel", name := "bake", desc := "(I)I" } : Jvm.MethodName)) ∈ lw_all := lw_g (lw_at lw_m15 170 rfl) rfl
theorem q3655 : (Jvm.Cond.code ({ cls := "DoughLedgerModel", name := "bake", desc := "(I)I" } : Jvm.MethodName) prog_21_method_55_code (3 : Nat) (Option.some Jvm.ClassFile.FieldType.int)) ∈ lw_all := lw_g (lw_at lw_m15 171 rfl) rfl
theorem q3656 : (Jvm.Cond.methodLink "DoughLedgerModel" (185 : Nat) ({ cls := "DoughLedgerModel", name := "notBake", desc := "(I)I" } : Jvm.MethodName)) ∈ lw_all := lw_g (lw_at lw_m15 172 rfl) rfl
theorem q3657 : (Jvm.Cond.privateMethod ({ cls := "DoughLedgerModel", name := "notBake", desc := "(I)I" } : Jvm.MethodName)) ∈ lw_tbl := lw_at lw_m15 173 rfl
theorem q3658 : (Jvm.Cond.instanceMethod ({ cls := "DoughLedgerModel", name := "notBake", desc := "(I)I" } : Jvm.MethodName)) ∈ lw_all := lw_g (lw_at lw_m15 174 rfl) rfl
theorem q3659 : (Jvm.Cond.code ({ cls := "DoughLedgerModel", name := "notBake", desc := "(I)I" } : Jvm.MethodName) prog_21_method_53_code (2 : Nat) (Option.some Jvm.ClassFile.FieldType.int)) ∈ lw_all := lw_g (lw_at lw_m15 175 rfl) rfl
theorem q3660 : (Jvm.Cond.methodLink "DoughLedgerModel" (188 : Nat) ({ cls := "DoughLedgerModel", name := "bakes", desc := "(I)I" } : Jvm.MethodName)) ∈ lw_all := lw_g (lw_at lw_m15 176 rfl) rfl
theorem q3661 : (Jvm.Cond.privateMethod ({ cls := "DoughLedgerModel", name := "bakes", desc := "(I)I" } : Jvm.MethodName)) ∈ lw_tbl := lw_at lw_m15 177 rfl
theorem q3662 : (Jvm.Cond.instanceMethod ({ cls := "DoughLedgerModel", name := "bakes", desc := "(I)I" } : Jvm.MethodName)) ∈ lw_all := lw_g (lw_at lw_m15 178 rfl) rfl
theorem q3663 : (Jvm.Cond.code ({ cls := "DoughLedgerModel", name := "bakes", desc := "(I)I" } : Jvm.MethodName) prog_21_method_54_code (4 : Nat) (Option.some Jvm.ClassFile.FieldType.int)) ∈ lw_all := lw_g (lw_at lw_m15 179 rfl) rfl
theorem q3664 : (Jvm.Cond.methodLink "DoughLedgerModel" (182 : Nat) ({ cls := "DoughLedgerModel", name := "shared", desc := "(II)I" } : Jvm.MethodName)) ∈ lw_all := lw_g (lw_at lw_m15 180 rfl) rfl
theorem q3665 : (Jvm.Cond.privateMethod ({ cls := "DoughLedgerModel", name := "shared", desc := "(II)I" } : Jvm.MethodName)) ∈ lw_tbl := lw_at lw_m15 181 rfl
theorem q3666 : (Jvm.Cond.instanceMethod ({ cls := "DoughLedgerModel", name := "shared", desc := "(II)I" } : Jvm.MethodName)) ∈ lw_all := lw_g (lw_at lw_m15 182 rfl) rfl
theorem q3667 : (Jvm.Cond.code ({ cls := "DoughLedgerModel", name := "shared", desc := "(II)I" } : Jvm.MethodName) prog_21_method_52_code (6 : Nat) (Option.some Jvm.ClassFile.FieldType.int)) ∈ lw_all := lw_g (lw_at lw_m15 183 rfl) rfl
theorem q3668 : (Jvm.Cond.methodLink "DoughLedgerModel" (176 : Nat) ({ cls := "DoughLedgerModel", name := "quota", desc := "(II)I" } : Jvm.MethodName)) ∈ lw_all := lw_g (lw_at lw_m15 184 rfl) rfl
theorem q3669 : (Jvm.Cond.privateMethod ({ cls := "DoughLedgerModel", name := "quota", desc := "(II)I" } : Jvm.MethodName)) ∈ lw_tbl := lw_at lw_m15 185 rfl
theorem q3670 : (Jvm.Cond.instanceMethod ({ cls := "DoughLedgerModel", name := "quota", desc := "(II)I" } : Jvm.MethodName)) ∈ lw_all := lw_g (lw_at lw_m15 186 rfl) rfl
theorem q3671 : (Jvm.Cond.code ({ cls := "DoughLedgerModel", name := "quota", desc := "(II)I" } : Jvm.MethodName) prog_21_method_50_code (3 : Nat) (Option.some Jvm.ClassFile.FieldType.int)) ∈ lw_all := lw_g (lw_at lw_m15 187 rfl) rfl
theorem q3672 : (Jvm.Cond.methodLink "DoughLedgerModel" (173 : Nat) ({ cls := "DoughLedgerModel", name := "weights", desc := "()I" } : Jvm.MethodName)) ∈ lw_all := lw_g (lw_at lw_m15 188 rfl) rfl
theorem q3673 : (Jvm.Cond.privateMethod ({ cls := "DoughLedgerModel", name := "weights", desc := "()I" } : Jvm.MethodName)) ∈ lw_tbl := lw_at lw_m15 189 rfl
theorem q3674 : (Jvm.Cond.instanceMethod ({ cls := "DoughLedgerModel", name := "weights", desc := "()I" } : Jvm.MethodName)) ∈ lw_all := lw_g (lw_at lw_m15 190 rfl) rfl
theorem q3675 : (Jvm.Cond.code ({ cls := "DoughLedgerModel", name := "weights", desc := "()I" } : Jvm.MethodName) prog_21_method_49_code (3 : Nat) (Option.some Jvm.ClassFile.FieldType.int)) ∈ lw_all := lw_g (lw_at lw_m15 191 rfl) rfl
theorem q3676 : (Jvm.Cond.methodLink "DoughLedgerModel" (179 : Nat) ({ cls := "DoughLedgerModel", name := "rest", desc := "(II)I" } : Jvm.MethodName)) ∈ lw_all := lw_g (lw_at lw_m15 192 rfl) rfl
theorem q3677 : (Jvm.Cond.privateMethod ({ cls := "DoughLedgerModel", name := "rest", desc := "(II)I" } : Jvm.MethodName)) ∈ lw_tbl := lw_at lw_m15 193 rfl
theorem q3678 : (Jvm.Cond.instanceMethod ({ cls := "DoughLedgerModel", name := "rest", desc := "(II)I" } : Jvm.MethodName)) ∈ lw_all := lw_g (lw_at lw_m15 194 rfl) rfl
theorem q3679 : (Jvm.Cond.code ({ cls := "DoughLedgerModel", name := "rest", desc := "(II)I" } : Jvm.MethodName) prog_21_method_51_code (3 : Nat) (Option.some Jvm.ClassFile.FieldType.int)) ∈ lw_all := lw_g (lw_at lw_m15 195 rfl) rfl
theorem q3681 : (Jvm.Cond.instanceMethod ({ cls := "DoughLedgerModel", name := "setOvens", desc := "(I)I" } : Jvm.MethodName)) ∈ lw_all := lw_g (lw_at lw_m15 197 rfl) rfl
theorem q3682 : (Jvm.Cond.selects "DoughLedgerModel" ({ cls := "DoughLedgerModel", name := "setOvens", desc := "(I)I" } : Jvm.MethodName) ({ cls := "DoughLedgerModel", name := "setOvens", desc := "(I)I" } : Jvm.MethodName)) ∈ lw_all := lw_g (lw_at lw_m15 198 rfl) rfl
theorem q3683 : (Jvm.Cond.code ({ cls := "DoughLedgerModel", name := "setOvens", desc := "(I)I" } : Jvm.MethodName) prog_21_method_57_code (2 : Nat) (Option.some Jvm.ClassFile.FieldType.int)) ∈ lw_all := lw_g (lw_at lw_m15 199 rfl) rfl
theorem q3684 : (Jvm.Cond.methodLink "DoughLedgerModel" (191 : Nat) ({ cls := "DoughLedgerModel", name := "notOvens", desc := "(I)I" } : Jvm.MethodName)) ∈ lw_all := lw_g (lw_at lw_m15 200 rfl) rfl
theorem q3685 : (Jvm.Cond.static ({ cls := "DoughLedgerModel", name := "notOvens", desc := "(I)I" } : Jvm.MethodName)) ∈ lw_all := lw_g (lw_at lw_m15 201 rfl) rfl
theorem q3686 : (Jvm.Cond.code ({ cls := "DoughLedgerModel", name := "notOvens", desc := "(I)I" } : Jvm.MethodName) prog_21_method_56_code (1 : Nat) (Option.some Jvm.ClassFile.FieldType.int)) ∈ lw_all := lw_g (lw_at lw_m15 202 rfl) rfl
theorem q3688 : (Jvm.Cond.instanceMethod ({ cls := "DoughLedgerModel", name := "doughCount", desc := "()I" } : Jvm.MethodName)) ∈ lw_all := lw_g (lw_at lw_m15 204 rfl) rfl
theorem q3689 : (Jvm.Cond.selects "DoughLedgerModel" ({ cls := "DoughLedgerModel", name := "doughCount", desc := "()I" } : Jvm.MethodName) ({ cls := "DoughLedgerModel", name := "doughCount", desc := "()I" } : Jvm.MethodName)) ∈ lw_all := lw_g (lw_at lw_m15 205 rfl) rfl
theorem q3690 : (Jvm.Cond.code ({ cls := "DoughLedgerModel", name := "doughCount", desc := "()I" } : Jvm.MethodName) prog_21_method_59_code (1 : Nat) (Option.some Jvm.ClassFile.FieldType.int)) ∈ lw_all := lw_g (lw_at lw_m15 206 rfl) rfl
theorem q3691 : (Jvm.Cond.methodLink "DoughLedgerModel" (194 : Nat) ({ cls := "DoughLedgerModel", name := "told", desc := "(I)I" } : Jvm.MethodName)) ∈ lw_all := lw_g (lw_at lw_m15 207 rfl) rfl
theorem q3692 : (Jvm.Cond.privateMethod ({ cls := "DoughLedgerModel", name := "told", desc := "(I)I" } : Jvm.MethodName)) ∈ lw_tbl := lw_at lw_m15 208 rfl
theorem q3693 : (Jvm.Cond.instanceMethod ({ cls := "DoughLedgerModel", name := "told", desc := "(I)I" } : Jvm.MethodName)) ∈ lw_all := lw_g (lw_at lw_m15 209 rfl) rfl
theorem q3694 : (Jvm.Cond.code ({ cls := "DoughLedgerModel", name := "told", desc := "(I)I" } : Jvm.MethodName) prog_21_method_58_code (2 : Nat) (Option.some Jvm.ClassFile.FieldType.int)) ∈ lw_all := lw_g (lw_at lw_m15 210 rfl) rfl
theorem q3696 : (Jvm.Cond.instanceMethod ({ cls := "DoughLedgerModel", name := "numeratorOf", desc := "(I)I" } : Jvm.MethodName)) ∈ lw_all := lw_g (lw_at lw_m15 212 rfl) rfl
theorem q3697 : (Jvm.Cond.selects "DoughLedgerModel" ({ cls := "DoughLedgerModel", name := "numeratorOf", desc := "(I)I" } : Jvm.MethodName) ({ cls := "DoughLedgerModel", name := "numeratorOf", desc := "(I)I" } : Jvm.MethodName)) ∈ lw_all := lw_g (lw_at lw_m15 213 rfl) rfl
theorem q3698 : (Jvm.Cond.code ({ cls := "DoughLedgerModel", name := "numeratorOf", desc := "(I)I" } : Jvm.MethodName) prog_21_method_61_code (2 : Nat) (Option.some Jvm.ClassFile.FieldType.int)) ∈ lw_all := lw_g (lw_at lw_m15 214 rfl) rfl
theorem q3699 : (Jvm.Cond.methodLink "DoughLedgerModel" (197 : Nat) ({ cls := "DoughLedgerModel", name := "ofDough", desc := "(II)I" } : Jvm.MethodName)) ∈ lw_all := lw_g (lw_at lw_m15 215 rfl) rfl
theorem q3700 : (Jvm.Cond.privateMethod ({ cls := "DoughLedgerModel", name := "ofDough", desc := "(II)I" } : Jvm.MethodName)) ∈ lw_tbl := lw_at lw_m15 216 rfl
theorem q3701 : (Jvm.Cond.instanceMethod ({ cls := "DoughLedgerModel", name := "ofDough", desc := "(II)I" } : Jvm.MethodName)) ∈ lw_all := lw_g (lw_at lw_m15 217 rfl) rfl
theorem q3702 : (Jvm.Cond.code ({ cls := "DoughLedgerModel", name := "ofDough", desc := "(II)I" } : Jvm.MethodName) prog_21_method_60_code (3 : Nat) (Option.some Jvm.ClassFile.FieldType.int)) ∈ lw_all := lw_g (lw_at lw_m15 218 rfl) rfl
theorem q3704 : (Jvm.Cond.instanceMethod ({ cls := "DoughLedgerModel", name := "denominatorOf", desc := "(I)I" } : Jvm.MethodName)) ∈ lw_all := lw_g (lw_at lw_m15 220 rfl) rfl
theorem q3705 : (Jvm.Cond.selects "DoughLedgerModel" ({ cls := "DoughLedgerModel", name := "denominatorOf", desc := "(I)I" } : Jvm.MethodName) ({ cls := "DoughLedgerModel", name := "denominatorOf", desc := "(I)I" } : Jvm.MethodName)) ∈ lw_all := lw_g (lw_at lw_m15 221 rfl) rfl
theorem q3706 : (Jvm.Cond.code ({ cls := "DoughLedgerModel", name := "denominatorOf", desc := "(I)I" } : Jvm.MethodName) prog_21_method_62_code (2 : Nat) (Option.some Jvm.ClassFile.FieldType.int)) ∈ lw_all := lw_g (lw_at lw_m15 222 rfl) rfl
theorem q3708 : (Jvm.Cond.instanceMethod ({ cls := "DoughLedgerModel", name := "crumbsIn", desc := "(I)I" } : Jvm.MethodName)) ∈ lw_all := lw_g (lw_at lw_m15 224 rfl) rfl
theorem q3709 : (Jvm.Cond.selects "DoughLedgerModel" ({ cls := "DoughLedgerModel", name := "crumbsIn", desc := "(I)I" } : Jvm.MethodName) ({ cls := "DoughLedgerModel", name := "crumbsIn", desc := "(I)I" } : Jvm.MethodName)) ∈ lw_all := lw_g (lw_at lw_m15 225 rfl) rfl
theorem q3710 : (Jvm.Cond.code ({ cls := "DoughLedgerModel", name := "crumbsIn", desc := "(I)I" } : Jvm.MethodName) prog_21_method_63_code (2 : Nat) (Option.some Jvm.ClassFile.FieldType.int)) ∈ lw_all := lw_g (lw_at lw_m15 226 rfl) rfl
theorem q3712 : (Jvm.Cond.instanceMethod ({ cls := "DoughLedgerModel", name := "crumbsByDigits", desc := "(I)I" } : Jvm.MethodName)) ∈ lw_all := lw_g (lw_at lw_m15 228 rfl) rfl
theorem q3713 : (Jvm.Cond.selects "DoughLedgerModel" ({ cls := "DoughLedgerModel", name := "crumbsByDigits", desc := "(I)I" } : Jvm.MethodName) ({ cls := "DoughLedgerModel", name := "crumbsByDigits", desc := "(I)I" } : Jvm.MethodName)) ∈ lw_all := lw_g (lw_at lw_m15 229 rfl) rfl
theorem q3714 : (Jvm.Cond.code ({ cls := "DoughLedgerModel", name := "crumbsByDigits", desc := "(I)I" } : Jvm.MethodName) prog_21_method_64_code (2 : Nat) (Option.some Jvm.ClassFile.FieldType.int)) ∈ lw_all := lw_g (lw_at lw_m15 230 rfl) rfl
theorem q3715 : (Jvm.Cond.methodLink "DoughLedgerModel" (200 : Nat) ({ cls := "DoughLedgerModel", name := "crumbsIn", desc := "(I)I" } : Jvm.MethodName)) ∈ lw_all := lw_g (lw_at lw_m15 231 rfl) rfl
theorem q3717 : (Jvm.Cond.instanceMethod ({ cls := "DoughLedgerModel", name := "doughByAmount", desc := "(I)I" } : Jvm.MethodName)) ∈ lw_all := lw_g (lw_at lw_m15 233 rfl) rfl
theorem q3718 : (Jvm.Cond.selects "DoughLedgerModel" ({ cls := "DoughLedgerModel", name := "doughByAmount", desc := "(I)I" } : Jvm.MethodName) ({ cls := "DoughLedgerModel", name := "doughByAmount", desc := "(I)I" } : Jvm.MethodName)) ∈ lw_all := lw_g (lw_at lw_m15 234 rfl) rfl
theorem q3719 : (Jvm.Cond.code ({ cls := "DoughLedgerModel", name := "doughByAmount", desc := "(I)I" } : Jvm.MethodName) prog_21_method_66_code (5 : Nat) (Option.some Jvm.ClassFile.FieldType.int)) ∈ lw_all := lw_g (lw_at lw_m15 235 rfl) rfl
theorem q3720 : (Jvm.Cond.methodLink "DoughLedgerModel" (203 : Nat) ({ cls := "DoughLedgerModel", name := "isMore", desc := "(II)Z" } : Jvm.MethodName)) ∈ lw_all := lw_g (lw_at lw_m15 236 rfl) rfl
theorem q3721 : (Jvm.Cond.privateMethod ({ cls := "DoughLedgerModel", name := "isMore", desc := "(II)Z" } : Jvm.MethodName)) ∈ lw_tbl := lw_at lw_m15 237 rfl
theorem q3722 : (Jvm.Cond.instanceMethod ({ cls := "DoughLedgerModel", name := "isMore", desc := "(II)Z" } : Jvm.MethodName)) ∈ lw_all := lw_g (lw_at lw_m15 238 rfl) rfl
theorem q3723 : (Jvm.Cond.code ({ cls := "DoughLedgerModel", name := "isMore", desc := "(II)Z" } : Jvm.MethodName) prog_21_method_65_code (3 : Nat) (Option.some Jvm.ClassFile.FieldType.boolean)) ∈ lw_all := lw_g (lw_at lw_m15 239 rfl) rfl
theorem q3725 : (Jvm.Cond.instanceMethod ({ cls := "DoughLedgerModel", name := "nearestNumerator", desc := "(III)I" } : Jvm.MethodName)) ∈ lw_all := lw_g (lw_at lw_m16 1 rfl) rfl
theorem q3726 : (Jvm.Cond.selects "DoughLedgerModel" ({ cls := "DoughLedgerModel", name := "nearestNumerator", desc := "(III)I" } : Jvm.MethodName) ({ cls := "DoughLedgerModel", name := "nearestNumerator", desc := "(III)I" } : Jvm.MethodName)) ∈ lw_all := lw_g (lw_at lw_m16 2 rfl) rfl
theorem q3727 : (Jvm.Cond.code ({ cls := "DoughLedgerModel", name := "nearestNumerator", desc := "(III)I" } : Jvm.MethodName) prog_21_method_70_code (5 : Nat) (Option.some Jvm.ClassFile.FieldType.int)) ∈ lw_all := lw_g (lw_at lw_m16 3 rfl) rfl
theorem q3728 : (Jvm.Cond.methodLink "DoughLedgerModel" (220 : Nat) ({ cls := "DoughLedgerModel", name := "notNearest", desc := "(III)I" } : Jvm.MethodName)) ∈ lw_all := lw_g (lw_at lw_m16 4 rfl) rfl
theorem q3729 : (Jvm.Cond.privateMethod ({ cls := "DoughLedgerModel", name := "notNearest", desc := "(III)I" } : Jvm.MethodName)) ∈ lw_tbl := lw_at lw_m16 5 rfl
theorem q3730 : (Jvm.Cond.instanceMethod ({ cls := "DoughLedgerModel", name := "notNearest", desc := "(III)I" } : Jvm.MethodName)) ∈ lw_all := lw_g (lw_at lw_m16 6 rfl) rfl
theorem q3731 : (Jvm.Cond.code ({ cls := "DoughLedgerModel", name := "notNearest", desc := "(III)I" } : Jvm.MethodName) prog_21_method_67_code (4 : Nat) (Option.some Jvm.ClassFile.FieldType.int)) ∈ lw_all := lw_g (lw_at lw_m16 7 rfl) rfl
theorem q3732 : (Jvm.Cond.methodLink "DoughLedgerModel" (224 : Nat) ({ cls := "DoughLedgerModel", name := "finds", desc := "(III)V" } : Jvm.MethodName)) ∈ lw_all := lw_g (lw_at lw_m16 8 rfl) rfl
theorem q3733 : (Jvm.Cond.privateMethod ({ cls := "DoughLedgerModel", name := "finds", desc := "(III)V" } : Jvm.MethodName)) ∈ lw_tbl := lw_at lw_m16 9 rfl
theorem q3734 : (Jvm.Cond.instanceMethod ({ cls := "DoughLedgerModel", name := "finds", desc := "(III)V" } : Jvm.MethodName)) ∈ lw_all := lw_g (lw_at lw_m16 10 rfl) rfl
theorem q3735 : (Jvm.Cond.code ({ cls := "DoughLedgerModel", name := "finds", desc := "(III)V" } : Jvm.MethodName) prog_21_method_69_code (7 : Nat) (Option.none : Option Jvm.ClassFile.FieldType)) ∈ lw_all := lw_g (lw_at lw_m16 11 rfl) rfl
theorem q3736 : (Jvm.Cond.methodLink "DoughLedgerModel" (216 : Nat) ({ cls := "DoughLedgerModel", name := "tries", desc := "(IIII)V" } : Jvm.MethodName)) ∈ lw_all := lw_g (lw_at lw_m16 12 rfl) rfl
theorem q3737 : (Jvm.Cond.privateMethod ({ cls := "DoughLedgerModel", name := "tries", desc := "(IIII)V" } : Jvm.MethodName)) ∈ lw_tbl := lw_at lw_m16 13 rfl
theorem q3738 : (Jvm.Cond.instanceMethod ({ cls := "DoughLedgerModel", name := "tries", desc := "(IIII)V" } : Jvm.MethodName)) ∈ lw_all := lw_g (lw_at lw_m16 14 rfl) rfl
theorem q3739 : (Jvm.Cond.code ({ cls := "DoughLedgerModel", name := "tries", desc := "(IIII)V" } : Jvm.MethodName) prog_21_method_68_code (6 : Nat) (Option.none : Option Jvm.ClassFile.FieldType)) ∈ lw_all := lw_g (lw_at lw_m16 15 rfl) rfl
theorem q3741 : (Jvm.Cond.instanceMethod ({ cls := "DoughLedgerModel", name := "nearestDenominator", desc := "(III)I" } : Jvm.MethodName)) ∈ lw_all := lw_g (lw_at lw_m16 17 rfl) rfl
theorem q3742 : (Jvm.Cond.selects "DoughLedgerModel" ({ cls := "DoughLedgerModel", name := "nearestDenominator", desc := "(III)I" } : Jvm.MethodName) ({ cls := "DoughLedgerModel", name := "nearestDenominator", desc := "(III)I" } : Jvm.MethodName)) ∈ lw_all := lw_g (lw_at lw_m16 18 rfl) rfl
theorem q3743 : (Jvm.Cond.code ({ cls := "DoughLedgerModel", name := "nearestDenominator", desc := "(III)I" } : Jvm.MethodName) prog_21_method_71_code (5 : Nat) (Option.some Jvm.ClassFile.FieldType.int)) ∈ lw_all := lw_g (lw_at lw_m16 19 rfl) rfl
theorem q3745 : (Jvm.Cond.instanceMethod ({ cls := "DoughLedgerModel", name := "denominatorByTrying", desc := "(III)I" } : Jvm.MethodName)) ∈ lw_all := lw_g (lw_at lw_m16 21 rfl) rfl
theorem q3746 : (Jvm.Cond.selects "DoughLedgerModel" ({ cls := "DoughLedgerModel", name := "denominatorByTrying", desc := "(III)I" } : Jvm.MethodName) ({ cls := "DoughLedgerModel", name := "denominatorByTrying", desc := "(III)I" } : Jvm.MethodName)) ∈ lw_all := lw_g (lw_at lw_m16 22 rfl) rfl
theorem q3747 : (Jvm.Cond.code ({ cls := "DoughLedgerModel", name := "denominatorByTrying", desc := "(III)I" } : Jvm.MethodName) prog_21_method_72_code (4 : Nat) (Option.some Jvm.ClassFile.FieldType.int)) ∈ lw_all := lw_g (lw_at lw_m16 23 rfl) rfl
theorem q3748 : (Jvm.Cond.methodLink "DoughLedgerModel" (227 : Nat) ({ cls := "DoughLedgerModel", name := "nearestDenominator", desc := "(III)I" } : Jvm.MethodName)) ∈ lw_all := lw_g (lw_at lw_m16 24 rfl) rfl
theorem q3750 : (Jvm.Cond.instanceMethod ({ cls := "DoughLedgerModel", name := "bowlCount", desc := "()I" } : Jvm.MethodName)) ∈ lw_all := lw_g (lw_at lw_m16 26 rfl) rfl
theorem q3751 : (Jvm.Cond.selects "DoughLedgerModel" ({ cls := "DoughLedgerModel", name := "bowlCount", desc := "()I" } : Jvm.MethodName) ({ cls := "DoughLedgerModel", name := "bowlCount", desc := "()I" } : Jvm.MethodName)) ∈ lw_all := lw_g (lw_at lw_m16 27 rfl) rfl
theorem q3752 : (Jvm.Cond.code ({ cls := "DoughLedgerModel", name := "bowlCount", desc := "()I" } : Jvm.MethodName) prog_21_method_73_code (1 : Nat) (Option.some Jvm.ClassFile.FieldType.int)) ∈ lw_all := lw_g (lw_at lw_m16 28 rfl) rfl
theorem q3754 : (Jvm.Cond.instanceMethod ({ cls := "DoughLedgerModel", name := "capacityOf", desc := "(I)I" } : Jvm.MethodName)) ∈ lw_all := lw_g (lw_at lw_m16 30 rfl) rfl
theorem q3755 : (Jvm.Cond.selects "DoughLedgerModel" ({ cls := "DoughLedgerModel", name := "capacityOf", desc := "(I)I" } : Jvm.MethodName) ({ cls := "DoughLedgerModel", name := "capacityOf", desc := "(I)I" } : Jvm.MethodName)) ∈ lw_all := lw_g (lw_at lw_m16 31 rfl) rfl
theorem q3756 : (Jvm.Cond.code ({ cls := "DoughLedgerModel", name := "capacityOf", desc := "(I)I" } : Jvm.MethodName) prog_21_method_75_code (2 : Nat) (Option.some Jvm.ClassFile.FieldType.int)) ∈ lw_all := lw_g (lw_at lw_m16 32 rfl) rfl
theorem q3757 : (Jvm.Cond.methodLink "DoughLedgerModel" (230 : Nat) ({ cls := "DoughLedgerModel", name := "ofBowl", desc := "(II)I" } : Jvm.MethodName)) ∈ lw_all := lw_g (lw_at lw_m16 33 rfl) rfl
theorem q3758 : (Jvm.Cond.privateMethod ({ cls := "DoughLedgerModel", name := "ofBowl", desc := "(II)I" } : Jvm.MethodName)) ∈ lw_tbl := lw_at lw_m16 34 rfl
theorem q3759 : (Jvm.Cond.instanceMethod ({ cls := "DoughLedgerModel", name := "ofBowl", desc := "(II)I" } : Jvm.MethodName)) ∈ lw_all := lw_g (lw_at lw_m16 35 rfl) rfl
theorem q3760 : (Jvm.Cond.code ({ cls := "DoughLedgerModel", name := "ofBowl", desc := "(II)I" } : Jvm.MethodName) prog_21_method_74_code (3 : Nat) (Option.some Jvm.ClassFile.FieldType.int)) ∈ lw_all := lw_g (lw_at lw_m16 36 rfl) rfl
theorem q3762 : (Jvm.Cond.instanceMethod ({ cls := "DoughLedgerModel", name := "contentOf", desc := "(I)I" } : Jvm.MethodName)) ∈ lw_all := lw_g (lw_at lw_m16 38 rfl) rfl
theorem q3763 : (Jvm.Cond.selects "DoughLedgerModel" ({ cls := "DoughLedgerModel", name := "contentOf", desc := "(I)I" } : Jvm.MethodName) ({ cls := "DoughLedgerModel", name := "contentOf", desc := "(I)I" } : Jvm.MethodName)) ∈ lw_all := lw_g (lw_at lw_m16 39 rfl) rfl
theorem q3764 : (Jvm.Cond.code ({ cls := "DoughLedgerModel", name := "contentOf", desc := "(I)I" } : Jvm.MethodName) prog_21_method_76_code (2 : Nat) (Option.some Jvm.ClassFile.FieldType.int)) ∈ lw_all := lw_g (lw_at lw_m16 40 rfl) rfl
theorem q3766 : (Jvm.Cond.instanceMethod ({ cls := "DoughLedgerModel", name := "roomFrom", desc := "(I)I" } : Jvm.MethodName)) ∈ lw_all := lw_g (lw_at lw_m16 42 rfl) rfl
theorem q3767 : (Jvm.Cond.selects "DoughLedgerModel" ({ cls := "DoughLedgerModel", name := "roomFrom", desc := "(I)I" } : Jvm.MethodName) ({ cls := "DoughLedgerModel", name := "roomFrom", desc := "(I)I" } : Jvm.MethodName)) ∈ lw_all := lw_g (lw_at lw_m16 43 rfl) rfl
theorem q3768 : (Jvm.Cond.code ({ cls := "DoughLedgerModel", name := "roomFrom", desc := "(I)I" } : Jvm.MethodName) prog_21_method_77_code (4 : Nat) (Option.some Jvm.ClassFile.FieldType.int)) ∈ lw_all := lw_g (lw_at lw_m16 44 rfl) rfl
theorem q3770 : (Jvm.Cond.instanceMethod ({ cls := "DoughLedgerModel", name := "fullestBowl", desc := "()I" } : Jvm.MethodName)) ∈ lw_all := lw_g (lw_at lw_m16 46 rfl) rfl
theorem q3771 : (Jvm.Cond.selects "DoughLedgerModel" ({ cls := "DoughLedgerModel", name := "fullestBowl", desc := "()I" } : Jvm.MethodName) ({ cls := "DoughLedgerModel", name := "fullestBowl", desc := "()I" } : Jvm.MethodName)) ∈ lw_all := lw_g (lw_at lw_m16 47 rfl) rfl
theorem q3772 : (Jvm.Cond.code ({ cls := "DoughLedgerModel", name := "fullestBowl", desc := "()I" } : Jvm.MethodName) prog_21_method_78_code (3 : Nat) (Option.some Jvm.ClassFile.FieldType.int)) ∈ lw_all := lw_g (lw_at lw_m16 48 rfl) rfl
theorem q3774 : (Jvm.Cond.instanceMethod ({ cls := "DoughLedgerModel", name := "loafCount", desc := "()I" } : Jvm.MethodName)) ∈ lw_all := lw_g (lw_at lw_m16 50 rfl) rfl
theorem q3775 : (Jvm.Cond.selects "DoughLedgerModel" ({ cls := "DoughLedgerModel", name := "loafCount", desc := "()I" } : Jvm.MethodName) ({ cls := "DoughLedgerModel", name := "loafCount", desc := "()I" } : Jvm.MethodName)) ∈ lw_all := lw_g (lw_at lw_m16 51 rfl) rfl
theorem q3776 : (Jvm.Cond.code ({ cls := "DoughLedgerModel", name := "loafCount", desc := "()I" } : Jvm.MethodName) prog_21_method_79_code (1 : Nat) (Option.some Jvm.ClassFile.FieldType.int)) ∈ lw_all := lw_g (lw_at lw_m16 52 rfl) rfl
theorem q3778 : (Jvm.Cond.instanceMethod ({ cls := "DoughLedgerModel", name := "weightOf", desc := "(I)I" } : Jvm.MethodName)) ∈ lw_all := lw_g (lw_at lw_m16 54 rfl) rfl
theorem q3779 : (Jvm.Cond.selects "DoughLedgerModel" ({ cls := "DoughLedgerModel", name := "weightOf", desc := "(I)I" } : Jvm.MethodName) ({ cls := "DoughLedgerModel", name := "weightOf", desc := "(I)I" } : Jvm.MethodName)) ∈ lw_all := lw_g (lw_at lw_m16 55 rfl) rfl
theorem q3780 : (Jvm.Cond.code ({ cls := "DoughLedgerModel", name := "weightOf", desc := "(I)I" } : Jvm.MethodName) prog_21_method_81_code (2 : Nat) (Option.some Jvm.ClassFile.FieldType.int)) ∈ lw_all := lw_g (lw_at lw_m16 56 rfl) rfl
theorem q3781 : (Jvm.Cond.methodLink "DoughLedgerModel" (233 : Nat) ({ cls := "DoughLedgerModel", name := "ofLoaf", desc := "(II)I" } : Jvm.MethodName)) ∈ lw_all := lw_g (lw_at lw_m16 57 rfl) rfl
theorem q3782 : (Jvm.Cond.privateMethod ({ cls := "DoughLedgerModel", name := "ofLoaf", desc := "(II)I" } : Jvm.MethodName)) ∈ lw_tbl := lw_at lw_m16 58 rfl
theorem q3783 : (Jvm.Cond.instanceMethod ({ cls := "DoughLedgerModel", name := "ofLoaf", desc := "(II)I" } : Jvm.MethodName)) ∈ lw_all := lw_g (lw_at lw_m16 59 rfl) rfl
theorem q3784 : (Jvm.Cond.code ({ cls := "DoughLedgerModel", name := "ofLoaf", desc := "(II)I" } : Jvm.MethodName) prog_21_method_80_code (3 : Nat) (Option.some Jvm.ClassFile.FieldType.int)) ∈ lw_all := lw_g (lw_at lw_m16 60 rfl) rfl
theorem q3786 : (Jvm.Cond.instanceMethod ({ cls := "DoughLedgerModel", name := "minutesOf", desc := "(I)I" } : Jvm.MethodName)) ∈ lw_all := lw_g (lw_at lw_m16 62 rfl) rfl
theorem q3787 : (Jvm.Cond.selects "DoughLedgerModel" ({ cls := "DoughLedgerModel", name := "minutesOf", desc := "(I)I" } : Jvm.MethodName) ({ cls := "DoughLedgerModel", name := "minutesOf", desc := "(I)I" } : Jvm.MethodName)) ∈ lw_all := lw_g (lw_at lw_m16 63 rfl) rfl
theorem q3788 : (Jvm.Cond.code ({ cls := "DoughLedgerModel", name := "minutesOf", desc := "(I)I" } : Jvm.MethodName) prog_21_method_82_code (2 : Nat) (Option.some Jvm.ClassFile.FieldType.int)) ∈ lw_all := lw_g (lw_at lw_m16 64 rfl) rfl
theorem q3790 : (Jvm.Cond.instanceMethod ({ cls := "DoughLedgerModel", name := "crumbsOf", desc := "(I)I" } : Jvm.MethodName)) ∈ lw_all := lw_g (lw_at lw_m16 66 rfl) rfl
theorem q3791 : (Jvm.Cond.selects "DoughLedgerModel" ({ cls := "DoughLedgerModel", name := "crumbsOf", desc := "(I)I" } : Jvm.MethodName) ({ cls := "DoughLedgerModel", name := "crumbsOf", desc := "(I)I" } : Jvm.MethodName)) ∈ lw_all := lw_g (lw_at lw_m16 67 rfl) rfl
theorem q3792 : (Jvm.Cond.code ({ cls := "DoughLedgerModel", name := "crumbsOf", desc := "(I)I" } : Jvm.MethodName) prog_21_method_83_code (2 : Nat) (Option.some Jvm.ClassFile.FieldType.int)) ∈ lw_all := lw_g (lw_at lw_m16 68 rfl) rfl
theorem q3794 : (Jvm.Cond.instanceMethod ({ cls := "DoughLedgerModel", name := "share", desc := "(II)I" } : Jvm.MethodName)) ∈ lw_all := lw_g (lw_at lw_m16 70 rfl) rfl
theorem q3795 : (Jvm.Cond.selects "DoughLedgerModel" ({ cls := "DoughLedgerModel", name := "share", desc := "(II)I" } : Jvm.MethodName) ({ cls := "DoughLedgerModel", name := "share", desc := "(II)I" } : Jvm.MethodName)) ∈ lw_all := lw_g (lw_at lw_m16 71 rfl) rfl
theorem q3796 : (Jvm.Cond.code ({ cls := "DoughLedgerModel", name := "share", desc := "(II)I" } : Jvm.MethodName) prog_21_method_84_code (3 : Nat) (Option.some Jvm.ClassFile.FieldType.int)) ∈ lw_all := lw_g (lw_at lw_m16 72 rfl) rfl
theorem q3798 : (Jvm.Cond.instanceMethod ({ cls := "DoughLedgerModel", name := "shareByRanks", desc := "(II)I" } : Jvm.MethodName)) ∈ lw_all := lw_g (lw_at lw_m16 74 rfl) rfl
theorem q3799 : (Jvm.Cond.selects "DoughLedgerModel" ({ cls := "DoughLedgerModel", name := "shareByRanks", desc := "(II)I" } : Jvm.MethodName) ({ cls := "DoughLedgerModel", name := "shareByRanks", desc := "(II)I" } : Jvm.MethodName)) ∈ lw_all := lw_g (lw_at lw_m16 75 rfl) rfl
theorem q3800 : (Jvm.Cond.code ({ cls := "DoughLedgerModel", name := "shareByRanks", desc := "(II)I" } : Jvm.MethodName) prog_21_method_85_code (3 : Nat) (Option.some Jvm.ClassFile.FieldType.int)) ∈ lw_all := lw_g (lw_at lw_m16 76 rfl) rfl
theorem q3801 : (Jvm.Cond.methodLink "DoughLedgerModel" (236 : Nat) ({ cls := "DoughLedgerModel", name := "share", desc := "(II)I" } : Jvm.MethodName)) ∈ lw_all := lw_g (lw_at lw_m16 77 rfl) rfl
theorem q3803 : (Jvm.Cond.instanceMethod ({ cls := "DoughLedgerModel", name := "loafByCrumbs", desc := "(I)I" } : Jvm.MethodName)) ∈ lw_all := lw_g (lw_at lw_m16 79 rfl) rfl
theorem q3804 : (Jvm.Cond.selects "DoughLedgerModel" ({ cls := "DoughLedgerModel", name := "loafByCrumbs", desc := "(I)I" } : Jvm.MethodName) ({ cls := "DoughLedgerModel", name := "loafByCrumbs", desc := "(I)I" } : Jvm.MethodName)) ∈ lw_all := lw_g (lw_at lw_m16 80 rfl) rfl
theorem q3805 : (Jvm.Cond.code ({ cls := "DoughLedgerModel", name := "loafByCrumbs", desc := "(I)I" } : Jvm.MethodName) prog_21_method_87_code (2 : Nat) (Option.some Jvm.ClassFile.FieldType.int)) ∈ lw_all := lw_g (lw_at lw_m16 81 rfl) rfl
theorem q3806 : (Jvm.Cond.methodLink "DoughLedgerModel" (239 : Nat) ({ cls := "DoughLedgerModel", name := "ranked", desc := "(II)I" } : Jvm.MethodName)) ∈ lw_all := lw_g (lw_at lw_m16 82 rfl) rfl
theorem q3807 : (Jvm.Cond.privateMethod ({ cls := "DoughLedgerModel", name := "ranked", desc := "(II)I" } : Jvm.MethodName)) ∈ lw_tbl := lw_at lw_m16 83 rfl
theorem q3808 : (Jvm.Cond.instanceMethod ({ cls := "DoughLedgerModel", name := "ranked", desc := "(II)I" } : Jvm.MethodName)) ∈ lw_all := lw_g (lw_at lw_m16 84 rfl) rfl
theorem q3809 : (Jvm.Cond.code ({ cls := "DoughLedgerModel", name := "ranked", desc := "(II)I" } : Jvm.MethodName) prog_21_method_86_code (6 : Nat) (Option.some Jvm.ClassFile.FieldType.int)) ∈ lw_all := lw_g (lw_at lw_m16 85 rfl) rfl
theorem q3811 : (Jvm.Cond.instanceMethod ({ cls := "DoughLedgerModel", name := "ovens", desc := "()I" } : Jvm.MethodName)) ∈ lw_all := lw_g (lw_at lw_m16 87 rfl) rfl
theorem q3812 : (Jvm.Cond.selects "DoughLedgerModel" ({ cls := "DoughLedgerModel", name := "ovens", desc := "()I" } : Jvm.MethodName) ({ cls := "DoughLedgerModel", name := "ovens", desc := "()I" } : Jvm.MethodName)) ∈ lw_all := lw_g (lw_at lw_m16 88 rfl) rfl
theorem q3813 : (Jvm.Cond.code ({ cls := "DoughLedgerModel", name := "ovens", desc := "()I" } : Jvm.MethodName) prog_21_method_88_code (1 : Nat) (Option.some Jvm.ClassFile.FieldType.int)) ∈ lw_all := lw_g (lw_at lw_m16 89 rfl) rfl
theorem q3815 : (Jvm.Cond.instanceMethod ({ cls := "DoughLedgerModel", name := "shortestTime", desc := "()I" } : Jvm.MethodName)) ∈ lw_all := lw_g (lw_at lw_m16 91 rfl) rfl
theorem q3816 : (Jvm.Cond.selects "DoughLedgerModel" ({ cls := "DoughLedgerModel", name := "shortestTime", desc := "()I" } : Jvm.MethodName) ({ cls := "DoughLedgerModel", name := "shortestTime", desc := "()I" } : Jvm.MethodName)) ∈ lw_all := lw_g (lw_at lw_m16 92 rfl) rfl
theorem q3817 : (Jvm.Cond.code ({ cls := "DoughLedgerModel", name := "shortestTime", desc := "()I" } : Jvm.MethodName) prog_21_method_92_code (4 : Nat) (Option.some Jvm.ClassFile.FieldType.int)) ∈ lw_all := lw_g (lw_at lw_m16 93 rfl) rfl
theorem q3818 : (Jvm.Cond.methodLink "DoughLedgerModel" (248 : Nat) ({ cls := "DoughLedgerModel", name := "timeOf", desc := "(I)I" } : Jvm.MethodName)) ∈ lw_all := lw_g (lw_at lw_m16 94 rfl) rfl
theorem q3819 : (Jvm.Cond.privateMethod ({ cls := "DoughLedgerModel", name := "timeOf", desc := "(I)I" } : Jvm.MethodName)) ∈ lw_tbl := lw_at lw_m16 95 rfl
theorem q3820 : (Jvm.Cond.instanceMethod ({ cls := "DoughLedgerModel", name := "timeOf", desc := "(I)I" } : Jvm.MethodName)) ∈ lw_all := lw_g (lw_at lw_m16 96 rfl) rfl
theorem q3821 : (Jvm.Cond.code ({ cls := "DoughLedgerModel", name := "timeOf", desc := "(I)I" } : Jvm.MethodName) prog_21_method_91_code (4 : Nat) (Option.some Jvm.ClassFile.FieldType.int)) ∈ lw_all := lw_g (lw_at lw_m16 97 rfl) rfl
theorem q3822 : (Jvm.Cond.methodLink "DoughLedgerModel" (242 : Nat) ({ cls := "DoughLedgerModel", name := "starts", desc := "()V" } : Jvm.MethodName)) ∈ lw_all := lw_g (lw_at lw_m16 98 rfl) rfl
theorem q3823 : (Jvm.Cond.privateMethod ({ cls := "DoughLedgerModel", name := "starts", desc := "()V" } : Jvm.MethodName)) ∈ lw_tbl := lw_at lw_m16 99 rfl
theorem q3824 : (Jvm.Cond.instanceMethod ({ cls := "DoughLedgerModel", name := "starts", desc := "()V" } : Jvm.MethodName)) ∈ lw_all := lw_g (lw_at lw_m16 100 rfl) rfl
theorem q3825 : (Jvm.Cond.code ({ cls := "DoughLedgerModel", name := "starts", desc := "()V" } : Jvm.MethodName) prog_21_method_90_code (2 : Nat) (Option.none : Option Jvm.ClassFile.FieldType)) ∈ lw_all := lw_g (lw_at lw_m16 101 rfl) rfl
theorem q3826 : (Jvm.Cond.methodLink "DoughLedgerModel" (245 : Nat) ({ cls := "DoughLedgerModel", name := "longest", desc := "()I" } : Jvm.MethodName)) ∈ lw_all := lw_g (lw_at lw_m16 102 rfl) rfl
theorem q3827 : (Jvm.Cond.privateMethod ({ cls := "DoughLedgerModel", name := "longest", desc := "()I" } : Jvm.MethodName)) ∈ lw_tbl := lw_at lw_m16 103 rfl
theorem q3828 : (Jvm.Cond.instanceMethod ({ cls := "DoughLedgerModel", name := "longest", desc := "()I" } : Jvm.MethodName)) ∈ lw_all := lw_g (lw_at lw_m16 104 rfl) rfl
theorem q3829 : (Jvm.Cond.code ({ cls := "DoughLedgerModel", name := "longest", desc := "()I" } : Jvm.MethodName) prog_21_method_89_code (3 : Nat) (Option.some Jvm.ClassFile.FieldType.int)) ∈ lw_all := lw_g (lw_at lw_m16 105 rfl) rfl
theorem q3831 : (Jvm.Cond.instanceMethod ({ cls := "DoughLedgerModel", name := "shortestTimeByDeciding", desc := "()I" } : Jvm.MethodName)) ∈ lw_all := lw_g (lw_at lw_m16 107 rfl) rfl
theorem q3832 : (Jvm.Cond.selects "DoughLedgerModel" ({ cls := "DoughLedgerModel", name := "shortestTimeByDeciding", desc := "()I" } : Jvm.MethodName) ({ cls := "DoughLedgerModel", name := "shortestTimeByDeciding", desc := "()I" } : Jvm.MethodName)) ∈ lw_all := lw_g (lw_at lw_m16 108 rfl) rfl
theorem q3833 : (Jvm.Cond.code ({ cls := "DoughLedgerModel", name := "shortestTimeByDeciding", desc := "()I" } : Jvm.MethodName) prog_21_method_93_code (1 : Nat) (Option.some Jvm.ClassFile.FieldType.int)) ∈ lw_all := lw_g (lw_at lw_m16 109 rfl) rfl
theorem q3834 : (Jvm.Cond.methodLink "DoughLedgerModel" (251 : Nat) ({ cls := "DoughLedgerModel", name := "shortestTime", desc := "()I" } : Jvm.MethodName)) ∈ lw_all := lw_g (lw_at lw_m16 110 rfl) rfl
theorem q3836 : (Jvm.Cond.instanceMethod ({ cls := "DoughLedgerModel", name := "greedyTime", desc := "()I" } : Jvm.MethodName)) ∈ lw_all := lw_g (lw_at lw_m16 112 rfl) rfl
theorem q3837 : (Jvm.Cond.selects "DoughLedgerModel" ({ cls := "DoughLedgerModel", name := "greedyTime", desc := "()I" } : Jvm.MethodName) ({ cls := "DoughLedgerModel", name := "greedyTime", desc := "()I" } : Jvm.MethodName)) ∈ lw_all := lw_g (lw_at lw_m16 113 rfl) rfl
theorem q3838 : (Jvm.Cond.code ({ cls := "DoughLedgerModel", name := "greedyTime", desc := "()I" } : Jvm.MethodName) prog_21_method_94_code (4 : Nat) (Option.some Jvm.ClassFile.FieldType.int)) ∈ lw_all := lw_g (lw_at lw_m16 114 rfl) rfl
theorem q3840 : (Jvm.Cond.instanceMethod ({ cls := "DoughLedgerModel", name := "pouredTotal", desc := "()J" } : Jvm.MethodName)) ∈ lw_all := lw_g (lw_at lw_m16 116 rfl) rfl
theorem q3841 : (Jvm.Cond.selects "DoughLedgerModel" ({ cls := "DoughLedgerModel", name := "pouredTotal", desc := "()J" } : Jvm.MethodName) ({ cls := "DoughLedgerModel", name := "pouredTotal", desc := "()J" } : Jvm.MethodName)) ∈ lw_all := lw_g (lw_at lw_m16 117 rfl) rfl
theorem q3842 : (Jvm.Cond.code ({ cls := "DoughLedgerModel", name := "pouredTotal", desc := "()J" } : Jvm.MethodName) prog_21_method_96_code (1 : Nat) (Option.some Jvm.ClassFile.FieldType.long)) ∈ lw_all := lw_g (lw_at lw_m16 118 rfl) rfl
theorem q3843 : (Jvm.Cond.methodLink "DoughLedgerModel" (254 : Nat) ({ cls := "DoughLedgerModel", name := "toldLong", desc := "(I)J" } : Jvm.MethodName)) ∈ lw_all := lw_g (lw_at lw_m16 119 rfl) rfl
theorem q3844 : (Jvm.Cond.privateMethod ({ cls := "DoughLedgerModel", name := "toldLong", desc := "(I)J" } : Jvm.MethodName)) ∈ lw_tbl := lw_at lw_m16 120 rfl
theorem q3845 : (Jvm.Cond.instanceMethod ({ cls := "DoughLedgerModel", name := "toldLong", desc := "(I)J" } : Jvm.MethodName)) ∈ lw_all := lw_g (lw_at lw_m16 121 rfl) rfl
theorem q3846 : (Jvm.Cond.code ({ cls := "DoughLedgerModel", name := "toldLong", desc := "(I)J" } : Jvm.MethodName) prog_21_method_95_code (2 : Nat) (Option.some Jvm.ClassFile.FieldType.long)) ∈ lw_all := lw_g (lw_at lw_m16 122 rfl) rfl
theorem q3848 : (Jvm.Cond.instanceMethod ({ cls := "DoughLedgerModel", name := "spilledTotal", desc := "()J" } : Jvm.MethodName)) ∈ lw_all := lw_g (lw_at lw_m16 124 rfl) rfl
theorem q3849 : (Jvm.Cond.selects "DoughLedgerModel" ({ cls := "DoughLedgerModel", name := "spilledTotal", desc := "()J" } : Jvm.MethodName) ({ cls := "DoughLedgerModel", name := "spilledTotal", desc := "()J" } : Jvm.MethodName)) ∈ lw_all := lw_g (lw_at lw_m16 125 rfl) rfl
theorem q3850 : (Jvm.Cond.code ({ cls := "DoughLedgerModel", name := "spilledTotal", desc := "()J" } : Jvm.MethodName) prog_21_method_97_code (1 : Nat) (Option.some Jvm.ClassFile.FieldType.long)) ∈ lw_all := lw_g (lw_at lw_m16 126 rfl) rfl
theorem q3852 : (Jvm.Cond.instanceMethod ({ cls := "DoughLedgerModel", name := "goneTotal", desc := "()J" } : Jvm.MethodName)) ∈ lw_all := lw_g (lw_at lw_m16 128 rfl) rfl
theorem q3853 : (Jvm.Cond.selects "DoughLedgerModel" ({ cls := "DoughLedgerModel", name := "goneTotal", desc := "()J" } : Jvm.MethodName) ({ cls := "DoughLedgerModel", name := "goneTotal", desc := "()J" } : Jvm.MethodName)) ∈ lw_all := lw_g (lw_at lw_m16 129 rfl) rfl
theorem q3854 : (Jvm.Cond.code ({ cls := "DoughLedgerModel", name := "goneTotal", desc := "()J" } : Jvm.MethodName) prog_21_method_98_code (1 : Nat) (Option.some Jvm.ClassFile.FieldType.long)) ∈ lw_all := lw_g (lw_at lw_m16 130 rfl) rfl
theorem q3856 : (Jvm.Cond.instanceMethod ({ cls := "DoughLedgerModel", name := "crumbsNow", desc := "()I" } : Jvm.MethodName)) ∈ lw_all := lw_g (lw_at lw_m16 132 rfl) rfl
theorem q3857 : (Jvm.Cond.selects "DoughLedgerModel" ({ cls := "DoughLedgerModel", name := "crumbsNow", desc := "()I" } : Jvm.MethodName) ({ cls := "DoughLedgerModel", name := "crumbsNow", desc := "()I" } : Jvm.MethodName)) ∈ lw_all := lw_g (lw_at lw_m16 133 rfl) rfl
theorem q3858 : (Jvm.Cond.code ({ cls := "DoughLedgerModel", name := "crumbsNow", desc := "()I" } : Jvm.MethodName) prog_21_method_99_code (1 : Nat) (Option.some Jvm.ClassFile.FieldType.int)) ∈ lw_all := lw_g (lw_at lw_m16 134 rfl) rfl
theorem q3860 : (Jvm.Cond.instanceMethod ({ cls := "DoughLedgerModel", name := "crumbsByAccounts", desc := "()J" } : Jvm.MethodName)) ∈ lw_all := lw_g (lw_at lw_m16 136 rfl) rfl
theorem q3861 : (Jvm.Cond.selects "DoughLedgerModel" ({ cls := "DoughLedgerModel", name := "crumbsByAccounts", desc := "()J" } : Jvm.MethodName) ({ cls := "DoughLedgerModel", name := "crumbsByAccounts", desc := "()J" } : Jvm.MethodName)) ∈ lw_all := lw_g (lw_at lw_m16 137 rfl) rfl
theorem q3862 : (Jvm.Cond.code ({ cls := "DoughLedgerModel", name := "crumbsByAccounts", desc := "()J" } : Jvm.MethodName) prog_21_method_100_code (1 : Nat) (Option.some Jvm.ClassFile.FieldType.long)) ∈ lw_all := lw_g (lw_at lw_m16 138 rfl) rfl
theorem q3863 : (Jvm.Cond.methodLink "DoughLedgerModel" (257 : Nat) ({ cls := "DoughLedgerModel", name := "crumbsNow", desc := "()I" } : Jvm.MethodName)) ∈ lw_all := lw_g (lw_at lw_m16 139 rfl) rfl
theorem q3865 : (Jvm.Cond.instanceMethod ({ cls := "DoughLedgerModel", name := "errorTotal", desc := "()J" } : Jvm.MethodName)) ∈ lw_all := lw_g (lw_at lw_m16 141 rfl) rfl
theorem q3866 : (Jvm.Cond.selects "DoughLedgerModel" ({ cls := "DoughLedgerModel", name := "errorTotal", desc := "()J" } : Jvm.MethodName) ({ cls := "DoughLedgerModel", name := "errorTotal", desc := "()J" } : Jvm.MethodName)) ∈ lw_all := lw_g (lw_at lw_m16 142 rfl) rfl
theorem q3867 : (Jvm.Cond.code ({ cls := "DoughLedgerModel", name := "errorTotal", desc := "()J" } : Jvm.MethodName) prog_21_method_101_code (1 : Nat) (Option.some Jvm.ClassFile.FieldType.long)) ∈ lw_all := lw_g (lw_at lw_m16 143 rfl) rfl
theorem q3869 : (Jvm.Cond.instanceMethod ({ cls := "DoughLedgerModel", name := "errorByAccounts", desc := "()J" } : Jvm.MethodName)) ∈ lw_all := lw_g (lw_at lw_m16 145 rfl) rfl
theorem q3870 : (Jvm.Cond.selects "DoughLedgerModel" ({ cls := "DoughLedgerModel", name := "errorByAccounts", desc := "()J" } : Jvm.MethodName) ({ cls := "DoughLedgerModel", name := "errorByAccounts", desc := "()J" } : Jvm.MethodName)) ∈ lw_all := lw_g (lw_at lw_m16 146 rfl) rfl
theorem q3871 : (Jvm.Cond.code ({ cls := "DoughLedgerModel", name := "errorByAccounts", desc := "()J" } : Jvm.MethodName) prog_21_method_102_code (1 : Nat) (Option.some Jvm.ClassFile.FieldType.long)) ∈ lw_all := lw_g (lw_at lw_m16 147 rfl) rfl
theorem q3873 : (Jvm.Cond.instanceMethod ({ cls := "DoughLedgerModel", name := "meanCrumbs", desc := "()D" } : Jvm.MethodName)) ∈ lw_all := lw_g (lw_at lw_m16 149 rfl) rfl
theorem q3874 : (Jvm.Cond.selects "DoughLedgerModel" ({ cls := "DoughLedgerModel", name := "meanCrumbs", desc := "()D" } : Jvm.MethodName) ({ cls := "DoughLedgerModel", name := "meanCrumbs", desc := "()D" } : Jvm.MethodName)) ∈ lw_all := lw_g (lw_at lw_m16 150 rfl) rfl
theorem q3875 : (Jvm.Cond.code ({ cls := "DoughLedgerModel", name := "meanCrumbs", desc := "()D" } : Jvm.MethodName) prog_21_method_103_code (1 : Nat) (Option.some Jvm.ClassFile.FieldType.double)) ∈ lw_all := lw_g (lw_at lw_m16 151 rfl) rfl
theorem q3877 : (Jvm.Cond.instanceMethod ({ cls := "DoughLedgerModel", name := "fullShare", desc := "()F" } : Jvm.MethodName)) ∈ lw_all := lw_g (lw_at lw_m16 153 rfl) rfl
theorem q3878 : (Jvm.Cond.selects "DoughLedgerModel" ({ cls := "DoughLedgerModel", name := "fullShare", desc := "()F" } : Jvm.MethodName) ({ cls := "DoughLedgerModel", name := "fullShare", desc := "()F" } : Jvm.MethodName)) ∈ lw_all := lw_g (lw_at lw_m16 154 rfl) rfl
theorem q3879 : (Jvm.Cond.code ({ cls := "DoughLedgerModel", name := "fullShare", desc := "()F" } : Jvm.MethodName) prog_21_method_104_code (3 : Nat) (Option.some Jvm.ClassFile.FieldType.float)) ∈ lw_all := lw_g (lw_at lw_m16 155 rfl) rfl
theorem q3881 : (Jvm.Cond.instanceMethod ({ cls := "DoughLedgerModel", name := "isConsistent", desc := "()Z" } : Jvm.MethodName)) ∈ lw_all := lw_g (lw_at lw_m16 157 rfl) rfl
theorem q3882 : (Jvm.Cond.selects "DoughLedgerModel" ({ cls := "DoughLedgerModel", name := "isConsistent", desc := "()Z" } : Jvm.MethodName) ({ cls := "DoughLedgerModel", name := "isConsistent", desc := "()Z" } : Jvm.MethodName)) ∈ lw_all := lw_g (lw_at lw_m16 158 rfl) rfl
theorem q3883 : (Jvm.Cond.code ({ cls := "DoughLedgerModel", name := "isConsistent", desc := "()Z" } : Jvm.MethodName) prog_21_method_105_code (1 : Nat) (Option.some Jvm.ClassFile.FieldType.boolean)) ∈ lw_all := lw_g (lw_at lw_m16 159 rfl) rfl
theorem q3885 : (Jvm.Cond.instanceMethod ({ cls := "DoughLedgerModel", name := "renderDough", desc := "(I)I" } : Jvm.MethodName)) ∈ lw_all := lw_g (lw_at lw_m16 161 rfl) rfl
theorem q3886 : (Jvm.Cond.selects "DoughLedgerModel" ({ cls := "DoughLedgerModel", name := "renderDough", desc := "(I)I" } : Jvm.MethodName) ({ cls := "DoughLedgerModel", name := "renderDough", desc := "(I)I" } : Jvm.MethodName)) ∈ lw_all := lw_g (lw_at lw_m16 162 rfl) rfl
theorem q3887 : (Jvm.Cond.code ({ cls := "DoughLedgerModel", name := "renderDough", desc := "(I)I" } : Jvm.MethodName) prog_21_method_109_code (3 : Nat) (Option.some Jvm.ClassFile.FieldType.int)) ∈ lw_all := lw_g (lw_at lw_m16 163 rfl) rfl
theorem q3888 : (Jvm.Cond.methodLink "DoughLedgerModel" (270 : Nat) ({ cls := "DoughLedgerModel", name := "writesTwo", desc := "(II)V" } : Jvm.MethodName)) ∈ lw_all := lw_g (lw_at lw_m16 164 rfl) rfl
theorem q3889 : (Jvm.Cond.privateMethod ({ cls := "DoughLedgerModel", name := "writesTwo", desc := "(II)V" } : Jvm.MethodName)) ∈ lw_tbl := lw_at lw_m16 165 rfl
theorem q3890 : (Jvm.Cond.instanceMethod ({ cls := "DoughLedgerModel", name := "writesTwo", desc := "(II)V" } : Jvm.MethodName)) ∈ lw_all := lw_g (lw_at lw_m16 166 rfl) rfl
theorem q3891 : (Jvm.Cond.code ({ cls := "DoughLedgerModel", name := "writesTwo", desc := "(II)V" } : Jvm.MethodName) prog_21_method_108_code (3 : Nat) (Option.none : Option Jvm.ClassFile.FieldType)) ∈ lw_all := lw_g (lw_at lw_m16 167 rfl) rfl
theorem q3892 : (Jvm.Cond.methodLink "DoughLedgerModel" (267 : Nat) ({ cls := "DoughLedgerModel", name := "writesNumber", desc := "(I)V" } : Jvm.MethodName)) ∈ lw_all := lw_g (lw_at lw_m16 168 rfl) rfl
theorem q3893 : (Jvm.Cond.privateMethod ({ cls := "DoughLedgerModel", name := "writesNumber", desc := "(I)V" } : Jvm.MethodName)) ∈ lw_tbl := lw_at lw_m16 169 rfl
theorem q3894 : (Jvm.Cond.instanceMethod ({ cls := "DoughLedgerModel", name := "writesNumber", desc := "(I)V" } : Jvm.MethodName)) ∈ lw_all := lw_g (lw_at lw_m16 170 rfl) rfl
theorem q3895 : (Jvm.Cond.code ({ cls := "DoughLedgerModel", name := "writesNumber", desc := "(I)V" } : Jvm.MethodName) prog_21_method_107_code (4 : Nat) (Option.none : Option Jvm.ClassFile.FieldType)) ∈ lw_all := lw_g (lw_at lw_m16 171 rfl) rfl
theorem q3896 : (Jvm.Cond.methodLink "DoughLedgerModel" (263 : Nat) ({ cls := "DoughLedgerModel", name := "writes", desc := "(I)V" } : Jvm.MethodName)) ∈ lw_all := lw_g (lw_at lw_m16 172 rfl) rfl
theorem q3897 : (Jvm.Cond.privateMethod ({ cls := "DoughLedgerModel", name := "writes", desc := "(I)V" } : Jvm.MethodName)) ∈ lw_tbl := lw_at lw_m16 173 rfl
theorem q3898 : (Jvm.Cond.instanceMethod ({ cls := "DoughLedgerModel", name := "writes", desc := "(I)V" } : Jvm.MethodName)) ∈ lw_all := lw_g (lw_at lw_m16 174 rfl) rfl
theorem q3899 : (Jvm.Cond.code ({ cls := "DoughLedgerModel", name := "writes", desc := "(I)V" } : Jvm.MethodName) prog_21_method_106_code (2 : Nat) (Option.none : Option Jvm.ClassFile.FieldType)) ∈ lw_all := lw_g (lw_at lw_m16 175 rfl) rfl
theorem q3901 : (Jvm.Cond.instanceMethod ({ cls := "DoughLedgerModel", name := "renderBowls", desc := "()I" } : Jvm.MethodName)) ∈ lw_all := lw_g (lw_at lw_m16 177 rfl) rfl
theorem q3902 : (Jvm.Cond.selects "DoughLedgerModel" ({ cls := "DoughLedgerModel", name := "renderBowls", desc := "()I" } : Jvm.MethodName) ({ cls := "DoughLedgerModel", name := "renderBowls", desc := "()I" } : Jvm.MethodName)) ∈ lw_all := lw_g (lw_at lw_m16 178 rfl) rfl
theorem q3903 : (Jvm.Cond.code ({ cls := "DoughLedgerModel", name := "renderBowls", desc := "()I" } : Jvm.MethodName) prog_21_method_110_code (2 : Nat) (Option.some Jvm.ClassFile.FieldType.int)) ∈ lw_all := lw_g (lw_at lw_m16 179 rfl) rfl
theorem q3905 : (Jvm.Cond.instanceMethod ({ cls := "DoughLedgerModel", name := "outputAt", desc := "(I)C" } : Jvm.MethodName)) ∈ lw_all := lw_g (lw_at lw_m16 181 rfl) rfl
theorem q3906 : (Jvm.Cond.selects "DoughLedgerModel" ({ cls := "DoughLedgerModel", name := "outputAt", desc := "(I)C" } : Jvm.MethodName) ({ cls := "DoughLedgerModel", name := "outputAt", desc := "(I)C" } : Jvm.MethodName)) ∈ lw_all := lw_g (lw_at lw_m16 182 rfl) rfl
theorem q3907 : (Jvm.Cond.code ({ cls := "DoughLedgerModel", name := "outputAt", desc := "(I)C" } : Jvm.MethodName) prog_21_method_111_code (2 : Nat) (Option.some Jvm.ClassFile.FieldType.char)) ∈ lw_all := lw_g (lw_at lw_m16 183 rfl) rfl
theorem q3909 : (Jvm.Cond.instanceMethod ({ cls := "DoughLedgerModel", name := "type", desc := "(C)I" } : Jvm.MethodName)) ∈ lw_all := lw_g (lw_at lw_m16 185 rfl) rfl
theorem q3910 : (Jvm.Cond.selects "DoughLedgerModel" ({ cls := "DoughLedgerModel", name := "type", desc := "(C)I" } : Jvm.MethodName) ({ cls := "DoughLedgerModel", name := "type", desc := "(C)I" } : Jvm.MethodName)) ∈ lw_all := lw_g (lw_at lw_m16 186 rfl) rfl
theorem q3911 : (Jvm.Cond.code ({ cls := "DoughLedgerModel", name := "type", desc := "(C)I" } : Jvm.MethodName) prog_21_method_112_code (2 : Nat) (Option.some Jvm.ClassFile.FieldType.int)) ∈ lw_all := lw_g (lw_at lw_m16 187 rfl) rfl
theorem q3913 : (Jvm.Cond.instanceMethod ({ cls := "DoughLedgerModel", name := "runScript", desc := "()I" } : Jvm.MethodName)) ∈ lw_all := lw_g (lw_at lw_m16 189 rfl) rfl
theorem q3914 : (Jvm.Cond.selects "DoughLedgerModel" ({ cls := "DoughLedgerModel", name := "runScript", desc := "()I" } : Jvm.MethodName) ({ cls := "DoughLedgerModel", name := "runScript", desc := "()I" } : Jvm.MethodName)) ∈ lw_all := lw_g (lw_at lw_m16 190 rfl) rfl
theorem q3915 : (Jvm.Cond.code ({ cls := "DoughLedgerModel", name := "runScript", desc := "()I" } : Jvm.MethodName) prog_21_method_127_code (2 : Nat) (Option.some Jvm.ClassFile.FieldType.int)) ∈ lw_all := lw_g (lw_at lw_m16 191 rfl) rfl
theorem q3916 : (Jvm.Cond.methodLink "DoughLedgerModel" (327 : Nat) ({ cls := "DoughLedgerModel", name := "readsAll", desc := "()Z" } : Jvm.MethodName)) ∈ lw_all := lw_g (lw_at lw_m16 192 rfl) rfl
theorem q3917 : (Jvm.Cond.privateMethod ({ cls := "DoughLedgerModel", name := "readsAll", desc := "()Z" } : Jvm.MethodName)) ∈ lw_tbl := lw_at lw_m16 193 rfl
theorem q3918 : (Jvm.Cond.instanceMethod ({ cls := "DoughLedgerModel", name := "readsAll", desc := "()Z" } : Jvm.MethodName)) ∈ lw_all := lw_g (lw_at lw_m16 194 rfl) rfl
theorem q3919 : (Jvm.Cond.code ({ cls := "DoughLedgerModel", name := "readsAll", desc := "()Z" } : Jvm.MethodName) prog_21_method_122_code (2 : Nat) (Option.some Jvm.ClassFile.FieldType.boolean)) ∈ lw_all := lw_g (lw_at lw_m16 195 rfl) rfl
theorem q3920 : (Jvm.Cond.methodLink "DoughLedgerModel" (308 : Nat) ({ cls := "DoughLedgerModel", name := "readsCommand", desc := "()Z" } : Jvm.MethodName)) ∈ lw_all := lw_g (lw_at lw_m16 196 rfl) rfl
theorem q3921 : (Jvm.Cond.privateMethod ({ cls := "DoughLedgerModel", name := "readsCommand", desc := "()Z" } : Jvm.MethodName)) ∈ lw_tbl := lw_at lw_m16 197 rfl
theorem q3922 : (Jvm.Cond.instanceMethod ({ cls := "DoughLedgerModel", name := "readsCommand", desc := "()Z" } : Jvm.MethodName)) ∈ lw_all := lw_g (lw_at lw_m16 198 rfl) rfl
theorem q3923 : (Jvm.Cond.code ({ cls := "DoughLedgerModel", name := "readsCommand", desc := "()Z" } : Jvm.MethodName) prog_21_method_121_code (1 : Nat) (Option.some Jvm.ClassFile.FieldType.boolean)) ∈ lw_all := lw_g (lw_at lw_m16 199 rfl) rfl
theorem q3924 : (Jvm.Cond.methodLink "DoughLedgerModel" (280 : Nat) ({ cls := "DoughLedgerModel", name := "nextChar", desc := "()I" } : Jvm.MethodName)) ∈ lw_all := lw_g (lw_at lw_m16 200 rfl) rfl
theorem q3925 : (Jvm.Cond.privateMethod ({ cls := "DoughLedgerModel", name := "nextChar", desc := "()I" } : Jvm.MethodName)) ∈ lw_tbl := lw_at lw_m16 201 rfl
theorem q3926 : (Jvm.Cond.instanceMethod ({ cls := "DoughLedgerModel", name := "nextChar", desc := "()I" } : Jvm.MethodName)) ∈ lw_all := lw_g (lw_at lw_m16 202 rfl) rfl
theorem q3927 : (Jvm.Cond.code ({ cls := "DoughLedgerModel", name := "nextChar", desc := "()I" } : Jvm.MethodName) prog_21_method_113_code (1 : Nat) (Option.some Jvm.ClassFile.FieldType.int)) ∈ lw_all := lw_g (lw_at lw_m16 203 rfl) rfl
theorem q3928 : (Jvm.Cond.methodLink "DoughLedgerModel" (286 : Nat) ({ cls := "DoughLedgerModel", name := "reads", desc := "(I)Z" } : Jvm.MethodName)) ∈ lw_all := lw_g (lw_at lw_m16 204 rfl) rfl
theorem q3929 : (Jvm.Cond.privateMethod ({ cls := "DoughLedgerModel", name := "reads", desc := "(I)Z" } : Jvm.MethodName)) ∈ lw_tbl := lw_at lw_m16 205 rfl
theorem q3930 : (Jvm.Cond.instanceMethod ({ cls := "DoughLedgerModel", name := "reads", desc := "(I)Z" } : Jvm.MethodName)) ∈ lw_all := lw_g (lw_at lw_m16 206 rfl) rfl
theorem q3931 : (Jvm.Cond.code ({ cls := "DoughLedgerModel", name := "reads", desc := "(I)Z" } : Jvm.MethodName) prog_21_method_114_code (2 : Nat) (Option.some Jvm.ClassFile.FieldType.boolean)) ∈ lw_all := lw_g (lw_at lw_m16 207 rfl) rfl
theorem q3932 : (Jvm.Cond.methodLink "DoughLedgerModel" (289 : Nat) ({ cls := "DoughLedgerModel", name := "readsNumber", desc := "(I)Z" } : Jvm.MethodName)) ∈ lw_all := lw_g (lw_at lw_m16 208 rfl) rfl
theorem q3933 : (Jvm.Cond.privateMethod ({ cls := "DoughLedgerModel", name := "readsNumber", desc := "(I)Z" } : Jvm.MethodName)) ∈ lw_tbl := lw_at lw_m16 209 rfl
theorem q3934 : (Jvm.Cond.instanceMethod ({ cls := "DoughLedgerModel", name := "readsNumber", desc := "(I)Z" } : Jvm.MethodName)) ∈ lw_all := lw_g (lw_at lw_m16 210 rfl) rfl
theorem q3935 : (Jvm.Cond.code ({ cls := "DoughLedgerModel", name := "readsNumber", desc := "(I)Z" } : Jvm.MethodName) prog_21_method_116_code (3 : Nat) (Option.some Jvm.ClassFile.FieldType.boolean)) ∈ lw_all := lw_g (lw_at lw_m16 211 rfl) rfl
theorem q3936 : (Jvm.Cond.methodLink "DoughLedgerModel" (283 : Nat) ({ cls := "DoughLedgerModel", name := "readsDigit", desc := "(I)Z" } : Jvm.MethodName)) ∈ lw_all := lw_g (lw_at lw_m16 212 rfl) rfl
theorem q3937 : (Jvm.Cond.privateMethod ({ cls := "DoughLedgerModel", name := "readsDigit", desc := "(I)Z" } : Jvm.MethodName)) ∈ lw_tbl := lw_at lw_m16 213 rfl
theorem q3938 : (Jvm.Cond.instanceMethod ({ cls := "DoughLedgerModel", name := "readsDigit", desc := "(I)Z" } : Jvm.MethodName)) ∈ lw_all := lw_g (lw_at lw_m16 214 rfl) rfl
theorem q3939 : (Jvm.Cond.code ({ cls := "DoughLedgerModel", name := "readsDigit", desc := "(I)Z" } : Jvm.MethodName) prog_21_method_115_code (2 : Nat) (Option.some Jvm.ClassFile.FieldType.boolean)) ∈ lw_all := lw_g (lw_at lw_m16 215 rfl) rfl
theorem q3940 : (Jvm.Cond.methodLink "DoughLedgerModel" (295 : Nat) ({ cls := "DoughLedgerModel", name := "readsTwo", desc := "()Z" } : Jvm.MethodName)) ∈ lw_all := lw_g (lw_at lw_m16 216 rfl) rfl
theorem q3941 : (Jvm.Cond.privateMethod ({ cls := "DoughLedgerModel", name := "readsTwo", desc := "()Z" } : Jvm.MethodName)) ∈ lw_tbl := lw_at lw_m16 217 rfl
theorem q3942 : (Jvm.Cond.instanceMethod ({ cls := "DoughLedgerModel", name := "readsTwo", desc := "()Z" } : Jvm.MethodName)) ∈ lw_all := lw_g (lw_at lw_m16 218 rfl) rfl
theorem q3943 : (Jvm.Cond.code ({ cls := "DoughLedgerModel", name := "readsTwo", desc := "()Z" } : Jvm.MethodName) prog_21_method_117_code (1 : Nat) (Option.some Jvm.ClassFile.FieldType.boolean)) ∈ lw_all := lw_g (lw_at lw_m16 219 rfl) rfl
theorem q3944 : (Jvm.Cond.methodLink "DoughLedgerModel" (299 : Nat) ({ cls := "DoughLedgerModel", name := "readsB", desc := "()Z" } : Jvm.MethodName)) ∈ lw_all := lw_g (lw_at lw_m16 220 rfl) rfl
theorem q3945 : (Jvm.Cond.privateMethod ({ cls := "DoughLedgerModel", name := "readsB", desc := "()Z" } : Jvm.MethodName)) ∈ lw_tbl := lw_at lw_m16 221 rfl
theorem q3946 : (Jvm.Cond.instanceMethod ({ cls := "DoughLedgerModel", name := "readsB", desc := "()Z" } : Jvm.MethodName)) ∈ lw_all := lw_g (lw_at lw_m16 222 rfl) rfl
theorem q3947 : (Jvm.Cond.code ({ cls := "DoughLedgerModel", name := "readsB", desc := "()Z" } : Jvm.MethodName) prog_21_method_118_code (1 : Nat) (Option.some Jvm.ClassFile.FieldType.boolean)) ∈ lw_all := lw_g (lw_at lw_m16 223 rfl) rfl
theorem q3948 : (Jvm.Cond.methodLink "DoughLedgerModel" (302 : Nat) ({ cls := "DoughLedgerModel", name := "readsS", desc := "()Z" } : Jvm.MethodName)) ∈ lw_all := lw_g (lw_at lw_m16 224 rfl) rfl
theorem q3949 : (Jvm.Cond.privateMethod ({ cls := "DoughLedgerModel", name := "readsS", desc := "()Z" } : Jvm.MethodName)) ∈ lw_tbl := lw_at lw_m16 225 rfl
theorem q3950 : (Jvm.Cond.instanceMethod ({ cls := "DoughLedgerModel", name := "readsS", desc := "()Z" } : Jvm.MethodName)) ∈ lw_all := lw_g (lw_at lw_m16 226 rfl) rfl
theorem q3951 : (Jvm.Cond.code ({ cls := "DoughLedgerModel", name := "readsS", desc := "()Z" } : Jvm.MethodName) prog_21_method_119_code (1 : Nat) (Option.some Jvm.ClassFile.FieldType.boolean)) ∈ lw_all := lw_g (lw_at lw_m16 227 rfl) rfl
theorem q3952 : (Jvm.Cond.methodLink "DoughLedgerModel" (305 : Nat) ({ cls := "DoughLedgerModel", name := "readsRule", desc := "()Z" } : Jvm.MethodName)) ∈ lw_all := lw_g (lw_at lw_m16 228 rfl) rfl
theorem q3953 : (Jvm.Cond.privateMethod ({ cls := "DoughLedgerModel", name := "readsRule", desc := "()Z" } : Jvm.MethodName)) ∈ lw_tbl := lw_at lw_m16 229 rfl
theorem q3954 : (Jvm.Cond.instanceMethod ({ cls := "DoughLedgerModel", name := "readsRule", desc := "()Z" } : Jvm.MethodName)) ∈ lw_all := lw_g (lw_at lw_m16 230 rfl) rfl
theorem q3955 : (Jvm.Cond.code ({ cls := "DoughLedgerModel", name := "readsRule", desc := "()Z" } : Jvm.MethodName) prog_21_method_120_code (1 : Nat) (Option.some Jvm.ClassFile.FieldType.boolean)) ∈ lw_all := lw_g (lw_at lw_m16 231 rfl) rfl
theorem q3956 : (Jvm.Cond.methodLink "DoughLedgerModel" (330 : Nat) ({ cls := "DoughLedgerModel", name := "doesAll", desc := "()Z" } : Jvm.MethodName)) ∈ lw_all := lw_g (lw_at lw_m16 232 rfl) rfl
theorem q3957 : (Jvm.Cond.privateMethod ({ cls := "DoughLedgerModel", name := "doesAll", desc := "()Z" } : Jvm.MethodName)) ∈ lw_tbl := lw_at lw_m16 233 rfl
theorem q3958 : (Jvm.Cond.instanceMethod ({ cls := "DoughLedgerModel", name := "doesAll", desc := "()Z" } : Jvm.MethodName)) ∈ lw_all := lw_g (lw_at lw_m16 234 rfl) rfl
theorem q3959 : (Jvm.Cond.code ({ cls := "DoughLedgerModel", name := "doesAll", desc := "()Z" } : Jvm.MethodName) prog_21_method_126_code (3 : Nat) (Option.some Jvm.ClassFile.FieldType.boolean)) ∈ lw_all := lw_g (lw_at lw_m16 235 rfl) rfl
theorem q3960 : (Jvm.Cond.methodLink "DoughLedgerModel" (318 : Nat) ({ cls := "DoughLedgerModel", name := "notNow", desc := "()I" } : Jvm.MethodName)) ∈ lw_all := lw_g (lw_at lw_m16 236 rfl) rfl
theorem q3961 : (Jvm.Cond.privateMethod ({ cls := "DoughLedgerModel", name := "notNow", desc := "()I" } : Jvm.MethodName)) ∈ lw_tbl := lw_at lw_m16 237 rfl
theorem q3962 : (Jvm.Cond.instanceMethod ({ cls := "DoughLedgerModel", name := "notNow", desc := "()I" } : Jvm.MethodName)) ∈ lw_all := lw_g (lw_at lw_m16 238 rfl) rfl
theorem q3963 : (Jvm.Cond.code ({ cls := "DoughLedgerModel", name := "notNow", desc := "()I" } : Jvm.MethodName) prog_21_method_124_code (3 : Nat) (Option.some Jvm.ClassFile.FieldType.int)) ∈ lw_all := lw_g (lw_at lw_m16 239 rfl) rfl
theorem q3964 : (Jvm.Cond.methodLink "DoughLedgerModel" (311 : Nat) ({ cls := "DoughLedgerModel", name := "kind", desc := "(IIII)I" } : Jvm.MethodName)) ∈ lw_all := lw_g (lw_at lw_m17 0 rfl) rfl
theorem q3965 : (Jvm.Cond.static ({ cls := "DoughLedgerModel", name := "kind", desc := "(IIII)I" } : Jvm.MethodName)) ∈ lw_all := lw_g (lw_at lw_m17 1 rfl) rfl
theorem q3966 : (Jvm.Cond.code ({ cls := "DoughLedgerModel", name := "kind", desc := "(IIII)I" } : Jvm.MethodName) prog_21_method_123_code (4 : Nat) (Option.some Jvm.ClassFile.FieldType.int)) ∈ lw_all := lw_g (lw_at lw_m17 2 rfl) rfl
theorem q3967 : (Jvm.Cond.methodLink "DoughLedgerModel" (324 : Nat) ({ cls := "DoughLedgerModel", name := "doesNow", desc := "()I" } : Jvm.MethodName)) ∈ lw_all := lw_g (lw_at lw_m17 3 rfl) rfl
theorem q3968 : (Jvm.Cond.privateMethod ({ cls := "DoughLedgerModel", name := "doesNow", desc := "()I" } : Jvm.MethodName)) ∈ lw_tbl := lw_at lw_m17 4 rfl
theorem q3969 : (Jvm.Cond.instanceMethod ({ cls := "DoughLedgerModel", name := "doesNow", desc := "()I" } : Jvm.MethodName)) ∈ lw_all := lw_g (lw_at lw_m17 5 rfl) rfl
theorem q3970 : (Jvm.Cond.code ({ cls := "DoughLedgerModel", name := "doesNow", desc := "()I" } : Jvm.MethodName) prog_21_method_125_code (3 : Nat) (Option.some Jvm.ClassFile.FieldType.int)) ∈ lw_all := lw_g (lw_at lw_m17 6 rfl) rfl
theorem q3971 : (Jvm.Cond.methodLink "DoughLedgerModel" (333 : Nat) ({ cls := "DoughLedgerModel", name := "goesBack", desc := "()V" } : Jvm.MethodName)) ∈ lw_all := lw_g (lw_at lw_m17 7 rfl) rfl
theorem q3972 : (Jvm.Cond.privateMethod ({ cls := "DoughLedgerModel", name := "goesBack", desc := "()V" } : Jvm.MethodName)) ∈ lw_tbl := lw_at lw_m17 8 rfl
theorem q3973 : (Jvm.Cond.instanceMethod ({ cls := "DoughLedgerModel", name := "goesBack", desc := "()V" } : Jvm.MethodName)) ∈ lw_all := lw_g (lw_at lw_m17 9 rfl) rfl
theorem q3974 : (Jvm.Cond.code ({ cls := "DoughLedgerModel", name := "goesBack", desc := "()V" } : Jvm.MethodName) prog_21_method_7_code (2 : Nat) (Option.none : Option Jvm.ClassFile.FieldType)) ∈ lw_all := lw_g (lw_at lw_m17 10 rfl) rfl
theorem q3976 : (Jvm.Cond.instanceMethod ({ cls := "DoughLedgerModel", name := "errorPosition", desc := "()I" } : Jvm.MethodName)) ∈ lw_all := lw_g (lw_at lw_m17 12 rfl) rfl
theorem q3977 : (Jvm.Cond.selects "DoughLedgerModel" ({ cls := "DoughLedgerModel", name := "errorPosition", desc := "()I" } : Jvm.MethodName) ({ cls := "DoughLedgerModel", name := "errorPosition", desc := "()I" } : Jvm.MethodName)) ∈ lw_all := lw_g (lw_at lw_m17 13 rfl) rfl
theorem q3978 : (Jvm.Cond.code ({ cls := "DoughLedgerModel", name := "errorPosition", desc := "()I" } : Jvm.MethodName) prog_21_method_128_code (1 : Nat) (Option.some Jvm.ClassFile.FieldType.int)) ∈ lw_all := lw_g (lw_at lw_m17 14 rfl) rfl
theorem q3980 : (Jvm.Cond.instanceMethod ({ cls := "DoughLedgerModel", name := "failedCommand", desc := "()I" } : Jvm.MethodName)) ∈ lw_all := lw_g (lw_at lw_m17 16 rfl) rfl
theorem q3981 : (Jvm.Cond.selects "DoughLedgerModel" ({ cls := "DoughLedgerModel", name := "failedCommand", desc := "()I" } : Jvm.MethodName) ({ cls := "DoughLedgerModel", name := "failedCommand", desc := "()I" } : Jvm.MethodName)) ∈ lw_all := lw_g (lw_at lw_m17 17 rfl) rfl
theorem q3982 : (Jvm.Cond.code ({ cls := "DoughLedgerModel", name := "failedCommand", desc := "()I" } : Jvm.MethodName) prog_21_method_129_code (1 : Nat) (Option.some Jvm.ClassFile.FieldType.int)) ∈ lw_all := lw_g (lw_at lw_m17 18 rfl) rfl
theorem q3984 : (Jvm.Cond.instanceMethod ({ cls := "DoughLedgerModel", name := "failureKind", desc := "()C" } : Jvm.MethodName)) ∈ lw_all := lw_g (lw_at lw_m17 20 rfl) rfl
theorem q3985 : (Jvm.Cond.selects "DoughLedgerModel" ({ cls := "DoughLedgerModel", name := "failureKind", desc := "()C" } : Jvm.MethodName) ({ cls := "DoughLedgerModel", name := "failureKind", desc := "()C" } : Jvm.MethodName)) ∈ lw_all := lw_g (lw_at lw_m17 21 rfl) rfl
theorem q3986 : (Jvm.Cond.code ({ cls := "DoughLedgerModel", name := "failureKind", desc := "()C" } : Jvm.MethodName) prog_21_method_130_code (1 : Nat) (Option.some Jvm.ClassFile.FieldType.char)) ∈ lw_all := lw_g (lw_at lw_m17 22 rfl) rfl
theorem q3988 : (Jvm.Cond.instanceMethod ({ cls := "DoughLedgerModel", name := "undo", desc := "()I" } : Jvm.MethodName)) ∈ lw_all := lw_g (lw_at lw_m17 24 rfl) rfl
theorem q3989 : (Jvm.Cond.selects "DoughLedgerModel" ({ cls := "DoughLedgerModel", name := "undo", desc := "()I" } : Jvm.MethodName) ({ cls := "DoughLedgerModel", name := "undo", desc := "()I" } : Jvm.MethodName)) ∈ lw_all := lw_g (lw_at lw_m17 25 rfl) rfl
theorem q3990 : (Jvm.Cond.code ({ cls := "DoughLedgerModel", name := "undo", desc := "()I" } : Jvm.MethodName) prog_21_method_131_code (3 : Nat) (Option.some Jvm.ClassFile.FieldType.int)) ∈ lw_all := lw_g (lw_at lw_m17 26 rfl) rfl
theorem q3992 : (Jvm.Cond.instanceMethod ({ cls := "DoughLedgerModel", name := "save", desc := "()I" } : Jvm.MethodName)) ∈ lw_all := lw_g (lw_at lw_m17 28 rfl) rfl
theorem q3993 : (Jvm.Cond.selects "DoughLedgerModel" ({ cls := "DoughLedgerModel", name := "save", desc := "()I" } : Jvm.MethodName) ({ cls := "DoughLedgerModel", name := "save", desc := "()I" } : Jvm.MethodName)) ∈ lw_all := lw_g (lw_at lw_m17 29 rfl) rfl
theorem q3994 : (Jvm.Cond.code ({ cls := "DoughLedgerModel", name := "save", desc := "()I" } : Jvm.MethodName) prog_21_method_132_code (2 : Nat) (Option.some Jvm.ClassFile.FieldType.int)) ∈ lw_all := lw_g (lw_at lw_m17 30 rfl) rfl
theorem q3996 : (Jvm.Cond.instanceMethod ({ cls := "DoughLedgerModel", name := "restore", desc := "()I" } : Jvm.MethodName)) ∈ lw_all := lw_g (lw_at lw_m17 32 rfl) rfl
theorem q3997 : (Jvm.Cond.selects "DoughLedgerModel" ({ cls := "DoughLedgerModel", name := "restore", desc := "()I" } : Jvm.MethodName) ({ cls := "DoughLedgerModel", name := "restore", desc := "()I" } : Jvm.MethodName)) ∈ lw_all := lw_g (lw_at lw_m17 33 rfl) rfl
theorem q3998 : (Jvm.Cond.code ({ cls := "DoughLedgerModel", name := "restore", desc := "()I" } : Jvm.MethodName) prog_21_method_133_code (2 : Nat) (Option.some Jvm.ClassFile.FieldType.int)) ∈ lw_all := lw_g (lw_at lw_m17 34 rfl) rfl
theorem q4034 : (Jvm.Cond.castable "DoughLedgerModel" "java/lang/Object") ∈ lw_tbl := lw_at lw_m17 70 rfl
theorem in_X3 : ∀ w ∈ wsX30, w ∈ lw_all := lw_in wsX30 [3425, 3427, 3429, 3431, 3433, 3435, 3437, 3439, 3441, 3443, 3445, 3447, 3449, 3451, 3453, 3455, 3457, 3459, 3461, 3463, 3465, 3467, 3469] (by decide +kernel) (by decide +kernel)
