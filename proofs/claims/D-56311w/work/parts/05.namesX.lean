/-! DoughLedger -/
set_option maxRecDepth 100000
def RX1 : String := "DoughLedger"
def TX1 : u_T := fun k => match k with
  | 0 => ("DoughLedger", "bakery", "LDoughLedger$Bakery;", false)
  | 1 => ("DoughLedger", "snapshot", "LDoughLedger$Bakery;", false)
  | 2 => ("DoughLedger", "history", "Ljava/util/LinkedList;", true)
  | 3 => ("DoughLedger", "script", "Ljava/lang/StringBuilder;", true)
  | 4 => ("DoughLedger", "errorPosition", "I", false)
  | 5 => ("DoughLedger", "failedCommand", "I", false)
  | 6 => ("DoughLedger", "failureKind", "C", false)
  | _ => ("DoughLedger", "output", "Ljava/lang/String;", false)
def tyX1 : Nat → FieldType := fun k => match k with
  | 0 => .object "DoughLedger$Bakery"
  | 1 => .object "DoughLedger$Bakery"
  | 2 => .object "java/util/LinkedList"
  | 3 => .object "java/lang/StringBuilder"
  | 4 => .int
  | 5 => .int
  | 6 => .char
  | _ => .object "java/lang/String"
abbrev wsX10 : List Cond := u_ws RX1 TX1 8
theorem nmX1 : ∀ a, a < 8 → ∀ b, b < 8 → a ≠ b → (TX1 a).2.1 ≠ (TX1 b).2.1 := by decide +kernel
theorem tyX1_ok : ∀ k, k < 8 → parseFieldDescriptor (TX1 k).2.2.1 = some (tyX1 k) := by decide +kernel
abbrev cX1_init : ByteArray := prog_1_method_8_code
def yX1_init : MethodName := ⟨RX1, "<init>", "()V"⟩
def dkwX1_init_2 : List UInt8 := [42, 18, 53, 181, 0, 55, 177]
abbrev dktX1_init_2 : List UInt8 := dkwX1_init_2 ++ []
def dkwX1_init_1 : List UInt8 := [181, 0, 35, 42, 187, 0, 39, 89, 183, 0, 41, 181, 0, 42, 42, 2, 181, 0, 46, 42, 2, 181, 0, 50]
abbrev dktX1_init_1 : List UInt8 := dkwX1_init_1 ++ dktX1_init_2
def dkwX1_init_0 : List UInt8 := [42, 183, 0, 20, 42, 187, 0, 25, 89, 183, 0, 27, 181, 0, 28, 42, 187, 0, 32, 89, 183, 0, 34]
abbrev dktX1_init_0 : List UInt8 := dkwX1_init_0 ++ dktX1_init_1
theorem dksX1_init_0 : cX1_init.data.toList.drop 0 = dktX1_init_0 := by decide +kernel
theorem dksX1_init_1 : cX1_init.data.toList.drop 23 = dktX1_init_1 := dk_seg dksX1_init_0 23 rfl rfl
theorem dksX1_init_2 : cX1_init.data.toList.drop 47 = dktX1_init_2 := dk_seg dksX1_init_1 24 rfl rfl
theorem dX1_init_0 : decode cX1_init 0 = .ok (.aload_n 0, 1) := dk_42 (dk_at dksX1_init_0 0 rfl rfl)
theorem dX1_init_1 : decode cX1_init 1 = .ok (.invokespecial 20, 3) := dk_183 0 20 (dk_at dksX1_init_0 1 rfl rfl)
theorem dX1_init_4 : decode cX1_init 4 = .ok (.aload_n 0, 1) := dk_42 (dk_at dksX1_init_0 4 rfl rfl)
theorem dX1_init_5 : decode cX1_init 5 = .ok (.new 25, 3) := dk_187 0 25 (dk_at dksX1_init_0 5 rfl rfl)
theorem dX1_init_8 : decode cX1_init 8 = .ok (.dup, 1) := dk_89 (dk_at dksX1_init_0 8 rfl rfl)
theorem dX1_init_9 : decode cX1_init 9 = .ok (.invokespecial 27, 3) := dk_183 0 27 (dk_at dksX1_init_0 9 rfl rfl)
theorem dX1_init_12 : decode cX1_init 12 = .ok (.putfield 28, 3) := dk_181 0 28 (dk_at dksX1_init_0 12 rfl rfl)
theorem dX1_init_15 : decode cX1_init 15 = .ok (.aload_n 0, 1) := dk_42 (dk_at dksX1_init_0 15 rfl rfl)
theorem dX1_init_16 : decode cX1_init 16 = .ok (.new 32, 3) := dk_187 0 32 (dk_at dksX1_init_0 16 rfl rfl)
theorem dX1_init_19 : decode cX1_init 19 = .ok (.dup, 1) := dk_89 (dk_at dksX1_init_0 19 rfl rfl)
theorem dX1_init_20 : decode cX1_init 20 = .ok (.invokespecial 34, 3) := dk_183 0 34 (dk_at dksX1_init_0 20 rfl rfl)
theorem dX1_init_23 : decode cX1_init 23 = .ok (.putfield 35, 3) := dk_181 0 35 (dk_at dksX1_init_1 0 rfl rfl)
theorem dX1_init_26 : decode cX1_init 26 = .ok (.aload_n 0, 1) := dk_42 (dk_at dksX1_init_1 3 rfl rfl)
theorem dX1_init_27 : decode cX1_init 27 = .ok (.new 39, 3) := dk_187 0 39 (dk_at dksX1_init_1 4 rfl rfl)
theorem dX1_init_30 : decode cX1_init 30 = .ok (.dup, 1) := dk_89 (dk_at dksX1_init_1 7 rfl rfl)
theorem dX1_init_31 : decode cX1_init 31 = .ok (.invokespecial 41, 3) := dk_183 0 41 (dk_at dksX1_init_1 8 rfl rfl)
theorem dX1_init_34 : decode cX1_init 34 = .ok (.putfield 42, 3) := dk_181 0 42 (dk_at dksX1_init_1 11 rfl rfl)
theorem dX1_init_37 : decode cX1_init 37 = .ok (.aload_n 0, 1) := dk_42 (dk_at dksX1_init_1 14 rfl rfl)
theorem dX1_init_38 : decode cX1_init 38 = .ok (.iconst (-1), 1) := dk_2 (dk_at dksX1_init_1 15 rfl rfl)
theorem dX1_init_39 : decode cX1_init 39 = .ok (.putfield 46, 3) := dk_181 0 46 (dk_at dksX1_init_1 16 rfl rfl)
theorem dX1_init_42 : decode cX1_init 42 = .ok (.aload_n 0, 1) := dk_42 (dk_at dksX1_init_1 19 rfl rfl)
theorem dX1_init_43 : decode cX1_init 43 = .ok (.iconst (-1), 1) := dk_2 (dk_at dksX1_init_1 20 rfl rfl)
theorem dX1_init_44 : decode cX1_init 44 = .ok (.putfield 50, 3) := dk_181 0 50 (dk_at dksX1_init_1 21 rfl rfl)
theorem dX1_init_47 : decode cX1_init 47 = .ok (.aload_n 0, 1) := dk_42 (dk_at dksX1_init_2 0 rfl rfl)
theorem dX1_init_48 : decode cX1_init 48 = .ok (.ldc 53, 2) := dk_18 53 (dk_at dksX1_init_2 1 rfl rfl)
theorem dX1_init_50 : decode cX1_init 50 = .ok (.putfield 55, 3) := dk_181 0 55 (dk_at dksX1_init_2 3 rfl rfl)
theorem dX1_init_53 : decode cX1_init 53 = .ok (.return_, 1) := dk_177 (dk_at dksX1_init_2 6 rfl rfl)
abbrev cX1_doughCount : ByteArray := prog_1_method_28_code
def yX1_doughCount : MethodName := ⟨RX1, "doughCount", "()I"⟩
def dkwX1_doughCount_0 : List UInt8 := [42, 180, 0, 28, 180, 0, 133, 182, 0, 151, 172]
abbrev dktX1_doughCount_0 : List UInt8 := dkwX1_doughCount_0 ++ []
theorem dksX1_doughCount_0 : cX1_doughCount.data.toList.drop 0 = dktX1_doughCount_0 := by decide +kernel
theorem dX1_doughCount_0 : decode cX1_doughCount 0 = .ok (.aload_n 0, 1) := dk_42 (dk_at dksX1_doughCount_0 0 rfl rfl)
theorem dX1_doughCount_1 : decode cX1_doughCount 1 = .ok (.getfield 28, 3) := dk_180 0 28 (dk_at dksX1_doughCount_0 1 rfl rfl)
theorem dX1_doughCount_4 : decode cX1_doughCount 4 = .ok (.getfield 133, 3) := dk_180 0 133 (dk_at dksX1_doughCount_0 4 rfl rfl)
theorem dX1_doughCount_7 : decode cX1_doughCount 7 = .ok (.invokevirtual 151, 3) := dk_182 0 151 (dk_at dksX1_doughCount_0 7 rfl rfl)
theorem dX1_doughCount_10 : decode cX1_doughCount 10 = .ok (.ireturn, 1) := dk_172 (dk_at dksX1_doughCount_0 10 rfl rfl)
abbrev cX1_bowlCount : ByteArray := prog_1_method_39_code
def yX1_bowlCount : MethodName := ⟨RX1, "bowlCount", "()I"⟩
def dkwX1_bowlCount_0 : List UInt8 := [42, 180, 0, 28, 180, 0, 207, 185, 0, 218, 1, 0, 172]
abbrev dktX1_bowlCount_0 : List UInt8 := dkwX1_bowlCount_0 ++ []
theorem dksX1_bowlCount_0 : cX1_bowlCount.data.toList.drop 0 = dktX1_bowlCount_0 := by decide +kernel
theorem dX1_bowlCount_0 : decode cX1_bowlCount 0 = .ok (.aload_n 0, 1) := dk_42 (dk_at dksX1_bowlCount_0 0 rfl rfl)
theorem dX1_bowlCount_1 : decode cX1_bowlCount 1 = .ok (.getfield 28, 3) := dk_180 0 28 (dk_at dksX1_bowlCount_0 1 rfl rfl)
theorem dX1_bowlCount_4 : decode cX1_bowlCount 4 = .ok (.getfield 207, 3) := dk_180 0 207 (dk_at dksX1_bowlCount_0 4 rfl rfl)
theorem dX1_bowlCount_7 : decode cX1_bowlCount 7 = .ok (.invokeinterface 218 1, 5) := by decide +kernel
theorem dX1_bowlCount_12 : decode cX1_bowlCount 12 = .ok (.ireturn, 1) := dk_172 (dk_at dksX1_bowlCount_0 12 rfl rfl)
abbrev cX1_loafCount : ByteArray := prog_1_method_45_code
def yX1_loafCount : MethodName := ⟨RX1, "loafCount", "()I"⟩
def dkwX1_loafCount_0 : List UInt8 := [42, 180, 0, 28, 180, 0, 238, 185, 0, 218, 1, 0, 172]
abbrev dktX1_loafCount_0 : List UInt8 := dkwX1_loafCount_0 ++ []
theorem dksX1_loafCount_0 : cX1_loafCount.data.toList.drop 0 = dktX1_loafCount_0 := by decide +kernel
theorem dX1_loafCount_0 : decode cX1_loafCount 0 = .ok (.aload_n 0, 1) := dk_42 (dk_at dksX1_loafCount_0 0 rfl rfl)
theorem dX1_loafCount_1 : decode cX1_loafCount 1 = .ok (.getfield 28, 3) := dk_180 0 28 (dk_at dksX1_loafCount_0 1 rfl rfl)
theorem dX1_loafCount_4 : decode cX1_loafCount 4 = .ok (.getfield 238, 3) := dk_180 0 238 (dk_at dksX1_loafCount_0 4 rfl rfl)
theorem dX1_loafCount_7 : decode cX1_loafCount 7 = .ok (.invokeinterface 218 1, 5) := by decide +kernel
theorem dX1_loafCount_12 : decode cX1_loafCount 12 = .ok (.ireturn, 1) := dk_172 (dk_at dksX1_loafCount_0 12 rfl rfl)
abbrev cX1_ovens : ByteArray := prog_1_method_53_code
def yX1_ovens : MethodName := ⟨RX1, "ovens", "()I"⟩
def dkwX1_ovens_0 : List UInt8 := [42, 180, 0, 28, 180, 1, 19, 172]
abbrev dktX1_ovens_0 : List UInt8 := dkwX1_ovens_0 ++ []
theorem dksX1_ovens_0 : cX1_ovens.data.toList.drop 0 = dktX1_ovens_0 := by decide +kernel
theorem dX1_ovens_0 : decode cX1_ovens 0 = .ok (.aload_n 0, 1) := dk_42 (dk_at dksX1_ovens_0 0 rfl rfl)
theorem dX1_ovens_1 : decode cX1_ovens 1 = .ok (.getfield 28, 3) := dk_180 0 28 (dk_at dksX1_ovens_0 1 rfl rfl)
theorem dX1_ovens_4 : decode cX1_ovens 4 = .ok (.getfield 275, 3) := dk_180 1 19 (dk_at dksX1_ovens_0 4 rfl rfl)
theorem dX1_ovens_7 : decode cX1_ovens 7 = .ok (.ireturn, 1) := dk_172 (dk_at dksX1_ovens_0 7 rfl rfl)
abbrev cX1_shortestTime : ByteArray := prog_1_method_54_code
def yX1_shortestTime : MethodName := ⟨RX1, "shortestTime", "()I"⟩
def dkwX1_shortestTime_0 : List UInt8 := [42, 180, 0, 28, 182, 1, 22, 182, 1, 26, 172]
abbrev dktX1_shortestTime_0 : List UInt8 := dkwX1_shortestTime_0 ++ []
theorem dksX1_shortestTime_0 : cX1_shortestTime.data.toList.drop 0 = dktX1_shortestTime_0 := by decide +kernel
theorem dX1_shortestTime_0 : decode cX1_shortestTime 0 = .ok (.aload_n 0, 1) := dk_42 (dk_at dksX1_shortestTime_0 0 rfl rfl)
theorem dX1_shortestTime_1 : decode cX1_shortestTime 1 = .ok (.getfield 28, 3) := dk_180 0 28 (dk_at dksX1_shortestTime_0 1 rfl rfl)
theorem dX1_shortestTime_4 : decode cX1_shortestTime 4 = .ok (.invokevirtual 278, 3) := dk_182 1 22 (dk_at dksX1_shortestTime_0 4 rfl rfl)
theorem dX1_shortestTime_7 : decode cX1_shortestTime 7 = .ok (.invokevirtual 282, 3) := dk_182 1 26 (dk_at dksX1_shortestTime_0 7 rfl rfl)
theorem dX1_shortestTime_10 : decode cX1_shortestTime 10 = .ok (.ireturn, 1) := dk_172 (dk_at dksX1_shortestTime_0 10 rfl rfl)
abbrev cX1_shortestTimeByDeciding : ByteArray := prog_1_method_55_code
def yX1_shortestTimeByDeciding : MethodName := ⟨RX1, "shortestTimeByDeciding", "()I"⟩
def dkwX1_shortestTimeByDeciding_0 : List UInt8 := [42, 180, 0, 28, 182, 1, 22, 182, 1, 31, 172]
abbrev dktX1_shortestTimeByDeciding_0 : List UInt8 := dkwX1_shortestTimeByDeciding_0 ++ []
theorem dksX1_shortestTimeByDeciding_0 : cX1_shortestTimeByDeciding.data.toList.drop 0 = dktX1_shortestTimeByDeciding_0 := by decide +kernel
theorem dX1_shortestTimeByDeciding_0 : decode cX1_shortestTimeByDeciding 0 = .ok (.aload_n 0, 1) := dk_42 (dk_at dksX1_shortestTimeByDeciding_0 0 rfl rfl)
theorem dX1_shortestTimeByDeciding_1 : decode cX1_shortestTimeByDeciding 1 = .ok (.getfield 28, 3) := dk_180 0 28 (dk_at dksX1_shortestTimeByDeciding_0 1 rfl rfl)
theorem dX1_shortestTimeByDeciding_4 : decode cX1_shortestTimeByDeciding 4 = .ok (.invokevirtual 278, 3) := dk_182 1 22 (dk_at dksX1_shortestTimeByDeciding_0 4 rfl rfl)
theorem dX1_shortestTimeByDeciding_7 : decode cX1_shortestTimeByDeciding 7 = .ok (.invokevirtual 287, 3) := dk_182 1 31 (dk_at dksX1_shortestTimeByDeciding_0 7 rfl rfl)
theorem dX1_shortestTimeByDeciding_10 : decode cX1_shortestTimeByDeciding 10 = .ok (.ireturn, 1) := dk_172 (dk_at dksX1_shortestTimeByDeciding_0 10 rfl rfl)
abbrev cX1_greedyTime : ByteArray := prog_1_method_56_code
def yX1_greedyTime : MethodName := ⟨RX1, "greedyTime", "()I"⟩
def dkwX1_greedyTime_0 : List UInt8 := [42, 180, 0, 28, 182, 1, 22, 182, 1, 34, 172]
abbrev dktX1_greedyTime_0 : List UInt8 := dkwX1_greedyTime_0 ++ []
theorem dksX1_greedyTime_0 : cX1_greedyTime.data.toList.drop 0 = dktX1_greedyTime_0 := by decide +kernel
theorem dX1_greedyTime_0 : decode cX1_greedyTime 0 = .ok (.aload_n 0, 1) := dk_42 (dk_at dksX1_greedyTime_0 0 rfl rfl)
theorem dX1_greedyTime_1 : decode cX1_greedyTime 1 = .ok (.getfield 28, 3) := dk_180 0 28 (dk_at dksX1_greedyTime_0 1 rfl rfl)
theorem dX1_greedyTime_4 : decode cX1_greedyTime 4 = .ok (.invokevirtual 278, 3) := dk_182 1 22 (dk_at dksX1_greedyTime_0 4 rfl rfl)
theorem dX1_greedyTime_7 : decode cX1_greedyTime 7 = .ok (.invokevirtual 290, 3) := dk_182 1 34 (dk_at dksX1_greedyTime_0 7 rfl rfl)
theorem dX1_greedyTime_10 : decode cX1_greedyTime 10 = .ok (.ireturn, 1) := dk_172 (dk_at dksX1_greedyTime_0 10 rfl rfl)
abbrev cX1_pouredTotal : ByteArray := prog_1_method_57_code
def yX1_pouredTotal : MethodName := ⟨RX1, "pouredTotal", "()J"⟩
def dkwX1_pouredTotal_0 : List UInt8 := [42, 180, 0, 28, 180, 1, 37, 173]
abbrev dktX1_pouredTotal_0 : List UInt8 := dkwX1_pouredTotal_0 ++ []
theorem dksX1_pouredTotal_0 : cX1_pouredTotal.data.toList.drop 0 = dktX1_pouredTotal_0 := by decide +kernel
theorem dX1_pouredTotal_0 : decode cX1_pouredTotal 0 = .ok (.aload_n 0, 1) := dk_42 (dk_at dksX1_pouredTotal_0 0 rfl rfl)
theorem dX1_pouredTotal_1 : decode cX1_pouredTotal 1 = .ok (.getfield 28, 3) := dk_180 0 28 (dk_at dksX1_pouredTotal_0 1 rfl rfl)
theorem dX1_pouredTotal_4 : decode cX1_pouredTotal 4 = .ok (.getfield 293, 3) := dk_180 1 37 (dk_at dksX1_pouredTotal_0 4 rfl rfl)
theorem dX1_pouredTotal_7 : decode cX1_pouredTotal 7 = .ok (.lreturn, 1) := dk_173 (dk_at dksX1_pouredTotal_0 7 rfl rfl)
abbrev cX1_spilledTotal : ByteArray := prog_1_method_58_code
def yX1_spilledTotal : MethodName := ⟨RX1, "spilledTotal", "()J"⟩
def dkwX1_spilledTotal_0 : List UInt8 := [42, 180, 0, 28, 180, 1, 40, 173]
abbrev dktX1_spilledTotal_0 : List UInt8 := dkwX1_spilledTotal_0 ++ []
theorem dksX1_spilledTotal_0 : cX1_spilledTotal.data.toList.drop 0 = dktX1_spilledTotal_0 := by decide +kernel
theorem dX1_spilledTotal_0 : decode cX1_spilledTotal 0 = .ok (.aload_n 0, 1) := dk_42 (dk_at dksX1_spilledTotal_0 0 rfl rfl)
theorem dX1_spilledTotal_1 : decode cX1_spilledTotal 1 = .ok (.getfield 28, 3) := dk_180 0 28 (dk_at dksX1_spilledTotal_0 1 rfl rfl)
theorem dX1_spilledTotal_4 : decode cX1_spilledTotal 4 = .ok (.getfield 296, 3) := dk_180 1 40 (dk_at dksX1_spilledTotal_0 4 rfl rfl)
theorem dX1_spilledTotal_7 : decode cX1_spilledTotal 7 = .ok (.lreturn, 1) := dk_173 (dk_at dksX1_spilledTotal_0 7 rfl rfl)
abbrev cX1_goneTotal : ByteArray := prog_1_method_59_code
def yX1_goneTotal : MethodName := ⟨RX1, "goneTotal", "()J"⟩
def dkwX1_goneTotal_0 : List UInt8 := [42, 180, 0, 28, 180, 1, 43, 173]
abbrev dktX1_goneTotal_0 : List UInt8 := dkwX1_goneTotal_0 ++ []
theorem dksX1_goneTotal_0 : cX1_goneTotal.data.toList.drop 0 = dktX1_goneTotal_0 := by decide +kernel
theorem dX1_goneTotal_0 : decode cX1_goneTotal 0 = .ok (.aload_n 0, 1) := dk_42 (dk_at dksX1_goneTotal_0 0 rfl rfl)
theorem dX1_goneTotal_1 : decode cX1_goneTotal 1 = .ok (.getfield 28, 3) := dk_180 0 28 (dk_at dksX1_goneTotal_0 1 rfl rfl)
theorem dX1_goneTotal_4 : decode cX1_goneTotal 4 = .ok (.getfield 299, 3) := dk_180 1 43 (dk_at dksX1_goneTotal_0 4 rfl rfl)
theorem dX1_goneTotal_7 : decode cX1_goneTotal 7 = .ok (.lreturn, 1) := dk_173 (dk_at dksX1_goneTotal_0 7 rfl rfl)
abbrev cX1_crumbsNow : ByteArray := prog_1_method_60_code
def yX1_crumbsNow : MethodName := ⟨RX1, "crumbsNow", "()I"⟩
def dkwX1_crumbsNow_0 : List UInt8 := [42, 180, 0, 28, 182, 1, 46, 172]
abbrev dktX1_crumbsNow_0 : List UInt8 := dkwX1_crumbsNow_0 ++ []
theorem dksX1_crumbsNow_0 : cX1_crumbsNow.data.toList.drop 0 = dktX1_crumbsNow_0 := by decide +kernel
theorem dX1_crumbsNow_0 : decode cX1_crumbsNow 0 = .ok (.aload_n 0, 1) := dk_42 (dk_at dksX1_crumbsNow_0 0 rfl rfl)
theorem dX1_crumbsNow_1 : decode cX1_crumbsNow 1 = .ok (.getfield 28, 3) := dk_180 0 28 (dk_at dksX1_crumbsNow_0 1 rfl rfl)
theorem dX1_crumbsNow_4 : decode cX1_crumbsNow 4 = .ok (.invokevirtual 302, 3) := dk_182 1 46 (dk_at dksX1_crumbsNow_0 4 rfl rfl)
theorem dX1_crumbsNow_7 : decode cX1_crumbsNow 7 = .ok (.ireturn, 1) := dk_172 (dk_at dksX1_crumbsNow_0 7 rfl rfl)
abbrev cX1_crumbsByAccounts : ByteArray := prog_1_method_61_code
def yX1_crumbsByAccounts : MethodName := ⟨RX1, "crumbsByAccounts", "()J"⟩
def dkwX1_crumbsByAccounts_0 : List UInt8 := [42, 180, 0, 28, 182, 1, 48, 173]
abbrev dktX1_crumbsByAccounts_0 : List UInt8 := dkwX1_crumbsByAccounts_0 ++ []
theorem dksX1_crumbsByAccounts_0 : cX1_crumbsByAccounts.data.toList.drop 0 = dktX1_crumbsByAccounts_0 := by decide +kernel
theorem dX1_crumbsByAccounts_0 : decode cX1_crumbsByAccounts 0 = .ok (.aload_n 0, 1) := dk_42 (dk_at dksX1_crumbsByAccounts_0 0 rfl rfl)
theorem dX1_crumbsByAccounts_1 : decode cX1_crumbsByAccounts 1 = .ok (.getfield 28, 3) := dk_180 0 28 (dk_at dksX1_crumbsByAccounts_0 1 rfl rfl)
theorem dX1_crumbsByAccounts_4 : decode cX1_crumbsByAccounts 4 = .ok (.invokevirtual 304, 3) := dk_182 1 48 (dk_at dksX1_crumbsByAccounts_0 4 rfl rfl)
theorem dX1_crumbsByAccounts_7 : decode cX1_crumbsByAccounts 7 = .ok (.lreturn, 1) := dk_173 (dk_at dksX1_crumbsByAccounts_0 7 rfl rfl)
abbrev cX1_errorTotal : ByteArray := prog_1_method_62_code
def yX1_errorTotal : MethodName := ⟨RX1, "errorTotal", "()J"⟩
def dkwX1_errorTotal_0 : List UInt8 := [42, 180, 0, 28, 180, 1, 52, 173]
abbrev dktX1_errorTotal_0 : List UInt8 := dkwX1_errorTotal_0 ++ []
theorem dksX1_errorTotal_0 : cX1_errorTotal.data.toList.drop 0 = dktX1_errorTotal_0 := by decide +kernel
theorem dX1_errorTotal_0 : decode cX1_errorTotal 0 = .ok (.aload_n 0, 1) := dk_42 (dk_at dksX1_errorTotal_0 0 rfl rfl)
theorem dX1_errorTotal_1 : decode cX1_errorTotal 1 = .ok (.getfield 28, 3) := dk_180 0 28 (dk_at dksX1_errorTotal_0 1 rfl rfl)
theorem dX1_errorTotal_4 : decode cX1_errorTotal 4 = .ok (.getfield 308, 3) := dk_180 1 52 (dk_at dksX1_errorTotal_0 4 rfl rfl)
theorem dX1_errorTotal_7 : decode cX1_errorTotal 7 = .ok (.lreturn, 1) := dk_173 (dk_at dksX1_errorTotal_0 7 rfl rfl)
abbrev cX1_errorByAccounts : ByteArray := prog_1_method_63_code
def yX1_errorByAccounts : MethodName := ⟨RX1, "errorByAccounts", "()J"⟩
def dkwX1_errorByAccounts_0 : List UInt8 := [42, 180, 0, 28, 180, 1, 55, 20, 1, 58, 42, 180, 0, 28, 180, 1, 37, 105, 101, 173]
abbrev dktX1_errorByAccounts_0 : List UInt8 := dkwX1_errorByAccounts_0 ++ []
theorem dksX1_errorByAccounts_0 : cX1_errorByAccounts.data.toList.drop 0 = dktX1_errorByAccounts_0 := by decide +kernel
theorem dX1_errorByAccounts_0 : decode cX1_errorByAccounts 0 = .ok (.aload_n 0, 1) := dk_42 (dk_at dksX1_errorByAccounts_0 0 rfl rfl)
theorem dX1_errorByAccounts_1 : decode cX1_errorByAccounts 1 = .ok (.getfield 28, 3) := dk_180 0 28 (dk_at dksX1_errorByAccounts_0 1 rfl rfl)
theorem dX1_errorByAccounts_4 : decode cX1_errorByAccounts 4 = .ok (.getfield 311, 3) := dk_180 1 55 (dk_at dksX1_errorByAccounts_0 4 rfl rfl)
theorem dX1_errorByAccounts_7 : decode cX1_errorByAccounts 7 = .ok (.ldc2_w 314, 3) := dk_20 1 58 (dk_at dksX1_errorByAccounts_0 7 rfl rfl)
theorem dX1_errorByAccounts_10 : decode cX1_errorByAccounts 10 = .ok (.aload_n 0, 1) := dk_42 (dk_at dksX1_errorByAccounts_0 10 rfl rfl)
theorem dX1_errorByAccounts_11 : decode cX1_errorByAccounts 11 = .ok (.getfield 28, 3) := dk_180 0 28 (dk_at dksX1_errorByAccounts_0 11 rfl rfl)
theorem dX1_errorByAccounts_14 : decode cX1_errorByAccounts 14 = .ok (.getfield 293, 3) := dk_180 1 37 (dk_at dksX1_errorByAccounts_0 14 rfl rfl)
theorem dX1_errorByAccounts_17 : decode cX1_errorByAccounts 17 = .ok (.lmul, 1) := dk_105 (dk_at dksX1_errorByAccounts_0 17 rfl rfl)
theorem dX1_errorByAccounts_18 : decode cX1_errorByAccounts 18 = .ok (.lsub, 1) := dk_101 (dk_at dksX1_errorByAccounts_0 18 rfl rfl)
theorem dX1_errorByAccounts_19 : decode cX1_errorByAccounts 19 = .ok (.lreturn, 1) := dk_173 (dk_at dksX1_errorByAccounts_0 19 rfl rfl)
abbrev cX1_isConsistent : ByteArray := prog_1_method_67_code
def yX1_isConsistent : MethodName := ⟨RX1, "isConsistent", "()Z"⟩
def dkwX1_isConsistent_0 : List UInt8 := [42, 180, 0, 28, 182, 1, 85, 172]
abbrev dktX1_isConsistent_0 : List UInt8 := dkwX1_isConsistent_0 ++ []
theorem dksX1_isConsistent_0 : cX1_isConsistent.data.toList.drop 0 = dktX1_isConsistent_0 := by decide +kernel
theorem dX1_isConsistent_0 : decode cX1_isConsistent 0 = .ok (.aload_n 0, 1) := dk_42 (dk_at dksX1_isConsistent_0 0 rfl rfl)
theorem dX1_isConsistent_1 : decode cX1_isConsistent 1 = .ok (.getfield 28, 3) := dk_180 0 28 (dk_at dksX1_isConsistent_0 1 rfl rfl)
theorem dX1_isConsistent_4 : decode cX1_isConsistent 4 = .ok (.invokevirtual 341, 3) := dk_182 1 85 (dk_at dksX1_isConsistent_0 4 rfl rfl)
theorem dX1_isConsistent_7 : decode cX1_isConsistent 7 = .ok (.ireturn, 1) := dk_172 (dk_at dksX1_isConsistent_0 7 rfl rfl)
abbrev cX1_rounding : ByteArray := prog_1_method_4_code
def yX1_rounding : MethodName := ⟨RX1, "rounding", "(C)LDoughLedger$Rounding;"⟩
def dkwX1_rounding_2 : List UInt8 := [186, 0, 7, 0, 0, 176, 186, 0, 11, 0, 0, 176, 186, 0, 12, 0, 0, 176, 186, 0, 13, 0, 0, 176]
abbrev dktX1_rounding_2 : List UInt8 := dkwX1_rounding_2 ++ []
def dkwX1_rounding_1 : List UInt8 := [171, 0, 0, 0, 0, 0, 53, 0, 0, 0, 3, 0, 0, 0, 100, 0, 0, 0, 35, 0, 0, 0, 104, 0, 0, 0, 47, 0, 0, 0, 117, 0, 0, 0, 41]
abbrev dktX1_rounding_1 : List UInt8 := dkwX1_rounding_1 ++ dktX1_rounding_2
def dkwX1_rounding_0 : List UInt8 := [26]
abbrev dktX1_rounding_0 : List UInt8 := dkwX1_rounding_0 ++ dktX1_rounding_1
theorem dksX1_rounding_0 : cX1_rounding.data.toList.drop 0 = dktX1_rounding_0 := by decide +kernel
theorem dksX1_rounding_1 : cX1_rounding.data.toList.drop 1 = dktX1_rounding_1 := dk_seg dksX1_rounding_0 1 rfl rfl
theorem dksX1_rounding_2 : cX1_rounding.data.toList.drop 36 = dktX1_rounding_2 := dk_seg dksX1_rounding_1 35 rfl rfl
theorem dX1_rounding_0 : decode cX1_rounding 0 = .ok (.iload_n 0, 1) := dk_26 (dk_at dksX1_rounding_0 0 rfl rfl)
theorem dX1_rounding_1 : decode cX1_rounding 1 = .ok (.lookupswitch 53 #[(100, 35), (104, 47), (117, 41)], 35) := by decide +kernel
theorem dX1_rounding_36 : decode cX1_rounding 36 = .ok (.invokedynamic 7, 5) := by decide +kernel
theorem dX1_rounding_41 : decode cX1_rounding 41 = .ok (.areturn, 1) := dk_176 (dk_at dksX1_rounding_2 5 rfl rfl)
theorem dX1_rounding_42 : decode cX1_rounding 42 = .ok (.invokedynamic 11, 5) := by decide +kernel
theorem dX1_rounding_47 : decode cX1_rounding 47 = .ok (.areturn, 1) := dk_176 (dk_at dksX1_rounding_2 11 rfl rfl)
theorem dX1_rounding_48 : decode cX1_rounding 48 = .ok (.invokedynamic 12, 5) := by decide +kernel
theorem dX1_rounding_53 : decode cX1_rounding 53 = .ok (.areturn, 1) := dk_176 (dk_at dksX1_rounding_2 17 rfl rfl)
theorem dX1_rounding_54 : decode cX1_rounding 54 = .ok (.invokedynamic 13, 5) := by decide +kernel
theorem dX1_rounding_59 : decode cX1_rounding 59 = .ok (.areturn, 1) := dk_176 (dk_at dksX1_rounding_2 23 rfl rfl)
abbrev cX1_lambda_rounding_0 : ByteArray := prog_1_method_96_code
def yX1_lambda_rounding_0 : MethodName := ⟨RX1, "lambda$rounding$0", "(II)I"⟩
def dkwX1_lambda_rounding_0_0 : List UInt8 := [26, 27, 108, 172]
abbrev dktX1_lambda_rounding_0_0 : List UInt8 := dkwX1_lambda_rounding_0_0 ++ []
theorem dksX1_lambda_rounding_0_0 : cX1_lambda_rounding_0.data.toList.drop 0 = dktX1_lambda_rounding_0_0 := by decide +kernel
theorem dX1_lambda_rounding_0_0 : decode cX1_lambda_rounding_0 0 = .ok (.iload_n 0, 1) := dk_26 (dk_at dksX1_lambda_rounding_0_0 0 rfl rfl)
theorem dX1_lambda_rounding_0_1 : decode cX1_lambda_rounding_0 1 = .ok (.iload_n 1, 1) := dk_27 (dk_at dksX1_lambda_rounding_0_0 1 rfl rfl)
theorem dX1_lambda_rounding_0_2 : decode cX1_lambda_rounding_0 2 = .ok (.idiv, 1) := dk_108 (dk_at dksX1_lambda_rounding_0_0 2 rfl rfl)
theorem dX1_lambda_rounding_0_3 : decode cX1_lambda_rounding_0 3 = .ok (.ireturn, 1) := dk_172 (dk_at dksX1_lambda_rounding_0_0 3 rfl rfl)
abbrev cX1_lambda_rounding_1 : ByteArray := prog_1_method_95_code
def yX1_lambda_rounding_1 : MethodName := ⟨RX1, "lambda$rounding$1", "(II)I"⟩
def dkwX1_lambda_rounding_1_0 : List UInt8 := [26, 27, 96, 4, 100, 27, 108, 172]
abbrev dktX1_lambda_rounding_1_0 : List UInt8 := dkwX1_lambda_rounding_1_0 ++ []
theorem dksX1_lambda_rounding_1_0 : cX1_lambda_rounding_1.data.toList.drop 0 = dktX1_lambda_rounding_1_0 := by decide +kernel
theorem dX1_lambda_rounding_1_0 : decode cX1_lambda_rounding_1 0 = .ok (.iload_n 0, 1) := dk_26 (dk_at dksX1_lambda_rounding_1_0 0 rfl rfl)
theorem dX1_lambda_rounding_1_1 : decode cX1_lambda_rounding_1 1 = .ok (.iload_n 1, 1) := dk_27 (dk_at dksX1_lambda_rounding_1_0 1 rfl rfl)
theorem dX1_lambda_rounding_1_2 : decode cX1_lambda_rounding_1 2 = .ok (.iadd, 1) := dk_96 (dk_at dksX1_lambda_rounding_1_0 2 rfl rfl)
theorem dX1_lambda_rounding_1_3 : decode cX1_lambda_rounding_1 3 = .ok (.iconst 1, 1) := dk_4 (dk_at dksX1_lambda_rounding_1_0 3 rfl rfl)
theorem dX1_lambda_rounding_1_4 : decode cX1_lambda_rounding_1 4 = .ok (.isub, 1) := dk_100 (dk_at dksX1_lambda_rounding_1_0 4 rfl rfl)
theorem dX1_lambda_rounding_1_5 : decode cX1_lambda_rounding_1 5 = .ok (.iload_n 1, 1) := dk_27 (dk_at dksX1_lambda_rounding_1_0 5 rfl rfl)
theorem dX1_lambda_rounding_1_6 : decode cX1_lambda_rounding_1 6 = .ok (.idiv, 1) := dk_108 (dk_at dksX1_lambda_rounding_1_0 6 rfl rfl)
theorem dX1_lambda_rounding_1_7 : decode cX1_lambda_rounding_1 7 = .ok (.ireturn, 1) := dk_172 (dk_at dksX1_lambda_rounding_1_0 7 rfl rfl)
abbrev cX1_lambda_rounding_2 : ByteArray := prog_1_method_94_code
def yX1_lambda_rounding_2 : MethodName := ⟨RX1, "lambda$rounding$2", "(II)I"⟩
def dkwX1_lambda_rounding_2_0 : List UInt8 := [26, 27, 4, 184, 1, 227, 172]
abbrev dktX1_lambda_rounding_2_0 : List UInt8 := dkwX1_lambda_rounding_2_0 ++ []
theorem dksX1_lambda_rounding_2_0 : cX1_lambda_rounding_2.data.toList.drop 0 = dktX1_lambda_rounding_2_0 := by decide +kernel
theorem dX1_lambda_rounding_2_0 : decode cX1_lambda_rounding_2 0 = .ok (.iload_n 0, 1) := dk_26 (dk_at dksX1_lambda_rounding_2_0 0 rfl rfl)
theorem dX1_lambda_rounding_2_1 : decode cX1_lambda_rounding_2 1 = .ok (.iload_n 1, 1) := dk_27 (dk_at dksX1_lambda_rounding_2_0 1 rfl rfl)
theorem dX1_lambda_rounding_2_2 : decode cX1_lambda_rounding_2 2 = .ok (.iconst 1, 1) := dk_4 (dk_at dksX1_lambda_rounding_2_0 2 rfl rfl)
theorem dX1_lambda_rounding_2_3 : decode cX1_lambda_rounding_2 3 = .ok (.invokestatic 483, 3) := dk_184 1 227 (dk_at dksX1_lambda_rounding_2_0 3 rfl rfl)
theorem dX1_lambda_rounding_2_6 : decode cX1_lambda_rounding_2 6 = .ok (.ireturn, 1) := dk_172 (dk_at dksX1_lambda_rounding_2_0 6 rfl rfl)
abbrev cX1_nearest : ByteArray := prog_1_method_5_code
def yX1_nearest : MethodName := ⟨RX1, "nearest", "(IIZ)I"⟩
def dkwX1_nearest_1 : List UInt8 := [167, 0, 4, 3, 54, 4, 26, 27, 108, 21, 4, 153, 0, 7, 4, 167, 0, 4, 3, 96, 172]
abbrev dktX1_nearest_1 : List UInt8 := dkwX1_nearest_1 ++ []
def dkwX1_nearest_0 : List UInt8 := [26, 27, 112, 62, 5, 29, 104, 27, 163, 0, 14, 5, 29, 104, 27, 160, 0, 11, 28, 153, 0, 7, 4]
abbrev dktX1_nearest_0 : List UInt8 := dkwX1_nearest_0 ++ dktX1_nearest_1
theorem dksX1_nearest_0 : cX1_nearest.data.toList.drop 0 = dktX1_nearest_0 := by decide +kernel
theorem dksX1_nearest_1 : cX1_nearest.data.toList.drop 23 = dktX1_nearest_1 := dk_seg dksX1_nearest_0 23 rfl rfl
theorem dX1_nearest_0 : decode cX1_nearest 0 = .ok (.iload_n 0, 1) := dk_26 (dk_at dksX1_nearest_0 0 rfl rfl)
theorem dX1_nearest_1 : decode cX1_nearest 1 = .ok (.iload_n 1, 1) := dk_27 (dk_at dksX1_nearest_0 1 rfl rfl)
theorem dX1_nearest_2 : decode cX1_nearest 2 = .ok (.irem, 1) := dk_112 (dk_at dksX1_nearest_0 2 rfl rfl)
theorem dX1_nearest_3 : decode cX1_nearest 3 = .ok (.istore_n 3, 1) := dk_62 (dk_at dksX1_nearest_0 3 rfl rfl)
theorem dX1_nearest_4 : decode cX1_nearest 4 = .ok (.iconst 2, 1) := dk_5 (dk_at dksX1_nearest_0 4 rfl rfl)
theorem dX1_nearest_5 : decode cX1_nearest 5 = .ok (.iload_n 3, 1) := dk_29 (dk_at dksX1_nearest_0 5 rfl rfl)
theorem dX1_nearest_6 : decode cX1_nearest 6 = .ok (.imul, 1) := dk_104 (dk_at dksX1_nearest_0 6 rfl rfl)
theorem dX1_nearest_7 : decode cX1_nearest 7 = .ok (.iload_n 1, 1) := dk_27 (dk_at dksX1_nearest_0 7 rfl rfl)
theorem dX1_nearest_8 : decode cX1_nearest 8 = .ok (.if_icmp .gt 14, 3) := dk_163 0 14 (dk_at dksX1_nearest_0 8 rfl rfl)
theorem dX1_nearest_11 : decode cX1_nearest 11 = .ok (.iconst 2, 1) := dk_5 (dk_at dksX1_nearest_0 11 rfl rfl)
theorem dX1_nearest_12 : decode cX1_nearest 12 = .ok (.iload_n 3, 1) := dk_29 (dk_at dksX1_nearest_0 12 rfl rfl)
theorem dX1_nearest_13 : decode cX1_nearest 13 = .ok (.imul, 1) := dk_104 (dk_at dksX1_nearest_0 13 rfl rfl)
theorem dX1_nearest_14 : decode cX1_nearest 14 = .ok (.iload_n 1, 1) := dk_27 (dk_at dksX1_nearest_0 14 rfl rfl)
theorem dX1_nearest_15 : decode cX1_nearest 15 = .ok (.if_icmp .ne 11, 3) := dk_160 0 11 (dk_at dksX1_nearest_0 15 rfl rfl)
theorem dX1_nearest_18 : decode cX1_nearest 18 = .ok (.iload_n 2, 1) := dk_28 (dk_at dksX1_nearest_0 18 rfl rfl)
theorem dX1_nearest_19 : decode cX1_nearest 19 = .ok (.ifCond .eq 7, 3) := dk_153 0 7 (dk_at dksX1_nearest_0 19 rfl rfl)
theorem dX1_nearest_22 : decode cX1_nearest 22 = .ok (.iconst 1, 1) := dk_4 (dk_at dksX1_nearest_0 22 rfl rfl)
theorem dX1_nearest_23 : decode cX1_nearest 23 = .ok (.goto 4, 3) := dk_167 0 4 (dk_at dksX1_nearest_1 0 rfl rfl)
theorem dX1_nearest_26 : decode cX1_nearest 26 = .ok (.iconst 0, 1) := dk_3 (dk_at dksX1_nearest_1 3 rfl rfl)
theorem dX1_nearest_27 : decode cX1_nearest 27 = .ok (.istore 4, 2) := dk_54 4 (dk_at dksX1_nearest_1 4 rfl rfl)
theorem dX1_nearest_29 : decode cX1_nearest 29 = .ok (.iload_n 0, 1) := dk_26 (dk_at dksX1_nearest_1 6 rfl rfl)
theorem dX1_nearest_30 : decode cX1_nearest 30 = .ok (.iload_n 1, 1) := dk_27 (dk_at dksX1_nearest_1 7 rfl rfl)
theorem dX1_nearest_31 : decode cX1_nearest 31 = .ok (.idiv, 1) := dk_108 (dk_at dksX1_nearest_1 8 rfl rfl)
theorem dX1_nearest_32 : decode cX1_nearest 32 = .ok (.iload 4, 2) := dk_21 4 (dk_at dksX1_nearest_1 9 rfl rfl)
theorem dX1_nearest_34 : decode cX1_nearest 34 = .ok (.ifCond .eq 7, 3) := dk_153 0 7 (dk_at dksX1_nearest_1 11 rfl rfl)
theorem dX1_nearest_37 : decode cX1_nearest 37 = .ok (.iconst 1, 1) := dk_4 (dk_at dksX1_nearest_1 14 rfl rfl)
theorem dX1_nearest_38 : decode cX1_nearest 38 = .ok (.goto 4, 3) := dk_167 0 4 (dk_at dksX1_nearest_1 15 rfl rfl)
theorem dX1_nearest_41 : decode cX1_nearest 41 = .ok (.iconst 0, 1) := dk_3 (dk_at dksX1_nearest_1 18 rfl rfl)
theorem dX1_nearest_42 : decode cX1_nearest 42 = .ok (.iadd, 1) := dk_96 (dk_at dksX1_nearest_1 19 rfl rfl)
theorem dX1_nearest_43 : decode cX1_nearest 43 = .ok (.ireturn, 1) := dk_172 (dk_at dksX1_nearest_1 20 rfl rfl)
abbrev cX1_lambda_rounding_3 : ByteArray := prog_1_method_93_code
def yX1_lambda_rounding_3 : MethodName := ⟨RX1, "lambda$rounding$3", "(II)I"⟩
def dkwX1_lambda_rounding_3_0 : List UInt8 := [26, 27, 26, 27, 108, 5, 112, 153, 0, 7, 4, 167, 0, 4, 3, 184, 1, 227, 172]
abbrev dktX1_lambda_rounding_3_0 : List UInt8 := dkwX1_lambda_rounding_3_0 ++ []
theorem dksX1_lambda_rounding_3_0 : cX1_lambda_rounding_3.data.toList.drop 0 = dktX1_lambda_rounding_3_0 := by decide +kernel
theorem dX1_lambda_rounding_3_0 : decode cX1_lambda_rounding_3 0 = .ok (.iload_n 0, 1) := dk_26 (dk_at dksX1_lambda_rounding_3_0 0 rfl rfl)
theorem dX1_lambda_rounding_3_1 : decode cX1_lambda_rounding_3 1 = .ok (.iload_n 1, 1) := dk_27 (dk_at dksX1_lambda_rounding_3_0 1 rfl rfl)
theorem dX1_lambda_rounding_3_2 : decode cX1_lambda_rounding_3 2 = .ok (.iload_n 0, 1) := dk_26 (dk_at dksX1_lambda_rounding_3_0 2 rfl rfl)
theorem dX1_lambda_rounding_3_3 : decode cX1_lambda_rounding_3 3 = .ok (.iload_n 1, 1) := dk_27 (dk_at dksX1_lambda_rounding_3_0 3 rfl rfl)
theorem dX1_lambda_rounding_3_4 : decode cX1_lambda_rounding_3 4 = .ok (.idiv, 1) := dk_108 (dk_at dksX1_lambda_rounding_3_0 4 rfl rfl)
theorem dX1_lambda_rounding_3_5 : decode cX1_lambda_rounding_3 5 = .ok (.iconst 2, 1) := dk_5 (dk_at dksX1_lambda_rounding_3_0 5 rfl rfl)
theorem dX1_lambda_rounding_3_6 : decode cX1_lambda_rounding_3 6 = .ok (.irem, 1) := dk_112 (dk_at dksX1_lambda_rounding_3_0 6 rfl rfl)
theorem dX1_lambda_rounding_3_7 : decode cX1_lambda_rounding_3 7 = .ok (.ifCond .eq 7, 3) := dk_153 0 7 (dk_at dksX1_lambda_rounding_3_0 7 rfl rfl)
theorem dX1_lambda_rounding_3_10 : decode cX1_lambda_rounding_3 10 = .ok (.iconst 1, 1) := dk_4 (dk_at dksX1_lambda_rounding_3_0 10 rfl rfl)
theorem dX1_lambda_rounding_3_11 : decode cX1_lambda_rounding_3 11 = .ok (.goto 4, 3) := dk_167 0 4 (dk_at dksX1_lambda_rounding_3_0 11 rfl rfl)
theorem dX1_lambda_rounding_3_14 : decode cX1_lambda_rounding_3 14 = .ok (.iconst 0, 1) := dk_3 (dk_at dksX1_lambda_rounding_3_0 14 rfl rfl)
theorem dX1_lambda_rounding_3_15 : decode cX1_lambda_rounding_3 15 = .ok (.invokestatic 483, 3) := dk_184 1 227 (dk_at dksX1_lambda_rounding_3_0 15 rfl rfl)
theorem dX1_lambda_rounding_3_18 : decode cX1_lambda_rounding_3 18 = .ok (.ireturn, 1) := dk_172 (dk_at dksX1_lambda_rounding_3_0 18 rfl rfl)
abbrev cX1_power : ByteArray := prog_1_method_6_code
def yX1_power : MethodName := ⟨RX1, "power", "(I)I"⟩
def dkwX1_power_0 : List UInt8 := [4, 60, 3, 61, 28, 26, 162, 0, 14, 27, 16, 10, 104, 60, 132, 2, 1, 167, 255, 243, 27, 172]
abbrev dktX1_power_0 : List UInt8 := dkwX1_power_0 ++ []
theorem dksX1_power_0 : cX1_power.data.toList.drop 0 = dktX1_power_0 := by decide +kernel
theorem dX1_power_0 : decode cX1_power 0 = .ok (.iconst 1, 1) := dk_4 (dk_at dksX1_power_0 0 rfl rfl)
theorem dX1_power_1 : decode cX1_power 1 = .ok (.istore_n 1, 1) := dk_60 (dk_at dksX1_power_0 1 rfl rfl)
theorem dX1_power_2 : decode cX1_power 2 = .ok (.iconst 0, 1) := dk_3 (dk_at dksX1_power_0 2 rfl rfl)
theorem dX1_power_3 : decode cX1_power 3 = .ok (.istore_n 2, 1) := dk_61 (dk_at dksX1_power_0 3 rfl rfl)
theorem dX1_power_4 : decode cX1_power 4 = .ok (.iload_n 2, 1) := dk_28 (dk_at dksX1_power_0 4 rfl rfl)
theorem dX1_power_5 : decode cX1_power 5 = .ok (.iload_n 0, 1) := dk_26 (dk_at dksX1_power_0 5 rfl rfl)
theorem dX1_power_6 : decode cX1_power 6 = .ok (.if_icmp .ge 14, 3) := dk_162 0 14 (dk_at dksX1_power_0 6 rfl rfl)
theorem dX1_power_9 : decode cX1_power 9 = .ok (.iload_n 1, 1) := dk_27 (dk_at dksX1_power_0 9 rfl rfl)
theorem dX1_power_10 : decode cX1_power 10 = .ok (.bipush 10, 2) := dk_16 10 (dk_at dksX1_power_0 10 rfl rfl)
theorem dX1_power_12 : decode cX1_power 12 = .ok (.imul, 1) := dk_104 (dk_at dksX1_power_0 12 rfl rfl)
theorem dX1_power_13 : decode cX1_power 13 = .ok (.istore_n 1, 1) := dk_60 (dk_at dksX1_power_0 13 rfl rfl)
theorem dX1_power_14 : decode cX1_power 14 = .ok (.iinc 2 1, 3) := dk_132 2 1 (dk_at dksX1_power_0 14 rfl rfl)
theorem dX1_power_17 : decode cX1_power 17 = .ok (.goto (-13), 3) := dk_167 255 243 (dk_at dksX1_power_0 17 rfl rfl)
theorem dX1_power_20 : decode cX1_power 20 = .ok (.iload_n 1, 1) := dk_27 (dk_at dksX1_power_0 20 rfl rfl)
theorem dX1_power_21 : decode cX1_power 21 = .ok (.ireturn, 1) := dk_172 (dk_at dksX1_power_0 21 rfl rfl)
abbrev cX1_renderBowls : ByteArray := prog_1_method_70_code
def yX1_renderBowls : MethodName := ⟨RX1, "renderBowls", "()I"⟩
def dkwX1_renderBowls_0 : List UInt8 := [42, 42, 180, 0, 28, 182, 1, 114, 182, 1, 110, 172]
abbrev dktX1_renderBowls_0 : List UInt8 := dkwX1_renderBowls_0 ++ []
theorem dksX1_renderBowls_0 : cX1_renderBowls.data.toList.drop 0 = dktX1_renderBowls_0 := by decide +kernel
theorem dX1_renderBowls_0 : decode cX1_renderBowls 0 = .ok (.aload_n 0, 1) := dk_42 (dk_at dksX1_renderBowls_0 0 rfl rfl)
theorem dX1_renderBowls_1 : decode cX1_renderBowls 1 = .ok (.aload_n 0, 1) := dk_42 (dk_at dksX1_renderBowls_0 1 rfl rfl)
theorem dX1_renderBowls_2 : decode cX1_renderBowls 2 = .ok (.getfield 28, 3) := dk_180 0 28 (dk_at dksX1_renderBowls_0 2 rfl rfl)
theorem dX1_renderBowls_5 : decode cX1_renderBowls 5 = .ok (.invokevirtual 370, 3) := dk_182 1 114 (dk_at dksX1_renderBowls_0 5 rfl rfl)
theorem dX1_renderBowls_8 : decode cX1_renderBowls 8 = .ok (.invokevirtual 366, 3) := dk_182 1 110 (dk_at dksX1_renderBowls_0 8 rfl rfl)
theorem dX1_renderBowls_11 : decode cX1_renderBowls 11 = .ok (.ireturn, 1) := dk_172 (dk_at dksX1_renderBowls_0 11 rfl rfl)
abbrev cX1_write : ByteArray := prog_1_method_68_code
def yX1_write : MethodName := ⟨RX1, "write", "(Ljava/lang/String;)I"⟩
def dkwX1_write_0 : List UInt8 := [42, 43, 181, 0, 55, 42, 180, 0, 55, 182, 1, 88, 172]
abbrev dktX1_write_0 : List UInt8 := dkwX1_write_0 ++ []
theorem dksX1_write_0 : cX1_write.data.toList.drop 0 = dktX1_write_0 := by decide +kernel
theorem dX1_write_0 : decode cX1_write 0 = .ok (.aload_n 0, 1) := dk_42 (dk_at dksX1_write_0 0 rfl rfl)
theorem dX1_write_1 : decode cX1_write 1 = .ok (.aload_n 1, 1) := dk_43 (dk_at dksX1_write_0 1 rfl rfl)
theorem dX1_write_2 : decode cX1_write 2 = .ok (.putfield 55, 3) := dk_181 0 55 (dk_at dksX1_write_0 2 rfl rfl)
theorem dX1_write_5 : decode cX1_write 5 = .ok (.aload_n 0, 1) := dk_42 (dk_at dksX1_write_0 5 rfl rfl)
theorem dX1_write_6 : decode cX1_write 6 = .ok (.getfield 55, 3) := dk_180 0 55 (dk_at dksX1_write_0 6 rfl rfl)
theorem dX1_write_9 : decode cX1_write 9 = .ok (.invokevirtual 344, 3) := dk_182 1 88 (dk_at dksX1_write_0 9 rfl rfl)
theorem dX1_write_12 : decode cX1_write 12 = .ok (.ireturn, 1) := dk_172 (dk_at dksX1_write_0 12 rfl rfl)
abbrev cX1_save : ByteArray := prog_1_method_80_code
def yX1_save : MethodName := ⟨RX1, "save", "()I"⟩
def dkwX1_save_0 : List UInt8 := [42, 42, 180, 0, 28, 181, 1, 185, 42, 182, 1, 188, 172]
abbrev dktX1_save_0 : List UInt8 := dkwX1_save_0 ++ []
theorem dksX1_save_0 : cX1_save.data.toList.drop 0 = dktX1_save_0 := by decide +kernel
theorem dX1_save_0 : decode cX1_save 0 = .ok (.aload_n 0, 1) := dk_42 (dk_at dksX1_save_0 0 rfl rfl)
theorem dX1_save_1 : decode cX1_save 1 = .ok (.aload_n 0, 1) := dk_42 (dk_at dksX1_save_0 1 rfl rfl)
theorem dX1_save_2 : decode cX1_save 2 = .ok (.getfield 28, 3) := dk_180 0 28 (dk_at dksX1_save_0 2 rfl rfl)
theorem dX1_save_5 : decode cX1_save 5 = .ok (.putfield 441, 3) := dk_181 1 185 (dk_at dksX1_save_0 5 rfl rfl)
theorem dX1_save_8 : decode cX1_save 8 = .ok (.aload_n 0, 1) := dk_42 (dk_at dksX1_save_0 8 rfl rfl)
theorem dX1_save_9 : decode cX1_save 9 = .ok (.invokevirtual 444, 3) := dk_182 1 188 (dk_at dksX1_save_0 9 rfl rfl)
theorem dX1_save_12 : decode cX1_save 12 = .ok (.ireturn, 1) := dk_172 (dk_at dksX1_save_0 12 rfl rfl)
abbrev cX1_addDough : ByteArray := prog_1_method_11_code
def yX1_addDough : MethodName := ⟨RX1, "addDough", "(II)I"⟩
def dkwX1_addDough_0 : List UInt8 := [42, 27, 28, 186, 0, 89, 0, 0, 182, 0, 92, 172]
abbrev dktX1_addDough_0 : List UInt8 := dkwX1_addDough_0 ++ []
theorem dksX1_addDough_0 : cX1_addDough.data.toList.drop 0 = dktX1_addDough_0 := by decide +kernel
theorem dX1_addDough_0 : decode cX1_addDough 0 = .ok (.aload_n 0, 1) := dk_42 (dk_at dksX1_addDough_0 0 rfl rfl)
theorem dX1_addDough_1 : decode cX1_addDough 1 = .ok (.iload_n 1, 1) := dk_27 (dk_at dksX1_addDough_0 1 rfl rfl)
theorem dX1_addDough_2 : decode cX1_addDough 2 = .ok (.iload_n 2, 1) := dk_28 (dk_at dksX1_addDough_0 2 rfl rfl)
theorem dX1_addDough_3 : decode cX1_addDough 3 = .ok (.invokedynamic 89, 5) := by decide +kernel
theorem dX1_addDough_8 : decode cX1_addDough 8 = .ok (.invokevirtual 92, 3) := dk_182 0 92 (dk_at dksX1_addDough_0 8 rfl rfl)
theorem dX1_addDough_11 : decode cX1_addDough 11 = .ok (.ireturn, 1) := dk_172 (dk_at dksX1_addDough_0 11 rfl rfl)
abbrev cX1_lambda_addDough_4 : ByteArray := prog_1_method_92_code
def yX1_lambda_addDough_4 : MethodName := ⟨RX1, "lambda$addDough$4", "(IILDoughLedger$Bakery;)I"⟩
def dkwX1_lambda_addDough_4_0 : List UInt8 := [44, 26, 27, 182, 1, 224, 172]
abbrev dktX1_lambda_addDough_4_0 : List UInt8 := dkwX1_lambda_addDough_4_0 ++ []
theorem dksX1_lambda_addDough_4_0 : cX1_lambda_addDough_4.data.toList.drop 0 = dktX1_lambda_addDough_4_0 := by decide +kernel
theorem dX1_lambda_addDough_4_0 : decode cX1_lambda_addDough_4 0 = .ok (.aload_n 2, 1) := dk_44 (dk_at dksX1_lambda_addDough_4_0 0 rfl rfl)
theorem dX1_lambda_addDough_4_1 : decode cX1_lambda_addDough_4 1 = .ok (.iload_n 0, 1) := dk_26 (dk_at dksX1_lambda_addDough_4_0 1 rfl rfl)
theorem dX1_lambda_addDough_4_2 : decode cX1_lambda_addDough_4 2 = .ok (.iload_n 1, 1) := dk_27 (dk_at dksX1_lambda_addDough_4_0 2 rfl rfl)
theorem dX1_lambda_addDough_4_3 : decode cX1_lambda_addDough_4 3 = .ok (.invokevirtual 480, 3) := dk_182 1 224 (dk_at dksX1_lambda_addDough_4_0 3 rfl rfl)
theorem dX1_lambda_addDough_4_6 : decode cX1_lambda_addDough_4 6 = .ok (.ireturn, 1) := dk_172 (dk_at dksX1_lambda_addDough_4_0 6 rfl rfl)
abbrev cX1_isBetween : ByteArray := prog_1_method_2_code
def yX1_isBetween : MethodName := ⟨RX1, "isBetween", "(III)Z"⟩
def dkwX1_isBetween_0 : List UInt8 := [26, 27, 161, 0, 12, 26, 28, 163, 0, 7, 4, 167, 0, 4, 3, 172]
abbrev dktX1_isBetween_0 : List UInt8 := dkwX1_isBetween_0 ++ []
theorem dksX1_isBetween_0 : cX1_isBetween.data.toList.drop 0 = dktX1_isBetween_0 := by decide +kernel
theorem dX1_isBetween_0 : decode cX1_isBetween 0 = .ok (.iload_n 0, 1) := dk_26 (dk_at dksX1_isBetween_0 0 rfl rfl)
theorem dX1_isBetween_1 : decode cX1_isBetween 1 = .ok (.iload_n 1, 1) := dk_27 (dk_at dksX1_isBetween_0 1 rfl rfl)
theorem dX1_isBetween_2 : decode cX1_isBetween 2 = .ok (.if_icmp .lt 12, 3) := dk_161 0 12 (dk_at dksX1_isBetween_0 2 rfl rfl)
theorem dX1_isBetween_5 : decode cX1_isBetween 5 = .ok (.iload_n 0, 1) := dk_26 (dk_at dksX1_isBetween_0 5 rfl rfl)
theorem dX1_isBetween_6 : decode cX1_isBetween 6 = .ok (.iload_n 2, 1) := dk_28 (dk_at dksX1_isBetween_0 6 rfl rfl)
theorem dX1_isBetween_7 : decode cX1_isBetween 7 = .ok (.if_icmp .gt 7, 3) := dk_163 0 7 (dk_at dksX1_isBetween_0 7 rfl rfl)
theorem dX1_isBetween_10 : decode cX1_isBetween 10 = .ok (.iconst 1, 1) := dk_4 (dk_at dksX1_isBetween_0 10 rfl rfl)
theorem dX1_isBetween_11 : decode cX1_isBetween 11 = .ok (.goto 4, 3) := dk_167 0 4 (dk_at dksX1_isBetween_0 11 rfl rfl)
theorem dX1_isBetween_14 : decode cX1_isBetween 14 = .ok (.iconst 0, 1) := dk_3 (dk_at dksX1_isBetween_0 14 rfl rfl)
theorem dX1_isBetween_15 : decode cX1_isBetween 15 = .ok (.ireturn, 1) := dk_172 (dk_at dksX1_isBetween_0 15 rfl rfl)
abbrev cX1_demand : ByteArray := prog_1_method_1_code
def yX1_demand : MethodName := ⟨RX1, "demand", "(ZC)V"⟩
def dkwX1_demand_0 : List UInt8 := [26, 154, 0, 12, 187, 0, 1, 89, 27, 183, 0, 3, 191, 177]
abbrev dktX1_demand_0 : List UInt8 := dkwX1_demand_0 ++ []
theorem dksX1_demand_0 : cX1_demand.data.toList.drop 0 = dktX1_demand_0 := by decide +kernel
theorem dX1_demand_0 : decode cX1_demand 0 = .ok (.iload_n 0, 1) := dk_26 (dk_at dksX1_demand_0 0 rfl rfl)
theorem dX1_demand_1 : decode cX1_demand 1 = .ok (.ifCond .ne 12, 3) := dk_154 0 12 (dk_at dksX1_demand_0 1 rfl rfl)
theorem dX1_demand_4 : decode cX1_demand 4 = .ok (.new 1, 3) := dk_187 0 1 (dk_at dksX1_demand_0 4 rfl rfl)
theorem dX1_demand_7 : decode cX1_demand 7 = .ok (.dup, 1) := dk_89 (dk_at dksX1_demand_0 7 rfl rfl)
theorem dX1_demand_8 : decode cX1_demand 8 = .ok (.iload_n 1, 1) := dk_27 (dk_at dksX1_demand_0 8 rfl rfl)
theorem dX1_demand_9 : decode cX1_demand 9 = .ok (.invokespecial 3, 3) := dk_183 0 3 (dk_at dksX1_demand_0 9 rfl rfl)
theorem dX1_demand_12 : decode cX1_demand 12 = .ok (.athrow, 1) := dk_191 (dk_at dksX1_demand_0 12 rfl rfl)
theorem dX1_demand_13 : decode cX1_demand 13 = .ok (.return_, 1) := dk_177 (dk_at dksX1_demand_0 13 rfl rfl)
abbrev cX1_divisor : ByteArray := prog_1_method_7_code
def yX1_divisor : MethodName := ⟨RX1, "divisor", "(II)I"⟩
def dkwX1_divisor_0 : List UInt8 := [27, 154, 0, 7, 26, 167, 0, 10, 27, 26, 27, 112, 184, 0, 14, 172]
abbrev dktX1_divisor_0 : List UInt8 := dkwX1_divisor_0 ++ []
theorem dksX1_divisor_0 : cX1_divisor.data.toList.drop 0 = dktX1_divisor_0 := by decide +kernel
theorem dX1_divisor_0 : decode cX1_divisor 0 = .ok (.iload_n 1, 1) := dk_27 (dk_at dksX1_divisor_0 0 rfl rfl)
theorem dX1_divisor_1 : decode cX1_divisor 1 = .ok (.ifCond .ne 7, 3) := dk_154 0 7 (dk_at dksX1_divisor_0 1 rfl rfl)
theorem dX1_divisor_4 : decode cX1_divisor 4 = .ok (.iload_n 0, 1) := dk_26 (dk_at dksX1_divisor_0 4 rfl rfl)
theorem dX1_divisor_5 : decode cX1_divisor 5 = .ok (.goto 10, 3) := dk_167 0 10 (dk_at dksX1_divisor_0 5 rfl rfl)
theorem dX1_divisor_8 : decode cX1_divisor 8 = .ok (.iload_n 1, 1) := dk_27 (dk_at dksX1_divisor_0 8 rfl rfl)
theorem dX1_divisor_9 : decode cX1_divisor 9 = .ok (.iload_n 0, 1) := dk_26 (dk_at dksX1_divisor_0 9 rfl rfl)
theorem dX1_divisor_10 : decode cX1_divisor 10 = .ok (.iload_n 1, 1) := dk_27 (dk_at dksX1_divisor_0 10 rfl rfl)
theorem dX1_divisor_11 : decode cX1_divisor 11 = .ok (.irem, 1) := dk_112 (dk_at dksX1_divisor_0 11 rfl rfl)
theorem dX1_divisor_12 : decode cX1_divisor 12 = .ok (.invokestatic 14, 3) := dk_184 0 14 (dk_at dksX1_divisor_0 12 rfl rfl)
theorem dX1_divisor_15 : decode cX1_divisor 15 = .ok (.ireturn, 1) := dk_172 (dk_at dksX1_divisor_0 15 rfl rfl)
abbrev cX1_change : ByteArray := prog_1_method_10_code
def yX1_change : MethodName := ⟨RX1, "change", "(LDoughLedger$Step;)I"⟩
def dkwX1_change_1 : List UInt8 := [182, 0, 85, 191]
abbrev dktX1_change_1 : List UInt8 := dkwX1_change_1 ++ []
def dkwX1_change_0 : List UInt8 := [42, 180, 0, 28, 182, 0, 71, 77, 42, 44, 43, 44, 185, 0, 75, 2, 0, 182, 0, 81, 172, 78, 45]
abbrev dktX1_change_0 : List UInt8 := dkwX1_change_0 ++ dktX1_change_1
theorem dksX1_change_0 : cX1_change.data.toList.drop 0 = dktX1_change_0 := by decide +kernel
theorem dksX1_change_1 : cX1_change.data.toList.drop 23 = dktX1_change_1 := dk_seg dksX1_change_0 23 rfl rfl
theorem dX1_change_0 : decode cX1_change 0 = .ok (.aload_n 0, 1) := dk_42 (dk_at dksX1_change_0 0 rfl rfl)
theorem dX1_change_1 : decode cX1_change 1 = .ok (.getfield 28, 3) := dk_180 0 28 (dk_at dksX1_change_0 1 rfl rfl)
theorem dX1_change_4 : decode cX1_change 4 = .ok (.invokevirtual 71, 3) := dk_182 0 71 (dk_at dksX1_change_0 4 rfl rfl)
theorem dX1_change_7 : decode cX1_change 7 = .ok (.astore_n 2, 1) := dk_77 (dk_at dksX1_change_0 7 rfl rfl)
theorem dX1_change_8 : decode cX1_change 8 = .ok (.aload_n 0, 1) := dk_42 (dk_at dksX1_change_0 8 rfl rfl)
theorem dX1_change_9 : decode cX1_change 9 = .ok (.aload_n 2, 1) := dk_44 (dk_at dksX1_change_0 9 rfl rfl)
theorem dX1_change_10 : decode cX1_change 10 = .ok (.aload_n 1, 1) := dk_43 (dk_at dksX1_change_0 10 rfl rfl)
theorem dX1_change_11 : decode cX1_change 11 = .ok (.aload_n 2, 1) := dk_44 (dk_at dksX1_change_0 11 rfl rfl)
theorem dX1_change_12 : decode cX1_change 12 = .ok (.invokeinterface 75 2, 5) := by decide +kernel
theorem dX1_change_17 : decode cX1_change 17 = .ok (.invokevirtual 81, 3) := dk_182 0 81 (dk_at dksX1_change_0 17 rfl rfl)
theorem dX1_change_20 : decode cX1_change 20 = .ok (.ireturn, 1) := dk_172 (dk_at dksX1_change_0 20 rfl rfl)
theorem dX1_change_21 : decode cX1_change 21 = .ok (.astore_n 3, 1) := dk_78 (dk_at dksX1_change_0 21 rfl rfl)
theorem dX1_change_22 : decode cX1_change 22 = .ok (.aload_n 3, 1) := dk_45 (dk_at dksX1_change_0 22 rfl rfl)
theorem dX1_change_23 : decode cX1_change 23 = .ok (.invokevirtual 85, 3) := dk_182 0 85 (dk_at dksX1_change_1 0 rfl rfl)
theorem dX1_change_26 : decode cX1_change 26 = .ok (.athrow, 1) := dk_191 (dk_at dksX1_change_1 3 rfl rfl)
abbrev cX1_commit : ByteArray := prog_1_method_9_code
def yX1_commit : MethodName := ⟨RX1, "commit", "(LDoughLedger$Bakery;I)I"⟩
def dkwX1_commit_1 : List UInt8 := [42, 180, 0, 28, 182, 0, 67, 42, 43, 181, 0, 28, 28, 172]
abbrev dktX1_commit_1 : List UInt8 := dkwX1_commit_1 ++ []
def dkwX1_commit_0 : List UInt8 := [42, 180, 0, 35, 182, 0, 59, 16, 8, 160, 0, 11, 42, 180, 0, 35, 182, 0, 63, 87, 42, 180, 0, 35]
abbrev dktX1_commit_0 : List UInt8 := dkwX1_commit_0 ++ dktX1_commit_1
theorem dksX1_commit_0 : cX1_commit.data.toList.drop 0 = dktX1_commit_0 := by decide +kernel
theorem dksX1_commit_1 : cX1_commit.data.toList.drop 24 = dktX1_commit_1 := dk_seg dksX1_commit_0 24 rfl rfl
theorem dX1_commit_0 : decode cX1_commit 0 = .ok (.aload_n 0, 1) := dk_42 (dk_at dksX1_commit_0 0 rfl rfl)
theorem dX1_commit_1 : decode cX1_commit 1 = .ok (.getfield 35, 3) := dk_180 0 35 (dk_at dksX1_commit_0 1 rfl rfl)
theorem dX1_commit_4 : decode cX1_commit 4 = .ok (.invokevirtual 59, 3) := dk_182 0 59 (dk_at dksX1_commit_0 4 rfl rfl)
theorem dX1_commit_7 : decode cX1_commit 7 = .ok (.bipush 8, 2) := dk_16 8 (dk_at dksX1_commit_0 7 rfl rfl)
theorem dX1_commit_9 : decode cX1_commit 9 = .ok (.if_icmp .ne 11, 3) := dk_160 0 11 (dk_at dksX1_commit_0 9 rfl rfl)
theorem dX1_commit_12 : decode cX1_commit 12 = .ok (.aload_n 0, 1) := dk_42 (dk_at dksX1_commit_0 12 rfl rfl)
theorem dX1_commit_13 : decode cX1_commit 13 = .ok (.getfield 35, 3) := dk_180 0 35 (dk_at dksX1_commit_0 13 rfl rfl)
theorem dX1_commit_16 : decode cX1_commit 16 = .ok (.invokevirtual 63, 3) := dk_182 0 63 (dk_at dksX1_commit_0 16 rfl rfl)
theorem dX1_commit_19 : decode cX1_commit 19 = .ok (.pop, 1) := dk_87 (dk_at dksX1_commit_0 19 rfl rfl)
theorem dX1_commit_20 : decode cX1_commit 20 = .ok (.aload_n 0, 1) := dk_42 (dk_at dksX1_commit_0 20 rfl rfl)
theorem dX1_commit_21 : decode cX1_commit 21 = .ok (.getfield 35, 3) := dk_180 0 35 (dk_at dksX1_commit_0 21 rfl rfl)
theorem dX1_commit_24 : decode cX1_commit 24 = .ok (.aload_n 0, 1) := dk_42 (dk_at dksX1_commit_1 0 rfl rfl)
theorem dX1_commit_25 : decode cX1_commit 25 = .ok (.getfield 28, 3) := dk_180 0 28 (dk_at dksX1_commit_1 1 rfl rfl)
theorem dX1_commit_28 : decode cX1_commit 28 = .ok (.invokevirtual 67, 3) := dk_182 0 67 (dk_at dksX1_commit_1 4 rfl rfl)
theorem dX1_commit_31 : decode cX1_commit 31 = .ok (.aload_n 0, 1) := dk_42 (dk_at dksX1_commit_1 7 rfl rfl)
theorem dX1_commit_32 : decode cX1_commit 32 = .ok (.aload_n 1, 1) := dk_43 (dk_at dksX1_commit_1 8 rfl rfl)
theorem dX1_commit_33 : decode cX1_commit 33 = .ok (.putfield 28, 3) := dk_181 0 28 (dk_at dksX1_commit_1 9 rfl rfl)
theorem dX1_commit_36 : decode cX1_commit 36 = .ok (.iload_n 2, 1) := dk_28 (dk_at dksX1_commit_1 12 rfl rfl)
theorem dX1_commit_37 : decode cX1_commit 37 = .ok (.ireturn, 1) := dk_172 (dk_at dksX1_commit_1 13 rfl rfl)
abbrev cX1_mix : ByteArray := prog_1_method_12_code
def yX1_mix : MethodName := ⟨RX1, "mix", "(II)I"⟩
def dkwX1_mix_0 : List UInt8 := [42, 27, 28, 186, 0, 96, 0, 0, 182, 0, 92, 172]
abbrev dktX1_mix_0 : List UInt8 := dkwX1_mix_0 ++ []
theorem dksX1_mix_0 : cX1_mix.data.toList.drop 0 = dktX1_mix_0 := by decide +kernel
theorem dX1_mix_0 : decode cX1_mix 0 = .ok (.aload_n 0, 1) := dk_42 (dk_at dksX1_mix_0 0 rfl rfl)
theorem dX1_mix_1 : decode cX1_mix 1 = .ok (.iload_n 1, 1) := dk_27 (dk_at dksX1_mix_0 1 rfl rfl)
theorem dX1_mix_2 : decode cX1_mix 2 = .ok (.iload_n 2, 1) := dk_28 (dk_at dksX1_mix_0 2 rfl rfl)
theorem dX1_mix_3 : decode cX1_mix 3 = .ok (.invokedynamic 96, 5) := by decide +kernel
theorem dX1_mix_8 : decode cX1_mix 8 = .ok (.invokevirtual 92, 3) := dk_182 0 92 (dk_at dksX1_mix_0 8 rfl rfl)
theorem dX1_mix_11 : decode cX1_mix 11 = .ok (.ireturn, 1) := dk_172 (dk_at dksX1_mix_0 11 rfl rfl)
abbrev cX1_lambda_mix_5 : ByteArray := prog_1_method_91_code
def yX1_lambda_mix_5 : MethodName := ⟨RX1, "lambda$mix$5", "(IILDoughLedger$Bakery;)I"⟩
def dkwX1_lambda_mix_5_0 : List UInt8 := [44, 26, 27, 182, 1, 221, 172]
abbrev dktX1_lambda_mix_5_0 : List UInt8 := dkwX1_lambda_mix_5_0 ++ []
theorem dksX1_lambda_mix_5_0 : cX1_lambda_mix_5.data.toList.drop 0 = dktX1_lambda_mix_5_0 := by decide +kernel
theorem dX1_lambda_mix_5_0 : decode cX1_lambda_mix_5 0 = .ok (.aload_n 2, 1) := dk_44 (dk_at dksX1_lambda_mix_5_0 0 rfl rfl)
theorem dX1_lambda_mix_5_1 : decode cX1_lambda_mix_5 1 = .ok (.iload_n 0, 1) := dk_26 (dk_at dksX1_lambda_mix_5_0 1 rfl rfl)
theorem dX1_lambda_mix_5_2 : decode cX1_lambda_mix_5 2 = .ok (.iload_n 1, 1) := dk_27 (dk_at dksX1_lambda_mix_5_0 2 rfl rfl)
theorem dX1_lambda_mix_5_3 : decode cX1_lambda_mix_5 3 = .ok (.invokevirtual 477, 3) := dk_182 1 221 (dk_at dksX1_lambda_mix_5_0 3 rfl rfl)
theorem dX1_lambda_mix_5_6 : decode cX1_lambda_mix_5 6 = .ok (.ireturn, 1) := dk_172 (dk_at dksX1_lambda_mix_5_0 6 rfl rfl)
abbrev cX1_addBowl : ByteArray := prog_1_method_13_code
def yX1_addBowl : MethodName := ⟨RX1, "addBowl", "(I)I"⟩
def dkwX1_addBowl_0 : List UInt8 := [42, 27, 186, 0, 97, 0, 0, 182, 0, 92, 172]
abbrev dktX1_addBowl_0 : List UInt8 := dkwX1_addBowl_0 ++ []
theorem dksX1_addBowl_0 : cX1_addBowl.data.toList.drop 0 = dktX1_addBowl_0 := by decide +kernel
theorem dX1_addBowl_0 : decode cX1_addBowl 0 = .ok (.aload_n 0, 1) := dk_42 (dk_at dksX1_addBowl_0 0 rfl rfl)
theorem dX1_addBowl_1 : decode cX1_addBowl 1 = .ok (.iload_n 1, 1) := dk_27 (dk_at dksX1_addBowl_0 1 rfl rfl)
theorem dX1_addBowl_2 : decode cX1_addBowl 2 = .ok (.invokedynamic 97, 5) := by decide +kernel
theorem dX1_addBowl_7 : decode cX1_addBowl 7 = .ok (.invokevirtual 92, 3) := dk_182 0 92 (dk_at dksX1_addBowl_0 7 rfl rfl)
theorem dX1_addBowl_10 : decode cX1_addBowl 10 = .ok (.ireturn, 1) := dk_172 (dk_at dksX1_addBowl_0 10 rfl rfl)
abbrev cX1_lambda_addBowl_6 : ByteArray := prog_1_method_90_code
def yX1_lambda_addBowl_6 : MethodName := ⟨RX1, "lambda$addBowl$6", "(ILDoughLedger$Bakery;)I"⟩
def dkwX1_lambda_addBowl_6_0 : List UInt8 := [43, 26, 182, 1, 218, 172]
abbrev dktX1_lambda_addBowl_6_0 : List UInt8 := dkwX1_lambda_addBowl_6_0 ++ []
theorem dksX1_lambda_addBowl_6_0 : cX1_lambda_addBowl_6.data.toList.drop 0 = dktX1_lambda_addBowl_6_0 := by decide +kernel
theorem dX1_lambda_addBowl_6_0 : decode cX1_lambda_addBowl_6 0 = .ok (.aload_n 1, 1) := dk_43 (dk_at dksX1_lambda_addBowl_6_0 0 rfl rfl)
theorem dX1_lambda_addBowl_6_1 : decode cX1_lambda_addBowl_6 1 = .ok (.iload_n 0, 1) := dk_26 (dk_at dksX1_lambda_addBowl_6_0 1 rfl rfl)
theorem dX1_lambda_addBowl_6_2 : decode cX1_lambda_addBowl_6 2 = .ok (.invokevirtual 474, 3) := dk_182 1 218 (dk_at dksX1_lambda_addBowl_6_0 2 rfl rfl)
theorem dX1_lambda_addBowl_6_5 : decode cX1_lambda_addBowl_6 5 = .ok (.ireturn, 1) := dk_172 (dk_at dksX1_lambda_addBowl_6_0 5 rfl rfl)
abbrev cX1_addLoaf : ByteArray := prog_1_method_14_code
def yX1_addLoaf : MethodName := ⟨RX1, "addLoaf", "(II)I"⟩
def dkwX1_addLoaf_0 : List UInt8 := [42, 27, 28, 186, 0, 100, 0, 0, 182, 0, 92, 172]
abbrev dktX1_addLoaf_0 : List UInt8 := dkwX1_addLoaf_0 ++ []
theorem dksX1_addLoaf_0 : cX1_addLoaf.data.toList.drop 0 = dktX1_addLoaf_0 := by decide +kernel
theorem dX1_addLoaf_0 : decode cX1_addLoaf 0 = .ok (.aload_n 0, 1) := dk_42 (dk_at dksX1_addLoaf_0 0 rfl rfl)
theorem dX1_addLoaf_1 : decode cX1_addLoaf 1 = .ok (.iload_n 1, 1) := dk_27 (dk_at dksX1_addLoaf_0 1 rfl rfl)
theorem dX1_addLoaf_2 : decode cX1_addLoaf 2 = .ok (.iload_n 2, 1) := dk_28 (dk_at dksX1_addLoaf_0 2 rfl rfl)
theorem dX1_addLoaf_3 : decode cX1_addLoaf 3 = .ok (.invokedynamic 100, 5) := by decide +kernel
theorem dX1_addLoaf_8 : decode cX1_addLoaf 8 = .ok (.invokevirtual 92, 3) := dk_182 0 92 (dk_at dksX1_addLoaf_0 8 rfl rfl)
theorem dX1_addLoaf_11 : decode cX1_addLoaf 11 = .ok (.ireturn, 1) := dk_172 (dk_at dksX1_addLoaf_0 11 rfl rfl)
abbrev cX1_lambda_addLoaf_7 : ByteArray := prog_1_method_89_code
def yX1_lambda_addLoaf_7 : MethodName := ⟨RX1, "lambda$addLoaf$7", "(IILDoughLedger$Bakery;)I"⟩
def dkwX1_lambda_addLoaf_7_0 : List UInt8 := [44, 26, 27, 182, 1, 215, 172]
abbrev dktX1_lambda_addLoaf_7_0 : List UInt8 := dkwX1_lambda_addLoaf_7_0 ++ []
theorem dksX1_lambda_addLoaf_7_0 : cX1_lambda_addLoaf_7.data.toList.drop 0 = dktX1_lambda_addLoaf_7_0 := by decide +kernel
theorem dX1_lambda_addLoaf_7_0 : decode cX1_lambda_addLoaf_7 0 = .ok (.aload_n 2, 1) := dk_44 (dk_at dksX1_lambda_addLoaf_7_0 0 rfl rfl)
theorem dX1_lambda_addLoaf_7_1 : decode cX1_lambda_addLoaf_7 1 = .ok (.iload_n 0, 1) := dk_26 (dk_at dksX1_lambda_addLoaf_7_0 1 rfl rfl)
theorem dX1_lambda_addLoaf_7_2 : decode cX1_lambda_addLoaf_7 2 = .ok (.iload_n 1, 1) := dk_27 (dk_at dksX1_lambda_addLoaf_7_0 2 rfl rfl)
theorem dX1_lambda_addLoaf_7_3 : decode cX1_lambda_addLoaf_7 3 = .ok (.invokevirtual 471, 3) := dk_182 1 215 (dk_at dksX1_lambda_addLoaf_7_0 3 rfl rfl)
theorem dX1_lambda_addLoaf_7_6 : decode cX1_lambda_addLoaf_7 6 = .ok (.ireturn, 1) := dk_172 (dk_at dksX1_lambda_addLoaf_7_0 6 rfl rfl)
abbrev cX1_sellLoaf : ByteArray := prog_1_method_15_code
def yX1_sellLoaf : MethodName := ⟨RX1, "sellLoaf", "(I)I"⟩
def dkwX1_sellLoaf_0 : List UInt8 := [42, 27, 186, 0, 101, 0, 0, 182, 0, 92, 172]
abbrev dktX1_sellLoaf_0 : List UInt8 := dkwX1_sellLoaf_0 ++ []
theorem dksX1_sellLoaf_0 : cX1_sellLoaf.data.toList.drop 0 = dktX1_sellLoaf_0 := by decide +kernel
theorem dX1_sellLoaf_0 : decode cX1_sellLoaf 0 = .ok (.aload_n 0, 1) := dk_42 (dk_at dksX1_sellLoaf_0 0 rfl rfl)
theorem dX1_sellLoaf_1 : decode cX1_sellLoaf 1 = .ok (.iload_n 1, 1) := dk_27 (dk_at dksX1_sellLoaf_0 1 rfl rfl)
theorem dX1_sellLoaf_2 : decode cX1_sellLoaf 2 = .ok (.invokedynamic 101, 5) := by decide +kernel
theorem dX1_sellLoaf_7 : decode cX1_sellLoaf 7 = .ok (.invokevirtual 92, 3) := dk_182 0 92 (dk_at dksX1_sellLoaf_0 7 rfl rfl)
theorem dX1_sellLoaf_10 : decode cX1_sellLoaf 10 = .ok (.ireturn, 1) := dk_172 (dk_at dksX1_sellLoaf_0 10 rfl rfl)
abbrev cX1_lambda_sellLoaf_8 : ByteArray := prog_1_method_88_code
def yX1_lambda_sellLoaf_8 : MethodName := ⟨RX1, "lambda$sellLoaf$8", "(ILDoughLedger$Bakery;)I"⟩
def dkwX1_lambda_sellLoaf_8_0 : List UInt8 := [43, 26, 182, 1, 212, 172]
abbrev dktX1_lambda_sellLoaf_8_0 : List UInt8 := dkwX1_lambda_sellLoaf_8_0 ++ []
theorem dksX1_lambda_sellLoaf_8_0 : cX1_lambda_sellLoaf_8.data.toList.drop 0 = dktX1_lambda_sellLoaf_8_0 := by decide +kernel
theorem dX1_lambda_sellLoaf_8_0 : decode cX1_lambda_sellLoaf_8 0 = .ok (.aload_n 1, 1) := dk_43 (dk_at dksX1_lambda_sellLoaf_8_0 0 rfl rfl)
theorem dX1_lambda_sellLoaf_8_1 : decode cX1_lambda_sellLoaf_8 1 = .ok (.iload_n 0, 1) := dk_26 (dk_at dksX1_lambda_sellLoaf_8_0 1 rfl rfl)
theorem dX1_lambda_sellLoaf_8_2 : decode cX1_lambda_sellLoaf_8 2 = .ok (.invokevirtual 468, 3) := dk_182 1 212 (dk_at dksX1_lambda_sellLoaf_8_0 2 rfl rfl)
theorem dX1_lambda_sellLoaf_8_5 : decode cX1_lambda_sellLoaf_8 5 = .ok (.ireturn, 1) := dk_172 (dk_at dksX1_lambda_sellLoaf_8_0 5 rfl rfl)
abbrev cX1_setScale : ByteArray := prog_1_method_16_code
def yX1_setScale : MethodName := ⟨RX1, "setScale", "(I)I"⟩
def dkwX1_setScale_0 : List UInt8 := [42, 27, 186, 0, 102, 0, 0, 182, 0, 92, 172]
abbrev dktX1_setScale_0 : List UInt8 := dkwX1_setScale_0 ++ []
theorem dksX1_setScale_0 : cX1_setScale.data.toList.drop 0 = dktX1_setScale_0 := by decide +kernel
theorem dX1_setScale_0 : decode cX1_setScale 0 = .ok (.aload_n 0, 1) := dk_42 (dk_at dksX1_setScale_0 0 rfl rfl)
theorem dX1_setScale_1 : decode cX1_setScale 1 = .ok (.iload_n 1, 1) := dk_27 (dk_at dksX1_setScale_0 1 rfl rfl)
theorem dX1_setScale_2 : decode cX1_setScale 2 = .ok (.invokedynamic 102, 5) := by decide +kernel
theorem dX1_setScale_7 : decode cX1_setScale 7 = .ok (.invokevirtual 92, 3) := dk_182 0 92 (dk_at dksX1_setScale_0 7 rfl rfl)
theorem dX1_setScale_10 : decode cX1_setScale 10 = .ok (.ireturn, 1) := dk_172 (dk_at dksX1_setScale_0 10 rfl rfl)
abbrev cX1_lambda_setScale_9 : ByteArray := prog_1_method_87_code
def yX1_lambda_setScale_9 : MethodName := ⟨RX1, "lambda$setScale$9", "(ILDoughLedger$Bakery;)I"⟩
def dkwX1_lambda_setScale_9_0 : List UInt8 := [43, 26, 182, 1, 209, 172]
abbrev dktX1_lambda_setScale_9_0 : List UInt8 := dkwX1_lambda_setScale_9_0 ++ []
theorem dksX1_lambda_setScale_9_0 : cX1_lambda_setScale_9.data.toList.drop 0 = dktX1_lambda_setScale_9_0 := by decide +kernel
theorem dX1_lambda_setScale_9_0 : decode cX1_lambda_setScale_9 0 = .ok (.aload_n 1, 1) := dk_43 (dk_at dksX1_lambda_setScale_9_0 0 rfl rfl)
theorem dX1_lambda_setScale_9_1 : decode cX1_lambda_setScale_9 1 = .ok (.iload_n 0, 1) := dk_26 (dk_at dksX1_lambda_setScale_9_0 1 rfl rfl)
theorem dX1_lambda_setScale_9_2 : decode cX1_lambda_setScale_9 2 = .ok (.invokevirtual 465, 3) := dk_182 1 209 (dk_at dksX1_lambda_setScale_9_0 2 rfl rfl)
theorem dX1_lambda_setScale_9_5 : decode cX1_lambda_setScale_9 5 = .ok (.ireturn, 1) := dk_172 (dk_at dksX1_lambda_setScale_9_0 5 rfl rfl)
abbrev cX1_setRounding : ByteArray := prog_1_method_17_code
def yX1_setRounding : MethodName := ⟨RX1, "setRounding", "(C)C"⟩
def dkwX1_setRounding_0 : List UInt8 := [42, 27, 186, 0, 103, 0, 0, 182, 0, 92, 146, 172]
abbrev dktX1_setRounding_0 : List UInt8 := dkwX1_setRounding_0 ++ []
theorem dksX1_setRounding_0 : cX1_setRounding.data.toList.drop 0 = dktX1_setRounding_0 := by decide +kernel
theorem dX1_setRounding_0 : decode cX1_setRounding 0 = .ok (.aload_n 0, 1) := dk_42 (dk_at dksX1_setRounding_0 0 rfl rfl)
theorem dX1_setRounding_1 : decode cX1_setRounding 1 = .ok (.iload_n 1, 1) := dk_27 (dk_at dksX1_setRounding_0 1 rfl rfl)
theorem dX1_setRounding_2 : decode cX1_setRounding 2 = .ok (.invokedynamic 103, 5) := by decide +kernel
theorem dX1_setRounding_7 : decode cX1_setRounding 7 = .ok (.invokevirtual 92, 3) := dk_182 0 92 (dk_at dksX1_setRounding_0 7 rfl rfl)
theorem dX1_setRounding_10 : decode cX1_setRounding 10 = .ok (.i2c, 1) := dk_146 (dk_at dksX1_setRounding_0 10 rfl rfl)
theorem dX1_setRounding_11 : decode cX1_setRounding 11 = .ok (.ireturn, 1) := dk_172 (dk_at dksX1_setRounding_0 11 rfl rfl)
abbrev cX1_lambda_setRounding_10 : ByteArray := prog_1_method_86_code
def yX1_lambda_setRounding_10 : MethodName := ⟨RX1, "lambda$setRounding$10", "(CLDoughLedger$Bakery;)I"⟩
def dkwX1_lambda_setRounding_10_0 : List UInt8 := [43, 26, 182, 1, 206, 172]
abbrev dktX1_lambda_setRounding_10_0 : List UInt8 := dkwX1_lambda_setRounding_10_0 ++ []
theorem dksX1_lambda_setRounding_10_0 : cX1_lambda_setRounding_10.data.toList.drop 0 = dktX1_lambda_setRounding_10_0 := by decide +kernel
theorem dX1_lambda_setRounding_10_0 : decode cX1_lambda_setRounding_10 0 = .ok (.aload_n 1, 1) := dk_43 (dk_at dksX1_lambda_setRounding_10_0 0 rfl rfl)
theorem dX1_lambda_setRounding_10_1 : decode cX1_lambda_setRounding_10 1 = .ok (.iload_n 0, 1) := dk_26 (dk_at dksX1_lambda_setRounding_10_0 1 rfl rfl)
theorem dX1_lambda_setRounding_10_2 : decode cX1_lambda_setRounding_10 2 = .ok (.invokevirtual 462, 3) := dk_182 1 206 (dk_at dksX1_lambda_setRounding_10_0 2 rfl rfl)
theorem dX1_lambda_setRounding_10_5 : decode cX1_lambda_setRounding_10 5 = .ok (.ireturn, 1) := dk_172 (dk_at dksX1_lambda_setRounding_10_0 5 rfl rfl)
abbrev cX1_isRule : ByteArray := prog_1_method_3_code
def yX1_isRule : MethodName := ⟨RX1, "isRule", "(I)Z"⟩
def dkwX1_isRule_1 : List UInt8 := [4, 167, 0, 4, 3, 172]
abbrev dktX1_isRule_1 : List UInt8 := dkwX1_isRule_1 ++ []
def dkwX1_isRule_0 : List UInt8 := [26, 16, 100, 159, 0, 21, 26, 16, 117, 159, 0, 15, 26, 16, 104, 159, 0, 9, 26, 16, 101, 160, 0, 7]
abbrev dktX1_isRule_0 : List UInt8 := dkwX1_isRule_0 ++ dktX1_isRule_1
theorem dksX1_isRule_0 : cX1_isRule.data.toList.drop 0 = dktX1_isRule_0 := by decide +kernel
theorem dksX1_isRule_1 : cX1_isRule.data.toList.drop 24 = dktX1_isRule_1 := dk_seg dksX1_isRule_0 24 rfl rfl
theorem dX1_isRule_0 : decode cX1_isRule 0 = .ok (.iload_n 0, 1) := dk_26 (dk_at dksX1_isRule_0 0 rfl rfl)
theorem dX1_isRule_1 : decode cX1_isRule 1 = .ok (.bipush 100, 2) := dk_16 100 (dk_at dksX1_isRule_0 1 rfl rfl)
theorem dX1_isRule_3 : decode cX1_isRule 3 = .ok (.if_icmp .eq 21, 3) := dk_159 0 21 (dk_at dksX1_isRule_0 3 rfl rfl)
theorem dX1_isRule_6 : decode cX1_isRule 6 = .ok (.iload_n 0, 1) := dk_26 (dk_at dksX1_isRule_0 6 rfl rfl)
theorem dX1_isRule_7 : decode cX1_isRule 7 = .ok (.bipush 117, 2) := dk_16 117 (dk_at dksX1_isRule_0 7 rfl rfl)
theorem dX1_isRule_9 : decode cX1_isRule 9 = .ok (.if_icmp .eq 15, 3) := dk_159 0 15 (dk_at dksX1_isRule_0 9 rfl rfl)
theorem dX1_isRule_12 : decode cX1_isRule 12 = .ok (.iload_n 0, 1) := dk_26 (dk_at dksX1_isRule_0 12 rfl rfl)
theorem dX1_isRule_13 : decode cX1_isRule 13 = .ok (.bipush 104, 2) := dk_16 104 (dk_at dksX1_isRule_0 13 rfl rfl)
theorem dX1_isRule_15 : decode cX1_isRule 15 = .ok (.if_icmp .eq 9, 3) := dk_159 0 9 (dk_at dksX1_isRule_0 15 rfl rfl)
theorem dX1_isRule_18 : decode cX1_isRule 18 = .ok (.iload_n 0, 1) := dk_26 (dk_at dksX1_isRule_0 18 rfl rfl)
theorem dX1_isRule_19 : decode cX1_isRule 19 = .ok (.bipush 101, 2) := dk_16 101 (dk_at dksX1_isRule_0 19 rfl rfl)
theorem dX1_isRule_21 : decode cX1_isRule 21 = .ok (.if_icmp .ne 7, 3) := dk_160 0 7 (dk_at dksX1_isRule_0 21 rfl rfl)
theorem dX1_isRule_24 : decode cX1_isRule 24 = .ok (.iconst 1, 1) := dk_4 (dk_at dksX1_isRule_1 0 rfl rfl)
theorem dX1_isRule_25 : decode cX1_isRule 25 = .ok (.goto 4, 3) := dk_167 0 4 (dk_at dksX1_isRule_1 1 rfl rfl)
theorem dX1_isRule_28 : decode cX1_isRule 28 = .ok (.iconst 0, 1) := dk_3 (dk_at dksX1_isRule_1 4 rfl rfl)
theorem dX1_isRule_29 : decode cX1_isRule 29 = .ok (.ireturn, 1) := dk_172 (dk_at dksX1_isRule_1 5 rfl rfl)
abbrev cX1_pour : ByteArray := prog_1_method_18_code
def yX1_pour : MethodName := ⟨RX1, "pour", "(II)I"⟩
def dkwX1_pour_0 : List UInt8 := [42, 27, 28, 186, 0, 106, 0, 0, 182, 0, 92, 172]
abbrev dktX1_pour_0 : List UInt8 := dkwX1_pour_0 ++ []
theorem dksX1_pour_0 : cX1_pour.data.toList.drop 0 = dktX1_pour_0 := by decide +kernel
theorem dX1_pour_0 : decode cX1_pour 0 = .ok (.aload_n 0, 1) := dk_42 (dk_at dksX1_pour_0 0 rfl rfl)
theorem dX1_pour_1 : decode cX1_pour 1 = .ok (.iload_n 1, 1) := dk_27 (dk_at dksX1_pour_0 1 rfl rfl)
theorem dX1_pour_2 : decode cX1_pour 2 = .ok (.iload_n 2, 1) := dk_28 (dk_at dksX1_pour_0 2 rfl rfl)
theorem dX1_pour_3 : decode cX1_pour 3 = .ok (.invokedynamic 106, 5) := by decide +kernel
theorem dX1_pour_8 : decode cX1_pour 8 = .ok (.invokevirtual 92, 3) := dk_182 0 92 (dk_at dksX1_pour_0 8 rfl rfl)
theorem dX1_pour_11 : decode cX1_pour 11 = .ok (.ireturn, 1) := dk_172 (dk_at dksX1_pour_0 11 rfl rfl)
abbrev cX1_lambda_pour_11 : ByteArray := prog_1_method_85_code
def yX1_lambda_pour_11 : MethodName := ⟨RX1, "lambda$pour$11", "(IILDoughLedger$Bakery;)I"⟩
def dkwX1_lambda_pour_11_0 : List UInt8 := [44, 26, 27, 182, 1, 203, 172]
abbrev dktX1_lambda_pour_11_0 : List UInt8 := dkwX1_lambda_pour_11_0 ++ []
theorem dksX1_lambda_pour_11_0 : cX1_lambda_pour_11.data.toList.drop 0 = dktX1_lambda_pour_11_0 := by decide +kernel
theorem dX1_lambda_pour_11_0 : decode cX1_lambda_pour_11 0 = .ok (.aload_n 2, 1) := dk_44 (dk_at dksX1_lambda_pour_11_0 0 rfl rfl)
theorem dX1_lambda_pour_11_1 : decode cX1_lambda_pour_11 1 = .ok (.iload_n 0, 1) := dk_26 (dk_at dksX1_lambda_pour_11_0 1 rfl rfl)
theorem dX1_lambda_pour_11_2 : decode cX1_lambda_pour_11 2 = .ok (.iload_n 1, 1) := dk_27 (dk_at dksX1_lambda_pour_11_0 2 rfl rfl)
theorem dX1_lambda_pour_11_3 : decode cX1_lambda_pour_11 3 = .ok (.invokevirtual 459, 3) := dk_182 1 203 (dk_at dksX1_lambda_pour_11_0 3 rfl rfl)
theorem dX1_lambda_pour_11_6 : decode cX1_lambda_pour_11 6 = .ok (.ireturn, 1) := dk_172 (dk_at dksX1_lambda_pour_11_0 6 rfl rfl)
abbrev cX1_empty : ByteArray := prog_1_method_19_code
def yX1_empty : MethodName := ⟨RX1, "empty", "(I)I"⟩
def dkwX1_empty_0 : List UInt8 := [42, 27, 186, 0, 107, 0, 0, 182, 0, 92, 172]
abbrev dktX1_empty_0 : List UInt8 := dkwX1_empty_0 ++ []
theorem dksX1_empty_0 : cX1_empty.data.toList.drop 0 = dktX1_empty_0 := by decide +kernel
theorem dX1_empty_0 : decode cX1_empty 0 = .ok (.aload_n 0, 1) := dk_42 (dk_at dksX1_empty_0 0 rfl rfl)
theorem dX1_empty_1 : decode cX1_empty 1 = .ok (.iload_n 1, 1) := dk_27 (dk_at dksX1_empty_0 1 rfl rfl)
theorem dX1_empty_2 : decode cX1_empty 2 = .ok (.invokedynamic 107, 5) := by decide +kernel
theorem dX1_empty_7 : decode cX1_empty 7 = .ok (.invokevirtual 92, 3) := dk_182 0 92 (dk_at dksX1_empty_0 7 rfl rfl)
theorem dX1_empty_10 : decode cX1_empty 10 = .ok (.ireturn, 1) := dk_172 (dk_at dksX1_empty_0 10 rfl rfl)
abbrev cX1_lambda_empty_12 : ByteArray := prog_1_method_84_code
def yX1_lambda_empty_12 : MethodName := ⟨RX1, "lambda$empty$12", "(ILDoughLedger$Bakery;)I"⟩
def dkwX1_lambda_empty_12_0 : List UInt8 := [43, 26, 182, 1, 200, 172]
abbrev dktX1_lambda_empty_12_0 : List UInt8 := dkwX1_lambda_empty_12_0 ++ []
theorem dksX1_lambda_empty_12_0 : cX1_lambda_empty_12.data.toList.drop 0 = dktX1_lambda_empty_12_0 := by decide +kernel
theorem dX1_lambda_empty_12_0 : decode cX1_lambda_empty_12 0 = .ok (.aload_n 1, 1) := dk_43 (dk_at dksX1_lambda_empty_12_0 0 rfl rfl)
theorem dX1_lambda_empty_12_1 : decode cX1_lambda_empty_12 1 = .ok (.iload_n 0, 1) := dk_26 (dk_at dksX1_lambda_empty_12_0 1 rfl rfl)
theorem dX1_lambda_empty_12_2 : decode cX1_lambda_empty_12 2 = .ok (.invokevirtual 456, 3) := dk_182 1 200 (dk_at dksX1_lambda_empty_12_0 2 rfl rfl)
theorem dX1_lambda_empty_12_5 : decode cX1_lambda_empty_12 5 = .ok (.ireturn, 1) := dk_172 (dk_at dksX1_lambda_empty_12_0 5 rfl rfl)
abbrev cX1_bake : ByteArray := prog_1_method_20_code
def yX1_bake : MethodName := ⟨RX1, "bake", "(I)I"⟩
def dkwX1_bake_0 : List UInt8 := [42, 27, 186, 0, 108, 0, 0, 182, 0, 92, 172]
abbrev dktX1_bake_0 : List UInt8 := dkwX1_bake_0 ++ []
theorem dksX1_bake_0 : cX1_bake.data.toList.drop 0 = dktX1_bake_0 := by decide +kernel
theorem dX1_bake_0 : decode cX1_bake 0 = .ok (.aload_n 0, 1) := dk_42 (dk_at dksX1_bake_0 0 rfl rfl)
theorem dX1_bake_1 : decode cX1_bake 1 = .ok (.iload_n 1, 1) := dk_27 (dk_at dksX1_bake_0 1 rfl rfl)
theorem dX1_bake_2 : decode cX1_bake 2 = .ok (.invokedynamic 108, 5) := by decide +kernel
theorem dX1_bake_7 : decode cX1_bake 7 = .ok (.invokevirtual 92, 3) := dk_182 0 92 (dk_at dksX1_bake_0 7 rfl rfl)
theorem dX1_bake_10 : decode cX1_bake 10 = .ok (.ireturn, 1) := dk_172 (dk_at dksX1_bake_0 10 rfl rfl)
abbrev cX1_lambda_bake_13 : ByteArray := prog_1_method_83_code
def yX1_lambda_bake_13 : MethodName := ⟨RX1, "lambda$bake$13", "(ILDoughLedger$Bakery;)I"⟩
def dkwX1_lambda_bake_13_0 : List UInt8 := [43, 26, 182, 1, 197, 172]
abbrev dktX1_lambda_bake_13_0 : List UInt8 := dkwX1_lambda_bake_13_0 ++ []
theorem dksX1_lambda_bake_13_0 : cX1_lambda_bake_13.data.toList.drop 0 = dktX1_lambda_bake_13_0 := by decide +kernel
theorem dX1_lambda_bake_13_0 : decode cX1_lambda_bake_13 0 = .ok (.aload_n 1, 1) := dk_43 (dk_at dksX1_lambda_bake_13_0 0 rfl rfl)
theorem dX1_lambda_bake_13_1 : decode cX1_lambda_bake_13 1 = .ok (.iload_n 0, 1) := dk_26 (dk_at dksX1_lambda_bake_13_0 1 rfl rfl)
theorem dX1_lambda_bake_13_2 : decode cX1_lambda_bake_13 2 = .ok (.invokevirtual 453, 3) := dk_182 1 197 (dk_at dksX1_lambda_bake_13_0 2 rfl rfl)
theorem dX1_lambda_bake_13_5 : decode cX1_lambda_bake_13 5 = .ok (.ireturn, 1) := dk_172 (dk_at dksX1_lambda_bake_13_0 5 rfl rfl)
abbrev cX1_setOvens : ByteArray := prog_1_method_21_code
def yX1_setOvens : MethodName := ⟨RX1, "setOvens", "(I)I"⟩
def dkwX1_setOvens_0 : List UInt8 := [42, 27, 186, 0, 109, 0, 0, 182, 0, 92, 172]
abbrev dktX1_setOvens_0 : List UInt8 := dkwX1_setOvens_0 ++ []
theorem dksX1_setOvens_0 : cX1_setOvens.data.toList.drop 0 = dktX1_setOvens_0 := by decide +kernel
theorem dX1_setOvens_0 : decode cX1_setOvens 0 = .ok (.aload_n 0, 1) := dk_42 (dk_at dksX1_setOvens_0 0 rfl rfl)
theorem dX1_setOvens_1 : decode cX1_setOvens 1 = .ok (.iload_n 1, 1) := dk_27 (dk_at dksX1_setOvens_0 1 rfl rfl)
theorem dX1_setOvens_2 : decode cX1_setOvens 2 = .ok (.invokedynamic 109, 5) := by decide +kernel
theorem dX1_setOvens_7 : decode cX1_setOvens 7 = .ok (.invokevirtual 92, 3) := dk_182 0 92 (dk_at dksX1_setOvens_0 7 rfl rfl)
theorem dX1_setOvens_10 : decode cX1_setOvens 10 = .ok (.ireturn, 1) := dk_172 (dk_at dksX1_setOvens_0 10 rfl rfl)
abbrev cX1_lambda_setOvens_14 : ByteArray := prog_1_method_82_code
def yX1_lambda_setOvens_14 : MethodName := ⟨RX1, "lambda$setOvens$14", "(ILDoughLedger$Bakery;)I"⟩
def dkwX1_lambda_setOvens_14_0 : List UInt8 := [43, 26, 182, 1, 194, 172]
abbrev dktX1_lambda_setOvens_14_0 : List UInt8 := dkwX1_lambda_setOvens_14_0 ++ []
theorem dksX1_lambda_setOvens_14_0 : cX1_lambda_setOvens_14.data.toList.drop 0 = dktX1_lambda_setOvens_14_0 := by decide +kernel
theorem dX1_lambda_setOvens_14_0 : decode cX1_lambda_setOvens_14 0 = .ok (.aload_n 1, 1) := dk_43 (dk_at dksX1_lambda_setOvens_14_0 0 rfl rfl)
theorem dX1_lambda_setOvens_14_1 : decode cX1_lambda_setOvens_14 1 = .ok (.iload_n 0, 1) := dk_26 (dk_at dksX1_lambda_setOvens_14_0 1 rfl rfl)
theorem dX1_lambda_setOvens_14_2 : decode cX1_lambda_setOvens_14 2 = .ok (.invokevirtual 450, 3) := dk_182 1 194 (dk_at dksX1_lambda_setOvens_14_0 2 rfl rfl)
theorem dX1_lambda_setOvens_14_5 : decode cX1_lambda_setOvens_14 5 = .ok (.ireturn, 1) := dk_172 (dk_at dksX1_lambda_setOvens_14_0 5 rfl rfl)
abbrev cX1_numeratorOf : ByteArray := prog_1_method_29_code
def yX1_numeratorOf : MethodName := ⟨RX1, "numeratorOf", "(I)I"⟩
def dkwX1_numeratorOf_0 : List UInt8 := [42, 27, 182, 0, 152, 180, 0, 156, 172]
abbrev dktX1_numeratorOf_0 : List UInt8 := dkwX1_numeratorOf_0 ++ []
theorem dksX1_numeratorOf_0 : cX1_numeratorOf.data.toList.drop 0 = dktX1_numeratorOf_0 := by decide +kernel
theorem dX1_numeratorOf_0 : decode cX1_numeratorOf 0 = .ok (.aload_n 0, 1) := dk_42 (dk_at dksX1_numeratorOf_0 0 rfl rfl)
theorem dX1_numeratorOf_1 : decode cX1_numeratorOf 1 = .ok (.iload_n 1, 1) := dk_27 (dk_at dksX1_numeratorOf_0 1 rfl rfl)
theorem dX1_numeratorOf_2 : decode cX1_numeratorOf 2 = .ok (.invokevirtual 152, 3) := dk_182 0 152 (dk_at dksX1_numeratorOf_0 2 rfl rfl)
theorem dX1_numeratorOf_5 : decode cX1_numeratorOf 5 = .ok (.getfield 156, 3) := dk_180 0 156 (dk_at dksX1_numeratorOf_0 5 rfl rfl)
theorem dX1_numeratorOf_8 : decode cX1_numeratorOf 8 = .ok (.ireturn, 1) := dk_172 (dk_at dksX1_numeratorOf_0 8 rfl rfl)
abbrev cX1_doughWith : ByteArray := prog_1_method_27_code
def yX1_doughWith : MethodName := ⟨RX1, "doughWith", "(I)LDoughLedger$Fraction;"⟩
def dkwX1_doughWith_1 : List UInt8 := [182, 0, 143, 192, 0, 149, 176]
abbrev dktX1_doughWith_1 : List UInt8 := dkwX1_doughWith_1 ++ []
def dkwX1_doughWith_0 : List UInt8 := [42, 180, 0, 28, 27, 182, 0, 126, 184, 0, 130, 42, 180, 0, 28, 180, 0, 133, 27, 184, 0, 137]
abbrev dktX1_doughWith_0 : List UInt8 := dkwX1_doughWith_0 ++ dktX1_doughWith_1
theorem dksX1_doughWith_0 : cX1_doughWith.data.toList.drop 0 = dktX1_doughWith_0 := by decide +kernel
theorem dksX1_doughWith_1 : cX1_doughWith.data.toList.drop 22 = dktX1_doughWith_1 := dk_seg dksX1_doughWith_0 22 rfl rfl
theorem dX1_doughWith_0 : decode cX1_doughWith 0 = .ok (.aload_n 0, 1) := dk_42 (dk_at dksX1_doughWith_0 0 rfl rfl)
theorem dX1_doughWith_1 : decode cX1_doughWith 1 = .ok (.getfield 28, 3) := dk_180 0 28 (dk_at dksX1_doughWith_0 1 rfl rfl)
theorem dX1_doughWith_4 : decode cX1_doughWith 4 = .ok (.iload_n 1, 1) := dk_27 (dk_at dksX1_doughWith_0 4 rfl rfl)
theorem dX1_doughWith_5 : decode cX1_doughWith 5 = .ok (.invokevirtual 126, 3) := dk_182 0 126 (dk_at dksX1_doughWith_0 5 rfl rfl)
theorem dX1_doughWith_8 : decode cX1_doughWith 8 = .ok (.invokestatic 130, 3) := dk_184 0 130 (dk_at dksX1_doughWith_0 8 rfl rfl)
theorem dX1_doughWith_11 : decode cX1_doughWith 11 = .ok (.aload_n 0, 1) := dk_42 (dk_at dksX1_doughWith_0 11 rfl rfl)
theorem dX1_doughWith_12 : decode cX1_doughWith 12 = .ok (.getfield 28, 3) := dk_180 0 28 (dk_at dksX1_doughWith_0 12 rfl rfl)
theorem dX1_doughWith_15 : decode cX1_doughWith 15 = .ok (.getfield 133, 3) := dk_180 0 133 (dk_at dksX1_doughWith_0 15 rfl rfl)
theorem dX1_doughWith_18 : decode cX1_doughWith 18 = .ok (.iload_n 1, 1) := dk_27 (dk_at dksX1_doughWith_0 18 rfl rfl)
theorem dX1_doughWith_19 : decode cX1_doughWith 19 = .ok (.invokestatic 137, 3) := dk_184 0 137 (dk_at dksX1_doughWith_0 19 rfl rfl)
theorem dX1_doughWith_22 : decode cX1_doughWith 22 = .ok (.invokevirtual 143, 3) := dk_182 0 143 (dk_at dksX1_doughWith_1 0 rfl rfl)
theorem dX1_doughWith_25 : decode cX1_doughWith 25 = .ok (.checkcast 149, 3) := dk_192 0 149 (dk_at dksX1_doughWith_1 3 rfl rfl)
theorem dX1_doughWith_28 : decode cX1_doughWith 28 = .ok (.areturn, 1) := dk_176 (dk_at dksX1_doughWith_1 6 rfl rfl)
abbrev cX1_checkIndex : ByteArray := prog_1_method_22_code
def yX1_checkIndex : MethodName := ⟨RX1, "checkIndex", "(Z)V"⟩
def dkwX1_checkIndex_0 : List UInt8 := [26, 154, 0, 11, 187, 0, 110, 89, 183, 0, 112, 191, 177]
abbrev dktX1_checkIndex_0 : List UInt8 := dkwX1_checkIndex_0 ++ []
theorem dksX1_checkIndex_0 : cX1_checkIndex.data.toList.drop 0 = dktX1_checkIndex_0 := by decide +kernel
theorem dX1_checkIndex_0 : decode cX1_checkIndex 0 = .ok (.iload_n 0, 1) := dk_26 (dk_at dksX1_checkIndex_0 0 rfl rfl)
theorem dX1_checkIndex_1 : decode cX1_checkIndex 1 = .ok (.ifCond .ne 11, 3) := dk_154 0 11 (dk_at dksX1_checkIndex_0 1 rfl rfl)
theorem dX1_checkIndex_4 : decode cX1_checkIndex 4 = .ok (.new 110, 3) := dk_187 0 110 (dk_at dksX1_checkIndex_0 4 rfl rfl)
theorem dX1_checkIndex_7 : decode cX1_checkIndex 7 = .ok (.dup, 1) := dk_89 (dk_at dksX1_checkIndex_0 7 rfl rfl)
theorem dX1_checkIndex_8 : decode cX1_checkIndex 8 = .ok (.invokespecial 112, 3) := dk_183 0 112 (dk_at dksX1_checkIndex_0 8 rfl rfl)
theorem dX1_checkIndex_11 : decode cX1_checkIndex 11 = .ok (.athrow, 1) := dk_191 (dk_at dksX1_checkIndex_0 11 rfl rfl)
theorem dX1_checkIndex_12 : decode cX1_checkIndex 12 = .ok (.return_, 1) := dk_177 (dk_at dksX1_checkIndex_0 12 rfl rfl)
abbrev cX1_denominatorOf : ByteArray := prog_1_method_30_code
def yX1_denominatorOf : MethodName := ⟨RX1, "denominatorOf", "(I)I"⟩
def dkwX1_denominatorOf_0 : List UInt8 := [42, 27, 182, 0, 152, 180, 0, 159, 172]
abbrev dktX1_denominatorOf_0 : List UInt8 := dkwX1_denominatorOf_0 ++ []
theorem dksX1_denominatorOf_0 : cX1_denominatorOf.data.toList.drop 0 = dktX1_denominatorOf_0 := by decide +kernel
theorem dX1_denominatorOf_0 : decode cX1_denominatorOf 0 = .ok (.aload_n 0, 1) := dk_42 (dk_at dksX1_denominatorOf_0 0 rfl rfl)
theorem dX1_denominatorOf_1 : decode cX1_denominatorOf 1 = .ok (.iload_n 1, 1) := dk_27 (dk_at dksX1_denominatorOf_0 1 rfl rfl)
theorem dX1_denominatorOf_2 : decode cX1_denominatorOf 2 = .ok (.invokevirtual 152, 3) := dk_182 0 152 (dk_at dksX1_denominatorOf_0 2 rfl rfl)
theorem dX1_denominatorOf_5 : decode cX1_denominatorOf 5 = .ok (.getfield 159, 3) := dk_180 0 159 (dk_at dksX1_denominatorOf_0 5 rfl rfl)
theorem dX1_denominatorOf_8 : decode cX1_denominatorOf 8 = .ok (.ireturn, 1) := dk_172 (dk_at dksX1_denominatorOf_0 8 rfl rfl)
abbrev cX1_crumbsIn : ByteArray := prog_1_method_31_code
def yX1_crumbsIn : MethodName := ⟨RX1, "crumbsIn", "(I)I"⟩
def dkwX1_crumbsIn_0 : List UInt8 := [42, 180, 0, 28, 27, 182, 0, 126, 184, 0, 130, 42, 180, 0, 28, 27, 182, 0, 162, 172]
abbrev dktX1_crumbsIn_0 : List UInt8 := dkwX1_crumbsIn_0 ++ []
theorem dksX1_crumbsIn_0 : cX1_crumbsIn.data.toList.drop 0 = dktX1_crumbsIn_0 := by decide +kernel
theorem dX1_crumbsIn_0 : decode cX1_crumbsIn 0 = .ok (.aload_n 0, 1) := dk_42 (dk_at dksX1_crumbsIn_0 0 rfl rfl)
theorem dX1_crumbsIn_1 : decode cX1_crumbsIn 1 = .ok (.getfield 28, 3) := dk_180 0 28 (dk_at dksX1_crumbsIn_0 1 rfl rfl)
theorem dX1_crumbsIn_4 : decode cX1_crumbsIn 4 = .ok (.iload_n 1, 1) := dk_27 (dk_at dksX1_crumbsIn_0 4 rfl rfl)
theorem dX1_crumbsIn_5 : decode cX1_crumbsIn 5 = .ok (.invokevirtual 126, 3) := dk_182 0 126 (dk_at dksX1_crumbsIn_0 5 rfl rfl)
theorem dX1_crumbsIn_8 : decode cX1_crumbsIn 8 = .ok (.invokestatic 130, 3) := dk_184 0 130 (dk_at dksX1_crumbsIn_0 8 rfl rfl)
theorem dX1_crumbsIn_11 : decode cX1_crumbsIn 11 = .ok (.aload_n 0, 1) := dk_42 (dk_at dksX1_crumbsIn_0 11 rfl rfl)
theorem dX1_crumbsIn_12 : decode cX1_crumbsIn 12 = .ok (.getfield 28, 3) := dk_180 0 28 (dk_at dksX1_crumbsIn_0 12 rfl rfl)
theorem dX1_crumbsIn_15 : decode cX1_crumbsIn 15 = .ok (.iload_n 1, 1) := dk_27 (dk_at dksX1_crumbsIn_0 15 rfl rfl)
theorem dX1_crumbsIn_16 : decode cX1_crumbsIn 16 = .ok (.invokevirtual 162, 3) := dk_182 0 162 (dk_at dksX1_crumbsIn_0 16 rfl rfl)
theorem dX1_crumbsIn_19 : decode cX1_crumbsIn 19 = .ok (.ireturn, 1) := dk_172 (dk_at dksX1_crumbsIn_0 19 rfl rfl)
abbrev cX1_crumbsByDigits : ByteArray := prog_1_method_32_code
def yX1_crumbsByDigits : MethodName := ⟨RX1, "crumbsByDigits", "(I)I"⟩
def dkwX1_crumbsByDigits_0 : List UInt8 := [42, 180, 0, 28, 27, 182, 0, 126, 184, 0, 130, 42, 180, 0, 28, 27, 182, 0, 166, 172]
abbrev dktX1_crumbsByDigits_0 : List UInt8 := dkwX1_crumbsByDigits_0 ++ []
theorem dksX1_crumbsByDigits_0 : cX1_crumbsByDigits.data.toList.drop 0 = dktX1_crumbsByDigits_0 := by decide +kernel
theorem dX1_crumbsByDigits_0 : decode cX1_crumbsByDigits 0 = .ok (.aload_n 0, 1) := dk_42 (dk_at dksX1_crumbsByDigits_0 0 rfl rfl)
theorem dX1_crumbsByDigits_1 : decode cX1_crumbsByDigits 1 = .ok (.getfield 28, 3) := dk_180 0 28 (dk_at dksX1_crumbsByDigits_0 1 rfl rfl)
theorem dX1_crumbsByDigits_4 : decode cX1_crumbsByDigits 4 = .ok (.iload_n 1, 1) := dk_27 (dk_at dksX1_crumbsByDigits_0 4 rfl rfl)
theorem dX1_crumbsByDigits_5 : decode cX1_crumbsByDigits 5 = .ok (.invokevirtual 126, 3) := dk_182 0 126 (dk_at dksX1_crumbsByDigits_0 5 rfl rfl)
theorem dX1_crumbsByDigits_8 : decode cX1_crumbsByDigits 8 = .ok (.invokestatic 130, 3) := dk_184 0 130 (dk_at dksX1_crumbsByDigits_0 8 rfl rfl)
theorem dX1_crumbsByDigits_11 : decode cX1_crumbsByDigits 11 = .ok (.aload_n 0, 1) := dk_42 (dk_at dksX1_crumbsByDigits_0 11 rfl rfl)
theorem dX1_crumbsByDigits_12 : decode cX1_crumbsByDigits 12 = .ok (.getfield 28, 3) := dk_180 0 28 (dk_at dksX1_crumbsByDigits_0 12 rfl rfl)
theorem dX1_crumbsByDigits_15 : decode cX1_crumbsByDigits 15 = .ok (.iload_n 1, 1) := dk_27 (dk_at dksX1_crumbsByDigits_0 15 rfl rfl)
theorem dX1_crumbsByDigits_16 : decode cX1_crumbsByDigits 16 = .ok (.invokevirtual 166, 3) := dk_182 0 166 (dk_at dksX1_crumbsByDigits_0 16 rfl rfl)
theorem dX1_crumbsByDigits_19 : decode cX1_crumbsByDigits 19 = .ok (.ireturn, 1) := dk_172 (dk_at dksX1_crumbsByDigits_0 19 rfl rfl)
abbrev cX1_doughByAmount : ByteArray := prog_1_method_33_code
def yX1_doughByAmount : MethodName := ⟨RX1, "doughByAmount", "(I)I"⟩
def dkwX1_doughByAmount_0 : List UInt8 := [42, 180, 0, 28, 27, 182, 0, 169, 184, 0, 172, 172]
abbrev dktX1_doughByAmount_0 : List UInt8 := dkwX1_doughByAmount_0 ++ []
theorem dksX1_doughByAmount_0 : cX1_doughByAmount.data.toList.drop 0 = dktX1_doughByAmount_0 := by decide +kernel
theorem dX1_doughByAmount_0 : decode cX1_doughByAmount 0 = .ok (.aload_n 0, 1) := dk_42 (dk_at dksX1_doughByAmount_0 0 rfl rfl)
theorem dX1_doughByAmount_1 : decode cX1_doughByAmount 1 = .ok (.getfield 28, 3) := dk_180 0 28 (dk_at dksX1_doughByAmount_0 1 rfl rfl)
theorem dX1_doughByAmount_4 : decode cX1_doughByAmount 4 = .ok (.iload_n 1, 1) := dk_27 (dk_at dksX1_doughByAmount_0 4 rfl rfl)
theorem dX1_doughByAmount_5 : decode cX1_doughByAmount 5 = .ok (.invokevirtual 169, 3) := dk_182 0 169 (dk_at dksX1_doughByAmount_0 5 rfl rfl)
theorem dX1_doughByAmount_8 : decode cX1_doughByAmount 8 = .ok (.invokestatic 172, 3) := dk_184 0 172 (dk_at dksX1_doughByAmount_0 8 rfl rfl)
theorem dX1_doughByAmount_11 : decode cX1_doughByAmount 11 = .ok (.ireturn, 1) := dk_172 (dk_at dksX1_doughByAmount_0 11 rfl rfl)
abbrev cX1_found : ByteArray := prog_1_method_26_code
def yX1_found : MethodName := ⟨RX1, "found", "(I)I"⟩
def dkwX1_found_0 : List UInt8 := [26, 2, 159, 0, 7, 4, 167, 0, 4, 3, 184, 0, 122, 26, 172]
abbrev dktX1_found_0 : List UInt8 := dkwX1_found_0 ++ []
theorem dksX1_found_0 : cX1_found.data.toList.drop 0 = dktX1_found_0 := by decide +kernel
theorem dX1_found_0 : decode cX1_found 0 = .ok (.iload_n 0, 1) := dk_26 (dk_at dksX1_found_0 0 rfl rfl)
theorem dX1_found_1 : decode cX1_found 1 = .ok (.iconst (-1), 1) := dk_2 (dk_at dksX1_found_0 1 rfl rfl)
theorem dX1_found_2 : decode cX1_found 2 = .ok (.if_icmp .eq 7, 3) := dk_159 0 7 (dk_at dksX1_found_0 2 rfl rfl)
theorem dX1_found_5 : decode cX1_found 5 = .ok (.iconst 1, 1) := dk_4 (dk_at dksX1_found_0 5 rfl rfl)
theorem dX1_found_6 : decode cX1_found 6 = .ok (.goto 4, 3) := dk_167 0 4 (dk_at dksX1_found_0 6 rfl rfl)
theorem dX1_found_9 : decode cX1_found 9 = .ok (.iconst 0, 1) := dk_3 (dk_at dksX1_found_0 9 rfl rfl)
theorem dX1_found_10 : decode cX1_found 10 = .ok (.invokestatic 122, 3) := dk_184 0 122 (dk_at dksX1_found_0 10 rfl rfl)
theorem dX1_found_13 : decode cX1_found 13 = .ok (.iload_n 0, 1) := dk_26 (dk_at dksX1_found_0 13 rfl rfl)
theorem dX1_found_14 : decode cX1_found 14 = .ok (.ireturn, 1) := dk_172 (dk_at dksX1_found_0 14 rfl rfl)
abbrev cX1_checkElement : ByteArray := prog_1_method_24_code
def yX1_checkElement : MethodName := ⟨RX1, "checkElement", "(Z)V"⟩
def dkwX1_checkElement_0 : List UInt8 := [26, 154, 0, 11, 187, 0, 116, 89, 183, 0, 118, 191, 177]
abbrev dktX1_checkElement_0 : List UInt8 := dkwX1_checkElement_0 ++ []
theorem dksX1_checkElement_0 : cX1_checkElement.data.toList.drop 0 = dktX1_checkElement_0 := by decide +kernel
theorem dX1_checkElement_0 : decode cX1_checkElement 0 = .ok (.iload_n 0, 1) := dk_26 (dk_at dksX1_checkElement_0 0 rfl rfl)
theorem dX1_checkElement_1 : decode cX1_checkElement 1 = .ok (.ifCond .ne 11, 3) := dk_154 0 11 (dk_at dksX1_checkElement_0 1 rfl rfl)
theorem dX1_checkElement_4 : decode cX1_checkElement 4 = .ok (.new 116, 3) := dk_187 0 116 (dk_at dksX1_checkElement_0 4 rfl rfl)
theorem dX1_checkElement_7 : decode cX1_checkElement 7 = .ok (.dup, 1) := dk_89 (dk_at dksX1_checkElement_0 7 rfl rfl)
theorem dX1_checkElement_8 : decode cX1_checkElement 8 = .ok (.invokespecial 118, 3) := dk_183 0 118 (dk_at dksX1_checkElement_0 8 rfl rfl)
theorem dX1_checkElement_11 : decode cX1_checkElement 11 = .ok (.athrow, 1) := dk_191 (dk_at dksX1_checkElement_0 11 rfl rfl)
theorem dX1_checkElement_12 : decode cX1_checkElement 12 = .ok (.return_, 1) := dk_177 (dk_at dksX1_checkElement_0 12 rfl rfl)
abbrev cX1_nearestNumerator : ByteArray := prog_1_method_35_code
def yX1_nearestNumerator : MethodName := ⟨RX1, "nearestNumerator", "(III)I"⟩
def dkwX1_nearestNumerator_0 : List UInt8 := [42, 27, 28, 29, 182, 0, 194, 29, 4, 182, 0, 197, 136, 172]
abbrev dktX1_nearestNumerator_0 : List UInt8 := dkwX1_nearestNumerator_0 ++ []
theorem dksX1_nearestNumerator_0 : cX1_nearestNumerator.data.toList.drop 0 = dktX1_nearestNumerator_0 := by decide +kernel
theorem dX1_nearestNumerator_0 : decode cX1_nearestNumerator 0 = .ok (.aload_n 0, 1) := dk_42 (dk_at dksX1_nearestNumerator_0 0 rfl rfl)
theorem dX1_nearestNumerator_1 : decode cX1_nearestNumerator 1 = .ok (.iload_n 1, 1) := dk_27 (dk_at dksX1_nearestNumerator_0 1 rfl rfl)
theorem dX1_nearestNumerator_2 : decode cX1_nearestNumerator 2 = .ok (.iload_n 2, 1) := dk_28 (dk_at dksX1_nearestNumerator_0 2 rfl rfl)
theorem dX1_nearestNumerator_3 : decode cX1_nearestNumerator 3 = .ok (.iload_n 3, 1) := dk_29 (dk_at dksX1_nearestNumerator_0 3 rfl rfl)
theorem dX1_nearestNumerator_4 : decode cX1_nearestNumerator 4 = .ok (.invokevirtual 194, 3) := dk_182 0 194 (dk_at dksX1_nearestNumerator_0 4 rfl rfl)
theorem dX1_nearestNumerator_7 : decode cX1_nearestNumerator 7 = .ok (.iload_n 3, 1) := dk_29 (dk_at dksX1_nearestNumerator_0 7 rfl rfl)
theorem dX1_nearestNumerator_8 : decode cX1_nearestNumerator 8 = .ok (.iconst 1, 1) := dk_4 (dk_at dksX1_nearestNumerator_0 8 rfl rfl)
theorem dX1_nearestNumerator_9 : decode cX1_nearestNumerator 9 = .ok (.invokevirtual 197, 3) := dk_182 0 197 (dk_at dksX1_nearestNumerator_0 9 rfl rfl)
theorem dX1_nearestNumerator_12 : decode cX1_nearestNumerator 12 = .ok (.l2i, 1) := dk_136 (dk_at dksX1_nearestNumerator_0 12 rfl rfl)
theorem dX1_nearestNumerator_13 : decode cX1_nearestNumerator 13 = .ok (.ireturn, 1) := dk_172 (dk_at dksX1_nearestNumerator_0 13 rfl rfl)
abbrev cX1_nearness : ByteArray := prog_1_method_34_code
def yX1_nearness : MethodName := ⟨RX1, "nearness", "(III)LDoughLedger$Nearness;"⟩
def dkwX1_nearness_3 : List UInt8 := [25, 4, 176]
abbrev dktX1_nearness_3 : List UInt8 := dkwX1_nearness_3 ++ []
def dkwX1_nearness_2 : List UInt8 := [182, 0, 182, 58, 4, 25, 4, 180, 0, 186, 9, 148, 154, 0, 11, 187, 0, 191, 89, 183, 0, 193, 191]
abbrev dktX1_nearness_2 : List UInt8 := dkwX1_nearness_2 ++ dktX1_nearness_3
def dkwX1_nearness_1 : List UInt8 := [167, 0, 4, 3, 184, 0, 130, 29, 4, 16, 99, 184, 0, 175, 184, 0, 179, 42, 180, 0, 28, 27, 28]
abbrev dktX1_nearness_1 : List UInt8 := dkwX1_nearness_1 ++ dktX1_nearness_2
def dkwX1_nearness_0 : List UInt8 := [42, 180, 0, 28, 27, 182, 0, 126, 153, 0, 18, 42, 180, 0, 28, 28, 182, 0, 126, 153, 0, 7, 4]
abbrev dktX1_nearness_0 : List UInt8 := dkwX1_nearness_0 ++ dktX1_nearness_1
theorem dksX1_nearness_0 : cX1_nearness.data.toList.drop 0 = dktX1_nearness_0 := by decide +kernel
theorem dksX1_nearness_1 : cX1_nearness.data.toList.drop 23 = dktX1_nearness_1 := dk_seg dksX1_nearness_0 23 rfl rfl
theorem dksX1_nearness_2 : cX1_nearness.data.toList.drop 46 = dktX1_nearness_2 := dk_seg dksX1_nearness_1 23 rfl rfl
theorem dksX1_nearness_3 : cX1_nearness.data.toList.drop 69 = dktX1_nearness_3 := dk_seg dksX1_nearness_2 23 rfl rfl
theorem dX1_nearness_0 : decode cX1_nearness 0 = .ok (.aload_n 0, 1) := dk_42 (dk_at dksX1_nearness_0 0 rfl rfl)
theorem dX1_nearness_1 : decode cX1_nearness 1 = .ok (.getfield 28, 3) := dk_180 0 28 (dk_at dksX1_nearness_0 1 rfl rfl)
theorem dX1_nearness_4 : decode cX1_nearness 4 = .ok (.iload_n 1, 1) := dk_27 (dk_at dksX1_nearness_0 4 rfl rfl)
theorem dX1_nearness_5 : decode cX1_nearness 5 = .ok (.invokevirtual 126, 3) := dk_182 0 126 (dk_at dksX1_nearness_0 5 rfl rfl)
theorem dX1_nearness_8 : decode cX1_nearness 8 = .ok (.ifCond .eq 18, 3) := dk_153 0 18 (dk_at dksX1_nearness_0 8 rfl rfl)
theorem dX1_nearness_11 : decode cX1_nearness 11 = .ok (.aload_n 0, 1) := dk_42 (dk_at dksX1_nearness_0 11 rfl rfl)
theorem dX1_nearness_12 : decode cX1_nearness 12 = .ok (.getfield 28, 3) := dk_180 0 28 (dk_at dksX1_nearness_0 12 rfl rfl)
theorem dX1_nearness_15 : decode cX1_nearness 15 = .ok (.iload_n 2, 1) := dk_28 (dk_at dksX1_nearness_0 15 rfl rfl)
theorem dX1_nearness_16 : decode cX1_nearness 16 = .ok (.invokevirtual 126, 3) := dk_182 0 126 (dk_at dksX1_nearness_0 16 rfl rfl)
theorem dX1_nearness_19 : decode cX1_nearness 19 = .ok (.ifCond .eq 7, 3) := dk_153 0 7 (dk_at dksX1_nearness_0 19 rfl rfl)
theorem dX1_nearness_22 : decode cX1_nearness 22 = .ok (.iconst 1, 1) := dk_4 (dk_at dksX1_nearness_0 22 rfl rfl)
theorem dX1_nearness_23 : decode cX1_nearness 23 = .ok (.goto 4, 3) := dk_167 0 4 (dk_at dksX1_nearness_1 0 rfl rfl)
theorem dX1_nearness_26 : decode cX1_nearness 26 = .ok (.iconst 0, 1) := dk_3 (dk_at dksX1_nearness_1 3 rfl rfl)
theorem dX1_nearness_27 : decode cX1_nearness 27 = .ok (.invokestatic 130, 3) := dk_184 0 130 (dk_at dksX1_nearness_1 4 rfl rfl)
theorem dX1_nearness_30 : decode cX1_nearness 30 = .ok (.iload_n 3, 1) := dk_29 (dk_at dksX1_nearness_1 7 rfl rfl)
theorem dX1_nearness_31 : decode cX1_nearness 31 = .ok (.iconst 1, 1) := dk_4 (dk_at dksX1_nearness_1 8 rfl rfl)
theorem dX1_nearness_32 : decode cX1_nearness 32 = .ok (.bipush 99, 2) := dk_16 99 (dk_at dksX1_nearness_1 9 rfl rfl)
theorem dX1_nearness_34 : decode cX1_nearness 34 = .ok (.invokestatic 175, 3) := dk_184 0 175 (dk_at dksX1_nearness_1 11 rfl rfl)
theorem dX1_nearness_37 : decode cX1_nearness 37 = .ok (.invokestatic 179, 3) := dk_184 0 179 (dk_at dksX1_nearness_1 14 rfl rfl)
theorem dX1_nearness_40 : decode cX1_nearness 40 = .ok (.aload_n 0, 1) := dk_42 (dk_at dksX1_nearness_1 17 rfl rfl)
theorem dX1_nearness_41 : decode cX1_nearness 41 = .ok (.getfield 28, 3) := dk_180 0 28 (dk_at dksX1_nearness_1 18 rfl rfl)
theorem dX1_nearness_44 : decode cX1_nearness 44 = .ok (.iload_n 1, 1) := dk_27 (dk_at dksX1_nearness_1 21 rfl rfl)
theorem dX1_nearness_45 : decode cX1_nearness 45 = .ok (.iload_n 2, 1) := dk_28 (dk_at dksX1_nearness_1 22 rfl rfl)
theorem dX1_nearness_46 : decode cX1_nearness 46 = .ok (.invokevirtual 182, 3) := dk_182 0 182 (dk_at dksX1_nearness_2 0 rfl rfl)
theorem dX1_nearness_49 : decode cX1_nearness 49 = .ok (.astore 4, 2) := dk_58 4 (dk_at dksX1_nearness_2 3 rfl rfl)
theorem dX1_nearness_51 : decode cX1_nearness 51 = .ok (.aload 4, 2) := dk_25 4 (dk_at dksX1_nearness_2 5 rfl rfl)
theorem dX1_nearness_53 : decode cX1_nearness 53 = .ok (.getfield 186, 3) := dk_180 0 186 (dk_at dksX1_nearness_2 7 rfl rfl)
theorem dX1_nearness_56 : decode cX1_nearness 56 = .ok (.lconst 0, 1) := dk_9 (dk_at dksX1_nearness_2 10 rfl rfl)
theorem dX1_nearness_57 : decode cX1_nearness 57 = .ok (.lcmp, 1) := dk_148 (dk_at dksX1_nearness_2 11 rfl rfl)
theorem dX1_nearness_58 : decode cX1_nearness 58 = .ok (.ifCond .ne 11, 3) := dk_154 0 11 (dk_at dksX1_nearness_2 12 rfl rfl)
theorem dX1_nearness_61 : decode cX1_nearness 61 = .ok (.new 191, 3) := dk_187 0 191 (dk_at dksX1_nearness_2 15 rfl rfl)
theorem dX1_nearness_64 : decode cX1_nearness 64 = .ok (.dup, 1) := dk_89 (dk_at dksX1_nearness_2 18 rfl rfl)
theorem dX1_nearness_65 : decode cX1_nearness 65 = .ok (.invokespecial 193, 3) := dk_183 0 193 (dk_at dksX1_nearness_2 19 rfl rfl)
theorem dX1_nearness_68 : decode cX1_nearness 68 = .ok (.athrow, 1) := dk_191 (dk_at dksX1_nearness_2 22 rfl rfl)
theorem dX1_nearness_69 : decode cX1_nearness 69 = .ok (.aload 4, 2) := dk_25 4 (dk_at dksX1_nearness_3 0 rfl rfl)
theorem dX1_nearness_71 : decode cX1_nearness 71 = .ok (.areturn, 1) := dk_176 (dk_at dksX1_nearness_3 2 rfl rfl)
abbrev cX1_checkArgument : ByteArray := prog_1_method_23_code
def yX1_checkArgument : MethodName := ⟨RX1, "checkArgument", "(Z)V"⟩
def dkwX1_checkArgument_0 : List UInt8 := [26, 154, 0, 11, 187, 0, 113, 89, 183, 0, 115, 191, 177]
abbrev dktX1_checkArgument_0 : List UInt8 := dkwX1_checkArgument_0 ++ []
theorem dksX1_checkArgument_0 : cX1_checkArgument.data.toList.drop 0 = dktX1_checkArgument_0 := by decide +kernel
theorem dX1_checkArgument_0 : decode cX1_checkArgument 0 = .ok (.iload_n 0, 1) := dk_26 (dk_at dksX1_checkArgument_0 0 rfl rfl)
theorem dX1_checkArgument_1 : decode cX1_checkArgument 1 = .ok (.ifCond .ne 11, 3) := dk_154 0 11 (dk_at dksX1_checkArgument_0 1 rfl rfl)
theorem dX1_checkArgument_4 : decode cX1_checkArgument 4 = .ok (.new 113, 3) := dk_187 0 113 (dk_at dksX1_checkArgument_0 4 rfl rfl)
theorem dX1_checkArgument_7 : decode cX1_checkArgument 7 = .ok (.dup, 1) := dk_89 (dk_at dksX1_checkArgument_0 7 rfl rfl)
theorem dX1_checkArgument_8 : decode cX1_checkArgument 8 = .ok (.invokespecial 115, 3) := dk_183 0 115 (dk_at dksX1_checkArgument_0 8 rfl rfl)
theorem dX1_checkArgument_11 : decode cX1_checkArgument 11 = .ok (.athrow, 1) := dk_191 (dk_at dksX1_checkArgument_0 11 rfl rfl)
theorem dX1_checkArgument_12 : decode cX1_checkArgument 12 = .ok (.return_, 1) := dk_177 (dk_at dksX1_checkArgument_0 12 rfl rfl)
abbrev cX1_nearestDenominator : ByteArray := prog_1_method_36_code
def yX1_nearestDenominator : MethodName := ⟨RX1, "nearestDenominator", "(III)I"⟩
def dkwX1_nearestDenominator_0 : List UInt8 := [42, 27, 28, 29, 182, 0, 194, 29, 3, 182, 0, 197, 136, 172]
abbrev dktX1_nearestDenominator_0 : List UInt8 := dkwX1_nearestDenominator_0 ++ []
theorem dksX1_nearestDenominator_0 : cX1_nearestDenominator.data.toList.drop 0 = dktX1_nearestDenominator_0 := by decide +kernel
theorem dX1_nearestDenominator_0 : decode cX1_nearestDenominator 0 = .ok (.aload_n 0, 1) := dk_42 (dk_at dksX1_nearestDenominator_0 0 rfl rfl)
theorem dX1_nearestDenominator_1 : decode cX1_nearestDenominator 1 = .ok (.iload_n 1, 1) := dk_27 (dk_at dksX1_nearestDenominator_0 1 rfl rfl)
theorem dX1_nearestDenominator_2 : decode cX1_nearestDenominator 2 = .ok (.iload_n 2, 1) := dk_28 (dk_at dksX1_nearestDenominator_0 2 rfl rfl)
theorem dX1_nearestDenominator_3 : decode cX1_nearestDenominator 3 = .ok (.iload_n 3, 1) := dk_29 (dk_at dksX1_nearestDenominator_0 3 rfl rfl)
theorem dX1_nearestDenominator_4 : decode cX1_nearestDenominator 4 = .ok (.invokevirtual 194, 3) := dk_182 0 194 (dk_at dksX1_nearestDenominator_0 4 rfl rfl)
theorem dX1_nearestDenominator_7 : decode cX1_nearestDenominator 7 = .ok (.iload_n 3, 1) := dk_29 (dk_at dksX1_nearestDenominator_0 7 rfl rfl)
theorem dX1_nearestDenominator_8 : decode cX1_nearestDenominator 8 = .ok (.iconst 0, 1) := dk_3 (dk_at dksX1_nearestDenominator_0 8 rfl rfl)
theorem dX1_nearestDenominator_9 : decode cX1_nearestDenominator 9 = .ok (.invokevirtual 197, 3) := dk_182 0 197 (dk_at dksX1_nearestDenominator_0 9 rfl rfl)
theorem dX1_nearestDenominator_12 : decode cX1_nearestDenominator 12 = .ok (.l2i, 1) := dk_136 (dk_at dksX1_nearestDenominator_0 12 rfl rfl)
theorem dX1_nearestDenominator_13 : decode cX1_nearestDenominator 13 = .ok (.ireturn, 1) := dk_172 (dk_at dksX1_nearestDenominator_0 13 rfl rfl)
abbrev cX1_denominatorByTrying : ByteArray := prog_1_method_37_code
def yX1_denominatorByTrying : MethodName := ⟨RX1, "denominatorByTrying", "(III)I"⟩
def dkwX1_denominatorByTrying_0 : List UInt8 := [42, 27, 28, 29, 182, 0, 194, 29, 182, 0, 201, 172]
abbrev dktX1_denominatorByTrying_0 : List UInt8 := dkwX1_denominatorByTrying_0 ++ []
theorem dksX1_denominatorByTrying_0 : cX1_denominatorByTrying.data.toList.drop 0 = dktX1_denominatorByTrying_0 := by decide +kernel
theorem dX1_denominatorByTrying_0 : decode cX1_denominatorByTrying 0 = .ok (.aload_n 0, 1) := dk_42 (dk_at dksX1_denominatorByTrying_0 0 rfl rfl)
theorem dX1_denominatorByTrying_1 : decode cX1_denominatorByTrying 1 = .ok (.iload_n 1, 1) := dk_27 (dk_at dksX1_denominatorByTrying_0 1 rfl rfl)
theorem dX1_denominatorByTrying_2 : decode cX1_denominatorByTrying 2 = .ok (.iload_n 2, 1) := dk_28 (dk_at dksX1_denominatorByTrying_0 2 rfl rfl)
theorem dX1_denominatorByTrying_3 : decode cX1_denominatorByTrying 3 = .ok (.iload_n 3, 1) := dk_29 (dk_at dksX1_denominatorByTrying_0 3 rfl rfl)
theorem dX1_denominatorByTrying_4 : decode cX1_denominatorByTrying 4 = .ok (.invokevirtual 194, 3) := dk_182 0 194 (dk_at dksX1_denominatorByTrying_0 4 rfl rfl)
theorem dX1_denominatorByTrying_7 : decode cX1_denominatorByTrying 7 = .ok (.iload_n 3, 1) := dk_29 (dk_at dksX1_denominatorByTrying_0 7 rfl rfl)
theorem dX1_denominatorByTrying_8 : decode cX1_denominatorByTrying 8 = .ok (.invokevirtual 201, 3) := dk_182 0 201 (dk_at dksX1_denominatorByTrying_0 8 rfl rfl)
theorem dX1_denominatorByTrying_11 : decode cX1_denominatorByTrying 11 = .ok (.ireturn, 1) := dk_172 (dk_at dksX1_denominatorByTrying_0 11 rfl rfl)
abbrev cX1_capacityOf : ByteArray := prog_1_method_40_code
def yX1_capacityOf : MethodName := ⟨RX1, "capacityOf", "(I)I"⟩
def dkwX1_capacityOf_0 : List UInt8 := [42, 27, 182, 0, 219, 180, 0, 223, 172]
abbrev dktX1_capacityOf_0 : List UInt8 := dkwX1_capacityOf_0 ++ []
theorem dksX1_capacityOf_0 : cX1_capacityOf.data.toList.drop 0 = dktX1_capacityOf_0 := by decide +kernel
theorem dX1_capacityOf_0 : decode cX1_capacityOf 0 = .ok (.aload_n 0, 1) := dk_42 (dk_at dksX1_capacityOf_0 0 rfl rfl)
theorem dX1_capacityOf_1 : decode cX1_capacityOf 1 = .ok (.iload_n 1, 1) := dk_27 (dk_at dksX1_capacityOf_0 1 rfl rfl)
theorem dX1_capacityOf_2 : decode cX1_capacityOf 2 = .ok (.invokevirtual 219, 3) := dk_182 0 219 (dk_at dksX1_capacityOf_0 2 rfl rfl)
theorem dX1_capacityOf_5 : decode cX1_capacityOf 5 = .ok (.getfield 223, 3) := dk_180 0 223 (dk_at dksX1_capacityOf_0 5 rfl rfl)
theorem dX1_capacityOf_8 : decode cX1_capacityOf 8 = .ok (.ireturn, 1) := dk_172 (dk_at dksX1_capacityOf_0 8 rfl rfl)
abbrev cX1_bowlWith : ByteArray := prog_1_method_38_code
def yX1_bowlWith : MethodName := ⟨RX1, "bowlWith", "(I)LDoughLedger$Bowl;"⟩
def dkwX1_bowlWith_1 : List UInt8 := [192, 0, 216, 176]
abbrev dktX1_bowlWith_1 : List UInt8 := dkwX1_bowlWith_1 ++ []
def dkwX1_bowlWith_0 : List UInt8 := [42, 180, 0, 28, 27, 182, 0, 204, 184, 0, 130, 42, 180, 0, 28, 180, 0, 207, 27, 185, 0, 211, 2, 0]
abbrev dktX1_bowlWith_0 : List UInt8 := dkwX1_bowlWith_0 ++ dktX1_bowlWith_1
theorem dksX1_bowlWith_0 : cX1_bowlWith.data.toList.drop 0 = dktX1_bowlWith_0 := by decide +kernel
theorem dksX1_bowlWith_1 : cX1_bowlWith.data.toList.drop 24 = dktX1_bowlWith_1 := dk_seg dksX1_bowlWith_0 24 rfl rfl
theorem dX1_bowlWith_0 : decode cX1_bowlWith 0 = .ok (.aload_n 0, 1) := dk_42 (dk_at dksX1_bowlWith_0 0 rfl rfl)
theorem dX1_bowlWith_1 : decode cX1_bowlWith 1 = .ok (.getfield 28, 3) := dk_180 0 28 (dk_at dksX1_bowlWith_0 1 rfl rfl)
theorem dX1_bowlWith_4 : decode cX1_bowlWith 4 = .ok (.iload_n 1, 1) := dk_27 (dk_at dksX1_bowlWith_0 4 rfl rfl)
theorem dX1_bowlWith_5 : decode cX1_bowlWith 5 = .ok (.invokevirtual 204, 3) := dk_182 0 204 (dk_at dksX1_bowlWith_0 5 rfl rfl)
theorem dX1_bowlWith_8 : decode cX1_bowlWith 8 = .ok (.invokestatic 130, 3) := dk_184 0 130 (dk_at dksX1_bowlWith_0 8 rfl rfl)
theorem dX1_bowlWith_11 : decode cX1_bowlWith 11 = .ok (.aload_n 0, 1) := dk_42 (dk_at dksX1_bowlWith_0 11 rfl rfl)
theorem dX1_bowlWith_12 : decode cX1_bowlWith 12 = .ok (.getfield 28, 3) := dk_180 0 28 (dk_at dksX1_bowlWith_0 12 rfl rfl)
theorem dX1_bowlWith_15 : decode cX1_bowlWith 15 = .ok (.getfield 207, 3) := dk_180 0 207 (dk_at dksX1_bowlWith_0 15 rfl rfl)
theorem dX1_bowlWith_18 : decode cX1_bowlWith 18 = .ok (.iload_n 1, 1) := dk_27 (dk_at dksX1_bowlWith_0 18 rfl rfl)
theorem dX1_bowlWith_19 : decode cX1_bowlWith 19 = .ok (.invokeinterface 211 2, 5) := by decide +kernel
theorem dX1_bowlWith_24 : decode cX1_bowlWith 24 = .ok (.checkcast 216, 3) := dk_192 0 216 (dk_at dksX1_bowlWith_1 0 rfl rfl)
theorem dX1_bowlWith_27 : decode cX1_bowlWith 27 = .ok (.areturn, 1) := dk_176 (dk_at dksX1_bowlWith_1 3 rfl rfl)
abbrev cX1_contentOf : ByteArray := prog_1_method_41_code
def yX1_contentOf : MethodName := ⟨RX1, "contentOf", "(I)I"⟩
def dkwX1_contentOf_0 : List UInt8 := [42, 27, 182, 0, 219, 180, 0, 226, 172]
abbrev dktX1_contentOf_0 : List UInt8 := dkwX1_contentOf_0 ++ []
theorem dksX1_contentOf_0 : cX1_contentOf.data.toList.drop 0 = dktX1_contentOf_0 := by decide +kernel
theorem dX1_contentOf_0 : decode cX1_contentOf 0 = .ok (.aload_n 0, 1) := dk_42 (dk_at dksX1_contentOf_0 0 rfl rfl)
theorem dX1_contentOf_1 : decode cX1_contentOf 1 = .ok (.iload_n 1, 1) := dk_27 (dk_at dksX1_contentOf_0 1 rfl rfl)
theorem dX1_contentOf_2 : decode cX1_contentOf 2 = .ok (.invokevirtual 219, 3) := dk_182 0 219 (dk_at dksX1_contentOf_0 2 rfl rfl)
theorem dX1_contentOf_5 : decode cX1_contentOf 5 = .ok (.getfield 226, 3) := dk_180 0 226 (dk_at dksX1_contentOf_0 5 rfl rfl)
theorem dX1_contentOf_8 : decode cX1_contentOf 8 = .ok (.ireturn, 1) := dk_172 (dk_at dksX1_contentOf_0 8 rfl rfl)
abbrev cX1_roomFrom : ByteArray := prog_1_method_42_code
def yX1_roomFrom : MethodName := ⟨RX1, "roomFrom", "(I)I"⟩
def dkwX1_roomFrom_0 : List UInt8 := [42, 180, 0, 28, 27, 182, 0, 204, 184, 0, 130, 42, 180, 0, 28, 27, 182, 0, 229, 172]
abbrev dktX1_roomFrom_0 : List UInt8 := dkwX1_roomFrom_0 ++ []
theorem dksX1_roomFrom_0 : cX1_roomFrom.data.toList.drop 0 = dktX1_roomFrom_0 := by decide +kernel
theorem dX1_roomFrom_0 : decode cX1_roomFrom 0 = .ok (.aload_n 0, 1) := dk_42 (dk_at dksX1_roomFrom_0 0 rfl rfl)
theorem dX1_roomFrom_1 : decode cX1_roomFrom 1 = .ok (.getfield 28, 3) := dk_180 0 28 (dk_at dksX1_roomFrom_0 1 rfl rfl)
theorem dX1_roomFrom_4 : decode cX1_roomFrom 4 = .ok (.iload_n 1, 1) := dk_27 (dk_at dksX1_roomFrom_0 4 rfl rfl)
theorem dX1_roomFrom_5 : decode cX1_roomFrom 5 = .ok (.invokevirtual 204, 3) := dk_182 0 204 (dk_at dksX1_roomFrom_0 5 rfl rfl)
theorem dX1_roomFrom_8 : decode cX1_roomFrom 8 = .ok (.invokestatic 130, 3) := dk_184 0 130 (dk_at dksX1_roomFrom_0 8 rfl rfl)
theorem dX1_roomFrom_11 : decode cX1_roomFrom 11 = .ok (.aload_n 0, 1) := dk_42 (dk_at dksX1_roomFrom_0 11 rfl rfl)
theorem dX1_roomFrom_12 : decode cX1_roomFrom 12 = .ok (.getfield 28, 3) := dk_180 0 28 (dk_at dksX1_roomFrom_0 12 rfl rfl)
theorem dX1_roomFrom_15 : decode cX1_roomFrom 15 = .ok (.iload_n 1, 1) := dk_27 (dk_at dksX1_roomFrom_0 15 rfl rfl)
theorem dX1_roomFrom_16 : decode cX1_roomFrom 16 = .ok (.invokevirtual 229, 3) := dk_182 0 229 (dk_at dksX1_roomFrom_0 16 rfl rfl)
theorem dX1_roomFrom_19 : decode cX1_roomFrom 19 = .ok (.ireturn, 1) := dk_172 (dk_at dksX1_roomFrom_0 19 rfl rfl)
abbrev cX1_fullestBowl : ByteArray := prog_1_method_43_code
def yX1_fullestBowl : MethodName := ⟨RX1, "fullestBowl", "()I"⟩
def dkwX1_fullestBowl_0 : List UInt8 := [42, 180, 0, 28, 182, 0, 232, 184, 0, 172, 172]
abbrev dktX1_fullestBowl_0 : List UInt8 := dkwX1_fullestBowl_0 ++ []
theorem dksX1_fullestBowl_0 : cX1_fullestBowl.data.toList.drop 0 = dktX1_fullestBowl_0 := by decide +kernel
theorem dX1_fullestBowl_0 : decode cX1_fullestBowl 0 = .ok (.aload_n 0, 1) := dk_42 (dk_at dksX1_fullestBowl_0 0 rfl rfl)
theorem dX1_fullestBowl_1 : decode cX1_fullestBowl 1 = .ok (.getfield 28, 3) := dk_180 0 28 (dk_at dksX1_fullestBowl_0 1 rfl rfl)
theorem dX1_fullestBowl_4 : decode cX1_fullestBowl 4 = .ok (.invokevirtual 232, 3) := dk_182 0 232 (dk_at dksX1_fullestBowl_0 4 rfl rfl)
theorem dX1_fullestBowl_7 : decode cX1_fullestBowl 7 = .ok (.invokestatic 172, 3) := dk_184 0 172 (dk_at dksX1_fullestBowl_0 7 rfl rfl)
theorem dX1_fullestBowl_10 : decode cX1_fullestBowl 10 = .ok (.ireturn, 1) := dk_172 (dk_at dksX1_fullestBowl_0 10 rfl rfl)
abbrev cX1_weightOf : ByteArray := prog_1_method_46_code
def yX1_weightOf : MethodName := ⟨RX1, "weightOf", "(I)I"⟩
def dkwX1_weightOf_0 : List UInt8 := [42, 27, 182, 0, 243, 180, 0, 247, 172]
abbrev dktX1_weightOf_0 : List UInt8 := dkwX1_weightOf_0 ++ []
theorem dksX1_weightOf_0 : cX1_weightOf.data.toList.drop 0 = dktX1_weightOf_0 := by decide +kernel
theorem dX1_weightOf_0 : decode cX1_weightOf 0 = .ok (.aload_n 0, 1) := dk_42 (dk_at dksX1_weightOf_0 0 rfl rfl)
theorem dX1_weightOf_1 : decode cX1_weightOf 1 = .ok (.iload_n 1, 1) := dk_27 (dk_at dksX1_weightOf_0 1 rfl rfl)
theorem dX1_weightOf_2 : decode cX1_weightOf 2 = .ok (.invokevirtual 243, 3) := dk_182 0 243 (dk_at dksX1_weightOf_0 2 rfl rfl)
theorem dX1_weightOf_5 : decode cX1_weightOf 5 = .ok (.getfield 247, 3) := dk_180 0 247 (dk_at dksX1_weightOf_0 5 rfl rfl)
theorem dX1_weightOf_8 : decode cX1_weightOf 8 = .ok (.ireturn, 1) := dk_172 (dk_at dksX1_weightOf_0 8 rfl rfl)
abbrev cX1_loafWith : ByteArray := prog_1_method_44_code
def yX1_loafWith : MethodName := ⟨RX1, "loafWith", "(I)LDoughLedger$Loaf;"⟩
def dkwX1_loafWith_1 : List UInt8 := [192, 0, 241, 176]
abbrev dktX1_loafWith_1 : List UInt8 := dkwX1_loafWith_1 ++ []
def dkwX1_loafWith_0 : List UInt8 := [42, 180, 0, 28, 27, 182, 0, 235, 184, 0, 130, 42, 180, 0, 28, 180, 0, 238, 27, 185, 0, 211, 2, 0]
abbrev dktX1_loafWith_0 : List UInt8 := dkwX1_loafWith_0 ++ dktX1_loafWith_1
theorem dksX1_loafWith_0 : cX1_loafWith.data.toList.drop 0 = dktX1_loafWith_0 := by decide +kernel
theorem dksX1_loafWith_1 : cX1_loafWith.data.toList.drop 24 = dktX1_loafWith_1 := dk_seg dksX1_loafWith_0 24 rfl rfl
theorem dX1_loafWith_0 : decode cX1_loafWith 0 = .ok (.aload_n 0, 1) := dk_42 (dk_at dksX1_loafWith_0 0 rfl rfl)
theorem dX1_loafWith_1 : decode cX1_loafWith 1 = .ok (.getfield 28, 3) := dk_180 0 28 (dk_at dksX1_loafWith_0 1 rfl rfl)
theorem dX1_loafWith_4 : decode cX1_loafWith 4 = .ok (.iload_n 1, 1) := dk_27 (dk_at dksX1_loafWith_0 4 rfl rfl)
theorem dX1_loafWith_5 : decode cX1_loafWith 5 = .ok (.invokevirtual 235, 3) := dk_182 0 235 (dk_at dksX1_loafWith_0 5 rfl rfl)
theorem dX1_loafWith_8 : decode cX1_loafWith 8 = .ok (.invokestatic 130, 3) := dk_184 0 130 (dk_at dksX1_loafWith_0 8 rfl rfl)
theorem dX1_loafWith_11 : decode cX1_loafWith 11 = .ok (.aload_n 0, 1) := dk_42 (dk_at dksX1_loafWith_0 11 rfl rfl)
theorem dX1_loafWith_12 : decode cX1_loafWith 12 = .ok (.getfield 28, 3) := dk_180 0 28 (dk_at dksX1_loafWith_0 12 rfl rfl)
theorem dX1_loafWith_15 : decode cX1_loafWith 15 = .ok (.getfield 238, 3) := dk_180 0 238 (dk_at dksX1_loafWith_0 15 rfl rfl)
theorem dX1_loafWith_18 : decode cX1_loafWith 18 = .ok (.iload_n 1, 1) := dk_27 (dk_at dksX1_loafWith_0 18 rfl rfl)
theorem dX1_loafWith_19 : decode cX1_loafWith 19 = .ok (.invokeinterface 211 2, 5) := by decide +kernel
theorem dX1_loafWith_24 : decode cX1_loafWith 24 = .ok (.checkcast 241, 3) := dk_192 0 241 (dk_at dksX1_loafWith_1 0 rfl rfl)
theorem dX1_loafWith_27 : decode cX1_loafWith 27 = .ok (.areturn, 1) := dk_176 (dk_at dksX1_loafWith_1 3 rfl rfl)
abbrev cX1_minutesOf : ByteArray := prog_1_method_47_code
def yX1_minutesOf : MethodName := ⟨RX1, "minutesOf", "(I)I"⟩
def dkwX1_minutesOf_0 : List UInt8 := [42, 27, 182, 0, 243, 180, 0, 250, 172]
abbrev dktX1_minutesOf_0 : List UInt8 := dkwX1_minutesOf_0 ++ []
theorem dksX1_minutesOf_0 : cX1_minutesOf.data.toList.drop 0 = dktX1_minutesOf_0 := by decide +kernel
theorem dX1_minutesOf_0 : decode cX1_minutesOf 0 = .ok (.aload_n 0, 1) := dk_42 (dk_at dksX1_minutesOf_0 0 rfl rfl)
theorem dX1_minutesOf_1 : decode cX1_minutesOf 1 = .ok (.iload_n 1, 1) := dk_27 (dk_at dksX1_minutesOf_0 1 rfl rfl)
theorem dX1_minutesOf_2 : decode cX1_minutesOf 2 = .ok (.invokevirtual 243, 3) := dk_182 0 243 (dk_at dksX1_minutesOf_0 2 rfl rfl)
theorem dX1_minutesOf_5 : decode cX1_minutesOf 5 = .ok (.getfield 250, 3) := dk_180 0 250 (dk_at dksX1_minutesOf_0 5 rfl rfl)
theorem dX1_minutesOf_8 : decode cX1_minutesOf 8 = .ok (.ireturn, 1) := dk_172 (dk_at dksX1_minutesOf_0 8 rfl rfl)
abbrev cX1_crumbsOf : ByteArray := prog_1_method_48_code
def yX1_crumbsOf : MethodName := ⟨RX1, "crumbsOf", "(I)I"⟩
def dkwX1_crumbsOf_0 : List UInt8 := [42, 27, 182, 0, 243, 180, 0, 253, 172]
abbrev dktX1_crumbsOf_0 : List UInt8 := dkwX1_crumbsOf_0 ++ []
theorem dksX1_crumbsOf_0 : cX1_crumbsOf.data.toList.drop 0 = dktX1_crumbsOf_0 := by decide +kernel
theorem dX1_crumbsOf_0 : decode cX1_crumbsOf 0 = .ok (.aload_n 0, 1) := dk_42 (dk_at dksX1_crumbsOf_0 0 rfl rfl)
theorem dX1_crumbsOf_1 : decode cX1_crumbsOf 1 = .ok (.iload_n 1, 1) := dk_27 (dk_at dksX1_crumbsOf_0 1 rfl rfl)
theorem dX1_crumbsOf_2 : decode cX1_crumbsOf 2 = .ok (.invokevirtual 243, 3) := dk_182 0 243 (dk_at dksX1_crumbsOf_0 2 rfl rfl)
theorem dX1_crumbsOf_5 : decode cX1_crumbsOf 5 = .ok (.getfield 253, 3) := dk_180 0 253 (dk_at dksX1_crumbsOf_0 5 rfl rfl)
theorem dX1_crumbsOf_8 : decode cX1_crumbsOf 8 = .ok (.ireturn, 1) := dk_172 (dk_at dksX1_crumbsOf_0 8 rfl rfl)
abbrev cX1_share : ByteArray := prog_1_method_50_code
def yX1_share : MethodName := ⟨RX1, "share", "(II)I"⟩
def dkwX1_share_0 : List UInt8 := [42, 27, 28, 182, 1, 4, 182, 1, 7, 28, 46, 172]
abbrev dktX1_share_0 : List UInt8 := dkwX1_share_0 ++ []
theorem dksX1_share_0 : cX1_share.data.toList.drop 0 = dktX1_share_0 := by decide +kernel
theorem dX1_share_0 : decode cX1_share 0 = .ok (.aload_n 0, 1) := dk_42 (dk_at dksX1_share_0 0 rfl rfl)
theorem dX1_share_1 : decode cX1_share 1 = .ok (.iload_n 1, 1) := dk_27 (dk_at dksX1_share_0 1 rfl rfl)
theorem dX1_share_2 : decode cX1_share 2 = .ok (.iload_n 2, 1) := dk_28 (dk_at dksX1_share_0 2 rfl rfl)
theorem dX1_share_3 : decode cX1_share 3 = .ok (.invokevirtual 260, 3) := dk_182 1 4 (dk_at dksX1_share_0 3 rfl rfl)
theorem dX1_share_6 : decode cX1_share 6 = .ok (.invokevirtual 263, 3) := dk_182 1 7 (dk_at dksX1_share_0 6 rfl rfl)
theorem dX1_share_9 : decode cX1_share 9 = .ok (.iload_n 2, 1) := dk_28 (dk_at dksX1_share_0 9 rfl rfl)
theorem dX1_share_10 : decode cX1_share 10 = .ok (.iaload, 1) := dk_46 (dk_at dksX1_share_0 10 rfl rfl)
theorem dX1_share_11 : decode cX1_share 11 = .ok (.ireturn, 1) := dk_172 (dk_at dksX1_share_0 11 rfl rfl)
abbrev cX1_sharing : ByteArray := prog_1_method_49_code
def yX1_sharing : MethodName := ⟨RX1, "sharing", "(II)LDoughLedger$Sharing;"⟩
def dkwX1_sharing_1 : List UInt8 := [167, 0, 4, 3, 184, 0, 130, 42, 180, 0, 28, 27, 182, 1, 0, 176]
abbrev dktX1_sharing_1 : List UInt8 := dkwX1_sharing_1 ++ []
def dkwX1_sharing_0 : List UInt8 := [42, 180, 0, 28, 27, 182, 0, 204, 153, 0, 18, 42, 180, 0, 28, 28, 182, 0, 235, 153, 0, 7, 4]
abbrev dktX1_sharing_0 : List UInt8 := dkwX1_sharing_0 ++ dktX1_sharing_1
theorem dksX1_sharing_0 : cX1_sharing.data.toList.drop 0 = dktX1_sharing_0 := by decide +kernel
theorem dksX1_sharing_1 : cX1_sharing.data.toList.drop 23 = dktX1_sharing_1 := dk_seg dksX1_sharing_0 23 rfl rfl
theorem dX1_sharing_0 : decode cX1_sharing 0 = .ok (.aload_n 0, 1) := dk_42 (dk_at dksX1_sharing_0 0 rfl rfl)
theorem dX1_sharing_1 : decode cX1_sharing 1 = .ok (.getfield 28, 3) := dk_180 0 28 (dk_at dksX1_sharing_0 1 rfl rfl)
theorem dX1_sharing_4 : decode cX1_sharing 4 = .ok (.iload_n 1, 1) := dk_27 (dk_at dksX1_sharing_0 4 rfl rfl)
theorem dX1_sharing_5 : decode cX1_sharing 5 = .ok (.invokevirtual 204, 3) := dk_182 0 204 (dk_at dksX1_sharing_0 5 rfl rfl)
theorem dX1_sharing_8 : decode cX1_sharing 8 = .ok (.ifCond .eq 18, 3) := dk_153 0 18 (dk_at dksX1_sharing_0 8 rfl rfl)
theorem dX1_sharing_11 : decode cX1_sharing 11 = .ok (.aload_n 0, 1) := dk_42 (dk_at dksX1_sharing_0 11 rfl rfl)
theorem dX1_sharing_12 : decode cX1_sharing 12 = .ok (.getfield 28, 3) := dk_180 0 28 (dk_at dksX1_sharing_0 12 rfl rfl)
theorem dX1_sharing_15 : decode cX1_sharing 15 = .ok (.iload_n 2, 1) := dk_28 (dk_at dksX1_sharing_0 15 rfl rfl)
theorem dX1_sharing_16 : decode cX1_sharing 16 = .ok (.invokevirtual 235, 3) := dk_182 0 235 (dk_at dksX1_sharing_0 16 rfl rfl)
theorem dX1_sharing_19 : decode cX1_sharing 19 = .ok (.ifCond .eq 7, 3) := dk_153 0 7 (dk_at dksX1_sharing_0 19 rfl rfl)
theorem dX1_sharing_22 : decode cX1_sharing 22 = .ok (.iconst 1, 1) := dk_4 (dk_at dksX1_sharing_0 22 rfl rfl)
theorem dX1_sharing_23 : decode cX1_sharing 23 = .ok (.goto 4, 3) := dk_167 0 4 (dk_at dksX1_sharing_1 0 rfl rfl)
theorem dX1_sharing_26 : decode cX1_sharing 26 = .ok (.iconst 0, 1) := dk_3 (dk_at dksX1_sharing_1 3 rfl rfl)
theorem dX1_sharing_27 : decode cX1_sharing 27 = .ok (.invokestatic 130, 3) := dk_184 0 130 (dk_at dksX1_sharing_1 4 rfl rfl)
theorem dX1_sharing_30 : decode cX1_sharing 30 = .ok (.aload_n 0, 1) := dk_42 (dk_at dksX1_sharing_1 7 rfl rfl)
theorem dX1_sharing_31 : decode cX1_sharing 31 = .ok (.getfield 28, 3) := dk_180 0 28 (dk_at dksX1_sharing_1 8 rfl rfl)
theorem dX1_sharing_34 : decode cX1_sharing 34 = .ok (.iload_n 1, 1) := dk_27 (dk_at dksX1_sharing_1 11 rfl rfl)
theorem dX1_sharing_35 : decode cX1_sharing 35 = .ok (.invokevirtual 256, 3) := dk_182 1 0 (dk_at dksX1_sharing_1 12 rfl rfl)
theorem dX1_sharing_38 : decode cX1_sharing 38 = .ok (.areturn, 1) := dk_176 (dk_at dksX1_sharing_1 15 rfl rfl)
abbrev cX1_shareByRanks : ByteArray := prog_1_method_51_code
def yX1_shareByRanks : MethodName := ⟨RX1, "shareByRanks", "(II)I"⟩
def dkwX1_shareByRanks_0 : List UInt8 := [42, 27, 28, 182, 1, 4, 28, 182, 1, 13, 172]
abbrev dktX1_shareByRanks_0 : List UInt8 := dkwX1_shareByRanks_0 ++ []
theorem dksX1_shareByRanks_0 : cX1_shareByRanks.data.toList.drop 0 = dktX1_shareByRanks_0 := by decide +kernel
theorem dX1_shareByRanks_0 : decode cX1_shareByRanks 0 = .ok (.aload_n 0, 1) := dk_42 (dk_at dksX1_shareByRanks_0 0 rfl rfl)
theorem dX1_shareByRanks_1 : decode cX1_shareByRanks 1 = .ok (.iload_n 1, 1) := dk_27 (dk_at dksX1_shareByRanks_0 1 rfl rfl)
theorem dX1_shareByRanks_2 : decode cX1_shareByRanks 2 = .ok (.iload_n 2, 1) := dk_28 (dk_at dksX1_shareByRanks_0 2 rfl rfl)
theorem dX1_shareByRanks_3 : decode cX1_shareByRanks 3 = .ok (.invokevirtual 260, 3) := dk_182 1 4 (dk_at dksX1_shareByRanks_0 3 rfl rfl)
theorem dX1_shareByRanks_6 : decode cX1_shareByRanks 6 = .ok (.iload_n 2, 1) := dk_28 (dk_at dksX1_shareByRanks_0 6 rfl rfl)
theorem dX1_shareByRanks_7 : decode cX1_shareByRanks 7 = .ok (.invokevirtual 269, 3) := dk_182 1 13 (dk_at dksX1_shareByRanks_0 7 rfl rfl)
theorem dX1_shareByRanks_10 : decode cX1_shareByRanks 10 = .ok (.ireturn, 1) := dk_172 (dk_at dksX1_shareByRanks_0 10 rfl rfl)
abbrev cX1_loafByCrumbs : ByteArray := prog_1_method_52_code
def yX1_loafByCrumbs : MethodName := ⟨RX1, "loafByCrumbs", "(I)I"⟩
def dkwX1_loafByCrumbs_0 : List UInt8 := [42, 180, 0, 28, 27, 182, 1, 16, 184, 0, 172, 172]
abbrev dktX1_loafByCrumbs_0 : List UInt8 := dkwX1_loafByCrumbs_0 ++ []
theorem dksX1_loafByCrumbs_0 : cX1_loafByCrumbs.data.toList.drop 0 = dktX1_loafByCrumbs_0 := by decide +kernel
theorem dX1_loafByCrumbs_0 : decode cX1_loafByCrumbs 0 = .ok (.aload_n 0, 1) := dk_42 (dk_at dksX1_loafByCrumbs_0 0 rfl rfl)
theorem dX1_loafByCrumbs_1 : decode cX1_loafByCrumbs 1 = .ok (.getfield 28, 3) := dk_180 0 28 (dk_at dksX1_loafByCrumbs_0 1 rfl rfl)
theorem dX1_loafByCrumbs_4 : decode cX1_loafByCrumbs 4 = .ok (.iload_n 1, 1) := dk_27 (dk_at dksX1_loafByCrumbs_0 4 rfl rfl)
theorem dX1_loafByCrumbs_5 : decode cX1_loafByCrumbs 5 = .ok (.invokevirtual 272, 3) := dk_182 1 16 (dk_at dksX1_loafByCrumbs_0 5 rfl rfl)
theorem dX1_loafByCrumbs_8 : decode cX1_loafByCrumbs 8 = .ok (.invokestatic 172, 3) := dk_184 0 172 (dk_at dksX1_loafByCrumbs_0 8 rfl rfl)
theorem dX1_loafByCrumbs_11 : decode cX1_loafByCrumbs 11 = .ok (.ireturn, 1) := dk_172 (dk_at dksX1_loafByCrumbs_0 11 rfl rfl)
abbrev cX1_meanCrumbs : ByteArray := prog_1_method_65_code
def yX1_meanCrumbs : MethodName := ⟨RX1, "meanCrumbs", "()D"⟩
def dkwX1_meanCrumbs_2 : List UInt8 := [78, 27, 45, 180, 0, 253, 96, 60, 167, 255, 230, 27, 135, 42, 182, 1, 63, 135, 111, 175]
abbrev dktX1_meanCrumbs_2 : List UInt8 := dkwX1_meanCrumbs_2 ++ []
def dkwX1_meanCrumbs_1 : List UInt8 := [185, 1, 69, 1, 0, 77, 44, 185, 1, 73, 1, 0, 153, 0, 23, 44, 185, 1, 79, 1, 0, 192, 0, 241]
abbrev dktX1_meanCrumbs_1 : List UInt8 := dkwX1_meanCrumbs_1 ++ dktX1_meanCrumbs_2
def dkwX1_meanCrumbs_0 : List UInt8 := [42, 182, 1, 63, 158, 0, 7, 4, 167, 0, 4, 3, 184, 1, 66, 3, 60, 42, 180, 0, 28, 180, 0, 238]
abbrev dktX1_meanCrumbs_0 : List UInt8 := dkwX1_meanCrumbs_0 ++ dktX1_meanCrumbs_1
theorem dksX1_meanCrumbs_0 : cX1_meanCrumbs.data.toList.drop 0 = dktX1_meanCrumbs_0 := by decide +kernel
theorem dksX1_meanCrumbs_1 : cX1_meanCrumbs.data.toList.drop 24 = dktX1_meanCrumbs_1 := dk_seg dksX1_meanCrumbs_0 24 rfl rfl
theorem dksX1_meanCrumbs_2 : cX1_meanCrumbs.data.toList.drop 48 = dktX1_meanCrumbs_2 := dk_seg dksX1_meanCrumbs_1 24 rfl rfl
theorem dX1_meanCrumbs_0 : decode cX1_meanCrumbs 0 = .ok (.aload_n 0, 1) := dk_42 (dk_at dksX1_meanCrumbs_0 0 rfl rfl)
theorem dX1_meanCrumbs_1 : decode cX1_meanCrumbs 1 = .ok (.invokevirtual 319, 3) := dk_182 1 63 (dk_at dksX1_meanCrumbs_0 1 rfl rfl)
theorem dX1_meanCrumbs_4 : decode cX1_meanCrumbs 4 = .ok (.ifCond .le 7, 3) := dk_158 0 7 (dk_at dksX1_meanCrumbs_0 4 rfl rfl)
theorem dX1_meanCrumbs_7 : decode cX1_meanCrumbs 7 = .ok (.iconst 1, 1) := dk_4 (dk_at dksX1_meanCrumbs_0 7 rfl rfl)
theorem dX1_meanCrumbs_8 : decode cX1_meanCrumbs 8 = .ok (.goto 4, 3) := dk_167 0 4 (dk_at dksX1_meanCrumbs_0 8 rfl rfl)
theorem dX1_meanCrumbs_11 : decode cX1_meanCrumbs 11 = .ok (.iconst 0, 1) := dk_3 (dk_at dksX1_meanCrumbs_0 11 rfl rfl)
theorem dX1_meanCrumbs_12 : decode cX1_meanCrumbs 12 = .ok (.invokestatic 322, 3) := dk_184 1 66 (dk_at dksX1_meanCrumbs_0 12 rfl rfl)
theorem dX1_meanCrumbs_15 : decode cX1_meanCrumbs 15 = .ok (.iconst 0, 1) := dk_3 (dk_at dksX1_meanCrumbs_0 15 rfl rfl)
theorem dX1_meanCrumbs_16 : decode cX1_meanCrumbs 16 = .ok (.istore_n 1, 1) := dk_60 (dk_at dksX1_meanCrumbs_0 16 rfl rfl)
theorem dX1_meanCrumbs_17 : decode cX1_meanCrumbs 17 = .ok (.aload_n 0, 1) := dk_42 (dk_at dksX1_meanCrumbs_0 17 rfl rfl)
theorem dX1_meanCrumbs_18 : decode cX1_meanCrumbs 18 = .ok (.getfield 28, 3) := dk_180 0 28 (dk_at dksX1_meanCrumbs_0 18 rfl rfl)
theorem dX1_meanCrumbs_21 : decode cX1_meanCrumbs 21 = .ok (.getfield 238, 3) := dk_180 0 238 (dk_at dksX1_meanCrumbs_0 21 rfl rfl)
theorem dX1_meanCrumbs_24 : decode cX1_meanCrumbs 24 = .ok (.invokeinterface 325 1, 5) := by decide +kernel
theorem dX1_meanCrumbs_29 : decode cX1_meanCrumbs 29 = .ok (.astore_n 2, 1) := dk_77 (dk_at dksX1_meanCrumbs_1 5 rfl rfl)
theorem dX1_meanCrumbs_30 : decode cX1_meanCrumbs 30 = .ok (.aload_n 2, 1) := dk_44 (dk_at dksX1_meanCrumbs_1 6 rfl rfl)
theorem dX1_meanCrumbs_31 : decode cX1_meanCrumbs 31 = .ok (.invokeinterface 329 1, 5) := by decide +kernel
theorem dX1_meanCrumbs_36 : decode cX1_meanCrumbs 36 = .ok (.ifCond .eq 23, 3) := dk_153 0 23 (dk_at dksX1_meanCrumbs_1 12 rfl rfl)
theorem dX1_meanCrumbs_39 : decode cX1_meanCrumbs 39 = .ok (.aload_n 2, 1) := dk_44 (dk_at dksX1_meanCrumbs_1 15 rfl rfl)
theorem dX1_meanCrumbs_40 : decode cX1_meanCrumbs 40 = .ok (.invokeinterface 335 1, 5) := by decide +kernel
theorem dX1_meanCrumbs_45 : decode cX1_meanCrumbs 45 = .ok (.checkcast 241, 3) := dk_192 0 241 (dk_at dksX1_meanCrumbs_1 21 rfl rfl)
theorem dX1_meanCrumbs_48 : decode cX1_meanCrumbs 48 = .ok (.astore_n 3, 1) := dk_78 (dk_at dksX1_meanCrumbs_2 0 rfl rfl)
theorem dX1_meanCrumbs_49 : decode cX1_meanCrumbs 49 = .ok (.iload_n 1, 1) := dk_27 (dk_at dksX1_meanCrumbs_2 1 rfl rfl)
theorem dX1_meanCrumbs_50 : decode cX1_meanCrumbs 50 = .ok (.aload_n 3, 1) := dk_45 (dk_at dksX1_meanCrumbs_2 2 rfl rfl)
theorem dX1_meanCrumbs_51 : decode cX1_meanCrumbs 51 = .ok (.getfield 253, 3) := dk_180 0 253 (dk_at dksX1_meanCrumbs_2 3 rfl rfl)
theorem dX1_meanCrumbs_54 : decode cX1_meanCrumbs 54 = .ok (.iadd, 1) := dk_96 (dk_at dksX1_meanCrumbs_2 6 rfl rfl)
theorem dX1_meanCrumbs_55 : decode cX1_meanCrumbs 55 = .ok (.istore_n 1, 1) := dk_60 (dk_at dksX1_meanCrumbs_2 7 rfl rfl)
theorem dX1_meanCrumbs_56 : decode cX1_meanCrumbs 56 = .ok (.goto (-26), 3) := dk_167 255 230 (dk_at dksX1_meanCrumbs_2 8 rfl rfl)
theorem dX1_meanCrumbs_59 : decode cX1_meanCrumbs 59 = .ok (.iload_n 1, 1) := dk_27 (dk_at dksX1_meanCrumbs_2 11 rfl rfl)
theorem dX1_meanCrumbs_60 : decode cX1_meanCrumbs 60 = .ok (.i2d, 1) := dk_135 (dk_at dksX1_meanCrumbs_2 12 rfl rfl)
theorem dX1_meanCrumbs_61 : decode cX1_meanCrumbs 61 = .ok (.aload_n 0, 1) := dk_42 (dk_at dksX1_meanCrumbs_2 13 rfl rfl)
theorem dX1_meanCrumbs_62 : decode cX1_meanCrumbs 62 = .ok (.invokevirtual 319, 3) := dk_182 1 63 (dk_at dksX1_meanCrumbs_2 14 rfl rfl)
theorem dX1_meanCrumbs_65 : decode cX1_meanCrumbs 65 = .ok (.i2d, 1) := dk_135 (dk_at dksX1_meanCrumbs_2 17 rfl rfl)
theorem dX1_meanCrumbs_66 : decode cX1_meanCrumbs 66 = .ok (.ddiv, 1) := dk_111 (dk_at dksX1_meanCrumbs_2 18 rfl rfl)
theorem dX1_meanCrumbs_67 : decode cX1_meanCrumbs 67 = .ok (.dreturn, 1) := dk_175 (dk_at dksX1_meanCrumbs_2 19 rfl rfl)
abbrev cX1_checkDivisor : ByteArray := prog_1_method_64_code
def yX1_checkDivisor : MethodName := ⟨RX1, "checkDivisor", "(Z)V"⟩
def dkwX1_checkDivisor_0 : List UInt8 := [26, 154, 0, 11, 187, 1, 60, 89, 183, 1, 62, 191, 177]
abbrev dktX1_checkDivisor_0 : List UInt8 := dkwX1_checkDivisor_0 ++ []
theorem dksX1_checkDivisor_0 : cX1_checkDivisor.data.toList.drop 0 = dktX1_checkDivisor_0 := by decide +kernel
theorem dX1_checkDivisor_0 : decode cX1_checkDivisor 0 = .ok (.iload_n 0, 1) := dk_26 (dk_at dksX1_checkDivisor_0 0 rfl rfl)
theorem dX1_checkDivisor_1 : decode cX1_checkDivisor 1 = .ok (.ifCond .ne 11, 3) := dk_154 0 11 (dk_at dksX1_checkDivisor_0 1 rfl rfl)
theorem dX1_checkDivisor_4 : decode cX1_checkDivisor 4 = .ok (.new 316, 3) := dk_187 1 60 (dk_at dksX1_checkDivisor_0 4 rfl rfl)
theorem dX1_checkDivisor_7 : decode cX1_checkDivisor 7 = .ok (.dup, 1) := dk_89 (dk_at dksX1_checkDivisor_0 7 rfl rfl)
theorem dX1_checkDivisor_8 : decode cX1_checkDivisor 8 = .ok (.invokespecial 318, 3) := dk_183 1 62 (dk_at dksX1_checkDivisor_0 8 rfl rfl)
theorem dX1_checkDivisor_11 : decode cX1_checkDivisor 11 = .ok (.athrow, 1) := dk_191 (dk_at dksX1_checkDivisor_0 11 rfl rfl)
theorem dX1_checkDivisor_12 : decode cX1_checkDivisor 12 = .ok (.return_, 1) := dk_177 (dk_at dksX1_checkDivisor_0 12 rfl rfl)
abbrev cX1_fullShare : ByteArray := prog_1_method_66_code
def yX1_fullShare : MethodName := ⟨RX1, "fullShare", "()F"⟩
def dkwX1_fullShare_3 : List UInt8 := [27, 134, 28, 134, 110, 174]
abbrev dktX1_fullShare_3 : List UInt8 := dkwX1_fullShare_3 ++ []
def dkwX1_fullShare_2 : List UInt8 := [192, 0, 216, 58, 4, 27, 25, 4, 180, 0, 226, 96, 60, 28, 25, 4, 180, 0, 223, 96, 61, 167, 255, 220]
abbrev dktX1_fullShare_2 : List UInt8 := dkwX1_fullShare_2 ++ dktX1_fullShare_3
def dkwX1_fullShare_1 : List UInt8 := [180, 0, 207, 185, 1, 69, 1, 0, 78, 45, 185, 1, 73, 1, 0, 153, 0, 33, 45, 185, 1, 79, 1, 0]
abbrev dktX1_fullShare_1 : List UInt8 := dkwX1_fullShare_1 ++ dktX1_fullShare_2
def dkwX1_fullShare_0 : List UInt8 := [42, 182, 1, 82, 158, 0, 7, 4, 167, 0, 4, 3, 184, 1, 66, 3, 60, 3, 61, 42, 180, 0, 28]
abbrev dktX1_fullShare_0 : List UInt8 := dkwX1_fullShare_0 ++ dktX1_fullShare_1
theorem dksX1_fullShare_0 : cX1_fullShare.data.toList.drop 0 = dktX1_fullShare_0 := by decide +kernel
theorem dksX1_fullShare_1 : cX1_fullShare.data.toList.drop 23 = dktX1_fullShare_1 := dk_seg dksX1_fullShare_0 23 rfl rfl
theorem dksX1_fullShare_2 : cX1_fullShare.data.toList.drop 47 = dktX1_fullShare_2 := dk_seg dksX1_fullShare_1 24 rfl rfl
theorem dksX1_fullShare_3 : cX1_fullShare.data.toList.drop 71 = dktX1_fullShare_3 := dk_seg dksX1_fullShare_2 24 rfl rfl
theorem dX1_fullShare_0 : decode cX1_fullShare 0 = .ok (.aload_n 0, 1) := dk_42 (dk_at dksX1_fullShare_0 0 rfl rfl)
theorem dX1_fullShare_1 : decode cX1_fullShare 1 = .ok (.invokevirtual 338, 3) := dk_182 1 82 (dk_at dksX1_fullShare_0 1 rfl rfl)
theorem dX1_fullShare_4 : decode cX1_fullShare 4 = .ok (.ifCond .le 7, 3) := dk_158 0 7 (dk_at dksX1_fullShare_0 4 rfl rfl)
theorem dX1_fullShare_7 : decode cX1_fullShare 7 = .ok (.iconst 1, 1) := dk_4 (dk_at dksX1_fullShare_0 7 rfl rfl)
theorem dX1_fullShare_8 : decode cX1_fullShare 8 = .ok (.goto 4, 3) := dk_167 0 4 (dk_at dksX1_fullShare_0 8 rfl rfl)
theorem dX1_fullShare_11 : decode cX1_fullShare 11 = .ok (.iconst 0, 1) := dk_3 (dk_at dksX1_fullShare_0 11 rfl rfl)
theorem dX1_fullShare_12 : decode cX1_fullShare 12 = .ok (.invokestatic 322, 3) := dk_184 1 66 (dk_at dksX1_fullShare_0 12 rfl rfl)
theorem dX1_fullShare_15 : decode cX1_fullShare 15 = .ok (.iconst 0, 1) := dk_3 (dk_at dksX1_fullShare_0 15 rfl rfl)
theorem dX1_fullShare_16 : decode cX1_fullShare 16 = .ok (.istore_n 1, 1) := dk_60 (dk_at dksX1_fullShare_0 16 rfl rfl)
theorem dX1_fullShare_17 : decode cX1_fullShare 17 = .ok (.iconst 0, 1) := dk_3 (dk_at dksX1_fullShare_0 17 rfl rfl)
theorem dX1_fullShare_18 : decode cX1_fullShare 18 = .ok (.istore_n 2, 1) := dk_61 (dk_at dksX1_fullShare_0 18 rfl rfl)
theorem dX1_fullShare_19 : decode cX1_fullShare 19 = .ok (.aload_n 0, 1) := dk_42 (dk_at dksX1_fullShare_0 19 rfl rfl)
theorem dX1_fullShare_20 : decode cX1_fullShare 20 = .ok (.getfield 28, 3) := dk_180 0 28 (dk_at dksX1_fullShare_0 20 rfl rfl)
theorem dX1_fullShare_23 : decode cX1_fullShare 23 = .ok (.getfield 207, 3) := dk_180 0 207 (dk_at dksX1_fullShare_1 0 rfl rfl)
theorem dX1_fullShare_26 : decode cX1_fullShare 26 = .ok (.invokeinterface 325 1, 5) := by decide +kernel
theorem dX1_fullShare_31 : decode cX1_fullShare 31 = .ok (.astore_n 3, 1) := dk_78 (dk_at dksX1_fullShare_1 8 rfl rfl)
theorem dX1_fullShare_32 : decode cX1_fullShare 32 = .ok (.aload_n 3, 1) := dk_45 (dk_at dksX1_fullShare_1 9 rfl rfl)
theorem dX1_fullShare_33 : decode cX1_fullShare 33 = .ok (.invokeinterface 329 1, 5) := by decide +kernel
theorem dX1_fullShare_38 : decode cX1_fullShare 38 = .ok (.ifCond .eq 33, 3) := dk_153 0 33 (dk_at dksX1_fullShare_1 15 rfl rfl)
theorem dX1_fullShare_41 : decode cX1_fullShare 41 = .ok (.aload_n 3, 1) := dk_45 (dk_at dksX1_fullShare_1 18 rfl rfl)
theorem dX1_fullShare_42 : decode cX1_fullShare 42 = .ok (.invokeinterface 335 1, 5) := by decide +kernel
theorem dX1_fullShare_47 : decode cX1_fullShare 47 = .ok (.checkcast 216, 3) := dk_192 0 216 (dk_at dksX1_fullShare_2 0 rfl rfl)
theorem dX1_fullShare_50 : decode cX1_fullShare 50 = .ok (.astore 4, 2) := dk_58 4 (dk_at dksX1_fullShare_2 3 rfl rfl)
theorem dX1_fullShare_52 : decode cX1_fullShare 52 = .ok (.iload_n 1, 1) := dk_27 (dk_at dksX1_fullShare_2 5 rfl rfl)
theorem dX1_fullShare_53 : decode cX1_fullShare 53 = .ok (.aload 4, 2) := dk_25 4 (dk_at dksX1_fullShare_2 6 rfl rfl)
theorem dX1_fullShare_55 : decode cX1_fullShare 55 = .ok (.getfield 226, 3) := dk_180 0 226 (dk_at dksX1_fullShare_2 8 rfl rfl)
theorem dX1_fullShare_58 : decode cX1_fullShare 58 = .ok (.iadd, 1) := dk_96 (dk_at dksX1_fullShare_2 11 rfl rfl)
theorem dX1_fullShare_59 : decode cX1_fullShare 59 = .ok (.istore_n 1, 1) := dk_60 (dk_at dksX1_fullShare_2 12 rfl rfl)
theorem dX1_fullShare_60 : decode cX1_fullShare 60 = .ok (.iload_n 2, 1) := dk_28 (dk_at dksX1_fullShare_2 13 rfl rfl)
theorem dX1_fullShare_61 : decode cX1_fullShare 61 = .ok (.aload 4, 2) := dk_25 4 (dk_at dksX1_fullShare_2 14 rfl rfl)
theorem dX1_fullShare_63 : decode cX1_fullShare 63 = .ok (.getfield 223, 3) := dk_180 0 223 (dk_at dksX1_fullShare_2 16 rfl rfl)
theorem dX1_fullShare_66 : decode cX1_fullShare 66 = .ok (.iadd, 1) := dk_96 (dk_at dksX1_fullShare_2 19 rfl rfl)
theorem dX1_fullShare_67 : decode cX1_fullShare 67 = .ok (.istore_n 2, 1) := dk_61 (dk_at dksX1_fullShare_2 20 rfl rfl)
theorem dX1_fullShare_68 : decode cX1_fullShare 68 = .ok (.goto (-36), 3) := dk_167 255 220 (dk_at dksX1_fullShare_2 21 rfl rfl)
theorem dX1_fullShare_71 : decode cX1_fullShare 71 = .ok (.iload_n 1, 1) := dk_27 (dk_at dksX1_fullShare_3 0 rfl rfl)
theorem dX1_fullShare_72 : decode cX1_fullShare 72 = .ok (.i2f, 1) := dk_134 (dk_at dksX1_fullShare_3 1 rfl rfl)
theorem dX1_fullShare_73 : decode cX1_fullShare 73 = .ok (.iload_n 2, 1) := dk_28 (dk_at dksX1_fullShare_3 2 rfl rfl)
theorem dX1_fullShare_74 : decode cX1_fullShare 74 = .ok (.i2f, 1) := dk_134 (dk_at dksX1_fullShare_3 3 rfl rfl)
theorem dX1_fullShare_75 : decode cX1_fullShare 75 = .ok (.fdiv, 1) := dk_110 (dk_at dksX1_fullShare_3 4 rfl rfl)
theorem dX1_fullShare_76 : decode cX1_fullShare 76 = .ok (.freturn, 1) := dk_174 (dk_at dksX1_fullShare_3 5 rfl rfl)
abbrev cX1_renderDough : ByteArray := prog_1_method_69_code
def yX1_renderDough : MethodName := ⟨RX1, "renderDough", "(I)I"⟩
def dkwX1_renderDough_1 : List UInt8 := [180, 0, 28, 27, 182, 1, 102, 182, 1, 99, 182, 1, 106, 182, 1, 110, 172]
abbrev dktX1_renderDough_1 : List UInt8 := dkwX1_renderDough_1 ++ []
def dkwX1_renderDough_0 : List UInt8 := [42, 187, 0, 39, 89, 183, 0, 41, 42, 27, 182, 0, 152, 182, 1, 93, 19, 1, 97, 182, 1, 99, 42]
abbrev dktX1_renderDough_0 : List UInt8 := dkwX1_renderDough_0 ++ dktX1_renderDough_1
theorem dksX1_renderDough_0 : cX1_renderDough.data.toList.drop 0 = dktX1_renderDough_0 := by decide +kernel
theorem dksX1_renderDough_1 : cX1_renderDough.data.toList.drop 23 = dktX1_renderDough_1 := dk_seg dksX1_renderDough_0 23 rfl rfl
theorem dX1_renderDough_0 : decode cX1_renderDough 0 = .ok (.aload_n 0, 1) := dk_42 (dk_at dksX1_renderDough_0 0 rfl rfl)
theorem dX1_renderDough_1 : decode cX1_renderDough 1 = .ok (.new 39, 3) := dk_187 0 39 (dk_at dksX1_renderDough_0 1 rfl rfl)
theorem dX1_renderDough_4 : decode cX1_renderDough 4 = .ok (.dup, 1) := dk_89 (dk_at dksX1_renderDough_0 4 rfl rfl)
theorem dX1_renderDough_5 : decode cX1_renderDough 5 = .ok (.invokespecial 41, 3) := dk_183 0 41 (dk_at dksX1_renderDough_0 5 rfl rfl)
theorem dX1_renderDough_8 : decode cX1_renderDough 8 = .ok (.aload_n 0, 1) := dk_42 (dk_at dksX1_renderDough_0 8 rfl rfl)
theorem dX1_renderDough_9 : decode cX1_renderDough 9 = .ok (.iload_n 1, 1) := dk_27 (dk_at dksX1_renderDough_0 9 rfl rfl)
theorem dX1_renderDough_10 : decode cX1_renderDough 10 = .ok (.invokevirtual 152, 3) := dk_182 0 152 (dk_at dksX1_renderDough_0 10 rfl rfl)
theorem dX1_renderDough_13 : decode cX1_renderDough 13 = .ok (.invokevirtual 349, 3) := dk_182 1 93 (dk_at dksX1_renderDough_0 13 rfl rfl)
theorem dX1_renderDough_16 : decode cX1_renderDough 16 = .ok (.ldc_w 353, 3) := dk_19 1 97 (dk_at dksX1_renderDough_0 16 rfl rfl)
theorem dX1_renderDough_19 : decode cX1_renderDough 19 = .ok (.invokevirtual 355, 3) := dk_182 1 99 (dk_at dksX1_renderDough_0 19 rfl rfl)
theorem dX1_renderDough_22 : decode cX1_renderDough 22 = .ok (.aload_n 0, 1) := dk_42 (dk_at dksX1_renderDough_0 22 rfl rfl)
theorem dX1_renderDough_23 : decode cX1_renderDough 23 = .ok (.getfield 28, 3) := dk_180 0 28 (dk_at dksX1_renderDough_1 0 rfl rfl)
theorem dX1_renderDough_26 : decode cX1_renderDough 26 = .ok (.iload_n 1, 1) := dk_27 (dk_at dksX1_renderDough_1 3 rfl rfl)
theorem dX1_renderDough_27 : decode cX1_renderDough 27 = .ok (.invokevirtual 358, 3) := dk_182 1 102 (dk_at dksX1_renderDough_1 4 rfl rfl)
theorem dX1_renderDough_30 : decode cX1_renderDough 30 = .ok (.invokevirtual 355, 3) := dk_182 1 99 (dk_at dksX1_renderDough_1 7 rfl rfl)
theorem dX1_renderDough_33 : decode cX1_renderDough 33 = .ok (.invokevirtual 362, 3) := dk_182 1 106 (dk_at dksX1_renderDough_1 10 rfl rfl)
theorem dX1_renderDough_36 : decode cX1_renderDough 36 = .ok (.invokevirtual 366, 3) := dk_182 1 110 (dk_at dksX1_renderDough_1 13 rfl rfl)
theorem dX1_renderDough_39 : decode cX1_renderDough 39 = .ok (.ireturn, 1) := dk_172 (dk_at dksX1_renderDough_1 16 rfl rfl)
abbrev cX1_outputAt : ByteArray := prog_1_method_71_code
def yX1_outputAt : MethodName := ⟨RX1, "outputAt", "(I)C"⟩
def dkwX1_outputAt_1 : List UInt8 := [182, 1, 117, 172]
abbrev dktX1_outputAt_1 : List UInt8 := dkwX1_outputAt_1 ++ []
def dkwX1_outputAt_0 : List UInt8 := [27, 3, 42, 180, 0, 55, 182, 1, 88, 4, 100, 184, 0, 175, 184, 0, 130, 42, 180, 0, 55, 27]
abbrev dktX1_outputAt_0 : List UInt8 := dkwX1_outputAt_0 ++ dktX1_outputAt_1
theorem dksX1_outputAt_0 : cX1_outputAt.data.toList.drop 0 = dktX1_outputAt_0 := by decide +kernel
theorem dksX1_outputAt_1 : cX1_outputAt.data.toList.drop 22 = dktX1_outputAt_1 := dk_seg dksX1_outputAt_0 22 rfl rfl
theorem dX1_outputAt_0 : decode cX1_outputAt 0 = .ok (.iload_n 1, 1) := dk_27 (dk_at dksX1_outputAt_0 0 rfl rfl)
theorem dX1_outputAt_1 : decode cX1_outputAt 1 = .ok (.iconst 0, 1) := dk_3 (dk_at dksX1_outputAt_0 1 rfl rfl)
theorem dX1_outputAt_2 : decode cX1_outputAt 2 = .ok (.aload_n 0, 1) := dk_42 (dk_at dksX1_outputAt_0 2 rfl rfl)
theorem dX1_outputAt_3 : decode cX1_outputAt 3 = .ok (.getfield 55, 3) := dk_180 0 55 (dk_at dksX1_outputAt_0 3 rfl rfl)
theorem dX1_outputAt_6 : decode cX1_outputAt 6 = .ok (.invokevirtual 344, 3) := dk_182 1 88 (dk_at dksX1_outputAt_0 6 rfl rfl)
theorem dX1_outputAt_9 : decode cX1_outputAt 9 = .ok (.iconst 1, 1) := dk_4 (dk_at dksX1_outputAt_0 9 rfl rfl)
theorem dX1_outputAt_10 : decode cX1_outputAt 10 = .ok (.isub, 1) := dk_100 (dk_at dksX1_outputAt_0 10 rfl rfl)
theorem dX1_outputAt_11 : decode cX1_outputAt 11 = .ok (.invokestatic 175, 3) := dk_184 0 175 (dk_at dksX1_outputAt_0 11 rfl rfl)
theorem dX1_outputAt_14 : decode cX1_outputAt 14 = .ok (.invokestatic 130, 3) := dk_184 0 130 (dk_at dksX1_outputAt_0 14 rfl rfl)
theorem dX1_outputAt_17 : decode cX1_outputAt 17 = .ok (.aload_n 0, 1) := dk_42 (dk_at dksX1_outputAt_0 17 rfl rfl)
theorem dX1_outputAt_18 : decode cX1_outputAt 18 = .ok (.getfield 55, 3) := dk_180 0 55 (dk_at dksX1_outputAt_0 18 rfl rfl)
theorem dX1_outputAt_21 : decode cX1_outputAt 21 = .ok (.iload_n 1, 1) := dk_27 (dk_at dksX1_outputAt_0 21 rfl rfl)
theorem dX1_outputAt_22 : decode cX1_outputAt 22 = .ok (.invokevirtual 373, 3) := dk_182 1 117 (dk_at dksX1_outputAt_1 0 rfl rfl)
theorem dX1_outputAt_25 : decode cX1_outputAt 25 = .ok (.ireturn, 1) := dk_172 (dk_at dksX1_outputAt_1 3 rfl rfl)
abbrev cX1_type : ByteArray := prog_1_method_72_code
def yX1_type : MethodName := ⟨RX1, "type", "(C)I"⟩
def dkwX1_type_1 : List UInt8 := [167, 0, 4, 3, 184, 1, 122, 42, 180, 0, 42, 27, 182, 1, 125, 87, 42, 180, 0, 42, 182, 1, 121, 172]
abbrev dktX1_type_1 : List UInt8 := dkwX1_type_1 ++ []
def dkwX1_type_0 : List UInt8 := [27, 16, 32, 16, 126, 184, 0, 175, 184, 0, 179, 42, 180, 0, 42, 182, 1, 121, 16, 60, 162, 0, 7, 4]
abbrev dktX1_type_0 : List UInt8 := dkwX1_type_0 ++ dktX1_type_1
theorem dksX1_type_0 : cX1_type.data.toList.drop 0 = dktX1_type_0 := by decide +kernel
theorem dksX1_type_1 : cX1_type.data.toList.drop 24 = dktX1_type_1 := dk_seg dksX1_type_0 24 rfl rfl
theorem dX1_type_0 : decode cX1_type 0 = .ok (.iload_n 1, 1) := dk_27 (dk_at dksX1_type_0 0 rfl rfl)
theorem dX1_type_1 : decode cX1_type 1 = .ok (.bipush 32, 2) := dk_16 32 (dk_at dksX1_type_0 1 rfl rfl)
theorem dX1_type_3 : decode cX1_type 3 = .ok (.bipush 126, 2) := dk_16 126 (dk_at dksX1_type_0 3 rfl rfl)
theorem dX1_type_5 : decode cX1_type 5 = .ok (.invokestatic 175, 3) := dk_184 0 175 (dk_at dksX1_type_0 5 rfl rfl)
theorem dX1_type_8 : decode cX1_type 8 = .ok (.invokestatic 179, 3) := dk_184 0 179 (dk_at dksX1_type_0 8 rfl rfl)
theorem dX1_type_11 : decode cX1_type 11 = .ok (.aload_n 0, 1) := dk_42 (dk_at dksX1_type_0 11 rfl rfl)
theorem dX1_type_12 : decode cX1_type 12 = .ok (.getfield 42, 3) := dk_180 0 42 (dk_at dksX1_type_0 12 rfl rfl)
theorem dX1_type_15 : decode cX1_type 15 = .ok (.invokevirtual 377, 3) := dk_182 1 121 (dk_at dksX1_type_0 15 rfl rfl)
theorem dX1_type_18 : decode cX1_type 18 = .ok (.bipush 60, 2) := dk_16 60 (dk_at dksX1_type_0 18 rfl rfl)
theorem dX1_type_20 : decode cX1_type 20 = .ok (.if_icmp .ge 7, 3) := dk_162 0 7 (dk_at dksX1_type_0 20 rfl rfl)
theorem dX1_type_23 : decode cX1_type 23 = .ok (.iconst 1, 1) := dk_4 (dk_at dksX1_type_0 23 rfl rfl)
theorem dX1_type_24 : decode cX1_type 24 = .ok (.goto 4, 3) := dk_167 0 4 (dk_at dksX1_type_1 0 rfl rfl)
theorem dX1_type_27 : decode cX1_type 27 = .ok (.iconst 0, 1) := dk_3 (dk_at dksX1_type_1 3 rfl rfl)
theorem dX1_type_28 : decode cX1_type 28 = .ok (.invokestatic 378, 3) := dk_184 1 122 (dk_at dksX1_type_1 4 rfl rfl)
theorem dX1_type_31 : decode cX1_type 31 = .ok (.aload_n 0, 1) := dk_42 (dk_at dksX1_type_1 7 rfl rfl)
theorem dX1_type_32 : decode cX1_type 32 = .ok (.getfield 42, 3) := dk_180 0 42 (dk_at dksX1_type_1 8 rfl rfl)
theorem dX1_type_35 : decode cX1_type 35 = .ok (.iload_n 1, 1) := dk_27 (dk_at dksX1_type_1 11 rfl rfl)
theorem dX1_type_36 : decode cX1_type 36 = .ok (.invokevirtual 381, 3) := dk_182 1 125 (dk_at dksX1_type_1 12 rfl rfl)
theorem dX1_type_39 : decode cX1_type 39 = .ok (.pop, 1) := dk_87 (dk_at dksX1_type_1 15 rfl rfl)
theorem dX1_type_40 : decode cX1_type 40 = .ok (.aload_n 0, 1) := dk_42 (dk_at dksX1_type_1 16 rfl rfl)
theorem dX1_type_41 : decode cX1_type 41 = .ok (.getfield 42, 3) := dk_180 0 42 (dk_at dksX1_type_1 17 rfl rfl)
theorem dX1_type_44 : decode cX1_type 44 = .ok (.invokevirtual 377, 3) := dk_182 1 121 (dk_at dksX1_type_1 20 rfl rfl)
theorem dX1_type_47 : decode cX1_type 47 = .ok (.ireturn, 1) := dk_172 (dk_at dksX1_type_1 23 rfl rfl)
abbrev cX1_checkState : ByteArray := prog_1_method_25_code
def yX1_checkState : MethodName := ⟨RX1, "checkState", "(Z)V"⟩
def dkwX1_checkState_0 : List UInt8 := [26, 154, 0, 11, 187, 0, 119, 89, 183, 0, 121, 191, 177]
abbrev dktX1_checkState_0 : List UInt8 := dkwX1_checkState_0 ++ []
theorem dksX1_checkState_0 : cX1_checkState.data.toList.drop 0 = dktX1_checkState_0 := by decide +kernel
theorem dX1_checkState_0 : decode cX1_checkState 0 = .ok (.iload_n 0, 1) := dk_26 (dk_at dksX1_checkState_0 0 rfl rfl)
theorem dX1_checkState_1 : decode cX1_checkState 1 = .ok (.ifCond .ne 11, 3) := dk_154 0 11 (dk_at dksX1_checkState_0 1 rfl rfl)
theorem dX1_checkState_4 : decode cX1_checkState 4 = .ok (.new 119, 3) := dk_187 0 119 (dk_at dksX1_checkState_0 4 rfl rfl)
theorem dX1_checkState_7 : decode cX1_checkState 7 = .ok (.dup, 1) := dk_89 (dk_at dksX1_checkState_0 7 rfl rfl)
theorem dX1_checkState_8 : decode cX1_checkState 8 = .ok (.invokespecial 121, 3) := dk_183 0 121 (dk_at dksX1_checkState_0 8 rfl rfl)
theorem dX1_checkState_11 : decode cX1_checkState 11 = .ok (.athrow, 1) := dk_191 (dk_at dksX1_checkState_0 11 rfl rfl)
theorem dX1_checkState_12 : decode cX1_checkState 12 = .ok (.return_, 1) := dk_177 (dk_at dksX1_checkState_0 12 rfl rfl)
abbrev cX1_runScript : ByteArray := prog_1_method_75_code
def yX1_runScript : MethodName := ⟨RX1, "runScript", "()I"⟩
def dkwX1_runScript_2 : List UInt8 := [180, 0, 42, 3, 182, 1, 168, 45, 191]
abbrev dktX1_runScript_2 : List UInt8 := dkwX1_runScript_2 ++ []
def dkwX1_runScript_1 : List UInt8 := [42, 180, 0, 42, 3, 182, 1, 168, 28, 172, 77, 42, 44, 182, 1, 172, 44, 182, 1, 176, 191, 78, 42]
abbrev dktX1_runScript_1 : List UInt8 := dkwX1_runScript_1 ++ dktX1_runScript_2
def dkwX1_runScript_0 : List UInt8 := [42, 180, 0, 42, 182, 1, 106, 76, 42, 187, 1, 155, 89, 43, 183, 1, 157, 182, 1, 160, 182, 1, 164, 61]
abbrev dktX1_runScript_0 : List UInt8 := dkwX1_runScript_0 ++ dktX1_runScript_1
theorem dksX1_runScript_0 : cX1_runScript.data.toList.drop 0 = dktX1_runScript_0 := by decide +kernel
theorem dksX1_runScript_1 : cX1_runScript.data.toList.drop 24 = dktX1_runScript_1 := dk_seg dksX1_runScript_0 24 rfl rfl
theorem dksX1_runScript_2 : cX1_runScript.data.toList.drop 47 = dktX1_runScript_2 := dk_seg dksX1_runScript_1 23 rfl rfl
theorem dX1_runScript_0 : decode cX1_runScript 0 = .ok (.aload_n 0, 1) := dk_42 (dk_at dksX1_runScript_0 0 rfl rfl)
theorem dX1_runScript_1 : decode cX1_runScript 1 = .ok (.getfield 42, 3) := dk_180 0 42 (dk_at dksX1_runScript_0 1 rfl rfl)
theorem dX1_runScript_4 : decode cX1_runScript 4 = .ok (.invokevirtual 362, 3) := dk_182 1 106 (dk_at dksX1_runScript_0 4 rfl rfl)
theorem dX1_runScript_7 : decode cX1_runScript 7 = .ok (.astore_n 1, 1) := dk_76 (dk_at dksX1_runScript_0 7 rfl rfl)
theorem dX1_runScript_8 : decode cX1_runScript 8 = .ok (.aload_n 0, 1) := dk_42 (dk_at dksX1_runScript_0 8 rfl rfl)
theorem dX1_runScript_9 : decode cX1_runScript 9 = .ok (.new 411, 3) := dk_187 1 155 (dk_at dksX1_runScript_0 9 rfl rfl)
theorem dX1_runScript_12 : decode cX1_runScript 12 = .ok (.dup, 1) := dk_89 (dk_at dksX1_runScript_0 12 rfl rfl)
theorem dX1_runScript_13 : decode cX1_runScript 13 = .ok (.aload_n 1, 1) := dk_43 (dk_at dksX1_runScript_0 13 rfl rfl)
theorem dX1_runScript_14 : decode cX1_runScript 14 = .ok (.invokespecial 413, 3) := dk_183 1 157 (dk_at dksX1_runScript_0 14 rfl rfl)
theorem dX1_runScript_17 : decode cX1_runScript 17 = .ok (.invokevirtual 416, 3) := dk_182 1 160 (dk_at dksX1_runScript_0 17 rfl rfl)
theorem dX1_runScript_20 : decode cX1_runScript 20 = .ok (.invokevirtual 420, 3) := dk_182 1 164 (dk_at dksX1_runScript_0 20 rfl rfl)
theorem dX1_runScript_23 : decode cX1_runScript 23 = .ok (.istore_n 2, 1) := dk_61 (dk_at dksX1_runScript_0 23 rfl rfl)
theorem dX1_runScript_24 : decode cX1_runScript 24 = .ok (.aload_n 0, 1) := dk_42 (dk_at dksX1_runScript_1 0 rfl rfl)
theorem dX1_runScript_25 : decode cX1_runScript 25 = .ok (.getfield 42, 3) := dk_180 0 42 (dk_at dksX1_runScript_1 1 rfl rfl)
theorem dX1_runScript_28 : decode cX1_runScript 28 = .ok (.iconst 0, 1) := dk_3 (dk_at dksX1_runScript_1 4 rfl rfl)
theorem dX1_runScript_29 : decode cX1_runScript 29 = .ok (.invokevirtual 424, 3) := dk_182 1 168 (dk_at dksX1_runScript_1 5 rfl rfl)
theorem dX1_runScript_32 : decode cX1_runScript 32 = .ok (.iload_n 2, 1) := dk_28 (dk_at dksX1_runScript_1 8 rfl rfl)
theorem dX1_runScript_33 : decode cX1_runScript 33 = .ok (.ireturn, 1) := dk_172 (dk_at dksX1_runScript_1 9 rfl rfl)
theorem dX1_runScript_34 : decode cX1_runScript 34 = .ok (.astore_n 2, 1) := dk_77 (dk_at dksX1_runScript_1 10 rfl rfl)
theorem dX1_runScript_35 : decode cX1_runScript 35 = .ok (.aload_n 0, 1) := dk_42 (dk_at dksX1_runScript_1 11 rfl rfl)
theorem dX1_runScript_36 : decode cX1_runScript 36 = .ok (.aload_n 2, 1) := dk_44 (dk_at dksX1_runScript_1 12 rfl rfl)
theorem dX1_runScript_37 : decode cX1_runScript 37 = .ok (.invokevirtual 428, 3) := dk_182 1 172 (dk_at dksX1_runScript_1 13 rfl rfl)
theorem dX1_runScript_40 : decode cX1_runScript 40 = .ok (.aload_n 2, 1) := dk_44 (dk_at dksX1_runScript_1 16 rfl rfl)
theorem dX1_runScript_41 : decode cX1_runScript 41 = .ok (.invokevirtual 432, 3) := dk_182 1 176 (dk_at dksX1_runScript_1 17 rfl rfl)
theorem dX1_runScript_44 : decode cX1_runScript 44 = .ok (.athrow, 1) := dk_191 (dk_at dksX1_runScript_1 20 rfl rfl)
theorem dX1_runScript_45 : decode cX1_runScript 45 = .ok (.astore_n 3, 1) := dk_78 (dk_at dksX1_runScript_1 21 rfl rfl)
theorem dX1_runScript_46 : decode cX1_runScript 46 = .ok (.aload_n 0, 1) := dk_42 (dk_at dksX1_runScript_1 22 rfl rfl)
theorem dX1_runScript_47 : decode cX1_runScript 47 = .ok (.getfield 42, 3) := dk_180 0 42 (dk_at dksX1_runScript_2 0 rfl rfl)
theorem dX1_runScript_50 : decode cX1_runScript 50 = .ok (.iconst 0, 1) := dk_3 (dk_at dksX1_runScript_2 3 rfl rfl)
theorem dX1_runScript_51 : decode cX1_runScript 51 = .ok (.invokevirtual 424, 3) := dk_182 1 168 (dk_at dksX1_runScript_2 4 rfl rfl)
theorem dX1_runScript_54 : decode cX1_runScript 54 = .ok (.aload_n 3, 1) := dk_45 (dk_at dksX1_runScript_2 7 rfl rfl)
theorem dX1_runScript_55 : decode cX1_runScript 55 = .ok (.athrow, 1) := dk_191 (dk_at dksX1_runScript_2 8 rfl rfl)
abbrev cX1_execute : ByteArray := prog_1_method_73_code
def yX1_execute : MethodName := ⟨RX1, "execute", "(Ljava/util/LinkedList;)I"⟩
def dkwX1_execute_3 : List UInt8 := [43, 182, 0, 59, 182, 0, 81, 172]
abbrev dktX1_execute_3 : List UInt8 := dkwX1_execute_3 ++ []
def dkwX1_execute_2 : List UInt8 := [167, 0, 16, 58, 6, 187, 1, 134, 89, 29, 25, 6, 183, 1, 136, 191, 132, 3, 1, 167, 255, 208, 42, 44]
abbrev dktX1_execute_2 : List UInt8 := dkwX1_execute_2 ++ dktX1_execute_3
def dkwX1_execute_1 : List UInt8 := [153, 0, 44, 25, 4, 185, 1, 79, 1, 0, 192, 1, 129, 58, 5, 25, 5, 44, 182, 1, 131, 87]
abbrev dktX1_execute_1 : List UInt8 := dkwX1_execute_1 ++ dktX1_execute_2
def dkwX1_execute_0 : List UInt8 := [42, 180, 0, 28, 182, 0, 71, 77, 3, 62, 43, 182, 1, 128, 58, 4, 25, 4, 185, 1, 73, 1, 0]
abbrev dktX1_execute_0 : List UInt8 := dkwX1_execute_0 ++ dktX1_execute_1
theorem dksX1_execute_0 : cX1_execute.data.toList.drop 0 = dktX1_execute_0 := by decide +kernel
theorem dksX1_execute_1 : cX1_execute.data.toList.drop 23 = dktX1_execute_1 := dk_seg dksX1_execute_0 23 rfl rfl
theorem dksX1_execute_2 : cX1_execute.data.toList.drop 45 = dktX1_execute_2 := dk_seg dksX1_execute_1 22 rfl rfl
theorem dksX1_execute_3 : cX1_execute.data.toList.drop 69 = dktX1_execute_3 := dk_seg dksX1_execute_2 24 rfl rfl
theorem dX1_execute_0 : decode cX1_execute 0 = .ok (.aload_n 0, 1) := dk_42 (dk_at dksX1_execute_0 0 rfl rfl)
theorem dX1_execute_1 : decode cX1_execute 1 = .ok (.getfield 28, 3) := dk_180 0 28 (dk_at dksX1_execute_0 1 rfl rfl)
theorem dX1_execute_4 : decode cX1_execute 4 = .ok (.invokevirtual 71, 3) := dk_182 0 71 (dk_at dksX1_execute_0 4 rfl rfl)
theorem dX1_execute_7 : decode cX1_execute 7 = .ok (.astore_n 2, 1) := dk_77 (dk_at dksX1_execute_0 7 rfl rfl)
theorem dX1_execute_8 : decode cX1_execute 8 = .ok (.iconst 0, 1) := dk_3 (dk_at dksX1_execute_0 8 rfl rfl)
theorem dX1_execute_9 : decode cX1_execute 9 = .ok (.istore_n 3, 1) := dk_62 (dk_at dksX1_execute_0 9 rfl rfl)
theorem dX1_execute_10 : decode cX1_execute 10 = .ok (.aload_n 1, 1) := dk_43 (dk_at dksX1_execute_0 10 rfl rfl)
theorem dX1_execute_11 : decode cX1_execute 11 = .ok (.invokevirtual 384, 3) := dk_182 1 128 (dk_at dksX1_execute_0 11 rfl rfl)
theorem dX1_execute_14 : decode cX1_execute 14 = .ok (.astore 4, 2) := dk_58 4 (dk_at dksX1_execute_0 14 rfl rfl)
theorem dX1_execute_16 : decode cX1_execute 16 = .ok (.aload 4, 2) := dk_25 4 (dk_at dksX1_execute_0 16 rfl rfl)
theorem dX1_execute_18 : decode cX1_execute 18 = .ok (.invokeinterface 329 1, 5) := by decide +kernel
theorem dX1_execute_23 : decode cX1_execute 23 = .ok (.ifCond .eq 44, 3) := dk_153 0 44 (dk_at dksX1_execute_1 0 rfl rfl)
theorem dX1_execute_26 : decode cX1_execute 26 = .ok (.aload 4, 2) := dk_25 4 (dk_at dksX1_execute_1 3 rfl rfl)
theorem dX1_execute_28 : decode cX1_execute 28 = .ok (.invokeinterface 335 1, 5) := by decide +kernel
theorem dX1_execute_33 : decode cX1_execute 33 = .ok (.checkcast 385, 3) := dk_192 1 129 (dk_at dksX1_execute_1 10 rfl rfl)
theorem dX1_execute_36 : decode cX1_execute 36 = .ok (.astore 5, 2) := dk_58 5 (dk_at dksX1_execute_1 13 rfl rfl)
theorem dX1_execute_38 : decode cX1_execute 38 = .ok (.aload 5, 2) := dk_25 5 (dk_at dksX1_execute_1 15 rfl rfl)
theorem dX1_execute_40 : decode cX1_execute 40 = .ok (.aload_n 2, 1) := dk_44 (dk_at dksX1_execute_1 17 rfl rfl)
theorem dX1_execute_41 : decode cX1_execute 41 = .ok (.invokevirtual 387, 3) := dk_182 1 131 (dk_at dksX1_execute_1 18 rfl rfl)
theorem dX1_execute_44 : decode cX1_execute 44 = .ok (.pop, 1) := dk_87 (dk_at dksX1_execute_1 21 rfl rfl)
theorem dX1_execute_45 : decode cX1_execute 45 = .ok (.goto 16, 3) := dk_167 0 16 (dk_at dksX1_execute_2 0 rfl rfl)
theorem dX1_execute_48 : decode cX1_execute 48 = .ok (.astore 6, 2) := dk_58 6 (dk_at dksX1_execute_2 3 rfl rfl)
theorem dX1_execute_50 : decode cX1_execute 50 = .ok (.new 390, 3) := dk_187 1 134 (dk_at dksX1_execute_2 5 rfl rfl)
theorem dX1_execute_53 : decode cX1_execute 53 = .ok (.dup, 1) := dk_89 (dk_at dksX1_execute_2 8 rfl rfl)
theorem dX1_execute_54 : decode cX1_execute 54 = .ok (.iload_n 3, 1) := dk_29 (dk_at dksX1_execute_2 9 rfl rfl)
theorem dX1_execute_55 : decode cX1_execute 55 = .ok (.aload 6, 2) := dk_25 6 (dk_at dksX1_execute_2 10 rfl rfl)
theorem dX1_execute_57 : decode cX1_execute 57 = .ok (.invokespecial 392, 3) := dk_183 1 136 (dk_at dksX1_execute_2 12 rfl rfl)
theorem dX1_execute_60 : decode cX1_execute 60 = .ok (.athrow, 1) := dk_191 (dk_at dksX1_execute_2 15 rfl rfl)
theorem dX1_execute_61 : decode cX1_execute 61 = .ok (.iinc 3 1, 3) := dk_132 3 1 (dk_at dksX1_execute_2 16 rfl rfl)
theorem dX1_execute_64 : decode cX1_execute 64 = .ok (.goto (-48), 3) := dk_167 255 208 (dk_at dksX1_execute_2 19 rfl rfl)
theorem dX1_execute_67 : decode cX1_execute 67 = .ok (.aload_n 0, 1) := dk_42 (dk_at dksX1_execute_2 22 rfl rfl)
theorem dX1_execute_68 : decode cX1_execute 68 = .ok (.aload_n 2, 1) := dk_44 (dk_at dksX1_execute_2 23 rfl rfl)
theorem dX1_execute_69 : decode cX1_execute 69 = .ok (.aload_n 1, 1) := dk_43 (dk_at dksX1_execute_3 0 rfl rfl)
theorem dX1_execute_70 : decode cX1_execute 70 = .ok (.invokevirtual 59, 3) := dk_182 0 59 (dk_at dksX1_execute_3 1 rfl rfl)
theorem dX1_execute_73 : decode cX1_execute 73 = .ok (.invokevirtual 81, 3) := dk_182 0 81 (dk_at dksX1_execute_3 4 rfl rfl)
theorem dX1_execute_76 : decode cX1_execute 76 = .ok (.ireturn, 1) := dk_172 (dk_at dksX1_execute_3 7 rfl rfl)
abbrev cX1_note : ByteArray := prog_1_method_74_code
def yX1_note : MethodName := ⟨RX1, "note", "(LDoughLedger$Failure;)V"⟩
def dkwX1_note_2 : List UInt8 := [181, 1, 151, 177]
abbrev dktX1_note_2 : List UInt8 := dkwX1_note_2 ++ []
def dkwX1_note_1 : List UInt8 := [193, 1, 134, 153, 0, 24, 43, 192, 1, 134, 78, 42, 45, 182, 1, 144, 181, 0, 50, 42, 45, 182, 1, 147]
abbrev dktX1_note_1 : List UInt8 := dkwX1_note_1 ++ dktX1_note_2
def dkwX1_note_0 : List UInt8 := [43, 193, 1, 139, 153, 0, 19, 43, 192, 1, 139, 77, 42, 44, 182, 1, 141, 181, 0, 46, 167, 0, 31, 43]
abbrev dktX1_note_0 : List UInt8 := dkwX1_note_0 ++ dktX1_note_1
theorem dksX1_note_0 : cX1_note.data.toList.drop 0 = dktX1_note_0 := by decide +kernel
theorem dksX1_note_1 : cX1_note.data.toList.drop 24 = dktX1_note_1 := dk_seg dksX1_note_0 24 rfl rfl
theorem dksX1_note_2 : cX1_note.data.toList.drop 48 = dktX1_note_2 := dk_seg dksX1_note_1 24 rfl rfl
theorem dX1_note_0 : decode cX1_note 0 = .ok (.aload_n 1, 1) := dk_43 (dk_at dksX1_note_0 0 rfl rfl)
theorem dX1_note_1 : decode cX1_note 1 = .ok (.instanceof 395, 3) := dk_193 1 139 (dk_at dksX1_note_0 1 rfl rfl)
theorem dX1_note_4 : decode cX1_note 4 = .ok (.ifCond .eq 19, 3) := dk_153 0 19 (dk_at dksX1_note_0 4 rfl rfl)
theorem dX1_note_7 : decode cX1_note 7 = .ok (.aload_n 1, 1) := dk_43 (dk_at dksX1_note_0 7 rfl rfl)
theorem dX1_note_8 : decode cX1_note 8 = .ok (.checkcast 395, 3) := dk_192 1 139 (dk_at dksX1_note_0 8 rfl rfl)
theorem dX1_note_11 : decode cX1_note 11 = .ok (.astore_n 2, 1) := dk_77 (dk_at dksX1_note_0 11 rfl rfl)
theorem dX1_note_12 : decode cX1_note 12 = .ok (.aload_n 0, 1) := dk_42 (dk_at dksX1_note_0 12 rfl rfl)
theorem dX1_note_13 : decode cX1_note 13 = .ok (.aload_n 2, 1) := dk_44 (dk_at dksX1_note_0 13 rfl rfl)
theorem dX1_note_14 : decode cX1_note 14 = .ok (.invokevirtual 397, 3) := dk_182 1 141 (dk_at dksX1_note_0 14 rfl rfl)
theorem dX1_note_17 : decode cX1_note 17 = .ok (.putfield 46, 3) := dk_181 0 46 (dk_at dksX1_note_0 17 rfl rfl)
theorem dX1_note_20 : decode cX1_note 20 = .ok (.goto 31, 3) := dk_167 0 31 (dk_at dksX1_note_0 20 rfl rfl)
theorem dX1_note_23 : decode cX1_note 23 = .ok (.aload_n 1, 1) := dk_43 (dk_at dksX1_note_0 23 rfl rfl)
theorem dX1_note_24 : decode cX1_note 24 = .ok (.instanceof 390, 3) := dk_193 1 134 (dk_at dksX1_note_1 0 rfl rfl)
theorem dX1_note_27 : decode cX1_note 27 = .ok (.ifCond .eq 24, 3) := dk_153 0 24 (dk_at dksX1_note_1 3 rfl rfl)
theorem dX1_note_30 : decode cX1_note 30 = .ok (.aload_n 1, 1) := dk_43 (dk_at dksX1_note_1 6 rfl rfl)
theorem dX1_note_31 : decode cX1_note 31 = .ok (.checkcast 390, 3) := dk_192 1 134 (dk_at dksX1_note_1 7 rfl rfl)
theorem dX1_note_34 : decode cX1_note 34 = .ok (.astore_n 3, 1) := dk_78 (dk_at dksX1_note_1 10 rfl rfl)
theorem dX1_note_35 : decode cX1_note 35 = .ok (.aload_n 0, 1) := dk_42 (dk_at dksX1_note_1 11 rfl rfl)
theorem dX1_note_36 : decode cX1_note 36 = .ok (.aload_n 3, 1) := dk_45 (dk_at dksX1_note_1 12 rfl rfl)
theorem dX1_note_37 : decode cX1_note 37 = .ok (.invokevirtual 400, 3) := dk_182 1 144 (dk_at dksX1_note_1 13 rfl rfl)
theorem dX1_note_40 : decode cX1_note 40 = .ok (.putfield 50, 3) := dk_181 0 50 (dk_at dksX1_note_1 16 rfl rfl)
theorem dX1_note_43 : decode cX1_note 43 = .ok (.aload_n 0, 1) := dk_42 (dk_at dksX1_note_1 19 rfl rfl)
theorem dX1_note_44 : decode cX1_note 44 = .ok (.aload_n 3, 1) := dk_45 (dk_at dksX1_note_1 20 rfl rfl)
theorem dX1_note_45 : decode cX1_note 45 = .ok (.invokevirtual 403, 3) := dk_182 1 147 (dk_at dksX1_note_1 21 rfl rfl)
theorem dX1_note_48 : decode cX1_note 48 = .ok (.putfield 407, 3) := dk_181 1 151 (dk_at dksX1_note_2 0 rfl rfl)
theorem dX1_note_51 : decode cX1_note 51 = .ok (.return_, 1) := dk_177 (dk_at dksX1_note_2 3 rfl rfl)
abbrev cX1_errorPosition : ByteArray := prog_1_method_76_code
def yX1_errorPosition : MethodName := ⟨RX1, "errorPosition", "()I"⟩
def dkwX1_errorPosition_0 : List UInt8 := [42, 180, 0, 46, 184, 0, 172, 172]
abbrev dktX1_errorPosition_0 : List UInt8 := dkwX1_errorPosition_0 ++ []
theorem dksX1_errorPosition_0 : cX1_errorPosition.data.toList.drop 0 = dktX1_errorPosition_0 := by decide +kernel
theorem dX1_errorPosition_0 : decode cX1_errorPosition 0 = .ok (.aload_n 0, 1) := dk_42 (dk_at dksX1_errorPosition_0 0 rfl rfl)
theorem dX1_errorPosition_1 : decode cX1_errorPosition 1 = .ok (.getfield 46, 3) := dk_180 0 46 (dk_at dksX1_errorPosition_0 1 rfl rfl)
theorem dX1_errorPosition_4 : decode cX1_errorPosition 4 = .ok (.invokestatic 172, 3) := dk_184 0 172 (dk_at dksX1_errorPosition_0 4 rfl rfl)
theorem dX1_errorPosition_7 : decode cX1_errorPosition 7 = .ok (.ireturn, 1) := dk_172 (dk_at dksX1_errorPosition_0 7 rfl rfl)
abbrev cX1_failedCommand : ByteArray := prog_1_method_77_code
def yX1_failedCommand : MethodName := ⟨RX1, "failedCommand", "()I"⟩
def dkwX1_failedCommand_0 : List UInt8 := [42, 180, 0, 50, 184, 0, 172, 172]
abbrev dktX1_failedCommand_0 : List UInt8 := dkwX1_failedCommand_0 ++ []
theorem dksX1_failedCommand_0 : cX1_failedCommand.data.toList.drop 0 = dktX1_failedCommand_0 := by decide +kernel
theorem dX1_failedCommand_0 : decode cX1_failedCommand 0 = .ok (.aload_n 0, 1) := dk_42 (dk_at dksX1_failedCommand_0 0 rfl rfl)
theorem dX1_failedCommand_1 : decode cX1_failedCommand 1 = .ok (.getfield 50, 3) := dk_180 0 50 (dk_at dksX1_failedCommand_0 1 rfl rfl)
theorem dX1_failedCommand_4 : decode cX1_failedCommand 4 = .ok (.invokestatic 172, 3) := dk_184 0 172 (dk_at dksX1_failedCommand_0 4 rfl rfl)
theorem dX1_failedCommand_7 : decode cX1_failedCommand 7 = .ok (.ireturn, 1) := dk_172 (dk_at dksX1_failedCommand_0 7 rfl rfl)
abbrev cX1_failureKind : ByteArray := prog_1_method_78_code
def yX1_failureKind : MethodName := ⟨RX1, "failureKind", "()C"⟩
def dkwX1_failureKind_0 : List UInt8 := [42, 180, 0, 50, 184, 0, 172, 87, 42, 180, 1, 151, 172]
abbrev dktX1_failureKind_0 : List UInt8 := dkwX1_failureKind_0 ++ []
theorem dksX1_failureKind_0 : cX1_failureKind.data.toList.drop 0 = dktX1_failureKind_0 := by decide +kernel
theorem dX1_failureKind_0 : decode cX1_failureKind 0 = .ok (.aload_n 0, 1) := dk_42 (dk_at dksX1_failureKind_0 0 rfl rfl)
theorem dX1_failureKind_1 : decode cX1_failureKind 1 = .ok (.getfield 50, 3) := dk_180 0 50 (dk_at dksX1_failureKind_0 1 rfl rfl)
theorem dX1_failureKind_4 : decode cX1_failureKind 4 = .ok (.invokestatic 172, 3) := dk_184 0 172 (dk_at dksX1_failureKind_0 4 rfl rfl)
theorem dX1_failureKind_7 : decode cX1_failureKind 7 = .ok (.pop, 1) := dk_87 (dk_at dksX1_failureKind_0 7 rfl rfl)
theorem dX1_failureKind_8 : decode cX1_failureKind 8 = .ok (.aload_n 0, 1) := dk_42 (dk_at dksX1_failureKind_0 8 rfl rfl)
theorem dX1_failureKind_9 : decode cX1_failureKind 9 = .ok (.getfield 407, 3) := dk_180 1 151 (dk_at dksX1_failureKind_0 9 rfl rfl)
theorem dX1_failureKind_12 : decode cX1_failureKind 12 = .ok (.ireturn, 1) := dk_172 (dk_at dksX1_failureKind_0 12 rfl rfl)
abbrev cX1_undo : ByteArray := prog_1_method_79_code
def yX1_undo : MethodName := ⟨RX1, "undo", "()I"⟩
def dkwX1_undo_1 : List UInt8 := [182, 1, 182, 192, 0, 25, 181, 0, 28, 42, 180, 0, 35, 182, 0, 59, 172]
abbrev dktX1_undo_1 : List UInt8 := dkwX1_undo_1 ++ []
def dkwX1_undo_0 : List UInt8 := [42, 180, 0, 35, 182, 1, 179, 154, 0, 7, 4, 167, 0, 4, 3, 184, 0, 122, 42, 42, 180, 0, 35]
abbrev dktX1_undo_0 : List UInt8 := dkwX1_undo_0 ++ dktX1_undo_1
theorem dksX1_undo_0 : cX1_undo.data.toList.drop 0 = dktX1_undo_0 := by decide +kernel
theorem dksX1_undo_1 : cX1_undo.data.toList.drop 23 = dktX1_undo_1 := dk_seg dksX1_undo_0 23 rfl rfl
theorem dX1_undo_0 : decode cX1_undo 0 = .ok (.aload_n 0, 1) := dk_42 (dk_at dksX1_undo_0 0 rfl rfl)
theorem dX1_undo_1 : decode cX1_undo 1 = .ok (.getfield 35, 3) := dk_180 0 35 (dk_at dksX1_undo_0 1 rfl rfl)
theorem dX1_undo_4 : decode cX1_undo 4 = .ok (.invokevirtual 435, 3) := dk_182 1 179 (dk_at dksX1_undo_0 4 rfl rfl)
theorem dX1_undo_7 : decode cX1_undo 7 = .ok (.ifCond .ne 7, 3) := dk_154 0 7 (dk_at dksX1_undo_0 7 rfl rfl)
theorem dX1_undo_10 : decode cX1_undo 10 = .ok (.iconst 1, 1) := dk_4 (dk_at dksX1_undo_0 10 rfl rfl)
theorem dX1_undo_11 : decode cX1_undo 11 = .ok (.goto 4, 3) := dk_167 0 4 (dk_at dksX1_undo_0 11 rfl rfl)
theorem dX1_undo_14 : decode cX1_undo 14 = .ok (.iconst 0, 1) := dk_3 (dk_at dksX1_undo_0 14 rfl rfl)
theorem dX1_undo_15 : decode cX1_undo 15 = .ok (.invokestatic 122, 3) := dk_184 0 122 (dk_at dksX1_undo_0 15 rfl rfl)
theorem dX1_undo_18 : decode cX1_undo 18 = .ok (.aload_n 0, 1) := dk_42 (dk_at dksX1_undo_0 18 rfl rfl)
theorem dX1_undo_19 : decode cX1_undo 19 = .ok (.aload_n 0, 1) := dk_42 (dk_at dksX1_undo_0 19 rfl rfl)
theorem dX1_undo_20 : decode cX1_undo 20 = .ok (.getfield 35, 3) := dk_180 0 35 (dk_at dksX1_undo_0 20 rfl rfl)
theorem dX1_undo_23 : decode cX1_undo 23 = .ok (.invokevirtual 438, 3) := dk_182 1 182 (dk_at dksX1_undo_1 0 rfl rfl)
theorem dX1_undo_26 : decode cX1_undo 26 = .ok (.checkcast 25, 3) := dk_192 0 25 (dk_at dksX1_undo_1 3 rfl rfl)
theorem dX1_undo_29 : decode cX1_undo 29 = .ok (.putfield 28, 3) := dk_181 0 28 (dk_at dksX1_undo_1 6 rfl rfl)
theorem dX1_undo_32 : decode cX1_undo 32 = .ok (.aload_n 0, 1) := dk_42 (dk_at dksX1_undo_1 9 rfl rfl)
theorem dX1_undo_33 : decode cX1_undo 33 = .ok (.getfield 35, 3) := dk_180 0 35 (dk_at dksX1_undo_1 10 rfl rfl)
theorem dX1_undo_36 : decode cX1_undo 36 = .ok (.invokevirtual 59, 3) := dk_182 0 59 (dk_at dksX1_undo_1 13 rfl rfl)
theorem dX1_undo_39 : decode cX1_undo 39 = .ok (.ireturn, 1) := dk_172 (dk_at dksX1_undo_1 16 rfl rfl)
abbrev cX1_restore : ByteArray := prog_1_method_81_code
def yX1_restore : MethodName := ⟨RX1, "restore", "()I"⟩
def dkwX1_restore_1 : List UInt8 := [180, 0, 35, 182, 1, 191, 42, 182, 1, 188, 172]
abbrev dktX1_restore_1 : List UInt8 := dkwX1_restore_1 ++ []
def dkwX1_restore_0 : List UInt8 := [42, 180, 1, 185, 198, 0, 7, 4, 167, 0, 4, 3, 184, 1, 122, 42, 42, 180, 1, 185, 181, 0, 28, 42]
abbrev dktX1_restore_0 : List UInt8 := dkwX1_restore_0 ++ dktX1_restore_1
theorem dksX1_restore_0 : cX1_restore.data.toList.drop 0 = dktX1_restore_0 := by decide +kernel
theorem dksX1_restore_1 : cX1_restore.data.toList.drop 24 = dktX1_restore_1 := dk_seg dksX1_restore_0 24 rfl rfl
theorem dX1_restore_0 : decode cX1_restore 0 = .ok (.aload_n 0, 1) := dk_42 (dk_at dksX1_restore_0 0 rfl rfl)
theorem dX1_restore_1 : decode cX1_restore 1 = .ok (.getfield 441, 3) := dk_180 1 185 (dk_at dksX1_restore_0 1 rfl rfl)
theorem dX1_restore_4 : decode cX1_restore 4 = .ok (.ifnull 7, 3) := dk_198 0 7 (dk_at dksX1_restore_0 4 rfl rfl)
theorem dX1_restore_7 : decode cX1_restore 7 = .ok (.iconst 1, 1) := dk_4 (dk_at dksX1_restore_0 7 rfl rfl)
theorem dX1_restore_8 : decode cX1_restore 8 = .ok (.goto 4, 3) := dk_167 0 4 (dk_at dksX1_restore_0 8 rfl rfl)
theorem dX1_restore_11 : decode cX1_restore 11 = .ok (.iconst 0, 1) := dk_3 (dk_at dksX1_restore_0 11 rfl rfl)
theorem dX1_restore_12 : decode cX1_restore 12 = .ok (.invokestatic 378, 3) := dk_184 1 122 (dk_at dksX1_restore_0 12 rfl rfl)
theorem dX1_restore_15 : decode cX1_restore 15 = .ok (.aload_n 0, 1) := dk_42 (dk_at dksX1_restore_0 15 rfl rfl)
theorem dX1_restore_16 : decode cX1_restore 16 = .ok (.aload_n 0, 1) := dk_42 (dk_at dksX1_restore_0 16 rfl rfl)
theorem dX1_restore_17 : decode cX1_restore 17 = .ok (.getfield 441, 3) := dk_180 1 185 (dk_at dksX1_restore_0 17 rfl rfl)
theorem dX1_restore_20 : decode cX1_restore 20 = .ok (.putfield 28, 3) := dk_181 0 28 (dk_at dksX1_restore_0 20 rfl rfl)
theorem dX1_restore_23 : decode cX1_restore 23 = .ok (.aload_n 0, 1) := dk_42 (dk_at dksX1_restore_0 23 rfl rfl)
theorem dX1_restore_24 : decode cX1_restore 24 = .ok (.getfield 35, 3) := dk_180 0 35 (dk_at dksX1_restore_1 0 rfl rfl)
theorem dX1_restore_27 : decode cX1_restore 27 = .ok (.invokevirtual 447, 3) := dk_182 1 191 (dk_at dksX1_restore_1 3 rfl rfl)
theorem dX1_restore_30 : decode cX1_restore 30 = .ok (.aload_n 0, 1) := dk_42 (dk_at dksX1_restore_1 6 rfl rfl)
theorem dX1_restore_31 : decode cX1_restore 31 = .ok (.invokevirtual 444, 3) := dk_182 1 188 (dk_at dksX1_restore_1 7 rfl rfl)
theorem dX1_restore_34 : decode cX1_restore 34 = .ok (.ireturn, 1) := dk_172 (dk_at dksX1_restore_1 10 rfl rfl)
theorem q125 : (Jvm.Cond.initialized "DoughLedger") ∈ lw_all := lw_g (lw_at lw_m1 1 rfl) rfl
theorem q195 : (Jvm.Cond.instantiable "DoughLedger" (8 : Nat)) ∈ lw_all := lw_g (lw_at lw_m1 71 rfl) rfl
theorem q197 : (Jvm.Cond.instanceMethod ({ cls := "DoughLedger", name := "<init>", desc := "()V" } : Jvm.MethodName)) ∈ lw_all := lw_g (lw_at lw_m1 73 rfl) rfl
theorem q198 : (Jvm.Cond.code ({ cls := "DoughLedger", name := "<init>", desc := "()V" } : Jvm.MethodName) prog_1_method_8_code (1 : Nat) (Option.none : Option Jvm.ClassFile.FieldType)) ∈ lw_all := lw_g (lw_at lw_m1 74 rfl) rfl
theorem q199 : (Jvm.Cond.methodLink "DoughLedger" (20 : Nat) ({ cls := "java/lang/Object", name := "<init>", desc := "()V" } : Jvm.MethodName)) ∈ lw_all := lw_g (lw_at lw_m1 75 rfl) rfl
theorem q202 : (Jvm.Cond.classLink "DoughLedger" (25 : Nat) "DoughLedger$Bakery") ∈ lw_all := lw_g (lw_at lw_m1 78 rfl) rfl
theorem q204 : (Jvm.Cond.methodLinkNest "DoughLedger" (27 : Nat) ({ cls := "DoughLedger$Bakery", name := "<init>", desc := "()V" } : Jvm.MethodName) "DoughLedger") ∈ lw_tbl := lw_at lw_m1 80 rfl
theorem q276 : (Jvm.Cond.fieldLinkNest "DoughLedger" (133 : Nat) "DoughLedger$Bakery" "doughs" "Ljava/util/TreeMap;" "DoughLedger") ∈ lw_tbl := lw_at lw_m1 152 rfl
theorem q278 : (Jvm.Cond.fieldLinkNest "DoughLedger" (207 : Nat) "DoughLedger$Bakery" "bowls" "Ljava/util/List;" "DoughLedger") ∈ lw_tbl := lw_at lw_m1 154 rfl
theorem q280 : (Jvm.Cond.fieldLinkNest "DoughLedger" (238 : Nat) "DoughLedger$Bakery" "loaves" "Ljava/util/List;" "DoughLedger") ∈ lw_tbl := lw_at lw_m1 156 rfl
theorem q284 : (Jvm.Cond.fieldLinkNest "DoughLedger" (275 : Nat) "DoughLedger$Bakery" "ovens" "I" "DoughLedger") ∈ lw_tbl := lw_at lw_m1 160 rfl
theorem q286 : (Jvm.Cond.fieldLinkNest "DoughLedger" (293 : Nat) "DoughLedger$Bakery" "poured" "J" "DoughLedger") ∈ lw_tbl := lw_at lw_m1 162 rfl
theorem q288 : (Jvm.Cond.fieldLinkNest "DoughLedger" (296 : Nat) "DoughLedger$Bakery" "spilled" "J" "DoughLedger") ∈ lw_tbl := lw_at lw_m1 164 rfl
theorem q290 : (Jvm.Cond.fieldLinkNest "DoughLedger" (299 : Nat) "DoughLedger$Bakery" "gone" "J" "DoughLedger") ∈ lw_tbl := lw_at lw_m1 166 rfl
theorem q292 : (Jvm.Cond.fieldLinkNest "DoughLedger" (308 : Nat) "DoughLedger$Bakery" "error" "J" "DoughLedger") ∈ lw_tbl := lw_at lw_m1 168 rfl
theorem q294 : (Jvm.Cond.fieldLinkNest "DoughLedger" (311 : Nat) "DoughLedger$Bakery" "exact" "J" "DoughLedger") ∈ lw_tbl := lw_at lw_m1 170 rfl
theorem q318 : (Jvm.Cond.classLink "DoughLedger" (32 : Nat) "java/util/LinkedList") ∈ lw_all := lw_g (lw_at lw_m1 194 rfl) rfl
theorem q320 : (Jvm.Cond.methodLink "DoughLedger" (34 : Nat) ({ cls := "java/util/LinkedList", name := "<init>", desc := "()V" } : Jvm.MethodName)) ∈ lw_all := lw_g (lw_at lw_m1 196 rfl) rfl
theorem q339 : (Jvm.Cond.classLink "DoughLedger" (39 : Nat) "java/lang/StringBuilder") ∈ lw_all := lw_g (lw_at lw_m1 215 rfl) rfl
theorem q341 : (Jvm.Cond.methodLink "DoughLedger" (41 : Nat) ({ cls := "java/lang/StringBuilder", name := "<init>", desc := "()V" } : Jvm.MethodName)) ∈ lw_all := lw_g (lw_at lw_m1 217 rfl) rfl
theorem q372 : (Jvm.Cond.stringRef "DoughLedger" (53 : Nat) "") ∈ lw_tbl := lw_at lw_m2 8 rfl
theorem q373 : (Jvm.Cond.fieldLink "DoughLedger" (28 : Nat) "DoughLedger" "bakery" "LDoughLedger$Bakery;") ∈ lw_all := lw_g (lw_at lw_m2 9 rfl) rfl
theorem q374 : (Jvm.Cond.fieldLink "DoughLedger" (441 : Nat) "DoughLedger" "snapshot" "LDoughLedger$Bakery;") ∈ lw_all := lw_g (lw_at lw_m2 10 rfl) rfl
theorem q375 : (Jvm.Cond.fieldLink "DoughLedger" (35 : Nat) "DoughLedger" "history" "Ljava/util/LinkedList;") ∈ lw_all := lw_g (lw_at lw_m2 11 rfl) rfl
theorem q376 : (Jvm.Cond.fieldLink "DoughLedger" (42 : Nat) "DoughLedger" "script" "Ljava/lang/StringBuilder;") ∈ lw_all := lw_g (lw_at lw_m2 12 rfl) rfl
theorem q377 : (Jvm.Cond.fieldLink "DoughLedger" (46 : Nat) "DoughLedger" "errorPosition" "I") ∈ lw_all := lw_g (lw_at lw_m2 13 rfl) rfl
theorem q378 : (Jvm.Cond.fieldLink "DoughLedger" (50 : Nat) "DoughLedger" "failedCommand" "I") ∈ lw_all := lw_g (lw_at lw_m2 14 rfl) rfl
theorem q379 : (Jvm.Cond.fieldLink "DoughLedger" (407 : Nat) "DoughLedger" "failureKind" "C") ∈ lw_all := lw_g (lw_at lw_m2 15 rfl) rfl
theorem q380 : (Jvm.Cond.fieldLink "DoughLedger" (55 : Nat) "DoughLedger" "output" "Ljava/lang/String;") ∈ lw_all := lw_g (lw_at lw_m2 16 rfl) rfl
theorem q381 : (Jvm.Cond.lays "DoughLedger" "DoughLedger" "bakery" "LDoughLedger$Bakery;") ∈ lw_all := lw_g (lw_at lw_m2 17 rfl) rfl
theorem q382 : (Jvm.Cond.soleField "DoughLedger" "bakery") ∈ lw_all := lw_g (lw_at lw_m2 18 rfl) rfl
theorem q383 : (Jvm.Cond.lays "DoughLedger" "DoughLedger" "snapshot" "LDoughLedger$Bakery;") ∈ lw_all := lw_g (lw_at lw_m2 19 rfl) rfl
theorem q384 : (Jvm.Cond.soleField "DoughLedger" "snapshot") ∈ lw_all := lw_g (lw_at lw_m2 20 rfl) rfl
theorem q385 : (Jvm.Cond.laysFinal "DoughLedger" "DoughLedger" "history" "Ljava/util/LinkedList;") ∈ lw_all := lw_g (lw_at lw_m2 21 rfl) rfl
theorem q386 : (Jvm.Cond.soleField "DoughLedger" "history") ∈ lw_all := lw_g (lw_at lw_m2 22 rfl) rfl
theorem q387 : (Jvm.Cond.laysFinal "DoughLedger" "DoughLedger" "script" "Ljava/lang/StringBuilder;") ∈ lw_all := lw_g (lw_at lw_m2 23 rfl) rfl
theorem q388 : (Jvm.Cond.soleField "DoughLedger" "script") ∈ lw_all := lw_g (lw_at lw_m2 24 rfl) rfl
theorem q389 : (Jvm.Cond.lays "DoughLedger" "DoughLedger" "errorPosition" "I") ∈ lw_all := lw_g (lw_at lw_m2 25 rfl) rfl
theorem q390 : (Jvm.Cond.soleField "DoughLedger" "errorPosition") ∈ lw_all := lw_g (lw_at lw_m2 26 rfl) rfl
theorem q391 : (Jvm.Cond.lays "DoughLedger" "DoughLedger" "failedCommand" "I") ∈ lw_all := lw_g (lw_at lw_m2 27 rfl) rfl
theorem q392 : (Jvm.Cond.soleField "DoughLedger" "failedCommand") ∈ lw_all := lw_g (lw_at lw_m2 28 rfl) rfl
theorem q393 : (Jvm.Cond.lays "DoughLedger" "DoughLedger" "failureKind" "C") ∈ lw_all := lw_g (lw_at lw_m2 29 rfl) rfl
theorem q394 : (Jvm.Cond.soleField "DoughLedger" "failureKind") ∈ lw_all := lw_g (lw_at lw_m2 30 rfl) rfl
theorem q395 : (Jvm.Cond.lays "DoughLedger" "DoughLedger" "output" "Ljava/lang/String;") ∈ lw_all := lw_g (lw_at lw_m2 31 rfl) rfl
theorem q396 : (Jvm.Cond.soleField "DoughLedger" "output") ∈ lw_all := lw_g (lw_at lw_m2 32 rfl) rfl
theorem q397 : (Jvm.Cond.superclass "DoughLedger" "java/lang/Object") ∈ lw_all := lw_g (lw_at lw_m2 33 rfl) rfl
theorem q399 : (Jvm.Cond.instanceMethod ({ cls := "DoughLedger", name := "doughCount", desc := "()I" } : Jvm.MethodName)) ∈ lw_all := lw_g (lw_at lw_m2 35 rfl) rfl
theorem q400 : (Jvm.Cond.selects "DoughLedger" ({ cls := "DoughLedger", name := "doughCount", desc := "()I" } : Jvm.MethodName) ({ cls := "DoughLedger", name := "doughCount", desc := "()I" } : Jvm.MethodName)) ∈ lw_all := lw_g (lw_at lw_m2 36 rfl) rfl
theorem q401 : (Jvm.Cond.code ({ cls := "DoughLedger", name := "doughCount", desc := "()I" } : Jvm.MethodName) prog_1_method_28_code (1 : Nat) (Option.some Jvm.ClassFile.FieldType.int)) ∈ lw_all := lw_g (lw_at lw_m2 37 rfl) rfl
theorem q402 : (Jvm.Cond.methodLink "DoughLedger" (151 : Nat) ({ cls := "java/util/TreeMap", name := "size", desc := "()I" } : Jvm.MethodName)) ∈ lw_all := lw_g (lw_at lw_m2 38 rfl) rfl
theorem q407 : (Jvm.Cond.instanceMethod ({ cls := "DoughLedger", name := "bowlCount", desc := "()I" } : Jvm.MethodName)) ∈ lw_all := lw_g (lw_at lw_m2 43 rfl) rfl
theorem q408 : (Jvm.Cond.selects "DoughLedger" ({ cls := "DoughLedger", name := "bowlCount", desc := "()I" } : Jvm.MethodName) ({ cls := "DoughLedger", name := "bowlCount", desc := "()I" } : Jvm.MethodName)) ∈ lw_all := lw_g (lw_at lw_m2 44 rfl) rfl
theorem q409 : (Jvm.Cond.code ({ cls := "DoughLedger", name := "bowlCount", desc := "()I" } : Jvm.MethodName) prog_1_method_39_code (1 : Nat) (Option.some Jvm.ClassFile.FieldType.int)) ∈ lw_all := lw_g (lw_at lw_m2 45 rfl) rfl
theorem q410 : (Jvm.Cond.interfaceEntry "DoughLedger" (218 : Nat)) ∈ lw_tbl := lw_at lw_m2 46 rfl
theorem q411 : (Jvm.Cond.methodLink "DoughLedger" (218 : Nat) ({ cls := "java/util/List", name := "size", desc := "()I" } : Jvm.MethodName)) ∈ lw_all := lw_g (lw_at lw_m2 47 rfl) rfl
theorem q427 : (Jvm.Cond.instanceMethod ({ cls := "DoughLedger", name := "loafCount", desc := "()I" } : Jvm.MethodName)) ∈ lw_all := lw_g (lw_at lw_m2 63 rfl) rfl
theorem q428 : (Jvm.Cond.selects "DoughLedger" ({ cls := "DoughLedger", name := "loafCount", desc := "()I" } : Jvm.MethodName) ({ cls := "DoughLedger", name := "loafCount", desc := "()I" } : Jvm.MethodName)) ∈ lw_all := lw_g (lw_at lw_m2 64 rfl) rfl
theorem q429 : (Jvm.Cond.code ({ cls := "DoughLedger", name := "loafCount", desc := "()I" } : Jvm.MethodName) prog_1_method_45_code (1 : Nat) (Option.some Jvm.ClassFile.FieldType.int)) ∈ lw_all := lw_g (lw_at lw_m2 65 rfl) rfl
theorem q431 : (Jvm.Cond.instanceMethod ({ cls := "DoughLedger", name := "ovens", desc := "()I" } : Jvm.MethodName)) ∈ lw_all := lw_g (lw_at lw_m2 67 rfl) rfl
theorem q432 : (Jvm.Cond.selects "DoughLedger" ({ cls := "DoughLedger", name := "ovens", desc := "()I" } : Jvm.MethodName) ({ cls := "DoughLedger", name := "ovens", desc := "()I" } : Jvm.MethodName)) ∈ lw_all := lw_g (lw_at lw_m2 68 rfl) rfl
theorem q433 : (Jvm.Cond.code ({ cls := "DoughLedger", name := "ovens", desc := "()I" } : Jvm.MethodName) prog_1_method_53_code (1 : Nat) (Option.some Jvm.ClassFile.FieldType.int)) ∈ lw_all := lw_g (lw_at lw_m2 69 rfl) rfl
theorem q435 : (Jvm.Cond.instanceMethod ({ cls := "DoughLedger", name := "shortestTime", desc := "()I" } : Jvm.MethodName)) ∈ lw_all := lw_g (lw_at lw_m2 71 rfl) rfl
theorem q436 : (Jvm.Cond.selects "DoughLedger" ({ cls := "DoughLedger", name := "shortestTime", desc := "()I" } : Jvm.MethodName) ({ cls := "DoughLedger", name := "shortestTime", desc := "()I" } : Jvm.MethodName)) ∈ lw_all := lw_g (lw_at lw_m2 72 rfl) rfl
theorem q437 : (Jvm.Cond.code ({ cls := "DoughLedger", name := "shortestTime", desc := "()I" } : Jvm.MethodName) prog_1_method_54_code (1 : Nat) (Option.some Jvm.ClassFile.FieldType.int)) ∈ lw_all := lw_g (lw_at lw_m2 73 rfl) rfl
theorem q438 : (Jvm.Cond.methodLink "DoughLedger" (278 : Nat) ({ cls := "DoughLedger$Bakery", name := "baking", desc := "()LDoughLedger$Baking;" } : Jvm.MethodName)) ∈ lw_all := lw_g (lw_at lw_m2 74 rfl) rfl
theorem q455 : (Jvm.Cond.methodLink "DoughLedger" (282 : Nat) ({ cls := "DoughLedger$Baking", name := "shortest", desc := "()I" } : Jvm.MethodName)) ∈ lw_all := lw_g (lw_at lw_m2 91 rfl) rfl
theorem q820 : (Jvm.Cond.instanceMethod ({ cls := "DoughLedger", name := "shortestTimeByDeciding", desc := "()I" } : Jvm.MethodName)) ∈ lw_all := lw_g (lw_at lw_m3 216 rfl) rfl
theorem q821 : (Jvm.Cond.selects "DoughLedger" ({ cls := "DoughLedger", name := "shortestTimeByDeciding", desc := "()I" } : Jvm.MethodName) ({ cls := "DoughLedger", name := "shortestTimeByDeciding", desc := "()I" } : Jvm.MethodName)) ∈ lw_all := lw_g (lw_at lw_m3 217 rfl) rfl
theorem q822 : (Jvm.Cond.code ({ cls := "DoughLedger", name := "shortestTimeByDeciding", desc := "()I" } : Jvm.MethodName) prog_1_method_55_code (1 : Nat) (Option.some Jvm.ClassFile.FieldType.int)) ∈ lw_all := lw_g (lw_at lw_m3 218 rfl) rfl
theorem q823 : (Jvm.Cond.methodLink "DoughLedger" (287 : Nat) ({ cls := "DoughLedger$Baking", name := "shortestByDeciding", desc := "()I" } : Jvm.MethodName)) ∈ lw_all := lw_g (lw_at lw_m3 219 rfl) rfl
theorem q833 : (Jvm.Cond.instanceMethod ({ cls := "DoughLedger", name := "greedyTime", desc := "()I" } : Jvm.MethodName)) ∈ lw_all := lw_g (lw_at lw_m3 229 rfl) rfl
theorem q834 : (Jvm.Cond.selects "DoughLedger" ({ cls := "DoughLedger", name := "greedyTime", desc := "()I" } : Jvm.MethodName) ({ cls := "DoughLedger", name := "greedyTime", desc := "()I" } : Jvm.MethodName)) ∈ lw_all := lw_g (lw_at lw_m3 230 rfl) rfl
theorem q835 : (Jvm.Cond.code ({ cls := "DoughLedger", name := "greedyTime", desc := "()I" } : Jvm.MethodName) prog_1_method_56_code (1 : Nat) (Option.some Jvm.ClassFile.FieldType.int)) ∈ lw_all := lw_g (lw_at lw_m3 231 rfl) rfl
theorem q836 : (Jvm.Cond.methodLink "DoughLedger" (290 : Nat) ({ cls := "DoughLedger$Baking", name := "greedy", desc := "()I" } : Jvm.MethodName)) ∈ lw_all := lw_g (lw_at lw_m3 232 rfl) rfl
theorem q919 : (Jvm.Cond.selects "DoughLedger" ({ cls := "java/lang/Object", name := "getClass", desc := "()Ljava/lang/Class;" } : Jvm.MethodName) ({ cls := "java/lang/Object", name := "getClass", desc := "()Ljava/lang/Class;" } : Jvm.MethodName)) ∈ lw_all := lw_g (lw_at lw_m4 75 rfl) rfl
theorem q1622 : (Jvm.Cond.instanceMethod ({ cls := "DoughLedger", name := "pouredTotal", desc := "()J" } : Jvm.MethodName)) ∈ lw_all := lw_g (lw_at lw_m7 58 rfl) rfl
theorem q1623 : (Jvm.Cond.selects "DoughLedger" ({ cls := "DoughLedger", name := "pouredTotal", desc := "()J" } : Jvm.MethodName) ({ cls := "DoughLedger", name := "pouredTotal", desc := "()J" } : Jvm.MethodName)) ∈ lw_all := lw_g (lw_at lw_m7 59 rfl) rfl
theorem q1624 : (Jvm.Cond.code ({ cls := "DoughLedger", name := "pouredTotal", desc := "()J" } : Jvm.MethodName) prog_1_method_57_code (1 : Nat) (Option.some Jvm.ClassFile.FieldType.long)) ∈ lw_all := lw_g (lw_at lw_m7 60 rfl) rfl
theorem q1626 : (Jvm.Cond.instanceMethod ({ cls := "DoughLedger", name := "spilledTotal", desc := "()J" } : Jvm.MethodName)) ∈ lw_all := lw_g (lw_at lw_m7 62 rfl) rfl
theorem q1627 : (Jvm.Cond.selects "DoughLedger" ({ cls := "DoughLedger", name := "spilledTotal", desc := "()J" } : Jvm.MethodName) ({ cls := "DoughLedger", name := "spilledTotal", desc := "()J" } : Jvm.MethodName)) ∈ lw_all := lw_g (lw_at lw_m7 63 rfl) rfl
theorem q1628 : (Jvm.Cond.code ({ cls := "DoughLedger", name := "spilledTotal", desc := "()J" } : Jvm.MethodName) prog_1_method_58_code (1 : Nat) (Option.some Jvm.ClassFile.FieldType.long)) ∈ lw_all := lw_g (lw_at lw_m7 64 rfl) rfl
theorem q1630 : (Jvm.Cond.instanceMethod ({ cls := "DoughLedger", name := "goneTotal", desc := "()J" } : Jvm.MethodName)) ∈ lw_all := lw_g (lw_at lw_m7 66 rfl) rfl
theorem q1631 : (Jvm.Cond.selects "DoughLedger" ({ cls := "DoughLedger", name := "goneTotal", desc := "()J" } : Jvm.MethodName) ({ cls := "DoughLedger", name := "goneTotal", desc := "()J" } : Jvm.MethodName)) ∈ lw_all := lw_g (lw_at lw_m7 67 rfl) rfl
theorem q1632 : (Jvm.Cond.code ({ cls := "DoughLedger", name := "goneTotal", desc := "()J" } : Jvm.MethodName) prog_1_method_59_code (1 : Nat) (Option.some Jvm.ClassFile.FieldType.long)) ∈ lw_all := lw_g (lw_at lw_m7 68 rfl) rfl
theorem q1634 : (Jvm.Cond.instanceMethod ({ cls := "DoughLedger", name := "crumbsNow", desc := "()I" } : Jvm.MethodName)) ∈ lw_all := lw_g (lw_at lw_m7 70 rfl) rfl
theorem q1635 : (Jvm.Cond.selects "DoughLedger" ({ cls := "DoughLedger", name := "crumbsNow", desc := "()I" } : Jvm.MethodName) ({ cls := "DoughLedger", name := "crumbsNow", desc := "()I" } : Jvm.MethodName)) ∈ lw_all := lw_g (lw_at lw_m7 71 rfl) rfl
theorem q1636 : (Jvm.Cond.code ({ cls := "DoughLedger", name := "crumbsNow", desc := "()I" } : Jvm.MethodName) prog_1_method_60_code (1 : Nat) (Option.some Jvm.ClassFile.FieldType.int)) ∈ lw_all := lw_g (lw_at lw_m7 72 rfl) rfl
theorem q1637 : (Jvm.Cond.methodLink "DoughLedger" (302 : Nat) ({ cls := "DoughLedger$Bakery", name := "crumbs", desc := "()I" } : Jvm.MethodName)) ∈ lw_all := lw_g (lw_at lw_m7 73 rfl) rfl
theorem q1650 : (Jvm.Cond.instanceMethod ({ cls := "DoughLedger", name := "crumbsByAccounts", desc := "()J" } : Jvm.MethodName)) ∈ lw_all := lw_g (lw_at lw_m7 86 rfl) rfl
theorem q1651 : (Jvm.Cond.selects "DoughLedger" ({ cls := "DoughLedger", name := "crumbsByAccounts", desc := "()J" } : Jvm.MethodName) ({ cls := "DoughLedger", name := "crumbsByAccounts", desc := "()J" } : Jvm.MethodName)) ∈ lw_all := lw_g (lw_at lw_m7 87 rfl) rfl
theorem q1652 : (Jvm.Cond.code ({ cls := "DoughLedger", name := "crumbsByAccounts", desc := "()J" } : Jvm.MethodName) prog_1_method_61_code (1 : Nat) (Option.some Jvm.ClassFile.FieldType.long)) ∈ lw_all := lw_g (lw_at lw_m7 88 rfl) rfl
theorem q1653 : (Jvm.Cond.methodLink "DoughLedger" (304 : Nat) ({ cls := "DoughLedger$Bakery", name := "crumbsByAccounts", desc := "()J" } : Jvm.MethodName)) ∈ lw_all := lw_g (lw_at lw_m7 89 rfl) rfl
theorem q1658 : (Jvm.Cond.instanceMethod ({ cls := "DoughLedger", name := "errorTotal", desc := "()J" } : Jvm.MethodName)) ∈ lw_all := lw_g (lw_at lw_m7 94 rfl) rfl
theorem q1659 : (Jvm.Cond.selects "DoughLedger" ({ cls := "DoughLedger", name := "errorTotal", desc := "()J" } : Jvm.MethodName) ({ cls := "DoughLedger", name := "errorTotal", desc := "()J" } : Jvm.MethodName)) ∈ lw_all := lw_g (lw_at lw_m7 95 rfl) rfl
theorem q1660 : (Jvm.Cond.code ({ cls := "DoughLedger", name := "errorTotal", desc := "()J" } : Jvm.MethodName) prog_1_method_62_code (1 : Nat) (Option.some Jvm.ClassFile.FieldType.long)) ∈ lw_all := lw_g (lw_at lw_m7 96 rfl) rfl
theorem q1662 : (Jvm.Cond.instanceMethod ({ cls := "DoughLedger", name := "errorByAccounts", desc := "()J" } : Jvm.MethodName)) ∈ lw_all := lw_g (lw_at lw_m7 98 rfl) rfl
theorem q1663 : (Jvm.Cond.selects "DoughLedger" ({ cls := "DoughLedger", name := "errorByAccounts", desc := "()J" } : Jvm.MethodName) ({ cls := "DoughLedger", name := "errorByAccounts", desc := "()J" } : Jvm.MethodName)) ∈ lw_all := lw_g (lw_at lw_m7 99 rfl) rfl
theorem q1664 : (Jvm.Cond.code ({ cls := "DoughLedger", name := "errorByAccounts", desc := "()J" } : Jvm.MethodName) prog_1_method_63_code (1 : Nat) (Option.some Jvm.ClassFile.FieldType.long)) ∈ lw_all := lw_g (lw_at lw_m7 100 rfl) rfl
theorem q1665 : (Jvm.Cond.constantLong "DoughLedger" (314 : Nat) (27720 : Int64)) ∈ lw_all := lw_g (lw_at lw_m7 101 rfl) rfl
theorem q1667 : (Jvm.Cond.instanceMethod ({ cls := "DoughLedger", name := "isConsistent", desc := "()Z" } : Jvm.MethodName)) ∈ lw_all := lw_g (lw_at lw_m7 103 rfl) rfl
theorem q1668 : (Jvm.Cond.selects "DoughLedger" ({ cls := "DoughLedger", name := "isConsistent", desc := "()Z" } : Jvm.MethodName) ({ cls := "DoughLedger", name := "isConsistent", desc := "()Z" } : Jvm.MethodName)) ∈ lw_all := lw_g (lw_at lw_m7 104 rfl) rfl
theorem q1669 : (Jvm.Cond.code ({ cls := "DoughLedger", name := "isConsistent", desc := "()Z" } : Jvm.MethodName) prog_1_method_67_code (1 : Nat) (Option.some Jvm.ClassFile.FieldType.boolean)) ∈ lw_all := lw_g (lw_at lw_m7 105 rfl) rfl
theorem q1670 : (Jvm.Cond.methodLink "DoughLedger" (341 : Nat) ({ cls := "DoughLedger$Bakery", name := "isConsistent", desc := "()Z" } : Jvm.MethodName)) ∈ lw_all := lw_g (lw_at lw_m7 106 rfl) rfl
theorem q1818 : (Jvm.Cond.static ({ cls := "DoughLedger", name := "rounding", desc := "(C)LDoughLedger$Rounding;" } : Jvm.MethodName)) ∈ lw_all := lw_g (lw_at lw_m8 14 rfl) rfl
theorem q1819 : (Jvm.Cond.code ({ cls := "DoughLedger", name := "rounding", desc := "(C)LDoughLedger$Rounding;" } : Jvm.MethodName) prog_1_method_4_code (1 : Nat) (Option.some (Jvm.ClassFile.FieldType.object "DoughLedger$Rounding"))) ∈ lw_all := lw_g (lw_at lw_m8 15 rfl) rfl
theorem q1820 : (Jvm.Cond.static ({ cls := "DoughLedger", name := "lambda$rounding$0", desc := "(II)I" } : Jvm.MethodName)) ∈ lw_all := lw_g (lw_at lw_m8 16 rfl) rfl
theorem q1821 : (Jvm.Cond.code ({ cls := "DoughLedger", name := "lambda$rounding$0", desc := "(II)I" } : Jvm.MethodName) prog_1_method_96_code (2 : Nat) (Option.some Jvm.ClassFile.FieldType.int)) ∈ lw_all := lw_g (lw_at lw_m8 17 rfl) rfl
theorem q1822 : (Jvm.Cond.static ({ cls := "DoughLedger", name := "lambda$rounding$1", desc := "(II)I" } : Jvm.MethodName)) ∈ lw_all := lw_g (lw_at lw_m8 18 rfl) rfl
theorem q1823 : (Jvm.Cond.code ({ cls := "DoughLedger", name := "lambda$rounding$1", desc := "(II)I" } : Jvm.MethodName) prog_1_method_95_code (2 : Nat) (Option.some Jvm.ClassFile.FieldType.int)) ∈ lw_all := lw_g (lw_at lw_m8 19 rfl) rfl
theorem q1824 : (Jvm.Cond.static ({ cls := "DoughLedger", name := "lambda$rounding$2", desc := "(II)I" } : Jvm.MethodName)) ∈ lw_all := lw_g (lw_at lw_m8 20 rfl) rfl
theorem q1825 : (Jvm.Cond.code ({ cls := "DoughLedger", name := "lambda$rounding$2", desc := "(II)I" } : Jvm.MethodName) prog_1_method_94_code (2 : Nat) (Option.some Jvm.ClassFile.FieldType.int)) ∈ lw_all := lw_g (lw_at lw_m8 21 rfl) rfl
theorem q1826 : (Jvm.Cond.methodLink "DoughLedger" (483 : Nat) ({ cls := "DoughLedger", name := "nearest", desc := "(IIZ)I" } : Jvm.MethodName)) ∈ lw_all := lw_g (lw_at lw_m8 22 rfl) rfl
theorem q1827 : (Jvm.Cond.static ({ cls := "DoughLedger", name := "nearest", desc := "(IIZ)I" } : Jvm.MethodName)) ∈ lw_all := lw_g (lw_at lw_m8 23 rfl) rfl
theorem q1828 : (Jvm.Cond.code ({ cls := "DoughLedger", name := "nearest", desc := "(IIZ)I" } : Jvm.MethodName) prog_1_method_5_code (5 : Nat) (Option.some Jvm.ClassFile.FieldType.int)) ∈ lw_all := lw_g (lw_at lw_m8 24 rfl) rfl
theorem q1829 : (Jvm.Cond.static ({ cls := "DoughLedger", name := "lambda$rounding$3", desc := "(II)I" } : Jvm.MethodName)) ∈ lw_all := lw_g (lw_at lw_m8 25 rfl) rfl
theorem q1830 : (Jvm.Cond.code ({ cls := "DoughLedger", name := "lambda$rounding$3", desc := "(II)I" } : Jvm.MethodName) prog_1_method_93_code (2 : Nat) (Option.some Jvm.ClassFile.FieldType.int)) ∈ lw_all := lw_g (lw_at lw_m8 26 rfl) rfl
theorem q1836 : (Jvm.Cond.static ({ cls := "DoughLedger", name := "power", desc := "(I)I" } : Jvm.MethodName)) ∈ lw_all := lw_g (lw_at lw_m8 32 rfl) rfl
theorem q1837 : (Jvm.Cond.code ({ cls := "DoughLedger", name := "power", desc := "(I)I" } : Jvm.MethodName) prog_1_method_6_code (3 : Nat) (Option.some Jvm.ClassFile.FieldType.int)) ∈ lw_all := lw_g (lw_at lw_m8 33 rfl) rfl
theorem q1863 : (Jvm.Cond.fieldLinkNest "DoughLedger" (186 : Nat) "DoughLedger$Nearness" "below" "J" "DoughLedger") ∈ lw_tbl := lw_at lw_m8 59 rfl
theorem q2102 : (Jvm.Cond.instanceMethod ({ cls := "DoughLedger", name := "renderBowls", desc := "()I" } : Jvm.MethodName)) ∈ lw_all := lw_g (lw_at lw_m9 58 rfl) rfl
theorem q2103 : (Jvm.Cond.selects "DoughLedger" ({ cls := "DoughLedger", name := "renderBowls", desc := "()I" } : Jvm.MethodName) ({ cls := "DoughLedger", name := "renderBowls", desc := "()I" } : Jvm.MethodName)) ∈ lw_all := lw_g (lw_at lw_m9 59 rfl) rfl
theorem q2104 : (Jvm.Cond.code ({ cls := "DoughLedger", name := "renderBowls", desc := "()I" } : Jvm.MethodName) prog_1_method_70_code (1 : Nat) (Option.some Jvm.ClassFile.FieldType.int)) ∈ lw_all := lw_g (lw_at lw_m9 60 rfl) rfl
theorem q2105 : (Jvm.Cond.methodLink "DoughLedger" (370 : Nat) ({ cls := "DoughLedger$Bakery", name := "bowlsText", desc := "()Ljava/lang/String;" } : Jvm.MethodName)) ∈ lw_all := lw_g (lw_at lw_m9 61 rfl) rfl
theorem q2126 : (Jvm.Cond.methodLink "DoughLedger" (366 : Nat) ({ cls := "DoughLedger", name := "write", desc := "(Ljava/lang/String;)I" } : Jvm.MethodName)) ∈ lw_all := lw_g (lw_at lw_m9 82 rfl) rfl
theorem q2127 : (Jvm.Cond.privateMethod ({ cls := "DoughLedger", name := "write", desc := "(Ljava/lang/String;)I" } : Jvm.MethodName)) ∈ lw_tbl := lw_at lw_m9 83 rfl
theorem q2128 : (Jvm.Cond.instanceMethod ({ cls := "DoughLedger", name := "write", desc := "(Ljava/lang/String;)I" } : Jvm.MethodName)) ∈ lw_all := lw_g (lw_at lw_m9 84 rfl) rfl
theorem q2129 : (Jvm.Cond.code ({ cls := "DoughLedger", name := "write", desc := "(Ljava/lang/String;)I" } : Jvm.MethodName) prog_1_method_68_code (2 : Nat) (Option.some Jvm.ClassFile.FieldType.int)) ∈ lw_all := lw_g (lw_at lw_m9 85 rfl) rfl
theorem q2130 : (Jvm.Cond.methodLink "DoughLedger" (344 : Nat) ({ cls := "java/lang/String", name := "length", desc := "()I" } : Jvm.MethodName)) ∈ lw_all := lw_g (lw_at lw_m9 86 rfl) rfl
theorem q2132 : (Jvm.Cond.instanceMethod ({ cls := "DoughLedger", name := "save", desc := "()I" } : Jvm.MethodName)) ∈ lw_all := lw_g (lw_at lw_m9 88 rfl) rfl
theorem q2133 : (Jvm.Cond.selects "DoughLedger" ({ cls := "DoughLedger", name := "save", desc := "()I" } : Jvm.MethodName) ({ cls := "DoughLedger", name := "save", desc := "()I" } : Jvm.MethodName)) ∈ lw_all := lw_g (lw_at lw_m9 89 rfl) rfl
theorem q2134 : (Jvm.Cond.code ({ cls := "DoughLedger", name := "save", desc := "()I" } : Jvm.MethodName) prog_1_method_80_code (1 : Nat) (Option.some Jvm.ClassFile.FieldType.int)) ∈ lw_all := lw_g (lw_at lw_m9 90 rfl) rfl
theorem q2135 : (Jvm.Cond.methodLink "DoughLedger" (444 : Nat) ({ cls := "DoughLedger", name := "crumbsNow", desc := "()I" } : Jvm.MethodName)) ∈ lw_all := lw_g (lw_at lw_m9 91 rfl) rfl
theorem q2142 : (Jvm.Cond.instanceMethod ({ cls := "DoughLedger", name := "addDough", desc := "(II)I" } : Jvm.MethodName)) ∈ lw_all := lw_g (lw_at lw_m9 98 rfl) rfl
theorem q2143 : (Jvm.Cond.selects "DoughLedger" ({ cls := "DoughLedger", name := "addDough", desc := "(II)I" } : Jvm.MethodName) ({ cls := "DoughLedger", name := "addDough", desc := "(II)I" } : Jvm.MethodName)) ∈ lw_all := lw_g (lw_at lw_m9 99 rfl) rfl
theorem q2144 : (Jvm.Cond.code ({ cls := "DoughLedger", name := "addDough", desc := "(II)I" } : Jvm.MethodName) prog_1_method_11_code (3 : Nat) (Option.some Jvm.ClassFile.FieldType.int)) ∈ lw_all := lw_g (lw_at lw_m9 100 rfl) rfl
theorem q2145 : (Jvm.Cond.static ({ cls := "DoughLedger", name := "lambda$addDough$4", desc := "(IILDoughLedger$Bakery;)I" } : Jvm.MethodName)) ∈ lw_all := lw_g (lw_at lw_m9 101 rfl) rfl
theorem q2146 : (Jvm.Cond.code ({ cls := "DoughLedger", name := "lambda$addDough$4", desc := "(IILDoughLedger$Bakery;)I" } : Jvm.MethodName) prog_1_method_92_code (3 : Nat) (Option.some Jvm.ClassFile.FieldType.int)) ∈ lw_all := lw_g (lw_at lw_m9 102 rfl) rfl
theorem q2147 : (Jvm.Cond.methodLink "DoughLedger" (480 : Nat) ({ cls := "DoughLedger$Bakery", name := "addDough", desc := "(II)I" } : Jvm.MethodName)) ∈ lw_all := lw_g (lw_at lw_m9 103 rfl) rfl
theorem q2152 : (Jvm.Cond.static ({ cls := "DoughLedger", name := "isBetween", desc := "(III)Z" } : Jvm.MethodName)) ∈ lw_all := lw_g (lw_at lw_m9 108 rfl) rfl
theorem q2153 : (Jvm.Cond.code ({ cls := "DoughLedger", name := "isBetween", desc := "(III)Z" } : Jvm.MethodName) prog_1_method_2_code (3 : Nat) (Option.some Jvm.ClassFile.FieldType.boolean)) ∈ lw_all := lw_g (lw_at lw_m9 109 rfl) rfl
theorem q2155 : (Jvm.Cond.static ({ cls := "DoughLedger", name := "demand", desc := "(ZC)V" } : Jvm.MethodName)) ∈ lw_all := lw_g (lw_at lw_m9 111 rfl) rfl
theorem q2156 : (Jvm.Cond.code ({ cls := "DoughLedger", name := "demand", desc := "(ZC)V" } : Jvm.MethodName) prog_1_method_1_code (2 : Nat) (Option.none : Option Jvm.ClassFile.FieldType)) ∈ lw_all := lw_g (lw_at lw_m9 112 rfl) rfl
theorem q2157 : (Jvm.Cond.classLink "DoughLedger" (1 : Nat) "DoughLedger$ConditionFailure") ∈ lw_all := lw_g (lw_at lw_m9 113 rfl) rfl
theorem q2166 : (Jvm.Cond.methodLink "DoughLedger" (3 : Nat) ({ cls := "DoughLedger$ConditionFailure", name := "<init>", desc := "(C)V" } : Jvm.MethodName)) ∈ lw_all := lw_g (lw_at lw_m9 122 rfl) rfl
theorem q2190 : (Jvm.Cond.static ({ cls := "DoughLedger", name := "divisor", desc := "(II)I" } : Jvm.MethodName)) ∈ lw_all := lw_g (lw_at lw_m9 146 rfl) rfl
theorem q2191 : (Jvm.Cond.code ({ cls := "DoughLedger", name := "divisor", desc := "(II)I" } : Jvm.MethodName) prog_1_method_7_code (2 : Nat) (Option.some Jvm.ClassFile.FieldType.int)) ∈ lw_all := lw_g (lw_at lw_m9 147 rfl) rfl
theorem q2192 : (Jvm.Cond.methodLink "DoughLedger" (14 : Nat) ({ cls := "DoughLedger", name := "divisor", desc := "(II)I" } : Jvm.MethodName)) ∈ lw_all := lw_g (lw_at lw_m9 148 rfl) rfl
theorem q2196 : (Jvm.Cond.fieldLinkNest "DoughLedger" (156 : Nat) "DoughLedger$Fraction" "above" "I" "DoughLedger") ∈ lw_tbl := lw_at lw_m9 152 rfl
theorem q2199 : (Jvm.Cond.fieldLinkNest "DoughLedger" (159 : Nat) "DoughLedger$Fraction" "below" "I" "DoughLedger") ∈ lw_tbl := lw_at lw_m9 155 rfl
theorem q2206 : (Jvm.Cond.methodLink "DoughLedger" (92 : Nat) ({ cls := "DoughLedger", name := "change", desc := "(LDoughLedger$Step;)I" } : Jvm.MethodName)) ∈ lw_all := lw_g (lw_at lw_m9 162 rfl) rfl
theorem q2207 : (Jvm.Cond.privateMethod ({ cls := "DoughLedger", name := "change", desc := "(LDoughLedger$Step;)I" } : Jvm.MethodName)) ∈ lw_tbl := lw_at lw_m9 163 rfl
theorem q2208 : (Jvm.Cond.instanceMethod ({ cls := "DoughLedger", name := "change", desc := "(LDoughLedger$Step;)I" } : Jvm.MethodName)) ∈ lw_all := lw_g (lw_at lw_m9 164 rfl) rfl
theorem q2209 : (Jvm.Cond.codeWith ({ cls := "DoughLedger", name := "change", desc := "(LDoughLedger$Step;)I" } : Jvm.MethodName) prog_1_method_10_code (4 : Nat) (Option.some Jvm.ClassFile.FieldType.int) [((8 : Nat), (20 : Nat), (21 : Nat), (1 : Nat))]) ∈ lw_all := lw_g (lw_at lw_m9 165 rfl) rfl
theorem q2210 : (Jvm.Cond.methodLink "DoughLedger" (71 : Nat) ({ cls := "DoughLedger$Bakery", name := "copy", desc := "()LDoughLedger$Bakery;" } : Jvm.MethodName)) ∈ lw_all := lw_g (lw_at lw_m9 166 rfl) rfl
theorem q2223 : (Jvm.Cond.fieldLinkNest "DoughLedger" (223 : Nat) "DoughLedger$Bowl" "capacity" "I" "DoughLedger") ∈ lw_tbl := lw_at lw_m9 179 rfl
theorem q2226 : (Jvm.Cond.fieldLinkNest "DoughLedger" (226 : Nat) "DoughLedger$Bowl" "content" "I" "DoughLedger") ∈ lw_tbl := lw_at lw_m9 182 rfl
theorem q2299 : (Jvm.Cond.fieldLinkNest "DoughLedger" (247 : Nat) "DoughLedger$Loaf" "weight" "I" "DoughLedger") ∈ lw_tbl := lw_at lw_m10 15 rfl
theorem q2302 : (Jvm.Cond.fieldLinkNest "DoughLedger" (250 : Nat) "DoughLedger$Loaf" "minutes" "I" "DoughLedger") ∈ lw_tbl := lw_at lw_m10 18 rfl
theorem q2305 : (Jvm.Cond.fieldLinkNest "DoughLedger" (253 : Nat) "DoughLedger$Loaf" "crumbs" "I" "DoughLedger") ∈ lw_tbl := lw_at lw_m10 21 rfl
theorem q2313 : (Jvm.Cond.interfaceEntry "DoughLedger" (75 : Nat)) ∈ lw_tbl := lw_at lw_m10 29 rfl
theorem q2314 : (Jvm.Cond.methodLink "DoughLedger" (75 : Nat) ({ cls := "DoughLedger$Step", name := "apply", desc := "(LDoughLedger$Bakery;)I" } : Jvm.MethodName)) ∈ lw_all := lw_g (lw_at lw_m10 30 rfl) rfl
theorem q2317 : (Jvm.Cond.methodLink "DoughLedger" (81 : Nat) ({ cls := "DoughLedger", name := "commit", desc := "(LDoughLedger$Bakery;I)I" } : Jvm.MethodName)) ∈ lw_all := lw_g (lw_at lw_m10 33 rfl) rfl
theorem q2318 : (Jvm.Cond.privateMethod ({ cls := "DoughLedger", name := "commit", desc := "(LDoughLedger$Bakery;I)I" } : Jvm.MethodName)) ∈ lw_tbl := lw_at lw_m10 34 rfl
theorem q2319 : (Jvm.Cond.instanceMethod ({ cls := "DoughLedger", name := "commit", desc := "(LDoughLedger$Bakery;I)I" } : Jvm.MethodName)) ∈ lw_all := lw_g (lw_at lw_m10 35 rfl) rfl
theorem q2320 : (Jvm.Cond.code ({ cls := "DoughLedger", name := "commit", desc := "(LDoughLedger$Bakery;I)I" } : Jvm.MethodName) prog_1_method_9_code (3 : Nat) (Option.some Jvm.ClassFile.FieldType.int)) ∈ lw_all := lw_g (lw_at lw_m10 36 rfl) rfl
theorem q2321 : (Jvm.Cond.methodLink "DoughLedger" (59 : Nat) ({ cls := "java/util/LinkedList", name := "size", desc := "()I" } : Jvm.MethodName)) ∈ lw_all := lw_g (lw_at lw_m10 37 rfl) rfl
theorem q2322 : (Jvm.Cond.methodLink "DoughLedger" (63 : Nat) ({ cls := "java/util/LinkedList", name := "removeFirst", desc := "()Ljava/lang/Object;" } : Jvm.MethodName)) ∈ lw_all := lw_g (lw_at lw_m10 38 rfl) rfl
theorem q2332 : (Jvm.Cond.methodLink "DoughLedger" (67 : Nat) ({ cls := "java/util/LinkedList", name := "addLast", desc := "(Ljava/lang/Object;)V" } : Jvm.MethodName)) ∈ lw_all := lw_g (lw_at lw_m10 48 rfl) rfl
theorem q2336 : (Jvm.Cond.methodLink "DoughLedger" (85 : Nat) ({ cls := "DoughLedger$ConditionFailure", name := "asPublicException", desc := "()Ljava/lang/RuntimeException;" } : Jvm.MethodName)) ∈ lw_all := lw_g (lw_at lw_m10 52 rfl) rfl
theorem q2390 : (Jvm.Cond.instanceMethod ({ cls := "DoughLedger", name := "mix", desc := "(II)I" } : Jvm.MethodName)) ∈ lw_all := lw_g (lw_at lw_m10 106 rfl) rfl
theorem q2391 : (Jvm.Cond.selects "DoughLedger" ({ cls := "DoughLedger", name := "mix", desc := "(II)I" } : Jvm.MethodName) ({ cls := "DoughLedger", name := "mix", desc := "(II)I" } : Jvm.MethodName)) ∈ lw_all := lw_g (lw_at lw_m10 107 rfl) rfl
theorem q2392 : (Jvm.Cond.code ({ cls := "DoughLedger", name := "mix", desc := "(II)I" } : Jvm.MethodName) prog_1_method_12_code (3 : Nat) (Option.some Jvm.ClassFile.FieldType.int)) ∈ lw_all := lw_g (lw_at lw_m10 108 rfl) rfl
theorem q2393 : (Jvm.Cond.static ({ cls := "DoughLedger", name := "lambda$mix$5", desc := "(IILDoughLedger$Bakery;)I" } : Jvm.MethodName)) ∈ lw_all := lw_g (lw_at lw_m10 109 rfl) rfl
theorem q2394 : (Jvm.Cond.code ({ cls := "DoughLedger", name := "lambda$mix$5", desc := "(IILDoughLedger$Bakery;)I" } : Jvm.MethodName) prog_1_method_91_code (3 : Nat) (Option.some Jvm.ClassFile.FieldType.int)) ∈ lw_all := lw_g (lw_at lw_m10 110 rfl) rfl
theorem q2395 : (Jvm.Cond.methodLink "DoughLedger" (477 : Nat) ({ cls := "DoughLedger$Bakery", name := "mix", desc := "(II)I" } : Jvm.MethodName)) ∈ lw_all := lw_g (lw_at lw_m10 111 rfl) rfl
theorem q2416 : (Jvm.Cond.instanceMethod ({ cls := "DoughLedger", name := "addBowl", desc := "(I)I" } : Jvm.MethodName)) ∈ lw_all := lw_g (lw_at lw_m10 132 rfl) rfl
theorem q2417 : (Jvm.Cond.selects "DoughLedger" ({ cls := "DoughLedger", name := "addBowl", desc := "(I)I" } : Jvm.MethodName) ({ cls := "DoughLedger", name := "addBowl", desc := "(I)I" } : Jvm.MethodName)) ∈ lw_all := lw_g (lw_at lw_m10 133 rfl) rfl
theorem q2418 : (Jvm.Cond.code ({ cls := "DoughLedger", name := "addBowl", desc := "(I)I" } : Jvm.MethodName) prog_1_method_13_code (2 : Nat) (Option.some Jvm.ClassFile.FieldType.int)) ∈ lw_all := lw_g (lw_at lw_m10 134 rfl) rfl
theorem q2419 : (Jvm.Cond.static ({ cls := "DoughLedger", name := "lambda$addBowl$6", desc := "(ILDoughLedger$Bakery;)I" } : Jvm.MethodName)) ∈ lw_all := lw_g (lw_at lw_m10 135 rfl) rfl
theorem q2420 : (Jvm.Cond.code ({ cls := "DoughLedger", name := "lambda$addBowl$6", desc := "(ILDoughLedger$Bakery;)I" } : Jvm.MethodName) prog_1_method_90_code (2 : Nat) (Option.some Jvm.ClassFile.FieldType.int)) ∈ lw_all := lw_g (lw_at lw_m10 136 rfl) rfl
theorem q2421 : (Jvm.Cond.methodLink "DoughLedger" (474 : Nat) ({ cls := "DoughLedger$Bakery", name := "addBowl", desc := "(I)I" } : Jvm.MethodName)) ∈ lw_all := lw_g (lw_at lw_m10 137 rfl) rfl
theorem q2429 : (Jvm.Cond.instanceMethod ({ cls := "DoughLedger", name := "addLoaf", desc := "(II)I" } : Jvm.MethodName)) ∈ lw_all := lw_g (lw_at lw_m10 145 rfl) rfl
theorem q2430 : (Jvm.Cond.selects "DoughLedger" ({ cls := "DoughLedger", name := "addLoaf", desc := "(II)I" } : Jvm.MethodName) ({ cls := "DoughLedger", name := "addLoaf", desc := "(II)I" } : Jvm.MethodName)) ∈ lw_all := lw_g (lw_at lw_m10 146 rfl) rfl
theorem q2431 : (Jvm.Cond.code ({ cls := "DoughLedger", name := "addLoaf", desc := "(II)I" } : Jvm.MethodName) prog_1_method_14_code (3 : Nat) (Option.some Jvm.ClassFile.FieldType.int)) ∈ lw_all := lw_g (lw_at lw_m10 147 rfl) rfl
theorem q2432 : (Jvm.Cond.static ({ cls := "DoughLedger", name := "lambda$addLoaf$7", desc := "(IILDoughLedger$Bakery;)I" } : Jvm.MethodName)) ∈ lw_all := lw_g (lw_at lw_m10 148 rfl) rfl
theorem q2433 : (Jvm.Cond.code ({ cls := "DoughLedger", name := "lambda$addLoaf$7", desc := "(IILDoughLedger$Bakery;)I" } : Jvm.MethodName) prog_1_method_89_code (3 : Nat) (Option.some Jvm.ClassFile.FieldType.int)) ∈ lw_all := lw_g (lw_at lw_m10 149 rfl) rfl
theorem q2434 : (Jvm.Cond.methodLink "DoughLedger" (471 : Nat) ({ cls := "DoughLedger$Bakery", name := "addLoaf", desc := "(II)I" } : Jvm.MethodName)) ∈ lw_all := lw_g (lw_at lw_m10 150 rfl) rfl
theorem q2443 : (Jvm.Cond.instanceMethod ({ cls := "DoughLedger", name := "sellLoaf", desc := "(I)I" } : Jvm.MethodName)) ∈ lw_all := lw_g (lw_at lw_m10 159 rfl) rfl
theorem q2444 : (Jvm.Cond.selects "DoughLedger" ({ cls := "DoughLedger", name := "sellLoaf", desc := "(I)I" } : Jvm.MethodName) ({ cls := "DoughLedger", name := "sellLoaf", desc := "(I)I" } : Jvm.MethodName)) ∈ lw_all := lw_g (lw_at lw_m10 160 rfl) rfl
theorem q2445 : (Jvm.Cond.code ({ cls := "DoughLedger", name := "sellLoaf", desc := "(I)I" } : Jvm.MethodName) prog_1_method_15_code (2 : Nat) (Option.some Jvm.ClassFile.FieldType.int)) ∈ lw_all := lw_g (lw_at lw_m10 161 rfl) rfl
theorem q2446 : (Jvm.Cond.static ({ cls := "DoughLedger", name := "lambda$sellLoaf$8", desc := "(ILDoughLedger$Bakery;)I" } : Jvm.MethodName)) ∈ lw_all := lw_g (lw_at lw_m10 162 rfl) rfl
theorem q2447 : (Jvm.Cond.code ({ cls := "DoughLedger", name := "lambda$sellLoaf$8", desc := "(ILDoughLedger$Bakery;)I" } : Jvm.MethodName) prog_1_method_88_code (2 : Nat) (Option.some Jvm.ClassFile.FieldType.int)) ∈ lw_all := lw_g (lw_at lw_m10 163 rfl) rfl
theorem q2448 : (Jvm.Cond.methodLink "DoughLedger" (468 : Nat) ({ cls := "DoughLedger$Bakery", name := "sellLoaf", desc := "(I)I" } : Jvm.MethodName)) ∈ lw_all := lw_g (lw_at lw_m10 164 rfl) rfl
theorem q2483 : (Jvm.Cond.instanceMethod ({ cls := "DoughLedger", name := "setScale", desc := "(I)I" } : Jvm.MethodName)) ∈ lw_all := lw_g (lw_at lw_m10 199 rfl) rfl
theorem q2484 : (Jvm.Cond.selects "DoughLedger" ({ cls := "DoughLedger", name := "setScale", desc := "(I)I" } : Jvm.MethodName) ({ cls := "DoughLedger", name := "setScale", desc := "(I)I" } : Jvm.MethodName)) ∈ lw_all := lw_g (lw_at lw_m10 200 rfl) rfl
theorem q2485 : (Jvm.Cond.code ({ cls := "DoughLedger", name := "setScale", desc := "(I)I" } : Jvm.MethodName) prog_1_method_16_code (2 : Nat) (Option.some Jvm.ClassFile.FieldType.int)) ∈ lw_all := lw_g (lw_at lw_m10 201 rfl) rfl
theorem q2486 : (Jvm.Cond.static ({ cls := "DoughLedger", name := "lambda$setScale$9", desc := "(ILDoughLedger$Bakery;)I" } : Jvm.MethodName)) ∈ lw_all := lw_g (lw_at lw_m10 202 rfl) rfl
theorem q2487 : (Jvm.Cond.code ({ cls := "DoughLedger", name := "lambda$setScale$9", desc := "(ILDoughLedger$Bakery;)I" } : Jvm.MethodName) prog_1_method_87_code (2 : Nat) (Option.some Jvm.ClassFile.FieldType.int)) ∈ lw_all := lw_g (lw_at lw_m10 203 rfl) rfl
theorem q2488 : (Jvm.Cond.methodLink "DoughLedger" (465 : Nat) ({ cls := "DoughLedger$Bakery", name := "setScale", desc := "(I)I" } : Jvm.MethodName)) ∈ lw_all := lw_g (lw_at lw_m10 204 rfl) rfl
theorem q2496 : (Jvm.Cond.instanceMethod ({ cls := "DoughLedger", name := "setRounding", desc := "(C)C" } : Jvm.MethodName)) ∈ lw_all := lw_g (lw_at lw_m10 212 rfl) rfl
theorem q2497 : (Jvm.Cond.selects "DoughLedger" ({ cls := "DoughLedger", name := "setRounding", desc := "(C)C" } : Jvm.MethodName) ({ cls := "DoughLedger", name := "setRounding", desc := "(C)C" } : Jvm.MethodName)) ∈ lw_all := lw_g (lw_at lw_m10 213 rfl) rfl
theorem q2498 : (Jvm.Cond.code ({ cls := "DoughLedger", name := "setRounding", desc := "(C)C" } : Jvm.MethodName) prog_1_method_17_code (2 : Nat) (Option.some Jvm.ClassFile.FieldType.char)) ∈ lw_all := lw_g (lw_at lw_m10 214 rfl) rfl
theorem q2499 : (Jvm.Cond.static ({ cls := "DoughLedger", name := "lambda$setRounding$10", desc := "(CLDoughLedger$Bakery;)I" } : Jvm.MethodName)) ∈ lw_all := lw_g (lw_at lw_m10 215 rfl) rfl
theorem q2500 : (Jvm.Cond.code ({ cls := "DoughLedger", name := "lambda$setRounding$10", desc := "(CLDoughLedger$Bakery;)I" } : Jvm.MethodName) prog_1_method_86_code (2 : Nat) (Option.some Jvm.ClassFile.FieldType.int)) ∈ lw_all := lw_g (lw_at lw_m10 216 rfl) rfl
theorem q2501 : (Jvm.Cond.methodLink "DoughLedger" (462 : Nat) ({ cls := "DoughLedger$Bakery", name := "setRounding", desc := "(I)I" } : Jvm.MethodName)) ∈ lw_all := lw_g (lw_at lw_m10 217 rfl) rfl
theorem q2506 : (Jvm.Cond.static ({ cls := "DoughLedger", name := "isRule", desc := "(I)Z" } : Jvm.MethodName)) ∈ lw_all := lw_g (lw_at lw_m10 222 rfl) rfl
theorem q2507 : (Jvm.Cond.code ({ cls := "DoughLedger", name := "isRule", desc := "(I)Z" } : Jvm.MethodName) prog_1_method_3_code (1 : Nat) (Option.some Jvm.ClassFile.FieldType.boolean)) ∈ lw_all := lw_g (lw_at lw_m10 223 rfl) rfl
theorem q2512 : (Jvm.Cond.instanceMethod ({ cls := "DoughLedger", name := "pour", desc := "(II)I" } : Jvm.MethodName)) ∈ lw_all := lw_g (lw_at lw_m10 228 rfl) rfl
theorem q2513 : (Jvm.Cond.selects "DoughLedger" ({ cls := "DoughLedger", name := "pour", desc := "(II)I" } : Jvm.MethodName) ({ cls := "DoughLedger", name := "pour", desc := "(II)I" } : Jvm.MethodName)) ∈ lw_all := lw_g (lw_at lw_m10 229 rfl) rfl
theorem q2514 : (Jvm.Cond.code ({ cls := "DoughLedger", name := "pour", desc := "(II)I" } : Jvm.MethodName) prog_1_method_18_code (3 : Nat) (Option.some Jvm.ClassFile.FieldType.int)) ∈ lw_all := lw_g (lw_at lw_m10 230 rfl) rfl
theorem q2515 : (Jvm.Cond.static ({ cls := "DoughLedger", name := "lambda$pour$11", desc := "(IILDoughLedger$Bakery;)I" } : Jvm.MethodName)) ∈ lw_all := lw_g (lw_at lw_m10 231 rfl) rfl
theorem q2516 : (Jvm.Cond.code ({ cls := "DoughLedger", name := "lambda$pour$11", desc := "(IILDoughLedger$Bakery;)I" } : Jvm.MethodName) prog_1_method_85_code (3 : Nat) (Option.some Jvm.ClassFile.FieldType.int)) ∈ lw_all := lw_g (lw_at lw_m10 232 rfl) rfl
theorem q2517 : (Jvm.Cond.methodLink "DoughLedger" (459 : Nat) ({ cls := "DoughLedger$Bakery", name := "pour", desc := "(II)I" } : Jvm.MethodName)) ∈ lw_all := lw_g (lw_at lw_m10 233 rfl) rfl
theorem q2539 : (Jvm.Cond.instanceMethod ({ cls := "DoughLedger", name := "empty", desc := "(I)I" } : Jvm.MethodName)) ∈ lw_all := lw_g (lw_at lw_m11 15 rfl) rfl
theorem q2540 : (Jvm.Cond.selects "DoughLedger" ({ cls := "DoughLedger", name := "empty", desc := "(I)I" } : Jvm.MethodName) ({ cls := "DoughLedger", name := "empty", desc := "(I)I" } : Jvm.MethodName)) ∈ lw_all := lw_g (lw_at lw_m11 16 rfl) rfl
theorem q2541 : (Jvm.Cond.code ({ cls := "DoughLedger", name := "empty", desc := "(I)I" } : Jvm.MethodName) prog_1_method_19_code (2 : Nat) (Option.some Jvm.ClassFile.FieldType.int)) ∈ lw_all := lw_g (lw_at lw_m11 17 rfl) rfl
theorem q2542 : (Jvm.Cond.static ({ cls := "DoughLedger", name := "lambda$empty$12", desc := "(ILDoughLedger$Bakery;)I" } : Jvm.MethodName)) ∈ lw_all := lw_g (lw_at lw_m11 18 rfl) rfl
theorem q2543 : (Jvm.Cond.code ({ cls := "DoughLedger", name := "lambda$empty$12", desc := "(ILDoughLedger$Bakery;)I" } : Jvm.MethodName) prog_1_method_84_code (2 : Nat) (Option.some Jvm.ClassFile.FieldType.int)) ∈ lw_all := lw_g (lw_at lw_m11 19 rfl) rfl
theorem q2544 : (Jvm.Cond.methodLink "DoughLedger" (456 : Nat) ({ cls := "DoughLedger$Bakery", name := "empty", desc := "(I)I" } : Jvm.MethodName)) ∈ lw_all := lw_g (lw_at lw_m11 20 rfl) rfl
theorem q2553 : (Jvm.Cond.instanceMethod ({ cls := "DoughLedger", name := "bake", desc := "(I)I" } : Jvm.MethodName)) ∈ lw_all := lw_g (lw_at lw_m11 29 rfl) rfl
theorem q2554 : (Jvm.Cond.selects "DoughLedger" ({ cls := "DoughLedger", name := "bake", desc := "(I)I" } : Jvm.MethodName) ({ cls := "DoughLedger", name := "bake", desc := "(I)I" } : Jvm.MethodName)) ∈ lw_all := lw_g (lw_at lw_m11 30 rfl) rfl
theorem q2555 : (Jvm.Cond.code ({ cls := "DoughLedger", name := "bake", desc := "(I)I" } : Jvm.MethodName) prog_1_method_20_code (2 : Nat) (Option.some Jvm.ClassFile.FieldType.int)) ∈ lw_all := lw_g (lw_at lw_m11 31 rfl) rfl
theorem q2556 : (Jvm.Cond.static ({ cls := "DoughLedger", name := "lambda$bake$13", desc := "(ILDoughLedger$Bakery;)I" } : Jvm.MethodName)) ∈ lw_all := lw_g (lw_at lw_m11 32 rfl) rfl
theorem q2557 : (Jvm.Cond.code ({ cls := "DoughLedger", name := "lambda$bake$13", desc := "(ILDoughLedger$Bakery;)I" } : Jvm.MethodName) prog_1_method_83_code (2 : Nat) (Option.some Jvm.ClassFile.FieldType.int)) ∈ lw_all := lw_g (lw_at lw_m11 33 rfl) rfl
theorem q2558 : (Jvm.Cond.methodLink "DoughLedger" (453 : Nat) ({ cls := "DoughLedger$Bakery", name := "bake", desc := "(I)I" } : Jvm.MethodName)) ∈ lw_all := lw_g (lw_at lw_m11 34 rfl) rfl
theorem q2566 : (Jvm.Cond.instanceMethod ({ cls := "DoughLedger", name := "setOvens", desc := "(I)I" } : Jvm.MethodName)) ∈ lw_all := lw_g (lw_at lw_m11 42 rfl) rfl
theorem q2567 : (Jvm.Cond.selects "DoughLedger" ({ cls := "DoughLedger", name := "setOvens", desc := "(I)I" } : Jvm.MethodName) ({ cls := "DoughLedger", name := "setOvens", desc := "(I)I" } : Jvm.MethodName)) ∈ lw_all := lw_g (lw_at lw_m11 43 rfl) rfl
theorem q2568 : (Jvm.Cond.code ({ cls := "DoughLedger", name := "setOvens", desc := "(I)I" } : Jvm.MethodName) prog_1_method_21_code (2 : Nat) (Option.some Jvm.ClassFile.FieldType.int)) ∈ lw_all := lw_g (lw_at lw_m11 44 rfl) rfl
theorem q2569 : (Jvm.Cond.static ({ cls := "DoughLedger", name := "lambda$setOvens$14", desc := "(ILDoughLedger$Bakery;)I" } : Jvm.MethodName)) ∈ lw_all := lw_g (lw_at lw_m11 45 rfl) rfl
theorem q2570 : (Jvm.Cond.code ({ cls := "DoughLedger", name := "lambda$setOvens$14", desc := "(ILDoughLedger$Bakery;)I" } : Jvm.MethodName) prog_1_method_82_code (2 : Nat) (Option.some Jvm.ClassFile.FieldType.int)) ∈ lw_all := lw_g (lw_at lw_m11 46 rfl) rfl
theorem q2571 : (Jvm.Cond.methodLink "DoughLedger" (450 : Nat) ({ cls := "DoughLedger$Bakery", name := "setOvens", desc := "(I)I" } : Jvm.MethodName)) ∈ lw_all := lw_g (lw_at lw_m11 47 rfl) rfl
theorem q2579 : (Jvm.Cond.instanceMethod ({ cls := "DoughLedger", name := "numeratorOf", desc := "(I)I" } : Jvm.MethodName)) ∈ lw_all := lw_g (lw_at lw_m11 55 rfl) rfl
theorem q2580 : (Jvm.Cond.selects "DoughLedger" ({ cls := "DoughLedger", name := "numeratorOf", desc := "(I)I" } : Jvm.MethodName) ({ cls := "DoughLedger", name := "numeratorOf", desc := "(I)I" } : Jvm.MethodName)) ∈ lw_all := lw_g (lw_at lw_m11 56 rfl) rfl
theorem q2581 : (Jvm.Cond.code ({ cls := "DoughLedger", name := "numeratorOf", desc := "(I)I" } : Jvm.MethodName) prog_1_method_29_code (2 : Nat) (Option.some Jvm.ClassFile.FieldType.int)) ∈ lw_all := lw_g (lw_at lw_m11 57 rfl) rfl
theorem q2582 : (Jvm.Cond.methodLink "DoughLedger" (152 : Nat) ({ cls := "DoughLedger", name := "doughWith", desc := "(I)LDoughLedger$Fraction;" } : Jvm.MethodName)) ∈ lw_all := lw_g (lw_at lw_m11 58 rfl) rfl
theorem q2583 : (Jvm.Cond.privateMethod ({ cls := "DoughLedger", name := "doughWith", desc := "(I)LDoughLedger$Fraction;" } : Jvm.MethodName)) ∈ lw_tbl := lw_at lw_m11 59 rfl
theorem q2584 : (Jvm.Cond.instanceMethod ({ cls := "DoughLedger", name := "doughWith", desc := "(I)LDoughLedger$Fraction;" } : Jvm.MethodName)) ∈ lw_all := lw_g (lw_at lw_m11 60 rfl) rfl
theorem q2585 : (Jvm.Cond.code ({ cls := "DoughLedger", name := "doughWith", desc := "(I)LDoughLedger$Fraction;" } : Jvm.MethodName) prog_1_method_27_code (2 : Nat) (Option.some (Jvm.ClassFile.FieldType.object "DoughLedger$Fraction"))) ∈ lw_all := lw_g (lw_at lw_m11 61 rfl) rfl
theorem q2586 : (Jvm.Cond.methodLink "DoughLedger" (126 : Nat) ({ cls := "DoughLedger$Bakery", name := "hasDough", desc := "(I)Z" } : Jvm.MethodName)) ∈ lw_all := lw_g (lw_at lw_m11 62 rfl) rfl
theorem q2587 : (Jvm.Cond.methodLink "DoughLedger" (130 : Nat) ({ cls := "DoughLedger", name := "checkIndex", desc := "(Z)V" } : Jvm.MethodName)) ∈ lw_all := lw_g (lw_at lw_m11 63 rfl) rfl
theorem q2588 : (Jvm.Cond.static ({ cls := "DoughLedger", name := "checkIndex", desc := "(Z)V" } : Jvm.MethodName)) ∈ lw_all := lw_g (lw_at lw_m11 64 rfl) rfl
theorem q2589 : (Jvm.Cond.code ({ cls := "DoughLedger", name := "checkIndex", desc := "(Z)V" } : Jvm.MethodName) prog_1_method_22_code (1 : Nat) (Option.none : Option Jvm.ClassFile.FieldType)) ∈ lw_all := lw_g (lw_at lw_m11 65 rfl) rfl
theorem q2590 : (Jvm.Cond.classLink "DoughLedger" (110 : Nat) "java/lang/IndexOutOfBoundsException") ∈ lw_all := lw_g (lw_at lw_m11 66 rfl) rfl
theorem q2591 : (Jvm.Cond.methodLink "DoughLedger" (112 : Nat) ({ cls := "java/lang/IndexOutOfBoundsException", name := "<init>", desc := "()V" } : Jvm.MethodName)) ∈ lw_all := lw_g (lw_at lw_m11 67 rfl) rfl
theorem q2592 : (Jvm.Cond.methodLink "DoughLedger" (137 : Nat) ({ cls := "java/lang/Integer", name := "valueOf", desc := "(I)Ljava/lang/Integer;" } : Jvm.MethodName)) ∈ lw_all := lw_g (lw_at lw_m11 68 rfl) rfl
theorem q2593 : (Jvm.Cond.methodLink "DoughLedger" (143 : Nat) ({ cls := "java/util/TreeMap", name := "get", desc := "(Ljava/lang/Object;)Ljava/lang/Object;" } : Jvm.MethodName)) ∈ lw_all := lw_g (lw_at lw_m11 69 rfl) rfl
theorem q2594 : (Jvm.Cond.classLink "DoughLedger" (149 : Nat) "DoughLedger$Fraction") ∈ lw_all := lw_g (lw_at lw_m11 70 rfl) rfl
theorem q2599 : (Jvm.Cond.instanceMethod ({ cls := "DoughLedger", name := "denominatorOf", desc := "(I)I" } : Jvm.MethodName)) ∈ lw_all := lw_g (lw_at lw_m11 75 rfl) rfl
theorem q2600 : (Jvm.Cond.selects "DoughLedger" ({ cls := "DoughLedger", name := "denominatorOf", desc := "(I)I" } : Jvm.MethodName) ({ cls := "DoughLedger", name := "denominatorOf", desc := "(I)I" } : Jvm.MethodName)) ∈ lw_all := lw_g (lw_at lw_m11 76 rfl) rfl
theorem q2601 : (Jvm.Cond.code ({ cls := "DoughLedger", name := "denominatorOf", desc := "(I)I" } : Jvm.MethodName) prog_1_method_30_code (2 : Nat) (Option.some Jvm.ClassFile.FieldType.int)) ∈ lw_all := lw_g (lw_at lw_m11 77 rfl) rfl
theorem q2606 : (Jvm.Cond.instanceMethod ({ cls := "DoughLedger", name := "crumbsIn", desc := "(I)I" } : Jvm.MethodName)) ∈ lw_all := lw_g (lw_at lw_m11 82 rfl) rfl
theorem q2607 : (Jvm.Cond.selects "DoughLedger" ({ cls := "DoughLedger", name := "crumbsIn", desc := "(I)I" } : Jvm.MethodName) ({ cls := "DoughLedger", name := "crumbsIn", desc := "(I)I" } : Jvm.MethodName)) ∈ lw_all := lw_g (lw_at lw_m11 83 rfl) rfl
theorem q2608 : (Jvm.Cond.code ({ cls := "DoughLedger", name := "crumbsIn", desc := "(I)I" } : Jvm.MethodName) prog_1_method_31_code (2 : Nat) (Option.some Jvm.ClassFile.FieldType.int)) ∈ lw_all := lw_g (lw_at lw_m11 84 rfl) rfl
theorem q2609 : (Jvm.Cond.methodLink "DoughLedger" (162 : Nat) ({ cls := "DoughLedger$Bakery", name := "crumbsIn", desc := "(I)I" } : Jvm.MethodName)) ∈ lw_all := lw_g (lw_at lw_m11 85 rfl) rfl
theorem q2614 : (Jvm.Cond.instanceMethod ({ cls := "DoughLedger", name := "crumbsByDigits", desc := "(I)I" } : Jvm.MethodName)) ∈ lw_all := lw_g (lw_at lw_m11 90 rfl) rfl
theorem q2615 : (Jvm.Cond.selects "DoughLedger" ({ cls := "DoughLedger", name := "crumbsByDigits", desc := "(I)I" } : Jvm.MethodName) ({ cls := "DoughLedger", name := "crumbsByDigits", desc := "(I)I" } : Jvm.MethodName)) ∈ lw_all := lw_g (lw_at lw_m11 91 rfl) rfl
theorem q2616 : (Jvm.Cond.code ({ cls := "DoughLedger", name := "crumbsByDigits", desc := "(I)I" } : Jvm.MethodName) prog_1_method_32_code (2 : Nat) (Option.some Jvm.ClassFile.FieldType.int)) ∈ lw_all := lw_g (lw_at lw_m11 92 rfl) rfl
theorem q2617 : (Jvm.Cond.methodLink "DoughLedger" (166 : Nat) ({ cls := "DoughLedger$Bakery", name := "crumbsByDigits", desc := "(I)I" } : Jvm.MethodName)) ∈ lw_all := lw_g (lw_at lw_m11 93 rfl) rfl
theorem q2622 : (Jvm.Cond.instanceMethod ({ cls := "DoughLedger", name := "doughByAmount", desc := "(I)I" } : Jvm.MethodName)) ∈ lw_all := lw_g (lw_at lw_m11 98 rfl) rfl
theorem q2623 : (Jvm.Cond.selects "DoughLedger" ({ cls := "DoughLedger", name := "doughByAmount", desc := "(I)I" } : Jvm.MethodName) ({ cls := "DoughLedger", name := "doughByAmount", desc := "(I)I" } : Jvm.MethodName)) ∈ lw_all := lw_g (lw_at lw_m11 99 rfl) rfl
theorem q2624 : (Jvm.Cond.code ({ cls := "DoughLedger", name := "doughByAmount", desc := "(I)I" } : Jvm.MethodName) prog_1_method_33_code (2 : Nat) (Option.some Jvm.ClassFile.FieldType.int)) ∈ lw_all := lw_g (lw_at lw_m11 100 rfl) rfl
theorem q2625 : (Jvm.Cond.methodLink "DoughLedger" (169 : Nat) ({ cls := "DoughLedger$Bakery", name := "doughAt", desc := "(I)I" } : Jvm.MethodName)) ∈ lw_all := lw_g (lw_at lw_m11 101 rfl) rfl
theorem q2630 : (Jvm.Cond.methodLink "DoughLedger" (172 : Nat) ({ cls := "DoughLedger", name := "found", desc := "(I)I" } : Jvm.MethodName)) ∈ lw_all := lw_g (lw_at lw_m11 106 rfl) rfl
theorem q2631 : (Jvm.Cond.static ({ cls := "DoughLedger", name := "found", desc := "(I)I" } : Jvm.MethodName)) ∈ lw_all := lw_g (lw_at lw_m11 107 rfl) rfl
theorem q2632 : (Jvm.Cond.code ({ cls := "DoughLedger", name := "found", desc := "(I)I" } : Jvm.MethodName) prog_1_method_26_code (1 : Nat) (Option.some Jvm.ClassFile.FieldType.int)) ∈ lw_all := lw_g (lw_at lw_m11 108 rfl) rfl
theorem q2633 : (Jvm.Cond.methodLink "DoughLedger" (122 : Nat) ({ cls := "DoughLedger", name := "checkElement", desc := "(Z)V" } : Jvm.MethodName)) ∈ lw_all := lw_g (lw_at lw_m11 109 rfl) rfl
theorem q2634 : (Jvm.Cond.static ({ cls := "DoughLedger", name := "checkElement", desc := "(Z)V" } : Jvm.MethodName)) ∈ lw_all := lw_g (lw_at lw_m11 110 rfl) rfl
theorem q2635 : (Jvm.Cond.code ({ cls := "DoughLedger", name := "checkElement", desc := "(Z)V" } : Jvm.MethodName) prog_1_method_24_code (1 : Nat) (Option.none : Option Jvm.ClassFile.FieldType)) ∈ lw_all := lw_g (lw_at lw_m11 111 rfl) rfl
theorem q2636 : (Jvm.Cond.classLink "DoughLedger" (116 : Nat) "java/util/NoSuchElementException") ∈ lw_all := lw_g (lw_at lw_m11 112 rfl) rfl
theorem q2637 : (Jvm.Cond.methodLink "DoughLedger" (118 : Nat) ({ cls := "java/util/NoSuchElementException", name := "<init>", desc := "()V" } : Jvm.MethodName)) ∈ lw_all := lw_g (lw_at lw_m11 113 rfl) rfl
theorem q2642 : (Jvm.Cond.instanceMethod ({ cls := "DoughLedger", name := "nearestNumerator", desc := "(III)I" } : Jvm.MethodName)) ∈ lw_all := lw_g (lw_at lw_m11 118 rfl) rfl
theorem q2643 : (Jvm.Cond.selects "DoughLedger" ({ cls := "DoughLedger", name := "nearestNumerator", desc := "(III)I" } : Jvm.MethodName) ({ cls := "DoughLedger", name := "nearestNumerator", desc := "(III)I" } : Jvm.MethodName)) ∈ lw_all := lw_g (lw_at lw_m11 119 rfl) rfl
theorem q2644 : (Jvm.Cond.code ({ cls := "DoughLedger", name := "nearestNumerator", desc := "(III)I" } : Jvm.MethodName) prog_1_method_35_code (4 : Nat) (Option.some Jvm.ClassFile.FieldType.int)) ∈ lw_all := lw_g (lw_at lw_m11 120 rfl) rfl
theorem q2645 : (Jvm.Cond.methodLink "DoughLedger" (194 : Nat) ({ cls := "DoughLedger", name := "nearness", desc := "(III)LDoughLedger$Nearness;" } : Jvm.MethodName)) ∈ lw_all := lw_g (lw_at lw_m11 121 rfl) rfl
theorem q2646 : (Jvm.Cond.privateMethod ({ cls := "DoughLedger", name := "nearness", desc := "(III)LDoughLedger$Nearness;" } : Jvm.MethodName)) ∈ lw_tbl := lw_at lw_m11 122 rfl
theorem q2647 : (Jvm.Cond.instanceMethod ({ cls := "DoughLedger", name := "nearness", desc := "(III)LDoughLedger$Nearness;" } : Jvm.MethodName)) ∈ lw_all := lw_g (lw_at lw_m11 123 rfl) rfl
theorem q2648 : (Jvm.Cond.code ({ cls := "DoughLedger", name := "nearness", desc := "(III)LDoughLedger$Nearness;" } : Jvm.MethodName) prog_1_method_34_code (5 : Nat) (Option.some (Jvm.ClassFile.FieldType.object "DoughLedger$Nearness"))) ∈ lw_all := lw_g (lw_at lw_m11 124 rfl) rfl
theorem q2649 : (Jvm.Cond.methodLink "DoughLedger" (175 : Nat) ({ cls := "DoughLedger", name := "isBetween", desc := "(III)Z" } : Jvm.MethodName)) ∈ lw_all := lw_g (lw_at lw_m11 125 rfl) rfl
theorem q2650 : (Jvm.Cond.methodLink "DoughLedger" (179 : Nat) ({ cls := "DoughLedger", name := "checkArgument", desc := "(Z)V" } : Jvm.MethodName)) ∈ lw_all := lw_g (lw_at lw_m11 126 rfl) rfl
theorem q2651 : (Jvm.Cond.static ({ cls := "DoughLedger", name := "checkArgument", desc := "(Z)V" } : Jvm.MethodName)) ∈ lw_all := lw_g (lw_at lw_m11 127 rfl) rfl
theorem q2652 : (Jvm.Cond.code ({ cls := "DoughLedger", name := "checkArgument", desc := "(Z)V" } : Jvm.MethodName) prog_1_method_23_code (1 : Nat) (Option.none : Option Jvm.ClassFile.FieldType)) ∈ lw_all := lw_g (lw_at lw_m11 128 rfl) rfl
theorem q2653 : (Jvm.Cond.classLink "DoughLedger" (113 : Nat) "java/lang/IllegalArgumentException") ∈ lw_all := lw_g (lw_at lw_m11 129 rfl) rfl
theorem q2654 : (Jvm.Cond.methodLink "DoughLedger" (115 : Nat) ({ cls := "java/lang/IllegalArgumentException", name := "<init>", desc := "()V" } : Jvm.MethodName)) ∈ lw_all := lw_g (lw_at lw_m11 130 rfl) rfl
theorem q2655 : (Jvm.Cond.methodLink "DoughLedger" (182 : Nat) ({ cls := "DoughLedger$Bakery", name := "nearness", desc := "(II)LDoughLedger$Nearness;" } : Jvm.MethodName)) ∈ lw_all := lw_g (lw_at lw_m11 131 rfl) rfl
theorem q2656 : (Jvm.Cond.classLink "DoughLedger" (191 : Nat) "java/lang/UnsupportedOperationException") ∈ lw_all := lw_g (lw_at lw_m11 132 rfl) rfl
theorem q2657 : (Jvm.Cond.methodLink "DoughLedger" (193 : Nat) ({ cls := "java/lang/UnsupportedOperationException", name := "<init>", desc := "()V" } : Jvm.MethodName)) ∈ lw_all := lw_g (lw_at lw_m11 133 rfl) rfl
theorem q2658 : (Jvm.Cond.methodLink "DoughLedger" (197 : Nat) ({ cls := "DoughLedger$Nearness", name := "byHalves", desc := "(IZ)J" } : Jvm.MethodName)) ∈ lw_all := lw_g (lw_at lw_m11 134 rfl) rfl
theorem q2663 : (Jvm.Cond.instanceMethod ({ cls := "DoughLedger", name := "nearestDenominator", desc := "(III)I" } : Jvm.MethodName)) ∈ lw_all := lw_g (lw_at lw_m11 139 rfl) rfl
theorem q2664 : (Jvm.Cond.selects "DoughLedger" ({ cls := "DoughLedger", name := "nearestDenominator", desc := "(III)I" } : Jvm.MethodName) ({ cls := "DoughLedger", name := "nearestDenominator", desc := "(III)I" } : Jvm.MethodName)) ∈ lw_all := lw_g (lw_at lw_m11 140 rfl) rfl
theorem q2665 : (Jvm.Cond.code ({ cls := "DoughLedger", name := "nearestDenominator", desc := "(III)I" } : Jvm.MethodName) prog_1_method_36_code (4 : Nat) (Option.some Jvm.ClassFile.FieldType.int)) ∈ lw_all := lw_g (lw_at lw_m11 141 rfl) rfl
theorem q2670 : (Jvm.Cond.instanceMethod ({ cls := "DoughLedger", name := "denominatorByTrying", desc := "(III)I" } : Jvm.MethodName)) ∈ lw_all := lw_g (lw_at lw_m11 146 rfl) rfl
theorem q2671 : (Jvm.Cond.selects "DoughLedger" ({ cls := "DoughLedger", name := "denominatorByTrying", desc := "(III)I" } : Jvm.MethodName) ({ cls := "DoughLedger", name := "denominatorByTrying", desc := "(III)I" } : Jvm.MethodName)) ∈ lw_all := lw_g (lw_at lw_m11 147 rfl) rfl
theorem q2672 : (Jvm.Cond.code ({ cls := "DoughLedger", name := "denominatorByTrying", desc := "(III)I" } : Jvm.MethodName) prog_1_method_37_code (4 : Nat) (Option.some Jvm.ClassFile.FieldType.int)) ∈ lw_all := lw_g (lw_at lw_m11 148 rfl) rfl
theorem q2673 : (Jvm.Cond.methodLink "DoughLedger" (201 : Nat) ({ cls := "DoughLedger$Nearness", name := "byTrying", desc := "(I)I" } : Jvm.MethodName)) ∈ lw_all := lw_g (lw_at lw_m11 149 rfl) rfl
theorem q2678 : (Jvm.Cond.instanceMethod ({ cls := "DoughLedger", name := "capacityOf", desc := "(I)I" } : Jvm.MethodName)) ∈ lw_all := lw_g (lw_at lw_m11 154 rfl) rfl
theorem q2679 : (Jvm.Cond.selects "DoughLedger" ({ cls := "DoughLedger", name := "capacityOf", desc := "(I)I" } : Jvm.MethodName) ({ cls := "DoughLedger", name := "capacityOf", desc := "(I)I" } : Jvm.MethodName)) ∈ lw_all := lw_g (lw_at lw_m11 155 rfl) rfl
theorem q2680 : (Jvm.Cond.code ({ cls := "DoughLedger", name := "capacityOf", desc := "(I)I" } : Jvm.MethodName) prog_1_method_40_code (2 : Nat) (Option.some Jvm.ClassFile.FieldType.int)) ∈ lw_all := lw_g (lw_at lw_m11 156 rfl) rfl
theorem q2681 : (Jvm.Cond.methodLink "DoughLedger" (219 : Nat) ({ cls := "DoughLedger", name := "bowlWith", desc := "(I)LDoughLedger$Bowl;" } : Jvm.MethodName)) ∈ lw_all := lw_g (lw_at lw_m11 157 rfl) rfl
theorem q2682 : (Jvm.Cond.privateMethod ({ cls := "DoughLedger", name := "bowlWith", desc := "(I)LDoughLedger$Bowl;" } : Jvm.MethodName)) ∈ lw_tbl := lw_at lw_m11 158 rfl
theorem q2683 : (Jvm.Cond.instanceMethod ({ cls := "DoughLedger", name := "bowlWith", desc := "(I)LDoughLedger$Bowl;" } : Jvm.MethodName)) ∈ lw_all := lw_g (lw_at lw_m11 159 rfl) rfl
theorem q2684 : (Jvm.Cond.code ({ cls := "DoughLedger", name := "bowlWith", desc := "(I)LDoughLedger$Bowl;" } : Jvm.MethodName) prog_1_method_38_code (2 : Nat) (Option.some (Jvm.ClassFile.FieldType.object "DoughLedger$Bowl"))) ∈ lw_all := lw_g (lw_at lw_m11 160 rfl) rfl
theorem q2685 : (Jvm.Cond.methodLink "DoughLedger" (204 : Nat) ({ cls := "DoughLedger$Bakery", name := "hasBowl", desc := "(I)Z" } : Jvm.MethodName)) ∈ lw_all := lw_g (lw_at lw_m11 161 rfl) rfl
theorem q2686 : (Jvm.Cond.interfaceEntry "DoughLedger" (211 : Nat)) ∈ lw_tbl := lw_at lw_m11 162 rfl
theorem q2687 : (Jvm.Cond.methodLink "DoughLedger" (211 : Nat) ({ cls := "java/util/List", name := "get", desc := "(I)Ljava/lang/Object;" } : Jvm.MethodName)) ∈ lw_all := lw_g (lw_at lw_m11 163 rfl) rfl
theorem q2688 : (Jvm.Cond.classLink "DoughLedger" (216 : Nat) "DoughLedger$Bowl") ∈ lw_all := lw_g (lw_at lw_m11 164 rfl) rfl
theorem q2693 : (Jvm.Cond.instanceMethod ({ cls := "DoughLedger", name := "contentOf", desc := "(I)I" } : Jvm.MethodName)) ∈ lw_all := lw_g (lw_at lw_m11 169 rfl) rfl
theorem q2694 : (Jvm.Cond.selects "DoughLedger" ({ cls := "DoughLedger", name := "contentOf", desc := "(I)I" } : Jvm.MethodName) ({ cls := "DoughLedger", name := "contentOf", desc := "(I)I" } : Jvm.MethodName)) ∈ lw_all := lw_g (lw_at lw_m11 170 rfl) rfl
theorem q2695 : (Jvm.Cond.code ({ cls := "DoughLedger", name := "contentOf", desc := "(I)I" } : Jvm.MethodName) prog_1_method_41_code (2 : Nat) (Option.some Jvm.ClassFile.FieldType.int)) ∈ lw_all := lw_g (lw_at lw_m11 171 rfl) rfl
theorem q2700 : (Jvm.Cond.instanceMethod ({ cls := "DoughLedger", name := "roomFrom", desc := "(I)I" } : Jvm.MethodName)) ∈ lw_all := lw_g (lw_at lw_m11 176 rfl) rfl
theorem q2701 : (Jvm.Cond.selects "DoughLedger" ({ cls := "DoughLedger", name := "roomFrom", desc := "(I)I" } : Jvm.MethodName) ({ cls := "DoughLedger", name := "roomFrom", desc := "(I)I" } : Jvm.MethodName)) ∈ lw_all := lw_g (lw_at lw_m11 177 rfl) rfl
theorem q2702 : (Jvm.Cond.code ({ cls := "DoughLedger", name := "roomFrom", desc := "(I)I" } : Jvm.MethodName) prog_1_method_42_code (2 : Nat) (Option.some Jvm.ClassFile.FieldType.int)) ∈ lw_all := lw_g (lw_at lw_m11 178 rfl) rfl
theorem q2703 : (Jvm.Cond.methodLink "DoughLedger" (229 : Nat) ({ cls := "DoughLedger$Bakery", name := "roomFrom", desc := "(I)I" } : Jvm.MethodName)) ∈ lw_all := lw_g (lw_at lw_m11 179 rfl) rfl
theorem q2711 : (Jvm.Cond.instanceMethod ({ cls := "DoughLedger", name := "fullestBowl", desc := "()I" } : Jvm.MethodName)) ∈ lw_all := lw_g (lw_at lw_m11 187 rfl) rfl
theorem q2712 : (Jvm.Cond.selects "DoughLedger" ({ cls := "DoughLedger", name := "fullestBowl", desc := "()I" } : Jvm.MethodName) ({ cls := "DoughLedger", name := "fullestBowl", desc := "()I" } : Jvm.MethodName)) ∈ lw_all := lw_g (lw_at lw_m11 188 rfl) rfl
theorem q2713 : (Jvm.Cond.code ({ cls := "DoughLedger", name := "fullestBowl", desc := "()I" } : Jvm.MethodName) prog_1_method_43_code (1 : Nat) (Option.some Jvm.ClassFile.FieldType.int)) ∈ lw_all := lw_g (lw_at lw_m11 189 rfl) rfl
theorem q2714 : (Jvm.Cond.methodLink "DoughLedger" (232 : Nat) ({ cls := "DoughLedger$Bakery", name := "fullest", desc := "()I" } : Jvm.MethodName)) ∈ lw_all := lw_g (lw_at lw_m11 190 rfl) rfl
theorem q2722 : (Jvm.Cond.instanceMethod ({ cls := "DoughLedger", name := "weightOf", desc := "(I)I" } : Jvm.MethodName)) ∈ lw_all := lw_g (lw_at lw_m11 198 rfl) rfl
theorem q2723 : (Jvm.Cond.selects "DoughLedger" ({ cls := "DoughLedger", name := "weightOf", desc := "(I)I" } : Jvm.MethodName) ({ cls := "DoughLedger", name := "weightOf", desc := "(I)I" } : Jvm.MethodName)) ∈ lw_all := lw_g (lw_at lw_m11 199 rfl) rfl
theorem q2724 : (Jvm.Cond.code ({ cls := "DoughLedger", name := "weightOf", desc := "(I)I" } : Jvm.MethodName) prog_1_method_46_code (2 : Nat) (Option.some Jvm.ClassFile.FieldType.int)) ∈ lw_all := lw_g (lw_at lw_m11 200 rfl) rfl
theorem q2725 : (Jvm.Cond.methodLink "DoughLedger" (243 : Nat) ({ cls := "DoughLedger", name := "loafWith", desc := "(I)LDoughLedger$Loaf;" } : Jvm.MethodName)) ∈ lw_all := lw_g (lw_at lw_m11 201 rfl) rfl
theorem q2726 : (Jvm.Cond.privateMethod ({ cls := "DoughLedger", name := "loafWith", desc := "(I)LDoughLedger$Loaf;" } : Jvm.MethodName)) ∈ lw_tbl := lw_at lw_m11 202 rfl
theorem q2727 : (Jvm.Cond.instanceMethod ({ cls := "DoughLedger", name := "loafWith", desc := "(I)LDoughLedger$Loaf;" } : Jvm.MethodName)) ∈ lw_all := lw_g (lw_at lw_m11 203 rfl) rfl
theorem q2728 : (Jvm.Cond.code ({ cls := "DoughLedger", name := "loafWith", desc := "(I)LDoughLedger$Loaf;" } : Jvm.MethodName) prog_1_method_44_code (2 : Nat) (Option.some (Jvm.ClassFile.FieldType.object "DoughLedger$Loaf"))) ∈ lw_all := lw_g (lw_at lw_m11 204 rfl) rfl
theorem q2729 : (Jvm.Cond.methodLink "DoughLedger" (235 : Nat) ({ cls := "DoughLedger$Bakery", name := "hasLoaf", desc := "(I)Z" } : Jvm.MethodName)) ∈ lw_all := lw_g (lw_at lw_m11 205 rfl) rfl
theorem q2730 : (Jvm.Cond.classLink "DoughLedger" (241 : Nat) "DoughLedger$Loaf") ∈ lw_all := lw_g (lw_at lw_m11 206 rfl) rfl
theorem q2735 : (Jvm.Cond.instanceMethod ({ cls := "DoughLedger", name := "minutesOf", desc := "(I)I" } : Jvm.MethodName)) ∈ lw_all := lw_g (lw_at lw_m11 211 rfl) rfl
theorem q2736 : (Jvm.Cond.selects "DoughLedger" ({ cls := "DoughLedger", name := "minutesOf", desc := "(I)I" } : Jvm.MethodName) ({ cls := "DoughLedger", name := "minutesOf", desc := "(I)I" } : Jvm.MethodName)) ∈ lw_all := lw_g (lw_at lw_m11 212 rfl) rfl
theorem q2737 : (Jvm.Cond.code ({ cls := "DoughLedger", name := "minutesOf", desc := "(I)I" } : Jvm.MethodName) prog_1_method_47_code (2 : Nat) (Option.some Jvm.ClassFile.FieldType.int)) ∈ lw_all := lw_g (lw_at lw_m11 213 rfl) rfl
theorem q2742 : (Jvm.Cond.instanceMethod ({ cls := "DoughLedger", name := "crumbsOf", desc := "(I)I" } : Jvm.MethodName)) ∈ lw_all := lw_g (lw_at lw_m11 218 rfl) rfl
theorem q2743 : (Jvm.Cond.selects "DoughLedger" ({ cls := "DoughLedger", name := "crumbsOf", desc := "(I)I" } : Jvm.MethodName) ({ cls := "DoughLedger", name := "crumbsOf", desc := "(I)I" } : Jvm.MethodName)) ∈ lw_all := lw_g (lw_at lw_m11 219 rfl) rfl
theorem q2744 : (Jvm.Cond.code ({ cls := "DoughLedger", name := "crumbsOf", desc := "(I)I" } : Jvm.MethodName) prog_1_method_48_code (2 : Nat) (Option.some Jvm.ClassFile.FieldType.int)) ∈ lw_all := lw_g (lw_at lw_m11 220 rfl) rfl
theorem q2749 : (Jvm.Cond.instanceMethod ({ cls := "DoughLedger", name := "share", desc := "(II)I" } : Jvm.MethodName)) ∈ lw_all := lw_g (lw_at lw_m11 225 rfl) rfl
theorem q2750 : (Jvm.Cond.selects "DoughLedger" ({ cls := "DoughLedger", name := "share", desc := "(II)I" } : Jvm.MethodName) ({ cls := "DoughLedger", name := "share", desc := "(II)I" } : Jvm.MethodName)) ∈ lw_all := lw_g (lw_at lw_m11 226 rfl) rfl
theorem q2751 : (Jvm.Cond.code ({ cls := "DoughLedger", name := "share", desc := "(II)I" } : Jvm.MethodName) prog_1_method_50_code (3 : Nat) (Option.some Jvm.ClassFile.FieldType.int)) ∈ lw_all := lw_g (lw_at lw_m11 227 rfl) rfl
theorem q2752 : (Jvm.Cond.methodLink "DoughLedger" (260 : Nat) ({ cls := "DoughLedger", name := "sharing", desc := "(II)LDoughLedger$Sharing;" } : Jvm.MethodName)) ∈ lw_all := lw_g (lw_at lw_m11 228 rfl) rfl
theorem q2753 : (Jvm.Cond.privateMethod ({ cls := "DoughLedger", name := "sharing", desc := "(II)LDoughLedger$Sharing;" } : Jvm.MethodName)) ∈ lw_tbl := lw_at lw_m11 229 rfl
theorem q2754 : (Jvm.Cond.instanceMethod ({ cls := "DoughLedger", name := "sharing", desc := "(II)LDoughLedger$Sharing;" } : Jvm.MethodName)) ∈ lw_all := lw_g (lw_at lw_m11 230 rfl) rfl
theorem q2755 : (Jvm.Cond.code ({ cls := "DoughLedger", name := "sharing", desc := "(II)LDoughLedger$Sharing;" } : Jvm.MethodName) prog_1_method_49_code (3 : Nat) (Option.some (Jvm.ClassFile.FieldType.object "DoughLedger$Sharing"))) ∈ lw_all := lw_g (lw_at lw_m11 231 rfl) rfl
theorem q2756 : (Jvm.Cond.methodLink "DoughLedger" (256 : Nat) ({ cls := "DoughLedger$Bakery", name := "sharing", desc := "(I)LDoughLedger$Sharing;" } : Jvm.MethodName)) ∈ lw_all := lw_g (lw_at lw_m11 232 rfl) rfl
theorem q2757 : (Jvm.Cond.methodLink "DoughLedger" (263 : Nat) ({ cls := "DoughLedger$Sharing", name := "shares", desc := "()[I" } : Jvm.MethodName)) ∈ lw_all := lw_g (lw_at lw_m11 233 rfl) rfl
theorem q2762 : (Jvm.Cond.instanceMethod ({ cls := "DoughLedger", name := "shareByRanks", desc := "(II)I" } : Jvm.MethodName)) ∈ lw_all := lw_g (lw_at lw_m11 238 rfl) rfl
theorem q2763 : (Jvm.Cond.selects "DoughLedger" ({ cls := "DoughLedger", name := "shareByRanks", desc := "(II)I" } : Jvm.MethodName) ({ cls := "DoughLedger", name := "shareByRanks", desc := "(II)I" } : Jvm.MethodName)) ∈ lw_all := lw_g (lw_at lw_m11 239 rfl) rfl
theorem q2764 : (Jvm.Cond.code ({ cls := "DoughLedger", name := "shareByRanks", desc := "(II)I" } : Jvm.MethodName) prog_1_method_51_code (3 : Nat) (Option.some Jvm.ClassFile.FieldType.int)) ∈ lw_all := lw_g (lw_at lw_m12 0 rfl) rfl
theorem q2765 : (Jvm.Cond.methodLink "DoughLedger" (269 : Nat) ({ cls := "DoughLedger$Sharing", name := "shareByRanks", desc := "(I)I" } : Jvm.MethodName)) ∈ lw_all := lw_g (lw_at lw_m12 1 rfl) rfl
theorem q2770 : (Jvm.Cond.instanceMethod ({ cls := "DoughLedger", name := "loafByCrumbs", desc := "(I)I" } : Jvm.MethodName)) ∈ lw_all := lw_g (lw_at lw_m12 6 rfl) rfl
theorem q2771 : (Jvm.Cond.selects "DoughLedger" ({ cls := "DoughLedger", name := "loafByCrumbs", desc := "(I)I" } : Jvm.MethodName) ({ cls := "DoughLedger", name := "loafByCrumbs", desc := "(I)I" } : Jvm.MethodName)) ∈ lw_all := lw_g (lw_at lw_m12 7 rfl) rfl
theorem q2772 : (Jvm.Cond.code ({ cls := "DoughLedger", name := "loafByCrumbs", desc := "(I)I" } : Jvm.MethodName) prog_1_method_52_code (2 : Nat) (Option.some Jvm.ClassFile.FieldType.int)) ∈ lw_all := lw_g (lw_at lw_m12 8 rfl) rfl
theorem q2773 : (Jvm.Cond.methodLink "DoughLedger" (272 : Nat) ({ cls := "DoughLedger$Bakery", name := "loafAt", desc := "(I)I" } : Jvm.MethodName)) ∈ lw_all := lw_g (lw_at lw_m12 9 rfl) rfl
theorem q2795 : (Jvm.Cond.instanceMethod ({ cls := "DoughLedger", name := "meanCrumbs", desc := "()D" } : Jvm.MethodName)) ∈ lw_all := lw_g (lw_at lw_m12 31 rfl) rfl
theorem q2796 : (Jvm.Cond.selects "DoughLedger" ({ cls := "DoughLedger", name := "meanCrumbs", desc := "()D" } : Jvm.MethodName) ({ cls := "DoughLedger", name := "meanCrumbs", desc := "()D" } : Jvm.MethodName)) ∈ lw_all := lw_g (lw_at lw_m12 32 rfl) rfl
theorem q2797 : (Jvm.Cond.code ({ cls := "DoughLedger", name := "meanCrumbs", desc := "()D" } : Jvm.MethodName) prog_1_method_65_code (4 : Nat) (Option.some Jvm.ClassFile.FieldType.double)) ∈ lw_all := lw_g (lw_at lw_m12 33 rfl) rfl
theorem q2798 : (Jvm.Cond.methodLink "DoughLedger" (319 : Nat) ({ cls := "DoughLedger", name := "loafCount", desc := "()I" } : Jvm.MethodName)) ∈ lw_all := lw_g (lw_at lw_m12 34 rfl) rfl
theorem q2799 : (Jvm.Cond.methodLink "DoughLedger" (322 : Nat) ({ cls := "DoughLedger", name := "checkDivisor", desc := "(Z)V" } : Jvm.MethodName)) ∈ lw_all := lw_g (lw_at lw_m12 35 rfl) rfl
theorem q2800 : (Jvm.Cond.static ({ cls := "DoughLedger", name := "checkDivisor", desc := "(Z)V" } : Jvm.MethodName)) ∈ lw_all := lw_g (lw_at lw_m12 36 rfl) rfl
theorem q2801 : (Jvm.Cond.code ({ cls := "DoughLedger", name := "checkDivisor", desc := "(Z)V" } : Jvm.MethodName) prog_1_method_64_code (1 : Nat) (Option.none : Option Jvm.ClassFile.FieldType)) ∈ lw_all := lw_g (lw_at lw_m12 37 rfl) rfl
theorem q2802 : (Jvm.Cond.classLink "DoughLedger" (316 : Nat) "java/lang/ArithmeticException") ∈ lw_all := lw_g (lw_at lw_m12 38 rfl) rfl
theorem q2803 : (Jvm.Cond.methodLink "DoughLedger" (318 : Nat) ({ cls := "java/lang/ArithmeticException", name := "<init>", desc := "()V" } : Jvm.MethodName)) ∈ lw_all := lw_g (lw_at lw_m12 39 rfl) rfl
theorem q2807 : (Jvm.Cond.interfaceEntry "DoughLedger" (325 : Nat)) ∈ lw_tbl := lw_at lw_m12 43 rfl
theorem q2808 : (Jvm.Cond.methodLink "DoughLedger" (325 : Nat) ({ cls := "java/util/List", name := "iterator", desc := "()Ljava/util/Iterator;" } : Jvm.MethodName)) ∈ lw_all := lw_g (lw_at lw_m12 44 rfl) rfl
theorem q2809 : (Jvm.Cond.interfaceEntry "DoughLedger" (329 : Nat)) ∈ lw_tbl := lw_at lw_m12 45 rfl
theorem q2810 : (Jvm.Cond.methodLink "DoughLedger" (329 : Nat) ({ cls := "java/util/Iterator", name := "hasNext", desc := "()Z" } : Jvm.MethodName)) ∈ lw_all := lw_g (lw_at lw_m12 46 rfl) rfl
theorem q2811 : (Jvm.Cond.interfaceEntry "DoughLedger" (335 : Nat)) ∈ lw_tbl := lw_at lw_m12 47 rfl
theorem q2812 : (Jvm.Cond.methodLink "DoughLedger" (335 : Nat) ({ cls := "java/util/Iterator", name := "next", desc := "()Ljava/lang/Object;" } : Jvm.MethodName)) ∈ lw_all := lw_g (lw_at lw_m12 48 rfl) rfl
theorem q2817 : (Jvm.Cond.instanceMethod ({ cls := "DoughLedger", name := "fullShare", desc := "()F" } : Jvm.MethodName)) ∈ lw_all := lw_g (lw_at lw_m12 53 rfl) rfl
theorem q2818 : (Jvm.Cond.selects "DoughLedger" ({ cls := "DoughLedger", name := "fullShare", desc := "()F" } : Jvm.MethodName) ({ cls := "DoughLedger", name := "fullShare", desc := "()F" } : Jvm.MethodName)) ∈ lw_all := lw_g (lw_at lw_m12 54 rfl) rfl
theorem q2819 : (Jvm.Cond.code ({ cls := "DoughLedger", name := "fullShare", desc := "()F" } : Jvm.MethodName) prog_1_method_66_code (5 : Nat) (Option.some Jvm.ClassFile.FieldType.float)) ∈ lw_all := lw_g (lw_at lw_m12 55 rfl) rfl
theorem q2820 : (Jvm.Cond.methodLink "DoughLedger" (338 : Nat) ({ cls := "DoughLedger", name := "bowlCount", desc := "()I" } : Jvm.MethodName)) ∈ lw_all := lw_g (lw_at lw_m12 56 rfl) rfl
theorem q2825 : (Jvm.Cond.instanceMethod ({ cls := "DoughLedger", name := "renderDough", desc := "(I)I" } : Jvm.MethodName)) ∈ lw_all := lw_g (lw_at lw_m12 61 rfl) rfl
theorem q2826 : (Jvm.Cond.selects "DoughLedger" ({ cls := "DoughLedger", name := "renderDough", desc := "(I)I" } : Jvm.MethodName) ({ cls := "DoughLedger", name := "renderDough", desc := "(I)I" } : Jvm.MethodName)) ∈ lw_all := lw_g (lw_at lw_m12 62 rfl) rfl
theorem q2827 : (Jvm.Cond.code ({ cls := "DoughLedger", name := "renderDough", desc := "(I)I" } : Jvm.MethodName) prog_1_method_69_code (2 : Nat) (Option.some Jvm.ClassFile.FieldType.int)) ∈ lw_all := lw_g (lw_at lw_m12 63 rfl) rfl
theorem q2828 : (Jvm.Cond.methodLink "DoughLedger" (349 : Nat) ({ cls := "java/lang/StringBuilder", name := "append", desc := "(Ljava/lang/Object;)Ljava/lang/StringBuilder;" } : Jvm.MethodName)) ∈ lw_all := lw_g (lw_at lw_m12 64 rfl) rfl
theorem q2840 : (Jvm.Cond.selects "DoughLedger" ({ cls := "java/lang/Object", name := "toString", desc := "()Ljava/lang/String;" } : Jvm.MethodName) ({ cls := "java/lang/Object", name := "toString", desc := "()Ljava/lang/String;" } : Jvm.MethodName)) ∈ lw_all := lw_g (lw_at lw_m12 76 rfl) rfl
theorem q2893 : (Jvm.Cond.stringRef "DoughLedger" (353 : Nat) "=") ∈ lw_tbl := lw_at lw_m12 129 rfl
theorem q2894 : (Jvm.Cond.methodLink "DoughLedger" (355 : Nat) ({ cls := "java/lang/StringBuilder", name := "append", desc := "(Ljava/lang/String;)Ljava/lang/StringBuilder;" } : Jvm.MethodName)) ∈ lw_all := lw_g (lw_at lw_m12 130 rfl) rfl
theorem q2895 : (Jvm.Cond.methodLink "DoughLedger" (358 : Nat) ({ cls := "DoughLedger$Bakery", name := "decimals", desc := "(I)Ljava/lang/String;" } : Jvm.MethodName)) ∈ lw_all := lw_g (lw_at lw_m12 131 rfl) rfl
theorem q2921 : (Jvm.Cond.methodLink "DoughLedger" (362 : Nat) ({ cls := "java/lang/StringBuilder", name := "toString", desc := "()Ljava/lang/String;" } : Jvm.MethodName)) ∈ lw_all := lw_g (lw_at lw_m12 157 rfl) rfl
theorem q2926 : (Jvm.Cond.instanceMethod ({ cls := "DoughLedger", name := "outputAt", desc := "(I)C" } : Jvm.MethodName)) ∈ lw_all := lw_g (lw_at lw_m12 162 rfl) rfl
theorem q2927 : (Jvm.Cond.selects "DoughLedger" ({ cls := "DoughLedger", name := "outputAt", desc := "(I)C" } : Jvm.MethodName) ({ cls := "DoughLedger", name := "outputAt", desc := "(I)C" } : Jvm.MethodName)) ∈ lw_all := lw_g (lw_at lw_m12 163 rfl) rfl
theorem q2928 : (Jvm.Cond.code ({ cls := "DoughLedger", name := "outputAt", desc := "(I)C" } : Jvm.MethodName) prog_1_method_71_code (2 : Nat) (Option.some Jvm.ClassFile.FieldType.char)) ∈ lw_all := lw_g (lw_at lw_m12 164 rfl) rfl
theorem q2929 : (Jvm.Cond.methodLink "DoughLedger" (373 : Nat) ({ cls := "java/lang/String", name := "charAt", desc := "(I)C" } : Jvm.MethodName)) ∈ lw_all := lw_g (lw_at lw_m12 165 rfl) rfl
theorem q2948 : (Jvm.Cond.instanceMethod ({ cls := "DoughLedger", name := "type", desc := "(C)I" } : Jvm.MethodName)) ∈ lw_all := lw_g (lw_at lw_m12 184 rfl) rfl
theorem q2949 : (Jvm.Cond.selects "DoughLedger" ({ cls := "DoughLedger", name := "type", desc := "(C)I" } : Jvm.MethodName) ({ cls := "DoughLedger", name := "type", desc := "(C)I" } : Jvm.MethodName)) ∈ lw_all := lw_g (lw_at lw_m12 185 rfl) rfl
theorem q2950 : (Jvm.Cond.code ({ cls := "DoughLedger", name := "type", desc := "(C)I" } : Jvm.MethodName) prog_1_method_72_code (2 : Nat) (Option.some Jvm.ClassFile.FieldType.int)) ∈ lw_all := lw_g (lw_at lw_m12 186 rfl) rfl
theorem q2951 : (Jvm.Cond.methodLink "DoughLedger" (377 : Nat) ({ cls := "java/lang/StringBuilder", name := "length", desc := "()I" } : Jvm.MethodName)) ∈ lw_all := lw_g (lw_at lw_m12 187 rfl) rfl
theorem q2952 : (Jvm.Cond.methodLink "DoughLedger" (378 : Nat) ({ cls := "DoughLedger", name := "checkState", desc := "(Z)V" } : Jvm.MethodName)) ∈ lw_all := lw_g (lw_at lw_m12 188 rfl) rfl
theorem q2953 : (Jvm.Cond.static ({ cls := "DoughLedger", name := "checkState", desc := "(Z)V" } : Jvm.MethodName)) ∈ lw_all := lw_g (lw_at lw_m12 189 rfl) rfl
theorem q2954 : (Jvm.Cond.code ({ cls := "DoughLedger", name := "checkState", desc := "(Z)V" } : Jvm.MethodName) prog_1_method_25_code (1 : Nat) (Option.none : Option Jvm.ClassFile.FieldType)) ∈ lw_all := lw_g (lw_at lw_m12 190 rfl) rfl
theorem q2955 : (Jvm.Cond.classLink "DoughLedger" (119 : Nat) "java/lang/IllegalStateException") ∈ lw_all := lw_g (lw_at lw_m12 191 rfl) rfl
theorem q2956 : (Jvm.Cond.methodLink "DoughLedger" (121 : Nat) ({ cls := "java/lang/IllegalStateException", name := "<init>", desc := "()V" } : Jvm.MethodName)) ∈ lw_all := lw_g (lw_at lw_m12 192 rfl) rfl
theorem q2957 : (Jvm.Cond.methodLink "DoughLedger" (381 : Nat) ({ cls := "java/lang/StringBuilder", name := "append", desc := "(C)Ljava/lang/StringBuilder;" } : Jvm.MethodName)) ∈ lw_all := lw_g (lw_at lw_m12 193 rfl) rfl
theorem q2962 : (Jvm.Cond.instanceMethod ({ cls := "DoughLedger", name := "runScript", desc := "()I" } : Jvm.MethodName)) ∈ lw_all := lw_g (lw_at lw_m12 198 rfl) rfl
theorem q2963 : (Jvm.Cond.selects "DoughLedger" ({ cls := "DoughLedger", name := "runScript", desc := "()I" } : Jvm.MethodName) ({ cls := "DoughLedger", name := "runScript", desc := "()I" } : Jvm.MethodName)) ∈ lw_all := lw_g (lw_at lw_m12 199 rfl) rfl
theorem q2964 : (Jvm.Cond.codeWith ({ cls := "DoughLedger", name := "runScript", desc := "()I" } : Jvm.MethodName) prog_1_method_75_code (4 : Nat) (Option.some Jvm.ClassFile.FieldType.int) [((8 : Nat), (24 : Nat), (34 : Nat), (395 : Nat)), ((8 : Nat), (24 : Nat), (34 : Nat), (390 : Nat)), ((8 : Nat), (24 : Nat), (45 : Nat), (0 : Nat)), ((34 : Nat), (46 : Nat), (45 : Nat), (0 : Nat))]) ∈ lw_all := lw_g (lw_at lw_m12 200 rfl) rfl
theorem q2965 : (Jvm.Cond.classLink "DoughLedger" (395 : Nat) "DoughLedger$SyntaxFailure") ∈ lw_all := lw_g (lw_at lw_m12 201 rfl) rfl
theorem q2966 : (Jvm.Cond.classLink "DoughLedger" (390 : Nat) "DoughLedger$CommandFailure") ∈ lw_all := lw_g (lw_at lw_m12 202 rfl) rfl
theorem q2967 : (Jvm.Cond.classLink "DoughLedger" (411 : Nat) "DoughLedger$Parser") ∈ lw_all := lw_g (lw_at lw_m12 203 rfl) rfl
theorem q2969 : (Jvm.Cond.methodLink "DoughLedger" (413 : Nat) ({ cls := "DoughLedger$Parser", name := "<init>", desc := "(Ljava/lang/String;)V" } : Jvm.MethodName)) ∈ lw_all := lw_g (lw_at lw_m12 205 rfl) rfl
theorem q2980 : (Jvm.Cond.methodLink "DoughLedger" (416 : Nat) ({ cls := "DoughLedger$Parser", name := "commands", desc := "()Ljava/util/LinkedList;" } : Jvm.MethodName)) ∈ lw_all := lw_g (lw_at lw_m12 216 rfl) rfl
theorem q3214 : (Jvm.Cond.methodLink "DoughLedger" (420 : Nat) ({ cls := "DoughLedger", name := "execute", desc := "(Ljava/util/LinkedList;)I" } : Jvm.MethodName)) ∈ lw_all := lw_g (lw_at lw_m13 210 rfl) rfl
theorem q3215 : (Jvm.Cond.privateMethod ({ cls := "DoughLedger", name := "execute", desc := "(Ljava/util/LinkedList;)I" } : Jvm.MethodName)) ∈ lw_tbl := lw_at lw_m13 211 rfl
theorem q3216 : (Jvm.Cond.instanceMethod ({ cls := "DoughLedger", name := "execute", desc := "(Ljava/util/LinkedList;)I" } : Jvm.MethodName)) ∈ lw_all := lw_g (lw_at lw_m13 212 rfl) rfl
theorem q3217 : (Jvm.Cond.codeWith ({ cls := "DoughLedger", name := "execute", desc := "(Ljava/util/LinkedList;)I" } : Jvm.MethodName) prog_1_method_73_code (7 : Nat) (Option.some Jvm.ClassFile.FieldType.int) [((38 : Nat), (45 : Nat), (48 : Nat), (1 : Nat))]) ∈ lw_all := lw_g (lw_at lw_m13 213 rfl) rfl
theorem q3218 : (Jvm.Cond.methodLink "DoughLedger" (384 : Nat) ({ cls := "java/util/LinkedList", name := "iterator", desc := "()Ljava/util/Iterator;" } : Jvm.MethodName)) ∈ lw_all := lw_g (lw_at lw_m13 214 rfl) rfl
theorem q3222 : (Jvm.Cond.classLink "DoughLedger" (385 : Nat) "DoughLedger$Command") ∈ lw_all := lw_g (lw_at lw_m13 218 rfl) rfl
theorem q3223 : (Jvm.Cond.methodLink "DoughLedger" (387 : Nat) ({ cls := "DoughLedger$Command", name := "applyTo", desc := "(LDoughLedger$Bakery;)I" } : Jvm.MethodName)) ∈ lw_all := lw_g (lw_at lw_m13 219 rfl) rfl
theorem q3237 : (Jvm.Cond.methodLink "DoughLedger" (392 : Nat) ({ cls := "DoughLedger$CommandFailure", name := "<init>", desc := "(ILDoughLedger$ConditionFailure;)V" } : Jvm.MethodName)) ∈ lw_all := lw_g (lw_at lw_m13 233 rfl) rfl
theorem q3246 : (Jvm.Cond.methodLink "DoughLedger" (424 : Nat) ({ cls := "java/lang/StringBuilder", name := "setLength", desc := "(I)V" } : Jvm.MethodName)) ∈ lw_all := lw_g (lw_at lw_m14 2 rfl) rfl
theorem q3298 : (Jvm.Cond.methodLink "DoughLedger" (428 : Nat) ({ cls := "DoughLedger", name := "note", desc := "(LDoughLedger$Failure;)V" } : Jvm.MethodName)) ∈ lw_all := lw_g (lw_at lw_m14 54 rfl) rfl
theorem q3299 : (Jvm.Cond.privateMethod ({ cls := "DoughLedger", name := "note", desc := "(LDoughLedger$Failure;)V" } : Jvm.MethodName)) ∈ lw_tbl := lw_at lw_m14 55 rfl
theorem q3300 : (Jvm.Cond.instanceMethod ({ cls := "DoughLedger", name := "note", desc := "(LDoughLedger$Failure;)V" } : Jvm.MethodName)) ∈ lw_all := lw_g (lw_at lw_m14 56 rfl) rfl
theorem q3301 : (Jvm.Cond.code ({ cls := "DoughLedger", name := "note", desc := "(LDoughLedger$Failure;)V" } : Jvm.MethodName) prog_1_method_74_code (4 : Nat) (Option.none : Option Jvm.ClassFile.FieldType)) ∈ lw_all := lw_g (lw_at lw_m14 57 rfl) rfl
theorem q3302 : (Jvm.Cond.methodLink "DoughLedger" (397 : Nat) ({ cls := "DoughLedger$SyntaxFailure", name := "position", desc := "()I" } : Jvm.MethodName)) ∈ lw_all := lw_g (lw_at lw_m14 58 rfl) rfl
theorem q3306 : (Jvm.Cond.methodLink "DoughLedger" (400 : Nat) ({ cls := "DoughLedger$CommandFailure", name := "index", desc := "()I" } : Jvm.MethodName)) ∈ lw_all := lw_g (lw_at lw_m14 62 rfl) rfl
theorem q3310 : (Jvm.Cond.methodLink "DoughLedger" (403 : Nat) ({ cls := "DoughLedger$CommandFailure", name := "kind", desc := "()C" } : Jvm.MethodName)) ∈ lw_all := lw_g (lw_at lw_m14 66 rfl) rfl
theorem q3325 : (Jvm.Cond.methodLink "DoughLedger" (432 : Nat) ({ cls := "DoughLedger$Failure", name := "asPublicException", desc := "()Ljava/lang/RuntimeException;" } : Jvm.MethodName)) ∈ lw_all := lw_g (lw_at lw_m14 81 rfl) rfl
theorem q3343 : (Jvm.Cond.instanceMethod ({ cls := "DoughLedger", name := "errorPosition", desc := "()I" } : Jvm.MethodName)) ∈ lw_all := lw_g (lw_at lw_m14 99 rfl) rfl
theorem q3344 : (Jvm.Cond.selects "DoughLedger" ({ cls := "DoughLedger", name := "errorPosition", desc := "()I" } : Jvm.MethodName) ({ cls := "DoughLedger", name := "errorPosition", desc := "()I" } : Jvm.MethodName)) ∈ lw_all := lw_g (lw_at lw_m14 100 rfl) rfl
theorem q3345 : (Jvm.Cond.code ({ cls := "DoughLedger", name := "errorPosition", desc := "()I" } : Jvm.MethodName) prog_1_method_76_code (1 : Nat) (Option.some Jvm.ClassFile.FieldType.int)) ∈ lw_all := lw_g (lw_at lw_m14 101 rfl) rfl
theorem q3350 : (Jvm.Cond.instanceMethod ({ cls := "DoughLedger", name := "failedCommand", desc := "()I" } : Jvm.MethodName)) ∈ lw_all := lw_g (lw_at lw_m14 106 rfl) rfl
theorem q3351 : (Jvm.Cond.selects "DoughLedger" ({ cls := "DoughLedger", name := "failedCommand", desc := "()I" } : Jvm.MethodName) ({ cls := "DoughLedger", name := "failedCommand", desc := "()I" } : Jvm.MethodName)) ∈ lw_all := lw_g (lw_at lw_m14 107 rfl) rfl
theorem q3352 : (Jvm.Cond.code ({ cls := "DoughLedger", name := "failedCommand", desc := "()I" } : Jvm.MethodName) prog_1_method_77_code (1 : Nat) (Option.some Jvm.ClassFile.FieldType.int)) ∈ lw_all := lw_g (lw_at lw_m14 108 rfl) rfl
theorem q3357 : (Jvm.Cond.instanceMethod ({ cls := "DoughLedger", name := "failureKind", desc := "()C" } : Jvm.MethodName)) ∈ lw_all := lw_g (lw_at lw_m14 113 rfl) rfl
theorem q3358 : (Jvm.Cond.selects "DoughLedger" ({ cls := "DoughLedger", name := "failureKind", desc := "()C" } : Jvm.MethodName) ({ cls := "DoughLedger", name := "failureKind", desc := "()C" } : Jvm.MethodName)) ∈ lw_all := lw_g (lw_at lw_m14 114 rfl) rfl
theorem q3359 : (Jvm.Cond.code ({ cls := "DoughLedger", name := "failureKind", desc := "()C" } : Jvm.MethodName) prog_1_method_78_code (1 : Nat) (Option.some Jvm.ClassFile.FieldType.char)) ∈ lw_all := lw_g (lw_at lw_m14 115 rfl) rfl
theorem q3364 : (Jvm.Cond.instanceMethod ({ cls := "DoughLedger", name := "undo", desc := "()I" } : Jvm.MethodName)) ∈ lw_all := lw_g (lw_at lw_m14 120 rfl) rfl
theorem q3365 : (Jvm.Cond.selects "DoughLedger" ({ cls := "DoughLedger", name := "undo", desc := "()I" } : Jvm.MethodName) ({ cls := "DoughLedger", name := "undo", desc := "()I" } : Jvm.MethodName)) ∈ lw_all := lw_g (lw_at lw_m14 121 rfl) rfl
theorem q3366 : (Jvm.Cond.code ({ cls := "DoughLedger", name := "undo", desc := "()I" } : Jvm.MethodName) prog_1_method_79_code (1 : Nat) (Option.some Jvm.ClassFile.FieldType.int)) ∈ lw_all := lw_g (lw_at lw_m14 122 rfl) rfl
theorem q3367 : (Jvm.Cond.methodLink "DoughLedger" (435 : Nat) ({ cls := "java/util/LinkedList", name := "isEmpty", desc := "()Z" } : Jvm.MethodName)) ∈ lw_all := lw_g (lw_at lw_m14 123 rfl) rfl
theorem q3371 : (Jvm.Cond.methodLink "DoughLedger" (438 : Nat) ({ cls := "java/util/LinkedList", name := "removeLast", desc := "()Ljava/lang/Object;" } : Jvm.MethodName)) ∈ lw_all := lw_g (lw_at lw_m14 127 rfl) rfl
theorem q3383 : (Jvm.Cond.instanceMethod ({ cls := "DoughLedger", name := "restore", desc := "()I" } : Jvm.MethodName)) ∈ lw_all := lw_g (lw_at lw_m14 139 rfl) rfl
theorem q3384 : (Jvm.Cond.selects "DoughLedger" ({ cls := "DoughLedger", name := "restore", desc := "()I" } : Jvm.MethodName) ({ cls := "DoughLedger", name := "restore", desc := "()I" } : Jvm.MethodName)) ∈ lw_all := lw_g (lw_at lw_m14 140 rfl) rfl
theorem q3385 : (Jvm.Cond.code ({ cls := "DoughLedger", name := "restore", desc := "()I" } : Jvm.MethodName) prog_1_method_81_code (1 : Nat) (Option.some Jvm.ClassFile.FieldType.int)) ∈ lw_all := lw_g (lw_at lw_m14 141 rfl) rfl
theorem q3386 : (Jvm.Cond.methodLink "DoughLedger" (447 : Nat) ({ cls := "java/util/LinkedList", name := "clear", desc := "()V" } : Jvm.MethodName)) ∈ lw_all := lw_g (lw_at lw_m14 142 rfl) rfl
theorem q4028 : (Jvm.Cond.castable "DoughLedger" "java/lang/Object") ∈ lw_tbl := lw_at lw_m17 64 rfl
theorem in_X1 : ∀ w ∈ wsX10, w ∈ lw_all := lw_in wsX10 [381, 383, 385, 387, 389, 391, 393, 395] (by decide +kernel) (by decide +kernel)

/-! DoughLedger$Bakery -/
set_option maxRecDepth 100000
def RX2 : String := "DoughLedger$Bakery"
def TX2 : u_T := fun k => match k with
  | 0 => ("DoughLedger$Bakery", "doughs", "Ljava/util/TreeMap;", true)
  | 1 => ("DoughLedger$Bakery", "bowls", "Ljava/util/List;", true)
  | 2 => ("DoughLedger$Bakery", "loaves", "Ljava/util/List;", true)
  | 3 => ("DoughLedger$Bakery", "scale", "I", false)
  | 4 => ("DoughLedger$Bakery", "rule", "C", false)
  | 5 => ("DoughLedger$Bakery", "ovens", "I", false)
  | 6 => ("DoughLedger$Bakery", "poured", "J", false)
  | 7 => ("DoughLedger$Bakery", "spilled", "J", false)
  | 8 => ("DoughLedger$Bakery", "gone", "J", false)
  | 9 => ("DoughLedger$Bakery", "error", "J", false)
  | _ => ("DoughLedger$Bakery", "exact", "J", false)
def tyX2 : Nat → FieldType := fun k => match k with
  | 0 => .object "java/util/TreeMap"
  | 1 => .object "java/util/List"
  | 2 => .object "java/util/List"
  | 3 => .int
  | 4 => .char
  | 5 => .int
  | 6 => .long
  | 7 => .long
  | 8 => .long
  | 9 => .long
  | _ => .long
abbrev wsX20 : List Cond := u_ws RX2 TX2 11
theorem nmX2 : ∀ a, a < 11 → ∀ b, b < 11 → a ≠ b → (TX2 a).2.1 ≠ (TX2 b).2.1 := by decide +kernel
theorem tyX2_ok : ∀ k, k < 11 → parseFieldDescriptor (TX2 k).2.2.1 = some (tyX2 k) := by decide +kernel
abbrev cX2_init : ByteArray := prog_2_method_1_code
def yX2_init : MethodName := ⟨RX2, "<init>", "()V"⟩
def dkwX2_init_2 : List UInt8 := [181, 0, 32, 42, 5, 181, 0, 36, 177]
abbrev dktX2_init_2 : List UInt8 := dkwX2_init_2 ++ []
def dkwX2_init_1 : List UInt8 := [181, 0, 21, 42, 187, 0, 18, 89, 183, 0, 20, 181, 0, 25, 42, 5, 181, 0, 28, 42, 16, 104]
abbrev dktX2_init_1 : List UInt8 := dkwX2_init_1 ++ dktX2_init_2
def dkwX2_init_0 : List UInt8 := [42, 183, 0, 3, 42, 187, 0, 9, 89, 183, 0, 11, 181, 0, 12, 42, 187, 0, 18, 89, 183, 0, 20]
abbrev dktX2_init_0 : List UInt8 := dkwX2_init_0 ++ dktX2_init_1
theorem dksX2_init_0 : cX2_init.data.toList.drop 0 = dktX2_init_0 := by decide +kernel
theorem dksX2_init_1 : cX2_init.data.toList.drop 23 = dktX2_init_1 := dk_seg dksX2_init_0 23 rfl rfl
theorem dksX2_init_2 : cX2_init.data.toList.drop 45 = dktX2_init_2 := dk_seg dksX2_init_1 22 rfl rfl
theorem dX2_init_0 : decode cX2_init 0 = .ok (.aload_n 0, 1) := dk_42 (dk_at dksX2_init_0 0 rfl rfl)
theorem dX2_init_1 : decode cX2_init 1 = .ok (.invokespecial 3, 3) := dk_183 0 3 (dk_at dksX2_init_0 1 rfl rfl)
theorem dX2_init_4 : decode cX2_init 4 = .ok (.aload_n 0, 1) := dk_42 (dk_at dksX2_init_0 4 rfl rfl)
theorem dX2_init_5 : decode cX2_init 5 = .ok (.new 9, 3) := dk_187 0 9 (dk_at dksX2_init_0 5 rfl rfl)
theorem dX2_init_8 : decode cX2_init 8 = .ok (.dup, 1) := dk_89 (dk_at dksX2_init_0 8 rfl rfl)
theorem dX2_init_9 : decode cX2_init 9 = .ok (.invokespecial 11, 3) := dk_183 0 11 (dk_at dksX2_init_0 9 rfl rfl)
theorem dX2_init_12 : decode cX2_init 12 = .ok (.putfield 12, 3) := dk_181 0 12 (dk_at dksX2_init_0 12 rfl rfl)
theorem dX2_init_15 : decode cX2_init 15 = .ok (.aload_n 0, 1) := dk_42 (dk_at dksX2_init_0 15 rfl rfl)
theorem dX2_init_16 : decode cX2_init 16 = .ok (.new 18, 3) := dk_187 0 18 (dk_at dksX2_init_0 16 rfl rfl)
theorem dX2_init_19 : decode cX2_init 19 = .ok (.dup, 1) := dk_89 (dk_at dksX2_init_0 19 rfl rfl)
theorem dX2_init_20 : decode cX2_init 20 = .ok (.invokespecial 20, 3) := dk_183 0 20 (dk_at dksX2_init_0 20 rfl rfl)
theorem dX2_init_23 : decode cX2_init 23 = .ok (.putfield 21, 3) := dk_181 0 21 (dk_at dksX2_init_1 0 rfl rfl)
theorem dX2_init_26 : decode cX2_init 26 = .ok (.aload_n 0, 1) := dk_42 (dk_at dksX2_init_1 3 rfl rfl)
theorem dX2_init_27 : decode cX2_init 27 = .ok (.new 18, 3) := dk_187 0 18 (dk_at dksX2_init_1 4 rfl rfl)
theorem dX2_init_30 : decode cX2_init 30 = .ok (.dup, 1) := dk_89 (dk_at dksX2_init_1 7 rfl rfl)
theorem dX2_init_31 : decode cX2_init 31 = .ok (.invokespecial 20, 3) := dk_183 0 20 (dk_at dksX2_init_1 8 rfl rfl)
theorem dX2_init_34 : decode cX2_init 34 = .ok (.putfield 25, 3) := dk_181 0 25 (dk_at dksX2_init_1 11 rfl rfl)
theorem dX2_init_37 : decode cX2_init 37 = .ok (.aload_n 0, 1) := dk_42 (dk_at dksX2_init_1 14 rfl rfl)
theorem dX2_init_38 : decode cX2_init 38 = .ok (.iconst 2, 1) := dk_5 (dk_at dksX2_init_1 15 rfl rfl)
theorem dX2_init_39 : decode cX2_init 39 = .ok (.putfield 28, 3) := dk_181 0 28 (dk_at dksX2_init_1 16 rfl rfl)
theorem dX2_init_42 : decode cX2_init 42 = .ok (.aload_n 0, 1) := dk_42 (dk_at dksX2_init_1 19 rfl rfl)
theorem dX2_init_43 : decode cX2_init 43 = .ok (.bipush 104, 2) := dk_16 104 (dk_at dksX2_init_1 20 rfl rfl)
theorem dX2_init_45 : decode cX2_init 45 = .ok (.putfield 32, 3) := dk_181 0 32 (dk_at dksX2_init_2 0 rfl rfl)
theorem dX2_init_48 : decode cX2_init 48 = .ok (.aload_n 0, 1) := dk_42 (dk_at dksX2_init_2 3 rfl rfl)
theorem dX2_init_49 : decode cX2_init 49 = .ok (.iconst 2, 1) := dk_5 (dk_at dksX2_init_2 4 rfl rfl)
theorem dX2_init_50 : decode cX2_init 50 = .ok (.putfield 36, 3) := dk_181 0 36 (dk_at dksX2_init_2 5 rfl rfl)
theorem dX2_init_53 : decode cX2_init 53 = .ok (.return_, 1) := dk_177 (dk_at dksX2_init_2 8 rfl rfl)
abbrev cX2_baking : ByteArray := prog_2_method_24_code
def yX2_baking : MethodName := ⟨RX2, "baking", "()LDoughLedger$Baking;"⟩
def dkwX2_baking_0 : List UInt8 := [187, 0, 224, 89, 42, 180, 0, 25, 42, 180, 0, 36, 183, 0, 226, 176]
abbrev dktX2_baking_0 : List UInt8 := dkwX2_baking_0 ++ []
theorem dksX2_baking_0 : cX2_baking.data.toList.drop 0 = dktX2_baking_0 := by decide +kernel
theorem dX2_baking_0 : decode cX2_baking 0 = .ok (.new 224, 3) := dk_187 0 224 (dk_at dksX2_baking_0 0 rfl rfl)
theorem dX2_baking_3 : decode cX2_baking 3 = .ok (.dup, 1) := dk_89 (dk_at dksX2_baking_0 3 rfl rfl)
theorem dX2_baking_4 : decode cX2_baking 4 = .ok (.aload_n 0, 1) := dk_42 (dk_at dksX2_baking_0 4 rfl rfl)
theorem dX2_baking_5 : decode cX2_baking 5 = .ok (.getfield 25, 3) := dk_180 0 25 (dk_at dksX2_baking_0 5 rfl rfl)
theorem dX2_baking_8 : decode cX2_baking 8 = .ok (.aload_n 0, 1) := dk_42 (dk_at dksX2_baking_0 8 rfl rfl)
theorem dX2_baking_9 : decode cX2_baking 9 = .ok (.getfield 36, 3) := dk_180 0 36 (dk_at dksX2_baking_0 9 rfl rfl)
theorem dX2_baking_12 : decode cX2_baking 12 = .ok (.invokespecial 226, 3) := dk_183 0 226 (dk_at dksX2_baking_0 12 rfl rfl)
theorem dX2_baking_15 : decode cX2_baking 15 = .ok (.areturn, 1) := dk_176 (dk_at dksX2_baking_0 15 rfl rfl)
abbrev cX2_crumbs : ByteArray := prog_2_method_8_code
def yX2_crumbs : MethodName := ⟨RX2, "crumbs", "()I"⟩
def dkwX2_crumbs_3 : List UInt8 := [78, 27, 45, 180, 0, 139, 96, 60, 167, 255, 230, 27, 172]
abbrev dktX2_crumbs_3 : List UInt8 := dkwX2_crumbs_3 ++ []
def dkwX2_crumbs_2 : List UInt8 := [185, 0, 80, 1, 0, 77, 44, 185, 0, 50, 1, 0, 153, 0, 23, 44, 185, 0, 56, 1, 0, 192, 0, 98]
abbrev dktX2_crumbs_2 : List UInt8 := dkwX2_crumbs_2 ++ dktX2_crumbs_3
def dkwX2_crumbs_1 : List UInt8 := [185, 0, 56, 1, 0, 192, 0, 83, 78, 27, 45, 180, 0, 88, 96, 60, 167, 255, 230, 42, 180, 0, 25]
abbrev dktX2_crumbs_1 : List UInt8 := dkwX2_crumbs_1 ++ dktX2_crumbs_2
def dkwX2_crumbs_0 : List UInt8 := [3, 60, 42, 180, 0, 21, 185, 0, 80, 1, 0, 77, 44, 185, 0, 50, 1, 0, 153, 0, 23, 44]
abbrev dktX2_crumbs_0 : List UInt8 := dkwX2_crumbs_0 ++ dktX2_crumbs_1
theorem dksX2_crumbs_0 : cX2_crumbs.data.toList.drop 0 = dktX2_crumbs_0 := by decide +kernel
theorem dksX2_crumbs_1 : cX2_crumbs.data.toList.drop 22 = dktX2_crumbs_1 := dk_seg dksX2_crumbs_0 22 rfl rfl
theorem dksX2_crumbs_2 : cX2_crumbs.data.toList.drop 45 = dktX2_crumbs_2 := dk_seg dksX2_crumbs_1 23 rfl rfl
theorem dksX2_crumbs_3 : cX2_crumbs.data.toList.drop 69 = dktX2_crumbs_3 := dk_seg dksX2_crumbs_2 24 rfl rfl
theorem dX2_crumbs_0 : decode cX2_crumbs 0 = .ok (.iconst 0, 1) := dk_3 (dk_at dksX2_crumbs_0 0 rfl rfl)
theorem dX2_crumbs_1 : decode cX2_crumbs 1 = .ok (.istore_n 1, 1) := dk_60 (dk_at dksX2_crumbs_0 1 rfl rfl)
theorem dX2_crumbs_2 : decode cX2_crumbs 2 = .ok (.aload_n 0, 1) := dk_42 (dk_at dksX2_crumbs_0 2 rfl rfl)
theorem dX2_crumbs_3 : decode cX2_crumbs 3 = .ok (.getfield 21, 3) := dk_180 0 21 (dk_at dksX2_crumbs_0 3 rfl rfl)
theorem dX2_crumbs_6 : decode cX2_crumbs 6 = .ok (.invokeinterface 80 1, 5) := by decide +kernel
theorem dX2_crumbs_11 : decode cX2_crumbs 11 = .ok (.astore_n 2, 1) := dk_77 (dk_at dksX2_crumbs_0 11 rfl rfl)
theorem dX2_crumbs_12 : decode cX2_crumbs 12 = .ok (.aload_n 2, 1) := dk_44 (dk_at dksX2_crumbs_0 12 rfl rfl)
theorem dX2_crumbs_13 : decode cX2_crumbs 13 = .ok (.invokeinterface 50 1, 5) := by decide +kernel
theorem dX2_crumbs_18 : decode cX2_crumbs 18 = .ok (.ifCond .eq 23, 3) := dk_153 0 23 (dk_at dksX2_crumbs_0 18 rfl rfl)
theorem dX2_crumbs_21 : decode cX2_crumbs 21 = .ok (.aload_n 2, 1) := dk_44 (dk_at dksX2_crumbs_0 21 rfl rfl)
theorem dX2_crumbs_22 : decode cX2_crumbs 22 = .ok (.invokeinterface 56 1, 5) := by decide +kernel
theorem dX2_crumbs_27 : decode cX2_crumbs 27 = .ok (.checkcast 83, 3) := dk_192 0 83 (dk_at dksX2_crumbs_1 5 rfl rfl)
theorem dX2_crumbs_30 : decode cX2_crumbs 30 = .ok (.astore_n 3, 1) := dk_78 (dk_at dksX2_crumbs_1 8 rfl rfl)
theorem dX2_crumbs_31 : decode cX2_crumbs 31 = .ok (.iload_n 1, 1) := dk_27 (dk_at dksX2_crumbs_1 9 rfl rfl)
theorem dX2_crumbs_32 : decode cX2_crumbs 32 = .ok (.aload_n 3, 1) := dk_45 (dk_at dksX2_crumbs_1 10 rfl rfl)
theorem dX2_crumbs_33 : decode cX2_crumbs 33 = .ok (.getfield 88, 3) := dk_180 0 88 (dk_at dksX2_crumbs_1 11 rfl rfl)
theorem dX2_crumbs_36 : decode cX2_crumbs 36 = .ok (.iadd, 1) := dk_96 (dk_at dksX2_crumbs_1 14 rfl rfl)
theorem dX2_crumbs_37 : decode cX2_crumbs 37 = .ok (.istore_n 1, 1) := dk_60 (dk_at dksX2_crumbs_1 15 rfl rfl)
theorem dX2_crumbs_38 : decode cX2_crumbs 38 = .ok (.goto (-26), 3) := dk_167 255 230 (dk_at dksX2_crumbs_1 16 rfl rfl)
theorem dX2_crumbs_41 : decode cX2_crumbs 41 = .ok (.aload_n 0, 1) := dk_42 (dk_at dksX2_crumbs_1 19 rfl rfl)
theorem dX2_crumbs_42 : decode cX2_crumbs 42 = .ok (.getfield 25, 3) := dk_180 0 25 (dk_at dksX2_crumbs_1 20 rfl rfl)
theorem dX2_crumbs_45 : decode cX2_crumbs 45 = .ok (.invokeinterface 80 1, 5) := by decide +kernel
theorem dX2_crumbs_50 : decode cX2_crumbs 50 = .ok (.astore_n 2, 1) := dk_77 (dk_at dksX2_crumbs_2 5 rfl rfl)
theorem dX2_crumbs_51 : decode cX2_crumbs 51 = .ok (.aload_n 2, 1) := dk_44 (dk_at dksX2_crumbs_2 6 rfl rfl)
theorem dX2_crumbs_52 : decode cX2_crumbs 52 = .ok (.invokeinterface 50 1, 5) := by decide +kernel
theorem dX2_crumbs_57 : decode cX2_crumbs 57 = .ok (.ifCond .eq 23, 3) := dk_153 0 23 (dk_at dksX2_crumbs_2 12 rfl rfl)
theorem dX2_crumbs_60 : decode cX2_crumbs 60 = .ok (.aload_n 2, 1) := dk_44 (dk_at dksX2_crumbs_2 15 rfl rfl)
theorem dX2_crumbs_61 : decode cX2_crumbs 61 = .ok (.invokeinterface 56 1, 5) := by decide +kernel
theorem dX2_crumbs_66 : decode cX2_crumbs 66 = .ok (.checkcast 98, 3) := dk_192 0 98 (dk_at dksX2_crumbs_2 21 rfl rfl)
theorem dX2_crumbs_69 : decode cX2_crumbs 69 = .ok (.astore_n 3, 1) := dk_78 (dk_at dksX2_crumbs_3 0 rfl rfl)
theorem dX2_crumbs_70 : decode cX2_crumbs 70 = .ok (.iload_n 1, 1) := dk_27 (dk_at dksX2_crumbs_3 1 rfl rfl)
theorem dX2_crumbs_71 : decode cX2_crumbs 71 = .ok (.aload_n 3, 1) := dk_45 (dk_at dksX2_crumbs_3 2 rfl rfl)
theorem dX2_crumbs_72 : decode cX2_crumbs 72 = .ok (.getfield 139, 3) := dk_180 0 139 (dk_at dksX2_crumbs_3 3 rfl rfl)
theorem dX2_crumbs_75 : decode cX2_crumbs 75 = .ok (.iadd, 1) := dk_96 (dk_at dksX2_crumbs_3 6 rfl rfl)
theorem dX2_crumbs_76 : decode cX2_crumbs 76 = .ok (.istore_n 1, 1) := dk_60 (dk_at dksX2_crumbs_3 7 rfl rfl)
theorem dX2_crumbs_77 : decode cX2_crumbs 77 = .ok (.goto (-26), 3) := dk_167 255 230 (dk_at dksX2_crumbs_3 8 rfl rfl)
theorem dX2_crumbs_80 : decode cX2_crumbs 80 = .ok (.iload_n 1, 1) := dk_27 (dk_at dksX2_crumbs_3 11 rfl rfl)
theorem dX2_crumbs_81 : decode cX2_crumbs 81 = .ok (.ireturn, 1) := dk_172 (dk_at dksX2_crumbs_3 12 rfl rfl)
abbrev cX2_crumbsByAccounts : ByteArray := prog_2_method_27_code
def yX2_crumbsByAccounts : MethodName := ⟨RX2, "crumbsByAccounts", "()J"⟩
def dkwX2_crumbsByAccounts_0 : List UInt8 := [42, 180, 0, 104, 42, 180, 0, 108, 101, 42, 180, 0, 111, 101, 173]
abbrev dktX2_crumbsByAccounts_0 : List UInt8 := dkwX2_crumbsByAccounts_0 ++ []
theorem dksX2_crumbsByAccounts_0 : cX2_crumbsByAccounts.data.toList.drop 0 = dktX2_crumbsByAccounts_0 := by decide +kernel
theorem dX2_crumbsByAccounts_0 : decode cX2_crumbsByAccounts 0 = .ok (.aload_n 0, 1) := dk_42 (dk_at dksX2_crumbsByAccounts_0 0 rfl rfl)
theorem dX2_crumbsByAccounts_1 : decode cX2_crumbsByAccounts 1 = .ok (.getfield 104, 3) := dk_180 0 104 (dk_at dksX2_crumbsByAccounts_0 1 rfl rfl)
theorem dX2_crumbsByAccounts_4 : decode cX2_crumbsByAccounts 4 = .ok (.aload_n 0, 1) := dk_42 (dk_at dksX2_crumbsByAccounts_0 4 rfl rfl)
theorem dX2_crumbsByAccounts_5 : decode cX2_crumbsByAccounts 5 = .ok (.getfield 108, 3) := dk_180 0 108 (dk_at dksX2_crumbsByAccounts_0 5 rfl rfl)
theorem dX2_crumbsByAccounts_8 : decode cX2_crumbsByAccounts 8 = .ok (.lsub, 1) := dk_101 (dk_at dksX2_crumbsByAccounts_0 8 rfl rfl)
theorem dX2_crumbsByAccounts_9 : decode cX2_crumbsByAccounts 9 = .ok (.aload_n 0, 1) := dk_42 (dk_at dksX2_crumbsByAccounts_0 9 rfl rfl)
theorem dX2_crumbsByAccounts_10 : decode cX2_crumbsByAccounts 10 = .ok (.getfield 111, 3) := dk_180 0 111 (dk_at dksX2_crumbsByAccounts_0 10 rfl rfl)
theorem dX2_crumbsByAccounts_13 : decode cX2_crumbsByAccounts 13 = .ok (.lsub, 1) := dk_101 (dk_at dksX2_crumbsByAccounts_0 13 rfl rfl)
theorem dX2_crumbsByAccounts_14 : decode cX2_crumbsByAccounts 14 = .ok (.lreturn, 1) := dk_173 (dk_at dksX2_crumbsByAccounts_0 14 rfl rfl)
abbrev cX2_isConsistent : ByteArray := prog_2_method_32_code
def yX2_isConsistent : MethodName := ⟨RX2, "isConsistent", "()Z"⟩
def dkwX2_isConsistent_5 : List UInt8 := [148, 154, 0, 7, 4, 167, 0, 4, 3, 172]
abbrev dktX2_isConsistent_5 : List UInt8 := dkwX2_isConsistent_5 ++ []
def dkwX2_isConsistent_4 : List UInt8 := [182, 1, 37, 148, 154, 0, 28, 42, 180, 0, 114, 42, 180, 0, 117, 20, 0, 197, 42, 180, 0, 104, 105, 101]
abbrev dktX2_isConsistent_4 : List UInt8 := dkwX2_isConsistent_4 ++ dktX2_isConsistent_5
def dkwX2_isConsistent_3 : List UInt8 := [4, 167, 0, 4, 3, 62, 132, 4, 1, 167, 255, 220, 29, 153, 0, 41, 42, 182, 0, 170, 133, 42]
abbrev dktX2_isConsistent_3 : List UInt8 := dkwX2_isConsistent_3 ++ dktX2_isConsistent_4
def dkwX2_isConsistent_2 : List UInt8 := [180, 0, 21, 185, 0, 127, 1, 0, 162, 0, 28, 29, 153, 0, 16, 42, 21, 4, 182, 1, 34, 153, 0, 7]
abbrev dktX2_isConsistent_2 : List UInt8 := dkwX2_isConsistent_2 ++ dktX2_isConsistent_3
def dkwX2_isConsistent_1 : List UInt8 := [160, 0, 15, 43, 182, 1, 31, 28, 161, 0, 7, 4, 167, 0, 4, 3, 62, 3, 54, 4, 21, 4, 42]
abbrev dktX2_isConsistent_1 : List UInt8 := dkwX2_isConsistent_1 ++ dktX2_isConsistent_2
def dkwX2_isConsistent_0 : List UInt8 := [42, 182, 1, 18, 76, 43, 182, 1, 22, 61, 42, 182, 1, 25, 153, 0, 23, 28, 43, 182, 1, 28]
abbrev dktX2_isConsistent_0 : List UInt8 := dkwX2_isConsistent_0 ++ dktX2_isConsistent_1
theorem dksX2_isConsistent_0 : cX2_isConsistent.data.toList.drop 0 = dktX2_isConsistent_0 := by decide +kernel
theorem dksX2_isConsistent_1 : cX2_isConsistent.data.toList.drop 22 = dktX2_isConsistent_1 := dk_seg dksX2_isConsistent_0 22 rfl rfl
theorem dksX2_isConsistent_2 : cX2_isConsistent.data.toList.drop 45 = dktX2_isConsistent_2 := dk_seg dksX2_isConsistent_1 23 rfl rfl
theorem dksX2_isConsistent_3 : cX2_isConsistent.data.toList.drop 69 = dktX2_isConsistent_3 := dk_seg dksX2_isConsistent_2 24 rfl rfl
theorem dksX2_isConsistent_4 : cX2_isConsistent.data.toList.drop 91 = dktX2_isConsistent_4 := dk_seg dksX2_isConsistent_3 22 rfl rfl
theorem dksX2_isConsistent_5 : cX2_isConsistent.data.toList.drop 115 = dktX2_isConsistent_5 := dk_seg dksX2_isConsistent_4 24 rfl rfl
theorem dX2_isConsistent_0 : decode cX2_isConsistent 0 = .ok (.aload_n 0, 1) := dk_42 (dk_at dksX2_isConsistent_0 0 rfl rfl)
theorem dX2_isConsistent_1 : decode cX2_isConsistent 1 = .ok (.invokevirtual 274, 3) := dk_182 1 18 (dk_at dksX2_isConsistent_0 1 rfl rfl)
theorem dX2_isConsistent_4 : decode cX2_isConsistent 4 = .ok (.astore_n 1, 1) := dk_76 (dk_at dksX2_isConsistent_0 4 rfl rfl)
theorem dX2_isConsistent_5 : decode cX2_isConsistent 5 = .ok (.aload_n 1, 1) := dk_43 (dk_at dksX2_isConsistent_0 5 rfl rfl)
theorem dX2_isConsistent_6 : decode cX2_isConsistent 6 = .ok (.invokevirtual 278, 3) := dk_182 1 22 (dk_at dksX2_isConsistent_0 6 rfl rfl)
theorem dX2_isConsistent_9 : decode cX2_isConsistent 9 = .ok (.istore_n 2, 1) := dk_61 (dk_at dksX2_isConsistent_0 9 rfl rfl)
theorem dX2_isConsistent_10 : decode cX2_isConsistent 10 = .ok (.aload_n 0, 1) := dk_42 (dk_at dksX2_isConsistent_0 10 rfl rfl)
theorem dX2_isConsistent_11 : decode cX2_isConsistent 11 = .ok (.invokevirtual 281, 3) := dk_182 1 25 (dk_at dksX2_isConsistent_0 11 rfl rfl)
theorem dX2_isConsistent_14 : decode cX2_isConsistent 14 = .ok (.ifCond .eq 23, 3) := dk_153 0 23 (dk_at dksX2_isConsistent_0 14 rfl rfl)
theorem dX2_isConsistent_17 : decode cX2_isConsistent 17 = .ok (.iload_n 2, 1) := dk_28 (dk_at dksX2_isConsistent_0 17 rfl rfl)
theorem dX2_isConsistent_18 : decode cX2_isConsistent 18 = .ok (.aload_n 1, 1) := dk_43 (dk_at dksX2_isConsistent_0 18 rfl rfl)
theorem dX2_isConsistent_19 : decode cX2_isConsistent 19 = .ok (.invokevirtual 284, 3) := dk_182 1 28 (dk_at dksX2_isConsistent_0 19 rfl rfl)
theorem dX2_isConsistent_22 : decode cX2_isConsistent 22 = .ok (.if_icmp .ne 15, 3) := dk_160 0 15 (dk_at dksX2_isConsistent_1 0 rfl rfl)
theorem dX2_isConsistent_25 : decode cX2_isConsistent 25 = .ok (.aload_n 1, 1) := dk_43 (dk_at dksX2_isConsistent_1 3 rfl rfl)
theorem dX2_isConsistent_26 : decode cX2_isConsistent 26 = .ok (.invokevirtual 287, 3) := dk_182 1 31 (dk_at dksX2_isConsistent_1 4 rfl rfl)
theorem dX2_isConsistent_29 : decode cX2_isConsistent 29 = .ok (.iload_n 2, 1) := dk_28 (dk_at dksX2_isConsistent_1 7 rfl rfl)
theorem dX2_isConsistent_30 : decode cX2_isConsistent 30 = .ok (.if_icmp .lt 7, 3) := dk_161 0 7 (dk_at dksX2_isConsistent_1 8 rfl rfl)
theorem dX2_isConsistent_33 : decode cX2_isConsistent 33 = .ok (.iconst 1, 1) := dk_4 (dk_at dksX2_isConsistent_1 11 rfl rfl)
theorem dX2_isConsistent_34 : decode cX2_isConsistent 34 = .ok (.goto 4, 3) := dk_167 0 4 (dk_at dksX2_isConsistent_1 12 rfl rfl)
theorem dX2_isConsistent_37 : decode cX2_isConsistent 37 = .ok (.iconst 0, 1) := dk_3 (dk_at dksX2_isConsistent_1 15 rfl rfl)
theorem dX2_isConsistent_38 : decode cX2_isConsistent 38 = .ok (.istore_n 3, 1) := dk_62 (dk_at dksX2_isConsistent_1 16 rfl rfl)
theorem dX2_isConsistent_39 : decode cX2_isConsistent 39 = .ok (.iconst 0, 1) := dk_3 (dk_at dksX2_isConsistent_1 17 rfl rfl)
theorem dX2_isConsistent_40 : decode cX2_isConsistent 40 = .ok (.istore 4, 2) := dk_54 4 (dk_at dksX2_isConsistent_1 18 rfl rfl)
theorem dX2_isConsistent_42 : decode cX2_isConsistent 42 = .ok (.iload 4, 2) := dk_21 4 (dk_at dksX2_isConsistent_1 20 rfl rfl)
theorem dX2_isConsistent_44 : decode cX2_isConsistent 44 = .ok (.aload_n 0, 1) := dk_42 (dk_at dksX2_isConsistent_1 22 rfl rfl)
theorem dX2_isConsistent_45 : decode cX2_isConsistent 45 = .ok (.getfield 21, 3) := dk_180 0 21 (dk_at dksX2_isConsistent_2 0 rfl rfl)
theorem dX2_isConsistent_48 : decode cX2_isConsistent 48 = .ok (.invokeinterface 127 1, 5) := by decide +kernel
theorem dX2_isConsistent_53 : decode cX2_isConsistent 53 = .ok (.if_icmp .ge 28, 3) := dk_162 0 28 (dk_at dksX2_isConsistent_2 8 rfl rfl)
theorem dX2_isConsistent_56 : decode cX2_isConsistent 56 = .ok (.iload_n 3, 1) := dk_29 (dk_at dksX2_isConsistent_2 11 rfl rfl)
theorem dX2_isConsistent_57 : decode cX2_isConsistent 57 = .ok (.ifCond .eq 16, 3) := dk_153 0 16 (dk_at dksX2_isConsistent_2 12 rfl rfl)
theorem dX2_isConsistent_60 : decode cX2_isConsistent 60 = .ok (.aload_n 0, 1) := dk_42 (dk_at dksX2_isConsistent_2 15 rfl rfl)
theorem dX2_isConsistent_61 : decode cX2_isConsistent 61 = .ok (.iload 4, 2) := dk_21 4 (dk_at dksX2_isConsistent_2 16 rfl rfl)
theorem dX2_isConsistent_63 : decode cX2_isConsistent 63 = .ok (.invokevirtual 290, 3) := dk_182 1 34 (dk_at dksX2_isConsistent_2 18 rfl rfl)
theorem dX2_isConsistent_66 : decode cX2_isConsistent 66 = .ok (.ifCond .eq 7, 3) := dk_153 0 7 (dk_at dksX2_isConsistent_2 21 rfl rfl)
theorem dX2_isConsistent_69 : decode cX2_isConsistent 69 = .ok (.iconst 1, 1) := dk_4 (dk_at dksX2_isConsistent_3 0 rfl rfl)
theorem dX2_isConsistent_70 : decode cX2_isConsistent 70 = .ok (.goto 4, 3) := dk_167 0 4 (dk_at dksX2_isConsistent_3 1 rfl rfl)
theorem dX2_isConsistent_73 : decode cX2_isConsistent 73 = .ok (.iconst 0, 1) := dk_3 (dk_at dksX2_isConsistent_3 4 rfl rfl)
theorem dX2_isConsistent_74 : decode cX2_isConsistent 74 = .ok (.istore_n 3, 1) := dk_62 (dk_at dksX2_isConsistent_3 5 rfl rfl)
theorem dX2_isConsistent_75 : decode cX2_isConsistent 75 = .ok (.iinc 4 1, 3) := dk_132 4 1 (dk_at dksX2_isConsistent_3 6 rfl rfl)
theorem dX2_isConsistent_78 : decode cX2_isConsistent 78 = .ok (.goto (-36), 3) := dk_167 255 220 (dk_at dksX2_isConsistent_3 9 rfl rfl)
theorem dX2_isConsistent_81 : decode cX2_isConsistent 81 = .ok (.iload_n 3, 1) := dk_29 (dk_at dksX2_isConsistent_3 12 rfl rfl)
theorem dX2_isConsistent_82 : decode cX2_isConsistent 82 = .ok (.ifCond .eq 41, 3) := dk_153 0 41 (dk_at dksX2_isConsistent_3 13 rfl rfl)
theorem dX2_isConsistent_85 : decode cX2_isConsistent 85 = .ok (.aload_n 0, 1) := dk_42 (dk_at dksX2_isConsistent_3 16 rfl rfl)
theorem dX2_isConsistent_86 : decode cX2_isConsistent 86 = .ok (.invokevirtual 170, 3) := dk_182 0 170 (dk_at dksX2_isConsistent_3 17 rfl rfl)
theorem dX2_isConsistent_89 : decode cX2_isConsistent 89 = .ok (.i2l, 1) := dk_133 (dk_at dksX2_isConsistent_3 20 rfl rfl)
theorem dX2_isConsistent_90 : decode cX2_isConsistent 90 = .ok (.aload_n 0, 1) := dk_42 (dk_at dksX2_isConsistent_3 21 rfl rfl)
theorem dX2_isConsistent_91 : decode cX2_isConsistent 91 = .ok (.invokevirtual 293, 3) := dk_182 1 37 (dk_at dksX2_isConsistent_4 0 rfl rfl)
theorem dX2_isConsistent_94 : decode cX2_isConsistent 94 = .ok (.lcmp, 1) := dk_148 (dk_at dksX2_isConsistent_4 3 rfl rfl)
theorem dX2_isConsistent_95 : decode cX2_isConsistent 95 = .ok (.ifCond .ne 28, 3) := dk_154 0 28 (dk_at dksX2_isConsistent_4 4 rfl rfl)
theorem dX2_isConsistent_98 : decode cX2_isConsistent 98 = .ok (.aload_n 0, 1) := dk_42 (dk_at dksX2_isConsistent_4 7 rfl rfl)
theorem dX2_isConsistent_99 : decode cX2_isConsistent 99 = .ok (.getfield 114, 3) := dk_180 0 114 (dk_at dksX2_isConsistent_4 8 rfl rfl)
theorem dX2_isConsistent_102 : decode cX2_isConsistent 102 = .ok (.aload_n 0, 1) := dk_42 (dk_at dksX2_isConsistent_4 11 rfl rfl)
theorem dX2_isConsistent_103 : decode cX2_isConsistent 103 = .ok (.getfield 117, 3) := dk_180 0 117 (dk_at dksX2_isConsistent_4 12 rfl rfl)
theorem dX2_isConsistent_106 : decode cX2_isConsistent 106 = .ok (.ldc2_w 197, 3) := dk_20 0 197 (dk_at dksX2_isConsistent_4 15 rfl rfl)
theorem dX2_isConsistent_109 : decode cX2_isConsistent 109 = .ok (.aload_n 0, 1) := dk_42 (dk_at dksX2_isConsistent_4 18 rfl rfl)
theorem dX2_isConsistent_110 : decode cX2_isConsistent 110 = .ok (.getfield 104, 3) := dk_180 0 104 (dk_at dksX2_isConsistent_4 19 rfl rfl)
theorem dX2_isConsistent_113 : decode cX2_isConsistent 113 = .ok (.lmul, 1) := dk_105 (dk_at dksX2_isConsistent_4 22 rfl rfl)
theorem dX2_isConsistent_114 : decode cX2_isConsistent 114 = .ok (.lsub, 1) := dk_101 (dk_at dksX2_isConsistent_4 23 rfl rfl)
theorem dX2_isConsistent_115 : decode cX2_isConsistent 115 = .ok (.lcmp, 1) := dk_148 (dk_at dksX2_isConsistent_5 0 rfl rfl)
theorem dX2_isConsistent_116 : decode cX2_isConsistent 116 = .ok (.ifCond .ne 7, 3) := dk_154 0 7 (dk_at dksX2_isConsistent_5 1 rfl rfl)
theorem dX2_isConsistent_119 : decode cX2_isConsistent 119 = .ok (.iconst 1, 1) := dk_4 (dk_at dksX2_isConsistent_5 4 rfl rfl)
theorem dX2_isConsistent_120 : decode cX2_isConsistent 120 = .ok (.goto 4, 3) := dk_167 0 4 (dk_at dksX2_isConsistent_5 5 rfl rfl)
theorem dX2_isConsistent_123 : decode cX2_isConsistent 123 = .ok (.iconst 0, 1) := dk_3 (dk_at dksX2_isConsistent_5 8 rfl rfl)
theorem dX2_isConsistent_124 : decode cX2_isConsistent 124 = .ok (.ireturn, 1) := dk_172 (dk_at dksX2_isConsistent_5 9 rfl rfl)
abbrev cX2_areDoughsAlike : ByteArray := prog_2_method_30_code
def yX2_areDoughsAlike : MethodName := ⟨RX2, "areDoughsAlike", "()Z"⟩
def dkwX2_areDoughsAlike_6 : List UInt8 := [4, 167, 0, 4, 3, 60, 167, 255, 182, 167, 255, 120, 27, 172]
abbrev dktX2_areDoughsAlike_6 : List UInt8 := dkwX2_areDoughsAlike_6 ++ []
def dkwX2_areDoughsAlike_5 : List UInt8 := [148, 153, 0, 23, 25, 6, 16, 20, 3, 182, 1, 8, 25, 6, 16, 20, 182, 1, 12, 133, 148, 154, 0, 7]
abbrev dktX2_areDoughsAlike_5 : List UInt8 := dkwX2_areDoughsAlike_5 ++ dktX2_areDoughsAlike_6
def dkwX2_areDoughsAlike_4 : List UInt8 := [182, 0, 62, 54, 5, 42, 29, 21, 5, 182, 1, 1, 58, 6, 27, 153, 0, 37, 25, 6, 180, 1, 5, 9]
abbrev dktX2_areDoughsAlike_4 : List UInt8 := dkwX2_areDoughsAlike_4 ++ dktX2_areDoughsAlike_5
def dkwX2_areDoughsAlike_3 : List UInt8 := [58, 4, 25, 4, 185, 0, 50, 1, 0, 153, 0, 70, 25, 4, 185, 0, 56, 1, 0, 192, 0, 60]
abbrev dktX2_areDoughsAlike_3 : List UInt8 := dkwX2_areDoughsAlike_3 ++ dktX2_areDoughsAlike_4
def dkwX2_areDoughsAlike_2 : List UInt8 := [182, 0, 255, 160, 0, 7, 4, 167, 0, 4, 3, 60, 42, 180, 0, 12, 182, 0, 40, 185, 0, 44, 1, 0]
abbrev dktX2_areDoughsAlike_2 : List UInt8 := dkwX2_areDoughsAlike_2 ++ dktX2_areDoughsAlike_3
def dkwX2_areDoughsAlike_1 : List UInt8 := [44, 185, 0, 56, 1, 0, 192, 0, 60, 182, 0, 62, 62, 27, 153, 0, 20, 42, 29, 182, 0, 178, 42, 29]
abbrev dktX2_areDoughsAlike_1 : List UInt8 := dkwX2_areDoughsAlike_1 ++ dktX2_areDoughsAlike_2
def dkwX2_areDoughsAlike_0 : List UInt8 := [4, 60, 42, 180, 0, 12, 182, 0, 40, 185, 0, 44, 1, 0, 77, 44, 185, 0, 50, 1, 0, 153, 0, 133]
abbrev dktX2_areDoughsAlike_0 : List UInt8 := dkwX2_areDoughsAlike_0 ++ dktX2_areDoughsAlike_1
theorem dksX2_areDoughsAlike_0 : cX2_areDoughsAlike.data.toList.drop 0 = dktX2_areDoughsAlike_0 := by decide +kernel
theorem dksX2_areDoughsAlike_1 : cX2_areDoughsAlike.data.toList.drop 24 = dktX2_areDoughsAlike_1 := dk_seg dksX2_areDoughsAlike_0 24 rfl rfl
theorem dksX2_areDoughsAlike_2 : cX2_areDoughsAlike.data.toList.drop 48 = dktX2_areDoughsAlike_2 := dk_seg dksX2_areDoughsAlike_1 24 rfl rfl
theorem dksX2_areDoughsAlike_3 : cX2_areDoughsAlike.data.toList.drop 72 = dktX2_areDoughsAlike_3 := dk_seg dksX2_areDoughsAlike_2 24 rfl rfl
theorem dksX2_areDoughsAlike_4 : cX2_areDoughsAlike.data.toList.drop 94 = dktX2_areDoughsAlike_4 := dk_seg dksX2_areDoughsAlike_3 22 rfl rfl
theorem dksX2_areDoughsAlike_5 : cX2_areDoughsAlike.data.toList.drop 118 = dktX2_areDoughsAlike_5 := dk_seg dksX2_areDoughsAlike_4 24 rfl rfl
theorem dksX2_areDoughsAlike_6 : cX2_areDoughsAlike.data.toList.drop 142 = dktX2_areDoughsAlike_6 := dk_seg dksX2_areDoughsAlike_5 24 rfl rfl
theorem dX2_areDoughsAlike_0 : decode cX2_areDoughsAlike 0 = .ok (.iconst 1, 1) := dk_4 (dk_at dksX2_areDoughsAlike_0 0 rfl rfl)
theorem dX2_areDoughsAlike_1 : decode cX2_areDoughsAlike 1 = .ok (.istore_n 1, 1) := dk_60 (dk_at dksX2_areDoughsAlike_0 1 rfl rfl)
theorem dX2_areDoughsAlike_2 : decode cX2_areDoughsAlike 2 = .ok (.aload_n 0, 1) := dk_42 (dk_at dksX2_areDoughsAlike_0 2 rfl rfl)
theorem dX2_areDoughsAlike_3 : decode cX2_areDoughsAlike 3 = .ok (.getfield 12, 3) := dk_180 0 12 (dk_at dksX2_areDoughsAlike_0 3 rfl rfl)
theorem dX2_areDoughsAlike_6 : decode cX2_areDoughsAlike 6 = .ok (.invokevirtual 40, 3) := dk_182 0 40 (dk_at dksX2_areDoughsAlike_0 6 rfl rfl)
theorem dX2_areDoughsAlike_9 : decode cX2_areDoughsAlike 9 = .ok (.invokeinterface 44 1, 5) := by decide +kernel
theorem dX2_areDoughsAlike_14 : decode cX2_areDoughsAlike 14 = .ok (.astore_n 2, 1) := dk_77 (dk_at dksX2_areDoughsAlike_0 14 rfl rfl)
theorem dX2_areDoughsAlike_15 : decode cX2_areDoughsAlike 15 = .ok (.aload_n 2, 1) := dk_44 (dk_at dksX2_areDoughsAlike_0 15 rfl rfl)
theorem dX2_areDoughsAlike_16 : decode cX2_areDoughsAlike 16 = .ok (.invokeinterface 50 1, 5) := by decide +kernel
theorem dX2_areDoughsAlike_21 : decode cX2_areDoughsAlike 21 = .ok (.ifCond .eq 133, 3) := dk_153 0 133 (dk_at dksX2_areDoughsAlike_0 21 rfl rfl)
theorem dX2_areDoughsAlike_24 : decode cX2_areDoughsAlike 24 = .ok (.aload_n 2, 1) := dk_44 (dk_at dksX2_areDoughsAlike_1 0 rfl rfl)
theorem dX2_areDoughsAlike_25 : decode cX2_areDoughsAlike 25 = .ok (.invokeinterface 56 1, 5) := by decide +kernel
theorem dX2_areDoughsAlike_30 : decode cX2_areDoughsAlike 30 = .ok (.checkcast 60, 3) := dk_192 0 60 (dk_at dksX2_areDoughsAlike_1 6 rfl rfl)
theorem dX2_areDoughsAlike_33 : decode cX2_areDoughsAlike 33 = .ok (.invokevirtual 62, 3) := dk_182 0 62 (dk_at dksX2_areDoughsAlike_1 9 rfl rfl)
theorem dX2_areDoughsAlike_36 : decode cX2_areDoughsAlike 36 = .ok (.istore_n 3, 1) := dk_62 (dk_at dksX2_areDoughsAlike_1 12 rfl rfl)
theorem dX2_areDoughsAlike_37 : decode cX2_areDoughsAlike 37 = .ok (.iload_n 1, 1) := dk_27 (dk_at dksX2_areDoughsAlike_1 13 rfl rfl)
theorem dX2_areDoughsAlike_38 : decode cX2_areDoughsAlike 38 = .ok (.ifCond .eq 20, 3) := dk_153 0 20 (dk_at dksX2_areDoughsAlike_1 14 rfl rfl)
theorem dX2_areDoughsAlike_41 : decode cX2_areDoughsAlike 41 = .ok (.aload_n 0, 1) := dk_42 (dk_at dksX2_areDoughsAlike_1 17 rfl rfl)
theorem dX2_areDoughsAlike_42 : decode cX2_areDoughsAlike 42 = .ok (.iload_n 3, 1) := dk_29 (dk_at dksX2_areDoughsAlike_1 18 rfl rfl)
theorem dX2_areDoughsAlike_43 : decode cX2_areDoughsAlike 43 = .ok (.invokevirtual 178, 3) := dk_182 0 178 (dk_at dksX2_areDoughsAlike_1 19 rfl rfl)
theorem dX2_areDoughsAlike_46 : decode cX2_areDoughsAlike 46 = .ok (.aload_n 0, 1) := dk_42 (dk_at dksX2_areDoughsAlike_1 22 rfl rfl)
theorem dX2_areDoughsAlike_47 : decode cX2_areDoughsAlike 47 = .ok (.iload_n 3, 1) := dk_29 (dk_at dksX2_areDoughsAlike_1 23 rfl rfl)
theorem dX2_areDoughsAlike_48 : decode cX2_areDoughsAlike 48 = .ok (.invokevirtual 255, 3) := dk_182 0 255 (dk_at dksX2_areDoughsAlike_2 0 rfl rfl)
theorem dX2_areDoughsAlike_51 : decode cX2_areDoughsAlike 51 = .ok (.if_icmp .ne 7, 3) := dk_160 0 7 (dk_at dksX2_areDoughsAlike_2 3 rfl rfl)
theorem dX2_areDoughsAlike_54 : decode cX2_areDoughsAlike 54 = .ok (.iconst 1, 1) := dk_4 (dk_at dksX2_areDoughsAlike_2 6 rfl rfl)
theorem dX2_areDoughsAlike_55 : decode cX2_areDoughsAlike 55 = .ok (.goto 4, 3) := dk_167 0 4 (dk_at dksX2_areDoughsAlike_2 7 rfl rfl)
theorem dX2_areDoughsAlike_58 : decode cX2_areDoughsAlike 58 = .ok (.iconst 0, 1) := dk_3 (dk_at dksX2_areDoughsAlike_2 10 rfl rfl)
theorem dX2_areDoughsAlike_59 : decode cX2_areDoughsAlike 59 = .ok (.istore_n 1, 1) := dk_60 (dk_at dksX2_areDoughsAlike_2 11 rfl rfl)
theorem dX2_areDoughsAlike_60 : decode cX2_areDoughsAlike 60 = .ok (.aload_n 0, 1) := dk_42 (dk_at dksX2_areDoughsAlike_2 12 rfl rfl)
theorem dX2_areDoughsAlike_61 : decode cX2_areDoughsAlike 61 = .ok (.getfield 12, 3) := dk_180 0 12 (dk_at dksX2_areDoughsAlike_2 13 rfl rfl)
theorem dX2_areDoughsAlike_64 : decode cX2_areDoughsAlike 64 = .ok (.invokevirtual 40, 3) := dk_182 0 40 (dk_at dksX2_areDoughsAlike_2 16 rfl rfl)
theorem dX2_areDoughsAlike_67 : decode cX2_areDoughsAlike 67 = .ok (.invokeinterface 44 1, 5) := by decide +kernel
theorem dX2_areDoughsAlike_72 : decode cX2_areDoughsAlike 72 = .ok (.astore 4, 2) := dk_58 4 (dk_at dksX2_areDoughsAlike_3 0 rfl rfl)
theorem dX2_areDoughsAlike_74 : decode cX2_areDoughsAlike 74 = .ok (.aload 4, 2) := dk_25 4 (dk_at dksX2_areDoughsAlike_3 2 rfl rfl)
theorem dX2_areDoughsAlike_76 : decode cX2_areDoughsAlike 76 = .ok (.invokeinterface 50 1, 5) := by decide +kernel
theorem dX2_areDoughsAlike_81 : decode cX2_areDoughsAlike 81 = .ok (.ifCond .eq 70, 3) := dk_153 0 70 (dk_at dksX2_areDoughsAlike_3 9 rfl rfl)
theorem dX2_areDoughsAlike_84 : decode cX2_areDoughsAlike 84 = .ok (.aload 4, 2) := dk_25 4 (dk_at dksX2_areDoughsAlike_3 12 rfl rfl)
theorem dX2_areDoughsAlike_86 : decode cX2_areDoughsAlike 86 = .ok (.invokeinterface 56 1, 5) := by decide +kernel
theorem dX2_areDoughsAlike_91 : decode cX2_areDoughsAlike 91 = .ok (.checkcast 60, 3) := dk_192 0 60 (dk_at dksX2_areDoughsAlike_3 19 rfl rfl)
theorem dX2_areDoughsAlike_94 : decode cX2_areDoughsAlike 94 = .ok (.invokevirtual 62, 3) := dk_182 0 62 (dk_at dksX2_areDoughsAlike_4 0 rfl rfl)
theorem dX2_areDoughsAlike_97 : decode cX2_areDoughsAlike 97 = .ok (.istore 5, 2) := dk_54 5 (dk_at dksX2_areDoughsAlike_4 3 rfl rfl)
theorem dX2_areDoughsAlike_99 : decode cX2_areDoughsAlike 99 = .ok (.aload_n 0, 1) := dk_42 (dk_at dksX2_areDoughsAlike_4 5 rfl rfl)
theorem dX2_areDoughsAlike_100 : decode cX2_areDoughsAlike 100 = .ok (.iload_n 3, 1) := dk_29 (dk_at dksX2_areDoughsAlike_4 6 rfl rfl)
theorem dX2_areDoughsAlike_101 : decode cX2_areDoughsAlike 101 = .ok (.iload 5, 2) := dk_21 5 (dk_at dksX2_areDoughsAlike_4 7 rfl rfl)
theorem dX2_areDoughsAlike_103 : decode cX2_areDoughsAlike 103 = .ok (.invokevirtual 257, 3) := dk_182 1 1 (dk_at dksX2_areDoughsAlike_4 9 rfl rfl)
theorem dX2_areDoughsAlike_106 : decode cX2_areDoughsAlike 106 = .ok (.astore 6, 2) := dk_58 6 (dk_at dksX2_areDoughsAlike_4 12 rfl rfl)
theorem dX2_areDoughsAlike_108 : decode cX2_areDoughsAlike 108 = .ok (.iload_n 1, 1) := dk_27 (dk_at dksX2_areDoughsAlike_4 14 rfl rfl)
theorem dX2_areDoughsAlike_109 : decode cX2_areDoughsAlike 109 = .ok (.ifCond .eq 37, 3) := dk_153 0 37 (dk_at dksX2_areDoughsAlike_4 15 rfl rfl)
theorem dX2_areDoughsAlike_112 : decode cX2_areDoughsAlike 112 = .ok (.aload 6, 2) := dk_25 6 (dk_at dksX2_areDoughsAlike_4 18 rfl rfl)
theorem dX2_areDoughsAlike_114 : decode cX2_areDoughsAlike 114 = .ok (.getfield 261, 3) := dk_180 1 5 (dk_at dksX2_areDoughsAlike_4 20 rfl rfl)
theorem dX2_areDoughsAlike_117 : decode cX2_areDoughsAlike 117 = .ok (.lconst 0, 1) := dk_9 (dk_at dksX2_areDoughsAlike_4 23 rfl rfl)
theorem dX2_areDoughsAlike_118 : decode cX2_areDoughsAlike 118 = .ok (.lcmp, 1) := dk_148 (dk_at dksX2_areDoughsAlike_5 0 rfl rfl)
theorem dX2_areDoughsAlike_119 : decode cX2_areDoughsAlike 119 = .ok (.ifCond .eq 23, 3) := dk_153 0 23 (dk_at dksX2_areDoughsAlike_5 1 rfl rfl)
theorem dX2_areDoughsAlike_122 : decode cX2_areDoughsAlike 122 = .ok (.aload 6, 2) := dk_25 6 (dk_at dksX2_areDoughsAlike_5 4 rfl rfl)
theorem dX2_areDoughsAlike_124 : decode cX2_areDoughsAlike 124 = .ok (.bipush 20, 2) := dk_16 20 (dk_at dksX2_areDoughsAlike_5 6 rfl rfl)
theorem dX2_areDoughsAlike_126 : decode cX2_areDoughsAlike 126 = .ok (.iconst 0, 1) := dk_3 (dk_at dksX2_areDoughsAlike_5 8 rfl rfl)
theorem dX2_areDoughsAlike_127 : decode cX2_areDoughsAlike 127 = .ok (.invokevirtual 264, 3) := dk_182 1 8 (dk_at dksX2_areDoughsAlike_5 9 rfl rfl)
theorem dX2_areDoughsAlike_130 : decode cX2_areDoughsAlike 130 = .ok (.aload 6, 2) := dk_25 6 (dk_at dksX2_areDoughsAlike_5 12 rfl rfl)
theorem dX2_areDoughsAlike_132 : decode cX2_areDoughsAlike 132 = .ok (.bipush 20, 2) := dk_16 20 (dk_at dksX2_areDoughsAlike_5 14 rfl rfl)
theorem dX2_areDoughsAlike_134 : decode cX2_areDoughsAlike 134 = .ok (.invokevirtual 268, 3) := dk_182 1 12 (dk_at dksX2_areDoughsAlike_5 16 rfl rfl)
theorem dX2_areDoughsAlike_137 : decode cX2_areDoughsAlike 137 = .ok (.i2l, 1) := dk_133 (dk_at dksX2_areDoughsAlike_5 19 rfl rfl)
theorem dX2_areDoughsAlike_138 : decode cX2_areDoughsAlike 138 = .ok (.lcmp, 1) := dk_148 (dk_at dksX2_areDoughsAlike_5 20 rfl rfl)
theorem dX2_areDoughsAlike_139 : decode cX2_areDoughsAlike 139 = .ok (.ifCond .ne 7, 3) := dk_154 0 7 (dk_at dksX2_areDoughsAlike_5 21 rfl rfl)
theorem dX2_areDoughsAlike_142 : decode cX2_areDoughsAlike 142 = .ok (.iconst 1, 1) := dk_4 (dk_at dksX2_areDoughsAlike_6 0 rfl rfl)
theorem dX2_areDoughsAlike_143 : decode cX2_areDoughsAlike 143 = .ok (.goto 4, 3) := dk_167 0 4 (dk_at dksX2_areDoughsAlike_6 1 rfl rfl)
theorem dX2_areDoughsAlike_146 : decode cX2_areDoughsAlike 146 = .ok (.iconst 0, 1) := dk_3 (dk_at dksX2_areDoughsAlike_6 4 rfl rfl)
theorem dX2_areDoughsAlike_147 : decode cX2_areDoughsAlike 147 = .ok (.istore_n 1, 1) := dk_60 (dk_at dksX2_areDoughsAlike_6 5 rfl rfl)
theorem dX2_areDoughsAlike_148 : decode cX2_areDoughsAlike 148 = .ok (.goto (-74), 3) := dk_167 255 182 (dk_at dksX2_areDoughsAlike_6 6 rfl rfl)
theorem dX2_areDoughsAlike_151 : decode cX2_areDoughsAlike 151 = .ok (.goto (-136), 3) := dk_167 255 120 (dk_at dksX2_areDoughsAlike_6 9 rfl rfl)
theorem dX2_areDoughsAlike_154 : decode cX2_areDoughsAlike 154 = .ok (.iload_n 1, 1) := dk_27 (dk_at dksX2_areDoughsAlike_6 12 rfl rfl)
theorem dX2_areDoughsAlike_155 : decode cX2_areDoughsAlike 155 = .ok (.ireturn, 1) := dk_172 (dk_at dksX2_areDoughsAlike_6 13 rfl rfl)
abbrev cX2_crumbsIn : ByteArray := prog_2_method_6_code
def yX2_crumbsIn : MethodName := ⟨RX2, "crumbsIn", "(I)I"⟩
def dkwX2_crumbsIn_1 : List UInt8 := [184, 0, 128, 182, 0, 132, 172]
abbrev dktX2_crumbsIn_1 : List UInt8 := dkwX2_crumbsIn_1 ++ []
def dkwX2_crumbsIn_0 : List UInt8 := [42, 180, 0, 12, 27, 184, 0, 66, 182, 0, 70, 192, 0, 74, 42, 180, 0, 28, 42, 180, 0, 32]
abbrev dktX2_crumbsIn_0 : List UInt8 := dkwX2_crumbsIn_0 ++ dktX2_crumbsIn_1
theorem dksX2_crumbsIn_0 : cX2_crumbsIn.data.toList.drop 0 = dktX2_crumbsIn_0 := by decide +kernel
theorem dksX2_crumbsIn_1 : cX2_crumbsIn.data.toList.drop 22 = dktX2_crumbsIn_1 := dk_seg dksX2_crumbsIn_0 22 rfl rfl
theorem dX2_crumbsIn_0 : decode cX2_crumbsIn 0 = .ok (.aload_n 0, 1) := dk_42 (dk_at dksX2_crumbsIn_0 0 rfl rfl)
theorem dX2_crumbsIn_1 : decode cX2_crumbsIn 1 = .ok (.getfield 12, 3) := dk_180 0 12 (dk_at dksX2_crumbsIn_0 1 rfl rfl)
theorem dX2_crumbsIn_4 : decode cX2_crumbsIn 4 = .ok (.iload_n 1, 1) := dk_27 (dk_at dksX2_crumbsIn_0 4 rfl rfl)
theorem dX2_crumbsIn_5 : decode cX2_crumbsIn 5 = .ok (.invokestatic 66, 3) := dk_184 0 66 (dk_at dksX2_crumbsIn_0 5 rfl rfl)
theorem dX2_crumbsIn_8 : decode cX2_crumbsIn 8 = .ok (.invokevirtual 70, 3) := dk_182 0 70 (dk_at dksX2_crumbsIn_0 8 rfl rfl)
theorem dX2_crumbsIn_11 : decode cX2_crumbsIn 11 = .ok (.checkcast 74, 3) := dk_192 0 74 (dk_at dksX2_crumbsIn_0 11 rfl rfl)
theorem dX2_crumbsIn_14 : decode cX2_crumbsIn 14 = .ok (.aload_n 0, 1) := dk_42 (dk_at dksX2_crumbsIn_0 14 rfl rfl)
theorem dX2_crumbsIn_15 : decode cX2_crumbsIn 15 = .ok (.getfield 28, 3) := dk_180 0 28 (dk_at dksX2_crumbsIn_0 15 rfl rfl)
theorem dX2_crumbsIn_18 : decode cX2_crumbsIn 18 = .ok (.aload_n 0, 1) := dk_42 (dk_at dksX2_crumbsIn_0 18 rfl rfl)
theorem dX2_crumbsIn_19 : decode cX2_crumbsIn 19 = .ok (.getfield 32, 3) := dk_180 0 32 (dk_at dksX2_crumbsIn_0 19 rfl rfl)
theorem dX2_crumbsIn_22 : decode cX2_crumbsIn 22 = .ok (.invokestatic 128, 3) := dk_184 0 128 (dk_at dksX2_crumbsIn_1 0 rfl rfl)
theorem dX2_crumbsIn_25 : decode cX2_crumbsIn 25 = .ok (.invokevirtual 132, 3) := dk_182 0 132 (dk_at dksX2_crumbsIn_1 3 rfl rfl)
theorem dX2_crumbsIn_28 : decode cX2_crumbsIn 28 = .ok (.ireturn, 1) := dk_172 (dk_at dksX2_crumbsIn_1 6 rfl rfl)
abbrev cX2_crumbsByDigits : ByteArray := prog_2_method_7_code
def yX2_crumbsByDigits : MethodName := ⟨RX2, "crumbsByDigits", "(I)I"⟩
def dkwX2_crumbsByDigits_1 : List UInt8 := [184, 0, 128, 182, 0, 136, 172]
abbrev dktX2_crumbsByDigits_1 : List UInt8 := dkwX2_crumbsByDigits_1 ++ []
def dkwX2_crumbsByDigits_0 : List UInt8 := [42, 180, 0, 12, 27, 184, 0, 66, 182, 0, 70, 192, 0, 74, 42, 180, 0, 28, 42, 180, 0, 32]
abbrev dktX2_crumbsByDigits_0 : List UInt8 := dkwX2_crumbsByDigits_0 ++ dktX2_crumbsByDigits_1
theorem dksX2_crumbsByDigits_0 : cX2_crumbsByDigits.data.toList.drop 0 = dktX2_crumbsByDigits_0 := by decide +kernel
theorem dksX2_crumbsByDigits_1 : cX2_crumbsByDigits.data.toList.drop 22 = dktX2_crumbsByDigits_1 := dk_seg dksX2_crumbsByDigits_0 22 rfl rfl
theorem dX2_crumbsByDigits_0 : decode cX2_crumbsByDigits 0 = .ok (.aload_n 0, 1) := dk_42 (dk_at dksX2_crumbsByDigits_0 0 rfl rfl)
theorem dX2_crumbsByDigits_1 : decode cX2_crumbsByDigits 1 = .ok (.getfield 12, 3) := dk_180 0 12 (dk_at dksX2_crumbsByDigits_0 1 rfl rfl)
theorem dX2_crumbsByDigits_4 : decode cX2_crumbsByDigits 4 = .ok (.iload_n 1, 1) := dk_27 (dk_at dksX2_crumbsByDigits_0 4 rfl rfl)
theorem dX2_crumbsByDigits_5 : decode cX2_crumbsByDigits 5 = .ok (.invokestatic 66, 3) := dk_184 0 66 (dk_at dksX2_crumbsByDigits_0 5 rfl rfl)
theorem dX2_crumbsByDigits_8 : decode cX2_crumbsByDigits 8 = .ok (.invokevirtual 70, 3) := dk_182 0 70 (dk_at dksX2_crumbsByDigits_0 8 rfl rfl)
theorem dX2_crumbsByDigits_11 : decode cX2_crumbsByDigits 11 = .ok (.checkcast 74, 3) := dk_192 0 74 (dk_at dksX2_crumbsByDigits_0 11 rfl rfl)
theorem dX2_crumbsByDigits_14 : decode cX2_crumbsByDigits 14 = .ok (.aload_n 0, 1) := dk_42 (dk_at dksX2_crumbsByDigits_0 14 rfl rfl)
theorem dX2_crumbsByDigits_15 : decode cX2_crumbsByDigits 15 = .ok (.getfield 28, 3) := dk_180 0 28 (dk_at dksX2_crumbsByDigits_0 15 rfl rfl)
theorem dX2_crumbsByDigits_18 : decode cX2_crumbsByDigits 18 = .ok (.aload_n 0, 1) := dk_42 (dk_at dksX2_crumbsByDigits_0 18 rfl rfl)
theorem dX2_crumbsByDigits_19 : decode cX2_crumbsByDigits 19 = .ok (.getfield 32, 3) := dk_180 0 32 (dk_at dksX2_crumbsByDigits_0 19 rfl rfl)
theorem dX2_crumbsByDigits_22 : decode cX2_crumbsByDigits 22 = .ok (.invokestatic 128, 3) := dk_184 0 128 (dk_at dksX2_crumbsByDigits_1 0 rfl rfl)
theorem dX2_crumbsByDigits_25 : decode cX2_crumbsByDigits 25 = .ok (.invokevirtual 136, 3) := dk_182 0 136 (dk_at dksX2_crumbsByDigits_1 3 rfl rfl)
theorem dX2_crumbsByDigits_28 : decode cX2_crumbsByDigits 28 = .ok (.ireturn, 1) := dk_172 (dk_at dksX2_crumbsByDigits_1 6 rfl rfl)
abbrev cX2_nearness : ByteArray := prog_2_method_22_code
def yX2_nearness : MethodName := ⟨RX2, "nearness", "(II)LDoughLedger$Nearness;"⟩
def dkwX2_nearness_1 : List UInt8 := [184, 0, 66, 182, 0, 70, 192, 0, 74, 183, 0, 218, 176]
abbrev dktX2_nearness_1 : List UInt8 := dkwX2_nearness_1 ++ []
def dkwX2_nearness_0 : List UInt8 := [187, 0, 216, 89, 42, 180, 0, 12, 27, 184, 0, 66, 182, 0, 70, 192, 0, 74, 42, 180, 0, 12, 28]
abbrev dktX2_nearness_0 : List UInt8 := dkwX2_nearness_0 ++ dktX2_nearness_1
theorem dksX2_nearness_0 : cX2_nearness.data.toList.drop 0 = dktX2_nearness_0 := by decide +kernel
theorem dksX2_nearness_1 : cX2_nearness.data.toList.drop 23 = dktX2_nearness_1 := dk_seg dksX2_nearness_0 23 rfl rfl
theorem dX2_nearness_0 : decode cX2_nearness 0 = .ok (.new 216, 3) := dk_187 0 216 (dk_at dksX2_nearness_0 0 rfl rfl)
theorem dX2_nearness_3 : decode cX2_nearness 3 = .ok (.dup, 1) := dk_89 (dk_at dksX2_nearness_0 3 rfl rfl)
theorem dX2_nearness_4 : decode cX2_nearness 4 = .ok (.aload_n 0, 1) := dk_42 (dk_at dksX2_nearness_0 4 rfl rfl)
theorem dX2_nearness_5 : decode cX2_nearness 5 = .ok (.getfield 12, 3) := dk_180 0 12 (dk_at dksX2_nearness_0 5 rfl rfl)
theorem dX2_nearness_8 : decode cX2_nearness 8 = .ok (.iload_n 1, 1) := dk_27 (dk_at dksX2_nearness_0 8 rfl rfl)
theorem dX2_nearness_9 : decode cX2_nearness 9 = .ok (.invokestatic 66, 3) := dk_184 0 66 (dk_at dksX2_nearness_0 9 rfl rfl)
theorem dX2_nearness_12 : decode cX2_nearness 12 = .ok (.invokevirtual 70, 3) := dk_182 0 70 (dk_at dksX2_nearness_0 12 rfl rfl)
theorem dX2_nearness_15 : decode cX2_nearness 15 = .ok (.checkcast 74, 3) := dk_192 0 74 (dk_at dksX2_nearness_0 15 rfl rfl)
theorem dX2_nearness_18 : decode cX2_nearness 18 = .ok (.aload_n 0, 1) := dk_42 (dk_at dksX2_nearness_0 18 rfl rfl)
theorem dX2_nearness_19 : decode cX2_nearness 19 = .ok (.getfield 12, 3) := dk_180 0 12 (dk_at dksX2_nearness_0 19 rfl rfl)
theorem dX2_nearness_22 : decode cX2_nearness 22 = .ok (.iload_n 2, 1) := dk_28 (dk_at dksX2_nearness_0 22 rfl rfl)
theorem dX2_nearness_23 : decode cX2_nearness 23 = .ok (.invokestatic 66, 3) := dk_184 0 66 (dk_at dksX2_nearness_1 0 rfl rfl)
theorem dX2_nearness_26 : decode cX2_nearness 26 = .ok (.invokevirtual 70, 3) := dk_182 0 70 (dk_at dksX2_nearness_1 3 rfl rfl)
theorem dX2_nearness_29 : decode cX2_nearness 29 = .ok (.checkcast 74, 3) := dk_192 0 74 (dk_at dksX2_nearness_1 6 rfl rfl)
theorem dX2_nearness_32 : decode cX2_nearness 32 = .ok (.invokespecial 218, 3) := dk_183 0 218 (dk_at dksX2_nearness_1 9 rfl rfl)
theorem dX2_nearness_35 : decode cX2_nearness 35 = .ok (.areturn, 1) := dk_176 (dk_at dksX2_nearness_1 12 rfl rfl)
abbrev cX2_areSharesAlike : ByteArray := prog_2_method_31_code
def yX2_areSharesAlike : MethodName := ⟨RX2, "areSharesAlike", "(I)Z"⟩
def dkwX2_areSharesAlike_4 : List UInt8 := [154, 0, 8, 21, 4, 154, 0, 7, 4, 167, 0, 4, 3, 172]
abbrev dktX2_areSharesAlike_4 : List UInt8 := dkwX2_areSharesAlike_4 ++ []
def dkwX2_areSharesAlike_3 : List UInt8 := [46, 100, 54, 4, 132, 6, 1, 167, 255, 212, 21, 5, 153, 0, 24, 42, 180, 0, 25, 185, 0, 199, 1, 0]
abbrev dktX2_areSharesAlike_3 : List UInt8 := dkwX2_areSharesAlike_3 ++ dktX2_areSharesAlike_4
def dkwX2_areSharesAlike_2 : List UInt8 := [21, 6, 46, 44, 21, 6, 182, 1, 15, 160, 0, 7, 4, 167, 0, 4, 3, 54, 5, 21, 4, 45, 21, 6]
abbrev dktX2_areSharesAlike_2 : List UInt8 := dkwX2_areSharesAlike_2 ++ dktX2_areSharesAlike_3
def dkwX2_areSharesAlike_1 : List UInt8 := [180, 0, 88, 54, 4, 4, 54, 5, 3, 54, 6, 21, 6, 45, 190, 162, 0, 43, 21, 5, 153, 0, 20, 45]
abbrev dktX2_areSharesAlike_1 : List UInt8 := dkwX2_areSharesAlike_1 ++ dktX2_areSharesAlike_2
def dkwX2_areSharesAlike_0 : List UInt8 := [42, 27, 182, 0, 202, 77, 44, 182, 0, 206, 78, 42, 180, 0, 21, 27, 185, 0, 182, 2, 0, 192, 0, 83]
abbrev dktX2_areSharesAlike_0 : List UInt8 := dkwX2_areSharesAlike_0 ++ dktX2_areSharesAlike_1
theorem dksX2_areSharesAlike_0 : cX2_areSharesAlike.data.toList.drop 0 = dktX2_areSharesAlike_0 := by decide +kernel
theorem dksX2_areSharesAlike_1 : cX2_areSharesAlike.data.toList.drop 24 = dktX2_areSharesAlike_1 := dk_seg dksX2_areSharesAlike_0 24 rfl rfl
theorem dksX2_areSharesAlike_2 : cX2_areSharesAlike.data.toList.drop 48 = dktX2_areSharesAlike_2 := dk_seg dksX2_areSharesAlike_1 24 rfl rfl
theorem dksX2_areSharesAlike_3 : cX2_areSharesAlike.data.toList.drop 72 = dktX2_areSharesAlike_3 := dk_seg dksX2_areSharesAlike_2 24 rfl rfl
theorem dksX2_areSharesAlike_4 : cX2_areSharesAlike.data.toList.drop 96 = dktX2_areSharesAlike_4 := dk_seg dksX2_areSharesAlike_3 24 rfl rfl
theorem dX2_areSharesAlike_0 : decode cX2_areSharesAlike 0 = .ok (.aload_n 0, 1) := dk_42 (dk_at dksX2_areSharesAlike_0 0 rfl rfl)
theorem dX2_areSharesAlike_1 : decode cX2_areSharesAlike 1 = .ok (.iload_n 1, 1) := dk_27 (dk_at dksX2_areSharesAlike_0 1 rfl rfl)
theorem dX2_areSharesAlike_2 : decode cX2_areSharesAlike 2 = .ok (.invokevirtual 202, 3) := dk_182 0 202 (dk_at dksX2_areSharesAlike_0 2 rfl rfl)
theorem dX2_areSharesAlike_5 : decode cX2_areSharesAlike 5 = .ok (.astore_n 2, 1) := dk_77 (dk_at dksX2_areSharesAlike_0 5 rfl rfl)
theorem dX2_areSharesAlike_6 : decode cX2_areSharesAlike 6 = .ok (.aload_n 2, 1) := dk_44 (dk_at dksX2_areSharesAlike_0 6 rfl rfl)
theorem dX2_areSharesAlike_7 : decode cX2_areSharesAlike 7 = .ok (.invokevirtual 206, 3) := dk_182 0 206 (dk_at dksX2_areSharesAlike_0 7 rfl rfl)
theorem dX2_areSharesAlike_10 : decode cX2_areSharesAlike 10 = .ok (.astore_n 3, 1) := dk_78 (dk_at dksX2_areSharesAlike_0 10 rfl rfl)
theorem dX2_areSharesAlike_11 : decode cX2_areSharesAlike 11 = .ok (.aload_n 0, 1) := dk_42 (dk_at dksX2_areSharesAlike_0 11 rfl rfl)
theorem dX2_areSharesAlike_12 : decode cX2_areSharesAlike 12 = .ok (.getfield 21, 3) := dk_180 0 21 (dk_at dksX2_areSharesAlike_0 12 rfl rfl)
theorem dX2_areSharesAlike_15 : decode cX2_areSharesAlike 15 = .ok (.iload_n 1, 1) := dk_27 (dk_at dksX2_areSharesAlike_0 15 rfl rfl)
theorem dX2_areSharesAlike_16 : decode cX2_areSharesAlike 16 = .ok (.invokeinterface 182 2, 5) := by decide +kernel
theorem dX2_areSharesAlike_21 : decode cX2_areSharesAlike 21 = .ok (.checkcast 83, 3) := dk_192 0 83 (dk_at dksX2_areSharesAlike_0 21 rfl rfl)
theorem dX2_areSharesAlike_24 : decode cX2_areSharesAlike 24 = .ok (.getfield 88, 3) := dk_180 0 88 (dk_at dksX2_areSharesAlike_1 0 rfl rfl)
theorem dX2_areSharesAlike_27 : decode cX2_areSharesAlike 27 = .ok (.istore 4, 2) := dk_54 4 (dk_at dksX2_areSharesAlike_1 3 rfl rfl)
theorem dX2_areSharesAlike_29 : decode cX2_areSharesAlike 29 = .ok (.iconst 1, 1) := dk_4 (dk_at dksX2_areSharesAlike_1 5 rfl rfl)
theorem dX2_areSharesAlike_30 : decode cX2_areSharesAlike 30 = .ok (.istore 5, 2) := dk_54 5 (dk_at dksX2_areSharesAlike_1 6 rfl rfl)
theorem dX2_areSharesAlike_32 : decode cX2_areSharesAlike 32 = .ok (.iconst 0, 1) := dk_3 (dk_at dksX2_areSharesAlike_1 8 rfl rfl)
theorem dX2_areSharesAlike_33 : decode cX2_areSharesAlike 33 = .ok (.istore 6, 2) := dk_54 6 (dk_at dksX2_areSharesAlike_1 9 rfl rfl)
theorem dX2_areSharesAlike_35 : decode cX2_areSharesAlike 35 = .ok (.iload 6, 2) := dk_21 6 (dk_at dksX2_areSharesAlike_1 11 rfl rfl)
theorem dX2_areSharesAlike_37 : decode cX2_areSharesAlike 37 = .ok (.aload_n 3, 1) := dk_45 (dk_at dksX2_areSharesAlike_1 13 rfl rfl)
theorem dX2_areSharesAlike_38 : decode cX2_areSharesAlike 38 = .ok (.arraylength, 1) := dk_190 (dk_at dksX2_areSharesAlike_1 14 rfl rfl)
theorem dX2_areSharesAlike_39 : decode cX2_areSharesAlike 39 = .ok (.if_icmp .ge 43, 3) := dk_162 0 43 (dk_at dksX2_areSharesAlike_1 15 rfl rfl)
theorem dX2_areSharesAlike_42 : decode cX2_areSharesAlike 42 = .ok (.iload 5, 2) := dk_21 5 (dk_at dksX2_areSharesAlike_1 18 rfl rfl)
theorem dX2_areSharesAlike_44 : decode cX2_areSharesAlike 44 = .ok (.ifCond .eq 20, 3) := dk_153 0 20 (dk_at dksX2_areSharesAlike_1 20 rfl rfl)
theorem dX2_areSharesAlike_47 : decode cX2_areSharesAlike 47 = .ok (.aload_n 3, 1) := dk_45 (dk_at dksX2_areSharesAlike_1 23 rfl rfl)
theorem dX2_areSharesAlike_48 : decode cX2_areSharesAlike 48 = .ok (.iload 6, 2) := dk_21 6 (dk_at dksX2_areSharesAlike_2 0 rfl rfl)
theorem dX2_areSharesAlike_50 : decode cX2_areSharesAlike 50 = .ok (.iaload, 1) := dk_46 (dk_at dksX2_areSharesAlike_2 2 rfl rfl)
theorem dX2_areSharesAlike_51 : decode cX2_areSharesAlike 51 = .ok (.aload_n 2, 1) := dk_44 (dk_at dksX2_areSharesAlike_2 3 rfl rfl)
theorem dX2_areSharesAlike_52 : decode cX2_areSharesAlike 52 = .ok (.iload 6, 2) := dk_21 6 (dk_at dksX2_areSharesAlike_2 4 rfl rfl)
theorem dX2_areSharesAlike_54 : decode cX2_areSharesAlike 54 = .ok (.invokevirtual 271, 3) := dk_182 1 15 (dk_at dksX2_areSharesAlike_2 6 rfl rfl)
theorem dX2_areSharesAlike_57 : decode cX2_areSharesAlike 57 = .ok (.if_icmp .ne 7, 3) := dk_160 0 7 (dk_at dksX2_areSharesAlike_2 9 rfl rfl)
theorem dX2_areSharesAlike_60 : decode cX2_areSharesAlike 60 = .ok (.iconst 1, 1) := dk_4 (dk_at dksX2_areSharesAlike_2 12 rfl rfl)
theorem dX2_areSharesAlike_61 : decode cX2_areSharesAlike 61 = .ok (.goto 4, 3) := dk_167 0 4 (dk_at dksX2_areSharesAlike_2 13 rfl rfl)
theorem dX2_areSharesAlike_64 : decode cX2_areSharesAlike 64 = .ok (.iconst 0, 1) := dk_3 (dk_at dksX2_areSharesAlike_2 16 rfl rfl)
theorem dX2_areSharesAlike_65 : decode cX2_areSharesAlike 65 = .ok (.istore 5, 2) := dk_54 5 (dk_at dksX2_areSharesAlike_2 17 rfl rfl)
theorem dX2_areSharesAlike_67 : decode cX2_areSharesAlike 67 = .ok (.iload 4, 2) := dk_21 4 (dk_at dksX2_areSharesAlike_2 19 rfl rfl)
theorem dX2_areSharesAlike_69 : decode cX2_areSharesAlike 69 = .ok (.aload_n 3, 1) := dk_45 (dk_at dksX2_areSharesAlike_2 21 rfl rfl)
theorem dX2_areSharesAlike_70 : decode cX2_areSharesAlike 70 = .ok (.iload 6, 2) := dk_21 6 (dk_at dksX2_areSharesAlike_2 22 rfl rfl)
theorem dX2_areSharesAlike_72 : decode cX2_areSharesAlike 72 = .ok (.iaload, 1) := dk_46 (dk_at dksX2_areSharesAlike_3 0 rfl rfl)
theorem dX2_areSharesAlike_73 : decode cX2_areSharesAlike 73 = .ok (.isub, 1) := dk_100 (dk_at dksX2_areSharesAlike_3 1 rfl rfl)
theorem dX2_areSharesAlike_74 : decode cX2_areSharesAlike 74 = .ok (.istore 4, 2) := dk_54 4 (dk_at dksX2_areSharesAlike_3 2 rfl rfl)
theorem dX2_areSharesAlike_76 : decode cX2_areSharesAlike 76 = .ok (.iinc 6 1, 3) := dk_132 6 1 (dk_at dksX2_areSharesAlike_3 4 rfl rfl)
theorem dX2_areSharesAlike_79 : decode cX2_areSharesAlike 79 = .ok (.goto (-44), 3) := dk_167 255 212 (dk_at dksX2_areSharesAlike_3 7 rfl rfl)
theorem dX2_areSharesAlike_82 : decode cX2_areSharesAlike 82 = .ok (.iload 5, 2) := dk_21 5 (dk_at dksX2_areSharesAlike_3 10 rfl rfl)
theorem dX2_areSharesAlike_84 : decode cX2_areSharesAlike 84 = .ok (.ifCond .eq 24, 3) := dk_153 0 24 (dk_at dksX2_areSharesAlike_3 12 rfl rfl)
theorem dX2_areSharesAlike_87 : decode cX2_areSharesAlike 87 = .ok (.aload_n 0, 1) := dk_42 (dk_at dksX2_areSharesAlike_3 15 rfl rfl)
theorem dX2_areSharesAlike_88 : decode cX2_areSharesAlike 88 = .ok (.getfield 25, 3) := dk_180 0 25 (dk_at dksX2_areSharesAlike_3 16 rfl rfl)
theorem dX2_areSharesAlike_91 : decode cX2_areSharesAlike 91 = .ok (.invokeinterface 199 1, 5) := by decide +kernel
theorem dX2_areSharesAlike_96 : decode cX2_areSharesAlike 96 = .ok (.ifCond .ne 8, 3) := dk_154 0 8 (dk_at dksX2_areSharesAlike_4 0 rfl rfl)
theorem dX2_areSharesAlike_99 : decode cX2_areSharesAlike 99 = .ok (.iload 4, 2) := dk_21 4 (dk_at dksX2_areSharesAlike_4 3 rfl rfl)
theorem dX2_areSharesAlike_101 : decode cX2_areSharesAlike 101 = .ok (.ifCond .ne 7, 3) := dk_154 0 7 (dk_at dksX2_areSharesAlike_4 5 rfl rfl)
theorem dX2_areSharesAlike_104 : decode cX2_areSharesAlike 104 = .ok (.iconst 1, 1) := dk_4 (dk_at dksX2_areSharesAlike_4 8 rfl rfl)
theorem dX2_areSharesAlike_105 : decode cX2_areSharesAlike 105 = .ok (.goto 4, 3) := dk_167 0 4 (dk_at dksX2_areSharesAlike_4 9 rfl rfl)
theorem dX2_areSharesAlike_108 : decode cX2_areSharesAlike 108 = .ok (.iconst 0, 1) := dk_3 (dk_at dksX2_areSharesAlike_4 12 rfl rfl)
theorem dX2_areSharesAlike_109 : decode cX2_areSharesAlike 109 = .ok (.ireturn, 1) := dk_172 (dk_at dksX2_areSharesAlike_4 13 rfl rfl)
abbrev cX2_sharing : ByteArray := prog_2_method_23_code
def yX2_sharing : MethodName := ⟨RX2, "sharing", "(I)LDoughLedger$Sharing;"⟩
def dkwX2_sharing_1 : List UInt8 := [183, 0, 221, 176]
abbrev dktX2_sharing_1 : List UInt8 := dkwX2_sharing_1 ++ []
def dkwX2_sharing_0 : List UInt8 := [187, 0, 207, 89, 42, 180, 0, 25, 42, 180, 0, 21, 27, 185, 0, 182, 2, 0, 192, 0, 83, 180, 0, 88]
abbrev dktX2_sharing_0 : List UInt8 := dkwX2_sharing_0 ++ dktX2_sharing_1
theorem dksX2_sharing_0 : cX2_sharing.data.toList.drop 0 = dktX2_sharing_0 := by decide +kernel
theorem dksX2_sharing_1 : cX2_sharing.data.toList.drop 24 = dktX2_sharing_1 := dk_seg dksX2_sharing_0 24 rfl rfl
theorem dX2_sharing_0 : decode cX2_sharing 0 = .ok (.new 207, 3) := dk_187 0 207 (dk_at dksX2_sharing_0 0 rfl rfl)
theorem dX2_sharing_3 : decode cX2_sharing 3 = .ok (.dup, 1) := dk_89 (dk_at dksX2_sharing_0 3 rfl rfl)
theorem dX2_sharing_4 : decode cX2_sharing 4 = .ok (.aload_n 0, 1) := dk_42 (dk_at dksX2_sharing_0 4 rfl rfl)
theorem dX2_sharing_5 : decode cX2_sharing 5 = .ok (.getfield 25, 3) := dk_180 0 25 (dk_at dksX2_sharing_0 5 rfl rfl)
theorem dX2_sharing_8 : decode cX2_sharing 8 = .ok (.aload_n 0, 1) := dk_42 (dk_at dksX2_sharing_0 8 rfl rfl)
theorem dX2_sharing_9 : decode cX2_sharing 9 = .ok (.getfield 21, 3) := dk_180 0 21 (dk_at dksX2_sharing_0 9 rfl rfl)
theorem dX2_sharing_12 : decode cX2_sharing 12 = .ok (.iload_n 1, 1) := dk_27 (dk_at dksX2_sharing_0 12 rfl rfl)
theorem dX2_sharing_13 : decode cX2_sharing 13 = .ok (.invokeinterface 182 2, 5) := by decide +kernel
theorem dX2_sharing_18 : decode cX2_sharing 18 = .ok (.checkcast 83, 3) := dk_192 0 83 (dk_at dksX2_sharing_0 18 rfl rfl)
theorem dX2_sharing_21 : decode cX2_sharing 21 = .ok (.getfield 88, 3) := dk_180 0 88 (dk_at dksX2_sharing_0 21 rfl rfl)
theorem dX2_sharing_24 : decode cX2_sharing 24 = .ok (.invokespecial 221, 3) := dk_183 0 221 (dk_at dksX2_sharing_1 0 rfl rfl)
theorem dX2_sharing_27 : decode cX2_sharing 27 = .ok (.areturn, 1) := dk_176 (dk_at dksX2_sharing_1 3 rfl rfl)
abbrev cX2_bowlsText : ByteArray := prog_2_method_29_code
def yX2_bowlsText : MethodName := ⟨RX2, "bowlsText", "()Ljava/lang/String;"⟩
def dkwX2_bowlsText_2 : List UInt8 := [167, 0, 5, 18, 230, 182, 0, 232, 45, 182, 0, 254, 182, 0, 232, 87, 167, 255, 211, 43, 182, 0, 239, 176]
abbrev dktX2_bowlsText_2 : List UInt8 := dkwX2_bowlsText_2 ++ []
def dkwX2_bowlsText_1 : List UInt8 := [153, 0, 42, 44, 185, 0, 56, 1, 0, 192, 0, 83, 78, 43, 43, 182, 0, 249, 158, 0, 8, 18, 252]
abbrev dktX2_bowlsText_1 : List UInt8 := dkwX2_bowlsText_1 ++ dktX2_bowlsText_2
def dkwX2_bowlsText_0 : List UInt8 := [187, 0, 227, 89, 183, 0, 229, 76, 42, 180, 0, 21, 185, 0, 80, 1, 0, 77, 44, 185, 0, 50, 1, 0]
abbrev dktX2_bowlsText_0 : List UInt8 := dkwX2_bowlsText_0 ++ dktX2_bowlsText_1
theorem dksX2_bowlsText_0 : cX2_bowlsText.data.toList.drop 0 = dktX2_bowlsText_0 := by decide +kernel
theorem dksX2_bowlsText_1 : cX2_bowlsText.data.toList.drop 24 = dktX2_bowlsText_1 := dk_seg dksX2_bowlsText_0 24 rfl rfl
theorem dksX2_bowlsText_2 : cX2_bowlsText.data.toList.drop 47 = dktX2_bowlsText_2 := dk_seg dksX2_bowlsText_1 23 rfl rfl
theorem dX2_bowlsText_0 : decode cX2_bowlsText 0 = .ok (.new 227, 3) := dk_187 0 227 (dk_at dksX2_bowlsText_0 0 rfl rfl)
theorem dX2_bowlsText_3 : decode cX2_bowlsText 3 = .ok (.dup, 1) := dk_89 (dk_at dksX2_bowlsText_0 3 rfl rfl)
theorem dX2_bowlsText_4 : decode cX2_bowlsText 4 = .ok (.invokespecial 229, 3) := dk_183 0 229 (dk_at dksX2_bowlsText_0 4 rfl rfl)
theorem dX2_bowlsText_7 : decode cX2_bowlsText 7 = .ok (.astore_n 1, 1) := dk_76 (dk_at dksX2_bowlsText_0 7 rfl rfl)
theorem dX2_bowlsText_8 : decode cX2_bowlsText 8 = .ok (.aload_n 0, 1) := dk_42 (dk_at dksX2_bowlsText_0 8 rfl rfl)
theorem dX2_bowlsText_9 : decode cX2_bowlsText 9 = .ok (.getfield 21, 3) := dk_180 0 21 (dk_at dksX2_bowlsText_0 9 rfl rfl)
theorem dX2_bowlsText_12 : decode cX2_bowlsText 12 = .ok (.invokeinterface 80 1, 5) := by decide +kernel
theorem dX2_bowlsText_17 : decode cX2_bowlsText 17 = .ok (.astore_n 2, 1) := dk_77 (dk_at dksX2_bowlsText_0 17 rfl rfl)
theorem dX2_bowlsText_18 : decode cX2_bowlsText 18 = .ok (.aload_n 2, 1) := dk_44 (dk_at dksX2_bowlsText_0 18 rfl rfl)
theorem dX2_bowlsText_19 : decode cX2_bowlsText 19 = .ok (.invokeinterface 50 1, 5) := by decide +kernel
theorem dX2_bowlsText_24 : decode cX2_bowlsText 24 = .ok (.ifCond .eq 42, 3) := dk_153 0 42 (dk_at dksX2_bowlsText_1 0 rfl rfl)
theorem dX2_bowlsText_27 : decode cX2_bowlsText 27 = .ok (.aload_n 2, 1) := dk_44 (dk_at dksX2_bowlsText_1 3 rfl rfl)
theorem dX2_bowlsText_28 : decode cX2_bowlsText 28 = .ok (.invokeinterface 56 1, 5) := by decide +kernel
theorem dX2_bowlsText_33 : decode cX2_bowlsText 33 = .ok (.checkcast 83, 3) := dk_192 0 83 (dk_at dksX2_bowlsText_1 9 rfl rfl)
theorem dX2_bowlsText_36 : decode cX2_bowlsText 36 = .ok (.astore_n 3, 1) := dk_78 (dk_at dksX2_bowlsText_1 12 rfl rfl)
theorem dX2_bowlsText_37 : decode cX2_bowlsText 37 = .ok (.aload_n 1, 1) := dk_43 (dk_at dksX2_bowlsText_1 13 rfl rfl)
theorem dX2_bowlsText_38 : decode cX2_bowlsText 38 = .ok (.aload_n 1, 1) := dk_43 (dk_at dksX2_bowlsText_1 14 rfl rfl)
theorem dX2_bowlsText_39 : decode cX2_bowlsText 39 = .ok (.invokevirtual 249, 3) := dk_182 0 249 (dk_at dksX2_bowlsText_1 15 rfl rfl)
theorem dX2_bowlsText_42 : decode cX2_bowlsText 42 = .ok (.ifCond .le 8, 3) := dk_158 0 8 (dk_at dksX2_bowlsText_1 18 rfl rfl)
theorem dX2_bowlsText_45 : decode cX2_bowlsText 45 = .ok (.ldc 252, 2) := dk_18 252 (dk_at dksX2_bowlsText_1 21 rfl rfl)
theorem dX2_bowlsText_47 : decode cX2_bowlsText 47 = .ok (.goto 5, 3) := dk_167 0 5 (dk_at dksX2_bowlsText_2 0 rfl rfl)
theorem dX2_bowlsText_50 : decode cX2_bowlsText 50 = .ok (.ldc 230, 2) := dk_18 230 (dk_at dksX2_bowlsText_2 3 rfl rfl)
theorem dX2_bowlsText_52 : decode cX2_bowlsText 52 = .ok (.invokevirtual 232, 3) := dk_182 0 232 (dk_at dksX2_bowlsText_2 5 rfl rfl)
theorem dX2_bowlsText_55 : decode cX2_bowlsText 55 = .ok (.aload_n 3, 1) := dk_45 (dk_at dksX2_bowlsText_2 8 rfl rfl)
theorem dX2_bowlsText_56 : decode cX2_bowlsText 56 = .ok (.invokevirtual 254, 3) := dk_182 0 254 (dk_at dksX2_bowlsText_2 9 rfl rfl)
theorem dX2_bowlsText_59 : decode cX2_bowlsText 59 = .ok (.invokevirtual 232, 3) := dk_182 0 232 (dk_at dksX2_bowlsText_2 12 rfl rfl)
theorem dX2_bowlsText_62 : decode cX2_bowlsText 62 = .ok (.pop, 1) := dk_87 (dk_at dksX2_bowlsText_2 15 rfl rfl)
theorem dX2_bowlsText_63 : decode cX2_bowlsText 63 = .ok (.goto (-45), 3) := dk_167 255 211 (dk_at dksX2_bowlsText_2 16 rfl rfl)
theorem dX2_bowlsText_66 : decode cX2_bowlsText 66 = .ok (.aload_n 1, 1) := dk_43 (dk_at dksX2_bowlsText_2 19 rfl rfl)
theorem dX2_bowlsText_67 : decode cX2_bowlsText 67 = .ok (.invokevirtual 239, 3) := dk_182 0 239 (dk_at dksX2_bowlsText_2 20 rfl rfl)
theorem dX2_bowlsText_70 : decode cX2_bowlsText 70 = .ok (.areturn, 1) := dk_176 (dk_at dksX2_bowlsText_2 23 rfl rfl)
abbrev cX2_addDough : ByteArray := prog_2_method_9_code
def yX2_addDough : MethodName := ⟨RX2, "addDough", "(II)I"⟩
def dkwX2_addDough_3 : List UInt8 := [184, 0, 66, 187, 0, 74, 89, 27, 28, 183, 0, 145, 182, 0, 76, 87, 29, 172]
abbrev dktX2_addDough_3 : List UInt8 := dkwX2_addDough_3 ++ []
def dkwX2_addDough_2 : List UInt8 := [167, 0, 4, 3, 16, 115, 184, 0, 141, 42, 180, 0, 12, 182, 0, 120, 62, 42, 180, 0, 12, 29]
abbrev dktX2_addDough_2 : List UInt8 := dkwX2_addDough_2 ++ dktX2_addDough_3
def dkwX2_addDough_1 : List UInt8 := [167, 0, 4, 3, 16, 97, 184, 0, 141, 42, 180, 0, 12, 182, 0, 120, 16, 6, 162, 0, 7, 4]
abbrev dktX2_addDough_1 : List UInt8 := dkwX2_addDough_1 ++ dktX2_addDough_2
def dkwX2_addDough_0 : List UInt8 := [27, 3, 17, 39, 15, 184, 0, 123, 153, 0, 17, 28, 4, 16, 12, 184, 0, 123, 153, 0, 7, 4]
abbrev dktX2_addDough_0 : List UInt8 := dkwX2_addDough_0 ++ dktX2_addDough_1
theorem dksX2_addDough_0 : cX2_addDough.data.toList.drop 0 = dktX2_addDough_0 := by decide +kernel
theorem dksX2_addDough_1 : cX2_addDough.data.toList.drop 22 = dktX2_addDough_1 := dk_seg dksX2_addDough_0 22 rfl rfl
theorem dksX2_addDough_2 : cX2_addDough.data.toList.drop 44 = dktX2_addDough_2 := dk_seg dksX2_addDough_1 22 rfl rfl
theorem dksX2_addDough_3 : cX2_addDough.data.toList.drop 66 = dktX2_addDough_3 := dk_seg dksX2_addDough_2 22 rfl rfl
theorem dX2_addDough_0 : decode cX2_addDough 0 = .ok (.iload_n 1, 1) := dk_27 (dk_at dksX2_addDough_0 0 rfl rfl)
theorem dX2_addDough_1 : decode cX2_addDough 1 = .ok (.iconst 0, 1) := dk_3 (dk_at dksX2_addDough_0 1 rfl rfl)
theorem dX2_addDough_2 : decode cX2_addDough 2 = .ok (.sipush 9999, 3) := dk_17 39 15 (dk_at dksX2_addDough_0 2 rfl rfl)
theorem dX2_addDough_5 : decode cX2_addDough 5 = .ok (.invokestatic 123, 3) := dk_184 0 123 (dk_at dksX2_addDough_0 5 rfl rfl)
theorem dX2_addDough_8 : decode cX2_addDough 8 = .ok (.ifCond .eq 17, 3) := dk_153 0 17 (dk_at dksX2_addDough_0 8 rfl rfl)
theorem dX2_addDough_11 : decode cX2_addDough 11 = .ok (.iload_n 2, 1) := dk_28 (dk_at dksX2_addDough_0 11 rfl rfl)
theorem dX2_addDough_12 : decode cX2_addDough 12 = .ok (.iconst 1, 1) := dk_4 (dk_at dksX2_addDough_0 12 rfl rfl)
theorem dX2_addDough_13 : decode cX2_addDough 13 = .ok (.bipush 12, 2) := dk_16 12 (dk_at dksX2_addDough_0 13 rfl rfl)
theorem dX2_addDough_15 : decode cX2_addDough 15 = .ok (.invokestatic 123, 3) := dk_184 0 123 (dk_at dksX2_addDough_0 15 rfl rfl)
theorem dX2_addDough_18 : decode cX2_addDough 18 = .ok (.ifCond .eq 7, 3) := dk_153 0 7 (dk_at dksX2_addDough_0 18 rfl rfl)
theorem dX2_addDough_21 : decode cX2_addDough 21 = .ok (.iconst 1, 1) := dk_4 (dk_at dksX2_addDough_0 21 rfl rfl)
theorem dX2_addDough_22 : decode cX2_addDough 22 = .ok (.goto 4, 3) := dk_167 0 4 (dk_at dksX2_addDough_1 0 rfl rfl)
theorem dX2_addDough_25 : decode cX2_addDough 25 = .ok (.iconst 0, 1) := dk_3 (dk_at dksX2_addDough_1 3 rfl rfl)
theorem dX2_addDough_26 : decode cX2_addDough 26 = .ok (.bipush 97, 2) := dk_16 97 (dk_at dksX2_addDough_1 4 rfl rfl)
theorem dX2_addDough_28 : decode cX2_addDough 28 = .ok (.invokestatic 141, 3) := dk_184 0 141 (dk_at dksX2_addDough_1 6 rfl rfl)
theorem dX2_addDough_31 : decode cX2_addDough 31 = .ok (.aload_n 0, 1) := dk_42 (dk_at dksX2_addDough_1 9 rfl rfl)
theorem dX2_addDough_32 : decode cX2_addDough 32 = .ok (.getfield 12, 3) := dk_180 0 12 (dk_at dksX2_addDough_1 10 rfl rfl)
theorem dX2_addDough_35 : decode cX2_addDough 35 = .ok (.invokevirtual 120, 3) := dk_182 0 120 (dk_at dksX2_addDough_1 13 rfl rfl)
theorem dX2_addDough_38 : decode cX2_addDough 38 = .ok (.bipush 6, 2) := dk_16 6 (dk_at dksX2_addDough_1 16 rfl rfl)
theorem dX2_addDough_40 : decode cX2_addDough 40 = .ok (.if_icmp .ge 7, 3) := dk_162 0 7 (dk_at dksX2_addDough_1 18 rfl rfl)
theorem dX2_addDough_43 : decode cX2_addDough 43 = .ok (.iconst 1, 1) := dk_4 (dk_at dksX2_addDough_1 21 rfl rfl)
theorem dX2_addDough_44 : decode cX2_addDough 44 = .ok (.goto 4, 3) := dk_167 0 4 (dk_at dksX2_addDough_2 0 rfl rfl)
theorem dX2_addDough_47 : decode cX2_addDough 47 = .ok (.iconst 0, 1) := dk_3 (dk_at dksX2_addDough_2 3 rfl rfl)
theorem dX2_addDough_48 : decode cX2_addDough 48 = .ok (.bipush 115, 2) := dk_16 115 (dk_at dksX2_addDough_2 4 rfl rfl)
theorem dX2_addDough_50 : decode cX2_addDough 50 = .ok (.invokestatic 141, 3) := dk_184 0 141 (dk_at dksX2_addDough_2 6 rfl rfl)
theorem dX2_addDough_53 : decode cX2_addDough 53 = .ok (.aload_n 0, 1) := dk_42 (dk_at dksX2_addDough_2 9 rfl rfl)
theorem dX2_addDough_54 : decode cX2_addDough 54 = .ok (.getfield 12, 3) := dk_180 0 12 (dk_at dksX2_addDough_2 10 rfl rfl)
theorem dX2_addDough_57 : decode cX2_addDough 57 = .ok (.invokevirtual 120, 3) := dk_182 0 120 (dk_at dksX2_addDough_2 13 rfl rfl)
theorem dX2_addDough_60 : decode cX2_addDough 60 = .ok (.istore_n 3, 1) := dk_62 (dk_at dksX2_addDough_2 16 rfl rfl)
theorem dX2_addDough_61 : decode cX2_addDough 61 = .ok (.aload_n 0, 1) := dk_42 (dk_at dksX2_addDough_2 17 rfl rfl)
theorem dX2_addDough_62 : decode cX2_addDough 62 = .ok (.getfield 12, 3) := dk_180 0 12 (dk_at dksX2_addDough_2 18 rfl rfl)
theorem dX2_addDough_65 : decode cX2_addDough 65 = .ok (.iload_n 3, 1) := dk_29 (dk_at dksX2_addDough_2 21 rfl rfl)
theorem dX2_addDough_66 : decode cX2_addDough 66 = .ok (.invokestatic 66, 3) := dk_184 0 66 (dk_at dksX2_addDough_3 0 rfl rfl)
theorem dX2_addDough_69 : decode cX2_addDough 69 = .ok (.new 74, 3) := dk_187 0 74 (dk_at dksX2_addDough_3 3 rfl rfl)
theorem dX2_addDough_72 : decode cX2_addDough 72 = .ok (.dup, 1) := dk_89 (dk_at dksX2_addDough_3 6 rfl rfl)
theorem dX2_addDough_73 : decode cX2_addDough 73 = .ok (.iload_n 1, 1) := dk_27 (dk_at dksX2_addDough_3 7 rfl rfl)
theorem dX2_addDough_74 : decode cX2_addDough 74 = .ok (.iload_n 2, 1) := dk_28 (dk_at dksX2_addDough_3 8 rfl rfl)
theorem dX2_addDough_75 : decode cX2_addDough 75 = .ok (.invokespecial 145, 3) := dk_183 0 145 (dk_at dksX2_addDough_3 9 rfl rfl)
theorem dX2_addDough_78 : decode cX2_addDough 78 = .ok (.invokevirtual 76, 3) := dk_182 0 76 (dk_at dksX2_addDough_3 12 rfl rfl)
theorem dX2_addDough_81 : decode cX2_addDough 81 = .ok (.pop, 1) := dk_87 (dk_at dksX2_addDough_3 15 rfl rfl)
theorem dX2_addDough_82 : decode cX2_addDough 82 = .ok (.iload_n 3, 1) := dk_29 (dk_at dksX2_addDough_3 16 rfl rfl)
theorem dX2_addDough_83 : decode cX2_addDough 83 = .ok (.ireturn, 1) := dk_172 (dk_at dksX2_addDough_3 17 rfl rfl)
abbrev cX2_copy : ByteArray := prog_2_method_2_code
def yX2_copy : MethodName := ⟨RX2, "copy", "()LDoughLedger$Bakery;"⟩
def dkwX2_copy_10 : List UInt8 := [180, 0, 117, 181, 0, 117, 43, 176]
abbrev dktX2_copy_10 : List UInt8 := dkwX2_copy_10 ++ []
def dkwX2_copy_9 : List UInt8 := [180, 0, 108, 181, 0, 108, 43, 42, 180, 0, 111, 181, 0, 111, 43, 42, 180, 0, 114, 181, 0, 114, 43, 42]
abbrev dktX2_copy_9 : List UInt8 := dkwX2_copy_9 ++ dktX2_copy_10
def dkwX2_copy_8 : List UInt8 := [180, 0, 32, 181, 0, 32, 43, 42, 180, 0, 36, 181, 0, 36, 43, 42, 180, 0, 104, 181, 0, 104, 43, 42]
abbrev dktX2_copy_8 : List UInt8 := dkwX2_copy_8 ++ dktX2_copy_9
def dkwX2_copy_7 : List UInt8 := [45, 182, 0, 100, 185, 0, 94, 2, 0, 87, 167, 255, 223, 43, 42, 180, 0, 28, 181, 0, 28, 43, 42]
abbrev dktX2_copy_7 : List UInt8 := dkwX2_copy_7 ++ dktX2_copy_8
def dkwX2_copy_6 : List UInt8 := [77, 44, 185, 0, 50, 1, 0, 153, 0, 30, 44, 185, 0, 56, 1, 0, 192, 0, 98, 78, 43, 180, 0, 25]
abbrev dktX2_copy_6 : List UInt8 := dkwX2_copy_6 ++ dktX2_copy_7
def dkwX2_copy_5 : List UInt8 := [180, 0, 88, 183, 0, 91, 185, 0, 94, 2, 0, 87, 167, 255, 212, 42, 180, 0, 25, 185, 0, 80, 1, 0]
abbrev dktX2_copy_5 : List UInt8 := dkwX2_copy_5 ++ dktX2_copy_6
def dkwX2_copy_4 : List UInt8 := [185, 0, 56, 1, 0, 192, 0, 83, 78, 43, 180, 0, 21, 187, 0, 83, 89, 45, 180, 0, 85, 45]
abbrev dktX2_copy_4 : List UInt8 := dkwX2_copy_4 ++ dktX2_copy_5
def dkwX2_copy_3 : List UInt8 := [87, 167, 255, 208, 42, 180, 0, 21, 185, 0, 80, 1, 0, 77, 44, 185, 0, 50, 1, 0, 153, 0, 41, 44]
abbrev dktX2_copy_3 : List UInt8 := dkwX2_copy_3 ++ dktX2_copy_4
def dkwX2_copy_2 : List UInt8 := [180, 0, 12, 29, 184, 0, 66, 42, 180, 0, 12, 29, 184, 0, 66, 182, 0, 70, 192, 0, 74, 182, 0, 76]
abbrev dktX2_copy_2 : List UInt8 := dkwX2_copy_2 ++ dktX2_copy_3
def dkwX2_copy_1 : List UInt8 := [185, 0, 50, 1, 0, 153, 0, 45, 44, 185, 0, 56, 1, 0, 192, 0, 60, 182, 0, 62, 62, 43]
abbrev dktX2_copy_1 : List UInt8 := dkwX2_copy_1 ++ dktX2_copy_2
def dkwX2_copy_0 : List UInt8 := [187, 0, 13, 89, 183, 0, 39, 76, 42, 180, 0, 12, 182, 0, 40, 185, 0, 44, 1, 0, 77, 44]
abbrev dktX2_copy_0 : List UInt8 := dkwX2_copy_0 ++ dktX2_copy_1
theorem dksX2_copy_0 : cX2_copy.data.toList.drop 0 = dktX2_copy_0 := by decide +kernel
theorem dksX2_copy_1 : cX2_copy.data.toList.drop 22 = dktX2_copy_1 := dk_seg dksX2_copy_0 22 rfl rfl
theorem dksX2_copy_2 : cX2_copy.data.toList.drop 44 = dktX2_copy_2 := dk_seg dksX2_copy_1 22 rfl rfl
theorem dksX2_copy_3 : cX2_copy.data.toList.drop 68 = dktX2_copy_3 := dk_seg dksX2_copy_2 24 rfl rfl
theorem dksX2_copy_4 : cX2_copy.data.toList.drop 92 = dktX2_copy_4 := dk_seg dksX2_copy_3 24 rfl rfl
theorem dksX2_copy_5 : cX2_copy.data.toList.drop 114 = dktX2_copy_5 := dk_seg dksX2_copy_4 22 rfl rfl
theorem dksX2_copy_6 : cX2_copy.data.toList.drop 138 = dktX2_copy_6 := dk_seg dksX2_copy_5 24 rfl rfl
theorem dksX2_copy_7 : cX2_copy.data.toList.drop 162 = dktX2_copy_7 := dk_seg dksX2_copy_6 24 rfl rfl
theorem dksX2_copy_8 : cX2_copy.data.toList.drop 185 = dktX2_copy_8 := dk_seg dksX2_copy_7 23 rfl rfl
theorem dksX2_copy_9 : cX2_copy.data.toList.drop 209 = dktX2_copy_9 := dk_seg dksX2_copy_8 24 rfl rfl
theorem dksX2_copy_10 : cX2_copy.data.toList.drop 233 = dktX2_copy_10 := dk_seg dksX2_copy_9 24 rfl rfl
theorem dX2_copy_0 : decode cX2_copy 0 = .ok (.new 13, 3) := dk_187 0 13 (dk_at dksX2_copy_0 0 rfl rfl)
theorem dX2_copy_3 : decode cX2_copy 3 = .ok (.dup, 1) := dk_89 (dk_at dksX2_copy_0 3 rfl rfl)
theorem dX2_copy_4 : decode cX2_copy 4 = .ok (.invokespecial 39, 3) := dk_183 0 39 (dk_at dksX2_copy_0 4 rfl rfl)
theorem dX2_copy_7 : decode cX2_copy 7 = .ok (.astore_n 1, 1) := dk_76 (dk_at dksX2_copy_0 7 rfl rfl)
theorem dX2_copy_8 : decode cX2_copy 8 = .ok (.aload_n 0, 1) := dk_42 (dk_at dksX2_copy_0 8 rfl rfl)
theorem dX2_copy_9 : decode cX2_copy 9 = .ok (.getfield 12, 3) := dk_180 0 12 (dk_at dksX2_copy_0 9 rfl rfl)
theorem dX2_copy_12 : decode cX2_copy 12 = .ok (.invokevirtual 40, 3) := dk_182 0 40 (dk_at dksX2_copy_0 12 rfl rfl)
theorem dX2_copy_15 : decode cX2_copy 15 = .ok (.invokeinterface 44 1, 5) := by decide +kernel
theorem dX2_copy_20 : decode cX2_copy 20 = .ok (.astore_n 2, 1) := dk_77 (dk_at dksX2_copy_0 20 rfl rfl)
theorem dX2_copy_21 : decode cX2_copy 21 = .ok (.aload_n 2, 1) := dk_44 (dk_at dksX2_copy_0 21 rfl rfl)
theorem dX2_copy_22 : decode cX2_copy 22 = .ok (.invokeinterface 50 1, 5) := by decide +kernel
theorem dX2_copy_27 : decode cX2_copy 27 = .ok (.ifCond .eq 45, 3) := dk_153 0 45 (dk_at dksX2_copy_1 5 rfl rfl)
theorem dX2_copy_30 : decode cX2_copy 30 = .ok (.aload_n 2, 1) := dk_44 (dk_at dksX2_copy_1 8 rfl rfl)
theorem dX2_copy_31 : decode cX2_copy 31 = .ok (.invokeinterface 56 1, 5) := by decide +kernel
theorem dX2_copy_36 : decode cX2_copy 36 = .ok (.checkcast 60, 3) := dk_192 0 60 (dk_at dksX2_copy_1 14 rfl rfl)
theorem dX2_copy_39 : decode cX2_copy 39 = .ok (.invokevirtual 62, 3) := dk_182 0 62 (dk_at dksX2_copy_1 17 rfl rfl)
theorem dX2_copy_42 : decode cX2_copy 42 = .ok (.istore_n 3, 1) := dk_62 (dk_at dksX2_copy_1 20 rfl rfl)
theorem dX2_copy_43 : decode cX2_copy 43 = .ok (.aload_n 1, 1) := dk_43 (dk_at dksX2_copy_1 21 rfl rfl)
theorem dX2_copy_44 : decode cX2_copy 44 = .ok (.getfield 12, 3) := dk_180 0 12 (dk_at dksX2_copy_2 0 rfl rfl)
theorem dX2_copy_47 : decode cX2_copy 47 = .ok (.iload_n 3, 1) := dk_29 (dk_at dksX2_copy_2 3 rfl rfl)
theorem dX2_copy_48 : decode cX2_copy 48 = .ok (.invokestatic 66, 3) := dk_184 0 66 (dk_at dksX2_copy_2 4 rfl rfl)
theorem dX2_copy_51 : decode cX2_copy 51 = .ok (.aload_n 0, 1) := dk_42 (dk_at dksX2_copy_2 7 rfl rfl)
theorem dX2_copy_52 : decode cX2_copy 52 = .ok (.getfield 12, 3) := dk_180 0 12 (dk_at dksX2_copy_2 8 rfl rfl)
theorem dX2_copy_55 : decode cX2_copy 55 = .ok (.iload_n 3, 1) := dk_29 (dk_at dksX2_copy_2 11 rfl rfl)
theorem dX2_copy_56 : decode cX2_copy 56 = .ok (.invokestatic 66, 3) := dk_184 0 66 (dk_at dksX2_copy_2 12 rfl rfl)
theorem dX2_copy_59 : decode cX2_copy 59 = .ok (.invokevirtual 70, 3) := dk_182 0 70 (dk_at dksX2_copy_2 15 rfl rfl)
theorem dX2_copy_62 : decode cX2_copy 62 = .ok (.checkcast 74, 3) := dk_192 0 74 (dk_at dksX2_copy_2 18 rfl rfl)
theorem dX2_copy_65 : decode cX2_copy 65 = .ok (.invokevirtual 76, 3) := dk_182 0 76 (dk_at dksX2_copy_2 21 rfl rfl)
theorem dX2_copy_68 : decode cX2_copy 68 = .ok (.pop, 1) := dk_87 (dk_at dksX2_copy_3 0 rfl rfl)
theorem dX2_copy_69 : decode cX2_copy 69 = .ok (.goto (-48), 3) := dk_167 255 208 (dk_at dksX2_copy_3 1 rfl rfl)
theorem dX2_copy_72 : decode cX2_copy 72 = .ok (.aload_n 0, 1) := dk_42 (dk_at dksX2_copy_3 4 rfl rfl)
theorem dX2_copy_73 : decode cX2_copy 73 = .ok (.getfield 21, 3) := dk_180 0 21 (dk_at dksX2_copy_3 5 rfl rfl)
theorem dX2_copy_76 : decode cX2_copy 76 = .ok (.invokeinterface 80 1, 5) := by decide +kernel
theorem dX2_copy_81 : decode cX2_copy 81 = .ok (.astore_n 2, 1) := dk_77 (dk_at dksX2_copy_3 13 rfl rfl)
theorem dX2_copy_82 : decode cX2_copy 82 = .ok (.aload_n 2, 1) := dk_44 (dk_at dksX2_copy_3 14 rfl rfl)
theorem dX2_copy_83 : decode cX2_copy 83 = .ok (.invokeinterface 50 1, 5) := by decide +kernel
theorem dX2_copy_88 : decode cX2_copy 88 = .ok (.ifCond .eq 41, 3) := dk_153 0 41 (dk_at dksX2_copy_3 20 rfl rfl)
theorem dX2_copy_91 : decode cX2_copy 91 = .ok (.aload_n 2, 1) := dk_44 (dk_at dksX2_copy_3 23 rfl rfl)
theorem dX2_copy_92 : decode cX2_copy 92 = .ok (.invokeinterface 56 1, 5) := by decide +kernel
theorem dX2_copy_97 : decode cX2_copy 97 = .ok (.checkcast 83, 3) := dk_192 0 83 (dk_at dksX2_copy_4 5 rfl rfl)
theorem dX2_copy_100 : decode cX2_copy 100 = .ok (.astore_n 3, 1) := dk_78 (dk_at dksX2_copy_4 8 rfl rfl)
theorem dX2_copy_101 : decode cX2_copy 101 = .ok (.aload_n 1, 1) := dk_43 (dk_at dksX2_copy_4 9 rfl rfl)
theorem dX2_copy_102 : decode cX2_copy 102 = .ok (.getfield 21, 3) := dk_180 0 21 (dk_at dksX2_copy_4 10 rfl rfl)
theorem dX2_copy_105 : decode cX2_copy 105 = .ok (.new 83, 3) := dk_187 0 83 (dk_at dksX2_copy_4 13 rfl rfl)
theorem dX2_copy_108 : decode cX2_copy 108 = .ok (.dup, 1) := dk_89 (dk_at dksX2_copy_4 16 rfl rfl)
theorem dX2_copy_109 : decode cX2_copy 109 = .ok (.aload_n 3, 1) := dk_45 (dk_at dksX2_copy_4 17 rfl rfl)
theorem dX2_copy_110 : decode cX2_copy 110 = .ok (.getfield 85, 3) := dk_180 0 85 (dk_at dksX2_copy_4 18 rfl rfl)
theorem dX2_copy_113 : decode cX2_copy 113 = .ok (.aload_n 3, 1) := dk_45 (dk_at dksX2_copy_4 21 rfl rfl)
theorem dX2_copy_114 : decode cX2_copy 114 = .ok (.getfield 88, 3) := dk_180 0 88 (dk_at dksX2_copy_5 0 rfl rfl)
theorem dX2_copy_117 : decode cX2_copy 117 = .ok (.invokespecial 91, 3) := dk_183 0 91 (dk_at dksX2_copy_5 3 rfl rfl)
theorem dX2_copy_120 : decode cX2_copy 120 = .ok (.invokeinterface 94 2, 5) := by decide +kernel
theorem dX2_copy_125 : decode cX2_copy 125 = .ok (.pop, 1) := dk_87 (dk_at dksX2_copy_5 11 rfl rfl)
theorem dX2_copy_126 : decode cX2_copy 126 = .ok (.goto (-44), 3) := dk_167 255 212 (dk_at dksX2_copy_5 12 rfl rfl)
theorem dX2_copy_129 : decode cX2_copy 129 = .ok (.aload_n 0, 1) := dk_42 (dk_at dksX2_copy_5 15 rfl rfl)
theorem dX2_copy_130 : decode cX2_copy 130 = .ok (.getfield 25, 3) := dk_180 0 25 (dk_at dksX2_copy_5 16 rfl rfl)
theorem dX2_copy_133 : decode cX2_copy 133 = .ok (.invokeinterface 80 1, 5) := by decide +kernel
theorem dX2_copy_138 : decode cX2_copy 138 = .ok (.astore_n 2, 1) := dk_77 (dk_at dksX2_copy_6 0 rfl rfl)
theorem dX2_copy_139 : decode cX2_copy 139 = .ok (.aload_n 2, 1) := dk_44 (dk_at dksX2_copy_6 1 rfl rfl)
theorem dX2_copy_140 : decode cX2_copy 140 = .ok (.invokeinterface 50 1, 5) := by decide +kernel
theorem dX2_copy_145 : decode cX2_copy 145 = .ok (.ifCond .eq 30, 3) := dk_153 0 30 (dk_at dksX2_copy_6 7 rfl rfl)
theorem dX2_copy_148 : decode cX2_copy 148 = .ok (.aload_n 2, 1) := dk_44 (dk_at dksX2_copy_6 10 rfl rfl)
theorem dX2_copy_149 : decode cX2_copy 149 = .ok (.invokeinterface 56 1, 5) := by decide +kernel
theorem dX2_copy_154 : decode cX2_copy 154 = .ok (.checkcast 98, 3) := dk_192 0 98 (dk_at dksX2_copy_6 16 rfl rfl)
theorem dX2_copy_157 : decode cX2_copy 157 = .ok (.astore_n 3, 1) := dk_78 (dk_at dksX2_copy_6 19 rfl rfl)
theorem dX2_copy_158 : decode cX2_copy 158 = .ok (.aload_n 1, 1) := dk_43 (dk_at dksX2_copy_6 20 rfl rfl)
theorem dX2_copy_159 : decode cX2_copy 159 = .ok (.getfield 25, 3) := dk_180 0 25 (dk_at dksX2_copy_6 21 rfl rfl)
theorem dX2_copy_162 : decode cX2_copy 162 = .ok (.aload_n 3, 1) := dk_45 (dk_at dksX2_copy_7 0 rfl rfl)
theorem dX2_copy_163 : decode cX2_copy 163 = .ok (.invokevirtual 100, 3) := dk_182 0 100 (dk_at dksX2_copy_7 1 rfl rfl)
theorem dX2_copy_166 : decode cX2_copy 166 = .ok (.invokeinterface 94 2, 5) := by decide +kernel
theorem dX2_copy_171 : decode cX2_copy 171 = .ok (.pop, 1) := dk_87 (dk_at dksX2_copy_7 9 rfl rfl)
theorem dX2_copy_172 : decode cX2_copy 172 = .ok (.goto (-33), 3) := dk_167 255 223 (dk_at dksX2_copy_7 10 rfl rfl)
theorem dX2_copy_175 : decode cX2_copy 175 = .ok (.aload_n 1, 1) := dk_43 (dk_at dksX2_copy_7 13 rfl rfl)
theorem dX2_copy_176 : decode cX2_copy 176 = .ok (.aload_n 0, 1) := dk_42 (dk_at dksX2_copy_7 14 rfl rfl)
theorem dX2_copy_177 : decode cX2_copy 177 = .ok (.getfield 28, 3) := dk_180 0 28 (dk_at dksX2_copy_7 15 rfl rfl)
theorem dX2_copy_180 : decode cX2_copy 180 = .ok (.putfield 28, 3) := dk_181 0 28 (dk_at dksX2_copy_7 18 rfl rfl)
theorem dX2_copy_183 : decode cX2_copy 183 = .ok (.aload_n 1, 1) := dk_43 (dk_at dksX2_copy_7 21 rfl rfl)
theorem dX2_copy_184 : decode cX2_copy 184 = .ok (.aload_n 0, 1) := dk_42 (dk_at dksX2_copy_7 22 rfl rfl)
theorem dX2_copy_185 : decode cX2_copy 185 = .ok (.getfield 32, 3) := dk_180 0 32 (dk_at dksX2_copy_8 0 rfl rfl)
theorem dX2_copy_188 : decode cX2_copy 188 = .ok (.putfield 32, 3) := dk_181 0 32 (dk_at dksX2_copy_8 3 rfl rfl)
theorem dX2_copy_191 : decode cX2_copy 191 = .ok (.aload_n 1, 1) := dk_43 (dk_at dksX2_copy_8 6 rfl rfl)
theorem dX2_copy_192 : decode cX2_copy 192 = .ok (.aload_n 0, 1) := dk_42 (dk_at dksX2_copy_8 7 rfl rfl)
theorem dX2_copy_193 : decode cX2_copy 193 = .ok (.getfield 36, 3) := dk_180 0 36 (dk_at dksX2_copy_8 8 rfl rfl)
theorem dX2_copy_196 : decode cX2_copy 196 = .ok (.putfield 36, 3) := dk_181 0 36 (dk_at dksX2_copy_8 11 rfl rfl)
theorem dX2_copy_199 : decode cX2_copy 199 = .ok (.aload_n 1, 1) := dk_43 (dk_at dksX2_copy_8 14 rfl rfl)
theorem dX2_copy_200 : decode cX2_copy 200 = .ok (.aload_n 0, 1) := dk_42 (dk_at dksX2_copy_8 15 rfl rfl)
theorem dX2_copy_201 : decode cX2_copy 201 = .ok (.getfield 104, 3) := dk_180 0 104 (dk_at dksX2_copy_8 16 rfl rfl)
theorem dX2_copy_204 : decode cX2_copy 204 = .ok (.putfield 104, 3) := dk_181 0 104 (dk_at dksX2_copy_8 19 rfl rfl)
theorem dX2_copy_207 : decode cX2_copy 207 = .ok (.aload_n 1, 1) := dk_43 (dk_at dksX2_copy_8 22 rfl rfl)
theorem dX2_copy_208 : decode cX2_copy 208 = .ok (.aload_n 0, 1) := dk_42 (dk_at dksX2_copy_8 23 rfl rfl)
theorem dX2_copy_209 : decode cX2_copy 209 = .ok (.getfield 108, 3) := dk_180 0 108 (dk_at dksX2_copy_9 0 rfl rfl)
theorem dX2_copy_212 : decode cX2_copy 212 = .ok (.putfield 108, 3) := dk_181 0 108 (dk_at dksX2_copy_9 3 rfl rfl)
theorem dX2_copy_215 : decode cX2_copy 215 = .ok (.aload_n 1, 1) := dk_43 (dk_at dksX2_copy_9 6 rfl rfl)
theorem dX2_copy_216 : decode cX2_copy 216 = .ok (.aload_n 0, 1) := dk_42 (dk_at dksX2_copy_9 7 rfl rfl)
theorem dX2_copy_217 : decode cX2_copy 217 = .ok (.getfield 111, 3) := dk_180 0 111 (dk_at dksX2_copy_9 8 rfl rfl)
theorem dX2_copy_220 : decode cX2_copy 220 = .ok (.putfield 111, 3) := dk_181 0 111 (dk_at dksX2_copy_9 11 rfl rfl)
theorem dX2_copy_223 : decode cX2_copy 223 = .ok (.aload_n 1, 1) := dk_43 (dk_at dksX2_copy_9 14 rfl rfl)
theorem dX2_copy_224 : decode cX2_copy 224 = .ok (.aload_n 0, 1) := dk_42 (dk_at dksX2_copy_9 15 rfl rfl)
theorem dX2_copy_225 : decode cX2_copy 225 = .ok (.getfield 114, 3) := dk_180 0 114 (dk_at dksX2_copy_9 16 rfl rfl)
theorem dX2_copy_228 : decode cX2_copy 228 = .ok (.putfield 114, 3) := dk_181 0 114 (dk_at dksX2_copy_9 19 rfl rfl)
theorem dX2_copy_231 : decode cX2_copy 231 = .ok (.aload_n 1, 1) := dk_43 (dk_at dksX2_copy_9 22 rfl rfl)
theorem dX2_copy_232 : decode cX2_copy 232 = .ok (.aload_n 0, 1) := dk_42 (dk_at dksX2_copy_9 23 rfl rfl)
theorem dX2_copy_233 : decode cX2_copy 233 = .ok (.getfield 117, 3) := dk_180 0 117 (dk_at dksX2_copy_10 0 rfl rfl)
theorem dX2_copy_236 : decode cX2_copy 236 = .ok (.putfield 117, 3) := dk_181 0 117 (dk_at dksX2_copy_10 3 rfl rfl)
theorem dX2_copy_239 : decode cX2_copy 239 = .ok (.aload_n 1, 1) := dk_43 (dk_at dksX2_copy_10 6 rfl rfl)
theorem dX2_copy_240 : decode cX2_copy 240 = .ok (.areturn, 1) := dk_176 (dk_at dksX2_copy_10 7 rfl rfl)
abbrev cX2_mix : ByteArray := prog_2_method_10_code
def yX2_mix : MethodName := ⟨RX2, "mix", "(II)I"⟩
def dkwX2_mix_5 : List UInt8 := [87, 45, 180, 0, 157, 172]
abbrev dktX2_mix_5 : List UInt8 := dkwX2_mix_5 ++ []
def dkwX2_mix_4 : List UInt8 := [182, 0, 76, 87, 42, 180, 0, 12, 28, 184, 0, 66, 187, 0, 74, 89, 3, 4, 183, 0, 145, 182, 0, 76]
abbrev dktX2_mix_4 : List UInt8 := dkwX2_mix_4 ++ dktX2_mix_5
def dkwX2_mix_3 : List UInt8 := [182, 0, 150, 78, 45, 182, 0, 154, 16, 117, 184, 0, 141, 42, 180, 0, 12, 27, 184, 0, 66, 45]
abbrev dktX2_mix_3 : List UInt8 := dkwX2_mix_3 ++ dktX2_mix_4
def dkwX2_mix_2 : List UInt8 := [184, 0, 66, 182, 0, 70, 192, 0, 74, 42, 180, 0, 12, 28, 184, 0, 66, 182, 0, 70, 192, 0, 74]
abbrev dktX2_mix_2 : List UInt8 := dkwX2_mix_2 ++ dktX2_mix_3
def dkwX2_mix_1 : List UInt8 := [184, 0, 141, 27, 28, 159, 0, 7, 4, 167, 0, 4, 3, 16, 97, 184, 0, 141, 42, 180, 0, 12, 27]
abbrev dktX2_mix_1 : List UInt8 := dkwX2_mix_1 ++ dktX2_mix_2
def dkwX2_mix_0 : List UInt8 := [42, 27, 182, 0, 146, 153, 0, 15, 42, 28, 182, 0, 146, 153, 0, 7, 4, 167, 0, 4, 3, 16, 105]
abbrev dktX2_mix_0 : List UInt8 := dkwX2_mix_0 ++ dktX2_mix_1
theorem dksX2_mix_0 : cX2_mix.data.toList.drop 0 = dktX2_mix_0 := by decide +kernel
theorem dksX2_mix_1 : cX2_mix.data.toList.drop 23 = dktX2_mix_1 := dk_seg dksX2_mix_0 23 rfl rfl
theorem dksX2_mix_2 : cX2_mix.data.toList.drop 46 = dktX2_mix_2 := dk_seg dksX2_mix_1 23 rfl rfl
theorem dksX2_mix_3 : cX2_mix.data.toList.drop 69 = dktX2_mix_3 := dk_seg dksX2_mix_2 23 rfl rfl
theorem dksX2_mix_4 : cX2_mix.data.toList.drop 91 = dktX2_mix_4 := dk_seg dksX2_mix_3 22 rfl rfl
theorem dksX2_mix_5 : cX2_mix.data.toList.drop 115 = dktX2_mix_5 := dk_seg dksX2_mix_4 24 rfl rfl
theorem dX2_mix_0 : decode cX2_mix 0 = .ok (.aload_n 0, 1) := dk_42 (dk_at dksX2_mix_0 0 rfl rfl)
theorem dX2_mix_1 : decode cX2_mix 1 = .ok (.iload_n 1, 1) := dk_27 (dk_at dksX2_mix_0 1 rfl rfl)
theorem dX2_mix_2 : decode cX2_mix 2 = .ok (.invokevirtual 146, 3) := dk_182 0 146 (dk_at dksX2_mix_0 2 rfl rfl)
theorem dX2_mix_5 : decode cX2_mix 5 = .ok (.ifCond .eq 15, 3) := dk_153 0 15 (dk_at dksX2_mix_0 5 rfl rfl)
theorem dX2_mix_8 : decode cX2_mix 8 = .ok (.aload_n 0, 1) := dk_42 (dk_at dksX2_mix_0 8 rfl rfl)
theorem dX2_mix_9 : decode cX2_mix 9 = .ok (.iload_n 2, 1) := dk_28 (dk_at dksX2_mix_0 9 rfl rfl)
theorem dX2_mix_10 : decode cX2_mix 10 = .ok (.invokevirtual 146, 3) := dk_182 0 146 (dk_at dksX2_mix_0 10 rfl rfl)
theorem dX2_mix_13 : decode cX2_mix 13 = .ok (.ifCond .eq 7, 3) := dk_153 0 7 (dk_at dksX2_mix_0 13 rfl rfl)
theorem dX2_mix_16 : decode cX2_mix 16 = .ok (.iconst 1, 1) := dk_4 (dk_at dksX2_mix_0 16 rfl rfl)
theorem dX2_mix_17 : decode cX2_mix 17 = .ok (.goto 4, 3) := dk_167 0 4 (dk_at dksX2_mix_0 17 rfl rfl)
theorem dX2_mix_20 : decode cX2_mix 20 = .ok (.iconst 0, 1) := dk_3 (dk_at dksX2_mix_0 20 rfl rfl)
theorem dX2_mix_21 : decode cX2_mix 21 = .ok (.bipush 105, 2) := dk_16 105 (dk_at dksX2_mix_0 21 rfl rfl)
theorem dX2_mix_23 : decode cX2_mix 23 = .ok (.invokestatic 141, 3) := dk_184 0 141 (dk_at dksX2_mix_1 0 rfl rfl)
theorem dX2_mix_26 : decode cX2_mix 26 = .ok (.iload_n 1, 1) := dk_27 (dk_at dksX2_mix_1 3 rfl rfl)
theorem dX2_mix_27 : decode cX2_mix 27 = .ok (.iload_n 2, 1) := dk_28 (dk_at dksX2_mix_1 4 rfl rfl)
theorem dX2_mix_28 : decode cX2_mix 28 = .ok (.if_icmp .eq 7, 3) := dk_159 0 7 (dk_at dksX2_mix_1 5 rfl rfl)
theorem dX2_mix_31 : decode cX2_mix 31 = .ok (.iconst 1, 1) := dk_4 (dk_at dksX2_mix_1 8 rfl rfl)
theorem dX2_mix_32 : decode cX2_mix 32 = .ok (.goto 4, 3) := dk_167 0 4 (dk_at dksX2_mix_1 9 rfl rfl)
theorem dX2_mix_35 : decode cX2_mix 35 = .ok (.iconst 0, 1) := dk_3 (dk_at dksX2_mix_1 12 rfl rfl)
theorem dX2_mix_36 : decode cX2_mix 36 = .ok (.bipush 97, 2) := dk_16 97 (dk_at dksX2_mix_1 13 rfl rfl)
theorem dX2_mix_38 : decode cX2_mix 38 = .ok (.invokestatic 141, 3) := dk_184 0 141 (dk_at dksX2_mix_1 15 rfl rfl)
theorem dX2_mix_41 : decode cX2_mix 41 = .ok (.aload_n 0, 1) := dk_42 (dk_at dksX2_mix_1 18 rfl rfl)
theorem dX2_mix_42 : decode cX2_mix 42 = .ok (.getfield 12, 3) := dk_180 0 12 (dk_at dksX2_mix_1 19 rfl rfl)
theorem dX2_mix_45 : decode cX2_mix 45 = .ok (.iload_n 1, 1) := dk_27 (dk_at dksX2_mix_1 22 rfl rfl)
theorem dX2_mix_46 : decode cX2_mix 46 = .ok (.invokestatic 66, 3) := dk_184 0 66 (dk_at dksX2_mix_2 0 rfl rfl)
theorem dX2_mix_49 : decode cX2_mix 49 = .ok (.invokevirtual 70, 3) := dk_182 0 70 (dk_at dksX2_mix_2 3 rfl rfl)
theorem dX2_mix_52 : decode cX2_mix 52 = .ok (.checkcast 74, 3) := dk_192 0 74 (dk_at dksX2_mix_2 6 rfl rfl)
theorem dX2_mix_55 : decode cX2_mix 55 = .ok (.aload_n 0, 1) := dk_42 (dk_at dksX2_mix_2 9 rfl rfl)
theorem dX2_mix_56 : decode cX2_mix 56 = .ok (.getfield 12, 3) := dk_180 0 12 (dk_at dksX2_mix_2 10 rfl rfl)
theorem dX2_mix_59 : decode cX2_mix 59 = .ok (.iload_n 2, 1) := dk_28 (dk_at dksX2_mix_2 13 rfl rfl)
theorem dX2_mix_60 : decode cX2_mix 60 = .ok (.invokestatic 66, 3) := dk_184 0 66 (dk_at dksX2_mix_2 14 rfl rfl)
theorem dX2_mix_63 : decode cX2_mix 63 = .ok (.invokevirtual 70, 3) := dk_182 0 70 (dk_at dksX2_mix_2 17 rfl rfl)
theorem dX2_mix_66 : decode cX2_mix 66 = .ok (.checkcast 74, 3) := dk_192 0 74 (dk_at dksX2_mix_2 20 rfl rfl)
theorem dX2_mix_69 : decode cX2_mix 69 = .ok (.invokevirtual 150, 3) := dk_182 0 150 (dk_at dksX2_mix_3 0 rfl rfl)
theorem dX2_mix_72 : decode cX2_mix 72 = .ok (.astore_n 3, 1) := dk_78 (dk_at dksX2_mix_3 3 rfl rfl)
theorem dX2_mix_73 : decode cX2_mix 73 = .ok (.aload_n 3, 1) := dk_45 (dk_at dksX2_mix_3 4 rfl rfl)
theorem dX2_mix_74 : decode cX2_mix 74 = .ok (.invokevirtual 154, 3) := dk_182 0 154 (dk_at dksX2_mix_3 5 rfl rfl)
theorem dX2_mix_77 : decode cX2_mix 77 = .ok (.bipush 117, 2) := dk_16 117 (dk_at dksX2_mix_3 8 rfl rfl)
theorem dX2_mix_79 : decode cX2_mix 79 = .ok (.invokestatic 141, 3) := dk_184 0 141 (dk_at dksX2_mix_3 10 rfl rfl)
theorem dX2_mix_82 : decode cX2_mix 82 = .ok (.aload_n 0, 1) := dk_42 (dk_at dksX2_mix_3 13 rfl rfl)
theorem dX2_mix_83 : decode cX2_mix 83 = .ok (.getfield 12, 3) := dk_180 0 12 (dk_at dksX2_mix_3 14 rfl rfl)
theorem dX2_mix_86 : decode cX2_mix 86 = .ok (.iload_n 1, 1) := dk_27 (dk_at dksX2_mix_3 17 rfl rfl)
theorem dX2_mix_87 : decode cX2_mix 87 = .ok (.invokestatic 66, 3) := dk_184 0 66 (dk_at dksX2_mix_3 18 rfl rfl)
theorem dX2_mix_90 : decode cX2_mix 90 = .ok (.aload_n 3, 1) := dk_45 (dk_at dksX2_mix_3 21 rfl rfl)
theorem dX2_mix_91 : decode cX2_mix 91 = .ok (.invokevirtual 76, 3) := dk_182 0 76 (dk_at dksX2_mix_4 0 rfl rfl)
theorem dX2_mix_94 : decode cX2_mix 94 = .ok (.pop, 1) := dk_87 (dk_at dksX2_mix_4 3 rfl rfl)
theorem dX2_mix_95 : decode cX2_mix 95 = .ok (.aload_n 0, 1) := dk_42 (dk_at dksX2_mix_4 4 rfl rfl)
theorem dX2_mix_96 : decode cX2_mix 96 = .ok (.getfield 12, 3) := dk_180 0 12 (dk_at dksX2_mix_4 5 rfl rfl)
theorem dX2_mix_99 : decode cX2_mix 99 = .ok (.iload_n 2, 1) := dk_28 (dk_at dksX2_mix_4 8 rfl rfl)
theorem dX2_mix_100 : decode cX2_mix 100 = .ok (.invokestatic 66, 3) := dk_184 0 66 (dk_at dksX2_mix_4 9 rfl rfl)
theorem dX2_mix_103 : decode cX2_mix 103 = .ok (.new 74, 3) := dk_187 0 74 (dk_at dksX2_mix_4 12 rfl rfl)
theorem dX2_mix_106 : decode cX2_mix 106 = .ok (.dup, 1) := dk_89 (dk_at dksX2_mix_4 15 rfl rfl)
theorem dX2_mix_107 : decode cX2_mix 107 = .ok (.iconst 0, 1) := dk_3 (dk_at dksX2_mix_4 16 rfl rfl)
theorem dX2_mix_108 : decode cX2_mix 108 = .ok (.iconst 1, 1) := dk_4 (dk_at dksX2_mix_4 17 rfl rfl)
theorem dX2_mix_109 : decode cX2_mix 109 = .ok (.invokespecial 145, 3) := dk_183 0 145 (dk_at dksX2_mix_4 18 rfl rfl)
theorem dX2_mix_112 : decode cX2_mix 112 = .ok (.invokevirtual 76, 3) := dk_182 0 76 (dk_at dksX2_mix_4 21 rfl rfl)
theorem dX2_mix_115 : decode cX2_mix 115 = .ok (.pop, 1) := dk_87 (dk_at dksX2_mix_5 0 rfl rfl)
theorem dX2_mix_116 : decode cX2_mix 116 = .ok (.aload_n 3, 1) := dk_45 (dk_at dksX2_mix_5 1 rfl rfl)
theorem dX2_mix_117 : decode cX2_mix 117 = .ok (.getfield 157, 3) := dk_180 0 157 (dk_at dksX2_mix_5 2 rfl rfl)
theorem dX2_mix_120 : decode cX2_mix 120 = .ok (.ireturn, 1) := dk_172 (dk_at dksX2_mix_5 5 rfl rfl)
abbrev cX2_hasDough : ByteArray := prog_2_method_3_code
def yX2_hasDough : MethodName := ⟨RX2, "hasDough", "(I)Z"⟩
def dkwX2_hasDough_0 : List UInt8 := [27, 3, 42, 180, 0, 12, 182, 0, 120, 4, 100, 184, 0, 123, 172]
abbrev dktX2_hasDough_0 : List UInt8 := dkwX2_hasDough_0 ++ []
theorem dksX2_hasDough_0 : cX2_hasDough.data.toList.drop 0 = dktX2_hasDough_0 := by decide +kernel
theorem dX2_hasDough_0 : decode cX2_hasDough 0 = .ok (.iload_n 1, 1) := dk_27 (dk_at dksX2_hasDough_0 0 rfl rfl)
theorem dX2_hasDough_1 : decode cX2_hasDough 1 = .ok (.iconst 0, 1) := dk_3 (dk_at dksX2_hasDough_0 1 rfl rfl)
theorem dX2_hasDough_2 : decode cX2_hasDough 2 = .ok (.aload_n 0, 1) := dk_42 (dk_at dksX2_hasDough_0 2 rfl rfl)
theorem dX2_hasDough_3 : decode cX2_hasDough 3 = .ok (.getfield 12, 3) := dk_180 0 12 (dk_at dksX2_hasDough_0 3 rfl rfl)
theorem dX2_hasDough_6 : decode cX2_hasDough 6 = .ok (.invokevirtual 120, 3) := dk_182 0 120 (dk_at dksX2_hasDough_0 6 rfl rfl)
theorem dX2_hasDough_9 : decode cX2_hasDough 9 = .ok (.iconst 1, 1) := dk_4 (dk_at dksX2_hasDough_0 9 rfl rfl)
theorem dX2_hasDough_10 : decode cX2_hasDough 10 = .ok (.isub, 1) := dk_100 (dk_at dksX2_hasDough_0 10 rfl rfl)
theorem dX2_hasDough_11 : decode cX2_hasDough 11 = .ok (.invokestatic 123, 3) := dk_184 0 123 (dk_at dksX2_hasDough_0 11 rfl rfl)
theorem dX2_hasDough_14 : decode cX2_hasDough 14 = .ok (.ireturn, 1) := dk_172 (dk_at dksX2_hasDough_0 14 rfl rfl)
abbrev cX2_addBowl : ByteArray := prog_2_method_11_code
def yX2_addBowl : MethodName := ⟨RX2, "addBowl", "(I)I"⟩
def dkwX2_addBowl_2 : List UInt8 := [183, 0, 91, 185, 0, 94, 2, 0, 87, 42, 180, 0, 21, 185, 0, 127, 1, 0, 4, 100, 172]
abbrev dktX2_addBowl_2 : List UInt8 := dkwX2_addBowl_2 ++ []
def dkwX2_addBowl_1 : List UInt8 := [162, 0, 7, 4, 167, 0, 4, 3, 16, 115, 184, 0, 141, 42, 180, 0, 21, 187, 0, 83, 89, 27, 3]
abbrev dktX2_addBowl_1 : List UInt8 := dkwX2_addBowl_1 ++ dktX2_addBowl_2
def dkwX2_addBowl_0 : List UInt8 := [27, 4, 17, 39, 15, 184, 0, 123, 16, 97, 184, 0, 141, 42, 180, 0, 21, 185, 0, 127, 1, 0, 8]
abbrev dktX2_addBowl_0 : List UInt8 := dkwX2_addBowl_0 ++ dktX2_addBowl_1
theorem dksX2_addBowl_0 : cX2_addBowl.data.toList.drop 0 = dktX2_addBowl_0 := by decide +kernel
theorem dksX2_addBowl_1 : cX2_addBowl.data.toList.drop 23 = dktX2_addBowl_1 := dk_seg dksX2_addBowl_0 23 rfl rfl
theorem dksX2_addBowl_2 : cX2_addBowl.data.toList.drop 46 = dktX2_addBowl_2 := dk_seg dksX2_addBowl_1 23 rfl rfl
theorem dX2_addBowl_0 : decode cX2_addBowl 0 = .ok (.iload_n 1, 1) := dk_27 (dk_at dksX2_addBowl_0 0 rfl rfl)
theorem dX2_addBowl_1 : decode cX2_addBowl 1 = .ok (.iconst 1, 1) := dk_4 (dk_at dksX2_addBowl_0 1 rfl rfl)
theorem dX2_addBowl_2 : decode cX2_addBowl 2 = .ok (.sipush 9999, 3) := dk_17 39 15 (dk_at dksX2_addBowl_0 2 rfl rfl)
theorem dX2_addBowl_5 : decode cX2_addBowl 5 = .ok (.invokestatic 123, 3) := dk_184 0 123 (dk_at dksX2_addBowl_0 5 rfl rfl)
theorem dX2_addBowl_8 : decode cX2_addBowl 8 = .ok (.bipush 97, 2) := dk_16 97 (dk_at dksX2_addBowl_0 8 rfl rfl)
theorem dX2_addBowl_10 : decode cX2_addBowl 10 = .ok (.invokestatic 141, 3) := dk_184 0 141 (dk_at dksX2_addBowl_0 10 rfl rfl)
theorem dX2_addBowl_13 : decode cX2_addBowl 13 = .ok (.aload_n 0, 1) := dk_42 (dk_at dksX2_addBowl_0 13 rfl rfl)
theorem dX2_addBowl_14 : decode cX2_addBowl 14 = .ok (.getfield 21, 3) := dk_180 0 21 (dk_at dksX2_addBowl_0 14 rfl rfl)
theorem dX2_addBowl_17 : decode cX2_addBowl 17 = .ok (.invokeinterface 127 1, 5) := by decide +kernel
theorem dX2_addBowl_22 : decode cX2_addBowl 22 = .ok (.iconst 5, 1) := dk_8 (dk_at dksX2_addBowl_0 22 rfl rfl)
theorem dX2_addBowl_23 : decode cX2_addBowl 23 = .ok (.if_icmp .ge 7, 3) := dk_162 0 7 (dk_at dksX2_addBowl_1 0 rfl rfl)
theorem dX2_addBowl_26 : decode cX2_addBowl 26 = .ok (.iconst 1, 1) := dk_4 (dk_at dksX2_addBowl_1 3 rfl rfl)
theorem dX2_addBowl_27 : decode cX2_addBowl 27 = .ok (.goto 4, 3) := dk_167 0 4 (dk_at dksX2_addBowl_1 4 rfl rfl)
theorem dX2_addBowl_30 : decode cX2_addBowl 30 = .ok (.iconst 0, 1) := dk_3 (dk_at dksX2_addBowl_1 7 rfl rfl)
theorem dX2_addBowl_31 : decode cX2_addBowl 31 = .ok (.bipush 115, 2) := dk_16 115 (dk_at dksX2_addBowl_1 8 rfl rfl)
theorem dX2_addBowl_33 : decode cX2_addBowl 33 = .ok (.invokestatic 141, 3) := dk_184 0 141 (dk_at dksX2_addBowl_1 10 rfl rfl)
theorem dX2_addBowl_36 : decode cX2_addBowl 36 = .ok (.aload_n 0, 1) := dk_42 (dk_at dksX2_addBowl_1 13 rfl rfl)
theorem dX2_addBowl_37 : decode cX2_addBowl 37 = .ok (.getfield 21, 3) := dk_180 0 21 (dk_at dksX2_addBowl_1 14 rfl rfl)
theorem dX2_addBowl_40 : decode cX2_addBowl 40 = .ok (.new 83, 3) := dk_187 0 83 (dk_at dksX2_addBowl_1 17 rfl rfl)
theorem dX2_addBowl_43 : decode cX2_addBowl 43 = .ok (.dup, 1) := dk_89 (dk_at dksX2_addBowl_1 20 rfl rfl)
theorem dX2_addBowl_44 : decode cX2_addBowl 44 = .ok (.iload_n 1, 1) := dk_27 (dk_at dksX2_addBowl_1 21 rfl rfl)
theorem dX2_addBowl_45 : decode cX2_addBowl 45 = .ok (.iconst 0, 1) := dk_3 (dk_at dksX2_addBowl_1 22 rfl rfl)
theorem dX2_addBowl_46 : decode cX2_addBowl 46 = .ok (.invokespecial 91, 3) := dk_183 0 91 (dk_at dksX2_addBowl_2 0 rfl rfl)
theorem dX2_addBowl_49 : decode cX2_addBowl 49 = .ok (.invokeinterface 94 2, 5) := by decide +kernel
theorem dX2_addBowl_54 : decode cX2_addBowl 54 = .ok (.pop, 1) := dk_87 (dk_at dksX2_addBowl_2 8 rfl rfl)
theorem dX2_addBowl_55 : decode cX2_addBowl 55 = .ok (.aload_n 0, 1) := dk_42 (dk_at dksX2_addBowl_2 9 rfl rfl)
theorem dX2_addBowl_56 : decode cX2_addBowl 56 = .ok (.getfield 21, 3) := dk_180 0 21 (dk_at dksX2_addBowl_2 10 rfl rfl)
theorem dX2_addBowl_59 : decode cX2_addBowl 59 = .ok (.invokeinterface 127 1, 5) := by decide +kernel
theorem dX2_addBowl_64 : decode cX2_addBowl 64 = .ok (.iconst 1, 1) := dk_4 (dk_at dksX2_addBowl_2 18 rfl rfl)
theorem dX2_addBowl_65 : decode cX2_addBowl 65 = .ok (.isub, 1) := dk_100 (dk_at dksX2_addBowl_2 19 rfl rfl)
theorem dX2_addBowl_66 : decode cX2_addBowl 66 = .ok (.ireturn, 1) := dk_172 (dk_at dksX2_addBowl_2 20 rfl rfl)
abbrev cX2_addLoaf : ByteArray := prog_2_method_12_code
def yX2_addLoaf : MethodName := ⟨RX2, "addLoaf", "(II)I"⟩
def dkwX2_addLoaf_3 : List UInt8 := [185, 0, 94, 2, 0, 87, 42, 180, 0, 25, 185, 0, 127, 1, 0, 4, 100, 172]
abbrev dktX2_addLoaf_3 : List UInt8 := dkwX2_addLoaf_3 ++ []
def dkwX2_addLoaf_2 : List UInt8 := [3, 16, 115, 184, 0, 141, 42, 180, 0, 25, 187, 0, 98, 89, 27, 28, 3, 183, 0, 160]
abbrev dktX2_addLoaf_2 : List UInt8 := dkwX2_addLoaf_2 ++ dktX2_addLoaf_3
def dkwX2_addLoaf_1 : List UInt8 := [3, 16, 97, 184, 0, 141, 42, 180, 0, 25, 185, 0, 127, 1, 0, 16, 8, 162, 0, 7, 4, 167, 0, 4]
abbrev dktX2_addLoaf_1 : List UInt8 := dkwX2_addLoaf_1 ++ dktX2_addLoaf_2
def dkwX2_addLoaf_0 : List UInt8 := [27, 4, 16, 20, 184, 0, 123, 153, 0, 17, 28, 4, 16, 60, 184, 0, 123, 153, 0, 7, 4, 167, 0, 4]
abbrev dktX2_addLoaf_0 : List UInt8 := dkwX2_addLoaf_0 ++ dktX2_addLoaf_1
theorem dksX2_addLoaf_0 : cX2_addLoaf.data.toList.drop 0 = dktX2_addLoaf_0 := by decide +kernel
theorem dksX2_addLoaf_1 : cX2_addLoaf.data.toList.drop 24 = dktX2_addLoaf_1 := dk_seg dksX2_addLoaf_0 24 rfl rfl
theorem dksX2_addLoaf_2 : cX2_addLoaf.data.toList.drop 48 = dktX2_addLoaf_2 := dk_seg dksX2_addLoaf_1 24 rfl rfl
theorem dksX2_addLoaf_3 : cX2_addLoaf.data.toList.drop 68 = dktX2_addLoaf_3 := dk_seg dksX2_addLoaf_2 20 rfl rfl
theorem dX2_addLoaf_0 : decode cX2_addLoaf 0 = .ok (.iload_n 1, 1) := dk_27 (dk_at dksX2_addLoaf_0 0 rfl rfl)
theorem dX2_addLoaf_1 : decode cX2_addLoaf 1 = .ok (.iconst 1, 1) := dk_4 (dk_at dksX2_addLoaf_0 1 rfl rfl)
theorem dX2_addLoaf_2 : decode cX2_addLoaf 2 = .ok (.bipush 20, 2) := dk_16 20 (dk_at dksX2_addLoaf_0 2 rfl rfl)
theorem dX2_addLoaf_4 : decode cX2_addLoaf 4 = .ok (.invokestatic 123, 3) := dk_184 0 123 (dk_at dksX2_addLoaf_0 4 rfl rfl)
theorem dX2_addLoaf_7 : decode cX2_addLoaf 7 = .ok (.ifCond .eq 17, 3) := dk_153 0 17 (dk_at dksX2_addLoaf_0 7 rfl rfl)
theorem dX2_addLoaf_10 : decode cX2_addLoaf 10 = .ok (.iload_n 2, 1) := dk_28 (dk_at dksX2_addLoaf_0 10 rfl rfl)
theorem dX2_addLoaf_11 : decode cX2_addLoaf 11 = .ok (.iconst 1, 1) := dk_4 (dk_at dksX2_addLoaf_0 11 rfl rfl)
theorem dX2_addLoaf_12 : decode cX2_addLoaf 12 = .ok (.bipush 60, 2) := dk_16 60 (dk_at dksX2_addLoaf_0 12 rfl rfl)
theorem dX2_addLoaf_14 : decode cX2_addLoaf 14 = .ok (.invokestatic 123, 3) := dk_184 0 123 (dk_at dksX2_addLoaf_0 14 rfl rfl)
theorem dX2_addLoaf_17 : decode cX2_addLoaf 17 = .ok (.ifCond .eq 7, 3) := dk_153 0 7 (dk_at dksX2_addLoaf_0 17 rfl rfl)
theorem dX2_addLoaf_20 : decode cX2_addLoaf 20 = .ok (.iconst 1, 1) := dk_4 (dk_at dksX2_addLoaf_0 20 rfl rfl)
theorem dX2_addLoaf_21 : decode cX2_addLoaf 21 = .ok (.goto 4, 3) := dk_167 0 4 (dk_at dksX2_addLoaf_0 21 rfl rfl)
theorem dX2_addLoaf_24 : decode cX2_addLoaf 24 = .ok (.iconst 0, 1) := dk_3 (dk_at dksX2_addLoaf_1 0 rfl rfl)
theorem dX2_addLoaf_25 : decode cX2_addLoaf 25 = .ok (.bipush 97, 2) := dk_16 97 (dk_at dksX2_addLoaf_1 1 rfl rfl)
theorem dX2_addLoaf_27 : decode cX2_addLoaf 27 = .ok (.invokestatic 141, 3) := dk_184 0 141 (dk_at dksX2_addLoaf_1 3 rfl rfl)
theorem dX2_addLoaf_30 : decode cX2_addLoaf 30 = .ok (.aload_n 0, 1) := dk_42 (dk_at dksX2_addLoaf_1 6 rfl rfl)
theorem dX2_addLoaf_31 : decode cX2_addLoaf 31 = .ok (.getfield 25, 3) := dk_180 0 25 (dk_at dksX2_addLoaf_1 7 rfl rfl)
theorem dX2_addLoaf_34 : decode cX2_addLoaf 34 = .ok (.invokeinterface 127 1, 5) := by decide +kernel
theorem dX2_addLoaf_39 : decode cX2_addLoaf 39 = .ok (.bipush 8, 2) := dk_16 8 (dk_at dksX2_addLoaf_1 15 rfl rfl)
theorem dX2_addLoaf_41 : decode cX2_addLoaf 41 = .ok (.if_icmp .ge 7, 3) := dk_162 0 7 (dk_at dksX2_addLoaf_1 17 rfl rfl)
theorem dX2_addLoaf_44 : decode cX2_addLoaf 44 = .ok (.iconst 1, 1) := dk_4 (dk_at dksX2_addLoaf_1 20 rfl rfl)
theorem dX2_addLoaf_45 : decode cX2_addLoaf 45 = .ok (.goto 4, 3) := dk_167 0 4 (dk_at dksX2_addLoaf_1 21 rfl rfl)
theorem dX2_addLoaf_48 : decode cX2_addLoaf 48 = .ok (.iconst 0, 1) := dk_3 (dk_at dksX2_addLoaf_2 0 rfl rfl)
theorem dX2_addLoaf_49 : decode cX2_addLoaf 49 = .ok (.bipush 115, 2) := dk_16 115 (dk_at dksX2_addLoaf_2 1 rfl rfl)
theorem dX2_addLoaf_51 : decode cX2_addLoaf 51 = .ok (.invokestatic 141, 3) := dk_184 0 141 (dk_at dksX2_addLoaf_2 3 rfl rfl)
theorem dX2_addLoaf_54 : decode cX2_addLoaf 54 = .ok (.aload_n 0, 1) := dk_42 (dk_at dksX2_addLoaf_2 6 rfl rfl)
theorem dX2_addLoaf_55 : decode cX2_addLoaf 55 = .ok (.getfield 25, 3) := dk_180 0 25 (dk_at dksX2_addLoaf_2 7 rfl rfl)
theorem dX2_addLoaf_58 : decode cX2_addLoaf 58 = .ok (.new 98, 3) := dk_187 0 98 (dk_at dksX2_addLoaf_2 10 rfl rfl)
theorem dX2_addLoaf_61 : decode cX2_addLoaf 61 = .ok (.dup, 1) := dk_89 (dk_at dksX2_addLoaf_2 13 rfl rfl)
theorem dX2_addLoaf_62 : decode cX2_addLoaf 62 = .ok (.iload_n 1, 1) := dk_27 (dk_at dksX2_addLoaf_2 14 rfl rfl)
theorem dX2_addLoaf_63 : decode cX2_addLoaf 63 = .ok (.iload_n 2, 1) := dk_28 (dk_at dksX2_addLoaf_2 15 rfl rfl)
theorem dX2_addLoaf_64 : decode cX2_addLoaf 64 = .ok (.iconst 0, 1) := dk_3 (dk_at dksX2_addLoaf_2 16 rfl rfl)
theorem dX2_addLoaf_65 : decode cX2_addLoaf 65 = .ok (.invokespecial 160, 3) := dk_183 0 160 (dk_at dksX2_addLoaf_2 17 rfl rfl)
theorem dX2_addLoaf_68 : decode cX2_addLoaf 68 = .ok (.invokeinterface 94 2, 5) := by decide +kernel
theorem dX2_addLoaf_73 : decode cX2_addLoaf 73 = .ok (.pop, 1) := dk_87 (dk_at dksX2_addLoaf_3 5 rfl rfl)
theorem dX2_addLoaf_74 : decode cX2_addLoaf 74 = .ok (.aload_n 0, 1) := dk_42 (dk_at dksX2_addLoaf_3 6 rfl rfl)
theorem dX2_addLoaf_75 : decode cX2_addLoaf 75 = .ok (.getfield 25, 3) := dk_180 0 25 (dk_at dksX2_addLoaf_3 7 rfl rfl)
theorem dX2_addLoaf_78 : decode cX2_addLoaf 78 = .ok (.invokeinterface 127 1, 5) := by decide +kernel
theorem dX2_addLoaf_83 : decode cX2_addLoaf 83 = .ok (.iconst 1, 1) := dk_4 (dk_at dksX2_addLoaf_3 15 rfl rfl)
theorem dX2_addLoaf_84 : decode cX2_addLoaf 84 = .ok (.isub, 1) := dk_100 (dk_at dksX2_addLoaf_3 16 rfl rfl)
theorem dX2_addLoaf_85 : decode cX2_addLoaf 85 = .ok (.ireturn, 1) := dk_172 (dk_at dksX2_addLoaf_3 17 rfl rfl)
abbrev cX2_sellLoaf : ByteArray := prog_2_method_13_code
def yX2_sellLoaf : MethodName := ⟨RX2, "sellLoaf", "(I)I"⟩
def dkwX2_sellLoaf_1 : List UInt8 := [180, 0, 139, 61, 42, 89, 180, 0, 111, 28, 133, 97, 181, 0, 111, 28, 172]
abbrev dktX2_sellLoaf_1 : List UInt8 := dkwX2_sellLoaf_1 ++ []
def dkwX2_sellLoaf_0 : List UInt8 := [42, 27, 182, 0, 163, 16, 105, 184, 0, 141, 42, 180, 0, 25, 27, 185, 0, 166, 2, 0, 192, 0, 98]
abbrev dktX2_sellLoaf_0 : List UInt8 := dkwX2_sellLoaf_0 ++ dktX2_sellLoaf_1
theorem dksX2_sellLoaf_0 : cX2_sellLoaf.data.toList.drop 0 = dktX2_sellLoaf_0 := by decide +kernel
theorem dksX2_sellLoaf_1 : cX2_sellLoaf.data.toList.drop 23 = dktX2_sellLoaf_1 := dk_seg dksX2_sellLoaf_0 23 rfl rfl
theorem dX2_sellLoaf_0 : decode cX2_sellLoaf 0 = .ok (.aload_n 0, 1) := dk_42 (dk_at dksX2_sellLoaf_0 0 rfl rfl)
theorem dX2_sellLoaf_1 : decode cX2_sellLoaf 1 = .ok (.iload_n 1, 1) := dk_27 (dk_at dksX2_sellLoaf_0 1 rfl rfl)
theorem dX2_sellLoaf_2 : decode cX2_sellLoaf 2 = .ok (.invokevirtual 163, 3) := dk_182 0 163 (dk_at dksX2_sellLoaf_0 2 rfl rfl)
theorem dX2_sellLoaf_5 : decode cX2_sellLoaf 5 = .ok (.bipush 105, 2) := dk_16 105 (dk_at dksX2_sellLoaf_0 5 rfl rfl)
theorem dX2_sellLoaf_7 : decode cX2_sellLoaf 7 = .ok (.invokestatic 141, 3) := dk_184 0 141 (dk_at dksX2_sellLoaf_0 7 rfl rfl)
theorem dX2_sellLoaf_10 : decode cX2_sellLoaf 10 = .ok (.aload_n 0, 1) := dk_42 (dk_at dksX2_sellLoaf_0 10 rfl rfl)
theorem dX2_sellLoaf_11 : decode cX2_sellLoaf 11 = .ok (.getfield 25, 3) := dk_180 0 25 (dk_at dksX2_sellLoaf_0 11 rfl rfl)
theorem dX2_sellLoaf_14 : decode cX2_sellLoaf 14 = .ok (.iload_n 1, 1) := dk_27 (dk_at dksX2_sellLoaf_0 14 rfl rfl)
theorem dX2_sellLoaf_15 : decode cX2_sellLoaf 15 = .ok (.invokeinterface 166 2, 5) := by decide +kernel
theorem dX2_sellLoaf_20 : decode cX2_sellLoaf 20 = .ok (.checkcast 98, 3) := dk_192 0 98 (dk_at dksX2_sellLoaf_0 20 rfl rfl)
theorem dX2_sellLoaf_23 : decode cX2_sellLoaf 23 = .ok (.getfield 139, 3) := dk_180 0 139 (dk_at dksX2_sellLoaf_1 0 rfl rfl)
theorem dX2_sellLoaf_26 : decode cX2_sellLoaf 26 = .ok (.istore_n 2, 1) := dk_61 (dk_at dksX2_sellLoaf_1 3 rfl rfl)
theorem dX2_sellLoaf_27 : decode cX2_sellLoaf 27 = .ok (.aload_n 0, 1) := dk_42 (dk_at dksX2_sellLoaf_1 4 rfl rfl)
theorem dX2_sellLoaf_28 : decode cX2_sellLoaf 28 = .ok (.dup, 1) := dk_89 (dk_at dksX2_sellLoaf_1 5 rfl rfl)
theorem dX2_sellLoaf_29 : decode cX2_sellLoaf 29 = .ok (.getfield 111, 3) := dk_180 0 111 (dk_at dksX2_sellLoaf_1 6 rfl rfl)
theorem dX2_sellLoaf_32 : decode cX2_sellLoaf 32 = .ok (.iload_n 2, 1) := dk_28 (dk_at dksX2_sellLoaf_1 9 rfl rfl)
theorem dX2_sellLoaf_33 : decode cX2_sellLoaf 33 = .ok (.i2l, 1) := dk_133 (dk_at dksX2_sellLoaf_1 10 rfl rfl)
theorem dX2_sellLoaf_34 : decode cX2_sellLoaf 34 = .ok (.ladd, 1) := dk_97 (dk_at dksX2_sellLoaf_1 11 rfl rfl)
theorem dX2_sellLoaf_35 : decode cX2_sellLoaf 35 = .ok (.putfield 111, 3) := dk_181 0 111 (dk_at dksX2_sellLoaf_1 12 rfl rfl)
theorem dX2_sellLoaf_38 : decode cX2_sellLoaf 38 = .ok (.iload_n 2, 1) := dk_28 (dk_at dksX2_sellLoaf_1 15 rfl rfl)
theorem dX2_sellLoaf_39 : decode cX2_sellLoaf 39 = .ok (.ireturn, 1) := dk_172 (dk_at dksX2_sellLoaf_1 16 rfl rfl)
abbrev cX2_hasLoaf : ByteArray := prog_2_method_5_code
def yX2_hasLoaf : MethodName := ⟨RX2, "hasLoaf", "(I)Z"⟩
def dkwX2_hasLoaf_0 : List UInt8 := [27, 3, 42, 180, 0, 25, 185, 0, 127, 1, 0, 4, 100, 184, 0, 123, 172]
abbrev dktX2_hasLoaf_0 : List UInt8 := dkwX2_hasLoaf_0 ++ []
theorem dksX2_hasLoaf_0 : cX2_hasLoaf.data.toList.drop 0 = dktX2_hasLoaf_0 := by decide +kernel
theorem dX2_hasLoaf_0 : decode cX2_hasLoaf 0 = .ok (.iload_n 1, 1) := dk_27 (dk_at dksX2_hasLoaf_0 0 rfl rfl)
theorem dX2_hasLoaf_1 : decode cX2_hasLoaf 1 = .ok (.iconst 0, 1) := dk_3 (dk_at dksX2_hasLoaf_0 1 rfl rfl)
theorem dX2_hasLoaf_2 : decode cX2_hasLoaf 2 = .ok (.aload_n 0, 1) := dk_42 (dk_at dksX2_hasLoaf_0 2 rfl rfl)
theorem dX2_hasLoaf_3 : decode cX2_hasLoaf 3 = .ok (.getfield 25, 3) := dk_180 0 25 (dk_at dksX2_hasLoaf_0 3 rfl rfl)
theorem dX2_hasLoaf_6 : decode cX2_hasLoaf 6 = .ok (.invokeinterface 127 1, 5) := by decide +kernel
theorem dX2_hasLoaf_11 : decode cX2_hasLoaf 11 = .ok (.iconst 1, 1) := dk_4 (dk_at dksX2_hasLoaf_0 11 rfl rfl)
theorem dX2_hasLoaf_12 : decode cX2_hasLoaf 12 = .ok (.isub, 1) := dk_100 (dk_at dksX2_hasLoaf_0 12 rfl rfl)
theorem dX2_hasLoaf_13 : decode cX2_hasLoaf 13 = .ok (.invokestatic 123, 3) := dk_184 0 123 (dk_at dksX2_hasLoaf_0 13 rfl rfl)
theorem dX2_hasLoaf_16 : decode cX2_hasLoaf 16 = .ok (.ireturn, 1) := dk_172 (dk_at dksX2_hasLoaf_0 16 rfl rfl)
abbrev cX2_setScale : ByteArray := prog_2_method_14_code
def yX2_setScale : MethodName := ⟨RX2, "setScale", "(I)I"⟩
def dkwX2_setScale_1 : List UInt8 := [16, 117, 184, 0, 141, 42, 180, 0, 28, 61, 42, 27, 181, 0, 28, 28, 172]
abbrev dktX2_setScale_1 : List UInt8 := dkwX2_setScale_1 ++ []
def dkwX2_setScale_0 : List UInt8 := [27, 3, 7, 184, 0, 123, 16, 97, 184, 0, 141, 42, 182, 0, 170, 154, 0, 7, 4, 167, 0, 4, 3]
abbrev dktX2_setScale_0 : List UInt8 := dkwX2_setScale_0 ++ dktX2_setScale_1
theorem dksX2_setScale_0 : cX2_setScale.data.toList.drop 0 = dktX2_setScale_0 := by decide +kernel
theorem dksX2_setScale_1 : cX2_setScale.data.toList.drop 23 = dktX2_setScale_1 := dk_seg dksX2_setScale_0 23 rfl rfl
theorem dX2_setScale_0 : decode cX2_setScale 0 = .ok (.iload_n 1, 1) := dk_27 (dk_at dksX2_setScale_0 0 rfl rfl)
theorem dX2_setScale_1 : decode cX2_setScale 1 = .ok (.iconst 0, 1) := dk_3 (dk_at dksX2_setScale_0 1 rfl rfl)
theorem dX2_setScale_2 : decode cX2_setScale 2 = .ok (.iconst 4, 1) := dk_7 (dk_at dksX2_setScale_0 2 rfl rfl)
theorem dX2_setScale_3 : decode cX2_setScale 3 = .ok (.invokestatic 123, 3) := dk_184 0 123 (dk_at dksX2_setScale_0 3 rfl rfl)
theorem dX2_setScale_6 : decode cX2_setScale 6 = .ok (.bipush 97, 2) := dk_16 97 (dk_at dksX2_setScale_0 6 rfl rfl)
theorem dX2_setScale_8 : decode cX2_setScale 8 = .ok (.invokestatic 141, 3) := dk_184 0 141 (dk_at dksX2_setScale_0 8 rfl rfl)
theorem dX2_setScale_11 : decode cX2_setScale 11 = .ok (.aload_n 0, 1) := dk_42 (dk_at dksX2_setScale_0 11 rfl rfl)
theorem dX2_setScale_12 : decode cX2_setScale 12 = .ok (.invokevirtual 170, 3) := dk_182 0 170 (dk_at dksX2_setScale_0 12 rfl rfl)
theorem dX2_setScale_15 : decode cX2_setScale 15 = .ok (.ifCond .ne 7, 3) := dk_154 0 7 (dk_at dksX2_setScale_0 15 rfl rfl)
theorem dX2_setScale_18 : decode cX2_setScale 18 = .ok (.iconst 1, 1) := dk_4 (dk_at dksX2_setScale_0 18 rfl rfl)
theorem dX2_setScale_19 : decode cX2_setScale 19 = .ok (.goto 4, 3) := dk_167 0 4 (dk_at dksX2_setScale_0 19 rfl rfl)
theorem dX2_setScale_22 : decode cX2_setScale 22 = .ok (.iconst 0, 1) := dk_3 (dk_at dksX2_setScale_0 22 rfl rfl)
theorem dX2_setScale_23 : decode cX2_setScale 23 = .ok (.bipush 117, 2) := dk_16 117 (dk_at dksX2_setScale_1 0 rfl rfl)
theorem dX2_setScale_25 : decode cX2_setScale 25 = .ok (.invokestatic 141, 3) := dk_184 0 141 (dk_at dksX2_setScale_1 2 rfl rfl)
theorem dX2_setScale_28 : decode cX2_setScale 28 = .ok (.aload_n 0, 1) := dk_42 (dk_at dksX2_setScale_1 5 rfl rfl)
theorem dX2_setScale_29 : decode cX2_setScale 29 = .ok (.getfield 28, 3) := dk_180 0 28 (dk_at dksX2_setScale_1 6 rfl rfl)
theorem dX2_setScale_32 : decode cX2_setScale 32 = .ok (.istore_n 2, 1) := dk_61 (dk_at dksX2_setScale_1 9 rfl rfl)
theorem dX2_setScale_33 : decode cX2_setScale 33 = .ok (.aload_n 0, 1) := dk_42 (dk_at dksX2_setScale_1 10 rfl rfl)
theorem dX2_setScale_34 : decode cX2_setScale 34 = .ok (.iload_n 1, 1) := dk_27 (dk_at dksX2_setScale_1 11 rfl rfl)
theorem dX2_setScale_35 : decode cX2_setScale 35 = .ok (.putfield 28, 3) := dk_181 0 28 (dk_at dksX2_setScale_1 12 rfl rfl)
theorem dX2_setScale_38 : decode cX2_setScale 38 = .ok (.iload_n 2, 1) := dk_28 (dk_at dksX2_setScale_1 15 rfl rfl)
theorem dX2_setScale_39 : decode cX2_setScale 39 = .ok (.ireturn, 1) := dk_172 (dk_at dksX2_setScale_1 16 rfl rfl)
abbrev cX2_setRounding : ByteArray := prog_2_method_15_code
def yX2_setRounding : MethodName := ⟨RX2, "setRounding", "(I)I"⟩
def dkwX2_setRounding_0 : List UInt8 := [27, 184, 0, 172, 16, 97, 184, 0, 141, 42, 180, 0, 32, 61, 42, 27, 146, 181, 0, 32, 28, 172]
abbrev dktX2_setRounding_0 : List UInt8 := dkwX2_setRounding_0 ++ []
theorem dksX2_setRounding_0 : cX2_setRounding.data.toList.drop 0 = dktX2_setRounding_0 := by decide +kernel
theorem dX2_setRounding_0 : decode cX2_setRounding 0 = .ok (.iload_n 1, 1) := dk_27 (dk_at dksX2_setRounding_0 0 rfl rfl)
theorem dX2_setRounding_1 : decode cX2_setRounding 1 = .ok (.invokestatic 172, 3) := dk_184 0 172 (dk_at dksX2_setRounding_0 1 rfl rfl)
theorem dX2_setRounding_4 : decode cX2_setRounding 4 = .ok (.bipush 97, 2) := dk_16 97 (dk_at dksX2_setRounding_0 4 rfl rfl)
theorem dX2_setRounding_6 : decode cX2_setRounding 6 = .ok (.invokestatic 141, 3) := dk_184 0 141 (dk_at dksX2_setRounding_0 6 rfl rfl)
theorem dX2_setRounding_9 : decode cX2_setRounding 9 = .ok (.aload_n 0, 1) := dk_42 (dk_at dksX2_setRounding_0 9 rfl rfl)
theorem dX2_setRounding_10 : decode cX2_setRounding 10 = .ok (.getfield 32, 3) := dk_180 0 32 (dk_at dksX2_setRounding_0 10 rfl rfl)
theorem dX2_setRounding_13 : decode cX2_setRounding 13 = .ok (.istore_n 2, 1) := dk_61 (dk_at dksX2_setRounding_0 13 rfl rfl)
theorem dX2_setRounding_14 : decode cX2_setRounding 14 = .ok (.aload_n 0, 1) := dk_42 (dk_at dksX2_setRounding_0 14 rfl rfl)
theorem dX2_setRounding_15 : decode cX2_setRounding 15 = .ok (.iload_n 1, 1) := dk_27 (dk_at dksX2_setRounding_0 15 rfl rfl)
theorem dX2_setRounding_16 : decode cX2_setRounding 16 = .ok (.i2c, 1) := dk_146 (dk_at dksX2_setRounding_0 16 rfl rfl)
theorem dX2_setRounding_17 : decode cX2_setRounding 17 = .ok (.putfield 32, 3) := dk_181 0 32 (dk_at dksX2_setRounding_0 17 rfl rfl)
theorem dX2_setRounding_20 : decode cX2_setRounding 20 = .ok (.iload_n 2, 1) := dk_28 (dk_at dksX2_setRounding_0 20 rfl rfl)
theorem dX2_setRounding_21 : decode cX2_setRounding 21 = .ok (.ireturn, 1) := dk_172 (dk_at dksX2_setRounding_0 21 rfl rfl)
abbrev cX2_pour : ByteArray := prog_2_method_16_code
def yX2_pour : MethodName := ⟨RX2, "pour", "(II)I"⟩
def dkwX2_pour_9 : List UInt8 := [21, 4, 172]
abbrev dktX2_pour_9 : List UInt8 := dkwX2_pour_9 ++ []
def dkwX2_pour_8 : List UInt8 := [181, 0, 108, 42, 180, 0, 12, 27, 184, 0, 66, 187, 0, 74, 89, 3, 4, 183, 0, 145, 182, 0, 76, 87]
abbrev dktX2_pour_8 : List UInt8 := dkwX2_pour_8 ++ dktX2_pour_9
def dkwX2_pour_7 : List UInt8 := [181, 0, 114, 42, 89, 180, 0, 104, 29, 133, 97, 181, 0, 104, 42, 89, 180, 0, 108, 21, 4, 133, 97]
abbrev dktX2_pour_7 : List UInt8 := dkwX2_pour_7 ++ dktX2_pour_8
def dkwX2_pour_6 : List UInt8 := [180, 0, 117, 22, 5, 97, 181, 0, 117, 42, 89, 180, 0, 114, 22, 5, 20, 0, 197, 29, 133, 105, 101, 97]
abbrev dktX2_pour_6 : List UInt8 := dkwX2_pour_6 ++ dktX2_pour_7
def dkwX2_pour_5 : List UInt8 := [180, 0, 12, 27, 184, 0, 66, 182, 0, 70, 192, 0, 74, 42, 180, 0, 28, 182, 0, 193, 55, 5, 42, 89]
abbrev dktX2_pour_5 : List UInt8 := dkwX2_pour_5 ++ dktX2_pour_6
def dkwX2_pour_4 : List UInt8 := [180, 0, 88, 21, 6, 96, 181, 0, 88, 21, 4, 21, 6, 100, 54, 4, 132, 5, 1, 167, 255, 184, 42]
abbrev dktX2_pour_4 : List UInt8 := dkwX2_pour_4 ++ dktX2_pour_5
def dkwX2_pour_3 : List UInt8 := [182, 0, 184, 184, 0, 187, 54, 6, 42, 180, 0, 21, 21, 5, 185, 0, 182, 2, 0, 192, 0, 83, 89]
abbrev dktX2_pour_3 : List UInt8 := dkwX2_pour_3 ++ dktX2_pour_4
def dkwX2_pour_2 : List UInt8 := [185, 0, 127, 1, 0, 162, 0, 64, 21, 4, 42, 180, 0, 21, 21, 5, 185, 0, 182, 2, 0, 192, 0, 83]
abbrev dktX2_pour_2 : List UInt8 := dkwX2_pour_2 ++ dktX2_pour_3
def dkwX2_pour_1 : List UInt8 := [184, 0, 141, 42, 27, 182, 0, 178, 62, 29, 54, 4, 28, 54, 5, 21, 5, 42, 180, 0, 21]
abbrev dktX2_pour_1 : List UInt8 := dkwX2_pour_1 ++ dktX2_pour_2
def dkwX2_pour_0 : List UInt8 := [42, 27, 182, 0, 146, 153, 0, 15, 42, 28, 182, 0, 175, 153, 0, 7, 4, 167, 0, 4, 3, 16, 105]
abbrev dktX2_pour_0 : List UInt8 := dkwX2_pour_0 ++ dktX2_pour_1
theorem dksX2_pour_0 : cX2_pour.data.toList.drop 0 = dktX2_pour_0 := by decide +kernel
theorem dksX2_pour_1 : cX2_pour.data.toList.drop 23 = dktX2_pour_1 := dk_seg dksX2_pour_0 23 rfl rfl
theorem dksX2_pour_2 : cX2_pour.data.toList.drop 44 = dktX2_pour_2 := dk_seg dksX2_pour_1 21 rfl rfl
theorem dksX2_pour_3 : cX2_pour.data.toList.drop 68 = dktX2_pour_3 := dk_seg dksX2_pour_2 24 rfl rfl
theorem dksX2_pour_4 : cX2_pour.data.toList.drop 91 = dktX2_pour_4 := dk_seg dksX2_pour_3 23 rfl rfl
theorem dksX2_pour_5 : cX2_pour.data.toList.drop 114 = dktX2_pour_5 := dk_seg dksX2_pour_4 23 rfl rfl
theorem dksX2_pour_6 : cX2_pour.data.toList.drop 138 = dktX2_pour_6 := dk_seg dksX2_pour_5 24 rfl rfl
theorem dksX2_pour_7 : cX2_pour.data.toList.drop 162 = dktX2_pour_7 := dk_seg dksX2_pour_6 24 rfl rfl
theorem dksX2_pour_8 : cX2_pour.data.toList.drop 185 = dktX2_pour_8 := dk_seg dksX2_pour_7 23 rfl rfl
theorem dksX2_pour_9 : cX2_pour.data.toList.drop 209 = dktX2_pour_9 := dk_seg dksX2_pour_8 24 rfl rfl
theorem dX2_pour_0 : decode cX2_pour 0 = .ok (.aload_n 0, 1) := dk_42 (dk_at dksX2_pour_0 0 rfl rfl)
theorem dX2_pour_1 : decode cX2_pour 1 = .ok (.iload_n 1, 1) := dk_27 (dk_at dksX2_pour_0 1 rfl rfl)
theorem dX2_pour_2 : decode cX2_pour 2 = .ok (.invokevirtual 146, 3) := dk_182 0 146 (dk_at dksX2_pour_0 2 rfl rfl)
theorem dX2_pour_5 : decode cX2_pour 5 = .ok (.ifCond .eq 15, 3) := dk_153 0 15 (dk_at dksX2_pour_0 5 rfl rfl)
theorem dX2_pour_8 : decode cX2_pour 8 = .ok (.aload_n 0, 1) := dk_42 (dk_at dksX2_pour_0 8 rfl rfl)
theorem dX2_pour_9 : decode cX2_pour 9 = .ok (.iload_n 2, 1) := dk_28 (dk_at dksX2_pour_0 9 rfl rfl)
theorem dX2_pour_10 : decode cX2_pour 10 = .ok (.invokevirtual 175, 3) := dk_182 0 175 (dk_at dksX2_pour_0 10 rfl rfl)
theorem dX2_pour_13 : decode cX2_pour 13 = .ok (.ifCond .eq 7, 3) := dk_153 0 7 (dk_at dksX2_pour_0 13 rfl rfl)
theorem dX2_pour_16 : decode cX2_pour 16 = .ok (.iconst 1, 1) := dk_4 (dk_at dksX2_pour_0 16 rfl rfl)
theorem dX2_pour_17 : decode cX2_pour 17 = .ok (.goto 4, 3) := dk_167 0 4 (dk_at dksX2_pour_0 17 rfl rfl)
theorem dX2_pour_20 : decode cX2_pour 20 = .ok (.iconst 0, 1) := dk_3 (dk_at dksX2_pour_0 20 rfl rfl)
theorem dX2_pour_21 : decode cX2_pour 21 = .ok (.bipush 105, 2) := dk_16 105 (dk_at dksX2_pour_0 21 rfl rfl)
theorem dX2_pour_23 : decode cX2_pour 23 = .ok (.invokestatic 141, 3) := dk_184 0 141 (dk_at dksX2_pour_1 0 rfl rfl)
theorem dX2_pour_26 : decode cX2_pour 26 = .ok (.aload_n 0, 1) := dk_42 (dk_at dksX2_pour_1 3 rfl rfl)
theorem dX2_pour_27 : decode cX2_pour 27 = .ok (.iload_n 1, 1) := dk_27 (dk_at dksX2_pour_1 4 rfl rfl)
theorem dX2_pour_28 : decode cX2_pour 28 = .ok (.invokevirtual 178, 3) := dk_182 0 178 (dk_at dksX2_pour_1 5 rfl rfl)
theorem dX2_pour_31 : decode cX2_pour 31 = .ok (.istore_n 3, 1) := dk_62 (dk_at dksX2_pour_1 8 rfl rfl)
theorem dX2_pour_32 : decode cX2_pour 32 = .ok (.iload_n 3, 1) := dk_29 (dk_at dksX2_pour_1 9 rfl rfl)
theorem dX2_pour_33 : decode cX2_pour 33 = .ok (.istore 4, 2) := dk_54 4 (dk_at dksX2_pour_1 10 rfl rfl)
theorem dX2_pour_35 : decode cX2_pour 35 = .ok (.iload_n 2, 1) := dk_28 (dk_at dksX2_pour_1 12 rfl rfl)
theorem dX2_pour_36 : decode cX2_pour 36 = .ok (.istore 5, 2) := dk_54 5 (dk_at dksX2_pour_1 13 rfl rfl)
theorem dX2_pour_38 : decode cX2_pour 38 = .ok (.iload 5, 2) := dk_21 5 (dk_at dksX2_pour_1 15 rfl rfl)
theorem dX2_pour_40 : decode cX2_pour 40 = .ok (.aload_n 0, 1) := dk_42 (dk_at dksX2_pour_1 17 rfl rfl)
theorem dX2_pour_41 : decode cX2_pour 41 = .ok (.getfield 21, 3) := dk_180 0 21 (dk_at dksX2_pour_1 18 rfl rfl)
theorem dX2_pour_44 : decode cX2_pour 44 = .ok (.invokeinterface 127 1, 5) := by decide +kernel
theorem dX2_pour_49 : decode cX2_pour 49 = .ok (.if_icmp .ge 64, 3) := dk_162 0 64 (dk_at dksX2_pour_2 5 rfl rfl)
theorem dX2_pour_52 : decode cX2_pour 52 = .ok (.iload 4, 2) := dk_21 4 (dk_at dksX2_pour_2 8 rfl rfl)
theorem dX2_pour_54 : decode cX2_pour 54 = .ok (.aload_n 0, 1) := dk_42 (dk_at dksX2_pour_2 10 rfl rfl)
theorem dX2_pour_55 : decode cX2_pour 55 = .ok (.getfield 21, 3) := dk_180 0 21 (dk_at dksX2_pour_2 11 rfl rfl)
theorem dX2_pour_58 : decode cX2_pour 58 = .ok (.iload 5, 2) := dk_21 5 (dk_at dksX2_pour_2 14 rfl rfl)
theorem dX2_pour_60 : decode cX2_pour 60 = .ok (.invokeinterface 182 2, 5) := by decide +kernel
theorem dX2_pour_65 : decode cX2_pour 65 = .ok (.checkcast 83, 3) := dk_192 0 83 (dk_at dksX2_pour_2 21 rfl rfl)
theorem dX2_pour_68 : decode cX2_pour 68 = .ok (.invokevirtual 184, 3) := dk_182 0 184 (dk_at dksX2_pour_3 0 rfl rfl)
theorem dX2_pour_71 : decode cX2_pour 71 = .ok (.invokestatic 187, 3) := dk_184 0 187 (dk_at dksX2_pour_3 3 rfl rfl)
theorem dX2_pour_74 : decode cX2_pour 74 = .ok (.istore 6, 2) := dk_54 6 (dk_at dksX2_pour_3 6 rfl rfl)
theorem dX2_pour_76 : decode cX2_pour 76 = .ok (.aload_n 0, 1) := dk_42 (dk_at dksX2_pour_3 8 rfl rfl)
theorem dX2_pour_77 : decode cX2_pour 77 = .ok (.getfield 21, 3) := dk_180 0 21 (dk_at dksX2_pour_3 9 rfl rfl)
theorem dX2_pour_80 : decode cX2_pour 80 = .ok (.iload 5, 2) := dk_21 5 (dk_at dksX2_pour_3 12 rfl rfl)
theorem dX2_pour_82 : decode cX2_pour 82 = .ok (.invokeinterface 182 2, 5) := by decide +kernel
theorem dX2_pour_87 : decode cX2_pour 87 = .ok (.checkcast 83, 3) := dk_192 0 83 (dk_at dksX2_pour_3 19 rfl rfl)
theorem dX2_pour_90 : decode cX2_pour 90 = .ok (.dup, 1) := dk_89 (dk_at dksX2_pour_3 22 rfl rfl)
theorem dX2_pour_91 : decode cX2_pour 91 = .ok (.getfield 88, 3) := dk_180 0 88 (dk_at dksX2_pour_4 0 rfl rfl)
theorem dX2_pour_94 : decode cX2_pour 94 = .ok (.iload 6, 2) := dk_21 6 (dk_at dksX2_pour_4 3 rfl rfl)
theorem dX2_pour_96 : decode cX2_pour 96 = .ok (.iadd, 1) := dk_96 (dk_at dksX2_pour_4 5 rfl rfl)
theorem dX2_pour_97 : decode cX2_pour 97 = .ok (.putfield 88, 3) := dk_181 0 88 (dk_at dksX2_pour_4 6 rfl rfl)
theorem dX2_pour_100 : decode cX2_pour 100 = .ok (.iload 4, 2) := dk_21 4 (dk_at dksX2_pour_4 9 rfl rfl)
theorem dX2_pour_102 : decode cX2_pour 102 = .ok (.iload 6, 2) := dk_21 6 (dk_at dksX2_pour_4 11 rfl rfl)
theorem dX2_pour_104 : decode cX2_pour 104 = .ok (.isub, 1) := dk_100 (dk_at dksX2_pour_4 13 rfl rfl)
theorem dX2_pour_105 : decode cX2_pour 105 = .ok (.istore 4, 2) := dk_54 4 (dk_at dksX2_pour_4 14 rfl rfl)
theorem dX2_pour_107 : decode cX2_pour 107 = .ok (.iinc 5 1, 3) := dk_132 5 1 (dk_at dksX2_pour_4 16 rfl rfl)
theorem dX2_pour_110 : decode cX2_pour 110 = .ok (.goto (-72), 3) := dk_167 255 184 (dk_at dksX2_pour_4 19 rfl rfl)
theorem dX2_pour_113 : decode cX2_pour 113 = .ok (.aload_n 0, 1) := dk_42 (dk_at dksX2_pour_4 22 rfl rfl)
theorem dX2_pour_114 : decode cX2_pour 114 = .ok (.getfield 12, 3) := dk_180 0 12 (dk_at dksX2_pour_5 0 rfl rfl)
theorem dX2_pour_117 : decode cX2_pour 117 = .ok (.iload_n 1, 1) := dk_27 (dk_at dksX2_pour_5 3 rfl rfl)
theorem dX2_pour_118 : decode cX2_pour 118 = .ok (.invokestatic 66, 3) := dk_184 0 66 (dk_at dksX2_pour_5 4 rfl rfl)
theorem dX2_pour_121 : decode cX2_pour 121 = .ok (.invokevirtual 70, 3) := dk_182 0 70 (dk_at dksX2_pour_5 7 rfl rfl)
theorem dX2_pour_124 : decode cX2_pour 124 = .ok (.checkcast 74, 3) := dk_192 0 74 (dk_at dksX2_pour_5 10 rfl rfl)
theorem dX2_pour_127 : decode cX2_pour 127 = .ok (.aload_n 0, 1) := dk_42 (dk_at dksX2_pour_5 13 rfl rfl)
theorem dX2_pour_128 : decode cX2_pour 128 = .ok (.getfield 28, 3) := dk_180 0 28 (dk_at dksX2_pour_5 14 rfl rfl)
theorem dX2_pour_131 : decode cX2_pour 131 = .ok (.invokevirtual 193, 3) := dk_182 0 193 (dk_at dksX2_pour_5 17 rfl rfl)
theorem dX2_pour_134 : decode cX2_pour 134 = .ok (.lstore 5, 2) := dk_55 5 (dk_at dksX2_pour_5 20 rfl rfl)
theorem dX2_pour_136 : decode cX2_pour 136 = .ok (.aload_n 0, 1) := dk_42 (dk_at dksX2_pour_5 22 rfl rfl)
theorem dX2_pour_137 : decode cX2_pour 137 = .ok (.dup, 1) := dk_89 (dk_at dksX2_pour_5 23 rfl rfl)
theorem dX2_pour_138 : decode cX2_pour 138 = .ok (.getfield 117, 3) := dk_180 0 117 (dk_at dksX2_pour_6 0 rfl rfl)
theorem dX2_pour_141 : decode cX2_pour 141 = .ok (.lload 5, 2) := dk_22 5 (dk_at dksX2_pour_6 3 rfl rfl)
theorem dX2_pour_143 : decode cX2_pour 143 = .ok (.ladd, 1) := dk_97 (dk_at dksX2_pour_6 5 rfl rfl)
theorem dX2_pour_144 : decode cX2_pour 144 = .ok (.putfield 117, 3) := dk_181 0 117 (dk_at dksX2_pour_6 6 rfl rfl)
theorem dX2_pour_147 : decode cX2_pour 147 = .ok (.aload_n 0, 1) := dk_42 (dk_at dksX2_pour_6 9 rfl rfl)
theorem dX2_pour_148 : decode cX2_pour 148 = .ok (.dup, 1) := dk_89 (dk_at dksX2_pour_6 10 rfl rfl)
theorem dX2_pour_149 : decode cX2_pour 149 = .ok (.getfield 114, 3) := dk_180 0 114 (dk_at dksX2_pour_6 11 rfl rfl)
theorem dX2_pour_152 : decode cX2_pour 152 = .ok (.lload 5, 2) := dk_22 5 (dk_at dksX2_pour_6 14 rfl rfl)
theorem dX2_pour_154 : decode cX2_pour 154 = .ok (.ldc2_w 197, 3) := dk_20 0 197 (dk_at dksX2_pour_6 16 rfl rfl)
theorem dX2_pour_157 : decode cX2_pour 157 = .ok (.iload_n 3, 1) := dk_29 (dk_at dksX2_pour_6 19 rfl rfl)
theorem dX2_pour_158 : decode cX2_pour 158 = .ok (.i2l, 1) := dk_133 (dk_at dksX2_pour_6 20 rfl rfl)
theorem dX2_pour_159 : decode cX2_pour 159 = .ok (.lmul, 1) := dk_105 (dk_at dksX2_pour_6 21 rfl rfl)
theorem dX2_pour_160 : decode cX2_pour 160 = .ok (.lsub, 1) := dk_101 (dk_at dksX2_pour_6 22 rfl rfl)
theorem dX2_pour_161 : decode cX2_pour 161 = .ok (.ladd, 1) := dk_97 (dk_at dksX2_pour_6 23 rfl rfl)
theorem dX2_pour_162 : decode cX2_pour 162 = .ok (.putfield 114, 3) := dk_181 0 114 (dk_at dksX2_pour_7 0 rfl rfl)
theorem dX2_pour_165 : decode cX2_pour 165 = .ok (.aload_n 0, 1) := dk_42 (dk_at dksX2_pour_7 3 rfl rfl)
theorem dX2_pour_166 : decode cX2_pour 166 = .ok (.dup, 1) := dk_89 (dk_at dksX2_pour_7 4 rfl rfl)
theorem dX2_pour_167 : decode cX2_pour 167 = .ok (.getfield 104, 3) := dk_180 0 104 (dk_at dksX2_pour_7 5 rfl rfl)
theorem dX2_pour_170 : decode cX2_pour 170 = .ok (.iload_n 3, 1) := dk_29 (dk_at dksX2_pour_7 8 rfl rfl)
theorem dX2_pour_171 : decode cX2_pour 171 = .ok (.i2l, 1) := dk_133 (dk_at dksX2_pour_7 9 rfl rfl)
theorem dX2_pour_172 : decode cX2_pour 172 = .ok (.ladd, 1) := dk_97 (dk_at dksX2_pour_7 10 rfl rfl)
theorem dX2_pour_173 : decode cX2_pour 173 = .ok (.putfield 104, 3) := dk_181 0 104 (dk_at dksX2_pour_7 11 rfl rfl)
theorem dX2_pour_176 : decode cX2_pour 176 = .ok (.aload_n 0, 1) := dk_42 (dk_at dksX2_pour_7 14 rfl rfl)
theorem dX2_pour_177 : decode cX2_pour 177 = .ok (.dup, 1) := dk_89 (dk_at dksX2_pour_7 15 rfl rfl)
theorem dX2_pour_178 : decode cX2_pour 178 = .ok (.getfield 108, 3) := dk_180 0 108 (dk_at dksX2_pour_7 16 rfl rfl)
theorem dX2_pour_181 : decode cX2_pour 181 = .ok (.iload 4, 2) := dk_21 4 (dk_at dksX2_pour_7 19 rfl rfl)
theorem dX2_pour_183 : decode cX2_pour 183 = .ok (.i2l, 1) := dk_133 (dk_at dksX2_pour_7 21 rfl rfl)
theorem dX2_pour_184 : decode cX2_pour 184 = .ok (.ladd, 1) := dk_97 (dk_at dksX2_pour_7 22 rfl rfl)
theorem dX2_pour_185 : decode cX2_pour 185 = .ok (.putfield 108, 3) := dk_181 0 108 (dk_at dksX2_pour_8 0 rfl rfl)
theorem dX2_pour_188 : decode cX2_pour 188 = .ok (.aload_n 0, 1) := dk_42 (dk_at dksX2_pour_8 3 rfl rfl)
theorem dX2_pour_189 : decode cX2_pour 189 = .ok (.getfield 12, 3) := dk_180 0 12 (dk_at dksX2_pour_8 4 rfl rfl)
theorem dX2_pour_192 : decode cX2_pour 192 = .ok (.iload_n 1, 1) := dk_27 (dk_at dksX2_pour_8 7 rfl rfl)
theorem dX2_pour_193 : decode cX2_pour 193 = .ok (.invokestatic 66, 3) := dk_184 0 66 (dk_at dksX2_pour_8 8 rfl rfl)
theorem dX2_pour_196 : decode cX2_pour 196 = .ok (.new 74, 3) := dk_187 0 74 (dk_at dksX2_pour_8 11 rfl rfl)
theorem dX2_pour_199 : decode cX2_pour 199 = .ok (.dup, 1) := dk_89 (dk_at dksX2_pour_8 14 rfl rfl)
theorem dX2_pour_200 : decode cX2_pour 200 = .ok (.iconst 0, 1) := dk_3 (dk_at dksX2_pour_8 15 rfl rfl)
theorem dX2_pour_201 : decode cX2_pour 201 = .ok (.iconst 1, 1) := dk_4 (dk_at dksX2_pour_8 16 rfl rfl)
theorem dX2_pour_202 : decode cX2_pour 202 = .ok (.invokespecial 145, 3) := dk_183 0 145 (dk_at dksX2_pour_8 17 rfl rfl)
theorem dX2_pour_205 : decode cX2_pour 205 = .ok (.invokevirtual 76, 3) := dk_182 0 76 (dk_at dksX2_pour_8 20 rfl rfl)
theorem dX2_pour_208 : decode cX2_pour 208 = .ok (.pop, 1) := dk_87 (dk_at dksX2_pour_8 23 rfl rfl)
theorem dX2_pour_209 : decode cX2_pour 209 = .ok (.iload 4, 2) := dk_21 4 (dk_at dksX2_pour_9 0 rfl rfl)
theorem dX2_pour_211 : decode cX2_pour 211 = .ok (.ireturn, 1) := dk_172 (dk_at dksX2_pour_9 2 rfl rfl)
abbrev cX2_hasBowl : ByteArray := prog_2_method_4_code
def yX2_hasBowl : MethodName := ⟨RX2, "hasBowl", "(I)Z"⟩
def dkwX2_hasBowl_0 : List UInt8 := [27, 3, 42, 180, 0, 21, 185, 0, 127, 1, 0, 4, 100, 184, 0, 123, 172]
abbrev dktX2_hasBowl_0 : List UInt8 := dkwX2_hasBowl_0 ++ []
theorem dksX2_hasBowl_0 : cX2_hasBowl.data.toList.drop 0 = dktX2_hasBowl_0 := by decide +kernel
theorem dX2_hasBowl_0 : decode cX2_hasBowl 0 = .ok (.iload_n 1, 1) := dk_27 (dk_at dksX2_hasBowl_0 0 rfl rfl)
theorem dX2_hasBowl_1 : decode cX2_hasBowl 1 = .ok (.iconst 0, 1) := dk_3 (dk_at dksX2_hasBowl_0 1 rfl rfl)
theorem dX2_hasBowl_2 : decode cX2_hasBowl 2 = .ok (.aload_n 0, 1) := dk_42 (dk_at dksX2_hasBowl_0 2 rfl rfl)
theorem dX2_hasBowl_3 : decode cX2_hasBowl 3 = .ok (.getfield 21, 3) := dk_180 0 21 (dk_at dksX2_hasBowl_0 3 rfl rfl)
theorem dX2_hasBowl_6 : decode cX2_hasBowl 6 = .ok (.invokeinterface 127 1, 5) := by decide +kernel
theorem dX2_hasBowl_11 : decode cX2_hasBowl 11 = .ok (.iconst 1, 1) := dk_4 (dk_at dksX2_hasBowl_0 11 rfl rfl)
theorem dX2_hasBowl_12 : decode cX2_hasBowl 12 = .ok (.isub, 1) := dk_100 (dk_at dksX2_hasBowl_0 12 rfl rfl)
theorem dX2_hasBowl_13 : decode cX2_hasBowl 13 = .ok (.invokestatic 123, 3) := dk_184 0 123 (dk_at dksX2_hasBowl_0 13 rfl rfl)
theorem dX2_hasBowl_16 : decode cX2_hasBowl 16 = .ok (.ireturn, 1) := dk_172 (dk_at dksX2_hasBowl_0 16 rfl rfl)
abbrev cX2_empty : ByteArray := prog_2_method_17_code
def yX2_empty : MethodName := ⟨RX2, "empty", "(I)I"⟩
def dkwX2_empty_2 : List UInt8 := [180, 0, 111, 28, 133, 97, 181, 0, 111, 28, 172]
abbrev dktX2_empty_2 : List UInt8 := dkwX2_empty_2 ++ []
def dkwX2_empty_1 : List UInt8 := [180, 0, 88, 61, 42, 180, 0, 21, 27, 185, 0, 182, 2, 0, 192, 0, 83, 3, 181, 0, 88, 42, 89]
abbrev dktX2_empty_1 : List UInt8 := dkwX2_empty_1 ++ dktX2_empty_2
def dkwX2_empty_0 : List UInt8 := [42, 27, 182, 0, 175, 16, 105, 184, 0, 141, 42, 180, 0, 21, 27, 185, 0, 182, 2, 0, 192, 0, 83]
abbrev dktX2_empty_0 : List UInt8 := dkwX2_empty_0 ++ dktX2_empty_1
theorem dksX2_empty_0 : cX2_empty.data.toList.drop 0 = dktX2_empty_0 := by decide +kernel
theorem dksX2_empty_1 : cX2_empty.data.toList.drop 23 = dktX2_empty_1 := dk_seg dksX2_empty_0 23 rfl rfl
theorem dksX2_empty_2 : cX2_empty.data.toList.drop 46 = dktX2_empty_2 := dk_seg dksX2_empty_1 23 rfl rfl
theorem dX2_empty_0 : decode cX2_empty 0 = .ok (.aload_n 0, 1) := dk_42 (dk_at dksX2_empty_0 0 rfl rfl)
theorem dX2_empty_1 : decode cX2_empty 1 = .ok (.iload_n 1, 1) := dk_27 (dk_at dksX2_empty_0 1 rfl rfl)
theorem dX2_empty_2 : decode cX2_empty 2 = .ok (.invokevirtual 175, 3) := dk_182 0 175 (dk_at dksX2_empty_0 2 rfl rfl)
theorem dX2_empty_5 : decode cX2_empty 5 = .ok (.bipush 105, 2) := dk_16 105 (dk_at dksX2_empty_0 5 rfl rfl)
theorem dX2_empty_7 : decode cX2_empty 7 = .ok (.invokestatic 141, 3) := dk_184 0 141 (dk_at dksX2_empty_0 7 rfl rfl)
theorem dX2_empty_10 : decode cX2_empty 10 = .ok (.aload_n 0, 1) := dk_42 (dk_at dksX2_empty_0 10 rfl rfl)
theorem dX2_empty_11 : decode cX2_empty 11 = .ok (.getfield 21, 3) := dk_180 0 21 (dk_at dksX2_empty_0 11 rfl rfl)
theorem dX2_empty_14 : decode cX2_empty 14 = .ok (.iload_n 1, 1) := dk_27 (dk_at dksX2_empty_0 14 rfl rfl)
theorem dX2_empty_15 : decode cX2_empty 15 = .ok (.invokeinterface 182 2, 5) := by decide +kernel
theorem dX2_empty_20 : decode cX2_empty 20 = .ok (.checkcast 83, 3) := dk_192 0 83 (dk_at dksX2_empty_0 20 rfl rfl)
theorem dX2_empty_23 : decode cX2_empty 23 = .ok (.getfield 88, 3) := dk_180 0 88 (dk_at dksX2_empty_1 0 rfl rfl)
theorem dX2_empty_26 : decode cX2_empty 26 = .ok (.istore_n 2, 1) := dk_61 (dk_at dksX2_empty_1 3 rfl rfl)
theorem dX2_empty_27 : decode cX2_empty 27 = .ok (.aload_n 0, 1) := dk_42 (dk_at dksX2_empty_1 4 rfl rfl)
theorem dX2_empty_28 : decode cX2_empty 28 = .ok (.getfield 21, 3) := dk_180 0 21 (dk_at dksX2_empty_1 5 rfl rfl)
theorem dX2_empty_31 : decode cX2_empty 31 = .ok (.iload_n 1, 1) := dk_27 (dk_at dksX2_empty_1 8 rfl rfl)
theorem dX2_empty_32 : decode cX2_empty 32 = .ok (.invokeinterface 182 2, 5) := by decide +kernel
theorem dX2_empty_37 : decode cX2_empty 37 = .ok (.checkcast 83, 3) := dk_192 0 83 (dk_at dksX2_empty_1 14 rfl rfl)
theorem dX2_empty_40 : decode cX2_empty 40 = .ok (.iconst 0, 1) := dk_3 (dk_at dksX2_empty_1 17 rfl rfl)
theorem dX2_empty_41 : decode cX2_empty 41 = .ok (.putfield 88, 3) := dk_181 0 88 (dk_at dksX2_empty_1 18 rfl rfl)
theorem dX2_empty_44 : decode cX2_empty 44 = .ok (.aload_n 0, 1) := dk_42 (dk_at dksX2_empty_1 21 rfl rfl)
theorem dX2_empty_45 : decode cX2_empty 45 = .ok (.dup, 1) := dk_89 (dk_at dksX2_empty_1 22 rfl rfl)
theorem dX2_empty_46 : decode cX2_empty 46 = .ok (.getfield 111, 3) := dk_180 0 111 (dk_at dksX2_empty_2 0 rfl rfl)
theorem dX2_empty_49 : decode cX2_empty 49 = .ok (.iload_n 2, 1) := dk_28 (dk_at dksX2_empty_2 3 rfl rfl)
theorem dX2_empty_50 : decode cX2_empty 50 = .ok (.i2l, 1) := dk_133 (dk_at dksX2_empty_2 4 rfl rfl)
theorem dX2_empty_51 : decode cX2_empty 51 = .ok (.ladd, 1) := dk_97 (dk_at dksX2_empty_2 5 rfl rfl)
theorem dX2_empty_52 : decode cX2_empty 52 = .ok (.putfield 111, 3) := dk_181 0 111 (dk_at dksX2_empty_2 6 rfl rfl)
theorem dX2_empty_55 : decode cX2_empty 55 = .ok (.iload_n 2, 1) := dk_28 (dk_at dksX2_empty_2 9 rfl rfl)
theorem dX2_empty_56 : decode cX2_empty 56 = .ok (.ireturn, 1) := dk_172 (dk_at dksX2_empty_2 10 rfl rfl)
abbrev cX2_bake : ByteArray := prog_2_method_18_code
def yX2_bake : MethodName := ⟨RX2, "bake", "(I)I"⟩
def dkwX2_bake_5 : List UInt8 := [167, 255, 220, 42, 180, 0, 21, 27, 185, 0, 182, 2, 0, 192, 0, 83, 3, 181, 0, 88, 28, 172]
abbrev dktX2_bake_5 : List UInt8 := dkwX2_bake_5 ++ []
def dkwX2_bake_4 : List UInt8 := [185, 0, 182, 2, 0, 192, 0, 98, 89, 180, 0, 139, 45, 21, 4, 46, 96, 181, 0, 139, 132, 4, 1]
abbrev dktX2_bake_4 : List UInt8 := dkwX2_bake_4 ++ dktX2_bake_5
def dkwX2_bake_3 : List UInt8 := [182, 0, 206, 78, 3, 54, 4, 21, 4, 45, 190, 162, 0, 35, 42, 180, 0, 25, 21, 4]
abbrev dktX2_bake_3 : List UInt8 := dkwX2_bake_3 ++ dktX2_bake_4
def dkwX2_bake_2 : List UInt8 := [180, 0, 88, 61, 28, 158, 0, 7, 4, 167, 0, 4, 3, 16, 117, 184, 0, 141, 42, 27, 182, 0, 202]
abbrev dktX2_bake_2 : List UInt8 := dkwX2_bake_2 ++ dktX2_bake_3
def dkwX2_bake_1 : List UInt8 := [167, 0, 4, 3, 16, 101, 184, 0, 141, 42, 180, 0, 21, 27, 185, 0, 182, 2, 0, 192, 0, 83]
abbrev dktX2_bake_1 : List UInt8 := dkwX2_bake_1 ++ dktX2_bake_2
def dkwX2_bake_0 : List UInt8 := [42, 27, 182, 0, 175, 16, 105, 184, 0, 141, 42, 180, 0, 25, 185, 0, 199, 1, 0, 154, 0, 7, 4]
abbrev dktX2_bake_0 : List UInt8 := dkwX2_bake_0 ++ dktX2_bake_1
theorem dksX2_bake_0 : cX2_bake.data.toList.drop 0 = dktX2_bake_0 := by decide +kernel
theorem dksX2_bake_1 : cX2_bake.data.toList.drop 23 = dktX2_bake_1 := dk_seg dksX2_bake_0 23 rfl rfl
theorem dksX2_bake_2 : cX2_bake.data.toList.drop 45 = dktX2_bake_2 := dk_seg dksX2_bake_1 22 rfl rfl
theorem dksX2_bake_3 : cX2_bake.data.toList.drop 68 = dktX2_bake_3 := dk_seg dksX2_bake_2 23 rfl rfl
theorem dksX2_bake_4 : cX2_bake.data.toList.drop 88 = dktX2_bake_4 := dk_seg dksX2_bake_3 20 rfl rfl
theorem dksX2_bake_5 : cX2_bake.data.toList.drop 111 = dktX2_bake_5 := dk_seg dksX2_bake_4 23 rfl rfl
theorem dX2_bake_0 : decode cX2_bake 0 = .ok (.aload_n 0, 1) := dk_42 (dk_at dksX2_bake_0 0 rfl rfl)
theorem dX2_bake_1 : decode cX2_bake 1 = .ok (.iload_n 1, 1) := dk_27 (dk_at dksX2_bake_0 1 rfl rfl)
theorem dX2_bake_2 : decode cX2_bake 2 = .ok (.invokevirtual 175, 3) := dk_182 0 175 (dk_at dksX2_bake_0 2 rfl rfl)
theorem dX2_bake_5 : decode cX2_bake 5 = .ok (.bipush 105, 2) := dk_16 105 (dk_at dksX2_bake_0 5 rfl rfl)
theorem dX2_bake_7 : decode cX2_bake 7 = .ok (.invokestatic 141, 3) := dk_184 0 141 (dk_at dksX2_bake_0 7 rfl rfl)
theorem dX2_bake_10 : decode cX2_bake 10 = .ok (.aload_n 0, 1) := dk_42 (dk_at dksX2_bake_0 10 rfl rfl)
theorem dX2_bake_11 : decode cX2_bake 11 = .ok (.getfield 25, 3) := dk_180 0 25 (dk_at dksX2_bake_0 11 rfl rfl)
theorem dX2_bake_14 : decode cX2_bake 14 = .ok (.invokeinterface 199 1, 5) := by decide +kernel
theorem dX2_bake_19 : decode cX2_bake 19 = .ok (.ifCond .ne 7, 3) := dk_154 0 7 (dk_at dksX2_bake_0 19 rfl rfl)
theorem dX2_bake_22 : decode cX2_bake 22 = .ok (.iconst 1, 1) := dk_4 (dk_at dksX2_bake_0 22 rfl rfl)
theorem dX2_bake_23 : decode cX2_bake 23 = .ok (.goto 4, 3) := dk_167 0 4 (dk_at dksX2_bake_1 0 rfl rfl)
theorem dX2_bake_26 : decode cX2_bake 26 = .ok (.iconst 0, 1) := dk_3 (dk_at dksX2_bake_1 3 rfl rfl)
theorem dX2_bake_27 : decode cX2_bake 27 = .ok (.bipush 101, 2) := dk_16 101 (dk_at dksX2_bake_1 4 rfl rfl)
theorem dX2_bake_29 : decode cX2_bake 29 = .ok (.invokestatic 141, 3) := dk_184 0 141 (dk_at dksX2_bake_1 6 rfl rfl)
theorem dX2_bake_32 : decode cX2_bake 32 = .ok (.aload_n 0, 1) := dk_42 (dk_at dksX2_bake_1 9 rfl rfl)
theorem dX2_bake_33 : decode cX2_bake 33 = .ok (.getfield 21, 3) := dk_180 0 21 (dk_at dksX2_bake_1 10 rfl rfl)
theorem dX2_bake_36 : decode cX2_bake 36 = .ok (.iload_n 1, 1) := dk_27 (dk_at dksX2_bake_1 13 rfl rfl)
theorem dX2_bake_37 : decode cX2_bake 37 = .ok (.invokeinterface 182 2, 5) := by decide +kernel
theorem dX2_bake_42 : decode cX2_bake 42 = .ok (.checkcast 83, 3) := dk_192 0 83 (dk_at dksX2_bake_1 19 rfl rfl)
theorem dX2_bake_45 : decode cX2_bake 45 = .ok (.getfield 88, 3) := dk_180 0 88 (dk_at dksX2_bake_2 0 rfl rfl)
theorem dX2_bake_48 : decode cX2_bake 48 = .ok (.istore_n 2, 1) := dk_61 (dk_at dksX2_bake_2 3 rfl rfl)
theorem dX2_bake_49 : decode cX2_bake 49 = .ok (.iload_n 2, 1) := dk_28 (dk_at dksX2_bake_2 4 rfl rfl)
theorem dX2_bake_50 : decode cX2_bake 50 = .ok (.ifCond .le 7, 3) := dk_158 0 7 (dk_at dksX2_bake_2 5 rfl rfl)
theorem dX2_bake_53 : decode cX2_bake 53 = .ok (.iconst 1, 1) := dk_4 (dk_at dksX2_bake_2 8 rfl rfl)
theorem dX2_bake_54 : decode cX2_bake 54 = .ok (.goto 4, 3) := dk_167 0 4 (dk_at dksX2_bake_2 9 rfl rfl)
theorem dX2_bake_57 : decode cX2_bake 57 = .ok (.iconst 0, 1) := dk_3 (dk_at dksX2_bake_2 12 rfl rfl)
theorem dX2_bake_58 : decode cX2_bake 58 = .ok (.bipush 117, 2) := dk_16 117 (dk_at dksX2_bake_2 13 rfl rfl)
theorem dX2_bake_60 : decode cX2_bake 60 = .ok (.invokestatic 141, 3) := dk_184 0 141 (dk_at dksX2_bake_2 15 rfl rfl)
theorem dX2_bake_63 : decode cX2_bake 63 = .ok (.aload_n 0, 1) := dk_42 (dk_at dksX2_bake_2 18 rfl rfl)
theorem dX2_bake_64 : decode cX2_bake 64 = .ok (.iload_n 1, 1) := dk_27 (dk_at dksX2_bake_2 19 rfl rfl)
theorem dX2_bake_65 : decode cX2_bake 65 = .ok (.invokevirtual 202, 3) := dk_182 0 202 (dk_at dksX2_bake_2 20 rfl rfl)
theorem dX2_bake_68 : decode cX2_bake 68 = .ok (.invokevirtual 206, 3) := dk_182 0 206 (dk_at dksX2_bake_3 0 rfl rfl)
theorem dX2_bake_71 : decode cX2_bake 71 = .ok (.astore_n 3, 1) := dk_78 (dk_at dksX2_bake_3 3 rfl rfl)
theorem dX2_bake_72 : decode cX2_bake 72 = .ok (.iconst 0, 1) := dk_3 (dk_at dksX2_bake_3 4 rfl rfl)
theorem dX2_bake_73 : decode cX2_bake 73 = .ok (.istore 4, 2) := dk_54 4 (dk_at dksX2_bake_3 5 rfl rfl)
theorem dX2_bake_75 : decode cX2_bake 75 = .ok (.iload 4, 2) := dk_21 4 (dk_at dksX2_bake_3 7 rfl rfl)
theorem dX2_bake_77 : decode cX2_bake 77 = .ok (.aload_n 3, 1) := dk_45 (dk_at dksX2_bake_3 9 rfl rfl)
theorem dX2_bake_78 : decode cX2_bake 78 = .ok (.arraylength, 1) := dk_190 (dk_at dksX2_bake_3 10 rfl rfl)
theorem dX2_bake_79 : decode cX2_bake 79 = .ok (.if_icmp .ge 35, 3) := dk_162 0 35 (dk_at dksX2_bake_3 11 rfl rfl)
theorem dX2_bake_82 : decode cX2_bake 82 = .ok (.aload_n 0, 1) := dk_42 (dk_at dksX2_bake_3 14 rfl rfl)
theorem dX2_bake_83 : decode cX2_bake 83 = .ok (.getfield 25, 3) := dk_180 0 25 (dk_at dksX2_bake_3 15 rfl rfl)
theorem dX2_bake_86 : decode cX2_bake 86 = .ok (.iload 4, 2) := dk_21 4 (dk_at dksX2_bake_3 18 rfl rfl)
theorem dX2_bake_88 : decode cX2_bake 88 = .ok (.invokeinterface 182 2, 5) := by decide +kernel
theorem dX2_bake_93 : decode cX2_bake 93 = .ok (.checkcast 98, 3) := dk_192 0 98 (dk_at dksX2_bake_4 5 rfl rfl)
theorem dX2_bake_96 : decode cX2_bake 96 = .ok (.dup, 1) := dk_89 (dk_at dksX2_bake_4 8 rfl rfl)
theorem dX2_bake_97 : decode cX2_bake 97 = .ok (.getfield 139, 3) := dk_180 0 139 (dk_at dksX2_bake_4 9 rfl rfl)
theorem dX2_bake_100 : decode cX2_bake 100 = .ok (.aload_n 3, 1) := dk_45 (dk_at dksX2_bake_4 12 rfl rfl)
theorem dX2_bake_101 : decode cX2_bake 101 = .ok (.iload 4, 2) := dk_21 4 (dk_at dksX2_bake_4 13 rfl rfl)
theorem dX2_bake_103 : decode cX2_bake 103 = .ok (.iaload, 1) := dk_46 (dk_at dksX2_bake_4 15 rfl rfl)
theorem dX2_bake_104 : decode cX2_bake 104 = .ok (.iadd, 1) := dk_96 (dk_at dksX2_bake_4 16 rfl rfl)
theorem dX2_bake_105 : decode cX2_bake 105 = .ok (.putfield 139, 3) := dk_181 0 139 (dk_at dksX2_bake_4 17 rfl rfl)
theorem dX2_bake_108 : decode cX2_bake 108 = .ok (.iinc 4 1, 3) := dk_132 4 1 (dk_at dksX2_bake_4 20 rfl rfl)
theorem dX2_bake_111 : decode cX2_bake 111 = .ok (.goto (-36), 3) := dk_167 255 220 (dk_at dksX2_bake_5 0 rfl rfl)
theorem dX2_bake_114 : decode cX2_bake 114 = .ok (.aload_n 0, 1) := dk_42 (dk_at dksX2_bake_5 3 rfl rfl)
theorem dX2_bake_115 : decode cX2_bake 115 = .ok (.getfield 21, 3) := dk_180 0 21 (dk_at dksX2_bake_5 4 rfl rfl)
theorem dX2_bake_118 : decode cX2_bake 118 = .ok (.iload_n 1, 1) := dk_27 (dk_at dksX2_bake_5 7 rfl rfl)
theorem dX2_bake_119 : decode cX2_bake 119 = .ok (.invokeinterface 182 2, 5) := by decide +kernel
theorem dX2_bake_124 : decode cX2_bake 124 = .ok (.checkcast 83, 3) := dk_192 0 83 (dk_at dksX2_bake_5 13 rfl rfl)
theorem dX2_bake_127 : decode cX2_bake 127 = .ok (.iconst 0, 1) := dk_3 (dk_at dksX2_bake_5 16 rfl rfl)
theorem dX2_bake_128 : decode cX2_bake 128 = .ok (.putfield 88, 3) := dk_181 0 88 (dk_at dksX2_bake_5 17 rfl rfl)
theorem dX2_bake_131 : decode cX2_bake 131 = .ok (.iload_n 2, 1) := dk_28 (dk_at dksX2_bake_5 20 rfl rfl)
theorem dX2_bake_132 : decode cX2_bake 132 = .ok (.ireturn, 1) := dk_172 (dk_at dksX2_bake_5 21 rfl rfl)
abbrev cX2_setOvens : ByteArray := prog_2_method_19_code
def yX2_setOvens : MethodName := ⟨RX2, "setOvens", "(I)I"⟩
def dkwX2_setOvens_0 : List UInt8 := [27, 4, 6, 184, 0, 123, 16, 97, 184, 0, 141, 42, 180, 0, 36, 61, 42, 27, 181, 0, 36, 28, 172]
abbrev dktX2_setOvens_0 : List UInt8 := dkwX2_setOvens_0 ++ []
theorem dksX2_setOvens_0 : cX2_setOvens.data.toList.drop 0 = dktX2_setOvens_0 := by decide +kernel
theorem dX2_setOvens_0 : decode cX2_setOvens 0 = .ok (.iload_n 1, 1) := dk_27 (dk_at dksX2_setOvens_0 0 rfl rfl)
theorem dX2_setOvens_1 : decode cX2_setOvens 1 = .ok (.iconst 1, 1) := dk_4 (dk_at dksX2_setOvens_0 1 rfl rfl)
theorem dX2_setOvens_2 : decode cX2_setOvens 2 = .ok (.iconst 3, 1) := dk_6 (dk_at dksX2_setOvens_0 2 rfl rfl)
theorem dX2_setOvens_3 : decode cX2_setOvens 3 = .ok (.invokestatic 123, 3) := dk_184 0 123 (dk_at dksX2_setOvens_0 3 rfl rfl)
theorem dX2_setOvens_6 : decode cX2_setOvens 6 = .ok (.bipush 97, 2) := dk_16 97 (dk_at dksX2_setOvens_0 6 rfl rfl)
theorem dX2_setOvens_8 : decode cX2_setOvens 8 = .ok (.invokestatic 141, 3) := dk_184 0 141 (dk_at dksX2_setOvens_0 8 rfl rfl)
theorem dX2_setOvens_11 : decode cX2_setOvens 11 = .ok (.aload_n 0, 1) := dk_42 (dk_at dksX2_setOvens_0 11 rfl rfl)
theorem dX2_setOvens_12 : decode cX2_setOvens 12 = .ok (.getfield 36, 3) := dk_180 0 36 (dk_at dksX2_setOvens_0 12 rfl rfl)
theorem dX2_setOvens_15 : decode cX2_setOvens 15 = .ok (.istore_n 2, 1) := dk_61 (dk_at dksX2_setOvens_0 15 rfl rfl)
theorem dX2_setOvens_16 : decode cX2_setOvens 16 = .ok (.aload_n 0, 1) := dk_42 (dk_at dksX2_setOvens_0 16 rfl rfl)
theorem dX2_setOvens_17 : decode cX2_setOvens 17 = .ok (.iload_n 1, 1) := dk_27 (dk_at dksX2_setOvens_0 17 rfl rfl)
theorem dX2_setOvens_18 : decode cX2_setOvens 18 = .ok (.putfield 36, 3) := dk_181 0 36 (dk_at dksX2_setOvens_0 18 rfl rfl)
theorem dX2_setOvens_21 : decode cX2_setOvens 21 = .ok (.iload_n 2, 1) := dk_28 (dk_at dksX2_setOvens_0 21 rfl rfl)
theorem dX2_setOvens_22 : decode cX2_setOvens 22 = .ok (.ireturn, 1) := dk_172 (dk_at dksX2_setOvens_0 22 rfl rfl)
abbrev cX2_doughAt : ByteArray := prog_2_method_20_code
def yX2_doughAt : MethodName := ⟨RX2, "doughAt", "(I)I"⟩
def dkwX2_doughAt_6 : List UInt8 := [167, 255, 171, 21, 4, 27, 160, 0, 5, 29, 172, 167, 255, 121, 2, 172]
abbrev dktX2_doughAt_6 : List UInt8 := dkwX2_doughAt_6 ++ []
def dkwX2_doughAt_5 : List UInt8 := [155, 0, 14, 21, 7, 154, 0, 13, 21, 6, 29, 162, 0, 7, 4, 167, 0, 4, 3, 96, 54, 4]
abbrev dktX2_doughAt_5 : List UInt8 := dkwX2_doughAt_5 ++ dktX2_doughAt_6
def dkwX2_doughAt_4 : List UInt8 := [180, 0, 12, 29, 184, 0, 66, 182, 0, 70, 192, 0, 74, 182, 0, 212, 54, 7, 21, 4, 21, 7]
abbrev dktX2_doughAt_4 : List UInt8 := dkwX2_doughAt_4 ++ dktX2_doughAt_5
def dkwX2_doughAt_3 : List UInt8 := [192, 0, 60, 182, 0, 62, 54, 6, 42, 180, 0, 12, 21, 6, 184, 0, 66, 182, 0, 70, 192, 0, 74, 42]
abbrev dktX2_doughAt_3 : List UInt8 := dkwX2_doughAt_3 ++ dktX2_doughAt_4
def dkwX2_doughAt_2 : List UInt8 := [185, 0, 44, 1, 0, 58, 5, 25, 5, 185, 0, 50, 1, 0, 153, 0, 81, 25, 5, 185, 0, 56, 1, 0]
abbrev dktX2_doughAt_2 : List UInt8 := dkwX2_doughAt_2 ++ dktX2_doughAt_3
def dkwX2_doughAt_1 : List UInt8 := [185, 0, 56, 1, 0, 192, 0, 60, 182, 0, 62, 62, 3, 54, 4, 42, 180, 0, 12, 182, 0, 40]
abbrev dktX2_doughAt_1 : List UInt8 := dkwX2_doughAt_1 ++ dktX2_doughAt_2
def dkwX2_doughAt_0 : List UInt8 := [42, 180, 0, 12, 182, 0, 40, 185, 0, 44, 1, 0, 77, 44, 185, 0, 50, 1, 0, 153, 0, 132, 44]
abbrev dktX2_doughAt_0 : List UInt8 := dkwX2_doughAt_0 ++ dktX2_doughAt_1
theorem dksX2_doughAt_0 : cX2_doughAt.data.toList.drop 0 = dktX2_doughAt_0 := by decide +kernel
theorem dksX2_doughAt_1 : cX2_doughAt.data.toList.drop 23 = dktX2_doughAt_1 := dk_seg dksX2_doughAt_0 23 rfl rfl
theorem dksX2_doughAt_2 : cX2_doughAt.data.toList.drop 45 = dktX2_doughAt_2 := dk_seg dksX2_doughAt_1 22 rfl rfl
theorem dksX2_doughAt_3 : cX2_doughAt.data.toList.drop 69 = dktX2_doughAt_3 := dk_seg dksX2_doughAt_2 24 rfl rfl
theorem dksX2_doughAt_4 : cX2_doughAt.data.toList.drop 93 = dktX2_doughAt_4 := dk_seg dksX2_doughAt_3 24 rfl rfl
theorem dksX2_doughAt_5 : cX2_doughAt.data.toList.drop 115 = dktX2_doughAt_5 := dk_seg dksX2_doughAt_4 22 rfl rfl
theorem dksX2_doughAt_6 : cX2_doughAt.data.toList.drop 137 = dktX2_doughAt_6 := dk_seg dksX2_doughAt_5 22 rfl rfl
theorem dX2_doughAt_0 : decode cX2_doughAt 0 = .ok (.aload_n 0, 1) := dk_42 (dk_at dksX2_doughAt_0 0 rfl rfl)
theorem dX2_doughAt_1 : decode cX2_doughAt 1 = .ok (.getfield 12, 3) := dk_180 0 12 (dk_at dksX2_doughAt_0 1 rfl rfl)
theorem dX2_doughAt_4 : decode cX2_doughAt 4 = .ok (.invokevirtual 40, 3) := dk_182 0 40 (dk_at dksX2_doughAt_0 4 rfl rfl)
theorem dX2_doughAt_7 : decode cX2_doughAt 7 = .ok (.invokeinterface 44 1, 5) := by decide +kernel
theorem dX2_doughAt_12 : decode cX2_doughAt 12 = .ok (.astore_n 2, 1) := dk_77 (dk_at dksX2_doughAt_0 12 rfl rfl)
theorem dX2_doughAt_13 : decode cX2_doughAt 13 = .ok (.aload_n 2, 1) := dk_44 (dk_at dksX2_doughAt_0 13 rfl rfl)
theorem dX2_doughAt_14 : decode cX2_doughAt 14 = .ok (.invokeinterface 50 1, 5) := by decide +kernel
theorem dX2_doughAt_19 : decode cX2_doughAt 19 = .ok (.ifCond .eq 132, 3) := dk_153 0 132 (dk_at dksX2_doughAt_0 19 rfl rfl)
theorem dX2_doughAt_22 : decode cX2_doughAt 22 = .ok (.aload_n 2, 1) := dk_44 (dk_at dksX2_doughAt_0 22 rfl rfl)
theorem dX2_doughAt_23 : decode cX2_doughAt 23 = .ok (.invokeinterface 56 1, 5) := by decide +kernel
theorem dX2_doughAt_28 : decode cX2_doughAt 28 = .ok (.checkcast 60, 3) := dk_192 0 60 (dk_at dksX2_doughAt_1 5 rfl rfl)
theorem dX2_doughAt_31 : decode cX2_doughAt 31 = .ok (.invokevirtual 62, 3) := dk_182 0 62 (dk_at dksX2_doughAt_1 8 rfl rfl)
theorem dX2_doughAt_34 : decode cX2_doughAt 34 = .ok (.istore_n 3, 1) := dk_62 (dk_at dksX2_doughAt_1 11 rfl rfl)
theorem dX2_doughAt_35 : decode cX2_doughAt 35 = .ok (.iconst 0, 1) := dk_3 (dk_at dksX2_doughAt_1 12 rfl rfl)
theorem dX2_doughAt_36 : decode cX2_doughAt 36 = .ok (.istore 4, 2) := dk_54 4 (dk_at dksX2_doughAt_1 13 rfl rfl)
theorem dX2_doughAt_38 : decode cX2_doughAt 38 = .ok (.aload_n 0, 1) := dk_42 (dk_at dksX2_doughAt_1 15 rfl rfl)
theorem dX2_doughAt_39 : decode cX2_doughAt 39 = .ok (.getfield 12, 3) := dk_180 0 12 (dk_at dksX2_doughAt_1 16 rfl rfl)
theorem dX2_doughAt_42 : decode cX2_doughAt 42 = .ok (.invokevirtual 40, 3) := dk_182 0 40 (dk_at dksX2_doughAt_1 19 rfl rfl)
theorem dX2_doughAt_45 : decode cX2_doughAt 45 = .ok (.invokeinterface 44 1, 5) := by decide +kernel
theorem dX2_doughAt_50 : decode cX2_doughAt 50 = .ok (.astore 5, 2) := dk_58 5 (dk_at dksX2_doughAt_2 5 rfl rfl)
theorem dX2_doughAt_52 : decode cX2_doughAt 52 = .ok (.aload 5, 2) := dk_25 5 (dk_at dksX2_doughAt_2 7 rfl rfl)
theorem dX2_doughAt_54 : decode cX2_doughAt 54 = .ok (.invokeinterface 50 1, 5) := by decide +kernel
theorem dX2_doughAt_59 : decode cX2_doughAt 59 = .ok (.ifCond .eq 81, 3) := dk_153 0 81 (dk_at dksX2_doughAt_2 14 rfl rfl)
theorem dX2_doughAt_62 : decode cX2_doughAt 62 = .ok (.aload 5, 2) := dk_25 5 (dk_at dksX2_doughAt_2 17 rfl rfl)
theorem dX2_doughAt_64 : decode cX2_doughAt 64 = .ok (.invokeinterface 56 1, 5) := by decide +kernel
theorem dX2_doughAt_69 : decode cX2_doughAt 69 = .ok (.checkcast 60, 3) := dk_192 0 60 (dk_at dksX2_doughAt_3 0 rfl rfl)
theorem dX2_doughAt_72 : decode cX2_doughAt 72 = .ok (.invokevirtual 62, 3) := dk_182 0 62 (dk_at dksX2_doughAt_3 3 rfl rfl)
theorem dX2_doughAt_75 : decode cX2_doughAt 75 = .ok (.istore 6, 2) := dk_54 6 (dk_at dksX2_doughAt_3 6 rfl rfl)
theorem dX2_doughAt_77 : decode cX2_doughAt 77 = .ok (.aload_n 0, 1) := dk_42 (dk_at dksX2_doughAt_3 8 rfl rfl)
theorem dX2_doughAt_78 : decode cX2_doughAt 78 = .ok (.getfield 12, 3) := dk_180 0 12 (dk_at dksX2_doughAt_3 9 rfl rfl)
theorem dX2_doughAt_81 : decode cX2_doughAt 81 = .ok (.iload 6, 2) := dk_21 6 (dk_at dksX2_doughAt_3 12 rfl rfl)
theorem dX2_doughAt_83 : decode cX2_doughAt 83 = .ok (.invokestatic 66, 3) := dk_184 0 66 (dk_at dksX2_doughAt_3 14 rfl rfl)
theorem dX2_doughAt_86 : decode cX2_doughAt 86 = .ok (.invokevirtual 70, 3) := dk_182 0 70 (dk_at dksX2_doughAt_3 17 rfl rfl)
theorem dX2_doughAt_89 : decode cX2_doughAt 89 = .ok (.checkcast 74, 3) := dk_192 0 74 (dk_at dksX2_doughAt_3 20 rfl rfl)
theorem dX2_doughAt_92 : decode cX2_doughAt 92 = .ok (.aload_n 0, 1) := dk_42 (dk_at dksX2_doughAt_3 23 rfl rfl)
theorem dX2_doughAt_93 : decode cX2_doughAt 93 = .ok (.getfield 12, 3) := dk_180 0 12 (dk_at dksX2_doughAt_4 0 rfl rfl)
theorem dX2_doughAt_96 : decode cX2_doughAt 96 = .ok (.iload_n 3, 1) := dk_29 (dk_at dksX2_doughAt_4 3 rfl rfl)
theorem dX2_doughAt_97 : decode cX2_doughAt 97 = .ok (.invokestatic 66, 3) := dk_184 0 66 (dk_at dksX2_doughAt_4 4 rfl rfl)
theorem dX2_doughAt_100 : decode cX2_doughAt 100 = .ok (.invokevirtual 70, 3) := dk_182 0 70 (dk_at dksX2_doughAt_4 7 rfl rfl)
theorem dX2_doughAt_103 : decode cX2_doughAt 103 = .ok (.checkcast 74, 3) := dk_192 0 74 (dk_at dksX2_doughAt_4 10 rfl rfl)
theorem dX2_doughAt_106 : decode cX2_doughAt 106 = .ok (.invokevirtual 212, 3) := dk_182 0 212 (dk_at dksX2_doughAt_4 13 rfl rfl)
theorem dX2_doughAt_109 : decode cX2_doughAt 109 = .ok (.istore 7, 2) := dk_54 7 (dk_at dksX2_doughAt_4 16 rfl rfl)
theorem dX2_doughAt_111 : decode cX2_doughAt 111 = .ok (.iload 4, 2) := dk_21 4 (dk_at dksX2_doughAt_4 18 rfl rfl)
theorem dX2_doughAt_113 : decode cX2_doughAt 113 = .ok (.iload 7, 2) := dk_21 7 (dk_at dksX2_doughAt_4 20 rfl rfl)
theorem dX2_doughAt_115 : decode cX2_doughAt 115 = .ok (.ifCond .lt 14, 3) := dk_155 0 14 (dk_at dksX2_doughAt_5 0 rfl rfl)
theorem dX2_doughAt_118 : decode cX2_doughAt 118 = .ok (.iload 7, 2) := dk_21 7 (dk_at dksX2_doughAt_5 3 rfl rfl)
theorem dX2_doughAt_120 : decode cX2_doughAt 120 = .ok (.ifCond .ne 13, 3) := dk_154 0 13 (dk_at dksX2_doughAt_5 5 rfl rfl)
theorem dX2_doughAt_123 : decode cX2_doughAt 123 = .ok (.iload 6, 2) := dk_21 6 (dk_at dksX2_doughAt_5 8 rfl rfl)
theorem dX2_doughAt_125 : decode cX2_doughAt 125 = .ok (.iload_n 3, 1) := dk_29 (dk_at dksX2_doughAt_5 10 rfl rfl)
theorem dX2_doughAt_126 : decode cX2_doughAt 126 = .ok (.if_icmp .ge 7, 3) := dk_162 0 7 (dk_at dksX2_doughAt_5 11 rfl rfl)
theorem dX2_doughAt_129 : decode cX2_doughAt 129 = .ok (.iconst 1, 1) := dk_4 (dk_at dksX2_doughAt_5 14 rfl rfl)
theorem dX2_doughAt_130 : decode cX2_doughAt 130 = .ok (.goto 4, 3) := dk_167 0 4 (dk_at dksX2_doughAt_5 15 rfl rfl)
theorem dX2_doughAt_133 : decode cX2_doughAt 133 = .ok (.iconst 0, 1) := dk_3 (dk_at dksX2_doughAt_5 18 rfl rfl)
theorem dX2_doughAt_134 : decode cX2_doughAt 134 = .ok (.iadd, 1) := dk_96 (dk_at dksX2_doughAt_5 19 rfl rfl)
theorem dX2_doughAt_135 : decode cX2_doughAt 135 = .ok (.istore 4, 2) := dk_54 4 (dk_at dksX2_doughAt_5 20 rfl rfl)
theorem dX2_doughAt_137 : decode cX2_doughAt 137 = .ok (.goto (-85), 3) := dk_167 255 171 (dk_at dksX2_doughAt_6 0 rfl rfl)
theorem dX2_doughAt_140 : decode cX2_doughAt 140 = .ok (.iload 4, 2) := dk_21 4 (dk_at dksX2_doughAt_6 3 rfl rfl)
theorem dX2_doughAt_142 : decode cX2_doughAt 142 = .ok (.iload_n 1, 1) := dk_27 (dk_at dksX2_doughAt_6 5 rfl rfl)
theorem dX2_doughAt_143 : decode cX2_doughAt 143 = .ok (.if_icmp .ne 5, 3) := dk_160 0 5 (dk_at dksX2_doughAt_6 6 rfl rfl)
theorem dX2_doughAt_146 : decode cX2_doughAt 146 = .ok (.iload_n 3, 1) := dk_29 (dk_at dksX2_doughAt_6 9 rfl rfl)
theorem dX2_doughAt_147 : decode cX2_doughAt 147 = .ok (.ireturn, 1) := dk_172 (dk_at dksX2_doughAt_6 10 rfl rfl)
theorem dX2_doughAt_148 : decode cX2_doughAt 148 = .ok (.goto (-135), 3) := dk_167 255 121 (dk_at dksX2_doughAt_6 11 rfl rfl)
theorem dX2_doughAt_151 : decode cX2_doughAt 151 = .ok (.iconst (-1), 1) := dk_2 (dk_at dksX2_doughAt_6 14 rfl rfl)
theorem dX2_doughAt_152 : decode cX2_doughAt 152 = .ok (.ireturn, 1) := dk_172 (dk_at dksX2_doughAt_6 15 rfl rfl)
abbrev cX2_roomFrom : ByteArray := prog_2_method_25_code
def yX2_roomFrom : MethodName := ⟨RX2, "roomFrom", "(I)I"⟩
def dkwX2_roomFrom_1 : List UInt8 := [185, 0, 182, 2, 0, 192, 0, 83, 182, 0, 184, 96, 61, 132, 3, 1, 167, 255, 221, 28, 172]
abbrev dktX2_roomFrom_1 : List UInt8 := dkwX2_roomFrom_1 ++ []
def dkwX2_roomFrom_0 : List UInt8 := [3, 61, 27, 62, 29, 42, 180, 0, 21, 185, 0, 127, 1, 0, 162, 0, 28, 28, 42, 180, 0, 21, 29]
abbrev dktX2_roomFrom_0 : List UInt8 := dkwX2_roomFrom_0 ++ dktX2_roomFrom_1
theorem dksX2_roomFrom_0 : cX2_roomFrom.data.toList.drop 0 = dktX2_roomFrom_0 := by decide +kernel
theorem dksX2_roomFrom_1 : cX2_roomFrom.data.toList.drop 23 = dktX2_roomFrom_1 := dk_seg dksX2_roomFrom_0 23 rfl rfl
theorem dX2_roomFrom_0 : decode cX2_roomFrom 0 = .ok (.iconst 0, 1) := dk_3 (dk_at dksX2_roomFrom_0 0 rfl rfl)
theorem dX2_roomFrom_1 : decode cX2_roomFrom 1 = .ok (.istore_n 2, 1) := dk_61 (dk_at dksX2_roomFrom_0 1 rfl rfl)
theorem dX2_roomFrom_2 : decode cX2_roomFrom 2 = .ok (.iload_n 1, 1) := dk_27 (dk_at dksX2_roomFrom_0 2 rfl rfl)
theorem dX2_roomFrom_3 : decode cX2_roomFrom 3 = .ok (.istore_n 3, 1) := dk_62 (dk_at dksX2_roomFrom_0 3 rfl rfl)
theorem dX2_roomFrom_4 : decode cX2_roomFrom 4 = .ok (.iload_n 3, 1) := dk_29 (dk_at dksX2_roomFrom_0 4 rfl rfl)
theorem dX2_roomFrom_5 : decode cX2_roomFrom 5 = .ok (.aload_n 0, 1) := dk_42 (dk_at dksX2_roomFrom_0 5 rfl rfl)
theorem dX2_roomFrom_6 : decode cX2_roomFrom 6 = .ok (.getfield 21, 3) := dk_180 0 21 (dk_at dksX2_roomFrom_0 6 rfl rfl)
theorem dX2_roomFrom_9 : decode cX2_roomFrom 9 = .ok (.invokeinterface 127 1, 5) := by decide +kernel
theorem dX2_roomFrom_14 : decode cX2_roomFrom 14 = .ok (.if_icmp .ge 28, 3) := dk_162 0 28 (dk_at dksX2_roomFrom_0 14 rfl rfl)
theorem dX2_roomFrom_17 : decode cX2_roomFrom 17 = .ok (.iload_n 2, 1) := dk_28 (dk_at dksX2_roomFrom_0 17 rfl rfl)
theorem dX2_roomFrom_18 : decode cX2_roomFrom 18 = .ok (.aload_n 0, 1) := dk_42 (dk_at dksX2_roomFrom_0 18 rfl rfl)
theorem dX2_roomFrom_19 : decode cX2_roomFrom 19 = .ok (.getfield 21, 3) := dk_180 0 21 (dk_at dksX2_roomFrom_0 19 rfl rfl)
theorem dX2_roomFrom_22 : decode cX2_roomFrom 22 = .ok (.iload_n 3, 1) := dk_29 (dk_at dksX2_roomFrom_0 22 rfl rfl)
theorem dX2_roomFrom_23 : decode cX2_roomFrom 23 = .ok (.invokeinterface 182 2, 5) := by decide +kernel
theorem dX2_roomFrom_28 : decode cX2_roomFrom 28 = .ok (.checkcast 83, 3) := dk_192 0 83 (dk_at dksX2_roomFrom_1 5 rfl rfl)
theorem dX2_roomFrom_31 : decode cX2_roomFrom 31 = .ok (.invokevirtual 184, 3) := dk_182 0 184 (dk_at dksX2_roomFrom_1 8 rfl rfl)
theorem dX2_roomFrom_34 : decode cX2_roomFrom 34 = .ok (.iadd, 1) := dk_96 (dk_at dksX2_roomFrom_1 11 rfl rfl)
theorem dX2_roomFrom_35 : decode cX2_roomFrom 35 = .ok (.istore_n 2, 1) := dk_61 (dk_at dksX2_roomFrom_1 12 rfl rfl)
theorem dX2_roomFrom_36 : decode cX2_roomFrom 36 = .ok (.iinc 3 1, 3) := dk_132 3 1 (dk_at dksX2_roomFrom_1 13 rfl rfl)
theorem dX2_roomFrom_39 : decode cX2_roomFrom 39 = .ok (.goto (-35), 3) := dk_167 255 221 (dk_at dksX2_roomFrom_1 16 rfl rfl)
theorem dX2_roomFrom_42 : decode cX2_roomFrom 42 = .ok (.iload_n 2, 1) := dk_28 (dk_at dksX2_roomFrom_1 19 rfl rfl)
theorem dX2_roomFrom_43 : decode cX2_roomFrom 43 = .ok (.ireturn, 1) := dk_172 (dk_at dksX2_roomFrom_1 20 rfl rfl)
abbrev cX2_fullest : ByteArray := prog_2_method_26_code
def yX2_fullest : MethodName := ⟨RX2, "fullest", "()I"⟩
def dkwX2_fullest_3 : List UInt8 := [28, 167, 0, 4, 27, 60, 132, 2, 1, 167, 255, 184, 27, 172]
abbrev dktX2_fullest_3 : List UInt8 := dkwX2_fullest_3 ++ []
def dkwX2_fullest_2 : List UInt8 := [185, 0, 182, 2, 0, 192, 0, 83, 180, 0, 88, 164, 0, 7, 4, 167, 0, 4, 3, 62, 29, 153, 0, 7]
abbrev dktX2_fullest_2 : List UInt8 := dkwX2_fullest_2 ++ dktX2_fullest_3
def dkwX2_fullest_1 : List UInt8 := [180, 0, 21, 28, 185, 0, 182, 2, 0, 192, 0, 83, 180, 0, 88, 42, 180, 0, 21, 27]
abbrev dktX2_fullest_1 : List UInt8 := dkwX2_fullest_1 ++ dktX2_fullest_2
def dkwX2_fullest_0 : List UInt8 := [2, 60, 3, 61, 28, 42, 180, 0, 21, 185, 0, 127, 1, 0, 162, 0, 65, 27, 2, 159, 0, 38, 42]
abbrev dktX2_fullest_0 : List UInt8 := dkwX2_fullest_0 ++ dktX2_fullest_1
theorem dksX2_fullest_0 : cX2_fullest.data.toList.drop 0 = dktX2_fullest_0 := by decide +kernel
theorem dksX2_fullest_1 : cX2_fullest.data.toList.drop 23 = dktX2_fullest_1 := dk_seg dksX2_fullest_0 23 rfl rfl
theorem dksX2_fullest_2 : cX2_fullest.data.toList.drop 43 = dktX2_fullest_2 := dk_seg dksX2_fullest_1 20 rfl rfl
theorem dksX2_fullest_3 : cX2_fullest.data.toList.drop 67 = dktX2_fullest_3 := dk_seg dksX2_fullest_2 24 rfl rfl
theorem dX2_fullest_0 : decode cX2_fullest 0 = .ok (.iconst (-1), 1) := dk_2 (dk_at dksX2_fullest_0 0 rfl rfl)
theorem dX2_fullest_1 : decode cX2_fullest 1 = .ok (.istore_n 1, 1) := dk_60 (dk_at dksX2_fullest_0 1 rfl rfl)
theorem dX2_fullest_2 : decode cX2_fullest 2 = .ok (.iconst 0, 1) := dk_3 (dk_at dksX2_fullest_0 2 rfl rfl)
theorem dX2_fullest_3 : decode cX2_fullest 3 = .ok (.istore_n 2, 1) := dk_61 (dk_at dksX2_fullest_0 3 rfl rfl)
theorem dX2_fullest_4 : decode cX2_fullest 4 = .ok (.iload_n 2, 1) := dk_28 (dk_at dksX2_fullest_0 4 rfl rfl)
theorem dX2_fullest_5 : decode cX2_fullest 5 = .ok (.aload_n 0, 1) := dk_42 (dk_at dksX2_fullest_0 5 rfl rfl)
theorem dX2_fullest_6 : decode cX2_fullest 6 = .ok (.getfield 21, 3) := dk_180 0 21 (dk_at dksX2_fullest_0 6 rfl rfl)
theorem dX2_fullest_9 : decode cX2_fullest 9 = .ok (.invokeinterface 127 1, 5) := by decide +kernel
theorem dX2_fullest_14 : decode cX2_fullest 14 = .ok (.if_icmp .ge 65, 3) := dk_162 0 65 (dk_at dksX2_fullest_0 14 rfl rfl)
theorem dX2_fullest_17 : decode cX2_fullest 17 = .ok (.iload_n 1, 1) := dk_27 (dk_at dksX2_fullest_0 17 rfl rfl)
theorem dX2_fullest_18 : decode cX2_fullest 18 = .ok (.iconst (-1), 1) := dk_2 (dk_at dksX2_fullest_0 18 rfl rfl)
theorem dX2_fullest_19 : decode cX2_fullest 19 = .ok (.if_icmp .eq 38, 3) := dk_159 0 38 (dk_at dksX2_fullest_0 19 rfl rfl)
theorem dX2_fullest_22 : decode cX2_fullest 22 = .ok (.aload_n 0, 1) := dk_42 (dk_at dksX2_fullest_0 22 rfl rfl)
theorem dX2_fullest_23 : decode cX2_fullest 23 = .ok (.getfield 21, 3) := dk_180 0 21 (dk_at dksX2_fullest_1 0 rfl rfl)
theorem dX2_fullest_26 : decode cX2_fullest 26 = .ok (.iload_n 2, 1) := dk_28 (dk_at dksX2_fullest_1 3 rfl rfl)
theorem dX2_fullest_27 : decode cX2_fullest 27 = .ok (.invokeinterface 182 2, 5) := by decide +kernel
theorem dX2_fullest_32 : decode cX2_fullest 32 = .ok (.checkcast 83, 3) := dk_192 0 83 (dk_at dksX2_fullest_1 9 rfl rfl)
theorem dX2_fullest_35 : decode cX2_fullest 35 = .ok (.getfield 88, 3) := dk_180 0 88 (dk_at dksX2_fullest_1 12 rfl rfl)
theorem dX2_fullest_38 : decode cX2_fullest 38 = .ok (.aload_n 0, 1) := dk_42 (dk_at dksX2_fullest_1 15 rfl rfl)
theorem dX2_fullest_39 : decode cX2_fullest 39 = .ok (.getfield 21, 3) := dk_180 0 21 (dk_at dksX2_fullest_1 16 rfl rfl)
theorem dX2_fullest_42 : decode cX2_fullest 42 = .ok (.iload_n 1, 1) := dk_27 (dk_at dksX2_fullest_1 19 rfl rfl)
theorem dX2_fullest_43 : decode cX2_fullest 43 = .ok (.invokeinterface 182 2, 5) := by decide +kernel
theorem dX2_fullest_48 : decode cX2_fullest 48 = .ok (.checkcast 83, 3) := dk_192 0 83 (dk_at dksX2_fullest_2 5 rfl rfl)
theorem dX2_fullest_51 : decode cX2_fullest 51 = .ok (.getfield 88, 3) := dk_180 0 88 (dk_at dksX2_fullest_2 8 rfl rfl)
theorem dX2_fullest_54 : decode cX2_fullest 54 = .ok (.if_icmp .le 7, 3) := dk_164 0 7 (dk_at dksX2_fullest_2 11 rfl rfl)
theorem dX2_fullest_57 : decode cX2_fullest 57 = .ok (.iconst 1, 1) := dk_4 (dk_at dksX2_fullest_2 14 rfl rfl)
theorem dX2_fullest_58 : decode cX2_fullest 58 = .ok (.goto 4, 3) := dk_167 0 4 (dk_at dksX2_fullest_2 15 rfl rfl)
theorem dX2_fullest_61 : decode cX2_fullest 61 = .ok (.iconst 0, 1) := dk_3 (dk_at dksX2_fullest_2 18 rfl rfl)
theorem dX2_fullest_62 : decode cX2_fullest 62 = .ok (.istore_n 3, 1) := dk_62 (dk_at dksX2_fullest_2 19 rfl rfl)
theorem dX2_fullest_63 : decode cX2_fullest 63 = .ok (.iload_n 3, 1) := dk_29 (dk_at dksX2_fullest_2 20 rfl rfl)
theorem dX2_fullest_64 : decode cX2_fullest 64 = .ok (.ifCond .eq 7, 3) := dk_153 0 7 (dk_at dksX2_fullest_2 21 rfl rfl)
theorem dX2_fullest_67 : decode cX2_fullest 67 = .ok (.iload_n 2, 1) := dk_28 (dk_at dksX2_fullest_3 0 rfl rfl)
theorem dX2_fullest_68 : decode cX2_fullest 68 = .ok (.goto 4, 3) := dk_167 0 4 (dk_at dksX2_fullest_3 1 rfl rfl)
theorem dX2_fullest_71 : decode cX2_fullest 71 = .ok (.iload_n 1, 1) := dk_27 (dk_at dksX2_fullest_3 4 rfl rfl)
theorem dX2_fullest_72 : decode cX2_fullest 72 = .ok (.istore_n 1, 1) := dk_60 (dk_at dksX2_fullest_3 5 rfl rfl)
theorem dX2_fullest_73 : decode cX2_fullest 73 = .ok (.iinc 2 1, 3) := dk_132 2 1 (dk_at dksX2_fullest_3 6 rfl rfl)
theorem dX2_fullest_76 : decode cX2_fullest 76 = .ok (.goto (-72), 3) := dk_167 255 184 (dk_at dksX2_fullest_3 9 rfl rfl)
theorem dX2_fullest_79 : decode cX2_fullest 79 = .ok (.iload_n 1, 1) := dk_27 (dk_at dksX2_fullest_3 12 rfl rfl)
theorem dX2_fullest_80 : decode cX2_fullest 80 = .ok (.ireturn, 1) := dk_172 (dk_at dksX2_fullest_3 13 rfl rfl)
abbrev cX2_loafAt : ByteArray := prog_2_method_21_code
def yX2_loafAt : MethodName := ⟨RX2, "loafAt", "(I)I"⟩
def dkwX2_loafAt_4 : List UInt8 := [96, 62, 132, 4, 1, 167, 255, 179, 29, 27, 160, 0, 5, 28, 172, 132, 2, 1, 167, 255, 148, 2, 172]
abbrev dktX2_loafAt_4 : List UInt8 := dkwX2_loafAt_4 ++ []
def dkwX2_loafAt_3 : List UInt8 := [54, 5, 29, 21, 5, 157, 0, 14, 21, 5, 154, 0, 13, 21, 4, 28, 162, 0, 7, 4, 167, 0, 4, 3]
abbrev dktX2_loafAt_3 : List UInt8 := dkwX2_loafAt_3 ++ dktX2_loafAt_4
def dkwX2_loafAt_2 : List UInt8 := [192, 0, 98, 180, 0, 139, 42, 180, 0, 25, 28, 185, 0, 182, 2, 0, 192, 0, 98, 180, 0, 139, 100]
abbrev dktX2_loafAt_2 : List UInt8 := dkwX2_loafAt_2 ++ dktX2_loafAt_3
def dkwX2_loafAt_1 : List UInt8 := [180, 0, 25, 185, 0, 127, 1, 0, 162, 0, 69, 42, 180, 0, 25, 21, 4, 185, 0, 182, 2, 0]
abbrev dktX2_loafAt_1 : List UInt8 := dkwX2_loafAt_1 ++ dktX2_loafAt_2
def dkwX2_loafAt_0 : List UInt8 := [3, 61, 28, 42, 180, 0, 25, 185, 0, 127, 1, 0, 162, 0, 101, 3, 62, 3, 54, 4, 21, 4, 42]
abbrev dktX2_loafAt_0 : List UInt8 := dkwX2_loafAt_0 ++ dktX2_loafAt_1
theorem dksX2_loafAt_0 : cX2_loafAt.data.toList.drop 0 = dktX2_loafAt_0 := by decide +kernel
theorem dksX2_loafAt_1 : cX2_loafAt.data.toList.drop 23 = dktX2_loafAt_1 := dk_seg dksX2_loafAt_0 23 rfl rfl
theorem dksX2_loafAt_2 : cX2_loafAt.data.toList.drop 45 = dktX2_loafAt_2 := dk_seg dksX2_loafAt_1 22 rfl rfl
theorem dksX2_loafAt_3 : cX2_loafAt.data.toList.drop 68 = dktX2_loafAt_3 := dk_seg dksX2_loafAt_2 23 rfl rfl
theorem dksX2_loafAt_4 : cX2_loafAt.data.toList.drop 92 = dktX2_loafAt_4 := dk_seg dksX2_loafAt_3 24 rfl rfl
theorem dX2_loafAt_0 : decode cX2_loafAt 0 = .ok (.iconst 0, 1) := dk_3 (dk_at dksX2_loafAt_0 0 rfl rfl)
theorem dX2_loafAt_1 : decode cX2_loafAt 1 = .ok (.istore_n 2, 1) := dk_61 (dk_at dksX2_loafAt_0 1 rfl rfl)
theorem dX2_loafAt_2 : decode cX2_loafAt 2 = .ok (.iload_n 2, 1) := dk_28 (dk_at dksX2_loafAt_0 2 rfl rfl)
theorem dX2_loafAt_3 : decode cX2_loafAt 3 = .ok (.aload_n 0, 1) := dk_42 (dk_at dksX2_loafAt_0 3 rfl rfl)
theorem dX2_loafAt_4 : decode cX2_loafAt 4 = .ok (.getfield 25, 3) := dk_180 0 25 (dk_at dksX2_loafAt_0 4 rfl rfl)
theorem dX2_loafAt_7 : decode cX2_loafAt 7 = .ok (.invokeinterface 127 1, 5) := by decide +kernel
theorem dX2_loafAt_12 : decode cX2_loafAt 12 = .ok (.if_icmp .ge 101, 3) := dk_162 0 101 (dk_at dksX2_loafAt_0 12 rfl rfl)
theorem dX2_loafAt_15 : decode cX2_loafAt 15 = .ok (.iconst 0, 1) := dk_3 (dk_at dksX2_loafAt_0 15 rfl rfl)
theorem dX2_loafAt_16 : decode cX2_loafAt 16 = .ok (.istore_n 3, 1) := dk_62 (dk_at dksX2_loafAt_0 16 rfl rfl)
theorem dX2_loafAt_17 : decode cX2_loafAt 17 = .ok (.iconst 0, 1) := dk_3 (dk_at dksX2_loafAt_0 17 rfl rfl)
theorem dX2_loafAt_18 : decode cX2_loafAt 18 = .ok (.istore 4, 2) := dk_54 4 (dk_at dksX2_loafAt_0 18 rfl rfl)
theorem dX2_loafAt_20 : decode cX2_loafAt 20 = .ok (.iload 4, 2) := dk_21 4 (dk_at dksX2_loafAt_0 20 rfl rfl)
theorem dX2_loafAt_22 : decode cX2_loafAt 22 = .ok (.aload_n 0, 1) := dk_42 (dk_at dksX2_loafAt_0 22 rfl rfl)
theorem dX2_loafAt_23 : decode cX2_loafAt 23 = .ok (.getfield 25, 3) := dk_180 0 25 (dk_at dksX2_loafAt_1 0 rfl rfl)
theorem dX2_loafAt_26 : decode cX2_loafAt 26 = .ok (.invokeinterface 127 1, 5) := by decide +kernel
theorem dX2_loafAt_31 : decode cX2_loafAt 31 = .ok (.if_icmp .ge 69, 3) := dk_162 0 69 (dk_at dksX2_loafAt_1 8 rfl rfl)
theorem dX2_loafAt_34 : decode cX2_loafAt 34 = .ok (.aload_n 0, 1) := dk_42 (dk_at dksX2_loafAt_1 11 rfl rfl)
theorem dX2_loafAt_35 : decode cX2_loafAt 35 = .ok (.getfield 25, 3) := dk_180 0 25 (dk_at dksX2_loafAt_1 12 rfl rfl)
theorem dX2_loafAt_38 : decode cX2_loafAt 38 = .ok (.iload 4, 2) := dk_21 4 (dk_at dksX2_loafAt_1 15 rfl rfl)
theorem dX2_loafAt_40 : decode cX2_loafAt 40 = .ok (.invokeinterface 182 2, 5) := by decide +kernel
theorem dX2_loafAt_45 : decode cX2_loafAt 45 = .ok (.checkcast 98, 3) := dk_192 0 98 (dk_at dksX2_loafAt_2 0 rfl rfl)
theorem dX2_loafAt_48 : decode cX2_loafAt 48 = .ok (.getfield 139, 3) := dk_180 0 139 (dk_at dksX2_loafAt_2 3 rfl rfl)
theorem dX2_loafAt_51 : decode cX2_loafAt 51 = .ok (.aload_n 0, 1) := dk_42 (dk_at dksX2_loafAt_2 6 rfl rfl)
theorem dX2_loafAt_52 : decode cX2_loafAt 52 = .ok (.getfield 25, 3) := dk_180 0 25 (dk_at dksX2_loafAt_2 7 rfl rfl)
theorem dX2_loafAt_55 : decode cX2_loafAt 55 = .ok (.iload_n 2, 1) := dk_28 (dk_at dksX2_loafAt_2 10 rfl rfl)
theorem dX2_loafAt_56 : decode cX2_loafAt 56 = .ok (.invokeinterface 182 2, 5) := by decide +kernel
theorem dX2_loafAt_61 : decode cX2_loafAt 61 = .ok (.checkcast 98, 3) := dk_192 0 98 (dk_at dksX2_loafAt_2 16 rfl rfl)
theorem dX2_loafAt_64 : decode cX2_loafAt 64 = .ok (.getfield 139, 3) := dk_180 0 139 (dk_at dksX2_loafAt_2 19 rfl rfl)
theorem dX2_loafAt_67 : decode cX2_loafAt 67 = .ok (.isub, 1) := dk_100 (dk_at dksX2_loafAt_2 22 rfl rfl)
theorem dX2_loafAt_68 : decode cX2_loafAt 68 = .ok (.istore 5, 2) := dk_54 5 (dk_at dksX2_loafAt_3 0 rfl rfl)
theorem dX2_loafAt_70 : decode cX2_loafAt 70 = .ok (.iload_n 3, 1) := dk_29 (dk_at dksX2_loafAt_3 2 rfl rfl)
theorem dX2_loafAt_71 : decode cX2_loafAt 71 = .ok (.iload 5, 2) := dk_21 5 (dk_at dksX2_loafAt_3 3 rfl rfl)
theorem dX2_loafAt_73 : decode cX2_loafAt 73 = .ok (.ifCond .gt 14, 3) := dk_157 0 14 (dk_at dksX2_loafAt_3 5 rfl rfl)
theorem dX2_loafAt_76 : decode cX2_loafAt 76 = .ok (.iload 5, 2) := dk_21 5 (dk_at dksX2_loafAt_3 8 rfl rfl)
theorem dX2_loafAt_78 : decode cX2_loafAt 78 = .ok (.ifCond .ne 13, 3) := dk_154 0 13 (dk_at dksX2_loafAt_3 10 rfl rfl)
theorem dX2_loafAt_81 : decode cX2_loafAt 81 = .ok (.iload 4, 2) := dk_21 4 (dk_at dksX2_loafAt_3 13 rfl rfl)
theorem dX2_loafAt_83 : decode cX2_loafAt 83 = .ok (.iload_n 2, 1) := dk_28 (dk_at dksX2_loafAt_3 15 rfl rfl)
theorem dX2_loafAt_84 : decode cX2_loafAt 84 = .ok (.if_icmp .ge 7, 3) := dk_162 0 7 (dk_at dksX2_loafAt_3 16 rfl rfl)
theorem dX2_loafAt_87 : decode cX2_loafAt 87 = .ok (.iconst 1, 1) := dk_4 (dk_at dksX2_loafAt_3 19 rfl rfl)
theorem dX2_loafAt_88 : decode cX2_loafAt 88 = .ok (.goto 4, 3) := dk_167 0 4 (dk_at dksX2_loafAt_3 20 rfl rfl)
theorem dX2_loafAt_91 : decode cX2_loafAt 91 = .ok (.iconst 0, 1) := dk_3 (dk_at dksX2_loafAt_3 23 rfl rfl)
theorem dX2_loafAt_92 : decode cX2_loafAt 92 = .ok (.iadd, 1) := dk_96 (dk_at dksX2_loafAt_4 0 rfl rfl)
theorem dX2_loafAt_93 : decode cX2_loafAt 93 = .ok (.istore_n 3, 1) := dk_62 (dk_at dksX2_loafAt_4 1 rfl rfl)
theorem dX2_loafAt_94 : decode cX2_loafAt 94 = .ok (.iinc 4 1, 3) := dk_132 4 1 (dk_at dksX2_loafAt_4 2 rfl rfl)
theorem dX2_loafAt_97 : decode cX2_loafAt 97 = .ok (.goto (-77), 3) := dk_167 255 179 (dk_at dksX2_loafAt_4 5 rfl rfl)
theorem dX2_loafAt_100 : decode cX2_loafAt 100 = .ok (.iload_n 3, 1) := dk_29 (dk_at dksX2_loafAt_4 8 rfl rfl)
theorem dX2_loafAt_101 : decode cX2_loafAt 101 = .ok (.iload_n 1, 1) := dk_27 (dk_at dksX2_loafAt_4 9 rfl rfl)
theorem dX2_loafAt_102 : decode cX2_loafAt 102 = .ok (.if_icmp .ne 5, 3) := dk_160 0 5 (dk_at dksX2_loafAt_4 10 rfl rfl)
theorem dX2_loafAt_105 : decode cX2_loafAt 105 = .ok (.iload_n 2, 1) := dk_28 (dk_at dksX2_loafAt_4 13 rfl rfl)
theorem dX2_loafAt_106 : decode cX2_loafAt 106 = .ok (.ireturn, 1) := dk_172 (dk_at dksX2_loafAt_4 14 rfl rfl)
theorem dX2_loafAt_107 : decode cX2_loafAt 107 = .ok (.iinc 2 1, 3) := dk_132 2 1 (dk_at dksX2_loafAt_4 15 rfl rfl)
theorem dX2_loafAt_110 : decode cX2_loafAt 110 = .ok (.goto (-108), 3) := dk_167 255 148 (dk_at dksX2_loafAt_4 18 rfl rfl)
theorem dX2_loafAt_113 : decode cX2_loafAt 113 = .ok (.iconst (-1), 1) := dk_2 (dk_at dksX2_loafAt_4 21 rfl rfl)
theorem dX2_loafAt_114 : decode cX2_loafAt 114 = .ok (.ireturn, 1) := dk_172 (dk_at dksX2_loafAt_4 22 rfl rfl)
abbrev cX2_decimals : ByteArray := prog_2_method_28_code
def yX2_decimals : MethodName := ⟨RX2, "decimals", "(I)Ljava/lang/String;"⟩
def dkwX2_decimals_4 : List UInt8 := [167, 255, 233, 45, 182, 0, 239, 176]
abbrev dktX2_decimals_4 : List UInt8 := dkwX2_decimals_4 ++ []
def dkwX2_decimals_3 : List UInt8 := [21, 4, 155, 0, 24, 45, 28, 21, 4, 184, 0, 243, 108, 16, 10, 112, 182, 0, 236, 87, 132, 4, 255]
abbrev dktX2_decimals_3 : List UInt8 := dkwX2_decimals_3 ++ dktX2_decimals_4
def dkwX2_decimals_2 : List UInt8 := [180, 0, 28, 184, 0, 243, 108, 182, 0, 236, 16, 46, 182, 0, 246, 87, 42, 180, 0, 28, 4, 100, 54, 4]
abbrev dktX2_decimals_2 : List UInt8 := dkwX2_decimals_2 ++ dktX2_decimals_3
def dkwX2_decimals_1 : List UInt8 := [182, 0, 232, 28, 182, 0, 236, 182, 0, 239, 176, 187, 0, 227, 89, 183, 0, 229, 78, 45, 28, 42]
abbrev dktX2_decimals_1 : List UInt8 := dkwX2_decimals_1 ++ dktX2_decimals_2
def dkwX2_decimals_0 : List UInt8 := [42, 27, 182, 0, 178, 61, 42, 180, 0, 28, 154, 0, 23, 187, 0, 227, 89, 183, 0, 229, 18, 230]
abbrev dktX2_decimals_0 : List UInt8 := dkwX2_decimals_0 ++ dktX2_decimals_1
theorem dksX2_decimals_0 : cX2_decimals.data.toList.drop 0 = dktX2_decimals_0 := by decide +kernel
theorem dksX2_decimals_1 : cX2_decimals.data.toList.drop 22 = dktX2_decimals_1 := dk_seg dksX2_decimals_0 22 rfl rfl
theorem dksX2_decimals_2 : cX2_decimals.data.toList.drop 44 = dktX2_decimals_2 := dk_seg dksX2_decimals_1 22 rfl rfl
theorem dksX2_decimals_3 : cX2_decimals.data.toList.drop 68 = dktX2_decimals_3 := dk_seg dksX2_decimals_2 24 rfl rfl
theorem dksX2_decimals_4 : cX2_decimals.data.toList.drop 91 = dktX2_decimals_4 := dk_seg dksX2_decimals_3 23 rfl rfl
theorem dX2_decimals_0 : decode cX2_decimals 0 = .ok (.aload_n 0, 1) := dk_42 (dk_at dksX2_decimals_0 0 rfl rfl)
theorem dX2_decimals_1 : decode cX2_decimals 1 = .ok (.iload_n 1, 1) := dk_27 (dk_at dksX2_decimals_0 1 rfl rfl)
theorem dX2_decimals_2 : decode cX2_decimals 2 = .ok (.invokevirtual 178, 3) := dk_182 0 178 (dk_at dksX2_decimals_0 2 rfl rfl)
theorem dX2_decimals_5 : decode cX2_decimals 5 = .ok (.istore_n 2, 1) := dk_61 (dk_at dksX2_decimals_0 5 rfl rfl)
theorem dX2_decimals_6 : decode cX2_decimals 6 = .ok (.aload_n 0, 1) := dk_42 (dk_at dksX2_decimals_0 6 rfl rfl)
theorem dX2_decimals_7 : decode cX2_decimals 7 = .ok (.getfield 28, 3) := dk_180 0 28 (dk_at dksX2_decimals_0 7 rfl rfl)
theorem dX2_decimals_10 : decode cX2_decimals 10 = .ok (.ifCond .ne 23, 3) := dk_154 0 23 (dk_at dksX2_decimals_0 10 rfl rfl)
theorem dX2_decimals_13 : decode cX2_decimals 13 = .ok (.new 227, 3) := dk_187 0 227 (dk_at dksX2_decimals_0 13 rfl rfl)
theorem dX2_decimals_16 : decode cX2_decimals 16 = .ok (.dup, 1) := dk_89 (dk_at dksX2_decimals_0 16 rfl rfl)
theorem dX2_decimals_17 : decode cX2_decimals 17 = .ok (.invokespecial 229, 3) := dk_183 0 229 (dk_at dksX2_decimals_0 17 rfl rfl)
theorem dX2_decimals_20 : decode cX2_decimals 20 = .ok (.ldc 230, 2) := dk_18 230 (dk_at dksX2_decimals_0 20 rfl rfl)
theorem dX2_decimals_22 : decode cX2_decimals 22 = .ok (.invokevirtual 232, 3) := dk_182 0 232 (dk_at dksX2_decimals_1 0 rfl rfl)
theorem dX2_decimals_25 : decode cX2_decimals 25 = .ok (.iload_n 2, 1) := dk_28 (dk_at dksX2_decimals_1 3 rfl rfl)
theorem dX2_decimals_26 : decode cX2_decimals 26 = .ok (.invokevirtual 236, 3) := dk_182 0 236 (dk_at dksX2_decimals_1 4 rfl rfl)
theorem dX2_decimals_29 : decode cX2_decimals 29 = .ok (.invokevirtual 239, 3) := dk_182 0 239 (dk_at dksX2_decimals_1 7 rfl rfl)
theorem dX2_decimals_32 : decode cX2_decimals 32 = .ok (.areturn, 1) := dk_176 (dk_at dksX2_decimals_1 10 rfl rfl)
theorem dX2_decimals_33 : decode cX2_decimals 33 = .ok (.new 227, 3) := dk_187 0 227 (dk_at dksX2_decimals_1 11 rfl rfl)
theorem dX2_decimals_36 : decode cX2_decimals 36 = .ok (.dup, 1) := dk_89 (dk_at dksX2_decimals_1 14 rfl rfl)
theorem dX2_decimals_37 : decode cX2_decimals 37 = .ok (.invokespecial 229, 3) := dk_183 0 229 (dk_at dksX2_decimals_1 15 rfl rfl)
theorem dX2_decimals_40 : decode cX2_decimals 40 = .ok (.astore_n 3, 1) := dk_78 (dk_at dksX2_decimals_1 18 rfl rfl)
theorem dX2_decimals_41 : decode cX2_decimals 41 = .ok (.aload_n 3, 1) := dk_45 (dk_at dksX2_decimals_1 19 rfl rfl)
theorem dX2_decimals_42 : decode cX2_decimals 42 = .ok (.iload_n 2, 1) := dk_28 (dk_at dksX2_decimals_1 20 rfl rfl)
theorem dX2_decimals_43 : decode cX2_decimals 43 = .ok (.aload_n 0, 1) := dk_42 (dk_at dksX2_decimals_1 21 rfl rfl)
theorem dX2_decimals_44 : decode cX2_decimals 44 = .ok (.getfield 28, 3) := dk_180 0 28 (dk_at dksX2_decimals_2 0 rfl rfl)
theorem dX2_decimals_47 : decode cX2_decimals 47 = .ok (.invokestatic 243, 3) := dk_184 0 243 (dk_at dksX2_decimals_2 3 rfl rfl)
theorem dX2_decimals_50 : decode cX2_decimals 50 = .ok (.idiv, 1) := dk_108 (dk_at dksX2_decimals_2 6 rfl rfl)
theorem dX2_decimals_51 : decode cX2_decimals 51 = .ok (.invokevirtual 236, 3) := dk_182 0 236 (dk_at dksX2_decimals_2 7 rfl rfl)
theorem dX2_decimals_54 : decode cX2_decimals 54 = .ok (.bipush 46, 2) := dk_16 46 (dk_at dksX2_decimals_2 10 rfl rfl)
theorem dX2_decimals_56 : decode cX2_decimals 56 = .ok (.invokevirtual 246, 3) := dk_182 0 246 (dk_at dksX2_decimals_2 12 rfl rfl)
theorem dX2_decimals_59 : decode cX2_decimals 59 = .ok (.pop, 1) := dk_87 (dk_at dksX2_decimals_2 15 rfl rfl)
theorem dX2_decimals_60 : decode cX2_decimals 60 = .ok (.aload_n 0, 1) := dk_42 (dk_at dksX2_decimals_2 16 rfl rfl)
theorem dX2_decimals_61 : decode cX2_decimals 61 = .ok (.getfield 28, 3) := dk_180 0 28 (dk_at dksX2_decimals_2 17 rfl rfl)
theorem dX2_decimals_64 : decode cX2_decimals 64 = .ok (.iconst 1, 1) := dk_4 (dk_at dksX2_decimals_2 20 rfl rfl)
theorem dX2_decimals_65 : decode cX2_decimals 65 = .ok (.isub, 1) := dk_100 (dk_at dksX2_decimals_2 21 rfl rfl)
theorem dX2_decimals_66 : decode cX2_decimals 66 = .ok (.istore 4, 2) := dk_54 4 (dk_at dksX2_decimals_2 22 rfl rfl)
theorem dX2_decimals_68 : decode cX2_decimals 68 = .ok (.iload 4, 2) := dk_21 4 (dk_at dksX2_decimals_3 0 rfl rfl)
theorem dX2_decimals_70 : decode cX2_decimals 70 = .ok (.ifCond .lt 24, 3) := dk_155 0 24 (dk_at dksX2_decimals_3 2 rfl rfl)
theorem dX2_decimals_73 : decode cX2_decimals 73 = .ok (.aload_n 3, 1) := dk_45 (dk_at dksX2_decimals_3 5 rfl rfl)
theorem dX2_decimals_74 : decode cX2_decimals 74 = .ok (.iload_n 2, 1) := dk_28 (dk_at dksX2_decimals_3 6 rfl rfl)
theorem dX2_decimals_75 : decode cX2_decimals 75 = .ok (.iload 4, 2) := dk_21 4 (dk_at dksX2_decimals_3 7 rfl rfl)
theorem dX2_decimals_77 : decode cX2_decimals 77 = .ok (.invokestatic 243, 3) := dk_184 0 243 (dk_at dksX2_decimals_3 9 rfl rfl)
theorem dX2_decimals_80 : decode cX2_decimals 80 = .ok (.idiv, 1) := dk_108 (dk_at dksX2_decimals_3 12 rfl rfl)
theorem dX2_decimals_81 : decode cX2_decimals 81 = .ok (.bipush 10, 2) := dk_16 10 (dk_at dksX2_decimals_3 13 rfl rfl)
theorem dX2_decimals_83 : decode cX2_decimals 83 = .ok (.irem, 1) := dk_112 (dk_at dksX2_decimals_3 15 rfl rfl)
theorem dX2_decimals_84 : decode cX2_decimals 84 = .ok (.invokevirtual 236, 3) := dk_182 0 236 (dk_at dksX2_decimals_3 16 rfl rfl)
theorem dX2_decimals_87 : decode cX2_decimals 87 = .ok (.pop, 1) := dk_87 (dk_at dksX2_decimals_3 19 rfl rfl)
theorem dX2_decimals_88 : decode cX2_decimals 88 = .ok (.iinc 4 (-1), 3) := dk_132 4 255 (dk_at dksX2_decimals_3 20 rfl rfl)
theorem dX2_decimals_91 : decode cX2_decimals 91 = .ok (.goto (-23), 3) := dk_167 255 233 (dk_at dksX2_decimals_4 0 rfl rfl)
theorem dX2_decimals_94 : decode cX2_decimals 94 = .ok (.aload_n 3, 1) := dk_45 (dk_at dksX2_decimals_4 3 rfl rfl)
theorem dX2_decimals_95 : decode cX2_decimals 95 = .ok (.invokevirtual 239, 3) := dk_182 0 239 (dk_at dksX2_decimals_4 4 rfl rfl)
theorem dX2_decimals_98 : decode cX2_decimals 98 = .ok (.areturn, 1) := dk_176 (dk_at dksX2_decimals_4 7 rfl rfl)
theorem q126 : (Jvm.Cond.initialized "DoughLedger$Bakery") ∈ lw_all := lw_g (lw_at lw_m1 2 rfl) rfl
theorem q203 : (Jvm.Cond.instantiable "DoughLedger$Bakery" (11 : Nat)) ∈ lw_all := lw_g (lw_at lw_m1 79 rfl) rfl
theorem q205 : (Jvm.Cond.instanceMethod ({ cls := "DoughLedger$Bakery", name := "<init>", desc := "()V" } : Jvm.MethodName)) ∈ lw_all := lw_g (lw_at lw_m1 81 rfl) rfl
theorem q206 : (Jvm.Cond.code ({ cls := "DoughLedger$Bakery", name := "<init>", desc := "()V" } : Jvm.MethodName) prog_2_method_1_code (1 : Nat) (Option.none : Option Jvm.ClassFile.FieldType)) ∈ lw_all := lw_g (lw_at lw_m1 82 rfl) rfl
theorem q207 : (Jvm.Cond.methodLink "DoughLedger$Bakery" (3 : Nat) ({ cls := "java/lang/Object", name := "<init>", desc := "()V" } : Jvm.MethodName)) ∈ lw_all := lw_g (lw_at lw_m1 83 rfl) rfl
theorem q208 : (Jvm.Cond.classLink "DoughLedger$Bakery" (9 : Nat) "java/util/TreeMap") ∈ lw_all := lw_g (lw_at lw_m1 84 rfl) rfl
theorem q210 : (Jvm.Cond.methodLink "DoughLedger$Bakery" (11 : Nat) ({ cls := "java/util/TreeMap", name := "<init>", desc := "()V" } : Jvm.MethodName)) ∈ lw_all := lw_g (lw_at lw_m1 86 rfl) rfl
theorem q242 : (Jvm.Cond.classLink "DoughLedger$Bakery" (18 : Nat) "java/util/ArrayList") ∈ lw_all := lw_g (lw_at lw_m1 118 rfl) rfl
theorem q244 : (Jvm.Cond.methodLink "DoughLedger$Bakery" (20 : Nat) ({ cls := "java/util/ArrayList", name := "<init>", desc := "()V" } : Jvm.MethodName)) ∈ lw_all := lw_g (lw_at lw_m1 120 rfl) rfl
theorem q275 : (Jvm.Cond.fieldLink "DoughLedger$Bakery" (12 : Nat) "DoughLedger$Bakery" "doughs" "Ljava/util/TreeMap;") ∈ lw_all := lw_g (lw_at lw_m1 151 rfl) rfl
theorem q277 : (Jvm.Cond.fieldLink "DoughLedger$Bakery" (21 : Nat) "DoughLedger$Bakery" "bowls" "Ljava/util/List;") ∈ lw_all := lw_g (lw_at lw_m1 153 rfl) rfl
theorem q279 : (Jvm.Cond.fieldLink "DoughLedger$Bakery" (25 : Nat) "DoughLedger$Bakery" "loaves" "Ljava/util/List;") ∈ lw_all := lw_g (lw_at lw_m1 155 rfl) rfl
theorem q281 : (Jvm.Cond.fieldLink "DoughLedger$Bakery" (28 : Nat) "DoughLedger$Bakery" "scale" "I") ∈ lw_all := lw_g (lw_at lw_m1 157 rfl) rfl
theorem q282 : (Jvm.Cond.fieldLink "DoughLedger$Bakery" (32 : Nat) "DoughLedger$Bakery" "rule" "C") ∈ lw_all := lw_g (lw_at lw_m1 158 rfl) rfl
theorem q283 : (Jvm.Cond.fieldLink "DoughLedger$Bakery" (36 : Nat) "DoughLedger$Bakery" "ovens" "I") ∈ lw_all := lw_g (lw_at lw_m1 159 rfl) rfl
theorem q285 : (Jvm.Cond.fieldLink "DoughLedger$Bakery" (104 : Nat) "DoughLedger$Bakery" "poured" "J") ∈ lw_all := lw_g (lw_at lw_m1 161 rfl) rfl
theorem q287 : (Jvm.Cond.fieldLink "DoughLedger$Bakery" (108 : Nat) "DoughLedger$Bakery" "spilled" "J") ∈ lw_all := lw_g (lw_at lw_m1 163 rfl) rfl
theorem q289 : (Jvm.Cond.fieldLink "DoughLedger$Bakery" (111 : Nat) "DoughLedger$Bakery" "gone" "J") ∈ lw_all := lw_g (lw_at lw_m1 165 rfl) rfl
theorem q291 : (Jvm.Cond.fieldLink "DoughLedger$Bakery" (114 : Nat) "DoughLedger$Bakery" "error" "J") ∈ lw_all := lw_g (lw_at lw_m1 167 rfl) rfl
theorem q293 : (Jvm.Cond.fieldLink "DoughLedger$Bakery" (117 : Nat) "DoughLedger$Bakery" "exact" "J") ∈ lw_all := lw_g (lw_at lw_m1 169 rfl) rfl
theorem q295 : (Jvm.Cond.laysFinal "DoughLedger$Bakery" "DoughLedger$Bakery" "doughs" "Ljava/util/TreeMap;") ∈ lw_all := lw_g (lw_at lw_m1 171 rfl) rfl
theorem q296 : (Jvm.Cond.soleField "DoughLedger$Bakery" "doughs") ∈ lw_all := lw_g (lw_at lw_m1 172 rfl) rfl
theorem q297 : (Jvm.Cond.laysFinal "DoughLedger$Bakery" "DoughLedger$Bakery" "bowls" "Ljava/util/List;") ∈ lw_all := lw_g (lw_at lw_m1 173 rfl) rfl
theorem q298 : (Jvm.Cond.soleField "DoughLedger$Bakery" "bowls") ∈ lw_all := lw_g (lw_at lw_m1 174 rfl) rfl
theorem q299 : (Jvm.Cond.laysFinal "DoughLedger$Bakery" "DoughLedger$Bakery" "loaves" "Ljava/util/List;") ∈ lw_all := lw_g (lw_at lw_m1 175 rfl) rfl
theorem q300 : (Jvm.Cond.soleField "DoughLedger$Bakery" "loaves") ∈ lw_all := lw_g (lw_at lw_m1 176 rfl) rfl
theorem q301 : (Jvm.Cond.lays "DoughLedger$Bakery" "DoughLedger$Bakery" "scale" "I") ∈ lw_all := lw_g (lw_at lw_m1 177 rfl) rfl
theorem q302 : (Jvm.Cond.soleField "DoughLedger$Bakery" "scale") ∈ lw_all := lw_g (lw_at lw_m1 178 rfl) rfl
theorem q303 : (Jvm.Cond.lays "DoughLedger$Bakery" "DoughLedger$Bakery" "rule" "C") ∈ lw_all := lw_g (lw_at lw_m1 179 rfl) rfl
theorem q304 : (Jvm.Cond.soleField "DoughLedger$Bakery" "rule") ∈ lw_all := lw_g (lw_at lw_m1 180 rfl) rfl
theorem q305 : (Jvm.Cond.lays "DoughLedger$Bakery" "DoughLedger$Bakery" "ovens" "I") ∈ lw_all := lw_g (lw_at lw_m1 181 rfl) rfl
theorem q306 : (Jvm.Cond.soleField "DoughLedger$Bakery" "ovens") ∈ lw_all := lw_g (lw_at lw_m1 182 rfl) rfl
theorem q307 : (Jvm.Cond.lays "DoughLedger$Bakery" "DoughLedger$Bakery" "poured" "J") ∈ lw_all := lw_g (lw_at lw_m1 183 rfl) rfl
theorem q308 : (Jvm.Cond.soleField "DoughLedger$Bakery" "poured") ∈ lw_all := lw_g (lw_at lw_m1 184 rfl) rfl
theorem q309 : (Jvm.Cond.lays "DoughLedger$Bakery" "DoughLedger$Bakery" "spilled" "J") ∈ lw_all := lw_g (lw_at lw_m1 185 rfl) rfl
theorem q310 : (Jvm.Cond.soleField "DoughLedger$Bakery" "spilled") ∈ lw_all := lw_g (lw_at lw_m1 186 rfl) rfl
theorem q311 : (Jvm.Cond.lays "DoughLedger$Bakery" "DoughLedger$Bakery" "gone" "J") ∈ lw_all := lw_g (lw_at lw_m1 187 rfl) rfl
theorem q312 : (Jvm.Cond.soleField "DoughLedger$Bakery" "gone") ∈ lw_all := lw_g (lw_at lw_m1 188 rfl) rfl
theorem q313 : (Jvm.Cond.lays "DoughLedger$Bakery" "DoughLedger$Bakery" "error" "J") ∈ lw_all := lw_g (lw_at lw_m1 189 rfl) rfl
theorem q314 : (Jvm.Cond.soleField "DoughLedger$Bakery" "error") ∈ lw_all := lw_g (lw_at lw_m1 190 rfl) rfl
theorem q315 : (Jvm.Cond.lays "DoughLedger$Bakery" "DoughLedger$Bakery" "exact" "J") ∈ lw_all := lw_g (lw_at lw_m1 191 rfl) rfl
theorem q316 : (Jvm.Cond.soleField "DoughLedger$Bakery" "exact") ∈ lw_all := lw_g (lw_at lw_m1 192 rfl) rfl
theorem q317 : (Jvm.Cond.superclass "DoughLedger$Bakery" "java/lang/Object") ∈ lw_all := lw_g (lw_at lw_m1 193 rfl) rfl
theorem q439 : (Jvm.Cond.instanceMethod ({ cls := "DoughLedger$Bakery", name := "baking", desc := "()LDoughLedger$Baking;" } : Jvm.MethodName)) ∈ lw_all := lw_g (lw_at lw_m2 75 rfl) rfl
theorem q440 : (Jvm.Cond.selects "DoughLedger$Bakery" ({ cls := "DoughLedger$Bakery", name := "baking", desc := "()LDoughLedger$Baking;" } : Jvm.MethodName) ({ cls := "DoughLedger$Bakery", name := "baking", desc := "()LDoughLedger$Baking;" } : Jvm.MethodName)) ∈ lw_all := lw_g (lw_at lw_m2 76 rfl) rfl
theorem q441 : (Jvm.Cond.code ({ cls := "DoughLedger$Bakery", name := "baking", desc := "()LDoughLedger$Baking;" } : Jvm.MethodName) prog_2_method_24_code (1 : Nat) (Option.some (Jvm.ClassFile.FieldType.object "DoughLedger$Baking"))) ∈ lw_all := lw_g (lw_at lw_m2 77 rfl) rfl
theorem q442 : (Jvm.Cond.classLink "DoughLedger$Bakery" (224 : Nat) "DoughLedger$Baking") ∈ lw_all := lw_g (lw_at lw_m2 78 rfl) rfl
theorem q444 : (Jvm.Cond.methodLink "DoughLedger$Bakery" (226 : Nat) ({ cls := "DoughLedger$Baking", name := "<init>", desc := "(Ljava/util/List;I)V" } : Jvm.MethodName)) ∈ lw_all := lw_g (lw_at lw_m2 80 rfl) rfl
theorem q920 : (Jvm.Cond.selects "DoughLedger$Bakery" ({ cls := "java/lang/Object", name := "getClass", desc := "()Ljava/lang/Class;" } : Jvm.MethodName) ({ cls := "java/lang/Object", name := "getClass", desc := "()Ljava/lang/Class;" } : Jvm.MethodName)) ∈ lw_all := lw_g (lw_at lw_m4 76 rfl) rfl
theorem q1638 : (Jvm.Cond.instanceMethod ({ cls := "DoughLedger$Bakery", name := "crumbs", desc := "()I" } : Jvm.MethodName)) ∈ lw_all := lw_g (lw_at lw_m7 74 rfl) rfl
theorem q1639 : (Jvm.Cond.selects "DoughLedger$Bakery" ({ cls := "DoughLedger$Bakery", name := "crumbs", desc := "()I" } : Jvm.MethodName) ({ cls := "DoughLedger$Bakery", name := "crumbs", desc := "()I" } : Jvm.MethodName)) ∈ lw_all := lw_g (lw_at lw_m7 75 rfl) rfl
theorem q1640 : (Jvm.Cond.code ({ cls := "DoughLedger$Bakery", name := "crumbs", desc := "()I" } : Jvm.MethodName) prog_2_method_8_code (4 : Nat) (Option.some Jvm.ClassFile.FieldType.int)) ∈ lw_all := lw_g (lw_at lw_m7 76 rfl) rfl
theorem q1641 : (Jvm.Cond.interfaceEntry "DoughLedger$Bakery" (80 : Nat)) ∈ lw_tbl := lw_at lw_m7 77 rfl
theorem q1642 : (Jvm.Cond.methodLink "DoughLedger$Bakery" (80 : Nat) ({ cls := "java/util/List", name := "iterator", desc := "()Ljava/util/Iterator;" } : Jvm.MethodName)) ∈ lw_all := lw_g (lw_at lw_m7 78 rfl) rfl
theorem q1643 : (Jvm.Cond.interfaceEntry "DoughLedger$Bakery" (50 : Nat)) ∈ lw_tbl := lw_at lw_m7 79 rfl
theorem q1644 : (Jvm.Cond.methodLink "DoughLedger$Bakery" (50 : Nat) ({ cls := "java/util/Iterator", name := "hasNext", desc := "()Z" } : Jvm.MethodName)) ∈ lw_all := lw_g (lw_at lw_m7 80 rfl) rfl
theorem q1645 : (Jvm.Cond.interfaceEntry "DoughLedger$Bakery" (56 : Nat)) ∈ lw_tbl := lw_at lw_m7 81 rfl
theorem q1646 : (Jvm.Cond.methodLink "DoughLedger$Bakery" (56 : Nat) ({ cls := "java/util/Iterator", name := "next", desc := "()Ljava/lang/Object;" } : Jvm.MethodName)) ∈ lw_all := lw_g (lw_at lw_m7 82 rfl) rfl
theorem q1647 : (Jvm.Cond.classLink "DoughLedger$Bakery" (83 : Nat) "DoughLedger$Bowl") ∈ lw_all := lw_g (lw_at lw_m7 83 rfl) rfl
theorem q1648 : (Jvm.Cond.classLink "DoughLedger$Bakery" (98 : Nat) "DoughLedger$Loaf") ∈ lw_all := lw_g (lw_at lw_m7 84 rfl) rfl
theorem q1654 : (Jvm.Cond.instanceMethod ({ cls := "DoughLedger$Bakery", name := "crumbsByAccounts", desc := "()J" } : Jvm.MethodName)) ∈ lw_all := lw_g (lw_at lw_m7 90 rfl) rfl
theorem q1655 : (Jvm.Cond.selects "DoughLedger$Bakery" ({ cls := "DoughLedger$Bakery", name := "crumbsByAccounts", desc := "()J" } : Jvm.MethodName) ({ cls := "DoughLedger$Bakery", name := "crumbsByAccounts", desc := "()J" } : Jvm.MethodName)) ∈ lw_all := lw_g (lw_at lw_m7 91 rfl) rfl
theorem q1656 : (Jvm.Cond.code ({ cls := "DoughLedger$Bakery", name := "crumbsByAccounts", desc := "()J" } : Jvm.MethodName) prog_2_method_27_code (1 : Nat) (Option.some Jvm.ClassFile.FieldType.long)) ∈ lw_all := lw_g (lw_at lw_m7 92 rfl) rfl
theorem q1671 : (Jvm.Cond.instanceMethod ({ cls := "DoughLedger$Bakery", name := "isConsistent", desc := "()Z" } : Jvm.MethodName)) ∈ lw_all := lw_g (lw_at lw_m7 107 rfl) rfl
theorem q1672 : (Jvm.Cond.selects "DoughLedger$Bakery" ({ cls := "DoughLedger$Bakery", name := "isConsistent", desc := "()Z" } : Jvm.MethodName) ({ cls := "DoughLedger$Bakery", name := "isConsistent", desc := "()Z" } : Jvm.MethodName)) ∈ lw_all := lw_g (lw_at lw_m7 108 rfl) rfl
theorem q1673 : (Jvm.Cond.code ({ cls := "DoughLedger$Bakery", name := "isConsistent", desc := "()Z" } : Jvm.MethodName) prog_2_method_32_code (5 : Nat) (Option.some Jvm.ClassFile.FieldType.boolean)) ∈ lw_all := lw_g (lw_at lw_m7 109 rfl) rfl
theorem q1674 : (Jvm.Cond.methodLink "DoughLedger$Bakery" (274 : Nat) ({ cls := "DoughLedger$Bakery", name := "baking", desc := "()LDoughLedger$Baking;" } : Jvm.MethodName)) ∈ lw_all := lw_g (lw_at lw_m7 110 rfl) rfl
theorem q1675 : (Jvm.Cond.methodLink "DoughLedger$Bakery" (278 : Nat) ({ cls := "DoughLedger$Baking", name := "shortest", desc := "()I" } : Jvm.MethodName)) ∈ lw_all := lw_g (lw_at lw_m7 111 rfl) rfl
theorem q1676 : (Jvm.Cond.methodLink "DoughLedger$Bakery" (281 : Nat) ({ cls := "DoughLedger$Bakery", name := "areDoughsAlike", desc := "()Z" } : Jvm.MethodName)) ∈ lw_all := lw_g (lw_at lw_m7 112 rfl) rfl
theorem q1677 : (Jvm.Cond.privateMethod ({ cls := "DoughLedger$Bakery", name := "areDoughsAlike", desc := "()Z" } : Jvm.MethodName)) ∈ lw_tbl := lw_at lw_m7 113 rfl
theorem q1678 : (Jvm.Cond.instanceMethod ({ cls := "DoughLedger$Bakery", name := "areDoughsAlike", desc := "()Z" } : Jvm.MethodName)) ∈ lw_all := lw_g (lw_at lw_m7 114 rfl) rfl
theorem q1679 : (Jvm.Cond.code ({ cls := "DoughLedger$Bakery", name := "areDoughsAlike", desc := "()Z" } : Jvm.MethodName) prog_2_method_30_code (7 : Nat) (Option.some Jvm.ClassFile.FieldType.boolean)) ∈ lw_all := lw_g (lw_at lw_m7 115 rfl) rfl
theorem q1680 : (Jvm.Cond.methodLink "DoughLedger$Bakery" (40 : Nat) ({ cls := "java/util/TreeMap", name := "keySet", desc := "()Ljava/util/Set;" } : Jvm.MethodName)) ∈ lw_all := lw_g (lw_at lw_m7 116 rfl) rfl
theorem q1701 : (Jvm.Cond.interfaceEntry "DoughLedger$Bakery" (44 : Nat)) ∈ lw_tbl := lw_at lw_m7 137 rfl
theorem q1702 : (Jvm.Cond.methodLink "DoughLedger$Bakery" (44 : Nat) ({ cls := "java/util/Set", name := "iterator", desc := "()Ljava/util/Iterator;" } : Jvm.MethodName)) ∈ lw_all := lw_g (lw_at lw_m7 138 rfl) rfl
theorem q1768 : (Jvm.Cond.classLink "DoughLedger$Bakery" (60 : Nat) "java/lang/Integer") ∈ lw_all := lw_g (lw_at lw_m7 204 rfl) rfl
theorem q1769 : (Jvm.Cond.methodLink "DoughLedger$Bakery" (62 : Nat) ({ cls := "java/lang/Integer", name := "intValue", desc := "()I" } : Jvm.MethodName)) ∈ lw_all := lw_g (lw_at lw_m7 205 rfl) rfl
theorem q1773 : (Jvm.Cond.methodLink "DoughLedger$Bakery" (178 : Nat) ({ cls := "DoughLedger$Bakery", name := "crumbsIn", desc := "(I)I" } : Jvm.MethodName)) ∈ lw_all := lw_g (lw_at lw_m7 209 rfl) rfl
theorem q1774 : (Jvm.Cond.instanceMethod ({ cls := "DoughLedger$Bakery", name := "crumbsIn", desc := "(I)I" } : Jvm.MethodName)) ∈ lw_all := lw_g (lw_at lw_m7 210 rfl) rfl
theorem q1775 : (Jvm.Cond.selects "DoughLedger$Bakery" ({ cls := "DoughLedger$Bakery", name := "crumbsIn", desc := "(I)I" } : Jvm.MethodName) ({ cls := "DoughLedger$Bakery", name := "crumbsIn", desc := "(I)I" } : Jvm.MethodName)) ∈ lw_all := lw_g (lw_at lw_m7 211 rfl) rfl
theorem q1776 : (Jvm.Cond.code ({ cls := "DoughLedger$Bakery", name := "crumbsIn", desc := "(I)I" } : Jvm.MethodName) prog_2_method_6_code (2 : Nat) (Option.some Jvm.ClassFile.FieldType.int)) ∈ lw_all := lw_g (lw_at lw_m7 212 rfl) rfl
theorem q1777 : (Jvm.Cond.methodLink "DoughLedger$Bakery" (66 : Nat) ({ cls := "java/lang/Integer", name := "valueOf", desc := "(I)Ljava/lang/Integer;" } : Jvm.MethodName)) ∈ lw_all := lw_g (lw_at lw_m7 213 rfl) rfl
theorem q1796 : (Jvm.Cond.methodLink "DoughLedger$Bakery" (70 : Nat) ({ cls := "java/util/TreeMap", name := "get", desc := "(Ljava/lang/Object;)Ljava/lang/Object;" } : Jvm.MethodName)) ∈ lw_all := lw_g (lw_at lw_m7 232 rfl) rfl
theorem q1816 : (Jvm.Cond.classLink "DoughLedger$Bakery" (74 : Nat) "DoughLedger$Fraction") ∈ lw_all := lw_g (lw_at lw_m8 12 rfl) rfl
theorem q1817 : (Jvm.Cond.methodLinkNest "DoughLedger$Bakery" (128 : Nat) ({ cls := "DoughLedger", name := "rounding", desc := "(C)LDoughLedger$Rounding;" } : Jvm.MethodName) "DoughLedger") ∈ lw_tbl := lw_at lw_m8 13 rfl
theorem q1831 : (Jvm.Cond.methodLink "DoughLedger$Bakery" (132 : Nat) ({ cls := "DoughLedger$Fraction", name := "crumbs", desc := "(ILDoughLedger$Rounding;)I" } : Jvm.MethodName)) ∈ lw_all := lw_g (lw_at lw_m8 27 rfl) rfl
theorem q1842 : (Jvm.Cond.methodLink "DoughLedger$Bakery" (255 : Nat) ({ cls := "DoughLedger$Bakery", name := "crumbsByDigits", desc := "(I)I" } : Jvm.MethodName)) ∈ lw_all := lw_g (lw_at lw_m8 38 rfl) rfl
theorem q1843 : (Jvm.Cond.instanceMethod ({ cls := "DoughLedger$Bakery", name := "crumbsByDigits", desc := "(I)I" } : Jvm.MethodName)) ∈ lw_all := lw_g (lw_at lw_m8 39 rfl) rfl
theorem q1844 : (Jvm.Cond.selects "DoughLedger$Bakery" ({ cls := "DoughLedger$Bakery", name := "crumbsByDigits", desc := "(I)I" } : Jvm.MethodName) ({ cls := "DoughLedger$Bakery", name := "crumbsByDigits", desc := "(I)I" } : Jvm.MethodName)) ∈ lw_all := lw_g (lw_at lw_m8 40 rfl) rfl
theorem q1845 : (Jvm.Cond.code ({ cls := "DoughLedger$Bakery", name := "crumbsByDigits", desc := "(I)I" } : Jvm.MethodName) prog_2_method_7_code (2 : Nat) (Option.some Jvm.ClassFile.FieldType.int)) ∈ lw_all := lw_g (lw_at lw_m8 41 rfl) rfl
theorem q1846 : (Jvm.Cond.methodLink "DoughLedger$Bakery" (136 : Nat) ({ cls := "DoughLedger$Fraction", name := "crumbsByDigits", desc := "(ILDoughLedger$Rounding;)I" } : Jvm.MethodName)) ∈ lw_all := lw_g (lw_at lw_m8 42 rfl) rfl
theorem q1850 : (Jvm.Cond.methodLink "DoughLedger$Bakery" (257 : Nat) ({ cls := "DoughLedger$Bakery", name := "nearness", desc := "(II)LDoughLedger$Nearness;" } : Jvm.MethodName)) ∈ lw_all := lw_g (lw_at lw_m8 46 rfl) rfl
theorem q1851 : (Jvm.Cond.instanceMethod ({ cls := "DoughLedger$Bakery", name := "nearness", desc := "(II)LDoughLedger$Nearness;" } : Jvm.MethodName)) ∈ lw_all := lw_g (lw_at lw_m8 47 rfl) rfl
theorem q1852 : (Jvm.Cond.selects "DoughLedger$Bakery" ({ cls := "DoughLedger$Bakery", name := "nearness", desc := "(II)LDoughLedger$Nearness;" } : Jvm.MethodName) ({ cls := "DoughLedger$Bakery", name := "nearness", desc := "(II)LDoughLedger$Nearness;" } : Jvm.MethodName)) ∈ lw_all := lw_g (lw_at lw_m8 48 rfl) rfl
theorem q1853 : (Jvm.Cond.code ({ cls := "DoughLedger$Bakery", name := "nearness", desc := "(II)LDoughLedger$Nearness;" } : Jvm.MethodName) prog_2_method_22_code (3 : Nat) (Option.some (Jvm.ClassFile.FieldType.object "DoughLedger$Nearness"))) ∈ lw_all := lw_g (lw_at lw_m8 49 rfl) rfl
theorem q1854 : (Jvm.Cond.classLink "DoughLedger$Bakery" (216 : Nat) "DoughLedger$Nearness") ∈ lw_all := lw_g (lw_at lw_m8 50 rfl) rfl
theorem q1856 : (Jvm.Cond.methodLink "DoughLedger$Bakery" (218 : Nat) ({ cls := "DoughLedger$Nearness", name := "<init>", desc := "(LDoughLedger$Fraction;LDoughLedger$Fraction;)V" } : Jvm.MethodName)) ∈ lw_all := lw_g (lw_at lw_m8 52 rfl) rfl
theorem q1862 : (Jvm.Cond.fieldLinkNest "DoughLedger$Bakery" (261 : Nat) "DoughLedger$Nearness" "below" "J" "DoughLedger") ∈ lw_tbl := lw_at lw_m8 58 rfl
theorem q1869 : (Jvm.Cond.methodLink "DoughLedger$Bakery" (264 : Nat) ({ cls := "DoughLedger$Nearness", name := "byHalves", desc := "(IZ)J" } : Jvm.MethodName)) ∈ lw_all := lw_g (lw_at lw_m8 65 rfl) rfl
theorem q1884 : (Jvm.Cond.methodLink "DoughLedger$Bakery" (268 : Nat) ({ cls := "DoughLedger$Nearness", name := "byTrying", desc := "(I)I" } : Jvm.MethodName)) ∈ lw_all := lw_g (lw_at lw_m8 80 rfl) rfl
theorem q1892 : (Jvm.Cond.methodLink "DoughLedger$Bakery" (284 : Nat) ({ cls := "DoughLedger$Baking", name := "shortestByDeciding", desc := "()I" } : Jvm.MethodName)) ∈ lw_all := lw_g (lw_at lw_m8 88 rfl) rfl
theorem q1893 : (Jvm.Cond.methodLink "DoughLedger$Bakery" (287 : Nat) ({ cls := "DoughLedger$Baking", name := "greedy", desc := "()I" } : Jvm.MethodName)) ∈ lw_all := lw_g (lw_at lw_m8 89 rfl) rfl
theorem q1894 : (Jvm.Cond.interfaceEntry "DoughLedger$Bakery" (127 : Nat)) ∈ lw_tbl := lw_at lw_m8 90 rfl
theorem q1895 : (Jvm.Cond.methodLink "DoughLedger$Bakery" (127 : Nat) ({ cls := "java/util/List", name := "size", desc := "()I" } : Jvm.MethodName)) ∈ lw_all := lw_g (lw_at lw_m8 91 rfl) rfl
theorem q1896 : (Jvm.Cond.methodLink "DoughLedger$Bakery" (290 : Nat) ({ cls := "DoughLedger$Bakery", name := "areSharesAlike", desc := "(I)Z" } : Jvm.MethodName)) ∈ lw_all := lw_g (lw_at lw_m8 92 rfl) rfl
theorem q1897 : (Jvm.Cond.privateMethod ({ cls := "DoughLedger$Bakery", name := "areSharesAlike", desc := "(I)Z" } : Jvm.MethodName)) ∈ lw_tbl := lw_at lw_m8 93 rfl
theorem q1898 : (Jvm.Cond.instanceMethod ({ cls := "DoughLedger$Bakery", name := "areSharesAlike", desc := "(I)Z" } : Jvm.MethodName)) ∈ lw_all := lw_g (lw_at lw_m8 94 rfl) rfl
theorem q1899 : (Jvm.Cond.code ({ cls := "DoughLedger$Bakery", name := "areSharesAlike", desc := "(I)Z" } : Jvm.MethodName) prog_2_method_31_code (7 : Nat) (Option.some Jvm.ClassFile.FieldType.boolean)) ∈ lw_all := lw_g (lw_at lw_m8 95 rfl) rfl
theorem q1900 : (Jvm.Cond.methodLink "DoughLedger$Bakery" (202 : Nat) ({ cls := "DoughLedger$Bakery", name := "sharing", desc := "(I)LDoughLedger$Sharing;" } : Jvm.MethodName)) ∈ lw_all := lw_g (lw_at lw_m8 96 rfl) rfl
theorem q1901 : (Jvm.Cond.instanceMethod ({ cls := "DoughLedger$Bakery", name := "sharing", desc := "(I)LDoughLedger$Sharing;" } : Jvm.MethodName)) ∈ lw_all := lw_g (lw_at lw_m8 97 rfl) rfl
theorem q1902 : (Jvm.Cond.selects "DoughLedger$Bakery" ({ cls := "DoughLedger$Bakery", name := "sharing", desc := "(I)LDoughLedger$Sharing;" } : Jvm.MethodName) ({ cls := "DoughLedger$Bakery", name := "sharing", desc := "(I)LDoughLedger$Sharing;" } : Jvm.MethodName)) ∈ lw_all := lw_g (lw_at lw_m8 98 rfl) rfl
theorem q1903 : (Jvm.Cond.code ({ cls := "DoughLedger$Bakery", name := "sharing", desc := "(I)LDoughLedger$Sharing;" } : Jvm.MethodName) prog_2_method_23_code (2 : Nat) (Option.some (Jvm.ClassFile.FieldType.object "DoughLedger$Sharing"))) ∈ lw_all := lw_g (lw_at lw_m8 99 rfl) rfl
theorem q1904 : (Jvm.Cond.classLink "DoughLedger$Bakery" (207 : Nat) "DoughLedger$Sharing") ∈ lw_all := lw_g (lw_at lw_m8 100 rfl) rfl
theorem q1906 : (Jvm.Cond.interfaceEntry "DoughLedger$Bakery" (182 : Nat)) ∈ lw_tbl := lw_at lw_m8 102 rfl
theorem q1907 : (Jvm.Cond.methodLink "DoughLedger$Bakery" (182 : Nat) ({ cls := "java/util/List", name := "get", desc := "(I)Ljava/lang/Object;" } : Jvm.MethodName)) ∈ lw_all := lw_g (lw_at lw_m8 103 rfl) rfl
theorem q1908 : (Jvm.Cond.methodLink "DoughLedger$Bakery" (221 : Nat) ({ cls := "DoughLedger$Sharing", name := "<init>", desc := "(Ljava/util/List;I)V" } : Jvm.MethodName)) ∈ lw_all := lw_g (lw_at lw_m8 104 rfl) rfl
theorem q1929 : (Jvm.Cond.methodLink "DoughLedger$Bakery" (206 : Nat) ({ cls := "DoughLedger$Sharing", name := "shares", desc := "()[I" } : Jvm.MethodName)) ∈ lw_all := lw_g (lw_at lw_m8 125 rfl) rfl
theorem q2066 : (Jvm.Cond.methodLink "DoughLedger$Bakery" (271 : Nat) ({ cls := "DoughLedger$Sharing", name := "shareByRanks", desc := "(I)I" } : Jvm.MethodName)) ∈ lw_all := lw_g (lw_at lw_m9 22 rfl) rfl
theorem q2070 : (Jvm.Cond.interfaceEntry "DoughLedger$Bakery" (199 : Nat)) ∈ lw_tbl := lw_at lw_m9 26 rfl
theorem q2071 : (Jvm.Cond.methodLink "DoughLedger$Bakery" (199 : Nat) ({ cls := "java/util/List", name := "isEmpty", desc := "()Z" } : Jvm.MethodName)) ∈ lw_all := lw_g (lw_at lw_m9 27 rfl) rfl
theorem q2098 : (Jvm.Cond.methodLink "DoughLedger$Bakery" (170 : Nat) ({ cls := "DoughLedger$Bakery", name := "crumbs", desc := "()I" } : Jvm.MethodName)) ∈ lw_all := lw_g (lw_at lw_m9 54 rfl) rfl
theorem q2099 : (Jvm.Cond.methodLink "DoughLedger$Bakery" (293 : Nat) ({ cls := "DoughLedger$Bakery", name := "crumbsByAccounts", desc := "()J" } : Jvm.MethodName)) ∈ lw_all := lw_g (lw_at lw_m9 55 rfl) rfl
theorem q2100 : (Jvm.Cond.constantLong "DoughLedger$Bakery" (197 : Nat) (27720 : Int64)) ∈ lw_all := lw_g (lw_at lw_m9 56 rfl) rfl
theorem q2106 : (Jvm.Cond.instanceMethod ({ cls := "DoughLedger$Bakery", name := "bowlsText", desc := "()Ljava/lang/String;" } : Jvm.MethodName)) ∈ lw_all := lw_g (lw_at lw_m9 62 rfl) rfl
theorem q2107 : (Jvm.Cond.selects "DoughLedger$Bakery" ({ cls := "DoughLedger$Bakery", name := "bowlsText", desc := "()Ljava/lang/String;" } : Jvm.MethodName) ({ cls := "DoughLedger$Bakery", name := "bowlsText", desc := "()Ljava/lang/String;" } : Jvm.MethodName)) ∈ lw_all := lw_g (lw_at lw_m9 63 rfl) rfl
theorem q2108 : (Jvm.Cond.code ({ cls := "DoughLedger$Bakery", name := "bowlsText", desc := "()Ljava/lang/String;" } : Jvm.MethodName) prog_2_method_29_code (4 : Nat) (Option.some (Jvm.ClassFile.FieldType.object "java/lang/String"))) ∈ lw_all := lw_g (lw_at lw_m9 64 rfl) rfl
theorem q2109 : (Jvm.Cond.classLink "DoughLedger$Bakery" (227 : Nat) "java/lang/StringBuilder") ∈ lw_all := lw_g (lw_at lw_m9 65 rfl) rfl
theorem q2110 : (Jvm.Cond.methodLink "DoughLedger$Bakery" (229 : Nat) ({ cls := "java/lang/StringBuilder", name := "<init>", desc := "()V" } : Jvm.MethodName)) ∈ lw_all := lw_g (lw_at lw_m9 66 rfl) rfl
theorem q2111 : (Jvm.Cond.methodLink "DoughLedger$Bakery" (249 : Nat) ({ cls := "java/lang/StringBuilder", name := "length", desc := "()I" } : Jvm.MethodName)) ∈ lw_all := lw_g (lw_at lw_m9 67 rfl) rfl
theorem q2112 : (Jvm.Cond.stringRef "DoughLedger$Bakery" (252 : Nat) " ") ∈ lw_tbl := lw_at lw_m9 68 rfl
theorem q2113 : (Jvm.Cond.stringRef "DoughLedger$Bakery" (230 : Nat) "") ∈ lw_tbl := lw_at lw_m9 69 rfl
theorem q2114 : (Jvm.Cond.methodLink "DoughLedger$Bakery" (232 : Nat) ({ cls := "java/lang/StringBuilder", name := "append", desc := "(Ljava/lang/String;)Ljava/lang/StringBuilder;" } : Jvm.MethodName)) ∈ lw_all := lw_g (lw_at lw_m9 70 rfl) rfl
theorem q2115 : (Jvm.Cond.methodLink "DoughLedger$Bakery" (254 : Nat) ({ cls := "DoughLedger$Bowl", name := "toString", desc := "()Ljava/lang/String;" } : Jvm.MethodName)) ∈ lw_all := lw_g (lw_at lw_m9 71 rfl) rfl
theorem q2125 : (Jvm.Cond.methodLink "DoughLedger$Bakery" (239 : Nat) ({ cls := "java/lang/StringBuilder", name := "toString", desc := "()Ljava/lang/String;" } : Jvm.MethodName)) ∈ lw_all := lw_g (lw_at lw_m9 81 rfl) rfl
theorem q2148 : (Jvm.Cond.instanceMethod ({ cls := "DoughLedger$Bakery", name := "addDough", desc := "(II)I" } : Jvm.MethodName)) ∈ lw_all := lw_g (lw_at lw_m9 104 rfl) rfl
theorem q2149 : (Jvm.Cond.selects "DoughLedger$Bakery" ({ cls := "DoughLedger$Bakery", name := "addDough", desc := "(II)I" } : Jvm.MethodName) ({ cls := "DoughLedger$Bakery", name := "addDough", desc := "(II)I" } : Jvm.MethodName)) ∈ lw_all := lw_g (lw_at lw_m9 105 rfl) rfl
theorem q2150 : (Jvm.Cond.code ({ cls := "DoughLedger$Bakery", name := "addDough", desc := "(II)I" } : Jvm.MethodName) prog_2_method_9_code (4 : Nat) (Option.some Jvm.ClassFile.FieldType.int)) ∈ lw_all := lw_g (lw_at lw_m9 106 rfl) rfl
theorem q2151 : (Jvm.Cond.methodLinkNest "DoughLedger$Bakery" (123 : Nat) ({ cls := "DoughLedger", name := "isBetween", desc := "(III)Z" } : Jvm.MethodName) "DoughLedger") ∈ lw_tbl := lw_at lw_m9 107 rfl
theorem q2154 : (Jvm.Cond.methodLinkNest "DoughLedger$Bakery" (141 : Nat) ({ cls := "DoughLedger", name := "demand", desc := "(ZC)V" } : Jvm.MethodName) "DoughLedger") ∈ lw_tbl := lw_at lw_m9 110 rfl
theorem q2183 : (Jvm.Cond.methodLink "DoughLedger$Bakery" (120 : Nat) ({ cls := "java/util/TreeMap", name := "size", desc := "()I" } : Jvm.MethodName)) ∈ lw_all := lw_g (lw_at lw_m9 139 rfl) rfl
theorem q2185 : (Jvm.Cond.methodLink "DoughLedger$Bakery" (145 : Nat) ({ cls := "DoughLedger$Fraction", name := "<init>", desc := "(II)V" } : Jvm.MethodName)) ∈ lw_all := lw_g (lw_at lw_m9 141 rfl) rfl
theorem q2195 : (Jvm.Cond.fieldLinkNest "DoughLedger$Bakery" (157 : Nat) "DoughLedger$Fraction" "above" "I" "DoughLedger") ∈ lw_tbl := lw_at lw_m9 151 rfl
theorem q2205 : (Jvm.Cond.methodLink "DoughLedger$Bakery" (76 : Nat) ({ cls := "java/util/TreeMap", name := "put", desc := "(Ljava/lang/Object;Ljava/lang/Object;)Ljava/lang/Object;" } : Jvm.MethodName)) ∈ lw_all := lw_g (lw_at lw_m9 161 rfl) rfl
theorem q2211 : (Jvm.Cond.instanceMethod ({ cls := "DoughLedger$Bakery", name := "copy", desc := "()LDoughLedger$Bakery;" } : Jvm.MethodName)) ∈ lw_all := lw_g (lw_at lw_m9 167 rfl) rfl
theorem q2212 : (Jvm.Cond.selects "DoughLedger$Bakery" ({ cls := "DoughLedger$Bakery", name := "copy", desc := "()LDoughLedger$Bakery;" } : Jvm.MethodName) ({ cls := "DoughLedger$Bakery", name := "copy", desc := "()LDoughLedger$Bakery;" } : Jvm.MethodName)) ∈ lw_all := lw_g (lw_at lw_m9 168 rfl) rfl
theorem q2213 : (Jvm.Cond.code ({ cls := "DoughLedger$Bakery", name := "copy", desc := "()LDoughLedger$Bakery;" } : Jvm.MethodName) prog_2_method_2_code (4 : Nat) (Option.some (Jvm.ClassFile.FieldType.object "DoughLedger$Bakery"))) ∈ lw_all := lw_g (lw_at lw_m9 169 rfl) rfl
theorem q2214 : (Jvm.Cond.classLink "DoughLedger$Bakery" (13 : Nat) "DoughLedger$Bakery") ∈ lw_all := lw_g (lw_at lw_m9 170 rfl) rfl
theorem q2215 : (Jvm.Cond.methodLink "DoughLedger$Bakery" (39 : Nat) ({ cls := "DoughLedger$Bakery", name := "<init>", desc := "()V" } : Jvm.MethodName)) ∈ lw_all := lw_g (lw_at lw_m9 171 rfl) rfl
theorem q2217 : (Jvm.Cond.methodLink "DoughLedger$Bakery" (91 : Nat) ({ cls := "DoughLedger$Bowl", name := "<init>", desc := "(II)V" } : Jvm.MethodName)) ∈ lw_all := lw_g (lw_at lw_m9 173 rfl) rfl
theorem q2222 : (Jvm.Cond.fieldLinkNest "DoughLedger$Bakery" (85 : Nat) "DoughLedger$Bowl" "capacity" "I" "DoughLedger") ∈ lw_tbl := lw_at lw_m9 178 rfl
theorem q2225 : (Jvm.Cond.fieldLinkNest "DoughLedger$Bakery" (88 : Nat) "DoughLedger$Bowl" "content" "I" "DoughLedger") ∈ lw_tbl := lw_at lw_m9 181 rfl
theorem q2232 : (Jvm.Cond.interfaceEntry "DoughLedger$Bakery" (94 : Nat)) ∈ lw_tbl := lw_at lw_m9 188 rfl
theorem q2233 : (Jvm.Cond.methodLink "DoughLedger$Bakery" (94 : Nat) ({ cls := "java/util/List", name := "add", desc := "(Ljava/lang/Object;)Z" } : Jvm.MethodName)) ∈ lw_all := lw_g (lw_at lw_m9 189 rfl) rfl
theorem q2287 : (Jvm.Cond.methodLink "DoughLedger$Bakery" (100 : Nat) ({ cls := "DoughLedger$Loaf", name := "copy", desc := "()LDoughLedger$Loaf;" } : Jvm.MethodName)) ∈ lw_all := lw_g (lw_at lw_m10 3 rfl) rfl
theorem q2304 : (Jvm.Cond.fieldLinkNest "DoughLedger$Bakery" (139 : Nat) "DoughLedger$Loaf" "crumbs" "I" "DoughLedger") ∈ lw_tbl := lw_at lw_m10 20 rfl
theorem q2396 : (Jvm.Cond.instanceMethod ({ cls := "DoughLedger$Bakery", name := "mix", desc := "(II)I" } : Jvm.MethodName)) ∈ lw_all := lw_g (lw_at lw_m10 112 rfl) rfl
theorem q2397 : (Jvm.Cond.selects "DoughLedger$Bakery" ({ cls := "DoughLedger$Bakery", name := "mix", desc := "(II)I" } : Jvm.MethodName) ({ cls := "DoughLedger$Bakery", name := "mix", desc := "(II)I" } : Jvm.MethodName)) ∈ lw_all := lw_g (lw_at lw_m10 113 rfl) rfl
theorem q2398 : (Jvm.Cond.code ({ cls := "DoughLedger$Bakery", name := "mix", desc := "(II)I" } : Jvm.MethodName) prog_2_method_10_code (4 : Nat) (Option.some Jvm.ClassFile.FieldType.int)) ∈ lw_all := lw_g (lw_at lw_m10 114 rfl) rfl
theorem q2399 : (Jvm.Cond.methodLink "DoughLedger$Bakery" (146 : Nat) ({ cls := "DoughLedger$Bakery", name := "hasDough", desc := "(I)Z" } : Jvm.MethodName)) ∈ lw_all := lw_g (lw_at lw_m10 115 rfl) rfl
theorem q2400 : (Jvm.Cond.instanceMethod ({ cls := "DoughLedger$Bakery", name := "hasDough", desc := "(I)Z" } : Jvm.MethodName)) ∈ lw_all := lw_g (lw_at lw_m10 116 rfl) rfl
theorem q2401 : (Jvm.Cond.selects "DoughLedger$Bakery" ({ cls := "DoughLedger$Bakery", name := "hasDough", desc := "(I)Z" } : Jvm.MethodName) ({ cls := "DoughLedger$Bakery", name := "hasDough", desc := "(I)Z" } : Jvm.MethodName)) ∈ lw_all := lw_g (lw_at lw_m10 117 rfl) rfl
theorem q2402 : (Jvm.Cond.code ({ cls := "DoughLedger$Bakery", name := "hasDough", desc := "(I)Z" } : Jvm.MethodName) prog_2_method_3_code (2 : Nat) (Option.some Jvm.ClassFile.FieldType.boolean)) ∈ lw_all := lw_g (lw_at lw_m10 118 rfl) rfl
theorem q2403 : (Jvm.Cond.methodLink "DoughLedger$Bakery" (150 : Nat) ({ cls := "DoughLedger$Fraction", name := "plus", desc := "(LDoughLedger$Fraction;)LDoughLedger$Fraction;" } : Jvm.MethodName)) ∈ lw_all := lw_g (lw_at lw_m10 119 rfl) rfl
theorem q2408 : (Jvm.Cond.methodLink "DoughLedger$Bakery" (154 : Nat) ({ cls := "DoughLedger$Fraction", name := "isDough", desc := "()Z" } : Jvm.MethodName)) ∈ lw_all := lw_g (lw_at lw_m10 124 rfl) rfl
theorem q2422 : (Jvm.Cond.instanceMethod ({ cls := "DoughLedger$Bakery", name := "addBowl", desc := "(I)I" } : Jvm.MethodName)) ∈ lw_all := lw_g (lw_at lw_m10 138 rfl) rfl
theorem q2423 : (Jvm.Cond.selects "DoughLedger$Bakery" ({ cls := "DoughLedger$Bakery", name := "addBowl", desc := "(I)I" } : Jvm.MethodName) ({ cls := "DoughLedger$Bakery", name := "addBowl", desc := "(I)I" } : Jvm.MethodName)) ∈ lw_all := lw_g (lw_at lw_m10 139 rfl) rfl
theorem q2424 : (Jvm.Cond.code ({ cls := "DoughLedger$Bakery", name := "addBowl", desc := "(I)I" } : Jvm.MethodName) prog_2_method_11_code (2 : Nat) (Option.some Jvm.ClassFile.FieldType.int)) ∈ lw_all := lw_g (lw_at lw_m10 140 rfl) rfl
theorem q2435 : (Jvm.Cond.instanceMethod ({ cls := "DoughLedger$Bakery", name := "addLoaf", desc := "(II)I" } : Jvm.MethodName)) ∈ lw_all := lw_g (lw_at lw_m10 151 rfl) rfl
theorem q2436 : (Jvm.Cond.selects "DoughLedger$Bakery" ({ cls := "DoughLedger$Bakery", name := "addLoaf", desc := "(II)I" } : Jvm.MethodName) ({ cls := "DoughLedger$Bakery", name := "addLoaf", desc := "(II)I" } : Jvm.MethodName)) ∈ lw_all := lw_g (lw_at lw_m10 152 rfl) rfl
theorem q2437 : (Jvm.Cond.code ({ cls := "DoughLedger$Bakery", name := "addLoaf", desc := "(II)I" } : Jvm.MethodName) prog_2_method_12_code (3 : Nat) (Option.some Jvm.ClassFile.FieldType.int)) ∈ lw_all := lw_g (lw_at lw_m10 153 rfl) rfl
theorem q2438 : (Jvm.Cond.methodLink "DoughLedger$Bakery" (160 : Nat) ({ cls := "DoughLedger$Loaf", name := "<init>", desc := "(III)V" } : Jvm.MethodName)) ∈ lw_all := lw_g (lw_at lw_m10 154 rfl) rfl
theorem q2449 : (Jvm.Cond.instanceMethod ({ cls := "DoughLedger$Bakery", name := "sellLoaf", desc := "(I)I" } : Jvm.MethodName)) ∈ lw_all := lw_g (lw_at lw_m10 165 rfl) rfl
theorem q2450 : (Jvm.Cond.selects "DoughLedger$Bakery" ({ cls := "DoughLedger$Bakery", name := "sellLoaf", desc := "(I)I" } : Jvm.MethodName) ({ cls := "DoughLedger$Bakery", name := "sellLoaf", desc := "(I)I" } : Jvm.MethodName)) ∈ lw_all := lw_g (lw_at lw_m10 166 rfl) rfl
theorem q2451 : (Jvm.Cond.code ({ cls := "DoughLedger$Bakery", name := "sellLoaf", desc := "(I)I" } : Jvm.MethodName) prog_2_method_13_code (3 : Nat) (Option.some Jvm.ClassFile.FieldType.int)) ∈ lw_all := lw_g (lw_at lw_m10 167 rfl) rfl
theorem q2452 : (Jvm.Cond.methodLink "DoughLedger$Bakery" (163 : Nat) ({ cls := "DoughLedger$Bakery", name := "hasLoaf", desc := "(I)Z" } : Jvm.MethodName)) ∈ lw_all := lw_g (lw_at lw_m10 168 rfl) rfl
theorem q2453 : (Jvm.Cond.instanceMethod ({ cls := "DoughLedger$Bakery", name := "hasLoaf", desc := "(I)Z" } : Jvm.MethodName)) ∈ lw_all := lw_g (lw_at lw_m10 169 rfl) rfl
theorem q2454 : (Jvm.Cond.selects "DoughLedger$Bakery" ({ cls := "DoughLedger$Bakery", name := "hasLoaf", desc := "(I)Z" } : Jvm.MethodName) ({ cls := "DoughLedger$Bakery", name := "hasLoaf", desc := "(I)Z" } : Jvm.MethodName)) ∈ lw_all := lw_g (lw_at lw_m10 170 rfl) rfl
theorem q2455 : (Jvm.Cond.code ({ cls := "DoughLedger$Bakery", name := "hasLoaf", desc := "(I)Z" } : Jvm.MethodName) prog_2_method_5_code (2 : Nat) (Option.some Jvm.ClassFile.FieldType.boolean)) ∈ lw_all := lw_g (lw_at lw_m10 171 rfl) rfl
theorem q2456 : (Jvm.Cond.interfaceEntry "DoughLedger$Bakery" (166 : Nat)) ∈ lw_tbl := lw_at lw_m10 172 rfl
theorem q2457 : (Jvm.Cond.methodLink "DoughLedger$Bakery" (166 : Nat) ({ cls := "java/util/List", name := "remove", desc := "(I)Ljava/lang/Object;" } : Jvm.MethodName)) ∈ lw_all := lw_g (lw_at lw_m10 173 rfl) rfl
theorem q2489 : (Jvm.Cond.instanceMethod ({ cls := "DoughLedger$Bakery", name := "setScale", desc := "(I)I" } : Jvm.MethodName)) ∈ lw_all := lw_g (lw_at lw_m10 205 rfl) rfl
theorem q2490 : (Jvm.Cond.selects "DoughLedger$Bakery" ({ cls := "DoughLedger$Bakery", name := "setScale", desc := "(I)I" } : Jvm.MethodName) ({ cls := "DoughLedger$Bakery", name := "setScale", desc := "(I)I" } : Jvm.MethodName)) ∈ lw_all := lw_g (lw_at lw_m10 206 rfl) rfl
theorem q2491 : (Jvm.Cond.code ({ cls := "DoughLedger$Bakery", name := "setScale", desc := "(I)I" } : Jvm.MethodName) prog_2_method_14_code (3 : Nat) (Option.some Jvm.ClassFile.FieldType.int)) ∈ lw_all := lw_g (lw_at lw_m10 207 rfl) rfl
theorem q2502 : (Jvm.Cond.instanceMethod ({ cls := "DoughLedger$Bakery", name := "setRounding", desc := "(I)I" } : Jvm.MethodName)) ∈ lw_all := lw_g (lw_at lw_m10 218 rfl) rfl
theorem q2503 : (Jvm.Cond.selects "DoughLedger$Bakery" ({ cls := "DoughLedger$Bakery", name := "setRounding", desc := "(I)I" } : Jvm.MethodName) ({ cls := "DoughLedger$Bakery", name := "setRounding", desc := "(I)I" } : Jvm.MethodName)) ∈ lw_all := lw_g (lw_at lw_m10 219 rfl) rfl
theorem q2504 : (Jvm.Cond.code ({ cls := "DoughLedger$Bakery", name := "setRounding", desc := "(I)I" } : Jvm.MethodName) prog_2_method_15_code (3 : Nat) (Option.some Jvm.ClassFile.FieldType.int)) ∈ lw_all := lw_g (lw_at lw_m10 220 rfl) rfl
theorem q2505 : (Jvm.Cond.methodLinkNest "DoughLedger$Bakery" (172 : Nat) ({ cls := "DoughLedger", name := "isRule", desc := "(I)Z" } : Jvm.MethodName) "DoughLedger") ∈ lw_tbl := lw_at lw_m10 221 rfl
theorem q2518 : (Jvm.Cond.instanceMethod ({ cls := "DoughLedger$Bakery", name := "pour", desc := "(II)I" } : Jvm.MethodName)) ∈ lw_all := lw_g (lw_at lw_m10 234 rfl) rfl
theorem q2519 : (Jvm.Cond.selects "DoughLedger$Bakery" ({ cls := "DoughLedger$Bakery", name := "pour", desc := "(II)I" } : Jvm.MethodName) ({ cls := "DoughLedger$Bakery", name := "pour", desc := "(II)I" } : Jvm.MethodName)) ∈ lw_all := lw_g (lw_at lw_m10 235 rfl) rfl
theorem q2520 : (Jvm.Cond.code ({ cls := "DoughLedger$Bakery", name := "pour", desc := "(II)I" } : Jvm.MethodName) prog_2_method_16_code (7 : Nat) (Option.some Jvm.ClassFile.FieldType.int)) ∈ lw_all := lw_g (lw_at lw_m10 236 rfl) rfl
theorem q2521 : (Jvm.Cond.methodLink "DoughLedger$Bakery" (175 : Nat) ({ cls := "DoughLedger$Bakery", name := "hasBowl", desc := "(I)Z" } : Jvm.MethodName)) ∈ lw_all := lw_g (lw_at lw_m10 237 rfl) rfl
theorem q2522 : (Jvm.Cond.instanceMethod ({ cls := "DoughLedger$Bakery", name := "hasBowl", desc := "(I)Z" } : Jvm.MethodName)) ∈ lw_all := lw_g (lw_at lw_m10 238 rfl) rfl
theorem q2523 : (Jvm.Cond.selects "DoughLedger$Bakery" ({ cls := "DoughLedger$Bakery", name := "hasBowl", desc := "(I)Z" } : Jvm.MethodName) ({ cls := "DoughLedger$Bakery", name := "hasBowl", desc := "(I)Z" } : Jvm.MethodName)) ∈ lw_all := lw_g (lw_at lw_m10 239 rfl) rfl
theorem q2524 : (Jvm.Cond.code ({ cls := "DoughLedger$Bakery", name := "hasBowl", desc := "(I)Z" } : Jvm.MethodName) prog_2_method_4_code (2 : Nat) (Option.some Jvm.ClassFile.FieldType.boolean)) ∈ lw_all := lw_g (lw_at lw_m11 0 rfl) rfl
theorem q2525 : (Jvm.Cond.methodLink "DoughLedger$Bakery" (184 : Nat) ({ cls := "DoughLedger$Bowl", name := "room", desc := "()I" } : Jvm.MethodName)) ∈ lw_all := lw_g (lw_at lw_m11 1 rfl) rfl
theorem q2529 : (Jvm.Cond.methodLink "DoughLedger$Bakery" (187 : Nat) ({ cls := "java/lang/Math", name := "min", desc := "(II)I" } : Jvm.MethodName)) ∈ lw_all := lw_g (lw_at lw_m11 5 rfl) rfl
theorem q2530 : (Jvm.Cond.methodLink "DoughLedger$Bakery" (193 : Nat) ({ cls := "DoughLedger$Fraction", name := "parts", desc := "(I)J" } : Jvm.MethodName)) ∈ lw_all := lw_g (lw_at lw_m11 6 rfl) rfl
theorem q2545 : (Jvm.Cond.instanceMethod ({ cls := "DoughLedger$Bakery", name := "empty", desc := "(I)I" } : Jvm.MethodName)) ∈ lw_all := lw_g (lw_at lw_m11 21 rfl) rfl
theorem q2546 : (Jvm.Cond.selects "DoughLedger$Bakery" ({ cls := "DoughLedger$Bakery", name := "empty", desc := "(I)I" } : Jvm.MethodName) ({ cls := "DoughLedger$Bakery", name := "empty", desc := "(I)I" } : Jvm.MethodName)) ∈ lw_all := lw_g (lw_at lw_m11 22 rfl) rfl
theorem q2547 : (Jvm.Cond.code ({ cls := "DoughLedger$Bakery", name := "empty", desc := "(I)I" } : Jvm.MethodName) prog_2_method_17_code (3 : Nat) (Option.some Jvm.ClassFile.FieldType.int)) ∈ lw_all := lw_g (lw_at lw_m11 23 rfl) rfl
theorem q2559 : (Jvm.Cond.instanceMethod ({ cls := "DoughLedger$Bakery", name := "bake", desc := "(I)I" } : Jvm.MethodName)) ∈ lw_all := lw_g (lw_at lw_m11 35 rfl) rfl
theorem q2560 : (Jvm.Cond.selects "DoughLedger$Bakery" ({ cls := "DoughLedger$Bakery", name := "bake", desc := "(I)I" } : Jvm.MethodName) ({ cls := "DoughLedger$Bakery", name := "bake", desc := "(I)I" } : Jvm.MethodName)) ∈ lw_all := lw_g (lw_at lw_m11 36 rfl) rfl
theorem q2561 : (Jvm.Cond.code ({ cls := "DoughLedger$Bakery", name := "bake", desc := "(I)I" } : Jvm.MethodName) prog_2_method_18_code (5 : Nat) (Option.some Jvm.ClassFile.FieldType.int)) ∈ lw_all := lw_g (lw_at lw_m11 37 rfl) rfl
theorem q2572 : (Jvm.Cond.instanceMethod ({ cls := "DoughLedger$Bakery", name := "setOvens", desc := "(I)I" } : Jvm.MethodName)) ∈ lw_all := lw_g (lw_at lw_m11 48 rfl) rfl
theorem q2573 : (Jvm.Cond.selects "DoughLedger$Bakery" ({ cls := "DoughLedger$Bakery", name := "setOvens", desc := "(I)I" } : Jvm.MethodName) ({ cls := "DoughLedger$Bakery", name := "setOvens", desc := "(I)I" } : Jvm.MethodName)) ∈ lw_all := lw_g (lw_at lw_m11 49 rfl) rfl
theorem q2574 : (Jvm.Cond.code ({ cls := "DoughLedger$Bakery", name := "setOvens", desc := "(I)I" } : Jvm.MethodName) prog_2_method_19_code (3 : Nat) (Option.some Jvm.ClassFile.FieldType.int)) ∈ lw_all := lw_g (lw_at lw_m11 50 rfl) rfl
theorem q2626 : (Jvm.Cond.instanceMethod ({ cls := "DoughLedger$Bakery", name := "doughAt", desc := "(I)I" } : Jvm.MethodName)) ∈ lw_all := lw_g (lw_at lw_m11 102 rfl) rfl
theorem q2627 : (Jvm.Cond.selects "DoughLedger$Bakery" ({ cls := "DoughLedger$Bakery", name := "doughAt", desc := "(I)I" } : Jvm.MethodName) ({ cls := "DoughLedger$Bakery", name := "doughAt", desc := "(I)I" } : Jvm.MethodName)) ∈ lw_all := lw_g (lw_at lw_m11 103 rfl) rfl
theorem q2628 : (Jvm.Cond.code ({ cls := "DoughLedger$Bakery", name := "doughAt", desc := "(I)I" } : Jvm.MethodName) prog_2_method_20_code (8 : Nat) (Option.some Jvm.ClassFile.FieldType.int)) ∈ lw_all := lw_g (lw_at lw_m11 104 rfl) rfl
theorem q2629 : (Jvm.Cond.methodLink "DoughLedger$Bakery" (212 : Nat) ({ cls := "DoughLedger$Fraction", name := "compareTo", desc := "(LDoughLedger$Fraction;)I" } : Jvm.MethodName)) ∈ lw_all := lw_g (lw_at lw_m11 105 rfl) rfl
theorem q2704 : (Jvm.Cond.instanceMethod ({ cls := "DoughLedger$Bakery", name := "roomFrom", desc := "(I)I" } : Jvm.MethodName)) ∈ lw_all := lw_g (lw_at lw_m11 180 rfl) rfl
theorem q2705 : (Jvm.Cond.selects "DoughLedger$Bakery" ({ cls := "DoughLedger$Bakery", name := "roomFrom", desc := "(I)I" } : Jvm.MethodName) ({ cls := "DoughLedger$Bakery", name := "roomFrom", desc := "(I)I" } : Jvm.MethodName)) ∈ lw_all := lw_g (lw_at lw_m11 181 rfl) rfl
theorem q2706 : (Jvm.Cond.code ({ cls := "DoughLedger$Bakery", name := "roomFrom", desc := "(I)I" } : Jvm.MethodName) prog_2_method_25_code (4 : Nat) (Option.some Jvm.ClassFile.FieldType.int)) ∈ lw_all := lw_g (lw_at lw_m11 182 rfl) rfl
theorem q2715 : (Jvm.Cond.instanceMethod ({ cls := "DoughLedger$Bakery", name := "fullest", desc := "()I" } : Jvm.MethodName)) ∈ lw_all := lw_g (lw_at lw_m11 191 rfl) rfl
theorem q2716 : (Jvm.Cond.selects "DoughLedger$Bakery" ({ cls := "DoughLedger$Bakery", name := "fullest", desc := "()I" } : Jvm.MethodName) ({ cls := "DoughLedger$Bakery", name := "fullest", desc := "()I" } : Jvm.MethodName)) ∈ lw_all := lw_g (lw_at lw_m11 192 rfl) rfl
theorem q2717 : (Jvm.Cond.code ({ cls := "DoughLedger$Bakery", name := "fullest", desc := "()I" } : Jvm.MethodName) prog_2_method_26_code (4 : Nat) (Option.some Jvm.ClassFile.FieldType.int)) ∈ lw_all := lw_g (lw_at lw_m11 193 rfl) rfl
theorem q2774 : (Jvm.Cond.instanceMethod ({ cls := "DoughLedger$Bakery", name := "loafAt", desc := "(I)I" } : Jvm.MethodName)) ∈ lw_all := lw_g (lw_at lw_m12 10 rfl) rfl
theorem q2775 : (Jvm.Cond.selects "DoughLedger$Bakery" ({ cls := "DoughLedger$Bakery", name := "loafAt", desc := "(I)I" } : Jvm.MethodName) ({ cls := "DoughLedger$Bakery", name := "loafAt", desc := "(I)I" } : Jvm.MethodName)) ∈ lw_all := lw_g (lw_at lw_m12 11 rfl) rfl
theorem q2776 : (Jvm.Cond.code ({ cls := "DoughLedger$Bakery", name := "loafAt", desc := "(I)I" } : Jvm.MethodName) prog_2_method_21_code (6 : Nat) (Option.some Jvm.ClassFile.FieldType.int)) ∈ lw_all := lw_g (lw_at lw_m12 12 rfl) rfl
theorem q2841 : (Jvm.Cond.selects "DoughLedger$Bakery" ({ cls := "java/lang/Object", name := "toString", desc := "()Ljava/lang/String;" } : Jvm.MethodName) ({ cls := "java/lang/Object", name := "toString", desc := "()Ljava/lang/String;" } : Jvm.MethodName)) ∈ lw_all := lw_g (lw_at lw_m12 77 rfl) rfl
theorem q2896 : (Jvm.Cond.instanceMethod ({ cls := "DoughLedger$Bakery", name := "decimals", desc := "(I)Ljava/lang/String;" } : Jvm.MethodName)) ∈ lw_all := lw_g (lw_at lw_m12 132 rfl) rfl
theorem q2897 : (Jvm.Cond.selects "DoughLedger$Bakery" ({ cls := "DoughLedger$Bakery", name := "decimals", desc := "(I)Ljava/lang/String;" } : Jvm.MethodName) ({ cls := "DoughLedger$Bakery", name := "decimals", desc := "(I)Ljava/lang/String;" } : Jvm.MethodName)) ∈ lw_all := lw_g (lw_at lw_m12 133 rfl) rfl
theorem q2898 : (Jvm.Cond.code ({ cls := "DoughLedger$Bakery", name := "decimals", desc := "(I)Ljava/lang/String;" } : Jvm.MethodName) prog_2_method_28_code (5 : Nat) (Option.some (Jvm.ClassFile.FieldType.object "java/lang/String"))) ∈ lw_all := lw_g (lw_at lw_m12 134 rfl) rfl
theorem q2899 : (Jvm.Cond.methodLink "DoughLedger$Bakery" (236 : Nat) ({ cls := "java/lang/StringBuilder", name := "append", desc := "(I)Ljava/lang/StringBuilder;" } : Jvm.MethodName)) ∈ lw_all := lw_g (lw_at lw_m12 135 rfl) rfl
theorem q2900 : (Jvm.Cond.methodLinkNest "DoughLedger$Bakery" (243 : Nat) ({ cls := "DoughLedger", name := "power", desc := "(I)I" } : Jvm.MethodName) "DoughLedger") ∈ lw_tbl := lw_at lw_m12 136 rfl
theorem q2901 : (Jvm.Cond.methodLink "DoughLedger$Bakery" (246 : Nat) ({ cls := "java/lang/StringBuilder", name := "append", desc := "(C)Ljava/lang/StringBuilder;" } : Jvm.MethodName)) ∈ lw_all := lw_g (lw_at lw_m12 137 rfl) rfl
theorem q4029 : (Jvm.Cond.castable "DoughLedger$Bakery" "java/lang/Object") ∈ lw_tbl := lw_at lw_m17 65 rfl
theorem in_X2 : ∀ w ∈ wsX20, w ∈ lw_all := lw_in wsX20 [295, 297, 299, 301, 303, 305, 307, 309, 311, 313, 315] (by decide +kernel) (by decide +kernel)

/-! DoughLedger$Failure -/
set_option maxRecDepth 100000
def RX4 : String := "DoughLedger$Failure"
abbrev cX4_init : ByteArray := prog_9_method_1_code
def yX4_init : MethodName := ⟨RX4, "<init>", "(LDoughLedger$Failure;)V"⟩
def dkwX4_init_0 : List UInt8 := [42, 1, 43, 183, 0, 1, 177]
abbrev dktX4_init_0 : List UInt8 := dkwX4_init_0 ++ []
theorem dksX4_init_0 : cX4_init.data.toList.drop 0 = dktX4_init_0 := by decide +kernel
theorem dX4_init_0 : decode cX4_init 0 = .ok (.aload_n 0, 1) := dk_42 (dk_at dksX4_init_0 0 rfl rfl)
theorem dX4_init_1 : decode cX4_init 1 = .ok (.aconst_null, 1) := dk_1 (dk_at dksX4_init_0 1 rfl rfl)
theorem dX4_init_2 : decode cX4_init 2 = .ok (.aload_n 1, 1) := dk_43 (dk_at dksX4_init_0 2 rfl rfl)
theorem dX4_init_3 : decode cX4_init 3 = .ok (.invokespecial 1, 3) := dk_183 0 1 (dk_at dksX4_init_0 3 rfl rfl)
theorem dX4_init_6 : decode cX4_init 6 = .ok (.return_, 1) := dk_177 (dk_at dksX4_init_0 6 rfl rfl)
theorem q141 : (Jvm.Cond.initialized "DoughLedger$Failure") ∈ lw_all := lw_g (lw_at lw_m1 17 rfl) rfl
theorem q2170 : (Jvm.Cond.instanceMethod ({ cls := "DoughLedger$Failure", name := "<init>", desc := "(LDoughLedger$Failure;)V" } : Jvm.MethodName)) ∈ lw_all := lw_g (lw_at lw_m9 126 rfl) rfl
theorem q2171 : (Jvm.Cond.code ({ cls := "DoughLedger$Failure", name := "<init>", desc := "(LDoughLedger$Failure;)V" } : Jvm.MethodName) prog_9_method_1_code (2 : Nat) (Option.none : Option Jvm.ClassFile.FieldType)) ∈ lw_all := lw_g (lw_at lw_m9 127 rfl) rfl
theorem q2172 : (Jvm.Cond.methodLink "DoughLedger$Failure" (1 : Nat) ({ cls := "java/lang/Exception", name := "<init>", desc := "(Ljava/lang/String;Ljava/lang/Throwable;)V" } : Jvm.MethodName)) ∈ lw_all := lw_g (lw_at lw_m9 128 rfl) rfl
theorem q3326 : (Jvm.Cond.declares ({ cls := "DoughLedger$Failure", name := "asPublicException", desc := "()Ljava/lang/RuntimeException;" } : Jvm.MethodName)) ∈ lw_tbl := lw_at lw_m14 82 rfl
theorem q3327 : (Jvm.Cond.sameMethod "DoughLedger$Failure" "DoughLedger$Failure" "asPublicException" "()Ljava/lang/RuntimeException;") ∈ lw_all := lw_g (lw_at lw_m14 83 rfl) rfl

/-! DoughLedger$ConditionFailure -/
set_option maxRecDepth 100000
def RX5 : String := "DoughLedger$ConditionFailure"
def TX5 : u_T := fun k => match k with
  | 0 => ("java/lang/Throwable", "cause", "Ljava/lang/Throwable;", false)
  | 1 => ("java/lang/Throwable", "stackTrace", "[Ljava/lang/StackTraceElement;", false)
  | 2 => ("java/lang/Throwable", "suppressedExceptions", "Ljava/util/List;", false)
  | 3 => ("java/lang/Throwable", "detailMessage", "Ljava/lang/String;", false)
  | 4 => ("java/lang/Throwable", "backtrace", "Ljava/lang/Object;", false)
  | 5 => ("java/lang/Throwable", "depth", "I", false)
  | _ => ("DoughLedger$ConditionFailure", "kind", "C", true)
def tyX5 : Nat → FieldType := fun k => match k with
  | 0 => .object "java/lang/Throwable"
  | 1 => .array (.object "java/lang/StackTraceElement")
  | 2 => .object "java/util/List"
  | 3 => .object "java/lang/String"
  | 4 => .object "java/lang/Object"
  | 5 => .int
  | _ => .char
abbrev wsX50 : List Cond := u_ws RX5 TX5 7
theorem nmX5 : ∀ a, a < 7 → ∀ b, b < 7 → a ≠ b → (TX5 a).2.1 ≠ (TX5 b).2.1 := by decide +kernel
theorem tyX5_ok : ∀ k, k < 7 → parseFieldDescriptor (TX5 k).2.2.1 = some (tyX5 k) := by decide +kernel
abbrev cX5_init : ByteArray := prog_8_method_1_code
def yX5_init : MethodName := ⟨RX5, "<init>", "(C)V"⟩
def dkwX5_init_0 : List UInt8 := [42, 1, 183, 0, 1, 42, 27, 181, 0, 7, 177]
abbrev dktX5_init_0 : List UInt8 := dkwX5_init_0 ++ []
theorem dksX5_init_0 : cX5_init.data.toList.drop 0 = dktX5_init_0 := by decide +kernel
theorem dX5_init_0 : decode cX5_init 0 = .ok (.aload_n 0, 1) := dk_42 (dk_at dksX5_init_0 0 rfl rfl)
theorem dX5_init_1 : decode cX5_init 1 = .ok (.aconst_null, 1) := dk_1 (dk_at dksX5_init_0 1 rfl rfl)
theorem dX5_init_2 : decode cX5_init 2 = .ok (.invokespecial 1, 3) := dk_183 0 1 (dk_at dksX5_init_0 2 rfl rfl)
theorem dX5_init_5 : decode cX5_init 5 = .ok (.aload_n 0, 1) := dk_42 (dk_at dksX5_init_0 5 rfl rfl)
theorem dX5_init_6 : decode cX5_init 6 = .ok (.iload_n 1, 1) := dk_27 (dk_at dksX5_init_0 6 rfl rfl)
theorem dX5_init_7 : decode cX5_init 7 = .ok (.putfield 7, 3) := dk_181 0 7 (dk_at dksX5_init_0 7 rfl rfl)
theorem dX5_init_10 : decode cX5_init 10 = .ok (.return_, 1) := dk_177 (dk_at dksX5_init_0 10 rfl rfl)
abbrev cX5_asPublicException : ByteArray := prog_8_method_3_code
def yX5_asPublicException : MethodName := ⟨RX5, "asPublicException", "()Ljava/lang/RuntimeException;"⟩
def dkwX5_asPublicException_3 : List UInt8 := [187, 0, 24, 89, 183, 0, 26, 176, 187, 0, 27, 89, 183, 0, 29, 176]
abbrev dktX5_asPublicException_3 : List UInt8 := dkwX5_asPublicException_3 ++ []
def dkwX5_asPublicException_2 : List UInt8 := [187, 0, 13, 89, 183, 0, 15, 176, 187, 0, 18, 89, 183, 0, 20, 176, 187, 0, 21, 89, 183, 0, 23, 176]
abbrev dktX5_asPublicException_2 : List UInt8 := dkwX5_asPublicException_2 ++ dktX5_asPublicException_3
def dkwX5_asPublicException_1 : List UInt8 := [171, 0, 0, 0, 0, 0, 0, 76, 0, 0, 0, 4, 0, 0, 0, 97, 0, 0, 0, 52, 0, 0, 0, 101, 0, 0, 0, 68, 0, 0, 0, 105, 0, 0, 0, 44, 0, 0, 0, 115, 0, 0, 0, 60]
abbrev dktX5_asPublicException_1 : List UInt8 := dkwX5_asPublicException_1 ++ dktX5_asPublicException_2
def dkwX5_asPublicException_0 : List UInt8 := [42, 180, 0, 7]
abbrev dktX5_asPublicException_0 : List UInt8 := dkwX5_asPublicException_0 ++ dktX5_asPublicException_1
theorem dksX5_asPublicException_0 : cX5_asPublicException.data.toList.drop 0 = dktX5_asPublicException_0 := by decide +kernel
theorem dksX5_asPublicException_1 : cX5_asPublicException.data.toList.drop 4 = dktX5_asPublicException_1 := dk_seg dksX5_asPublicException_0 4 rfl rfl
theorem dksX5_asPublicException_2 : cX5_asPublicException.data.toList.drop 48 = dktX5_asPublicException_2 := dk_seg dksX5_asPublicException_1 44 rfl rfl
theorem dksX5_asPublicException_3 : cX5_asPublicException.data.toList.drop 72 = dktX5_asPublicException_3 := dk_seg dksX5_asPublicException_2 24 rfl rfl
theorem dX5_asPublicException_0 : decode cX5_asPublicException 0 = .ok (.aload_n 0, 1) := dk_42 (dk_at dksX5_asPublicException_0 0 rfl rfl)
theorem dX5_asPublicException_1 : decode cX5_asPublicException 1 = .ok (.getfield 7, 3) := dk_180 0 7 (dk_at dksX5_asPublicException_0 1 rfl rfl)
theorem dX5_asPublicException_4 : decode cX5_asPublicException 4 = .ok (.lookupswitch 76 #[(97, 52), (101, 68), (105, 44), (115, 60)], 44) := by decide +kernel
theorem dX5_asPublicException_48 : decode cX5_asPublicException 48 = .ok (.new 13, 3) := dk_187 0 13 (dk_at dksX5_asPublicException_2 0 rfl rfl)
theorem dX5_asPublicException_51 : decode cX5_asPublicException 51 = .ok (.dup, 1) := dk_89 (dk_at dksX5_asPublicException_2 3 rfl rfl)
theorem dX5_asPublicException_52 : decode cX5_asPublicException 52 = .ok (.invokespecial 15, 3) := dk_183 0 15 (dk_at dksX5_asPublicException_2 4 rfl rfl)
theorem dX5_asPublicException_55 : decode cX5_asPublicException 55 = .ok (.areturn, 1) := dk_176 (dk_at dksX5_asPublicException_2 7 rfl rfl)
theorem dX5_asPublicException_56 : decode cX5_asPublicException 56 = .ok (.new 18, 3) := dk_187 0 18 (dk_at dksX5_asPublicException_2 8 rfl rfl)
theorem dX5_asPublicException_59 : decode cX5_asPublicException 59 = .ok (.dup, 1) := dk_89 (dk_at dksX5_asPublicException_2 11 rfl rfl)
theorem dX5_asPublicException_60 : decode cX5_asPublicException 60 = .ok (.invokespecial 20, 3) := dk_183 0 20 (dk_at dksX5_asPublicException_2 12 rfl rfl)
theorem dX5_asPublicException_63 : decode cX5_asPublicException 63 = .ok (.areturn, 1) := dk_176 (dk_at dksX5_asPublicException_2 15 rfl rfl)
theorem dX5_asPublicException_64 : decode cX5_asPublicException 64 = .ok (.new 21, 3) := dk_187 0 21 (dk_at dksX5_asPublicException_2 16 rfl rfl)
theorem dX5_asPublicException_67 : decode cX5_asPublicException 67 = .ok (.dup, 1) := dk_89 (dk_at dksX5_asPublicException_2 19 rfl rfl)
theorem dX5_asPublicException_68 : decode cX5_asPublicException 68 = .ok (.invokespecial 23, 3) := dk_183 0 23 (dk_at dksX5_asPublicException_2 20 rfl rfl)
theorem dX5_asPublicException_71 : decode cX5_asPublicException 71 = .ok (.areturn, 1) := dk_176 (dk_at dksX5_asPublicException_2 23 rfl rfl)
theorem dX5_asPublicException_72 : decode cX5_asPublicException 72 = .ok (.new 24, 3) := dk_187 0 24 (dk_at dksX5_asPublicException_3 0 rfl rfl)
theorem dX5_asPublicException_75 : decode cX5_asPublicException 75 = .ok (.dup, 1) := dk_89 (dk_at dksX5_asPublicException_3 3 rfl rfl)
theorem dX5_asPublicException_76 : decode cX5_asPublicException 76 = .ok (.invokespecial 26, 3) := dk_183 0 26 (dk_at dksX5_asPublicException_3 4 rfl rfl)
theorem dX5_asPublicException_79 : decode cX5_asPublicException 79 = .ok (.areturn, 1) := dk_176 (dk_at dksX5_asPublicException_3 7 rfl rfl)
theorem dX5_asPublicException_80 : decode cX5_asPublicException 80 = .ok (.new 27, 3) := dk_187 0 27 (dk_at dksX5_asPublicException_3 8 rfl rfl)
theorem dX5_asPublicException_83 : decode cX5_asPublicException 83 = .ok (.dup, 1) := dk_89 (dk_at dksX5_asPublicException_3 11 rfl rfl)
theorem dX5_asPublicException_84 : decode cX5_asPublicException 84 = .ok (.invokespecial 29, 3) := dk_183 0 29 (dk_at dksX5_asPublicException_3 12 rfl rfl)
theorem dX5_asPublicException_87 : decode cX5_asPublicException 87 = .ok (.areturn, 1) := dk_176 (dk_at dksX5_asPublicException_3 15 rfl rfl)
abbrev cX5_kind : ByteArray := prog_8_method_2_code
def yX5_kind : MethodName := ⟨RX5, "kind", "()C"⟩
theorem dX5_kind_0 : decode cX5_kind 0 = .ok (.aload_n 0, 1) := by decide +kernel
theorem dX5_kind_1 : decode cX5_kind 1 = .ok (.getfield 7, 3) := by decide +kernel
theorem dX5_kind_4 : decode cX5_kind 4 = .ok (.ireturn, 1) := by decide +kernel
theorem q142 : (Jvm.Cond.initialized "DoughLedger$ConditionFailure") ∈ lw_all := lw_g (lw_at lw_m1 18 rfl) rfl
theorem q531 : (Jvm.Cond.selects "DoughLedger$ConditionFailure" ({ cls := "java/lang/Throwable", name := "fillInStackTrace", desc := "()Ljava/lang/Throwable;" } : Jvm.MethodName) ({ cls := "java/lang/Throwable", name := "fillInStackTrace", desc := "()Ljava/lang/Throwable;" } : Jvm.MethodName)) ∈ lw_all := lw_g (lw_at lw_m2 167 rfl) rfl
theorem q926 : (Jvm.Cond.selects "DoughLedger$ConditionFailure" ({ cls := "java/lang/Object", name := "getClass", desc := "()Ljava/lang/Class;" } : Jvm.MethodName) ({ cls := "java/lang/Object", name := "getClass", desc := "()Ljava/lang/Class;" } : Jvm.MethodName)) ∈ lw_all := lw_g (lw_at lw_m4 82 rfl) rfl
theorem q1440 : (Jvm.Cond.selects "DoughLedger$ConditionFailure" ({ cls := "java/lang/Throwable", name := "toString", desc := "()Ljava/lang/String;" } : Jvm.MethodName) ({ cls := "java/lang/Throwable", name := "toString", desc := "()Ljava/lang/String;" } : Jvm.MethodName)) ∈ lw_all := lw_g (lw_at lw_m6 116 rfl) rfl
theorem q1456 : (Jvm.Cond.selects "DoughLedger$ConditionFailure" ({ cls := "java/lang/Throwable", name := "getLocalizedMessage", desc := "()Ljava/lang/String;" } : Jvm.MethodName) ({ cls := "java/lang/Throwable", name := "getLocalizedMessage", desc := "()Ljava/lang/String;" } : Jvm.MethodName)) ∈ lw_all := lw_g (lw_at lw_m6 132 rfl) rfl
theorem q1471 : (Jvm.Cond.selects "DoughLedger$ConditionFailure" ({ cls := "java/lang/Throwable", name := "getMessage", desc := "()Ljava/lang/String;" } : Jvm.MethodName) ({ cls := "java/lang/Throwable", name := "getMessage", desc := "()Ljava/lang/String;" } : Jvm.MethodName)) ∈ lw_all := lw_g (lw_at lw_m6 147 rfl) rfl
theorem q2158 : (Jvm.Cond.instantiable "DoughLedger$ConditionFailure" (7 : Nat)) ∈ lw_all := lw_g (lw_at lw_m9 114 rfl) rfl
theorem q2159 : (Jvm.Cond.castable "DoughLedger$ConditionFailure" "DoughLedger$ConditionFailure") ∈ lw_tbl := lw_at lw_m9 115 rfl
theorem q2160 : (Jvm.Cond.selects "DoughLedger$ConditionFailure" ({ cls := "java/lang/Throwable", name := "fillInStackTrace", desc := "(I)Ljava/lang/Throwable;" } : Jvm.MethodName) ({ cls := "java/lang/Throwable", name := "fillInStackTrace", desc := "(I)Ljava/lang/Throwable;" } : Jvm.MethodName)) ∈ lw_all := lw_g (lw_at lw_m9 116 rfl) rfl
theorem q2161 : (Jvm.Cond.lays "DoughLedger$ConditionFailure" "java/lang/Throwable" "cause" "Ljava/lang/Throwable;") ∈ lw_all := lw_g (lw_at lw_m9 117 rfl) rfl
theorem q2162 : (Jvm.Cond.lays "DoughLedger$ConditionFailure" "java/lang/Throwable" "stackTrace" "[Ljava/lang/StackTraceElement;") ∈ lw_all := lw_g (lw_at lw_m9 118 rfl) rfl
theorem q2163 : (Jvm.Cond.lays "DoughLedger$ConditionFailure" "java/lang/Throwable" "suppressedExceptions" "Ljava/util/List;") ∈ lw_all := lw_g (lw_at lw_m9 119 rfl) rfl
theorem q2164 : (Jvm.Cond.lays "DoughLedger$ConditionFailure" "java/lang/Throwable" "detailMessage" "Ljava/lang/String;") ∈ lw_all := lw_g (lw_at lw_m9 120 rfl) rfl
theorem q2165 : (Jvm.Cond.lays "DoughLedger$ConditionFailure" "java/lang/Throwable" "backtrace" "Ljava/lang/Object;") ∈ lw_all := lw_g (lw_at lw_m9 121 rfl) rfl
theorem q2167 : (Jvm.Cond.instanceMethod ({ cls := "DoughLedger$ConditionFailure", name := "<init>", desc := "(C)V" } : Jvm.MethodName)) ∈ lw_all := lw_g (lw_at lw_m9 123 rfl) rfl
theorem q2168 : (Jvm.Cond.code ({ cls := "DoughLedger$ConditionFailure", name := "<init>", desc := "(C)V" } : Jvm.MethodName) prog_8_method_1_code (2 : Nat) (Option.none : Option Jvm.ClassFile.FieldType)) ∈ lw_all := lw_g (lw_at lw_m9 124 rfl) rfl
theorem q2169 : (Jvm.Cond.methodLink "DoughLedger$ConditionFailure" (1 : Nat) ({ cls := "DoughLedger$Failure", name := "<init>", desc := "(LDoughLedger$Failure;)V" } : Jvm.MethodName)) ∈ lw_all := lw_g (lw_at lw_m9 125 rfl) rfl
theorem q2178 : (Jvm.Cond.fieldLink "DoughLedger$ConditionFailure" (7 : Nat) "DoughLedger$ConditionFailure" "kind" "C") ∈ lw_all := lw_g (lw_at lw_m9 134 rfl) rfl
theorem q2179 : (Jvm.Cond.laysFinal "DoughLedger$ConditionFailure" "DoughLedger$ConditionFailure" "kind" "C") ∈ lw_all := lw_g (lw_at lw_m9 135 rfl) rfl
theorem q2180 : (Jvm.Cond.soleField "DoughLedger$ConditionFailure" "kind") ∈ lw_all := lw_g (lw_at lw_m9 136 rfl) rfl
theorem q2181 : (Jvm.Cond.lays "DoughLedger$ConditionFailure" "java/lang/Throwable" "depth" "I") ∈ lw_all := lw_g (lw_at lw_m9 137 rfl) rfl
theorem q2182 : (Jvm.Cond.superclass "DoughLedger$ConditionFailure" "DoughLedger$Failure") ∈ lw_all := lw_g (lw_at lw_m9 138 rfl) rfl
theorem q2337 : (Jvm.Cond.instanceMethod ({ cls := "DoughLedger$ConditionFailure", name := "asPublicException", desc := "()Ljava/lang/RuntimeException;" } : Jvm.MethodName)) ∈ lw_all := lw_g (lw_at lw_m10 53 rfl) rfl
theorem q2338 : (Jvm.Cond.selects "DoughLedger$ConditionFailure" ({ cls := "DoughLedger$ConditionFailure", name := "asPublicException", desc := "()Ljava/lang/RuntimeException;" } : Jvm.MethodName) ({ cls := "DoughLedger$ConditionFailure", name := "asPublicException", desc := "()Ljava/lang/RuntimeException;" } : Jvm.MethodName)) ∈ lw_all := lw_g (lw_at lw_m10 54 rfl) rfl
theorem q2339 : (Jvm.Cond.code ({ cls := "DoughLedger$ConditionFailure", name := "asPublicException", desc := "()Ljava/lang/RuntimeException;" } : Jvm.MethodName) prog_8_method_3_code (1 : Nat) (Option.some (Jvm.ClassFile.FieldType.object "java/lang/RuntimeException"))) ∈ lw_all := lw_g (lw_at lw_m10 55 rfl) rfl
theorem q2340 : (Jvm.Cond.classLink "DoughLedger$ConditionFailure" (13 : Nat) "java/lang/IndexOutOfBoundsException") ∈ lw_all := lw_g (lw_at lw_m10 56 rfl) rfl
theorem q2341 : (Jvm.Cond.methodLink "DoughLedger$ConditionFailure" (15 : Nat) ({ cls := "java/lang/IndexOutOfBoundsException", name := "<init>", desc := "()V" } : Jvm.MethodName)) ∈ lw_all := lw_g (lw_at lw_m10 57 rfl) rfl
theorem q2345 : (Jvm.Cond.classLink "DoughLedger$ConditionFailure" (18 : Nat) "java/lang/IllegalArgumentException") ∈ lw_all := lw_g (lw_at lw_m10 61 rfl) rfl
theorem q2346 : (Jvm.Cond.methodLink "DoughLedger$ConditionFailure" (20 : Nat) ({ cls := "java/lang/IllegalArgumentException", name := "<init>", desc := "()V" } : Jvm.MethodName)) ∈ lw_all := lw_g (lw_at lw_m10 62 rfl) rfl
theorem q2347 : (Jvm.Cond.classLink "DoughLedger$ConditionFailure" (21 : Nat) "java/lang/IllegalStateException") ∈ lw_all := lw_g (lw_at lw_m10 63 rfl) rfl
theorem q2348 : (Jvm.Cond.methodLink "DoughLedger$ConditionFailure" (23 : Nat) ({ cls := "java/lang/IllegalStateException", name := "<init>", desc := "()V" } : Jvm.MethodName)) ∈ lw_all := lw_g (lw_at lw_m10 64 rfl) rfl
theorem q2352 : (Jvm.Cond.classLink "DoughLedger$ConditionFailure" (24 : Nat) "java/util/NoSuchElementException") ∈ lw_all := lw_g (lw_at lw_m10 68 rfl) rfl
theorem q2353 : (Jvm.Cond.methodLink "DoughLedger$ConditionFailure" (26 : Nat) ({ cls := "java/util/NoSuchElementException", name := "<init>", desc := "()V" } : Jvm.MethodName)) ∈ lw_all := lw_g (lw_at lw_m10 69 rfl) rfl
theorem q2354 : (Jvm.Cond.classLink "DoughLedger$ConditionFailure" (27 : Nat) "java/lang/UnsupportedOperationException") ∈ lw_all := lw_g (lw_at lw_m10 70 rfl) rfl
theorem q2363 : (Jvm.Cond.methodLink "DoughLedger$ConditionFailure" (29 : Nat) ({ cls := "java/lang/UnsupportedOperationException", name := "<init>", desc := "()V" } : Jvm.MethodName)) ∈ lw_all := lw_g (lw_at lw_m10 79 rfl) rfl
theorem q2847 : (Jvm.Cond.selects "DoughLedger$ConditionFailure" ({ cls := "java/lang/Object", name := "toString", desc := "()Ljava/lang/String;" } : Jvm.MethodName) ({ cls := "java/lang/Throwable", name := "toString", desc := "()Ljava/lang/String;" } : Jvm.MethodName)) ∈ lw_all := lw_g (lw_at lw_m12 83 rfl) rfl
theorem q3322 : (Jvm.Cond.instanceMethod ({ cls := "DoughLedger$ConditionFailure", name := "kind", desc := "()C" } : Jvm.MethodName)) ∈ lw_all := lw_g (lw_at lw_m14 78 rfl) rfl
theorem q3323 : (Jvm.Cond.selects "DoughLedger$ConditionFailure" ({ cls := "DoughLedger$ConditionFailure", name := "kind", desc := "()C" } : Jvm.MethodName) ({ cls := "DoughLedger$ConditionFailure", name := "kind", desc := "()C" } : Jvm.MethodName)) ∈ lw_all := lw_g (lw_at lw_m14 79 rfl) rfl
theorem q3324 : (Jvm.Cond.code ({ cls := "DoughLedger$ConditionFailure", name := "kind", desc := "()C" } : Jvm.MethodName) prog_8_method_2_code (1 : Nat) (Option.some Jvm.ClassFile.FieldType.char)) ∈ lw_all := lw_g (lw_at lw_m14 80 rfl) rfl
theorem q3333 : (Jvm.Cond.selects "DoughLedger$ConditionFailure" ({ cls := "DoughLedger$Failure", name := "asPublicException", desc := "()Ljava/lang/RuntimeException;" } : Jvm.MethodName) ({ cls := "DoughLedger$ConditionFailure", name := "asPublicException", desc := "()Ljava/lang/RuntimeException;" } : Jvm.MethodName)) ∈ lw_all := lw_g (lw_at lw_m14 89 rfl) rfl
theorem q4035 : (Jvm.Cond.castable "DoughLedger$ConditionFailure" "java/lang/Object") ∈ lw_tbl := lw_at lw_m17 71 rfl
theorem in_X5 : ∀ w ∈ wsX50, w ∈ lw_all := lw_in wsX50 [2161, 2162, 2163, 2164, 2165, 2181, 2179] (by decide +kernel) (by decide +kernel)

/-! DoughLedger$Fraction -/
set_option maxRecDepth 100000
def RX6 : String := "DoughLedger$Fraction"
def TX6 : u_T := fun k => match k with
  | 0 => ("DoughLedger$Fraction", "above", "I", true)
  | _ => ("DoughLedger$Fraction", "below", "I", true)
def tyX6 : Nat → FieldType := fun k => match k with
  | 0 => .int
  | _ => .int
abbrev wsX60 : List Cond := u_ws RX6 TX6 2
theorem nmX6 : ∀ a, a < 2 → ∀ b, b < 2 → a ≠ b → (TX6 a).2.1 ≠ (TX6 b).2.1 := by decide +kernel
theorem tyX6_ok : ∀ k, k < 2 → parseFieldDescriptor (TX6 k).2.2.1 = some (tyX6 k) := by decide +kernel
abbrev cX6_compareTo : ByteArray := prog_10_method_9_code
def yX6_compareTo : MethodName := ⟨RX6, "compareTo", "(Ljava/lang/Object;)I"⟩
def dkwX6_compareTo_0 : List UInt8 := [42, 43, 192, 0, 14, 182, 0, 57, 172]
abbrev dktX6_compareTo_0 : List UInt8 := dkwX6_compareTo_0 ++ []
theorem dksX6_compareTo_0 : cX6_compareTo.data.toList.drop 0 = dktX6_compareTo_0 := by decide +kernel
theorem dX6_compareTo_0 : decode cX6_compareTo 0 = .ok (.aload_n 0, 1) := dk_42 (dk_at dksX6_compareTo_0 0 rfl rfl)
theorem dX6_compareTo_1 : decode cX6_compareTo 1 = .ok (.aload_n 1, 1) := dk_43 (dk_at dksX6_compareTo_0 1 rfl rfl)
theorem dX6_compareTo_2 : decode cX6_compareTo 2 = .ok (.checkcast 14, 3) := dk_192 0 14 (dk_at dksX6_compareTo_0 2 rfl rfl)
theorem dX6_compareTo_5 : decode cX6_compareTo 5 = .ok (.invokevirtual 57, 3) := dk_182 0 57 (dk_at dksX6_compareTo_0 5 rfl rfl)
theorem dX6_compareTo_8 : decode cX6_compareTo 8 = .ok (.ireturn, 1) := dk_172 (dk_at dksX6_compareTo_0 8 rfl rfl)
abbrev cX6_compareTo_2 : ByteArray := prog_10_method_7_code
def yX6_compareTo_2 : MethodName := ⟨RX6, "compareTo", "(LDoughLedger$Fraction;)I"⟩
def dkwX6_compareTo_2_0 : List UInt8 := [43, 180, 0, 13, 42, 180, 0, 19, 104, 42, 180, 0, 13, 43, 180, 0, 19, 104, 184, 0, 36, 172]
abbrev dktX6_compareTo_2_0 : List UInt8 := dkwX6_compareTo_2_0 ++ []
theorem dksX6_compareTo_2_0 : cX6_compareTo_2.data.toList.drop 0 = dktX6_compareTo_2_0 := by decide +kernel
theorem dX6_compareTo_2_0 : decode cX6_compareTo_2 0 = .ok (.aload_n 1, 1) := dk_43 (dk_at dksX6_compareTo_2_0 0 rfl rfl)
theorem dX6_compareTo_2_1 : decode cX6_compareTo_2 1 = .ok (.getfield 13, 3) := dk_180 0 13 (dk_at dksX6_compareTo_2_0 1 rfl rfl)
theorem dX6_compareTo_2_4 : decode cX6_compareTo_2 4 = .ok (.aload_n 0, 1) := dk_42 (dk_at dksX6_compareTo_2_0 4 rfl rfl)
theorem dX6_compareTo_2_5 : decode cX6_compareTo_2 5 = .ok (.getfield 19, 3) := dk_180 0 19 (dk_at dksX6_compareTo_2_0 5 rfl rfl)
theorem dX6_compareTo_2_8 : decode cX6_compareTo_2 8 = .ok (.imul, 1) := dk_104 (dk_at dksX6_compareTo_2_0 8 rfl rfl)
theorem dX6_compareTo_2_9 : decode cX6_compareTo_2 9 = .ok (.aload_n 0, 1) := dk_42 (dk_at dksX6_compareTo_2_0 9 rfl rfl)
theorem dX6_compareTo_2_10 : decode cX6_compareTo_2 10 = .ok (.getfield 13, 3) := dk_180 0 13 (dk_at dksX6_compareTo_2_0 10 rfl rfl)
theorem dX6_compareTo_2_13 : decode cX6_compareTo_2 13 = .ok (.aload_n 1, 1) := dk_43 (dk_at dksX6_compareTo_2_0 13 rfl rfl)
theorem dX6_compareTo_2_14 : decode cX6_compareTo_2 14 = .ok (.getfield 19, 3) := dk_180 0 19 (dk_at dksX6_compareTo_2_0 14 rfl rfl)
theorem dX6_compareTo_2_17 : decode cX6_compareTo_2 17 = .ok (.imul, 1) := dk_104 (dk_at dksX6_compareTo_2_0 17 rfl rfl)
theorem dX6_compareTo_2_18 : decode cX6_compareTo_2 18 = .ok (.invokestatic 36, 3) := dk_184 0 36 (dk_at dksX6_compareTo_2_0 18 rfl rfl)
theorem dX6_compareTo_2_21 : decode cX6_compareTo_2 21 = .ok (.ireturn, 1) := dk_172 (dk_at dksX6_compareTo_2_0 21 rfl rfl)
abbrev cX6_crumbs : ByteArray := prog_10_method_4_code
def yX6_crumbs : MethodName := ⟨RX6, "crumbs", "(ILDoughLedger$Rounding;)I"⟩
def dkwX6_crumbs_0 : List UInt8 := [44, 42, 180, 0, 13, 27, 184, 0, 25, 104, 42, 180, 0, 19, 185, 0, 29, 3, 0, 172]
abbrev dktX6_crumbs_0 : List UInt8 := dkwX6_crumbs_0 ++ []
theorem dksX6_crumbs_0 : cX6_crumbs.data.toList.drop 0 = dktX6_crumbs_0 := by decide +kernel
theorem dX6_crumbs_0 : decode cX6_crumbs 0 = .ok (.aload_n 2, 1) := dk_44 (dk_at dksX6_crumbs_0 0 rfl rfl)
theorem dX6_crumbs_1 : decode cX6_crumbs 1 = .ok (.aload_n 0, 1) := dk_42 (dk_at dksX6_crumbs_0 1 rfl rfl)
theorem dX6_crumbs_2 : decode cX6_crumbs 2 = .ok (.getfield 13, 3) := dk_180 0 13 (dk_at dksX6_crumbs_0 2 rfl rfl)
theorem dX6_crumbs_5 : decode cX6_crumbs 5 = .ok (.iload_n 1, 1) := dk_27 (dk_at dksX6_crumbs_0 5 rfl rfl)
theorem dX6_crumbs_6 : decode cX6_crumbs 6 = .ok (.invokestatic 25, 3) := dk_184 0 25 (dk_at dksX6_crumbs_0 6 rfl rfl)
theorem dX6_crumbs_9 : decode cX6_crumbs 9 = .ok (.imul, 1) := dk_104 (dk_at dksX6_crumbs_0 9 rfl rfl)
theorem dX6_crumbs_10 : decode cX6_crumbs 10 = .ok (.aload_n 0, 1) := dk_42 (dk_at dksX6_crumbs_0 10 rfl rfl)
theorem dX6_crumbs_11 : decode cX6_crumbs 11 = .ok (.getfield 19, 3) := dk_180 0 19 (dk_at dksX6_crumbs_0 11 rfl rfl)
theorem dX6_crumbs_14 : decode cX6_crumbs 14 = .ok (.invokeinterface 29 3, 5) := by decide +kernel
theorem dX6_crumbs_19 : decode cX6_crumbs 19 = .ok (.ireturn, 1) := dk_172 (dk_at dksX6_crumbs_0 19 rfl rfl)
abbrev cX6_crumbsByDigits : ByteArray := prog_10_method_5_code
def yX6_crumbsByDigits : MethodName := ⟨RX6, "crumbsByDigits", "(ILDoughLedger$Rounding;)I"⟩
def dkwX6_crumbsByDigits_4 : List UInt8 := [172]
abbrev dktX6_crumbsByDigits_4 : List UInt8 := dkwX6_crumbsByDigits_4 ++ []
def dkwX6_crumbsByDigits_3 : List UInt8 := [21, 5, 100, 44, 21, 5, 42, 180, 0, 19, 104, 21, 4, 96, 42, 180, 0, 19, 185, 0, 29, 3, 0, 96]
abbrev dktX6_crumbsByDigits_3 : List UInt8 := dkwX6_crumbsByDigits_3 ++ dktX6_crumbsByDigits_4
def dkwX6_crumbsByDigits_2 : List UInt8 := [96, 62, 21, 4, 42, 180, 0, 19, 112, 54, 4, 132, 5, 1, 167, 255, 218, 29, 16, 10, 112, 54, 5, 29]
abbrev dktX6_crumbsByDigits_2 : List UInt8 := dkwX6_crumbsByDigits_2 ++ dktX6_crumbsByDigits_3
def dkwX6_crumbsByDigits_1 : List UInt8 := [21, 5, 27, 162, 0, 38, 21, 4, 16, 10, 104, 54, 4, 16, 10, 29, 104, 21, 4, 42, 180, 0, 19, 108]
abbrev dktX6_crumbsByDigits_1 : List UInt8 := dkwX6_crumbsByDigits_1 ++ dktX6_crumbsByDigits_2
def dkwX6_crumbsByDigits_0 : List UInt8 := [42, 180, 0, 13, 42, 180, 0, 19, 108, 62, 42, 180, 0, 13, 42, 180, 0, 19, 112, 54, 4, 3, 54, 5]
abbrev dktX6_crumbsByDigits_0 : List UInt8 := dkwX6_crumbsByDigits_0 ++ dktX6_crumbsByDigits_1
theorem dksX6_crumbsByDigits_0 : cX6_crumbsByDigits.data.toList.drop 0 = dktX6_crumbsByDigits_0 := by decide +kernel
theorem dksX6_crumbsByDigits_1 : cX6_crumbsByDigits.data.toList.drop 24 = dktX6_crumbsByDigits_1 := dk_seg dksX6_crumbsByDigits_0 24 rfl rfl
theorem dksX6_crumbsByDigits_2 : cX6_crumbsByDigits.data.toList.drop 48 = dktX6_crumbsByDigits_2 := dk_seg dksX6_crumbsByDigits_1 24 rfl rfl
theorem dksX6_crumbsByDigits_3 : cX6_crumbsByDigits.data.toList.drop 72 = dktX6_crumbsByDigits_3 := dk_seg dksX6_crumbsByDigits_2 24 rfl rfl
theorem dksX6_crumbsByDigits_4 : cX6_crumbsByDigits.data.toList.drop 96 = dktX6_crumbsByDigits_4 := dk_seg dksX6_crumbsByDigits_3 24 rfl rfl
theorem dX6_crumbsByDigits_0 : decode cX6_crumbsByDigits 0 = .ok (.aload_n 0, 1) := dk_42 (dk_at dksX6_crumbsByDigits_0 0 rfl rfl)
theorem dX6_crumbsByDigits_1 : decode cX6_crumbsByDigits 1 = .ok (.getfield 13, 3) := dk_180 0 13 (dk_at dksX6_crumbsByDigits_0 1 rfl rfl)
theorem dX6_crumbsByDigits_4 : decode cX6_crumbsByDigits 4 = .ok (.aload_n 0, 1) := dk_42 (dk_at dksX6_crumbsByDigits_0 4 rfl rfl)
theorem dX6_crumbsByDigits_5 : decode cX6_crumbsByDigits 5 = .ok (.getfield 19, 3) := dk_180 0 19 (dk_at dksX6_crumbsByDigits_0 5 rfl rfl)
theorem dX6_crumbsByDigits_8 : decode cX6_crumbsByDigits 8 = .ok (.idiv, 1) := dk_108 (dk_at dksX6_crumbsByDigits_0 8 rfl rfl)
theorem dX6_crumbsByDigits_9 : decode cX6_crumbsByDigits 9 = .ok (.istore_n 3, 1) := dk_62 (dk_at dksX6_crumbsByDigits_0 9 rfl rfl)
theorem dX6_crumbsByDigits_10 : decode cX6_crumbsByDigits 10 = .ok (.aload_n 0, 1) := dk_42 (dk_at dksX6_crumbsByDigits_0 10 rfl rfl)
theorem dX6_crumbsByDigits_11 : decode cX6_crumbsByDigits 11 = .ok (.getfield 13, 3) := dk_180 0 13 (dk_at dksX6_crumbsByDigits_0 11 rfl rfl)
theorem dX6_crumbsByDigits_14 : decode cX6_crumbsByDigits 14 = .ok (.aload_n 0, 1) := dk_42 (dk_at dksX6_crumbsByDigits_0 14 rfl rfl)
theorem dX6_crumbsByDigits_15 : decode cX6_crumbsByDigits 15 = .ok (.getfield 19, 3) := dk_180 0 19 (dk_at dksX6_crumbsByDigits_0 15 rfl rfl)
theorem dX6_crumbsByDigits_18 : decode cX6_crumbsByDigits 18 = .ok (.irem, 1) := dk_112 (dk_at dksX6_crumbsByDigits_0 18 rfl rfl)
theorem dX6_crumbsByDigits_19 : decode cX6_crumbsByDigits 19 = .ok (.istore 4, 2) := dk_54 4 (dk_at dksX6_crumbsByDigits_0 19 rfl rfl)
theorem dX6_crumbsByDigits_21 : decode cX6_crumbsByDigits 21 = .ok (.iconst 0, 1) := dk_3 (dk_at dksX6_crumbsByDigits_0 21 rfl rfl)
theorem dX6_crumbsByDigits_22 : decode cX6_crumbsByDigits 22 = .ok (.istore 5, 2) := dk_54 5 (dk_at dksX6_crumbsByDigits_0 22 rfl rfl)
theorem dX6_crumbsByDigits_24 : decode cX6_crumbsByDigits 24 = .ok (.iload 5, 2) := dk_21 5 (dk_at dksX6_crumbsByDigits_1 0 rfl rfl)
theorem dX6_crumbsByDigits_26 : decode cX6_crumbsByDigits 26 = .ok (.iload_n 1, 1) := dk_27 (dk_at dksX6_crumbsByDigits_1 2 rfl rfl)
theorem dX6_crumbsByDigits_27 : decode cX6_crumbsByDigits 27 = .ok (.if_icmp .ge 38, 3) := dk_162 0 38 (dk_at dksX6_crumbsByDigits_1 3 rfl rfl)
theorem dX6_crumbsByDigits_30 : decode cX6_crumbsByDigits 30 = .ok (.iload 4, 2) := dk_21 4 (dk_at dksX6_crumbsByDigits_1 6 rfl rfl)
theorem dX6_crumbsByDigits_32 : decode cX6_crumbsByDigits 32 = .ok (.bipush 10, 2) := dk_16 10 (dk_at dksX6_crumbsByDigits_1 8 rfl rfl)
theorem dX6_crumbsByDigits_34 : decode cX6_crumbsByDigits 34 = .ok (.imul, 1) := dk_104 (dk_at dksX6_crumbsByDigits_1 10 rfl rfl)
theorem dX6_crumbsByDigits_35 : decode cX6_crumbsByDigits 35 = .ok (.istore 4, 2) := dk_54 4 (dk_at dksX6_crumbsByDigits_1 11 rfl rfl)
theorem dX6_crumbsByDigits_37 : decode cX6_crumbsByDigits 37 = .ok (.bipush 10, 2) := dk_16 10 (dk_at dksX6_crumbsByDigits_1 13 rfl rfl)
theorem dX6_crumbsByDigits_39 : decode cX6_crumbsByDigits 39 = .ok (.iload_n 3, 1) := dk_29 (dk_at dksX6_crumbsByDigits_1 15 rfl rfl)
theorem dX6_crumbsByDigits_40 : decode cX6_crumbsByDigits 40 = .ok (.imul, 1) := dk_104 (dk_at dksX6_crumbsByDigits_1 16 rfl rfl)
theorem dX6_crumbsByDigits_41 : decode cX6_crumbsByDigits 41 = .ok (.iload 4, 2) := dk_21 4 (dk_at dksX6_crumbsByDigits_1 17 rfl rfl)
theorem dX6_crumbsByDigits_43 : decode cX6_crumbsByDigits 43 = .ok (.aload_n 0, 1) := dk_42 (dk_at dksX6_crumbsByDigits_1 19 rfl rfl)
theorem dX6_crumbsByDigits_44 : decode cX6_crumbsByDigits 44 = .ok (.getfield 19, 3) := dk_180 0 19 (dk_at dksX6_crumbsByDigits_1 20 rfl rfl)
theorem dX6_crumbsByDigits_47 : decode cX6_crumbsByDigits 47 = .ok (.idiv, 1) := dk_108 (dk_at dksX6_crumbsByDigits_1 23 rfl rfl)
theorem dX6_crumbsByDigits_48 : decode cX6_crumbsByDigits 48 = .ok (.iadd, 1) := dk_96 (dk_at dksX6_crumbsByDigits_2 0 rfl rfl)
theorem dX6_crumbsByDigits_49 : decode cX6_crumbsByDigits 49 = .ok (.istore_n 3, 1) := dk_62 (dk_at dksX6_crumbsByDigits_2 1 rfl rfl)
theorem dX6_crumbsByDigits_50 : decode cX6_crumbsByDigits 50 = .ok (.iload 4, 2) := dk_21 4 (dk_at dksX6_crumbsByDigits_2 2 rfl rfl)
theorem dX6_crumbsByDigits_52 : decode cX6_crumbsByDigits 52 = .ok (.aload_n 0, 1) := dk_42 (dk_at dksX6_crumbsByDigits_2 4 rfl rfl)
theorem dX6_crumbsByDigits_53 : decode cX6_crumbsByDigits 53 = .ok (.getfield 19, 3) := dk_180 0 19 (dk_at dksX6_crumbsByDigits_2 5 rfl rfl)
theorem dX6_crumbsByDigits_56 : decode cX6_crumbsByDigits 56 = .ok (.irem, 1) := dk_112 (dk_at dksX6_crumbsByDigits_2 8 rfl rfl)
theorem dX6_crumbsByDigits_57 : decode cX6_crumbsByDigits 57 = .ok (.istore 4, 2) := dk_54 4 (dk_at dksX6_crumbsByDigits_2 9 rfl rfl)
theorem dX6_crumbsByDigits_59 : decode cX6_crumbsByDigits 59 = .ok (.iinc 5 1, 3) := dk_132 5 1 (dk_at dksX6_crumbsByDigits_2 11 rfl rfl)
theorem dX6_crumbsByDigits_62 : decode cX6_crumbsByDigits 62 = .ok (.goto (-38), 3) := dk_167 255 218 (dk_at dksX6_crumbsByDigits_2 14 rfl rfl)
theorem dX6_crumbsByDigits_65 : decode cX6_crumbsByDigits 65 = .ok (.iload_n 3, 1) := dk_29 (dk_at dksX6_crumbsByDigits_2 17 rfl rfl)
theorem dX6_crumbsByDigits_66 : decode cX6_crumbsByDigits 66 = .ok (.bipush 10, 2) := dk_16 10 (dk_at dksX6_crumbsByDigits_2 18 rfl rfl)
theorem dX6_crumbsByDigits_68 : decode cX6_crumbsByDigits 68 = .ok (.irem, 1) := dk_112 (dk_at dksX6_crumbsByDigits_2 20 rfl rfl)
theorem dX6_crumbsByDigits_69 : decode cX6_crumbsByDigits 69 = .ok (.istore 5, 2) := dk_54 5 (dk_at dksX6_crumbsByDigits_2 21 rfl rfl)
theorem dX6_crumbsByDigits_71 : decode cX6_crumbsByDigits 71 = .ok (.iload_n 3, 1) := dk_29 (dk_at dksX6_crumbsByDigits_2 23 rfl rfl)
theorem dX6_crumbsByDigits_72 : decode cX6_crumbsByDigits 72 = .ok (.iload 5, 2) := dk_21 5 (dk_at dksX6_crumbsByDigits_3 0 rfl rfl)
theorem dX6_crumbsByDigits_74 : decode cX6_crumbsByDigits 74 = .ok (.isub, 1) := dk_100 (dk_at dksX6_crumbsByDigits_3 2 rfl rfl)
theorem dX6_crumbsByDigits_75 : decode cX6_crumbsByDigits 75 = .ok (.aload_n 2, 1) := dk_44 (dk_at dksX6_crumbsByDigits_3 3 rfl rfl)
theorem dX6_crumbsByDigits_76 : decode cX6_crumbsByDigits 76 = .ok (.iload 5, 2) := dk_21 5 (dk_at dksX6_crumbsByDigits_3 4 rfl rfl)
theorem dX6_crumbsByDigits_78 : decode cX6_crumbsByDigits 78 = .ok (.aload_n 0, 1) := dk_42 (dk_at dksX6_crumbsByDigits_3 6 rfl rfl)
theorem dX6_crumbsByDigits_79 : decode cX6_crumbsByDigits 79 = .ok (.getfield 19, 3) := dk_180 0 19 (dk_at dksX6_crumbsByDigits_3 7 rfl rfl)
theorem dX6_crumbsByDigits_82 : decode cX6_crumbsByDigits 82 = .ok (.imul, 1) := dk_104 (dk_at dksX6_crumbsByDigits_3 10 rfl rfl)
theorem dX6_crumbsByDigits_83 : decode cX6_crumbsByDigits 83 = .ok (.iload 4, 2) := dk_21 4 (dk_at dksX6_crumbsByDigits_3 11 rfl rfl)
theorem dX6_crumbsByDigits_85 : decode cX6_crumbsByDigits 85 = .ok (.iadd, 1) := dk_96 (dk_at dksX6_crumbsByDigits_3 13 rfl rfl)
theorem dX6_crumbsByDigits_86 : decode cX6_crumbsByDigits 86 = .ok (.aload_n 0, 1) := dk_42 (dk_at dksX6_crumbsByDigits_3 14 rfl rfl)
theorem dX6_crumbsByDigits_87 : decode cX6_crumbsByDigits 87 = .ok (.getfield 19, 3) := dk_180 0 19 (dk_at dksX6_crumbsByDigits_3 15 rfl rfl)
theorem dX6_crumbsByDigits_90 : decode cX6_crumbsByDigits 90 = .ok (.invokeinterface 29 3, 5) := by decide +kernel
theorem dX6_crumbsByDigits_95 : decode cX6_crumbsByDigits 95 = .ok (.iadd, 1) := dk_96 (dk_at dksX6_crumbsByDigits_3 23 rfl rfl)
theorem dX6_crumbsByDigits_96 : decode cX6_crumbsByDigits 96 = .ok (.ireturn, 1) := dk_172 (dk_at dksX6_crumbsByDigits_4 0 rfl rfl)
abbrev cX6_init : ByteArray := prog_10_method_1_code
def yX6_init : MethodName := ⟨RX6, "<init>", "(II)V"⟩
def dkwX6_init_1 : List UInt8 := [177]
abbrev dktX6_init_1 : List UInt8 := dkwX6_init_1 ++ []
def dkwX6_init_0 : List UInt8 := [42, 183, 0, 3, 27, 28, 184, 0, 9, 62, 42, 27, 29, 108, 181, 0, 13, 42, 28, 29, 108, 181, 0, 19]
abbrev dktX6_init_0 : List UInt8 := dkwX6_init_0 ++ dktX6_init_1
theorem dksX6_init_0 : cX6_init.data.toList.drop 0 = dktX6_init_0 := by decide +kernel
theorem dksX6_init_1 : cX6_init.data.toList.drop 24 = dktX6_init_1 := dk_seg dksX6_init_0 24 rfl rfl
theorem dX6_init_0 : decode cX6_init 0 = .ok (.aload_n 0, 1) := dk_42 (dk_at dksX6_init_0 0 rfl rfl)
theorem dX6_init_1 : decode cX6_init 1 = .ok (.invokespecial 3, 3) := dk_183 0 3 (dk_at dksX6_init_0 1 rfl rfl)
theorem dX6_init_4 : decode cX6_init 4 = .ok (.iload_n 1, 1) := dk_27 (dk_at dksX6_init_0 4 rfl rfl)
theorem dX6_init_5 : decode cX6_init 5 = .ok (.iload_n 2, 1) := dk_28 (dk_at dksX6_init_0 5 rfl rfl)
theorem dX6_init_6 : decode cX6_init 6 = .ok (.invokestatic 9, 3) := dk_184 0 9 (dk_at dksX6_init_0 6 rfl rfl)
theorem dX6_init_9 : decode cX6_init 9 = .ok (.istore_n 3, 1) := dk_62 (dk_at dksX6_init_0 9 rfl rfl)
theorem dX6_init_10 : decode cX6_init 10 = .ok (.aload_n 0, 1) := dk_42 (dk_at dksX6_init_0 10 rfl rfl)
theorem dX6_init_11 : decode cX6_init 11 = .ok (.iload_n 1, 1) := dk_27 (dk_at dksX6_init_0 11 rfl rfl)
theorem dX6_init_12 : decode cX6_init 12 = .ok (.iload_n 3, 1) := dk_29 (dk_at dksX6_init_0 12 rfl rfl)
theorem dX6_init_13 : decode cX6_init 13 = .ok (.idiv, 1) := dk_108 (dk_at dksX6_init_0 13 rfl rfl)
theorem dX6_init_14 : decode cX6_init 14 = .ok (.putfield 13, 3) := dk_181 0 13 (dk_at dksX6_init_0 14 rfl rfl)
theorem dX6_init_17 : decode cX6_init 17 = .ok (.aload_n 0, 1) := dk_42 (dk_at dksX6_init_0 17 rfl rfl)
theorem dX6_init_18 : decode cX6_init 18 = .ok (.iload_n 2, 1) := dk_28 (dk_at dksX6_init_0 18 rfl rfl)
theorem dX6_init_19 : decode cX6_init 19 = .ok (.iload_n 3, 1) := dk_29 (dk_at dksX6_init_0 19 rfl rfl)
theorem dX6_init_20 : decode cX6_init 20 = .ok (.idiv, 1) := dk_108 (dk_at dksX6_init_0 20 rfl rfl)
theorem dX6_init_21 : decode cX6_init 21 = .ok (.putfield 19, 3) := dk_181 0 19 (dk_at dksX6_init_0 21 rfl rfl)
theorem dX6_init_24 : decode cX6_init 24 = .ok (.return_, 1) := dk_177 (dk_at dksX6_init_1 0 rfl rfl)
abbrev cX6_plus : ByteArray := prog_10_method_2_code
def yX6_plus : MethodName := ⟨RX6, "plus", "(LDoughLedger$Fraction;)LDoughLedger$Fraction;"⟩
def dkwX6_plus_1 : List UInt8 := [180, 0, 19, 43, 180, 0, 19, 104, 183, 0, 22, 176]
abbrev dktX6_plus_1 : List UInt8 := dkwX6_plus_1 ++ []
def dkwX6_plus_0 : List UInt8 := [187, 0, 14, 89, 42, 180, 0, 13, 43, 180, 0, 19, 104, 43, 180, 0, 13, 42, 180, 0, 19, 104, 96, 42]
abbrev dktX6_plus_0 : List UInt8 := dkwX6_plus_0 ++ dktX6_plus_1
theorem dksX6_plus_0 : cX6_plus.data.toList.drop 0 = dktX6_plus_0 := by decide +kernel
theorem dksX6_plus_1 : cX6_plus.data.toList.drop 24 = dktX6_plus_1 := dk_seg dksX6_plus_0 24 rfl rfl
theorem dX6_plus_0 : decode cX6_plus 0 = .ok (.new 14, 3) := dk_187 0 14 (dk_at dksX6_plus_0 0 rfl rfl)
theorem dX6_plus_3 : decode cX6_plus 3 = .ok (.dup, 1) := dk_89 (dk_at dksX6_plus_0 3 rfl rfl)
theorem dX6_plus_4 : decode cX6_plus 4 = .ok (.aload_n 0, 1) := dk_42 (dk_at dksX6_plus_0 4 rfl rfl)
theorem dX6_plus_5 : decode cX6_plus 5 = .ok (.getfield 13, 3) := dk_180 0 13 (dk_at dksX6_plus_0 5 rfl rfl)
theorem dX6_plus_8 : decode cX6_plus 8 = .ok (.aload_n 1, 1) := dk_43 (dk_at dksX6_plus_0 8 rfl rfl)
theorem dX6_plus_9 : decode cX6_plus 9 = .ok (.getfield 19, 3) := dk_180 0 19 (dk_at dksX6_plus_0 9 rfl rfl)
theorem dX6_plus_12 : decode cX6_plus 12 = .ok (.imul, 1) := dk_104 (dk_at dksX6_plus_0 12 rfl rfl)
theorem dX6_plus_13 : decode cX6_plus 13 = .ok (.aload_n 1, 1) := dk_43 (dk_at dksX6_plus_0 13 rfl rfl)
theorem dX6_plus_14 : decode cX6_plus 14 = .ok (.getfield 13, 3) := dk_180 0 13 (dk_at dksX6_plus_0 14 rfl rfl)
theorem dX6_plus_17 : decode cX6_plus 17 = .ok (.aload_n 0, 1) := dk_42 (dk_at dksX6_plus_0 17 rfl rfl)
theorem dX6_plus_18 : decode cX6_plus 18 = .ok (.getfield 19, 3) := dk_180 0 19 (dk_at dksX6_plus_0 18 rfl rfl)
theorem dX6_plus_21 : decode cX6_plus 21 = .ok (.imul, 1) := dk_104 (dk_at dksX6_plus_0 21 rfl rfl)
theorem dX6_plus_22 : decode cX6_plus 22 = .ok (.iadd, 1) := dk_96 (dk_at dksX6_plus_0 22 rfl rfl)
theorem dX6_plus_23 : decode cX6_plus 23 = .ok (.aload_n 0, 1) := dk_42 (dk_at dksX6_plus_0 23 rfl rfl)
theorem dX6_plus_24 : decode cX6_plus 24 = .ok (.getfield 19, 3) := dk_180 0 19 (dk_at dksX6_plus_1 0 rfl rfl)
theorem dX6_plus_27 : decode cX6_plus 27 = .ok (.aload_n 1, 1) := dk_43 (dk_at dksX6_plus_1 3 rfl rfl)
theorem dX6_plus_28 : decode cX6_plus 28 = .ok (.getfield 19, 3) := dk_180 0 19 (dk_at dksX6_plus_1 4 rfl rfl)
theorem dX6_plus_31 : decode cX6_plus 31 = .ok (.imul, 1) := dk_104 (dk_at dksX6_plus_1 7 rfl rfl)
theorem dX6_plus_32 : decode cX6_plus 32 = .ok (.invokespecial 22, 3) := dk_183 0 22 (dk_at dksX6_plus_1 8 rfl rfl)
theorem dX6_plus_35 : decode cX6_plus 35 = .ok (.areturn, 1) := dk_176 (dk_at dksX6_plus_1 11 rfl rfl)
abbrev cX6_isDough : ByteArray := prog_10_method_3_code
def yX6_isDough : MethodName := ⟨RX6, "isDough", "()Z"⟩
def dkwX6_isDough_1 : List UInt8 := [172]
abbrev dktX6_isDough_1 : List UInt8 := dkwX6_isDough_1 ++ []
def dkwX6_isDough_0 : List UInt8 := [42, 180, 0, 13, 17, 39, 15, 163, 0, 16, 42, 180, 0, 19, 16, 12, 163, 0, 7, 4, 167, 0, 4, 3]
abbrev dktX6_isDough_0 : List UInt8 := dkwX6_isDough_0 ++ dktX6_isDough_1
theorem dksX6_isDough_0 : cX6_isDough.data.toList.drop 0 = dktX6_isDough_0 := by decide +kernel
theorem dksX6_isDough_1 : cX6_isDough.data.toList.drop 24 = dktX6_isDough_1 := dk_seg dksX6_isDough_0 24 rfl rfl
theorem dX6_isDough_0 : decode cX6_isDough 0 = .ok (.aload_n 0, 1) := dk_42 (dk_at dksX6_isDough_0 0 rfl rfl)
theorem dX6_isDough_1 : decode cX6_isDough 1 = .ok (.getfield 13, 3) := dk_180 0 13 (dk_at dksX6_isDough_0 1 rfl rfl)
theorem dX6_isDough_4 : decode cX6_isDough 4 = .ok (.sipush 9999, 3) := dk_17 39 15 (dk_at dksX6_isDough_0 4 rfl rfl)
theorem dX6_isDough_7 : decode cX6_isDough 7 = .ok (.if_icmp .gt 16, 3) := dk_163 0 16 (dk_at dksX6_isDough_0 7 rfl rfl)
theorem dX6_isDough_10 : decode cX6_isDough 10 = .ok (.aload_n 0, 1) := dk_42 (dk_at dksX6_isDough_0 10 rfl rfl)
theorem dX6_isDough_11 : decode cX6_isDough 11 = .ok (.getfield 19, 3) := dk_180 0 19 (dk_at dksX6_isDough_0 11 rfl rfl)
theorem dX6_isDough_14 : decode cX6_isDough 14 = .ok (.bipush 12, 2) := dk_16 12 (dk_at dksX6_isDough_0 14 rfl rfl)
theorem dX6_isDough_16 : decode cX6_isDough 16 = .ok (.if_icmp .gt 7, 3) := dk_163 0 7 (dk_at dksX6_isDough_0 16 rfl rfl)
theorem dX6_isDough_19 : decode cX6_isDough 19 = .ok (.iconst 1, 1) := dk_4 (dk_at dksX6_isDough_0 19 rfl rfl)
theorem dX6_isDough_20 : decode cX6_isDough 20 = .ok (.goto 4, 3) := dk_167 0 4 (dk_at dksX6_isDough_0 20 rfl rfl)
theorem dX6_isDough_23 : decode cX6_isDough 23 = .ok (.iconst 0, 1) := dk_3 (dk_at dksX6_isDough_0 23 rfl rfl)
theorem dX6_isDough_24 : decode cX6_isDough 24 = .ok (.ireturn, 1) := dk_172 (dk_at dksX6_isDough_1 0 rfl rfl)
abbrev cX6_parts : ByteArray := prog_10_method_6_code
def yX6_parts : MethodName := ⟨RX6, "parts", "(I)J"⟩
def dkwX6_parts_0 : List UInt8 := [42, 180, 0, 13, 133, 27, 184, 0, 25, 133, 105, 20, 0, 34, 42, 180, 0, 19, 133, 109, 105, 173]
abbrev dktX6_parts_0 : List UInt8 := dkwX6_parts_0 ++ []
theorem dksX6_parts_0 : cX6_parts.data.toList.drop 0 = dktX6_parts_0 := by decide +kernel
theorem dX6_parts_0 : decode cX6_parts 0 = .ok (.aload_n 0, 1) := dk_42 (dk_at dksX6_parts_0 0 rfl rfl)
theorem dX6_parts_1 : decode cX6_parts 1 = .ok (.getfield 13, 3) := dk_180 0 13 (dk_at dksX6_parts_0 1 rfl rfl)
theorem dX6_parts_4 : decode cX6_parts 4 = .ok (.i2l, 1) := dk_133 (dk_at dksX6_parts_0 4 rfl rfl)
theorem dX6_parts_5 : decode cX6_parts 5 = .ok (.iload_n 1, 1) := dk_27 (dk_at dksX6_parts_0 5 rfl rfl)
theorem dX6_parts_6 : decode cX6_parts 6 = .ok (.invokestatic 25, 3) := dk_184 0 25 (dk_at dksX6_parts_0 6 rfl rfl)
theorem dX6_parts_9 : decode cX6_parts 9 = .ok (.i2l, 1) := dk_133 (dk_at dksX6_parts_0 9 rfl rfl)
theorem dX6_parts_10 : decode cX6_parts 10 = .ok (.lmul, 1) := dk_105 (dk_at dksX6_parts_0 10 rfl rfl)
theorem dX6_parts_11 : decode cX6_parts 11 = .ok (.ldc2_w 34, 3) := dk_20 0 34 (dk_at dksX6_parts_0 11 rfl rfl)
theorem dX6_parts_14 : decode cX6_parts 14 = .ok (.aload_n 0, 1) := dk_42 (dk_at dksX6_parts_0 14 rfl rfl)
theorem dX6_parts_15 : decode cX6_parts 15 = .ok (.getfield 19, 3) := dk_180 0 19 (dk_at dksX6_parts_0 15 rfl rfl)
theorem dX6_parts_18 : decode cX6_parts 18 = .ok (.i2l, 1) := dk_133 (dk_at dksX6_parts_0 18 rfl rfl)
theorem dX6_parts_19 : decode cX6_parts 19 = .ok (.ldiv, 1) := dk_109 (dk_at dksX6_parts_0 19 rfl rfl)
theorem dX6_parts_20 : decode cX6_parts 20 = .ok (.lmul, 1) := dk_105 (dk_at dksX6_parts_0 20 rfl rfl)
theorem dX6_parts_21 : decode cX6_parts 21 = .ok (.lreturn, 1) := dk_173 (dk_at dksX6_parts_0 21 rfl rfl)
abbrev cX6_toString : ByteArray := prog_10_method_8_code
def yX6_toString : MethodName := ⟨RX6, "toString", "()Ljava/lang/String;"⟩
def dkwX6_toString_1 : List UInt8 := [182, 0, 44, 182, 0, 53, 176]
abbrev dktX6_toString_1 : List UInt8 := dkwX6_toString_1 ++ []
def dkwX6_toString_0 : List UInt8 := [187, 0, 41, 89, 183, 0, 43, 42, 180, 0, 13, 182, 0, 44, 18, 48, 182, 0, 50, 42, 180, 0, 19]
abbrev dktX6_toString_0 : List UInt8 := dkwX6_toString_0 ++ dktX6_toString_1
theorem dksX6_toString_0 : cX6_toString.data.toList.drop 0 = dktX6_toString_0 := by decide +kernel
theorem dksX6_toString_1 : cX6_toString.data.toList.drop 23 = dktX6_toString_1 := dk_seg dksX6_toString_0 23 rfl rfl
theorem dX6_toString_0 : decode cX6_toString 0 = .ok (.new 41, 3) := dk_187 0 41 (dk_at dksX6_toString_0 0 rfl rfl)
theorem dX6_toString_3 : decode cX6_toString 3 = .ok (.dup, 1) := dk_89 (dk_at dksX6_toString_0 3 rfl rfl)
theorem dX6_toString_4 : decode cX6_toString 4 = .ok (.invokespecial 43, 3) := dk_183 0 43 (dk_at dksX6_toString_0 4 rfl rfl)
theorem dX6_toString_7 : decode cX6_toString 7 = .ok (.aload_n 0, 1) := dk_42 (dk_at dksX6_toString_0 7 rfl rfl)
theorem dX6_toString_8 : decode cX6_toString 8 = .ok (.getfield 13, 3) := dk_180 0 13 (dk_at dksX6_toString_0 8 rfl rfl)
theorem dX6_toString_11 : decode cX6_toString 11 = .ok (.invokevirtual 44, 3) := dk_182 0 44 (dk_at dksX6_toString_0 11 rfl rfl)
theorem dX6_toString_14 : decode cX6_toString 14 = .ok (.ldc 48, 2) := dk_18 48 (dk_at dksX6_toString_0 14 rfl rfl)
theorem dX6_toString_16 : decode cX6_toString 16 = .ok (.invokevirtual 50, 3) := dk_182 0 50 (dk_at dksX6_toString_0 16 rfl rfl)
theorem dX6_toString_19 : decode cX6_toString 19 = .ok (.aload_n 0, 1) := dk_42 (dk_at dksX6_toString_0 19 rfl rfl)
theorem dX6_toString_20 : decode cX6_toString 20 = .ok (.getfield 19, 3) := dk_180 0 19 (dk_at dksX6_toString_0 20 rfl rfl)
theorem dX6_toString_23 : decode cX6_toString 23 = .ok (.invokevirtual 44, 3) := dk_182 0 44 (dk_at dksX6_toString_1 0 rfl rfl)
theorem dX6_toString_26 : decode cX6_toString 26 = .ok (.invokevirtual 53, 3) := dk_182 0 53 (dk_at dksX6_toString_1 3 rfl rfl)
theorem dX6_toString_29 : decode cX6_toString 29 = .ok (.areturn, 1) := dk_176 (dk_at dksX6_toString_1 6 rfl rfl)
theorem q146 : (Jvm.Cond.initialized "DoughLedger$Fraction") ∈ lw_all := lw_g (lw_at lw_m1 22 rfl) rfl
theorem q927 : (Jvm.Cond.selects "DoughLedger$Fraction" ({ cls := "java/lang/Object", name := "getClass", desc := "()Ljava/lang/Class;" } : Jvm.MethodName) ({ cls := "java/lang/Object", name := "getClass", desc := "()Ljava/lang/Class;" } : Jvm.MethodName)) ∈ lw_all := lw_g (lw_at lw_m4 83 rfl) rfl
theorem q1003 : (Jvm.Cond.castable "DoughLedger$Fraction" "java/lang/Comparable") ∈ lw_tbl := lw_at lw_m4 159 rfl
theorem q1004 : (Jvm.Cond.selects "DoughLedger$Fraction" ({ cls := "java/lang/Comparable", name := "compareTo", desc := "(Ljava/lang/Object;)I" } : Jvm.MethodName) ({ cls := "DoughLedger$Fraction", name := "compareTo", desc := "(Ljava/lang/Object;)I" } : Jvm.MethodName)) ∈ lw_all := lw_g (lw_at lw_m4 160 rfl) rfl
theorem q1005 : (Jvm.Cond.unhidden "DoughLedger$Fraction" "compareTo" "(Ljava/lang/Object;)I") ∈ lw_tbl := lw_at lw_m4 161 rfl
theorem q1006 : (Jvm.Cond.instanceMethod ({ cls := "DoughLedger$Fraction", name := "compareTo", desc := "(Ljava/lang/Object;)I" } : Jvm.MethodName)) ∈ lw_all := lw_g (lw_at lw_m4 162 rfl) rfl
theorem q1007 : (Jvm.Cond.publicMethod ({ cls := "DoughLedger$Fraction", name := "compareTo", desc := "(Ljava/lang/Object;)I" } : Jvm.MethodName)) ∈ lw_tbl := lw_at lw_m4 163 rfl
theorem q1008 : (Jvm.Cond.code ({ cls := "DoughLedger$Fraction", name := "compareTo", desc := "(Ljava/lang/Object;)I" } : Jvm.MethodName) prog_10_method_9_code (2 : Nat) (Option.some Jvm.ClassFile.FieldType.int)) ∈ lw_all := lw_g (lw_at lw_m4 164 rfl) rfl
theorem q1009 : (Jvm.Cond.classLink "DoughLedger$Fraction" (14 : Nat) "DoughLedger$Fraction") ∈ lw_all := lw_g (lw_at lw_m4 165 rfl) rfl
theorem q1010 : (Jvm.Cond.methodLink "DoughLedger$Fraction" (57 : Nat) ({ cls := "DoughLedger$Fraction", name := "compareTo", desc := "(LDoughLedger$Fraction;)I" } : Jvm.MethodName)) ∈ lw_all := lw_g (lw_at lw_m4 166 rfl) rfl
theorem q1011 : (Jvm.Cond.instanceMethod ({ cls := "DoughLedger$Fraction", name := "compareTo", desc := "(LDoughLedger$Fraction;)I" } : Jvm.MethodName)) ∈ lw_all := lw_g (lw_at lw_m4 167 rfl) rfl
theorem q1012 : (Jvm.Cond.selects "DoughLedger$Fraction" ({ cls := "DoughLedger$Fraction", name := "compareTo", desc := "(LDoughLedger$Fraction;)I" } : Jvm.MethodName) ({ cls := "DoughLedger$Fraction", name := "compareTo", desc := "(LDoughLedger$Fraction;)I" } : Jvm.MethodName)) ∈ lw_all := lw_g (lw_at lw_m4 168 rfl) rfl
theorem q1013 : (Jvm.Cond.code ({ cls := "DoughLedger$Fraction", name := "compareTo", desc := "(LDoughLedger$Fraction;)I" } : Jvm.MethodName) prog_10_method_7_code (2 : Nat) (Option.some Jvm.ClassFile.FieldType.int)) ∈ lw_all := lw_g (lw_at lw_m4 169 rfl) rfl
theorem q1014 : (Jvm.Cond.methodLink "DoughLedger$Fraction" (36 : Nat) ({ cls := "java/lang/Integer", name := "compare", desc := "(II)I" } : Jvm.MethodName)) ∈ lw_all := lw_g (lw_at lw_m4 170 rfl) rfl
theorem q1832 : (Jvm.Cond.instanceMethod ({ cls := "DoughLedger$Fraction", name := "crumbs", desc := "(ILDoughLedger$Rounding;)I" } : Jvm.MethodName)) ∈ lw_all := lw_g (lw_at lw_m8 28 rfl) rfl
theorem q1833 : (Jvm.Cond.selects "DoughLedger$Fraction" ({ cls := "DoughLedger$Fraction", name := "crumbs", desc := "(ILDoughLedger$Rounding;)I" } : Jvm.MethodName) ({ cls := "DoughLedger$Fraction", name := "crumbs", desc := "(ILDoughLedger$Rounding;)I" } : Jvm.MethodName)) ∈ lw_all := lw_g (lw_at lw_m8 29 rfl) rfl
theorem q1834 : (Jvm.Cond.code ({ cls := "DoughLedger$Fraction", name := "crumbs", desc := "(ILDoughLedger$Rounding;)I" } : Jvm.MethodName) prog_10_method_4_code (3 : Nat) (Option.some Jvm.ClassFile.FieldType.int)) ∈ lw_all := lw_g (lw_at lw_m8 30 rfl) rfl
theorem q1835 : (Jvm.Cond.methodLinkNest "DoughLedger$Fraction" (25 : Nat) ({ cls := "DoughLedger", name := "power", desc := "(I)I" } : Jvm.MethodName) "DoughLedger") ∈ lw_tbl := lw_at lw_m8 31 rfl
theorem q1838 : (Jvm.Cond.interfaceEntry "DoughLedger$Fraction" (29 : Nat)) ∈ lw_tbl := lw_at lw_m8 34 rfl
theorem q1839 : (Jvm.Cond.methodLink "DoughLedger$Fraction" (29 : Nat) ({ cls := "DoughLedger$Rounding", name := "round", desc := "(II)I" } : Jvm.MethodName)) ∈ lw_all := lw_g (lw_at lw_m8 35 rfl) rfl
theorem q1847 : (Jvm.Cond.instanceMethod ({ cls := "DoughLedger$Fraction", name := "crumbsByDigits", desc := "(ILDoughLedger$Rounding;)I" } : Jvm.MethodName)) ∈ lw_all := lw_g (lw_at lw_m8 43 rfl) rfl
theorem q1848 : (Jvm.Cond.selects "DoughLedger$Fraction" ({ cls := "DoughLedger$Fraction", name := "crumbsByDigits", desc := "(ILDoughLedger$Rounding;)I" } : Jvm.MethodName) ({ cls := "DoughLedger$Fraction", name := "crumbsByDigits", desc := "(ILDoughLedger$Rounding;)I" } : Jvm.MethodName)) ∈ lw_all := lw_g (lw_at lw_m8 44 rfl) rfl
theorem q1849 : (Jvm.Cond.code ({ cls := "DoughLedger$Fraction", name := "crumbsByDigits", desc := "(ILDoughLedger$Rounding;)I" } : Jvm.MethodName) prog_10_method_5_code (6 : Nat) (Option.some Jvm.ClassFile.FieldType.int)) ∈ lw_all := lw_g (lw_at lw_m8 45 rfl) rfl
theorem q2184 : (Jvm.Cond.instantiable "DoughLedger$Fraction" (2 : Nat)) ∈ lw_all := lw_g (lw_at lw_m9 140 rfl) rfl
theorem q2186 : (Jvm.Cond.instanceMethod ({ cls := "DoughLedger$Fraction", name := "<init>", desc := "(II)V" } : Jvm.MethodName)) ∈ lw_all := lw_g (lw_at lw_m9 142 rfl) rfl
theorem q2187 : (Jvm.Cond.code ({ cls := "DoughLedger$Fraction", name := "<init>", desc := "(II)V" } : Jvm.MethodName) prog_10_method_1_code (4 : Nat) (Option.none : Option Jvm.ClassFile.FieldType)) ∈ lw_all := lw_g (lw_at lw_m9 143 rfl) rfl
theorem q2188 : (Jvm.Cond.methodLink "DoughLedger$Fraction" (3 : Nat) ({ cls := "java/lang/Object", name := "<init>", desc := "()V" } : Jvm.MethodName)) ∈ lw_all := lw_g (lw_at lw_m9 144 rfl) rfl
theorem q2189 : (Jvm.Cond.methodLinkNest "DoughLedger$Fraction" (9 : Nat) ({ cls := "DoughLedger", name := "divisor", desc := "(II)I" } : Jvm.MethodName) "DoughLedger") ∈ lw_tbl := lw_at lw_m9 145 rfl
theorem q2194 : (Jvm.Cond.fieldLink "DoughLedger$Fraction" (13 : Nat) "DoughLedger$Fraction" "above" "I") ∈ lw_all := lw_g (lw_at lw_m9 150 rfl) rfl
theorem q2198 : (Jvm.Cond.fieldLink "DoughLedger$Fraction" (19 : Nat) "DoughLedger$Fraction" "below" "I") ∈ lw_all := lw_g (lw_at lw_m9 154 rfl) rfl
theorem q2200 : (Jvm.Cond.laysFinal "DoughLedger$Fraction" "DoughLedger$Fraction" "above" "I") ∈ lw_all := lw_g (lw_at lw_m9 156 rfl) rfl
theorem q2201 : (Jvm.Cond.soleField "DoughLedger$Fraction" "above") ∈ lw_all := lw_g (lw_at lw_m9 157 rfl) rfl
theorem q2202 : (Jvm.Cond.laysFinal "DoughLedger$Fraction" "DoughLedger$Fraction" "below" "I") ∈ lw_all := lw_g (lw_at lw_m9 158 rfl) rfl
theorem q2203 : (Jvm.Cond.soleField "DoughLedger$Fraction" "below") ∈ lw_all := lw_g (lw_at lw_m9 159 rfl) rfl
theorem q2204 : (Jvm.Cond.superclass "DoughLedger$Fraction" "java/lang/Object") ∈ lw_all := lw_g (lw_at lw_m9 160 rfl) rfl
theorem q2404 : (Jvm.Cond.instanceMethod ({ cls := "DoughLedger$Fraction", name := "plus", desc := "(LDoughLedger$Fraction;)LDoughLedger$Fraction;" } : Jvm.MethodName)) ∈ lw_all := lw_g (lw_at lw_m10 120 rfl) rfl
theorem q2405 : (Jvm.Cond.selects "DoughLedger$Fraction" ({ cls := "DoughLedger$Fraction", name := "plus", desc := "(LDoughLedger$Fraction;)LDoughLedger$Fraction;" } : Jvm.MethodName) ({ cls := "DoughLedger$Fraction", name := "plus", desc := "(LDoughLedger$Fraction;)LDoughLedger$Fraction;" } : Jvm.MethodName)) ∈ lw_all := lw_g (lw_at lw_m10 121 rfl) rfl
theorem q2406 : (Jvm.Cond.code ({ cls := "DoughLedger$Fraction", name := "plus", desc := "(LDoughLedger$Fraction;)LDoughLedger$Fraction;" } : Jvm.MethodName) prog_10_method_2_code (2 : Nat) (Option.some (Jvm.ClassFile.FieldType.object "DoughLedger$Fraction"))) ∈ lw_all := lw_g (lw_at lw_m10 122 rfl) rfl
theorem q2407 : (Jvm.Cond.methodLink "DoughLedger$Fraction" (22 : Nat) ({ cls := "DoughLedger$Fraction", name := "<init>", desc := "(II)V" } : Jvm.MethodName)) ∈ lw_all := lw_g (lw_at lw_m10 123 rfl) rfl
theorem q2409 : (Jvm.Cond.instanceMethod ({ cls := "DoughLedger$Fraction", name := "isDough", desc := "()Z" } : Jvm.MethodName)) ∈ lw_all := lw_g (lw_at lw_m10 125 rfl) rfl
theorem q2410 : (Jvm.Cond.selects "DoughLedger$Fraction" ({ cls := "DoughLedger$Fraction", name := "isDough", desc := "()Z" } : Jvm.MethodName) ({ cls := "DoughLedger$Fraction", name := "isDough", desc := "()Z" } : Jvm.MethodName)) ∈ lw_all := lw_g (lw_at lw_m10 126 rfl) rfl
theorem q2411 : (Jvm.Cond.code ({ cls := "DoughLedger$Fraction", name := "isDough", desc := "()Z" } : Jvm.MethodName) prog_10_method_3_code (1 : Nat) (Option.some Jvm.ClassFile.FieldType.boolean)) ∈ lw_all := lw_g (lw_at lw_m10 127 rfl) rfl
theorem q2531 : (Jvm.Cond.instanceMethod ({ cls := "DoughLedger$Fraction", name := "parts", desc := "(I)J" } : Jvm.MethodName)) ∈ lw_all := lw_g (lw_at lw_m11 7 rfl) rfl
theorem q2532 : (Jvm.Cond.selects "DoughLedger$Fraction" ({ cls := "DoughLedger$Fraction", name := "parts", desc := "(I)J" } : Jvm.MethodName) ({ cls := "DoughLedger$Fraction", name := "parts", desc := "(I)J" } : Jvm.MethodName)) ∈ lw_all := lw_g (lw_at lw_m11 8 rfl) rfl
theorem q2533 : (Jvm.Cond.code ({ cls := "DoughLedger$Fraction", name := "parts", desc := "(I)J" } : Jvm.MethodName) prog_10_method_6_code (2 : Nat) (Option.some Jvm.ClassFile.FieldType.long)) ∈ lw_all := lw_g (lw_at lw_m11 9 rfl) rfl
theorem q2534 : (Jvm.Cond.constantLong "DoughLedger$Fraction" (34 : Nat) (27720 : Int64)) ∈ lw_all := lw_g (lw_at lw_m11 10 rfl) rfl
theorem q2848 : (Jvm.Cond.selects "DoughLedger$Fraction" ({ cls := "java/lang/Object", name := "toString", desc := "()Ljava/lang/String;" } : Jvm.MethodName) ({ cls := "DoughLedger$Fraction", name := "toString", desc := "()Ljava/lang/String;" } : Jvm.MethodName)) ∈ lw_all := lw_g (lw_at lw_m12 84 rfl) rfl
theorem q2849 : (Jvm.Cond.instanceMethod ({ cls := "DoughLedger$Fraction", name := "toString", desc := "()Ljava/lang/String;" } : Jvm.MethodName)) ∈ lw_all := lw_g (lw_at lw_m12 85 rfl) rfl
theorem q2850 : (Jvm.Cond.code ({ cls := "DoughLedger$Fraction", name := "toString", desc := "()Ljava/lang/String;" } : Jvm.MethodName) prog_10_method_8_code (1 : Nat) (Option.some (Jvm.ClassFile.FieldType.object "java/lang/String"))) ∈ lw_all := lw_g (lw_at lw_m12 86 rfl) rfl
theorem q2851 : (Jvm.Cond.classLink "DoughLedger$Fraction" (41 : Nat) "java/lang/StringBuilder") ∈ lw_all := lw_g (lw_at lw_m12 87 rfl) rfl
theorem q2852 : (Jvm.Cond.methodLink "DoughLedger$Fraction" (43 : Nat) ({ cls := "java/lang/StringBuilder", name := "<init>", desc := "()V" } : Jvm.MethodName)) ∈ lw_all := lw_g (lw_at lw_m12 88 rfl) rfl
theorem q2853 : (Jvm.Cond.methodLink "DoughLedger$Fraction" (44 : Nat) ({ cls := "java/lang/StringBuilder", name := "append", desc := "(I)Ljava/lang/StringBuilder;" } : Jvm.MethodName)) ∈ lw_all := lw_g (lw_at lw_m12 89 rfl) rfl
theorem q2854 : (Jvm.Cond.stringRef "DoughLedger$Fraction" (48 : Nat) "/") ∈ lw_tbl := lw_at lw_m12 90 rfl
theorem q2855 : (Jvm.Cond.methodLink "DoughLedger$Fraction" (50 : Nat) ({ cls := "java/lang/StringBuilder", name := "append", desc := "(Ljava/lang/String;)Ljava/lang/StringBuilder;" } : Jvm.MethodName)) ∈ lw_all := lw_g (lw_at lw_m12 91 rfl) rfl
theorem q2856 : (Jvm.Cond.methodLink "DoughLedger$Fraction" (53 : Nat) ({ cls := "java/lang/StringBuilder", name := "toString", desc := "()Ljava/lang/String;" } : Jvm.MethodName)) ∈ lw_all := lw_g (lw_at lw_m12 92 rfl) rfl
theorem q4037 : (Jvm.Cond.castable "DoughLedger$Fraction" "java/lang/Object") ∈ lw_tbl := lw_at lw_m17 73 rfl
theorem in_X6 : ∀ w ∈ wsX60, w ∈ lw_all := lw_in wsX60 [2200, 2202] (by decide +kernel) (by decide +kernel)

/-! DoughLedger$Bowl -/
set_option maxRecDepth 100000
def RX7 : String := "DoughLedger$Bowl"
def TX7 : u_T := fun k => match k with
  | 0 => ("DoughLedger$Bowl", "capacity", "I", true)
  | _ => ("DoughLedger$Bowl", "content", "I", false)
def tyX7 : Nat → FieldType := fun k => match k with
  | 0 => .int
  | _ => .int
abbrev wsX70 : List Cond := u_ws RX7 TX7 2
theorem nmX7 : ∀ a, a < 2 → ∀ b, b < 2 → a ≠ b → (TX7 a).2.1 ≠ (TX7 b).2.1 := by decide +kernel
theorem tyX7_ok : ∀ k, k < 2 → parseFieldDescriptor (TX7 k).2.2.1 = some (tyX7 k) := by decide +kernel
abbrev cX7_toString : ByteArray := prog_4_method_3_code
def yX7_toString : MethodName := ⟨RX7, "toString", "()Ljava/lang/String;"⟩
def dkwX7_toString_1 : List UInt8 := [182, 0, 19, 182, 0, 28, 176]
abbrev dktX7_toString_1 : List UInt8 := dkwX7_toString_1 ++ []
def dkwX7_toString_0 : List UInt8 := [187, 0, 16, 89, 183, 0, 18, 42, 180, 0, 13, 182, 0, 19, 18, 23, 182, 0, 25, 42, 180, 0, 7]
abbrev dktX7_toString_0 : List UInt8 := dkwX7_toString_0 ++ dktX7_toString_1
theorem dksX7_toString_0 : cX7_toString.data.toList.drop 0 = dktX7_toString_0 := by decide +kernel
theorem dksX7_toString_1 : cX7_toString.data.toList.drop 23 = dktX7_toString_1 := dk_seg dksX7_toString_0 23 rfl rfl
theorem dX7_toString_0 : decode cX7_toString 0 = .ok (.new 16, 3) := dk_187 0 16 (dk_at dksX7_toString_0 0 rfl rfl)
theorem dX7_toString_3 : decode cX7_toString 3 = .ok (.dup, 1) := dk_89 (dk_at dksX7_toString_0 3 rfl rfl)
theorem dX7_toString_4 : decode cX7_toString 4 = .ok (.invokespecial 18, 3) := dk_183 0 18 (dk_at dksX7_toString_0 4 rfl rfl)
theorem dX7_toString_7 : decode cX7_toString 7 = .ok (.aload_n 0, 1) := dk_42 (dk_at dksX7_toString_0 7 rfl rfl)
theorem dX7_toString_8 : decode cX7_toString 8 = .ok (.getfield 13, 3) := dk_180 0 13 (dk_at dksX7_toString_0 8 rfl rfl)
theorem dX7_toString_11 : decode cX7_toString 11 = .ok (.invokevirtual 19, 3) := dk_182 0 19 (dk_at dksX7_toString_0 11 rfl rfl)
theorem dX7_toString_14 : decode cX7_toString 14 = .ok (.ldc 23, 2) := dk_18 23 (dk_at dksX7_toString_0 14 rfl rfl)
theorem dX7_toString_16 : decode cX7_toString 16 = .ok (.invokevirtual 25, 3) := dk_182 0 25 (dk_at dksX7_toString_0 16 rfl rfl)
theorem dX7_toString_19 : decode cX7_toString 19 = .ok (.aload_n 0, 1) := dk_42 (dk_at dksX7_toString_0 19 rfl rfl)
theorem dX7_toString_20 : decode cX7_toString 20 = .ok (.getfield 7, 3) := dk_180 0 7 (dk_at dksX7_toString_0 20 rfl rfl)
theorem dX7_toString_23 : decode cX7_toString 23 = .ok (.invokevirtual 19, 3) := dk_182 0 19 (dk_at dksX7_toString_1 0 rfl rfl)
theorem dX7_toString_26 : decode cX7_toString 26 = .ok (.invokevirtual 28, 3) := dk_182 0 28 (dk_at dksX7_toString_1 3 rfl rfl)
theorem dX7_toString_29 : decode cX7_toString 29 = .ok (.areturn, 1) := dk_176 (dk_at dksX7_toString_1 6 rfl rfl)
abbrev cX7_init : ByteArray := prog_4_method_1_code
def yX7_init : MethodName := ⟨RX7, "<init>", "(II)V"⟩
def dkwX7_init_0 : List UInt8 := [42, 183, 0, 1, 42, 27, 181, 0, 7, 42, 28, 181, 0, 13, 177]
abbrev dktX7_init_0 : List UInt8 := dkwX7_init_0 ++ []
theorem dksX7_init_0 : cX7_init.data.toList.drop 0 = dktX7_init_0 := by decide +kernel
theorem dX7_init_0 : decode cX7_init 0 = .ok (.aload_n 0, 1) := dk_42 (dk_at dksX7_init_0 0 rfl rfl)
theorem dX7_init_1 : decode cX7_init 1 = .ok (.invokespecial 1, 3) := dk_183 0 1 (dk_at dksX7_init_0 1 rfl rfl)
theorem dX7_init_4 : decode cX7_init 4 = .ok (.aload_n 0, 1) := dk_42 (dk_at dksX7_init_0 4 rfl rfl)
theorem dX7_init_5 : decode cX7_init 5 = .ok (.iload_n 1, 1) := dk_27 (dk_at dksX7_init_0 5 rfl rfl)
theorem dX7_init_6 : decode cX7_init 6 = .ok (.putfield 7, 3) := dk_181 0 7 (dk_at dksX7_init_0 6 rfl rfl)
theorem dX7_init_9 : decode cX7_init 9 = .ok (.aload_n 0, 1) := dk_42 (dk_at dksX7_init_0 9 rfl rfl)
theorem dX7_init_10 : decode cX7_init 10 = .ok (.iload_n 2, 1) := dk_28 (dk_at dksX7_init_0 10 rfl rfl)
theorem dX7_init_11 : decode cX7_init 11 = .ok (.putfield 13, 3) := dk_181 0 13 (dk_at dksX7_init_0 11 rfl rfl)
theorem dX7_init_14 : decode cX7_init 14 = .ok (.return_, 1) := dk_177 (dk_at dksX7_init_0 14 rfl rfl)
abbrev cX7_room : ByteArray := prog_4_method_2_code
def yX7_room : MethodName := ⟨RX7, "room", "()I"⟩
def dkwX7_room_0 : List UInt8 := [42, 180, 0, 7, 42, 180, 0, 13, 100, 172]
abbrev dktX7_room_0 : List UInt8 := dkwX7_room_0 ++ []
theorem dksX7_room_0 : cX7_room.data.toList.drop 0 = dktX7_room_0 := by decide +kernel
theorem dX7_room_0 : decode cX7_room 0 = .ok (.aload_n 0, 1) := dk_42 (dk_at dksX7_room_0 0 rfl rfl)
theorem dX7_room_1 : decode cX7_room 1 = .ok (.getfield 7, 3) := dk_180 0 7 (dk_at dksX7_room_0 1 rfl rfl)
theorem dX7_room_4 : decode cX7_room 4 = .ok (.aload_n 0, 1) := dk_42 (dk_at dksX7_room_0 4 rfl rfl)
theorem dX7_room_5 : decode cX7_room 5 = .ok (.getfield 13, 3) := dk_180 0 13 (dk_at dksX7_room_0 5 rfl rfl)
theorem dX7_room_8 : decode cX7_room 8 = .ok (.isub, 1) := dk_100 (dk_at dksX7_room_0 8 rfl rfl)
theorem dX7_room_9 : decode cX7_room 9 = .ok (.ireturn, 1) := dk_172 (dk_at dksX7_room_0 9 rfl rfl)
theorem q172 : (Jvm.Cond.initialized "DoughLedger$Bowl") ∈ lw_all := lw_g (lw_at lw_m1 48 rfl) rfl
theorem q922 : (Jvm.Cond.selects "DoughLedger$Bowl" ({ cls := "java/lang/Object", name := "getClass", desc := "()Ljava/lang/Class;" } : Jvm.MethodName) ({ cls := "java/lang/Object", name := "getClass", desc := "()Ljava/lang/Class;" } : Jvm.MethodName)) ∈ lw_all := lw_g (lw_at lw_m4 78 rfl) rfl
theorem q2116 : (Jvm.Cond.instanceMethod ({ cls := "DoughLedger$Bowl", name := "toString", desc := "()Ljava/lang/String;" } : Jvm.MethodName)) ∈ lw_all := lw_g (lw_at lw_m9 72 rfl) rfl
theorem q2117 : (Jvm.Cond.selects "DoughLedger$Bowl" ({ cls := "DoughLedger$Bowl", name := "toString", desc := "()Ljava/lang/String;" } : Jvm.MethodName) ({ cls := "DoughLedger$Bowl", name := "toString", desc := "()Ljava/lang/String;" } : Jvm.MethodName)) ∈ lw_all := lw_g (lw_at lw_m9 73 rfl) rfl
theorem q2118 : (Jvm.Cond.code ({ cls := "DoughLedger$Bowl", name := "toString", desc := "()Ljava/lang/String;" } : Jvm.MethodName) prog_4_method_3_code (1 : Nat) (Option.some (Jvm.ClassFile.FieldType.object "java/lang/String"))) ∈ lw_all := lw_g (lw_at lw_m9 74 rfl) rfl
theorem q2119 : (Jvm.Cond.classLink "DoughLedger$Bowl" (16 : Nat) "java/lang/StringBuilder") ∈ lw_all := lw_g (lw_at lw_m9 75 rfl) rfl
theorem q2120 : (Jvm.Cond.methodLink "DoughLedger$Bowl" (18 : Nat) ({ cls := "java/lang/StringBuilder", name := "<init>", desc := "()V" } : Jvm.MethodName)) ∈ lw_all := lw_g (lw_at lw_m9 76 rfl) rfl
theorem q2121 : (Jvm.Cond.methodLink "DoughLedger$Bowl" (19 : Nat) ({ cls := "java/lang/StringBuilder", name := "append", desc := "(I)Ljava/lang/StringBuilder;" } : Jvm.MethodName)) ∈ lw_all := lw_g (lw_at lw_m9 77 rfl) rfl
theorem q2122 : (Jvm.Cond.stringRef "DoughLedger$Bowl" (23 : Nat) "/") ∈ lw_tbl := lw_at lw_m9 78 rfl
theorem q2123 : (Jvm.Cond.methodLink "DoughLedger$Bowl" (25 : Nat) ({ cls := "java/lang/StringBuilder", name := "append", desc := "(Ljava/lang/String;)Ljava/lang/StringBuilder;" } : Jvm.MethodName)) ∈ lw_all := lw_g (lw_at lw_m9 79 rfl) rfl
theorem q2124 : (Jvm.Cond.methodLink "DoughLedger$Bowl" (28 : Nat) ({ cls := "java/lang/StringBuilder", name := "toString", desc := "()Ljava/lang/String;" } : Jvm.MethodName)) ∈ lw_all := lw_g (lw_at lw_m9 80 rfl) rfl
theorem q2216 : (Jvm.Cond.instantiable "DoughLedger$Bowl" (2 : Nat)) ∈ lw_all := lw_g (lw_at lw_m9 172 rfl) rfl
theorem q2218 : (Jvm.Cond.instanceMethod ({ cls := "DoughLedger$Bowl", name := "<init>", desc := "(II)V" } : Jvm.MethodName)) ∈ lw_all := lw_g (lw_at lw_m9 174 rfl) rfl
theorem q2219 : (Jvm.Cond.code ({ cls := "DoughLedger$Bowl", name := "<init>", desc := "(II)V" } : Jvm.MethodName) prog_4_method_1_code (3 : Nat) (Option.none : Option Jvm.ClassFile.FieldType)) ∈ lw_all := lw_g (lw_at lw_m9 175 rfl) rfl
theorem q2220 : (Jvm.Cond.methodLink "DoughLedger$Bowl" (1 : Nat) ({ cls := "java/lang/Object", name := "<init>", desc := "()V" } : Jvm.MethodName)) ∈ lw_all := lw_g (lw_at lw_m9 176 rfl) rfl
theorem q2221 : (Jvm.Cond.fieldLink "DoughLedger$Bowl" (7 : Nat) "DoughLedger$Bowl" "capacity" "I") ∈ lw_all := lw_g (lw_at lw_m9 177 rfl) rfl
theorem q2224 : (Jvm.Cond.fieldLink "DoughLedger$Bowl" (13 : Nat) "DoughLedger$Bowl" "content" "I") ∈ lw_all := lw_g (lw_at lw_m9 180 rfl) rfl
theorem q2227 : (Jvm.Cond.laysFinal "DoughLedger$Bowl" "DoughLedger$Bowl" "capacity" "I") ∈ lw_all := lw_g (lw_at lw_m9 183 rfl) rfl
theorem q2228 : (Jvm.Cond.soleField "DoughLedger$Bowl" "capacity") ∈ lw_all := lw_g (lw_at lw_m9 184 rfl) rfl
theorem q2229 : (Jvm.Cond.lays "DoughLedger$Bowl" "DoughLedger$Bowl" "content" "I") ∈ lw_all := lw_g (lw_at lw_m9 185 rfl) rfl
theorem q2230 : (Jvm.Cond.soleField "DoughLedger$Bowl" "content") ∈ lw_all := lw_g (lw_at lw_m9 186 rfl) rfl
theorem q2231 : (Jvm.Cond.superclass "DoughLedger$Bowl" "java/lang/Object") ∈ lw_all := lw_g (lw_at lw_m9 187 rfl) rfl
theorem q2526 : (Jvm.Cond.instanceMethod ({ cls := "DoughLedger$Bowl", name := "room", desc := "()I" } : Jvm.MethodName)) ∈ lw_all := lw_g (lw_at lw_m11 2 rfl) rfl
theorem q2527 : (Jvm.Cond.selects "DoughLedger$Bowl" ({ cls := "DoughLedger$Bowl", name := "room", desc := "()I" } : Jvm.MethodName) ({ cls := "DoughLedger$Bowl", name := "room", desc := "()I" } : Jvm.MethodName)) ∈ lw_all := lw_g (lw_at lw_m11 3 rfl) rfl
theorem q2528 : (Jvm.Cond.code ({ cls := "DoughLedger$Bowl", name := "room", desc := "()I" } : Jvm.MethodName) prog_4_method_2_code (1 : Nat) (Option.some Jvm.ClassFile.FieldType.int)) ∈ lw_all := lw_g (lw_at lw_m11 4 rfl) rfl
theorem q2843 : (Jvm.Cond.selects "DoughLedger$Bowl" ({ cls := "java/lang/Object", name := "toString", desc := "()Ljava/lang/String;" } : Jvm.MethodName) ({ cls := "DoughLedger$Bowl", name := "toString", desc := "()Ljava/lang/String;" } : Jvm.MethodName)) ∈ lw_all := lw_g (lw_at lw_m12 79 rfl) rfl
theorem q4050 : (Jvm.Cond.castable "DoughLedger$Bowl" "java/lang/Object") ∈ lw_tbl := lw_at lw_m17 86 rfl
theorem in_X7 : ∀ w ∈ wsX70, w ∈ lw_all := lw_in wsX70 [2227, 2229] (by decide +kernel) (by decide +kernel)

/-! DoughLedger$Loaf -/
set_option maxRecDepth 100000
def RX8 : String := "DoughLedger$Loaf"
def TX8 : u_T := fun k => match k with
  | 0 => ("DoughLedger$Loaf", "weight", "I", true)
  | 1 => ("DoughLedger$Loaf", "minutes", "I", true)
  | _ => ("DoughLedger$Loaf", "crumbs", "I", false)
def tyX8 : Nat → FieldType := fun k => match k with
  | 0 => .int
  | 1 => .int
  | _ => .int
abbrev wsX80 : List Cond := u_ws RX8 TX8 3
theorem nmX8 : ∀ a, a < 3 → ∀ b, b < 3 → a ≠ b → (TX8 a).2.1 ≠ (TX8 b).2.1 := by decide +kernel
theorem tyX8_ok : ∀ k, k < 3 → parseFieldDescriptor (TX8 k).2.2.1 = some (tyX8 k) := by decide +kernel
abbrev cX8_copy : ByteArray := prog_11_method_2_code
def yX8_copy : MethodName := ⟨RX8, "copy", "()LDoughLedger$Loaf;"⟩
def dkwX8_copy_0 : List UInt8 := [187, 0, 8, 89, 42, 180, 0, 7, 42, 180, 0, 13, 42, 180, 0, 16, 183, 0, 19, 176]
abbrev dktX8_copy_0 : List UInt8 := dkwX8_copy_0 ++ []
theorem dksX8_copy_0 : cX8_copy.data.toList.drop 0 = dktX8_copy_0 := by decide +kernel
theorem dX8_copy_0 : decode cX8_copy 0 = .ok (.new 8, 3) := dk_187 0 8 (dk_at dksX8_copy_0 0 rfl rfl)
theorem dX8_copy_3 : decode cX8_copy 3 = .ok (.dup, 1) := dk_89 (dk_at dksX8_copy_0 3 rfl rfl)
theorem dX8_copy_4 : decode cX8_copy 4 = .ok (.aload_n 0, 1) := dk_42 (dk_at dksX8_copy_0 4 rfl rfl)
theorem dX8_copy_5 : decode cX8_copy 5 = .ok (.getfield 7, 3) := dk_180 0 7 (dk_at dksX8_copy_0 5 rfl rfl)
theorem dX8_copy_8 : decode cX8_copy 8 = .ok (.aload_n 0, 1) := dk_42 (dk_at dksX8_copy_0 8 rfl rfl)
theorem dX8_copy_9 : decode cX8_copy 9 = .ok (.getfield 13, 3) := dk_180 0 13 (dk_at dksX8_copy_0 9 rfl rfl)
theorem dX8_copy_12 : decode cX8_copy 12 = .ok (.aload_n 0, 1) := dk_42 (dk_at dksX8_copy_0 12 rfl rfl)
theorem dX8_copy_13 : decode cX8_copy 13 = .ok (.getfield 16, 3) := dk_180 0 16 (dk_at dksX8_copy_0 13 rfl rfl)
theorem dX8_copy_16 : decode cX8_copy 16 = .ok (.invokespecial 19, 3) := dk_183 0 19 (dk_at dksX8_copy_0 16 rfl rfl)
theorem dX8_copy_19 : decode cX8_copy 19 = .ok (.areturn, 1) := dk_176 (dk_at dksX8_copy_0 19 rfl rfl)
abbrev cX8_init : ByteArray := prog_11_method_1_code
def yX8_init : MethodName := ⟨RX8, "<init>", "(III)V"⟩
def dkwX8_init_0 : List UInt8 := [42, 183, 0, 1, 42, 27, 181, 0, 7, 42, 28, 181, 0, 13, 42, 29, 181, 0, 16, 177]
abbrev dktX8_init_0 : List UInt8 := dkwX8_init_0 ++ []
theorem dksX8_init_0 : cX8_init.data.toList.drop 0 = dktX8_init_0 := by decide +kernel
theorem dX8_init_0 : decode cX8_init 0 = .ok (.aload_n 0, 1) := dk_42 (dk_at dksX8_init_0 0 rfl rfl)
theorem dX8_init_1 : decode cX8_init 1 = .ok (.invokespecial 1, 3) := dk_183 0 1 (dk_at dksX8_init_0 1 rfl rfl)
theorem dX8_init_4 : decode cX8_init 4 = .ok (.aload_n 0, 1) := dk_42 (dk_at dksX8_init_0 4 rfl rfl)
theorem dX8_init_5 : decode cX8_init 5 = .ok (.iload_n 1, 1) := dk_27 (dk_at dksX8_init_0 5 rfl rfl)
theorem dX8_init_6 : decode cX8_init 6 = .ok (.putfield 7, 3) := dk_181 0 7 (dk_at dksX8_init_0 6 rfl rfl)
theorem dX8_init_9 : decode cX8_init 9 = .ok (.aload_n 0, 1) := dk_42 (dk_at dksX8_init_0 9 rfl rfl)
theorem dX8_init_10 : decode cX8_init 10 = .ok (.iload_n 2, 1) := dk_28 (dk_at dksX8_init_0 10 rfl rfl)
theorem dX8_init_11 : decode cX8_init 11 = .ok (.putfield 13, 3) := dk_181 0 13 (dk_at dksX8_init_0 11 rfl rfl)
theorem dX8_init_14 : decode cX8_init 14 = .ok (.aload_n 0, 1) := dk_42 (dk_at dksX8_init_0 14 rfl rfl)
theorem dX8_init_15 : decode cX8_init 15 = .ok (.iload_n 3, 1) := dk_29 (dk_at dksX8_init_0 15 rfl rfl)
theorem dX8_init_16 : decode cX8_init 16 = .ok (.putfield 16, 3) := dk_181 0 16 (dk_at dksX8_init_0 16 rfl rfl)
theorem dX8_init_19 : decode cX8_init 19 = .ok (.return_, 1) := dk_177 (dk_at dksX8_init_0 19 rfl rfl)
theorem q174 : (Jvm.Cond.initialized "DoughLedger$Loaf") ∈ lw_all := lw_g (lw_at lw_m1 50 rfl) rfl
theorem q928 : (Jvm.Cond.selects "DoughLedger$Loaf" ({ cls := "java/lang/Object", name := "getClass", desc := "()Ljava/lang/Class;" } : Jvm.MethodName) ({ cls := "java/lang/Object", name := "getClass", desc := "()Ljava/lang/Class;" } : Jvm.MethodName)) ∈ lw_all := lw_g (lw_at lw_m4 84 rfl) rfl
theorem q2288 : (Jvm.Cond.instanceMethod ({ cls := "DoughLedger$Loaf", name := "copy", desc := "()LDoughLedger$Loaf;" } : Jvm.MethodName)) ∈ lw_all := lw_g (lw_at lw_m10 4 rfl) rfl
theorem q2289 : (Jvm.Cond.selects "DoughLedger$Loaf" ({ cls := "DoughLedger$Loaf", name := "copy", desc := "()LDoughLedger$Loaf;" } : Jvm.MethodName) ({ cls := "DoughLedger$Loaf", name := "copy", desc := "()LDoughLedger$Loaf;" } : Jvm.MethodName)) ∈ lw_all := lw_g (lw_at lw_m10 5 rfl) rfl
theorem q2290 : (Jvm.Cond.code ({ cls := "DoughLedger$Loaf", name := "copy", desc := "()LDoughLedger$Loaf;" } : Jvm.MethodName) prog_11_method_2_code (1 : Nat) (Option.some (Jvm.ClassFile.FieldType.object "DoughLedger$Loaf"))) ∈ lw_all := lw_g (lw_at lw_m10 6 rfl) rfl
theorem q2291 : (Jvm.Cond.classLink "DoughLedger$Loaf" (8 : Nat) "DoughLedger$Loaf") ∈ lw_all := lw_g (lw_at lw_m10 7 rfl) rfl
theorem q2292 : (Jvm.Cond.instantiable "DoughLedger$Loaf" (3 : Nat)) ∈ lw_all := lw_g (lw_at lw_m10 8 rfl) rfl
theorem q2293 : (Jvm.Cond.methodLink "DoughLedger$Loaf" (19 : Nat) ({ cls := "DoughLedger$Loaf", name := "<init>", desc := "(III)V" } : Jvm.MethodName)) ∈ lw_all := lw_g (lw_at lw_m10 9 rfl) rfl
theorem q2294 : (Jvm.Cond.instanceMethod ({ cls := "DoughLedger$Loaf", name := "<init>", desc := "(III)V" } : Jvm.MethodName)) ∈ lw_all := lw_g (lw_at lw_m10 10 rfl) rfl
theorem q2295 : (Jvm.Cond.code ({ cls := "DoughLedger$Loaf", name := "<init>", desc := "(III)V" } : Jvm.MethodName) prog_11_method_1_code (4 : Nat) (Option.none : Option Jvm.ClassFile.FieldType)) ∈ lw_all := lw_g (lw_at lw_m10 11 rfl) rfl
theorem q2296 : (Jvm.Cond.methodLink "DoughLedger$Loaf" (1 : Nat) ({ cls := "java/lang/Object", name := "<init>", desc := "()V" } : Jvm.MethodName)) ∈ lw_all := lw_g (lw_at lw_m10 12 rfl) rfl
theorem q2297 : (Jvm.Cond.fieldLink "DoughLedger$Loaf" (7 : Nat) "DoughLedger$Loaf" "weight" "I") ∈ lw_all := lw_g (lw_at lw_m10 13 rfl) rfl
theorem q2300 : (Jvm.Cond.fieldLink "DoughLedger$Loaf" (13 : Nat) "DoughLedger$Loaf" "minutes" "I") ∈ lw_all := lw_g (lw_at lw_m10 16 rfl) rfl
theorem q2303 : (Jvm.Cond.fieldLink "DoughLedger$Loaf" (16 : Nat) "DoughLedger$Loaf" "crumbs" "I") ∈ lw_all := lw_g (lw_at lw_m10 19 rfl) rfl
theorem q2306 : (Jvm.Cond.laysFinal "DoughLedger$Loaf" "DoughLedger$Loaf" "weight" "I") ∈ lw_all := lw_g (lw_at lw_m10 22 rfl) rfl
theorem q2307 : (Jvm.Cond.soleField "DoughLedger$Loaf" "weight") ∈ lw_all := lw_g (lw_at lw_m10 23 rfl) rfl
theorem q2308 : (Jvm.Cond.laysFinal "DoughLedger$Loaf" "DoughLedger$Loaf" "minutes" "I") ∈ lw_all := lw_g (lw_at lw_m10 24 rfl) rfl
theorem q2309 : (Jvm.Cond.soleField "DoughLedger$Loaf" "minutes") ∈ lw_all := lw_g (lw_at lw_m10 25 rfl) rfl
theorem q2310 : (Jvm.Cond.lays "DoughLedger$Loaf" "DoughLedger$Loaf" "crumbs" "I") ∈ lw_all := lw_g (lw_at lw_m10 26 rfl) rfl
theorem q2311 : (Jvm.Cond.soleField "DoughLedger$Loaf" "crumbs") ∈ lw_all := lw_g (lw_at lw_m10 27 rfl) rfl
theorem q2312 : (Jvm.Cond.superclass "DoughLedger$Loaf" "java/lang/Object") ∈ lw_all := lw_g (lw_at lw_m10 28 rfl) rfl
theorem q2857 : (Jvm.Cond.selects "DoughLedger$Loaf" ({ cls := "java/lang/Object", name := "toString", desc := "()Ljava/lang/String;" } : Jvm.MethodName) ({ cls := "java/lang/Object", name := "toString", desc := "()Ljava/lang/String;" } : Jvm.MethodName)) ∈ lw_all := lw_g (lw_at lw_m12 93 rfl) rfl
theorem q4052 : (Jvm.Cond.castable "DoughLedger$Loaf" "java/lang/Object") ∈ lw_tbl := lw_at lw_m17 88 rfl
theorem in_X8 : ∀ w ∈ wsX80, w ∈ lw_all := lw_in wsX80 [2306, 2308, 2310] (by decide +kernel) (by decide +kernel)

/-! DoughLedger$Sharing -/
set_option maxRecDepth 100000
def RX9 : String := "DoughLedger$Sharing"
def TX9 : u_T := fun k => match k with
  | 0 => ("DoughLedger$Sharing", "loaves", "Ljava/util/List;", true)
  | 1 => ("DoughLedger$Sharing", "crumbs", "I", true)
  | _ => ("DoughLedger$Sharing", "weights", "I", true)
def tyX9 : Nat → FieldType := fun k => match k with
  | 0 => .object "java/util/List"
  | 1 => .int
  | _ => .int
abbrev wsX90 : List Cond := u_ws RX9 TX9 3
theorem nmX9 : ∀ a, a < 3 → ∀ b, b < 3 → a ≠ b → (TX9 a).2.1 ≠ (TX9 b).2.1 := by decide +kernel
theorem tyX9_ok : ∀ k, k < 3 → parseFieldDescriptor (TX9 k).2.2.1 = some (tyX9 k) := by decide +kernel
abbrev cX9_init : ByteArray := prog_17_method_1_code
def yX9_init : MethodName := ⟨RX9, "<init>", "(Ljava/util/List;I)V"⟩
def dkwX9_init_2 : List UInt8 := [25, 5, 180, 0, 35, 96, 62, 167, 255, 226, 42, 29, 181, 0, 38, 177]
abbrev dktX9_init_2 : List UInt8 := dkwX9_init_2 ++ []
def dkwX9_init_1 : List UInt8 := [25, 4, 185, 0, 23, 1, 0, 153, 0, 26, 25, 4, 185, 0, 29, 1, 0, 192, 0, 33, 58, 5, 29]
abbrev dktX9_init_1 : List UInt8 := dkwX9_init_1 ++ dktX9_init_2
def dkwX9_init_0 : List UInt8 := [42, 183, 0, 1, 42, 43, 181, 0, 7, 42, 28, 181, 0, 13, 3, 62, 43, 185, 0, 17, 1, 0, 58, 4]
abbrev dktX9_init_0 : List UInt8 := dkwX9_init_0 ++ dktX9_init_1
theorem dksX9_init_0 : cX9_init.data.toList.drop 0 = dktX9_init_0 := by decide +kernel
theorem dksX9_init_1 : cX9_init.data.toList.drop 24 = dktX9_init_1 := dk_seg dksX9_init_0 24 rfl rfl
theorem dksX9_init_2 : cX9_init.data.toList.drop 47 = dktX9_init_2 := dk_seg dksX9_init_1 23 rfl rfl
theorem dX9_init_0 : decode cX9_init 0 = .ok (.aload_n 0, 1) := dk_42 (dk_at dksX9_init_0 0 rfl rfl)
theorem dX9_init_1 : decode cX9_init 1 = .ok (.invokespecial 1, 3) := dk_183 0 1 (dk_at dksX9_init_0 1 rfl rfl)
theorem dX9_init_4 : decode cX9_init 4 = .ok (.aload_n 0, 1) := dk_42 (dk_at dksX9_init_0 4 rfl rfl)
theorem dX9_init_5 : decode cX9_init 5 = .ok (.aload_n 1, 1) := dk_43 (dk_at dksX9_init_0 5 rfl rfl)
theorem dX9_init_6 : decode cX9_init 6 = .ok (.putfield 7, 3) := dk_181 0 7 (dk_at dksX9_init_0 6 rfl rfl)
theorem dX9_init_9 : decode cX9_init 9 = .ok (.aload_n 0, 1) := dk_42 (dk_at dksX9_init_0 9 rfl rfl)
theorem dX9_init_10 : decode cX9_init 10 = .ok (.iload_n 2, 1) := dk_28 (dk_at dksX9_init_0 10 rfl rfl)
theorem dX9_init_11 : decode cX9_init 11 = .ok (.putfield 13, 3) := dk_181 0 13 (dk_at dksX9_init_0 11 rfl rfl)
theorem dX9_init_14 : decode cX9_init 14 = .ok (.iconst 0, 1) := dk_3 (dk_at dksX9_init_0 14 rfl rfl)
theorem dX9_init_15 : decode cX9_init 15 = .ok (.istore_n 3, 1) := dk_62 (dk_at dksX9_init_0 15 rfl rfl)
theorem dX9_init_16 : decode cX9_init 16 = .ok (.aload_n 1, 1) := dk_43 (dk_at dksX9_init_0 16 rfl rfl)
theorem dX9_init_17 : decode cX9_init 17 = .ok (.invokeinterface 17 1, 5) := by decide +kernel
theorem dX9_init_22 : decode cX9_init 22 = .ok (.astore 4, 2) := dk_58 4 (dk_at dksX9_init_0 22 rfl rfl)
theorem dX9_init_24 : decode cX9_init 24 = .ok (.aload 4, 2) := dk_25 4 (dk_at dksX9_init_1 0 rfl rfl)
theorem dX9_init_26 : decode cX9_init 26 = .ok (.invokeinterface 23 1, 5) := by decide +kernel
theorem dX9_init_31 : decode cX9_init 31 = .ok (.ifCond .eq 26, 3) := dk_153 0 26 (dk_at dksX9_init_1 7 rfl rfl)
theorem dX9_init_34 : decode cX9_init 34 = .ok (.aload 4, 2) := dk_25 4 (dk_at dksX9_init_1 10 rfl rfl)
theorem dX9_init_36 : decode cX9_init 36 = .ok (.invokeinterface 29 1, 5) := by decide +kernel
theorem dX9_init_41 : decode cX9_init 41 = .ok (.checkcast 33, 3) := dk_192 0 33 (dk_at dksX9_init_1 17 rfl rfl)
theorem dX9_init_44 : decode cX9_init 44 = .ok (.astore 5, 2) := dk_58 5 (dk_at dksX9_init_1 20 rfl rfl)
theorem dX9_init_46 : decode cX9_init 46 = .ok (.iload_n 3, 1) := dk_29 (dk_at dksX9_init_1 22 rfl rfl)
theorem dX9_init_47 : decode cX9_init 47 = .ok (.aload 5, 2) := dk_25 5 (dk_at dksX9_init_2 0 rfl rfl)
theorem dX9_init_49 : decode cX9_init 49 = .ok (.getfield 35, 3) := dk_180 0 35 (dk_at dksX9_init_2 2 rfl rfl)
theorem dX9_init_52 : decode cX9_init 52 = .ok (.iadd, 1) := dk_96 (dk_at dksX9_init_2 5 rfl rfl)
theorem dX9_init_53 : decode cX9_init 53 = .ok (.istore_n 3, 1) := dk_62 (dk_at dksX9_init_2 6 rfl rfl)
theorem dX9_init_54 : decode cX9_init 54 = .ok (.goto (-30), 3) := dk_167 255 226 (dk_at dksX9_init_2 7 rfl rfl)
theorem dX9_init_57 : decode cX9_init 57 = .ok (.aload_n 0, 1) := dk_42 (dk_at dksX9_init_2 10 rfl rfl)
theorem dX9_init_58 : decode cX9_init 58 = .ok (.iload_n 3, 1) := dk_29 (dk_at dksX9_init_2 11 rfl rfl)
theorem dX9_init_59 : decode cX9_init 59 = .ok (.putfield 38, 3) := dk_181 0 38 (dk_at dksX9_init_2 12 rfl rfl)
theorem dX9_init_62 : decode cX9_init 62 = .ok (.return_, 1) := dk_177 (dk_at dksX9_init_2 15 rfl rfl)
abbrev cX9_shares : ByteArray := prog_17_method_5_code
def yX9_shares : MethodName := ⟨RX9, "shares", "()[I"⟩
def dkwX9_shares_5 : List UInt8 := [44, 176]
abbrev dktX9_shares_5 : List UInt8 := dkwX9_shares_5 ++ []
def dkwX9_shares_4 : List UInt8 := [25, 5, 180, 0, 72, 92, 46, 29, 158, 0, 7, 4, 167, 0, 4, 3, 96, 79, 132, 3, 255, 167, 255, 212]
abbrev dktX9_shares_4 : List UInt8 := dkwX9_shares_4 ++ dktX9_shares_5
def dkwX9_shares_3 : List UInt8 := [25, 4, 185, 0, 23, 1, 0, 153, 0, 40, 25, 4, 185, 0, 29, 1, 0, 192, 0, 56, 58, 5, 44]
abbrev dktX9_shares_3 : List UInt8 := dkwX9_shares_3 ++ dktX9_shares_4
def dkwX9_shares_2 : List UInt8 := [183, 0, 61, 182, 0, 64, 87, 132, 3, 1, 167, 255, 221, 42, 182, 0, 68, 62, 43, 182, 0, 71, 58, 4]
abbrev dktX9_shares_2 : List UInt8 := dkwX9_shares_2 ++ dktX9_shares_3
def dkwX9_shares_1 : List UInt8 := [190, 162, 0, 35, 44, 29, 42, 29, 182, 0, 49, 79, 43, 187, 0, 56, 89, 29, 42, 29, 182, 0, 58]
abbrev dktX9_shares_1 : List UInt8 := dkwX9_shares_1 ++ dktX9_shares_2
def dkwX9_shares_0 : List UInt8 := [187, 0, 53, 89, 183, 0, 55, 76, 42, 180, 0, 7, 185, 0, 45, 1, 0, 188, 10, 77, 3, 62, 29, 44]
abbrev dktX9_shares_0 : List UInt8 := dkwX9_shares_0 ++ dktX9_shares_1
theorem dksX9_shares_0 : cX9_shares.data.toList.drop 0 = dktX9_shares_0 := by decide +kernel
theorem dksX9_shares_1 : cX9_shares.data.toList.drop 24 = dktX9_shares_1 := dk_seg dksX9_shares_0 24 rfl rfl
theorem dksX9_shares_2 : cX9_shares.data.toList.drop 47 = dktX9_shares_2 := dk_seg dksX9_shares_1 23 rfl rfl
theorem dksX9_shares_3 : cX9_shares.data.toList.drop 71 = dktX9_shares_3 := dk_seg dksX9_shares_2 24 rfl rfl
theorem dksX9_shares_4 : cX9_shares.data.toList.drop 94 = dktX9_shares_4 := dk_seg dksX9_shares_3 23 rfl rfl
theorem dksX9_shares_5 : cX9_shares.data.toList.drop 118 = dktX9_shares_5 := dk_seg dksX9_shares_4 24 rfl rfl
theorem dX9_shares_0 : decode cX9_shares 0 = .ok (.new 53, 3) := dk_187 0 53 (dk_at dksX9_shares_0 0 rfl rfl)
theorem dX9_shares_3 : decode cX9_shares 3 = .ok (.dup, 1) := dk_89 (dk_at dksX9_shares_0 3 rfl rfl)
theorem dX9_shares_4 : decode cX9_shares 4 = .ok (.invokespecial 55, 3) := dk_183 0 55 (dk_at dksX9_shares_0 4 rfl rfl)
theorem dX9_shares_7 : decode cX9_shares 7 = .ok (.astore_n 1, 1) := dk_76 (dk_at dksX9_shares_0 7 rfl rfl)
theorem dX9_shares_8 : decode cX9_shares 8 = .ok (.aload_n 0, 1) := dk_42 (dk_at dksX9_shares_0 8 rfl rfl)
theorem dX9_shares_9 : decode cX9_shares 9 = .ok (.getfield 7, 3) := dk_180 0 7 (dk_at dksX9_shares_0 9 rfl rfl)
theorem dX9_shares_12 : decode cX9_shares 12 = .ok (.invokeinterface 45 1, 5) := by decide +kernel
theorem dX9_shares_17 : decode cX9_shares 17 = .ok (.newarray .int, 2) := dk_188_10 (dk_at dksX9_shares_0 17 rfl rfl)
theorem dX9_shares_19 : decode cX9_shares 19 = .ok (.astore_n 2, 1) := dk_77 (dk_at dksX9_shares_0 19 rfl rfl)
theorem dX9_shares_20 : decode cX9_shares 20 = .ok (.iconst 0, 1) := dk_3 (dk_at dksX9_shares_0 20 rfl rfl)
theorem dX9_shares_21 : decode cX9_shares 21 = .ok (.istore_n 3, 1) := dk_62 (dk_at dksX9_shares_0 21 rfl rfl)
theorem dX9_shares_22 : decode cX9_shares 22 = .ok (.iload_n 3, 1) := dk_29 (dk_at dksX9_shares_0 22 rfl rfl)
theorem dX9_shares_23 : decode cX9_shares 23 = .ok (.aload_n 2, 1) := dk_44 (dk_at dksX9_shares_0 23 rfl rfl)
theorem dX9_shares_24 : decode cX9_shares 24 = .ok (.arraylength, 1) := dk_190 (dk_at dksX9_shares_1 0 rfl rfl)
theorem dX9_shares_25 : decode cX9_shares 25 = .ok (.if_icmp .ge 35, 3) := dk_162 0 35 (dk_at dksX9_shares_1 1 rfl rfl)
theorem dX9_shares_28 : decode cX9_shares 28 = .ok (.aload_n 2, 1) := dk_44 (dk_at dksX9_shares_1 4 rfl rfl)
theorem dX9_shares_29 : decode cX9_shares 29 = .ok (.iload_n 3, 1) := dk_29 (dk_at dksX9_shares_1 5 rfl rfl)
theorem dX9_shares_30 : decode cX9_shares 30 = .ok (.aload_n 0, 1) := dk_42 (dk_at dksX9_shares_1 6 rfl rfl)
theorem dX9_shares_31 : decode cX9_shares 31 = .ok (.iload_n 3, 1) := dk_29 (dk_at dksX9_shares_1 7 rfl rfl)
theorem dX9_shares_32 : decode cX9_shares 32 = .ok (.invokevirtual 49, 3) := dk_182 0 49 (dk_at dksX9_shares_1 8 rfl rfl)
theorem dX9_shares_35 : decode cX9_shares 35 = .ok (.iastore, 1) := dk_79 (dk_at dksX9_shares_1 11 rfl rfl)
theorem dX9_shares_36 : decode cX9_shares 36 = .ok (.aload_n 1, 1) := dk_43 (dk_at dksX9_shares_1 12 rfl rfl)
theorem dX9_shares_37 : decode cX9_shares 37 = .ok (.new 56, 3) := dk_187 0 56 (dk_at dksX9_shares_1 13 rfl rfl)
theorem dX9_shares_40 : decode cX9_shares 40 = .ok (.dup, 1) := dk_89 (dk_at dksX9_shares_1 16 rfl rfl)
theorem dX9_shares_41 : decode cX9_shares 41 = .ok (.iload_n 3, 1) := dk_29 (dk_at dksX9_shares_1 17 rfl rfl)
theorem dX9_shares_42 : decode cX9_shares 42 = .ok (.aload_n 0, 1) := dk_42 (dk_at dksX9_shares_1 18 rfl rfl)
theorem dX9_shares_43 : decode cX9_shares 43 = .ok (.iload_n 3, 1) := dk_29 (dk_at dksX9_shares_1 19 rfl rfl)
theorem dX9_shares_44 : decode cX9_shares 44 = .ok (.invokevirtual 58, 3) := dk_182 0 58 (dk_at dksX9_shares_1 20 rfl rfl)
theorem dX9_shares_47 : decode cX9_shares 47 = .ok (.invokespecial 61, 3) := dk_183 0 61 (dk_at dksX9_shares_2 0 rfl rfl)
theorem dX9_shares_50 : decode cX9_shares 50 = .ok (.invokevirtual 64, 3) := dk_182 0 64 (dk_at dksX9_shares_2 3 rfl rfl)
theorem dX9_shares_53 : decode cX9_shares 53 = .ok (.pop, 1) := dk_87 (dk_at dksX9_shares_2 6 rfl rfl)
theorem dX9_shares_54 : decode cX9_shares 54 = .ok (.iinc 3 1, 3) := dk_132 3 1 (dk_at dksX9_shares_2 7 rfl rfl)
theorem dX9_shares_57 : decode cX9_shares 57 = .ok (.goto (-35), 3) := dk_167 255 221 (dk_at dksX9_shares_2 10 rfl rfl)
theorem dX9_shares_60 : decode cX9_shares 60 = .ok (.aload_n 0, 1) := dk_42 (dk_at dksX9_shares_2 13 rfl rfl)
theorem dX9_shares_61 : decode cX9_shares 61 = .ok (.invokevirtual 68, 3) := dk_182 0 68 (dk_at dksX9_shares_2 14 rfl rfl)
theorem dX9_shares_64 : decode cX9_shares 64 = .ok (.istore_n 3, 1) := dk_62 (dk_at dksX9_shares_2 17 rfl rfl)
theorem dX9_shares_65 : decode cX9_shares 65 = .ok (.aload_n 1, 1) := dk_43 (dk_at dksX9_shares_2 18 rfl rfl)
theorem dX9_shares_66 : decode cX9_shares 66 = .ok (.invokevirtual 71, 3) := dk_182 0 71 (dk_at dksX9_shares_2 19 rfl rfl)
theorem dX9_shares_69 : decode cX9_shares 69 = .ok (.astore 4, 2) := dk_58 4 (dk_at dksX9_shares_2 22 rfl rfl)
theorem dX9_shares_71 : decode cX9_shares 71 = .ok (.aload 4, 2) := dk_25 4 (dk_at dksX9_shares_3 0 rfl rfl)
theorem dX9_shares_73 : decode cX9_shares 73 = .ok (.invokeinterface 23 1, 5) := by decide +kernel
theorem dX9_shares_78 : decode cX9_shares 78 = .ok (.ifCond .eq 40, 3) := dk_153 0 40 (dk_at dksX9_shares_3 7 rfl rfl)
theorem dX9_shares_81 : decode cX9_shares 81 = .ok (.aload 4, 2) := dk_25 4 (dk_at dksX9_shares_3 10 rfl rfl)
theorem dX9_shares_83 : decode cX9_shares 83 = .ok (.invokeinterface 29 1, 5) := by decide +kernel
theorem dX9_shares_88 : decode cX9_shares 88 = .ok (.checkcast 56, 3) := dk_192 0 56 (dk_at dksX9_shares_3 17 rfl rfl)
theorem dX9_shares_91 : decode cX9_shares 91 = .ok (.astore 5, 2) := dk_58 5 (dk_at dksX9_shares_3 20 rfl rfl)
theorem dX9_shares_93 : decode cX9_shares 93 = .ok (.aload_n 2, 1) := dk_44 (dk_at dksX9_shares_3 22 rfl rfl)
theorem dX9_shares_94 : decode cX9_shares 94 = .ok (.aload 5, 2) := dk_25 5 (dk_at dksX9_shares_4 0 rfl rfl)
theorem dX9_shares_96 : decode cX9_shares 96 = .ok (.getfield 72, 3) := dk_180 0 72 (dk_at dksX9_shares_4 2 rfl rfl)
theorem dX9_shares_99 : decode cX9_shares 99 = .ok (.dup2, 1) := dk_92 (dk_at dksX9_shares_4 5 rfl rfl)
theorem dX9_shares_100 : decode cX9_shares 100 = .ok (.iaload, 1) := dk_46 (dk_at dksX9_shares_4 6 rfl rfl)
theorem dX9_shares_101 : decode cX9_shares 101 = .ok (.iload_n 3, 1) := dk_29 (dk_at dksX9_shares_4 7 rfl rfl)
theorem dX9_shares_102 : decode cX9_shares 102 = .ok (.ifCond .le 7, 3) := dk_158 0 7 (dk_at dksX9_shares_4 8 rfl rfl)
theorem dX9_shares_105 : decode cX9_shares 105 = .ok (.iconst 1, 1) := dk_4 (dk_at dksX9_shares_4 11 rfl rfl)
theorem dX9_shares_106 : decode cX9_shares 106 = .ok (.goto 4, 3) := dk_167 0 4 (dk_at dksX9_shares_4 12 rfl rfl)
theorem dX9_shares_109 : decode cX9_shares 109 = .ok (.iconst 0, 1) := dk_3 (dk_at dksX9_shares_4 15 rfl rfl)
theorem dX9_shares_110 : decode cX9_shares 110 = .ok (.iadd, 1) := dk_96 (dk_at dksX9_shares_4 16 rfl rfl)
theorem dX9_shares_111 : decode cX9_shares 111 = .ok (.iastore, 1) := dk_79 (dk_at dksX9_shares_4 17 rfl rfl)
theorem dX9_shares_112 : decode cX9_shares 112 = .ok (.iinc 3 (-1), 3) := dk_132 3 255 (dk_at dksX9_shares_4 18 rfl rfl)
theorem dX9_shares_115 : decode cX9_shares 115 = .ok (.goto (-44), 3) := dk_167 255 212 (dk_at dksX9_shares_4 21 rfl rfl)
theorem dX9_shares_118 : decode cX9_shares 118 = .ok (.aload_n 2, 1) := dk_44 (dk_at dksX9_shares_5 0 rfl rfl)
theorem dX9_shares_119 : decode cX9_shares 119 = .ok (.areturn, 1) := dk_176 (dk_at dksX9_shares_5 1 rfl rfl)
abbrev cX9_lowered : ByteArray := prog_17_method_2_code
def yX9_lowered : MethodName := ⟨RX9, "lowered", "(I)I"⟩
def dkwX9_lowered_1 : List UInt8 := [180, 0, 38, 108, 172]
abbrev dktX9_lowered_1 : List UInt8 := dkwX9_lowered_1 ++ []
def dkwX9_lowered_0 : List UInt8 := [42, 180, 0, 13, 42, 180, 0, 7, 27, 185, 0, 41, 2, 0, 192, 0, 33, 180, 0, 35, 104, 42]
abbrev dktX9_lowered_0 : List UInt8 := dkwX9_lowered_0 ++ dktX9_lowered_1
theorem dksX9_lowered_0 : cX9_lowered.data.toList.drop 0 = dktX9_lowered_0 := by decide +kernel
theorem dksX9_lowered_1 : cX9_lowered.data.toList.drop 22 = dktX9_lowered_1 := dk_seg dksX9_lowered_0 22 rfl rfl
theorem dX9_lowered_0 : decode cX9_lowered 0 = .ok (.aload_n 0, 1) := dk_42 (dk_at dksX9_lowered_0 0 rfl rfl)
theorem dX9_lowered_1 : decode cX9_lowered 1 = .ok (.getfield 13, 3) := dk_180 0 13 (dk_at dksX9_lowered_0 1 rfl rfl)
theorem dX9_lowered_4 : decode cX9_lowered 4 = .ok (.aload_n 0, 1) := dk_42 (dk_at dksX9_lowered_0 4 rfl rfl)
theorem dX9_lowered_5 : decode cX9_lowered 5 = .ok (.getfield 7, 3) := dk_180 0 7 (dk_at dksX9_lowered_0 5 rfl rfl)
theorem dX9_lowered_8 : decode cX9_lowered 8 = .ok (.iload_n 1, 1) := dk_27 (dk_at dksX9_lowered_0 8 rfl rfl)
theorem dX9_lowered_9 : decode cX9_lowered 9 = .ok (.invokeinterface 41 2, 5) := by decide +kernel
theorem dX9_lowered_14 : decode cX9_lowered 14 = .ok (.checkcast 33, 3) := dk_192 0 33 (dk_at dksX9_lowered_0 14 rfl rfl)
theorem dX9_lowered_17 : decode cX9_lowered 17 = .ok (.getfield 35, 3) := dk_180 0 35 (dk_at dksX9_lowered_0 17 rfl rfl)
theorem dX9_lowered_20 : decode cX9_lowered 20 = .ok (.imul, 1) := dk_104 (dk_at dksX9_lowered_0 20 rfl rfl)
theorem dX9_lowered_21 : decode cX9_lowered 21 = .ok (.aload_n 0, 1) := dk_42 (dk_at dksX9_lowered_0 21 rfl rfl)
theorem dX9_lowered_22 : decode cX9_lowered 22 = .ok (.getfield 38, 3) := dk_180 0 38 (dk_at dksX9_lowered_1 0 rfl rfl)
theorem dX9_lowered_25 : decode cX9_lowered 25 = .ok (.idiv, 1) := dk_108 (dk_at dksX9_lowered_1 3 rfl rfl)
theorem dX9_lowered_26 : decode cX9_lowered 26 = .ok (.ireturn, 1) := dk_172 (dk_at dksX9_lowered_1 4 rfl rfl)
abbrev cX9_rest : ByteArray := prog_17_method_3_code
def yX9_rest : MethodName := ⟨RX9, "rest", "(I)I"⟩
def dkwX9_rest_1 : List UInt8 := [180, 0, 38, 112, 172]
abbrev dktX9_rest_1 : List UInt8 := dkwX9_rest_1 ++ []
def dkwX9_rest_0 : List UInt8 := [42, 180, 0, 13, 42, 180, 0, 7, 27, 185, 0, 41, 2, 0, 192, 0, 33, 180, 0, 35, 104, 42]
abbrev dktX9_rest_0 : List UInt8 := dkwX9_rest_0 ++ dktX9_rest_1
theorem dksX9_rest_0 : cX9_rest.data.toList.drop 0 = dktX9_rest_0 := by decide +kernel
theorem dksX9_rest_1 : cX9_rest.data.toList.drop 22 = dktX9_rest_1 := dk_seg dksX9_rest_0 22 rfl rfl
theorem dX9_rest_0 : decode cX9_rest 0 = .ok (.aload_n 0, 1) := dk_42 (dk_at dksX9_rest_0 0 rfl rfl)
theorem dX9_rest_1 : decode cX9_rest 1 = .ok (.getfield 13, 3) := dk_180 0 13 (dk_at dksX9_rest_0 1 rfl rfl)
theorem dX9_rest_4 : decode cX9_rest 4 = .ok (.aload_n 0, 1) := dk_42 (dk_at dksX9_rest_0 4 rfl rfl)
theorem dX9_rest_5 : decode cX9_rest 5 = .ok (.getfield 7, 3) := dk_180 0 7 (dk_at dksX9_rest_0 5 rfl rfl)
theorem dX9_rest_8 : decode cX9_rest 8 = .ok (.iload_n 1, 1) := dk_27 (dk_at dksX9_rest_0 8 rfl rfl)
theorem dX9_rest_9 : decode cX9_rest 9 = .ok (.invokeinterface 41 2, 5) := by decide +kernel
theorem dX9_rest_14 : decode cX9_rest 14 = .ok (.checkcast 33, 3) := dk_192 0 33 (dk_at dksX9_rest_0 14 rfl rfl)
theorem dX9_rest_17 : decode cX9_rest 17 = .ok (.getfield 35, 3) := dk_180 0 35 (dk_at dksX9_rest_0 17 rfl rfl)
theorem dX9_rest_20 : decode cX9_rest 20 = .ok (.imul, 1) := dk_104 (dk_at dksX9_rest_0 20 rfl rfl)
theorem dX9_rest_21 : decode cX9_rest 21 = .ok (.aload_n 0, 1) := dk_42 (dk_at dksX9_rest_0 21 rfl rfl)
theorem dX9_rest_22 : decode cX9_rest 22 = .ok (.getfield 38, 3) := dk_180 0 38 (dk_at dksX9_rest_1 0 rfl rfl)
theorem dX9_rest_25 : decode cX9_rest 25 = .ok (.irem, 1) := dk_112 (dk_at dksX9_rest_1 3 rfl rfl)
theorem dX9_rest_26 : decode cX9_rest 26 = .ok (.ireturn, 1) := dk_172 (dk_at dksX9_rest_1 4 rfl rfl)
abbrev cX9_left : ByteArray := prog_17_method_4_code
def yX9_left : MethodName := ⟨RX9, "left", "()I"⟩
def dkwX9_left_1 : List UInt8 := [182, 0, 49, 100, 60, 132, 2, 1, 167, 255, 232, 27, 172]
abbrev dktX9_left_1 : List UInt8 := dkwX9_left_1 ++ []
def dkwX9_left_0 : List UInt8 := [42, 180, 0, 13, 60, 3, 61, 28, 42, 180, 0, 7, 185, 0, 45, 1, 0, 162, 0, 17, 27, 42, 28]
abbrev dktX9_left_0 : List UInt8 := dkwX9_left_0 ++ dktX9_left_1
theorem dksX9_left_0 : cX9_left.data.toList.drop 0 = dktX9_left_0 := by decide +kernel
theorem dksX9_left_1 : cX9_left.data.toList.drop 23 = dktX9_left_1 := dk_seg dksX9_left_0 23 rfl rfl
theorem dX9_left_0 : decode cX9_left 0 = .ok (.aload_n 0, 1) := dk_42 (dk_at dksX9_left_0 0 rfl rfl)
theorem dX9_left_1 : decode cX9_left 1 = .ok (.getfield 13, 3) := dk_180 0 13 (dk_at dksX9_left_0 1 rfl rfl)
theorem dX9_left_4 : decode cX9_left 4 = .ok (.istore_n 1, 1) := dk_60 (dk_at dksX9_left_0 4 rfl rfl)
theorem dX9_left_5 : decode cX9_left 5 = .ok (.iconst 0, 1) := dk_3 (dk_at dksX9_left_0 5 rfl rfl)
theorem dX9_left_6 : decode cX9_left 6 = .ok (.istore_n 2, 1) := dk_61 (dk_at dksX9_left_0 6 rfl rfl)
theorem dX9_left_7 : decode cX9_left 7 = .ok (.iload_n 2, 1) := dk_28 (dk_at dksX9_left_0 7 rfl rfl)
theorem dX9_left_8 : decode cX9_left 8 = .ok (.aload_n 0, 1) := dk_42 (dk_at dksX9_left_0 8 rfl rfl)
theorem dX9_left_9 : decode cX9_left 9 = .ok (.getfield 7, 3) := dk_180 0 7 (dk_at dksX9_left_0 9 rfl rfl)
theorem dX9_left_12 : decode cX9_left 12 = .ok (.invokeinterface 45 1, 5) := by decide +kernel
theorem dX9_left_17 : decode cX9_left 17 = .ok (.if_icmp .ge 17, 3) := dk_162 0 17 (dk_at dksX9_left_0 17 rfl rfl)
theorem dX9_left_20 : decode cX9_left 20 = .ok (.iload_n 1, 1) := dk_27 (dk_at dksX9_left_0 20 rfl rfl)
theorem dX9_left_21 : decode cX9_left 21 = .ok (.aload_n 0, 1) := dk_42 (dk_at dksX9_left_0 21 rfl rfl)
theorem dX9_left_22 : decode cX9_left 22 = .ok (.iload_n 2, 1) := dk_28 (dk_at dksX9_left_0 22 rfl rfl)
theorem dX9_left_23 : decode cX9_left 23 = .ok (.invokevirtual 49, 3) := dk_182 0 49 (dk_at dksX9_left_1 0 rfl rfl)
theorem dX9_left_26 : decode cX9_left 26 = .ok (.isub, 1) := dk_100 (dk_at dksX9_left_1 3 rfl rfl)
theorem dX9_left_27 : decode cX9_left 27 = .ok (.istore_n 1, 1) := dk_60 (dk_at dksX9_left_1 4 rfl rfl)
theorem dX9_left_28 : decode cX9_left 28 = .ok (.iinc 2 1, 3) := dk_132 2 1 (dk_at dksX9_left_1 5 rfl rfl)
theorem dX9_left_31 : decode cX9_left 31 = .ok (.goto (-24), 3) := dk_167 255 232 (dk_at dksX9_left_1 8 rfl rfl)
theorem dX9_left_34 : decode cX9_left 34 = .ok (.iload_n 1, 1) := dk_27 (dk_at dksX9_left_1 11 rfl rfl)
theorem dX9_left_35 : decode cX9_left 35 = .ok (.ireturn, 1) := dk_172 (dk_at dksX9_left_1 12 rfl rfl)
abbrev cX9_shareByRanks : ByteArray := prog_17_method_6_code
def yX9_shareByRanks : MethodName := ⟨RX9, "shareByRanks", "(I)I"⟩
def dkwX9_shareByRanks_3 : List UInt8 := [182, 0, 68, 162, 0, 7, 4, 167, 0, 4, 3, 96, 172]
abbrev dktX9_shareByRanks_3 : List UInt8 := dkwX9_shareByRanks_3 ++ []
def dkwX9_shareByRanks_2 : List UInt8 := [162, 0, 7, 4, 167, 0, 4, 3, 96, 61, 132, 3, 1, 167, 255, 201, 42, 27, 182, 0, 49, 28, 42]
abbrev dktX9_shareByRanks_2 : List UInt8 := dkwX9_shareByRanks_2 ++ dktX9_shareByRanks_3
def dkwX9_shareByRanks_1 : List UInt8 := [27, 182, 0, 58, 163, 0, 21, 42, 29, 182, 0, 58, 42, 27, 182, 0, 58, 160, 0, 12, 29, 27]
abbrev dktX9_shareByRanks_1 : List UInt8 := dkwX9_shareByRanks_1 ++ dktX9_shareByRanks_2
def dkwX9_shareByRanks_0 : List UInt8 := [3, 61, 3, 62, 29, 42, 180, 0, 7, 185, 0, 45, 1, 0, 162, 0, 48, 28, 42, 29, 182, 0, 58, 42]
abbrev dktX9_shareByRanks_0 : List UInt8 := dkwX9_shareByRanks_0 ++ dktX9_shareByRanks_1
theorem dksX9_shareByRanks_0 : cX9_shareByRanks.data.toList.drop 0 = dktX9_shareByRanks_0 := by decide +kernel
theorem dksX9_shareByRanks_1 : cX9_shareByRanks.data.toList.drop 24 = dktX9_shareByRanks_1 := dk_seg dksX9_shareByRanks_0 24 rfl rfl
theorem dksX9_shareByRanks_2 : cX9_shareByRanks.data.toList.drop 46 = dktX9_shareByRanks_2 := dk_seg dksX9_shareByRanks_1 22 rfl rfl
theorem dksX9_shareByRanks_3 : cX9_shareByRanks.data.toList.drop 69 = dktX9_shareByRanks_3 := dk_seg dksX9_shareByRanks_2 23 rfl rfl
theorem dX9_shareByRanks_0 : decode cX9_shareByRanks 0 = .ok (.iconst 0, 1) := dk_3 (dk_at dksX9_shareByRanks_0 0 rfl rfl)
theorem dX9_shareByRanks_1 : decode cX9_shareByRanks 1 = .ok (.istore_n 2, 1) := dk_61 (dk_at dksX9_shareByRanks_0 1 rfl rfl)
theorem dX9_shareByRanks_2 : decode cX9_shareByRanks 2 = .ok (.iconst 0, 1) := dk_3 (dk_at dksX9_shareByRanks_0 2 rfl rfl)
theorem dX9_shareByRanks_3 : decode cX9_shareByRanks 3 = .ok (.istore_n 3, 1) := dk_62 (dk_at dksX9_shareByRanks_0 3 rfl rfl)
theorem dX9_shareByRanks_4 : decode cX9_shareByRanks 4 = .ok (.iload_n 3, 1) := dk_29 (dk_at dksX9_shareByRanks_0 4 rfl rfl)
theorem dX9_shareByRanks_5 : decode cX9_shareByRanks 5 = .ok (.aload_n 0, 1) := dk_42 (dk_at dksX9_shareByRanks_0 5 rfl rfl)
theorem dX9_shareByRanks_6 : decode cX9_shareByRanks 6 = .ok (.getfield 7, 3) := dk_180 0 7 (dk_at dksX9_shareByRanks_0 6 rfl rfl)
theorem dX9_shareByRanks_9 : decode cX9_shareByRanks 9 = .ok (.invokeinterface 45 1, 5) := by decide +kernel
theorem dX9_shareByRanks_14 : decode cX9_shareByRanks 14 = .ok (.if_icmp .ge 48, 3) := dk_162 0 48 (dk_at dksX9_shareByRanks_0 14 rfl rfl)
theorem dX9_shareByRanks_17 : decode cX9_shareByRanks 17 = .ok (.iload_n 2, 1) := dk_28 (dk_at dksX9_shareByRanks_0 17 rfl rfl)
theorem dX9_shareByRanks_18 : decode cX9_shareByRanks 18 = .ok (.aload_n 0, 1) := dk_42 (dk_at dksX9_shareByRanks_0 18 rfl rfl)
theorem dX9_shareByRanks_19 : decode cX9_shareByRanks 19 = .ok (.iload_n 3, 1) := dk_29 (dk_at dksX9_shareByRanks_0 19 rfl rfl)
theorem dX9_shareByRanks_20 : decode cX9_shareByRanks 20 = .ok (.invokevirtual 58, 3) := dk_182 0 58 (dk_at dksX9_shareByRanks_0 20 rfl rfl)
theorem dX9_shareByRanks_23 : decode cX9_shareByRanks 23 = .ok (.aload_n 0, 1) := dk_42 (dk_at dksX9_shareByRanks_0 23 rfl rfl)
theorem dX9_shareByRanks_24 : decode cX9_shareByRanks 24 = .ok (.iload_n 1, 1) := dk_27 (dk_at dksX9_shareByRanks_1 0 rfl rfl)
theorem dX9_shareByRanks_25 : decode cX9_shareByRanks 25 = .ok (.invokevirtual 58, 3) := dk_182 0 58 (dk_at dksX9_shareByRanks_1 1 rfl rfl)
theorem dX9_shareByRanks_28 : decode cX9_shareByRanks 28 = .ok (.if_icmp .gt 21, 3) := dk_163 0 21 (dk_at dksX9_shareByRanks_1 4 rfl rfl)
theorem dX9_shareByRanks_31 : decode cX9_shareByRanks 31 = .ok (.aload_n 0, 1) := dk_42 (dk_at dksX9_shareByRanks_1 7 rfl rfl)
theorem dX9_shareByRanks_32 : decode cX9_shareByRanks 32 = .ok (.iload_n 3, 1) := dk_29 (dk_at dksX9_shareByRanks_1 8 rfl rfl)
theorem dX9_shareByRanks_33 : decode cX9_shareByRanks 33 = .ok (.invokevirtual 58, 3) := dk_182 0 58 (dk_at dksX9_shareByRanks_1 9 rfl rfl)
theorem dX9_shareByRanks_36 : decode cX9_shareByRanks 36 = .ok (.aload_n 0, 1) := dk_42 (dk_at dksX9_shareByRanks_1 12 rfl rfl)
theorem dX9_shareByRanks_37 : decode cX9_shareByRanks 37 = .ok (.iload_n 1, 1) := dk_27 (dk_at dksX9_shareByRanks_1 13 rfl rfl)
theorem dX9_shareByRanks_38 : decode cX9_shareByRanks 38 = .ok (.invokevirtual 58, 3) := dk_182 0 58 (dk_at dksX9_shareByRanks_1 14 rfl rfl)
theorem dX9_shareByRanks_41 : decode cX9_shareByRanks 41 = .ok (.if_icmp .ne 12, 3) := dk_160 0 12 (dk_at dksX9_shareByRanks_1 17 rfl rfl)
theorem dX9_shareByRanks_44 : decode cX9_shareByRanks 44 = .ok (.iload_n 3, 1) := dk_29 (dk_at dksX9_shareByRanks_1 20 rfl rfl)
theorem dX9_shareByRanks_45 : decode cX9_shareByRanks 45 = .ok (.iload_n 1, 1) := dk_27 (dk_at dksX9_shareByRanks_1 21 rfl rfl)
theorem dX9_shareByRanks_46 : decode cX9_shareByRanks 46 = .ok (.if_icmp .ge 7, 3) := dk_162 0 7 (dk_at dksX9_shareByRanks_2 0 rfl rfl)
theorem dX9_shareByRanks_49 : decode cX9_shareByRanks 49 = .ok (.iconst 1, 1) := dk_4 (dk_at dksX9_shareByRanks_2 3 rfl rfl)
theorem dX9_shareByRanks_50 : decode cX9_shareByRanks 50 = .ok (.goto 4, 3) := dk_167 0 4 (dk_at dksX9_shareByRanks_2 4 rfl rfl)
theorem dX9_shareByRanks_53 : decode cX9_shareByRanks 53 = .ok (.iconst 0, 1) := dk_3 (dk_at dksX9_shareByRanks_2 7 rfl rfl)
theorem dX9_shareByRanks_54 : decode cX9_shareByRanks 54 = .ok (.iadd, 1) := dk_96 (dk_at dksX9_shareByRanks_2 8 rfl rfl)
theorem dX9_shareByRanks_55 : decode cX9_shareByRanks 55 = .ok (.istore_n 2, 1) := dk_61 (dk_at dksX9_shareByRanks_2 9 rfl rfl)
theorem dX9_shareByRanks_56 : decode cX9_shareByRanks 56 = .ok (.iinc 3 1, 3) := dk_132 3 1 (dk_at dksX9_shareByRanks_2 10 rfl rfl)
theorem dX9_shareByRanks_59 : decode cX9_shareByRanks 59 = .ok (.goto (-55), 3) := dk_167 255 201 (dk_at dksX9_shareByRanks_2 13 rfl rfl)
theorem dX9_shareByRanks_62 : decode cX9_shareByRanks 62 = .ok (.aload_n 0, 1) := dk_42 (dk_at dksX9_shareByRanks_2 16 rfl rfl)
theorem dX9_shareByRanks_63 : decode cX9_shareByRanks 63 = .ok (.iload_n 1, 1) := dk_27 (dk_at dksX9_shareByRanks_2 17 rfl rfl)
theorem dX9_shareByRanks_64 : decode cX9_shareByRanks 64 = .ok (.invokevirtual 49, 3) := dk_182 0 49 (dk_at dksX9_shareByRanks_2 18 rfl rfl)
theorem dX9_shareByRanks_67 : decode cX9_shareByRanks 67 = .ok (.iload_n 2, 1) := dk_28 (dk_at dksX9_shareByRanks_2 21 rfl rfl)
theorem dX9_shareByRanks_68 : decode cX9_shareByRanks 68 = .ok (.aload_n 0, 1) := dk_42 (dk_at dksX9_shareByRanks_2 22 rfl rfl)
theorem dX9_shareByRanks_69 : decode cX9_shareByRanks 69 = .ok (.invokevirtual 68, 3) := dk_182 0 68 (dk_at dksX9_shareByRanks_3 0 rfl rfl)
theorem dX9_shareByRanks_72 : decode cX9_shareByRanks 72 = .ok (.if_icmp .ge 7, 3) := dk_162 0 7 (dk_at dksX9_shareByRanks_3 3 rfl rfl)
theorem dX9_shareByRanks_75 : decode cX9_shareByRanks 75 = .ok (.iconst 1, 1) := dk_4 (dk_at dksX9_shareByRanks_3 6 rfl rfl)
theorem dX9_shareByRanks_76 : decode cX9_shareByRanks 76 = .ok (.goto 4, 3) := dk_167 0 4 (dk_at dksX9_shareByRanks_3 7 rfl rfl)
theorem dX9_shareByRanks_79 : decode cX9_shareByRanks 79 = .ok (.iconst 0, 1) := dk_3 (dk_at dksX9_shareByRanks_3 10 rfl rfl)
theorem dX9_shareByRanks_80 : decode cX9_shareByRanks 80 = .ok (.iadd, 1) := dk_96 (dk_at dksX9_shareByRanks_3 11 rfl rfl)
theorem dX9_shareByRanks_81 : decode cX9_shareByRanks 81 = .ok (.ireturn, 1) := dk_172 (dk_at dksX9_shareByRanks_3 12 rfl rfl)
theorem q178 : (Jvm.Cond.initialized "DoughLedger$Sharing") ∈ lw_all := lw_g (lw_at lw_m1 54 rfl) rfl
theorem q933 : (Jvm.Cond.selects "DoughLedger$Sharing" ({ cls := "java/lang/Object", name := "getClass", desc := "()Ljava/lang/Class;" } : Jvm.MethodName) ({ cls := "java/lang/Object", name := "getClass", desc := "()Ljava/lang/Class;" } : Jvm.MethodName)) ∈ lw_all := lw_g (lw_at lw_m4 89 rfl) rfl
theorem q1905 : (Jvm.Cond.instantiable "DoughLedger$Sharing" (3 : Nat)) ∈ lw_all := lw_g (lw_at lw_m8 101 rfl) rfl
theorem q1909 : (Jvm.Cond.instanceMethod ({ cls := "DoughLedger$Sharing", name := "<init>", desc := "(Ljava/util/List;I)V" } : Jvm.MethodName)) ∈ lw_all := lw_g (lw_at lw_m8 105 rfl) rfl
theorem q1910 : (Jvm.Cond.code ({ cls := "DoughLedger$Sharing", name := "<init>", desc := "(Ljava/util/List;I)V" } : Jvm.MethodName) prog_17_method_1_code (6 : Nat) (Option.none : Option Jvm.ClassFile.FieldType)) ∈ lw_all := lw_g (lw_at lw_m8 106 rfl) rfl
theorem q1911 : (Jvm.Cond.methodLink "DoughLedger$Sharing" (1 : Nat) ({ cls := "java/lang/Object", name := "<init>", desc := "()V" } : Jvm.MethodName)) ∈ lw_all := lw_g (lw_at lw_m8 107 rfl) rfl
theorem q1912 : (Jvm.Cond.interfaceEntry "DoughLedger$Sharing" (17 : Nat)) ∈ lw_tbl := lw_at lw_m8 108 rfl
theorem q1913 : (Jvm.Cond.methodLink "DoughLedger$Sharing" (17 : Nat) ({ cls := "java/util/List", name := "iterator", desc := "()Ljava/util/Iterator;" } : Jvm.MethodName)) ∈ lw_all := lw_g (lw_at lw_m8 109 rfl) rfl
theorem q1914 : (Jvm.Cond.interfaceEntry "DoughLedger$Sharing" (23 : Nat)) ∈ lw_tbl := lw_at lw_m8 110 rfl
theorem q1915 : (Jvm.Cond.methodLink "DoughLedger$Sharing" (23 : Nat) ({ cls := "java/util/Iterator", name := "hasNext", desc := "()Z" } : Jvm.MethodName)) ∈ lw_all := lw_g (lw_at lw_m8 111 rfl) rfl
theorem q1916 : (Jvm.Cond.interfaceEntry "DoughLedger$Sharing" (29 : Nat)) ∈ lw_tbl := lw_at lw_m8 112 rfl
theorem q1917 : (Jvm.Cond.methodLink "DoughLedger$Sharing" (29 : Nat) ({ cls := "java/util/Iterator", name := "next", desc := "()Ljava/lang/Object;" } : Jvm.MethodName)) ∈ lw_all := lw_g (lw_at lw_m8 113 rfl) rfl
theorem q1918 : (Jvm.Cond.classLink "DoughLedger$Sharing" (33 : Nat) "DoughLedger$Loaf") ∈ lw_all := lw_g (lw_at lw_m8 114 rfl) rfl
theorem q1919 : (Jvm.Cond.fieldLink "DoughLedger$Sharing" (7 : Nat) "DoughLedger$Sharing" "loaves" "Ljava/util/List;") ∈ lw_all := lw_g (lw_at lw_m8 115 rfl) rfl
theorem q1920 : (Jvm.Cond.fieldLink "DoughLedger$Sharing" (13 : Nat) "DoughLedger$Sharing" "crumbs" "I") ∈ lw_all := lw_g (lw_at lw_m8 116 rfl) rfl
theorem q1921 : (Jvm.Cond.fieldLink "DoughLedger$Sharing" (38 : Nat) "DoughLedger$Sharing" "weights" "I") ∈ lw_all := lw_g (lw_at lw_m8 117 rfl) rfl
theorem q1922 : (Jvm.Cond.laysFinal "DoughLedger$Sharing" "DoughLedger$Sharing" "loaves" "Ljava/util/List;") ∈ lw_all := lw_g (lw_at lw_m8 118 rfl) rfl
theorem q1923 : (Jvm.Cond.soleField "DoughLedger$Sharing" "loaves") ∈ lw_all := lw_g (lw_at lw_m8 119 rfl) rfl
theorem q1924 : (Jvm.Cond.laysFinal "DoughLedger$Sharing" "DoughLedger$Sharing" "crumbs" "I") ∈ lw_all := lw_g (lw_at lw_m8 120 rfl) rfl
theorem q1925 : (Jvm.Cond.soleField "DoughLedger$Sharing" "crumbs") ∈ lw_all := lw_g (lw_at lw_m8 121 rfl) rfl
theorem q1926 : (Jvm.Cond.laysFinal "DoughLedger$Sharing" "DoughLedger$Sharing" "weights" "I") ∈ lw_all := lw_g (lw_at lw_m8 122 rfl) rfl
theorem q1927 : (Jvm.Cond.soleField "DoughLedger$Sharing" "weights") ∈ lw_all := lw_g (lw_at lw_m8 123 rfl) rfl
theorem q1928 : (Jvm.Cond.superclass "DoughLedger$Sharing" "java/lang/Object") ∈ lw_all := lw_g (lw_at lw_m8 124 rfl) rfl
theorem q1930 : (Jvm.Cond.instanceMethod ({ cls := "DoughLedger$Sharing", name := "shares", desc := "()[I" } : Jvm.MethodName)) ∈ lw_all := lw_g (lw_at lw_m8 126 rfl) rfl
theorem q1931 : (Jvm.Cond.selects "DoughLedger$Sharing" ({ cls := "DoughLedger$Sharing", name := "shares", desc := "()[I" } : Jvm.MethodName) ({ cls := "DoughLedger$Sharing", name := "shares", desc := "()[I" } : Jvm.MethodName)) ∈ lw_all := lw_g (lw_at lw_m8 127 rfl) rfl
theorem q1932 : (Jvm.Cond.code ({ cls := "DoughLedger$Sharing", name := "shares", desc := "()[I" } : Jvm.MethodName) prog_17_method_5_code (6 : Nat) (Option.some (Jvm.ClassFile.FieldType.array Jvm.ClassFile.FieldType.int))) ∈ lw_all := lw_g (lw_at lw_m8 128 rfl) rfl
theorem q1933 : (Jvm.Cond.classLink "DoughLedger$Sharing" (53 : Nat) "java/util/TreeSet") ∈ lw_all := lw_g (lw_at lw_m8 129 rfl) rfl
theorem q1935 : (Jvm.Cond.methodLink "DoughLedger$Sharing" (55 : Nat) ({ cls := "java/util/TreeSet", name := "<init>", desc := "()V" } : Jvm.MethodName)) ∈ lw_all := lw_g (lw_at lw_m8 131 rfl) rfl
theorem q1948 : (Jvm.Cond.interfaceEntry "DoughLedger$Sharing" (45 : Nat)) ∈ lw_tbl := lw_at lw_m8 144 rfl
theorem q1949 : (Jvm.Cond.methodLink "DoughLedger$Sharing" (45 : Nat) ({ cls := "java/util/List", name := "size", desc := "()I" } : Jvm.MethodName)) ∈ lw_all := lw_g (lw_at lw_m8 145 rfl) rfl
theorem q1950 : (Jvm.Cond.methodLink "DoughLedger$Sharing" (49 : Nat) ({ cls := "DoughLedger$Sharing", name := "lowered", desc := "(I)I" } : Jvm.MethodName)) ∈ lw_all := lw_g (lw_at lw_m8 146 rfl) rfl
theorem q1951 : (Jvm.Cond.privateMethod ({ cls := "DoughLedger$Sharing", name := "lowered", desc := "(I)I" } : Jvm.MethodName)) ∈ lw_tbl := lw_at lw_m8 147 rfl
theorem q1952 : (Jvm.Cond.instanceMethod ({ cls := "DoughLedger$Sharing", name := "lowered", desc := "(I)I" } : Jvm.MethodName)) ∈ lw_all := lw_g (lw_at lw_m8 148 rfl) rfl
theorem q1953 : (Jvm.Cond.code ({ cls := "DoughLedger$Sharing", name := "lowered", desc := "(I)I" } : Jvm.MethodName) prog_17_method_2_code (2 : Nat) (Option.some Jvm.ClassFile.FieldType.int)) ∈ lw_all := lw_g (lw_at lw_m8 149 rfl) rfl
theorem q1954 : (Jvm.Cond.interfaceEntry "DoughLedger$Sharing" (41 : Nat)) ∈ lw_tbl := lw_at lw_m8 150 rfl
theorem q1955 : (Jvm.Cond.methodLink "DoughLedger$Sharing" (41 : Nat) ({ cls := "java/util/List", name := "get", desc := "(I)Ljava/lang/Object;" } : Jvm.MethodName)) ∈ lw_all := lw_g (lw_at lw_m8 151 rfl) rfl
theorem q1956 : (Jvm.Cond.classLink "DoughLedger$Sharing" (56 : Nat) "DoughLedger$Remainder") ∈ lw_all := lw_g (lw_at lw_m8 152 rfl) rfl
theorem q1958 : (Jvm.Cond.methodLink "DoughLedger$Sharing" (58 : Nat) ({ cls := "DoughLedger$Sharing", name := "rest", desc := "(I)I" } : Jvm.MethodName)) ∈ lw_all := lw_g (lw_at lw_m8 154 rfl) rfl
theorem q1959 : (Jvm.Cond.privateMethod ({ cls := "DoughLedger$Sharing", name := "rest", desc := "(I)I" } : Jvm.MethodName)) ∈ lw_tbl := lw_at lw_m8 155 rfl
theorem q1960 : (Jvm.Cond.instanceMethod ({ cls := "DoughLedger$Sharing", name := "rest", desc := "(I)I" } : Jvm.MethodName)) ∈ lw_all := lw_g (lw_at lw_m8 156 rfl) rfl
theorem q1961 : (Jvm.Cond.code ({ cls := "DoughLedger$Sharing", name := "rest", desc := "(I)I" } : Jvm.MethodName) prog_17_method_3_code (2 : Nat) (Option.some Jvm.ClassFile.FieldType.int)) ∈ lw_all := lw_g (lw_at lw_m8 157 rfl) rfl
theorem q1962 : (Jvm.Cond.methodLink "DoughLedger$Sharing" (61 : Nat) ({ cls := "DoughLedger$Remainder", name := "<init>", desc := "(II)V" } : Jvm.MethodName)) ∈ lw_all := lw_g (lw_at lw_m8 158 rfl) rfl
theorem q1967 : (Jvm.Cond.fieldLinkNest "DoughLedger$Sharing" (72 : Nat) "DoughLedger$Remainder" "loaf" "I" "DoughLedger") ∈ lw_tbl := lw_at lw_m8 163 rfl
theorem q1974 : (Jvm.Cond.methodLink "DoughLedger$Sharing" (64 : Nat) ({ cls := "java/util/TreeSet", name := "add", desc := "(Ljava/lang/Object;)Z" } : Jvm.MethodName)) ∈ lw_all := lw_g (lw_at lw_m8 170 rfl) rfl
theorem q2061 : (Jvm.Cond.methodLink "DoughLedger$Sharing" (68 : Nat) ({ cls := "DoughLedger$Sharing", name := "left", desc := "()I" } : Jvm.MethodName)) ∈ lw_all := lw_g (lw_at lw_m9 17 rfl) rfl
theorem q2062 : (Jvm.Cond.privateMethod ({ cls := "DoughLedger$Sharing", name := "left", desc := "()I" } : Jvm.MethodName)) ∈ lw_tbl := lw_at lw_m9 18 rfl
theorem q2063 : (Jvm.Cond.instanceMethod ({ cls := "DoughLedger$Sharing", name := "left", desc := "()I" } : Jvm.MethodName)) ∈ lw_all := lw_g (lw_at lw_m9 19 rfl) rfl
theorem q2064 : (Jvm.Cond.code ({ cls := "DoughLedger$Sharing", name := "left", desc := "()I" } : Jvm.MethodName) prog_17_method_4_code (3 : Nat) (Option.some Jvm.ClassFile.FieldType.int)) ∈ lw_all := lw_g (lw_at lw_m9 20 rfl) rfl
theorem q2065 : (Jvm.Cond.methodLink "DoughLedger$Sharing" (71 : Nat) ({ cls := "java/util/TreeSet", name := "iterator", desc := "()Ljava/util/Iterator;" } : Jvm.MethodName)) ∈ lw_all := lw_g (lw_at lw_m9 21 rfl) rfl
theorem q2067 : (Jvm.Cond.instanceMethod ({ cls := "DoughLedger$Sharing", name := "shareByRanks", desc := "(I)I" } : Jvm.MethodName)) ∈ lw_all := lw_g (lw_at lw_m9 23 rfl) rfl
theorem q2068 : (Jvm.Cond.selects "DoughLedger$Sharing" ({ cls := "DoughLedger$Sharing", name := "shareByRanks", desc := "(I)I" } : Jvm.MethodName) ({ cls := "DoughLedger$Sharing", name := "shareByRanks", desc := "(I)I" } : Jvm.MethodName)) ∈ lw_all := lw_g (lw_at lw_m9 24 rfl) rfl
theorem q2069 : (Jvm.Cond.code ({ cls := "DoughLedger$Sharing", name := "shareByRanks", desc := "(I)I" } : Jvm.MethodName) prog_17_method_6_code (4 : Nat) (Option.some Jvm.ClassFile.FieldType.int)) ∈ lw_all := lw_g (lw_at lw_m9 25 rfl) rfl
theorem q2298 : (Jvm.Cond.fieldLinkNest "DoughLedger$Sharing" (35 : Nat) "DoughLedger$Loaf" "weight" "I" "DoughLedger") ∈ lw_tbl := lw_at lw_m10 14 rfl
theorem q2862 : (Jvm.Cond.selects "DoughLedger$Sharing" ({ cls := "java/lang/Object", name := "toString", desc := "()Ljava/lang/String;" } : Jvm.MethodName) ({ cls := "java/lang/Object", name := "toString", desc := "()Ljava/lang/String;" } : Jvm.MethodName)) ∈ lw_all := lw_g (lw_at lw_m12 98 rfl) rfl
theorem q4056 : (Jvm.Cond.castable "DoughLedger$Sharing" "java/lang/Object") ∈ lw_tbl := lw_at lw_m17 92 rfl
theorem in_X9 : ∀ w ∈ wsX90, w ∈ lw_all := lw_in wsX90 [1922, 1924, 1926] (by decide +kernel) (by decide +kernel)

/-! DoughLedger$Remainder -/
set_option maxRecDepth 100000
def RX10 : String := "DoughLedger$Remainder"
def TX10 : u_T := fun k => match k with
  | 0 => ("DoughLedger$Remainder", "loaf", "I", true)
  | _ => ("DoughLedger$Remainder", "rest", "I", true)
def tyX10 : Nat → FieldType := fun k => match k with
  | 0 => .int
  | _ => .int
abbrev wsX100 : List Cond := u_ws RX10 TX10 2
theorem nmX10 : ∀ a, a < 2 → ∀ b, b < 2 → a ≠ b → (TX10 a).2.1 ≠ (TX10 b).2.1 := by decide +kernel
theorem tyX10_ok : ∀ k, k < 2 → parseFieldDescriptor (TX10 k).2.2.1 = some (tyX10 k) := by decide +kernel
abbrev cX10_compareTo : ByteArray := prog_15_method_3_code
def yX10_compareTo : MethodName := ⟨RX10, "compareTo", "(Ljava/lang/Object;)I"⟩
def dkwX10_compareTo_0 : List UInt8 := [42, 43, 192, 0, 8, 182, 0, 22, 172]
abbrev dktX10_compareTo_0 : List UInt8 := dkwX10_compareTo_0 ++ []
theorem dksX10_compareTo_0 : cX10_compareTo.data.toList.drop 0 = dktX10_compareTo_0 := by decide +kernel
theorem dX10_compareTo_0 : decode cX10_compareTo 0 = .ok (.aload_n 0, 1) := dk_42 (dk_at dksX10_compareTo_0 0 rfl rfl)
theorem dX10_compareTo_1 : decode cX10_compareTo 1 = .ok (.aload_n 1, 1) := dk_43 (dk_at dksX10_compareTo_0 1 rfl rfl)
theorem dX10_compareTo_2 : decode cX10_compareTo 2 = .ok (.checkcast 8, 3) := dk_192 0 8 (dk_at dksX10_compareTo_0 2 rfl rfl)
theorem dX10_compareTo_5 : decode cX10_compareTo 5 = .ok (.invokevirtual 22, 3) := dk_182 0 22 (dk_at dksX10_compareTo_0 5 rfl rfl)
theorem dX10_compareTo_8 : decode cX10_compareTo 8 = .ok (.ireturn, 1) := dk_172 (dk_at dksX10_compareTo_0 8 rfl rfl)
abbrev cX10_compareTo_2 : ByteArray := prog_15_method_2_code
def yX10_compareTo_2 : MethodName := ⟨RX10, "compareTo", "(LDoughLedger$Remainder;)I"⟩
def dkwX10_compareTo_2_1 : List UInt8 := [167, 0, 14, 43, 180, 0, 13, 42, 180, 0, 13, 184, 0, 16, 172]
abbrev dktX10_compareTo_2_1 : List UInt8 := dkwX10_compareTo_2_1 ++ []
def dkwX10_compareTo_2_0 : List UInt8 := [42, 180, 0, 13, 43, 180, 0, 13, 160, 0, 17, 42, 180, 0, 7, 43, 180, 0, 7, 184, 0, 16]
abbrev dktX10_compareTo_2_0 : List UInt8 := dkwX10_compareTo_2_0 ++ dktX10_compareTo_2_1
theorem dksX10_compareTo_2_0 : cX10_compareTo_2.data.toList.drop 0 = dktX10_compareTo_2_0 := by decide +kernel
theorem dksX10_compareTo_2_1 : cX10_compareTo_2.data.toList.drop 22 = dktX10_compareTo_2_1 := dk_seg dksX10_compareTo_2_0 22 rfl rfl
theorem dX10_compareTo_2_0 : decode cX10_compareTo_2 0 = .ok (.aload_n 0, 1) := dk_42 (dk_at dksX10_compareTo_2_0 0 rfl rfl)
theorem dX10_compareTo_2_1 : decode cX10_compareTo_2 1 = .ok (.getfield 13, 3) := dk_180 0 13 (dk_at dksX10_compareTo_2_0 1 rfl rfl)
theorem dX10_compareTo_2_4 : decode cX10_compareTo_2 4 = .ok (.aload_n 1, 1) := dk_43 (dk_at dksX10_compareTo_2_0 4 rfl rfl)
theorem dX10_compareTo_2_5 : decode cX10_compareTo_2 5 = .ok (.getfield 13, 3) := dk_180 0 13 (dk_at dksX10_compareTo_2_0 5 rfl rfl)
theorem dX10_compareTo_2_8 : decode cX10_compareTo_2 8 = .ok (.if_icmp .ne 17, 3) := dk_160 0 17 (dk_at dksX10_compareTo_2_0 8 rfl rfl)
theorem dX10_compareTo_2_11 : decode cX10_compareTo_2 11 = .ok (.aload_n 0, 1) := dk_42 (dk_at dksX10_compareTo_2_0 11 rfl rfl)
theorem dX10_compareTo_2_12 : decode cX10_compareTo_2 12 = .ok (.getfield 7, 3) := dk_180 0 7 (dk_at dksX10_compareTo_2_0 12 rfl rfl)
theorem dX10_compareTo_2_15 : decode cX10_compareTo_2 15 = .ok (.aload_n 1, 1) := dk_43 (dk_at dksX10_compareTo_2_0 15 rfl rfl)
theorem dX10_compareTo_2_16 : decode cX10_compareTo_2 16 = .ok (.getfield 7, 3) := dk_180 0 7 (dk_at dksX10_compareTo_2_0 16 rfl rfl)
theorem dX10_compareTo_2_19 : decode cX10_compareTo_2 19 = .ok (.invokestatic 16, 3) := dk_184 0 16 (dk_at dksX10_compareTo_2_0 19 rfl rfl)
theorem dX10_compareTo_2_22 : decode cX10_compareTo_2 22 = .ok (.goto 14, 3) := dk_167 0 14 (dk_at dksX10_compareTo_2_1 0 rfl rfl)
theorem dX10_compareTo_2_25 : decode cX10_compareTo_2 25 = .ok (.aload_n 1, 1) := dk_43 (dk_at dksX10_compareTo_2_1 3 rfl rfl)
theorem dX10_compareTo_2_26 : decode cX10_compareTo_2 26 = .ok (.getfield 13, 3) := dk_180 0 13 (dk_at dksX10_compareTo_2_1 4 rfl rfl)
theorem dX10_compareTo_2_29 : decode cX10_compareTo_2 29 = .ok (.aload_n 0, 1) := dk_42 (dk_at dksX10_compareTo_2_1 7 rfl rfl)
theorem dX10_compareTo_2_30 : decode cX10_compareTo_2 30 = .ok (.getfield 13, 3) := dk_180 0 13 (dk_at dksX10_compareTo_2_1 8 rfl rfl)
theorem dX10_compareTo_2_33 : decode cX10_compareTo_2 33 = .ok (.invokestatic 16, 3) := dk_184 0 16 (dk_at dksX10_compareTo_2_1 11 rfl rfl)
theorem dX10_compareTo_2_36 : decode cX10_compareTo_2 36 = .ok (.ireturn, 1) := dk_172 (dk_at dksX10_compareTo_2_1 14 rfl rfl)
abbrev cX10_init : ByteArray := prog_15_method_1_code
def yX10_init : MethodName := ⟨RX10, "<init>", "(II)V"⟩
def dkwX10_init_0 : List UInt8 := [42, 183, 0, 1, 42, 27, 181, 0, 7, 42, 28, 181, 0, 13, 177]
abbrev dktX10_init_0 : List UInt8 := dkwX10_init_0 ++ []
theorem dksX10_init_0 : cX10_init.data.toList.drop 0 = dktX10_init_0 := by decide +kernel
theorem dX10_init_0 : decode cX10_init 0 = .ok (.aload_n 0, 1) := dk_42 (dk_at dksX10_init_0 0 rfl rfl)
theorem dX10_init_1 : decode cX10_init 1 = .ok (.invokespecial 1, 3) := dk_183 0 1 (dk_at dksX10_init_0 1 rfl rfl)
theorem dX10_init_4 : decode cX10_init 4 = .ok (.aload_n 0, 1) := dk_42 (dk_at dksX10_init_0 4 rfl rfl)
theorem dX10_init_5 : decode cX10_init 5 = .ok (.iload_n 1, 1) := dk_27 (dk_at dksX10_init_0 5 rfl rfl)
theorem dX10_init_6 : decode cX10_init 6 = .ok (.putfield 7, 3) := dk_181 0 7 (dk_at dksX10_init_0 6 rfl rfl)
theorem dX10_init_9 : decode cX10_init 9 = .ok (.aload_n 0, 1) := dk_42 (dk_at dksX10_init_0 9 rfl rfl)
theorem dX10_init_10 : decode cX10_init 10 = .ok (.iload_n 2, 1) := dk_28 (dk_at dksX10_init_0 10 rfl rfl)
theorem dX10_init_11 : decode cX10_init 11 = .ok (.putfield 13, 3) := dk_181 0 13 (dk_at dksX10_init_0 11 rfl rfl)
theorem dX10_init_14 : decode cX10_init 14 = .ok (.return_, 1) := dk_177 (dk_at dksX10_init_0 14 rfl rfl)
theorem q180 : (Jvm.Cond.initialized "DoughLedger$Remainder") ∈ lw_all := lw_g (lw_at lw_m1 56 rfl) rfl
theorem q932 : (Jvm.Cond.selects "DoughLedger$Remainder" ({ cls := "java/lang/Object", name := "getClass", desc := "()Ljava/lang/Class;" } : Jvm.MethodName) ({ cls := "java/lang/Object", name := "getClass", desc := "()Ljava/lang/Class;" } : Jvm.MethodName)) ∈ lw_all := lw_g (lw_at lw_m4 88 rfl) rfl
theorem q1015 : (Jvm.Cond.castable "DoughLedger$Remainder" "java/lang/Comparable") ∈ lw_tbl := lw_at lw_m4 171 rfl
theorem q1016 : (Jvm.Cond.selects "DoughLedger$Remainder" ({ cls := "java/lang/Comparable", name := "compareTo", desc := "(Ljava/lang/Object;)I" } : Jvm.MethodName) ({ cls := "DoughLedger$Remainder", name := "compareTo", desc := "(Ljava/lang/Object;)I" } : Jvm.MethodName)) ∈ lw_all := lw_g (lw_at lw_m4 172 rfl) rfl
theorem q1017 : (Jvm.Cond.unhidden "DoughLedger$Remainder" "compareTo" "(Ljava/lang/Object;)I") ∈ lw_tbl := lw_at lw_m4 173 rfl
theorem q1018 : (Jvm.Cond.instanceMethod ({ cls := "DoughLedger$Remainder", name := "compareTo", desc := "(Ljava/lang/Object;)I" } : Jvm.MethodName)) ∈ lw_all := lw_g (lw_at lw_m4 174 rfl) rfl
theorem q1019 : (Jvm.Cond.publicMethod ({ cls := "DoughLedger$Remainder", name := "compareTo", desc := "(Ljava/lang/Object;)I" } : Jvm.MethodName)) ∈ lw_tbl := lw_at lw_m4 175 rfl
theorem q1020 : (Jvm.Cond.code ({ cls := "DoughLedger$Remainder", name := "compareTo", desc := "(Ljava/lang/Object;)I" } : Jvm.MethodName) prog_15_method_3_code (2 : Nat) (Option.some Jvm.ClassFile.FieldType.int)) ∈ lw_all := lw_g (lw_at lw_m4 176 rfl) rfl
theorem q1021 : (Jvm.Cond.classLink "DoughLedger$Remainder" (8 : Nat) "DoughLedger$Remainder") ∈ lw_all := lw_g (lw_at lw_m4 177 rfl) rfl
theorem q1022 : (Jvm.Cond.methodLink "DoughLedger$Remainder" (22 : Nat) ({ cls := "DoughLedger$Remainder", name := "compareTo", desc := "(LDoughLedger$Remainder;)I" } : Jvm.MethodName)) ∈ lw_all := lw_g (lw_at lw_m4 178 rfl) rfl
theorem q1023 : (Jvm.Cond.instanceMethod ({ cls := "DoughLedger$Remainder", name := "compareTo", desc := "(LDoughLedger$Remainder;)I" } : Jvm.MethodName)) ∈ lw_all := lw_g (lw_at lw_m4 179 rfl) rfl
theorem q1024 : (Jvm.Cond.selects "DoughLedger$Remainder" ({ cls := "DoughLedger$Remainder", name := "compareTo", desc := "(LDoughLedger$Remainder;)I" } : Jvm.MethodName) ({ cls := "DoughLedger$Remainder", name := "compareTo", desc := "(LDoughLedger$Remainder;)I" } : Jvm.MethodName)) ∈ lw_all := lw_g (lw_at lw_m4 180 rfl) rfl
theorem q1025 : (Jvm.Cond.code ({ cls := "DoughLedger$Remainder", name := "compareTo", desc := "(LDoughLedger$Remainder;)I" } : Jvm.MethodName) prog_15_method_2_code (2 : Nat) (Option.some Jvm.ClassFile.FieldType.int)) ∈ lw_all := lw_g (lw_at lw_m4 181 rfl) rfl
theorem q1026 : (Jvm.Cond.methodLink "DoughLedger$Remainder" (16 : Nat) ({ cls := "java/lang/Integer", name := "compare", desc := "(II)I" } : Jvm.MethodName)) ∈ lw_all := lw_g (lw_at lw_m4 182 rfl) rfl
theorem q1957 : (Jvm.Cond.instantiable "DoughLedger$Remainder" (2 : Nat)) ∈ lw_all := lw_g (lw_at lw_m8 153 rfl) rfl
theorem q1963 : (Jvm.Cond.instanceMethod ({ cls := "DoughLedger$Remainder", name := "<init>", desc := "(II)V" } : Jvm.MethodName)) ∈ lw_all := lw_g (lw_at lw_m8 159 rfl) rfl
theorem q1964 : (Jvm.Cond.code ({ cls := "DoughLedger$Remainder", name := "<init>", desc := "(II)V" } : Jvm.MethodName) prog_15_method_1_code (3 : Nat) (Option.none : Option Jvm.ClassFile.FieldType)) ∈ lw_all := lw_g (lw_at lw_m8 160 rfl) rfl
theorem q1965 : (Jvm.Cond.methodLink "DoughLedger$Remainder" (1 : Nat) ({ cls := "java/lang/Object", name := "<init>", desc := "()V" } : Jvm.MethodName)) ∈ lw_all := lw_g (lw_at lw_m8 161 rfl) rfl
theorem q1966 : (Jvm.Cond.fieldLink "DoughLedger$Remainder" (7 : Nat) "DoughLedger$Remainder" "loaf" "I") ∈ lw_all := lw_g (lw_at lw_m8 162 rfl) rfl
theorem q1968 : (Jvm.Cond.fieldLink "DoughLedger$Remainder" (13 : Nat) "DoughLedger$Remainder" "rest" "I") ∈ lw_all := lw_g (lw_at lw_m8 164 rfl) rfl
theorem q1969 : (Jvm.Cond.laysFinal "DoughLedger$Remainder" "DoughLedger$Remainder" "loaf" "I") ∈ lw_all := lw_g (lw_at lw_m8 165 rfl) rfl
theorem q1970 : (Jvm.Cond.soleField "DoughLedger$Remainder" "loaf") ∈ lw_all := lw_g (lw_at lw_m8 166 rfl) rfl
theorem q1971 : (Jvm.Cond.laysFinal "DoughLedger$Remainder" "DoughLedger$Remainder" "rest" "I") ∈ lw_all := lw_g (lw_at lw_m8 167 rfl) rfl
theorem q1972 : (Jvm.Cond.soleField "DoughLedger$Remainder" "rest") ∈ lw_all := lw_g (lw_at lw_m8 168 rfl) rfl
theorem q1973 : (Jvm.Cond.superclass "DoughLedger$Remainder" "java/lang/Object") ∈ lw_all := lw_g (lw_at lw_m8 169 rfl) rfl
theorem q2861 : (Jvm.Cond.selects "DoughLedger$Remainder" ({ cls := "java/lang/Object", name := "toString", desc := "()Ljava/lang/String;" } : Jvm.MethodName) ({ cls := "java/lang/Object", name := "toString", desc := "()Ljava/lang/String;" } : Jvm.MethodName)) ∈ lw_all := lw_g (lw_at lw_m12 97 rfl) rfl
theorem q4058 : (Jvm.Cond.castable "DoughLedger$Remainder" "java/lang/Object") ∈ lw_tbl := lw_at lw_m17 94 rfl
theorem in_X10 : ∀ w ∈ wsX100, w ∈ lw_all := lw_in wsX100 [1969, 1971] (by decide +kernel) (by decide +kernel)

/-! DoughLedger$Nearness -/
set_option maxRecDepth 100000
def RX11 : String := "DoughLedger$Nearness"
def TX11 : u_T := fun k => match k with
  | 0 => ("DoughLedger$Nearness", "above", "J", true)
  | _ => ("DoughLedger$Nearness", "below", "J", true)
def tyX11 : Nat → FieldType := fun k => match k with
  | 0 => .long
  | _ => .long
abbrev wsX110 : List Cond := u_ws RX11 TX11 2
theorem nmX11 : ∀ a, a < 2 → ∀ b, b < 2 → a ≠ b → (TX11 a).2.1 ≠ (TX11 b).2.1 := by decide +kernel
theorem tyX11_ok : ∀ k, k < 2 → parseFieldDescriptor (TX11 k).2.2.1 = some (tyX11 k) := by decide +kernel
abbrev cX11_init : ByteArray := prog_12_method_1_code
def yX11_init : MethodName := ⟨RX11, "<init>", "(LDoughLedger$Fraction;LDoughLedger$Fraction;)V"⟩
def dkwX11_init_1 : List UInt8 := [133, 44, 180, 0, 7, 133, 105, 181, 0, 21, 177]
abbrev dktX11_init_1 : List UInt8 := dkwX11_init_1 ++ []
def dkwX11_init_0 : List UInt8 := [42, 183, 0, 1, 42, 43, 180, 0, 7, 133, 44, 180, 0, 13, 133, 105, 181, 0, 16, 42, 43, 180, 0, 13]
abbrev dktX11_init_0 : List UInt8 := dkwX11_init_0 ++ dktX11_init_1
theorem dksX11_init_0 : cX11_init.data.toList.drop 0 = dktX11_init_0 := by decide +kernel
theorem dksX11_init_1 : cX11_init.data.toList.drop 24 = dktX11_init_1 := dk_seg dksX11_init_0 24 rfl rfl
theorem dX11_init_0 : decode cX11_init 0 = .ok (.aload_n 0, 1) := dk_42 (dk_at dksX11_init_0 0 rfl rfl)
theorem dX11_init_1 : decode cX11_init 1 = .ok (.invokespecial 1, 3) := dk_183 0 1 (dk_at dksX11_init_0 1 rfl rfl)
theorem dX11_init_4 : decode cX11_init 4 = .ok (.aload_n 0, 1) := dk_42 (dk_at dksX11_init_0 4 rfl rfl)
theorem dX11_init_5 : decode cX11_init 5 = .ok (.aload_n 1, 1) := dk_43 (dk_at dksX11_init_0 5 rfl rfl)
theorem dX11_init_6 : decode cX11_init 6 = .ok (.getfield 7, 3) := dk_180 0 7 (dk_at dksX11_init_0 6 rfl rfl)
theorem dX11_init_9 : decode cX11_init 9 = .ok (.i2l, 1) := dk_133 (dk_at dksX11_init_0 9 rfl rfl)
theorem dX11_init_10 : decode cX11_init 10 = .ok (.aload_n 2, 1) := dk_44 (dk_at dksX11_init_0 10 rfl rfl)
theorem dX11_init_11 : decode cX11_init 11 = .ok (.getfield 13, 3) := dk_180 0 13 (dk_at dksX11_init_0 11 rfl rfl)
theorem dX11_init_14 : decode cX11_init 14 = .ok (.i2l, 1) := dk_133 (dk_at dksX11_init_0 14 rfl rfl)
theorem dX11_init_15 : decode cX11_init 15 = .ok (.lmul, 1) := dk_105 (dk_at dksX11_init_0 15 rfl rfl)
theorem dX11_init_16 : decode cX11_init 16 = .ok (.putfield 16, 3) := dk_181 0 16 (dk_at dksX11_init_0 16 rfl rfl)
theorem dX11_init_19 : decode cX11_init 19 = .ok (.aload_n 0, 1) := dk_42 (dk_at dksX11_init_0 19 rfl rfl)
theorem dX11_init_20 : decode cX11_init 20 = .ok (.aload_n 1, 1) := dk_43 (dk_at dksX11_init_0 20 rfl rfl)
theorem dX11_init_21 : decode cX11_init 21 = .ok (.getfield 13, 3) := dk_180 0 13 (dk_at dksX11_init_0 21 rfl rfl)
theorem dX11_init_24 : decode cX11_init 24 = .ok (.i2l, 1) := dk_133 (dk_at dksX11_init_1 0 rfl rfl)
theorem dX11_init_25 : decode cX11_init 25 = .ok (.aload_n 2, 1) := dk_44 (dk_at dksX11_init_1 1 rfl rfl)
theorem dX11_init_26 : decode cX11_init 26 = .ok (.getfield 7, 3) := dk_180 0 7 (dk_at dksX11_init_1 2 rfl rfl)
theorem dX11_init_29 : decode cX11_init 29 = .ok (.i2l, 1) := dk_133 (dk_at dksX11_init_1 5 rfl rfl)
theorem dX11_init_30 : decode cX11_init 30 = .ok (.lmul, 1) := dk_105 (dk_at dksX11_init_1 6 rfl rfl)
theorem dX11_init_31 : decode cX11_init 31 = .ok (.putfield 21, 3) := dk_181 0 21 (dk_at dksX11_init_1 7 rfl rfl)
theorem dX11_init_34 : decode cX11_init 34 = .ok (.return_, 1) := dk_177 (dk_at dksX11_init_1 10 rfl rfl)
abbrev cX11_byHalves : ByteArray := prog_12_method_3_code
def yX11_byHalves : MethodName := ⟨RX11, "byHalves", "(IZ)J"⟩
def dkwX11_byHalves_6 : List UInt8 := [173]
abbrev dktX11_byHalves_6 : List UInt8 := dkwX11_byHalves_6 ++ []
def dkwX11_byHalves_5 : List UInt8 := [153, 0, 7, 33, 167, 0, 20, 22, 7, 167, 0, 15, 21, 11, 153, 0, 8, 22, 5, 167, 0, 5, 22, 9]
abbrev dktX11_byHalves_5 : List UInt8 := dkwX11_byHalves_5 ++ dktX11_byHalves_6
def dkwX11_byHalves_4 : List UInt8 := [167, 255, 184, 42, 33, 22, 5, 22, 7, 22, 9, 182, 0, 33, 54, 11, 28, 153, 0, 17, 21, 11]
abbrev dktX11_byHalves_4 : List UInt8 := dkwX11_byHalves_4 ++ dktX11_byHalves_5
def dkwX11_byHalves_3 : List UInt8 := [148, 157, 0, 13, 22, 11, 66, 22, 13, 55, 5, 167, 0, 11, 22, 11, 55, 7, 22, 13, 55, 9]
abbrev dktX11_byHalves_3 : List UInt8 := dkwX11_byHalves_3 ++ dktX11_byHalves_4
def dkwX11_byHalves_2 : List UInt8 := [97, 55, 11, 22, 5, 22, 9, 97, 55, 13, 22, 11, 42, 180, 0, 21, 105, 22, 13, 42, 180, 0, 16, 105]
abbrev dktX11_byHalves_2 : List UInt8 := dkwX11_byHalves_2 ++ dktX11_byHalves_3
def dkwX11_byHalves_1 : List UInt8 := [22, 5, 182, 0, 29, 9, 148, 158, 0, 66, 22, 5, 22, 9, 97, 27, 133, 148, 157, 0, 55, 33, 22, 7]
abbrev dktX11_byHalves_1 : List UInt8 := dkwX11_byHalves_1 ++ dktX11_byHalves_2
def dkwX11_byHalves_0 : List UInt8 := [42, 180, 0, 16, 42, 180, 0, 21, 109, 66, 10, 55, 5, 33, 10, 97, 55, 7, 10, 55, 9, 42, 33]
abbrev dktX11_byHalves_0 : List UInt8 := dkwX11_byHalves_0 ++ dktX11_byHalves_1
theorem dksX11_byHalves_0 : cX11_byHalves.data.toList.drop 0 = dktX11_byHalves_0 := by decide +kernel
theorem dksX11_byHalves_1 : cX11_byHalves.data.toList.drop 23 = dktX11_byHalves_1 := dk_seg dksX11_byHalves_0 23 rfl rfl
theorem dksX11_byHalves_2 : cX11_byHalves.data.toList.drop 47 = dktX11_byHalves_2 := dk_seg dksX11_byHalves_1 24 rfl rfl
theorem dksX11_byHalves_3 : cX11_byHalves.data.toList.drop 71 = dktX11_byHalves_3 := dk_seg dksX11_byHalves_2 24 rfl rfl
theorem dksX11_byHalves_4 : cX11_byHalves.data.toList.drop 93 = dktX11_byHalves_4 := dk_seg dksX11_byHalves_3 22 rfl rfl
theorem dksX11_byHalves_5 : cX11_byHalves.data.toList.drop 115 = dktX11_byHalves_5 := dk_seg dksX11_byHalves_4 22 rfl rfl
theorem dksX11_byHalves_6 : cX11_byHalves.data.toList.drop 139 = dktX11_byHalves_6 := dk_seg dksX11_byHalves_5 24 rfl rfl
theorem dX11_byHalves_0 : decode cX11_byHalves 0 = .ok (.aload_n 0, 1) := dk_42 (dk_at dksX11_byHalves_0 0 rfl rfl)
theorem dX11_byHalves_1 : decode cX11_byHalves 1 = .ok (.getfield 16, 3) := dk_180 0 16 (dk_at dksX11_byHalves_0 1 rfl rfl)
theorem dX11_byHalves_4 : decode cX11_byHalves 4 = .ok (.aload_n 0, 1) := dk_42 (dk_at dksX11_byHalves_0 4 rfl rfl)
theorem dX11_byHalves_5 : decode cX11_byHalves 5 = .ok (.getfield 21, 3) := dk_180 0 21 (dk_at dksX11_byHalves_0 5 rfl rfl)
theorem dX11_byHalves_8 : decode cX11_byHalves 8 = .ok (.ldiv, 1) := dk_109 (dk_at dksX11_byHalves_0 8 rfl rfl)
theorem dX11_byHalves_9 : decode cX11_byHalves 9 = .ok (.lstore_n 3, 1) := dk_66 (dk_at dksX11_byHalves_0 9 rfl rfl)
theorem dX11_byHalves_10 : decode cX11_byHalves 10 = .ok (.lconst 1, 1) := dk_10 (dk_at dksX11_byHalves_0 10 rfl rfl)
theorem dX11_byHalves_11 : decode cX11_byHalves 11 = .ok (.lstore 5, 2) := dk_55 5 (dk_at dksX11_byHalves_0 11 rfl rfl)
theorem dX11_byHalves_13 : decode cX11_byHalves 13 = .ok (.lload_n 3, 1) := dk_33 (dk_at dksX11_byHalves_0 13 rfl rfl)
theorem dX11_byHalves_14 : decode cX11_byHalves 14 = .ok (.lconst 1, 1) := dk_10 (dk_at dksX11_byHalves_0 14 rfl rfl)
theorem dX11_byHalves_15 : decode cX11_byHalves 15 = .ok (.ladd, 1) := dk_97 (dk_at dksX11_byHalves_0 15 rfl rfl)
theorem dX11_byHalves_16 : decode cX11_byHalves 16 = .ok (.lstore 7, 2) := dk_55 7 (dk_at dksX11_byHalves_0 16 rfl rfl)
theorem dX11_byHalves_18 : decode cX11_byHalves 18 = .ok (.lconst 1, 1) := dk_10 (dk_at dksX11_byHalves_0 18 rfl rfl)
theorem dX11_byHalves_19 : decode cX11_byHalves 19 = .ok (.lstore 9, 2) := dk_55 9 (dk_at dksX11_byHalves_0 19 rfl rfl)
theorem dX11_byHalves_21 : decode cX11_byHalves 21 = .ok (.aload_n 0, 1) := dk_42 (dk_at dksX11_byHalves_0 21 rfl rfl)
theorem dX11_byHalves_22 : decode cX11_byHalves 22 = .ok (.lload_n 3, 1) := dk_33 (dk_at dksX11_byHalves_0 22 rfl rfl)
theorem dX11_byHalves_23 : decode cX11_byHalves 23 = .ok (.lload 5, 2) := dk_22 5 (dk_at dksX11_byHalves_1 0 rfl rfl)
theorem dX11_byHalves_25 : decode cX11_byHalves 25 = .ok (.invokevirtual 29, 3) := dk_182 0 29 (dk_at dksX11_byHalves_1 2 rfl rfl)
theorem dX11_byHalves_28 : decode cX11_byHalves 28 = .ok (.lconst 0, 1) := dk_9 (dk_at dksX11_byHalves_1 5 rfl rfl)
theorem dX11_byHalves_29 : decode cX11_byHalves 29 = .ok (.lcmp, 1) := dk_148 (dk_at dksX11_byHalves_1 6 rfl rfl)
theorem dX11_byHalves_30 : decode cX11_byHalves 30 = .ok (.ifCond .le 66, 3) := dk_158 0 66 (dk_at dksX11_byHalves_1 7 rfl rfl)
theorem dX11_byHalves_33 : decode cX11_byHalves 33 = .ok (.lload 5, 2) := dk_22 5 (dk_at dksX11_byHalves_1 10 rfl rfl)
theorem dX11_byHalves_35 : decode cX11_byHalves 35 = .ok (.lload 9, 2) := dk_22 9 (dk_at dksX11_byHalves_1 12 rfl rfl)
theorem dX11_byHalves_37 : decode cX11_byHalves 37 = .ok (.ladd, 1) := dk_97 (dk_at dksX11_byHalves_1 14 rfl rfl)
theorem dX11_byHalves_38 : decode cX11_byHalves 38 = .ok (.iload_n 1, 1) := dk_27 (dk_at dksX11_byHalves_1 15 rfl rfl)
theorem dX11_byHalves_39 : decode cX11_byHalves 39 = .ok (.i2l, 1) := dk_133 (dk_at dksX11_byHalves_1 16 rfl rfl)
theorem dX11_byHalves_40 : decode cX11_byHalves 40 = .ok (.lcmp, 1) := dk_148 (dk_at dksX11_byHalves_1 17 rfl rfl)
theorem dX11_byHalves_41 : decode cX11_byHalves 41 = .ok (.ifCond .gt 55, 3) := dk_157 0 55 (dk_at dksX11_byHalves_1 18 rfl rfl)
theorem dX11_byHalves_44 : decode cX11_byHalves 44 = .ok (.lload_n 3, 1) := dk_33 (dk_at dksX11_byHalves_1 21 rfl rfl)
theorem dX11_byHalves_45 : decode cX11_byHalves 45 = .ok (.lload 7, 2) := dk_22 7 (dk_at dksX11_byHalves_1 22 rfl rfl)
theorem dX11_byHalves_47 : decode cX11_byHalves 47 = .ok (.ladd, 1) := dk_97 (dk_at dksX11_byHalves_2 0 rfl rfl)
theorem dX11_byHalves_48 : decode cX11_byHalves 48 = .ok (.lstore 11, 2) := dk_55 11 (dk_at dksX11_byHalves_2 1 rfl rfl)
theorem dX11_byHalves_50 : decode cX11_byHalves 50 = .ok (.lload 5, 2) := dk_22 5 (dk_at dksX11_byHalves_2 3 rfl rfl)
theorem dX11_byHalves_52 : decode cX11_byHalves 52 = .ok (.lload 9, 2) := dk_22 9 (dk_at dksX11_byHalves_2 5 rfl rfl)
theorem dX11_byHalves_54 : decode cX11_byHalves 54 = .ok (.ladd, 1) := dk_97 (dk_at dksX11_byHalves_2 7 rfl rfl)
theorem dX11_byHalves_55 : decode cX11_byHalves 55 = .ok (.lstore 13, 2) := dk_55 13 (dk_at dksX11_byHalves_2 8 rfl rfl)
theorem dX11_byHalves_57 : decode cX11_byHalves 57 = .ok (.lload 11, 2) := dk_22 11 (dk_at dksX11_byHalves_2 10 rfl rfl)
theorem dX11_byHalves_59 : decode cX11_byHalves 59 = .ok (.aload_n 0, 1) := dk_42 (dk_at dksX11_byHalves_2 12 rfl rfl)
theorem dX11_byHalves_60 : decode cX11_byHalves 60 = .ok (.getfield 21, 3) := dk_180 0 21 (dk_at dksX11_byHalves_2 13 rfl rfl)
theorem dX11_byHalves_63 : decode cX11_byHalves 63 = .ok (.lmul, 1) := dk_105 (dk_at dksX11_byHalves_2 16 rfl rfl)
theorem dX11_byHalves_64 : decode cX11_byHalves 64 = .ok (.lload 13, 2) := dk_22 13 (dk_at dksX11_byHalves_2 17 rfl rfl)
theorem dX11_byHalves_66 : decode cX11_byHalves 66 = .ok (.aload_n 0, 1) := dk_42 (dk_at dksX11_byHalves_2 19 rfl rfl)
theorem dX11_byHalves_67 : decode cX11_byHalves 67 = .ok (.getfield 16, 3) := dk_180 0 16 (dk_at dksX11_byHalves_2 20 rfl rfl)
theorem dX11_byHalves_70 : decode cX11_byHalves 70 = .ok (.lmul, 1) := dk_105 (dk_at dksX11_byHalves_2 23 rfl rfl)
theorem dX11_byHalves_71 : decode cX11_byHalves 71 = .ok (.lcmp, 1) := dk_148 (dk_at dksX11_byHalves_3 0 rfl rfl)
theorem dX11_byHalves_72 : decode cX11_byHalves 72 = .ok (.ifCond .gt 13, 3) := dk_157 0 13 (dk_at dksX11_byHalves_3 1 rfl rfl)
theorem dX11_byHalves_75 : decode cX11_byHalves 75 = .ok (.lload 11, 2) := dk_22 11 (dk_at dksX11_byHalves_3 4 rfl rfl)
theorem dX11_byHalves_77 : decode cX11_byHalves 77 = .ok (.lstore_n 3, 1) := dk_66 (dk_at dksX11_byHalves_3 6 rfl rfl)
theorem dX11_byHalves_78 : decode cX11_byHalves 78 = .ok (.lload 13, 2) := dk_22 13 (dk_at dksX11_byHalves_3 7 rfl rfl)
theorem dX11_byHalves_80 : decode cX11_byHalves 80 = .ok (.lstore 5, 2) := dk_55 5 (dk_at dksX11_byHalves_3 9 rfl rfl)
theorem dX11_byHalves_82 : decode cX11_byHalves 82 = .ok (.goto 11, 3) := dk_167 0 11 (dk_at dksX11_byHalves_3 11 rfl rfl)
theorem dX11_byHalves_85 : decode cX11_byHalves 85 = .ok (.lload 11, 2) := dk_22 11 (dk_at dksX11_byHalves_3 14 rfl rfl)
theorem dX11_byHalves_87 : decode cX11_byHalves 87 = .ok (.lstore 7, 2) := dk_55 7 (dk_at dksX11_byHalves_3 16 rfl rfl)
theorem dX11_byHalves_89 : decode cX11_byHalves 89 = .ok (.lload 13, 2) := dk_22 13 (dk_at dksX11_byHalves_3 18 rfl rfl)
theorem dX11_byHalves_91 : decode cX11_byHalves 91 = .ok (.lstore 9, 2) := dk_55 9 (dk_at dksX11_byHalves_3 20 rfl rfl)
theorem dX11_byHalves_93 : decode cX11_byHalves 93 = .ok (.goto (-72), 3) := dk_167 255 184 (dk_at dksX11_byHalves_4 0 rfl rfl)
theorem dX11_byHalves_96 : decode cX11_byHalves 96 = .ok (.aload_n 0, 1) := dk_42 (dk_at dksX11_byHalves_4 3 rfl rfl)
theorem dX11_byHalves_97 : decode cX11_byHalves 97 = .ok (.lload_n 3, 1) := dk_33 (dk_at dksX11_byHalves_4 4 rfl rfl)
theorem dX11_byHalves_98 : decode cX11_byHalves 98 = .ok (.lload 5, 2) := dk_22 5 (dk_at dksX11_byHalves_4 5 rfl rfl)
theorem dX11_byHalves_100 : decode cX11_byHalves 100 = .ok (.lload 7, 2) := dk_22 7 (dk_at dksX11_byHalves_4 7 rfl rfl)
theorem dX11_byHalves_102 : decode cX11_byHalves 102 = .ok (.lload 9, 2) := dk_22 9 (dk_at dksX11_byHalves_4 9 rfl rfl)
theorem dX11_byHalves_104 : decode cX11_byHalves 104 = .ok (.invokevirtual 33, 3) := dk_182 0 33 (dk_at dksX11_byHalves_4 11 rfl rfl)
theorem dX11_byHalves_107 : decode cX11_byHalves 107 = .ok (.istore 11, 2) := dk_54 11 (dk_at dksX11_byHalves_4 14 rfl rfl)
theorem dX11_byHalves_109 : decode cX11_byHalves 109 = .ok (.iload_n 2, 1) := dk_28 (dk_at dksX11_byHalves_4 16 rfl rfl)
theorem dX11_byHalves_110 : decode cX11_byHalves 110 = .ok (.ifCond .eq 17, 3) := dk_153 0 17 (dk_at dksX11_byHalves_4 17 rfl rfl)
theorem dX11_byHalves_113 : decode cX11_byHalves 113 = .ok (.iload 11, 2) := dk_21 11 (dk_at dksX11_byHalves_4 20 rfl rfl)
theorem dX11_byHalves_115 : decode cX11_byHalves 115 = .ok (.ifCond .eq 7, 3) := dk_153 0 7 (dk_at dksX11_byHalves_5 0 rfl rfl)
theorem dX11_byHalves_118 : decode cX11_byHalves 118 = .ok (.lload_n 3, 1) := dk_33 (dk_at dksX11_byHalves_5 3 rfl rfl)
theorem dX11_byHalves_119 : decode cX11_byHalves 119 = .ok (.goto 20, 3) := dk_167 0 20 (dk_at dksX11_byHalves_5 4 rfl rfl)
theorem dX11_byHalves_122 : decode cX11_byHalves 122 = .ok (.lload 7, 2) := dk_22 7 (dk_at dksX11_byHalves_5 7 rfl rfl)
theorem dX11_byHalves_124 : decode cX11_byHalves 124 = .ok (.goto 15, 3) := dk_167 0 15 (dk_at dksX11_byHalves_5 9 rfl rfl)
theorem dX11_byHalves_127 : decode cX11_byHalves 127 = .ok (.iload 11, 2) := dk_21 11 (dk_at dksX11_byHalves_5 12 rfl rfl)
theorem dX11_byHalves_129 : decode cX11_byHalves 129 = .ok (.ifCond .eq 8, 3) := dk_153 0 8 (dk_at dksX11_byHalves_5 14 rfl rfl)
theorem dX11_byHalves_132 : decode cX11_byHalves 132 = .ok (.lload 5, 2) := dk_22 5 (dk_at dksX11_byHalves_5 17 rfl rfl)
theorem dX11_byHalves_134 : decode cX11_byHalves 134 = .ok (.goto 5, 3) := dk_167 0 5 (dk_at dksX11_byHalves_5 19 rfl rfl)
theorem dX11_byHalves_137 : decode cX11_byHalves 137 = .ok (.lload 9, 2) := dk_22 9 (dk_at dksX11_byHalves_5 22 rfl rfl)
theorem dX11_byHalves_139 : decode cX11_byHalves 139 = .ok (.lreturn, 1) := dk_173 (dk_at dksX11_byHalves_6 0 rfl rfl)
abbrev cX11_distance : ByteArray := prog_12_method_2_code
def yX11_distance : MethodName := ⟨RX11, "distance", "(JJ)J"⟩
def dkwX11_distance_0 : List UInt8 := [31, 42, 180, 0, 21, 105, 33, 42, 180, 0, 16, 105, 101, 184, 0, 23, 173]
abbrev dktX11_distance_0 : List UInt8 := dkwX11_distance_0 ++ []
theorem dksX11_distance_0 : cX11_distance.data.toList.drop 0 = dktX11_distance_0 := by decide +kernel
theorem dX11_distance_0 : decode cX11_distance 0 = .ok (.lload_n 1, 1) := dk_31 (dk_at dksX11_distance_0 0 rfl rfl)
theorem dX11_distance_1 : decode cX11_distance 1 = .ok (.aload_n 0, 1) := dk_42 (dk_at dksX11_distance_0 1 rfl rfl)
theorem dX11_distance_2 : decode cX11_distance 2 = .ok (.getfield 21, 3) := dk_180 0 21 (dk_at dksX11_distance_0 2 rfl rfl)
theorem dX11_distance_5 : decode cX11_distance 5 = .ok (.lmul, 1) := dk_105 (dk_at dksX11_distance_0 5 rfl rfl)
theorem dX11_distance_6 : decode cX11_distance 6 = .ok (.lload_n 3, 1) := dk_33 (dk_at dksX11_distance_0 6 rfl rfl)
theorem dX11_distance_7 : decode cX11_distance 7 = .ok (.aload_n 0, 1) := dk_42 (dk_at dksX11_distance_0 7 rfl rfl)
theorem dX11_distance_8 : decode cX11_distance 8 = .ok (.getfield 16, 3) := dk_180 0 16 (dk_at dksX11_distance_0 8 rfl rfl)
theorem dX11_distance_11 : decode cX11_distance 11 = .ok (.lmul, 1) := dk_105 (dk_at dksX11_distance_0 11 rfl rfl)
theorem dX11_distance_12 : decode cX11_distance 12 = .ok (.lsub, 1) := dk_101 (dk_at dksX11_distance_0 12 rfl rfl)
theorem dX11_distance_13 : decode cX11_distance 13 = .ok (.invokestatic 23, 3) := dk_184 0 23 (dk_at dksX11_distance_0 13 rfl rfl)
theorem dX11_distance_16 : decode cX11_distance 16 = .ok (.lreturn, 1) := dk_173 (dk_at dksX11_distance_0 16 rfl rfl)
abbrev cX11_isLowNearer : ByteArray := prog_12_method_4_code
def yX11_isLowNearer : MethodName := ⟨RX11, "isLowNearer", "(JJJJ)Z"⟩
def dkwX11_isLowNearer_2 : List UInt8 := [167, 0, 4, 3, 172]
abbrev dktX11_isLowNearer_2 : List UInt8 := dkwX11_isLowNearer_2 ++ []
def dkwX11_isLowNearer_1 : List UInt8 := [22, 9, 22, 11, 148, 155, 0, 18, 22, 9, 22, 11, 148, 154, 0, 14, 33, 22, 7, 148, 157, 0, 7, 4]
abbrev dktX11_isLowNearer_1 : List UInt8 := dkwX11_isLowNearer_1 ++ dktX11_isLowNearer_2
def dkwX11_isLowNearer_0 : List UInt8 := [42, 31, 33, 182, 0, 29, 22, 7, 105, 55, 9, 42, 22, 5, 22, 7, 182, 0, 29, 33, 105, 55, 11]
abbrev dktX11_isLowNearer_0 : List UInt8 := dkwX11_isLowNearer_0 ++ dktX11_isLowNearer_1
theorem dksX11_isLowNearer_0 : cX11_isLowNearer.data.toList.drop 0 = dktX11_isLowNearer_0 := by decide +kernel
theorem dksX11_isLowNearer_1 : cX11_isLowNearer.data.toList.drop 23 = dktX11_isLowNearer_1 := dk_seg dksX11_isLowNearer_0 23 rfl rfl
theorem dksX11_isLowNearer_2 : cX11_isLowNearer.data.toList.drop 47 = dktX11_isLowNearer_2 := dk_seg dksX11_isLowNearer_1 24 rfl rfl
theorem dX11_isLowNearer_0 : decode cX11_isLowNearer 0 = .ok (.aload_n 0, 1) := dk_42 (dk_at dksX11_isLowNearer_0 0 rfl rfl)
theorem dX11_isLowNearer_1 : decode cX11_isLowNearer 1 = .ok (.lload_n 1, 1) := dk_31 (dk_at dksX11_isLowNearer_0 1 rfl rfl)
theorem dX11_isLowNearer_2 : decode cX11_isLowNearer 2 = .ok (.lload_n 3, 1) := dk_33 (dk_at dksX11_isLowNearer_0 2 rfl rfl)
theorem dX11_isLowNearer_3 : decode cX11_isLowNearer 3 = .ok (.invokevirtual 29, 3) := dk_182 0 29 (dk_at dksX11_isLowNearer_0 3 rfl rfl)
theorem dX11_isLowNearer_6 : decode cX11_isLowNearer 6 = .ok (.lload 7, 2) := dk_22 7 (dk_at dksX11_isLowNearer_0 6 rfl rfl)
theorem dX11_isLowNearer_8 : decode cX11_isLowNearer 8 = .ok (.lmul, 1) := dk_105 (dk_at dksX11_isLowNearer_0 8 rfl rfl)
theorem dX11_isLowNearer_9 : decode cX11_isLowNearer 9 = .ok (.lstore 9, 2) := dk_55 9 (dk_at dksX11_isLowNearer_0 9 rfl rfl)
theorem dX11_isLowNearer_11 : decode cX11_isLowNearer 11 = .ok (.aload_n 0, 1) := dk_42 (dk_at dksX11_isLowNearer_0 11 rfl rfl)
theorem dX11_isLowNearer_12 : decode cX11_isLowNearer 12 = .ok (.lload 5, 2) := dk_22 5 (dk_at dksX11_isLowNearer_0 12 rfl rfl)
theorem dX11_isLowNearer_14 : decode cX11_isLowNearer 14 = .ok (.lload 7, 2) := dk_22 7 (dk_at dksX11_isLowNearer_0 14 rfl rfl)
theorem dX11_isLowNearer_16 : decode cX11_isLowNearer 16 = .ok (.invokevirtual 29, 3) := dk_182 0 29 (dk_at dksX11_isLowNearer_0 16 rfl rfl)
theorem dX11_isLowNearer_19 : decode cX11_isLowNearer 19 = .ok (.lload_n 3, 1) := dk_33 (dk_at dksX11_isLowNearer_0 19 rfl rfl)
theorem dX11_isLowNearer_20 : decode cX11_isLowNearer 20 = .ok (.lmul, 1) := dk_105 (dk_at dksX11_isLowNearer_0 20 rfl rfl)
theorem dX11_isLowNearer_21 : decode cX11_isLowNearer 21 = .ok (.lstore 11, 2) := dk_55 11 (dk_at dksX11_isLowNearer_0 21 rfl rfl)
theorem dX11_isLowNearer_23 : decode cX11_isLowNearer 23 = .ok (.lload 9, 2) := dk_22 9 (dk_at dksX11_isLowNearer_1 0 rfl rfl)
theorem dX11_isLowNearer_25 : decode cX11_isLowNearer 25 = .ok (.lload 11, 2) := dk_22 11 (dk_at dksX11_isLowNearer_1 2 rfl rfl)
theorem dX11_isLowNearer_27 : decode cX11_isLowNearer 27 = .ok (.lcmp, 1) := dk_148 (dk_at dksX11_isLowNearer_1 4 rfl rfl)
theorem dX11_isLowNearer_28 : decode cX11_isLowNearer 28 = .ok (.ifCond .lt 18, 3) := dk_155 0 18 (dk_at dksX11_isLowNearer_1 5 rfl rfl)
theorem dX11_isLowNearer_31 : decode cX11_isLowNearer 31 = .ok (.lload 9, 2) := dk_22 9 (dk_at dksX11_isLowNearer_1 8 rfl rfl)
theorem dX11_isLowNearer_33 : decode cX11_isLowNearer 33 = .ok (.lload 11, 2) := dk_22 11 (dk_at dksX11_isLowNearer_1 10 rfl rfl)
theorem dX11_isLowNearer_35 : decode cX11_isLowNearer 35 = .ok (.lcmp, 1) := dk_148 (dk_at dksX11_isLowNearer_1 12 rfl rfl)
theorem dX11_isLowNearer_36 : decode cX11_isLowNearer 36 = .ok (.ifCond .ne 14, 3) := dk_154 0 14 (dk_at dksX11_isLowNearer_1 13 rfl rfl)
theorem dX11_isLowNearer_39 : decode cX11_isLowNearer 39 = .ok (.lload_n 3, 1) := dk_33 (dk_at dksX11_isLowNearer_1 16 rfl rfl)
theorem dX11_isLowNearer_40 : decode cX11_isLowNearer 40 = .ok (.lload 7, 2) := dk_22 7 (dk_at dksX11_isLowNearer_1 17 rfl rfl)
theorem dX11_isLowNearer_42 : decode cX11_isLowNearer 42 = .ok (.lcmp, 1) := dk_148 (dk_at dksX11_isLowNearer_1 19 rfl rfl)
theorem dX11_isLowNearer_43 : decode cX11_isLowNearer 43 = .ok (.ifCond .gt 7, 3) := dk_157 0 7 (dk_at dksX11_isLowNearer_1 20 rfl rfl)
theorem dX11_isLowNearer_46 : decode cX11_isLowNearer 46 = .ok (.iconst 1, 1) := dk_4 (dk_at dksX11_isLowNearer_1 23 rfl rfl)
theorem dX11_isLowNearer_47 : decode cX11_isLowNearer 47 = .ok (.goto 4, 3) := dk_167 0 4 (dk_at dksX11_isLowNearer_2 0 rfl rfl)
theorem dX11_isLowNearer_50 : decode cX11_isLowNearer 50 = .ok (.iconst 0, 1) := dk_3 (dk_at dksX11_isLowNearer_2 3 rfl rfl)
theorem dX11_isLowNearer_51 : decode cX11_isLowNearer 51 = .ok (.ireturn, 1) := dk_172 (dk_at dksX11_isLowNearer_2 4 rfl rfl)
abbrev cX11_byTrying : ByteArray := prog_12_method_6_code
def yX11_byTrying : MethodName := ⟨RX11, "byTrying", "(I)I"⟩
def dkwX11_byTrying_2 : List UInt8 := [156, 0, 7, 29, 167, 0, 4, 28, 61, 132, 3, 1, 167, 255, 200, 28, 172]
abbrev dktX11_byTrying_2 : List UInt8 := dkwX11_byTrying_2 ++ []
def dkwX11_byTrying_1 : List UInt8 := [55, 4, 42, 42, 28, 133, 182, 0, 37, 28, 133, 182, 0, 29, 29, 133, 105, 55, 6, 22, 4, 22, 6, 148]
abbrev dktX11_byTrying_1 : List UInt8 := dkwX11_byTrying_1 ++ dktX11_byTrying_2
def dkwX11_byTrying_0 : List UInt8 := [4, 61, 5, 62, 29, 27, 163, 0, 57, 42, 42, 29, 133, 182, 0, 37, 29, 133, 182, 0, 29, 28, 133, 105]
abbrev dktX11_byTrying_0 : List UInt8 := dkwX11_byTrying_0 ++ dktX11_byTrying_1
theorem dksX11_byTrying_0 : cX11_byTrying.data.toList.drop 0 = dktX11_byTrying_0 := by decide +kernel
theorem dksX11_byTrying_1 : cX11_byTrying.data.toList.drop 24 = dktX11_byTrying_1 := dk_seg dksX11_byTrying_0 24 rfl rfl
theorem dksX11_byTrying_2 : cX11_byTrying.data.toList.drop 48 = dktX11_byTrying_2 := dk_seg dksX11_byTrying_1 24 rfl rfl
theorem dX11_byTrying_0 : decode cX11_byTrying 0 = .ok (.iconst 1, 1) := dk_4 (dk_at dksX11_byTrying_0 0 rfl rfl)
theorem dX11_byTrying_1 : decode cX11_byTrying 1 = .ok (.istore_n 2, 1) := dk_61 (dk_at dksX11_byTrying_0 1 rfl rfl)
theorem dX11_byTrying_2 : decode cX11_byTrying 2 = .ok (.iconst 2, 1) := dk_5 (dk_at dksX11_byTrying_0 2 rfl rfl)
theorem dX11_byTrying_3 : decode cX11_byTrying 3 = .ok (.istore_n 3, 1) := dk_62 (dk_at dksX11_byTrying_0 3 rfl rfl)
theorem dX11_byTrying_4 : decode cX11_byTrying 4 = .ok (.iload_n 3, 1) := dk_29 (dk_at dksX11_byTrying_0 4 rfl rfl)
theorem dX11_byTrying_5 : decode cX11_byTrying 5 = .ok (.iload_n 1, 1) := dk_27 (dk_at dksX11_byTrying_0 5 rfl rfl)
theorem dX11_byTrying_6 : decode cX11_byTrying 6 = .ok (.if_icmp .gt 57, 3) := dk_163 0 57 (dk_at dksX11_byTrying_0 6 rfl rfl)
theorem dX11_byTrying_9 : decode cX11_byTrying 9 = .ok (.aload_n 0, 1) := dk_42 (dk_at dksX11_byTrying_0 9 rfl rfl)
theorem dX11_byTrying_10 : decode cX11_byTrying 10 = .ok (.aload_n 0, 1) := dk_42 (dk_at dksX11_byTrying_0 10 rfl rfl)
theorem dX11_byTrying_11 : decode cX11_byTrying 11 = .ok (.iload_n 3, 1) := dk_29 (dk_at dksX11_byTrying_0 11 rfl rfl)
theorem dX11_byTrying_12 : decode cX11_byTrying 12 = .ok (.i2l, 1) := dk_133 (dk_at dksX11_byTrying_0 12 rfl rfl)
theorem dX11_byTrying_13 : decode cX11_byTrying 13 = .ok (.invokevirtual 37, 3) := dk_182 0 37 (dk_at dksX11_byTrying_0 13 rfl rfl)
theorem dX11_byTrying_16 : decode cX11_byTrying 16 = .ok (.iload_n 3, 1) := dk_29 (dk_at dksX11_byTrying_0 16 rfl rfl)
theorem dX11_byTrying_17 : decode cX11_byTrying 17 = .ok (.i2l, 1) := dk_133 (dk_at dksX11_byTrying_0 17 rfl rfl)
theorem dX11_byTrying_18 : decode cX11_byTrying 18 = .ok (.invokevirtual 29, 3) := dk_182 0 29 (dk_at dksX11_byTrying_0 18 rfl rfl)
theorem dX11_byTrying_21 : decode cX11_byTrying 21 = .ok (.iload_n 2, 1) := dk_28 (dk_at dksX11_byTrying_0 21 rfl rfl)
theorem dX11_byTrying_22 : decode cX11_byTrying 22 = .ok (.i2l, 1) := dk_133 (dk_at dksX11_byTrying_0 22 rfl rfl)
theorem dX11_byTrying_23 : decode cX11_byTrying 23 = .ok (.lmul, 1) := dk_105 (dk_at dksX11_byTrying_0 23 rfl rfl)
theorem dX11_byTrying_24 : decode cX11_byTrying 24 = .ok (.lstore 4, 2) := dk_55 4 (dk_at dksX11_byTrying_1 0 rfl rfl)
theorem dX11_byTrying_26 : decode cX11_byTrying 26 = .ok (.aload_n 0, 1) := dk_42 (dk_at dksX11_byTrying_1 2 rfl rfl)
theorem dX11_byTrying_27 : decode cX11_byTrying 27 = .ok (.aload_n 0, 1) := dk_42 (dk_at dksX11_byTrying_1 3 rfl rfl)
theorem dX11_byTrying_28 : decode cX11_byTrying 28 = .ok (.iload_n 2, 1) := dk_28 (dk_at dksX11_byTrying_1 4 rfl rfl)
theorem dX11_byTrying_29 : decode cX11_byTrying 29 = .ok (.i2l, 1) := dk_133 (dk_at dksX11_byTrying_1 5 rfl rfl)
theorem dX11_byTrying_30 : decode cX11_byTrying 30 = .ok (.invokevirtual 37, 3) := dk_182 0 37 (dk_at dksX11_byTrying_1 6 rfl rfl)
theorem dX11_byTrying_33 : decode cX11_byTrying 33 = .ok (.iload_n 2, 1) := dk_28 (dk_at dksX11_byTrying_1 9 rfl rfl)
theorem dX11_byTrying_34 : decode cX11_byTrying 34 = .ok (.i2l, 1) := dk_133 (dk_at dksX11_byTrying_1 10 rfl rfl)
theorem dX11_byTrying_35 : decode cX11_byTrying 35 = .ok (.invokevirtual 29, 3) := dk_182 0 29 (dk_at dksX11_byTrying_1 11 rfl rfl)
theorem dX11_byTrying_38 : decode cX11_byTrying 38 = .ok (.iload_n 3, 1) := dk_29 (dk_at dksX11_byTrying_1 14 rfl rfl)
theorem dX11_byTrying_39 : decode cX11_byTrying 39 = .ok (.i2l, 1) := dk_133 (dk_at dksX11_byTrying_1 15 rfl rfl)
theorem dX11_byTrying_40 : decode cX11_byTrying 40 = .ok (.lmul, 1) := dk_105 (dk_at dksX11_byTrying_1 16 rfl rfl)
theorem dX11_byTrying_41 : decode cX11_byTrying 41 = .ok (.lstore 6, 2) := dk_55 6 (dk_at dksX11_byTrying_1 17 rfl rfl)
theorem dX11_byTrying_43 : decode cX11_byTrying 43 = .ok (.lload 4, 2) := dk_22 4 (dk_at dksX11_byTrying_1 19 rfl rfl)
theorem dX11_byTrying_45 : decode cX11_byTrying 45 = .ok (.lload 6, 2) := dk_22 6 (dk_at dksX11_byTrying_1 21 rfl rfl)
theorem dX11_byTrying_47 : decode cX11_byTrying 47 = .ok (.lcmp, 1) := dk_148 (dk_at dksX11_byTrying_1 23 rfl rfl)
theorem dX11_byTrying_48 : decode cX11_byTrying 48 = .ok (.ifCond .ge 7, 3) := dk_156 0 7 (dk_at dksX11_byTrying_2 0 rfl rfl)
theorem dX11_byTrying_51 : decode cX11_byTrying 51 = .ok (.iload_n 3, 1) := dk_29 (dk_at dksX11_byTrying_2 3 rfl rfl)
theorem dX11_byTrying_52 : decode cX11_byTrying 52 = .ok (.goto 4, 3) := dk_167 0 4 (dk_at dksX11_byTrying_2 4 rfl rfl)
theorem dX11_byTrying_55 : decode cX11_byTrying 55 = .ok (.iload_n 2, 1) := dk_28 (dk_at dksX11_byTrying_2 7 rfl rfl)
theorem dX11_byTrying_56 : decode cX11_byTrying 56 = .ok (.istore_n 2, 1) := dk_61 (dk_at dksX11_byTrying_2 8 rfl rfl)
theorem dX11_byTrying_57 : decode cX11_byTrying 57 = .ok (.iinc 3 1, 3) := dk_132 3 1 (dk_at dksX11_byTrying_2 9 rfl rfl)
theorem dX11_byTrying_60 : decode cX11_byTrying 60 = .ok (.goto (-56), 3) := dk_167 255 200 (dk_at dksX11_byTrying_2 12 rfl rfl)
theorem dX11_byTrying_63 : decode cX11_byTrying 63 = .ok (.iload_n 2, 1) := dk_28 (dk_at dksX11_byTrying_2 15 rfl rfl)
theorem dX11_byTrying_64 : decode cX11_byTrying 64 = .ok (.ireturn, 1) := dk_172 (dk_at dksX11_byTrying_2 16 rfl rfl)
abbrev cX11_nearestFor : ByteArray := prog_12_method_5_code
def yX11_nearestFor : MethodName := ⟨RX11, "nearestFor", "(J)J"⟩
def dkwX11_nearestFor_1 : List UInt8 := [182, 0, 29, 148, 157, 0, 7, 33, 167, 0, 6, 33, 10, 97, 173]
abbrev dktX11_nearestFor_1 : List UInt8 := dkwX11_nearestFor_1 ++ []
def dkwX11_nearestFor_0 : List UInt8 := [42, 180, 0, 16, 31, 105, 42, 180, 0, 21, 109, 66, 42, 33, 31, 182, 0, 29, 42, 33, 10, 97, 31]
abbrev dktX11_nearestFor_0 : List UInt8 := dkwX11_nearestFor_0 ++ dktX11_nearestFor_1
theorem dksX11_nearestFor_0 : cX11_nearestFor.data.toList.drop 0 = dktX11_nearestFor_0 := by decide +kernel
theorem dksX11_nearestFor_1 : cX11_nearestFor.data.toList.drop 23 = dktX11_nearestFor_1 := dk_seg dksX11_nearestFor_0 23 rfl rfl
theorem dX11_nearestFor_0 : decode cX11_nearestFor 0 = .ok (.aload_n 0, 1) := dk_42 (dk_at dksX11_nearestFor_0 0 rfl rfl)
theorem dX11_nearestFor_1 : decode cX11_nearestFor 1 = .ok (.getfield 16, 3) := dk_180 0 16 (dk_at dksX11_nearestFor_0 1 rfl rfl)
theorem dX11_nearestFor_4 : decode cX11_nearestFor 4 = .ok (.lload_n 1, 1) := dk_31 (dk_at dksX11_nearestFor_0 4 rfl rfl)
theorem dX11_nearestFor_5 : decode cX11_nearestFor 5 = .ok (.lmul, 1) := dk_105 (dk_at dksX11_nearestFor_0 5 rfl rfl)
theorem dX11_nearestFor_6 : decode cX11_nearestFor 6 = .ok (.aload_n 0, 1) := dk_42 (dk_at dksX11_nearestFor_0 6 rfl rfl)
theorem dX11_nearestFor_7 : decode cX11_nearestFor 7 = .ok (.getfield 21, 3) := dk_180 0 21 (dk_at dksX11_nearestFor_0 7 rfl rfl)
theorem dX11_nearestFor_10 : decode cX11_nearestFor 10 = .ok (.ldiv, 1) := dk_109 (dk_at dksX11_nearestFor_0 10 rfl rfl)
theorem dX11_nearestFor_11 : decode cX11_nearestFor 11 = .ok (.lstore_n 3, 1) := dk_66 (dk_at dksX11_nearestFor_0 11 rfl rfl)
theorem dX11_nearestFor_12 : decode cX11_nearestFor 12 = .ok (.aload_n 0, 1) := dk_42 (dk_at dksX11_nearestFor_0 12 rfl rfl)
theorem dX11_nearestFor_13 : decode cX11_nearestFor 13 = .ok (.lload_n 3, 1) := dk_33 (dk_at dksX11_nearestFor_0 13 rfl rfl)
theorem dX11_nearestFor_14 : decode cX11_nearestFor 14 = .ok (.lload_n 1, 1) := dk_31 (dk_at dksX11_nearestFor_0 14 rfl rfl)
theorem dX11_nearestFor_15 : decode cX11_nearestFor 15 = .ok (.invokevirtual 29, 3) := dk_182 0 29 (dk_at dksX11_nearestFor_0 15 rfl rfl)
theorem dX11_nearestFor_18 : decode cX11_nearestFor 18 = .ok (.aload_n 0, 1) := dk_42 (dk_at dksX11_nearestFor_0 18 rfl rfl)
theorem dX11_nearestFor_19 : decode cX11_nearestFor 19 = .ok (.lload_n 3, 1) := dk_33 (dk_at dksX11_nearestFor_0 19 rfl rfl)
theorem dX11_nearestFor_20 : decode cX11_nearestFor 20 = .ok (.lconst 1, 1) := dk_10 (dk_at dksX11_nearestFor_0 20 rfl rfl)
theorem dX11_nearestFor_21 : decode cX11_nearestFor 21 = .ok (.ladd, 1) := dk_97 (dk_at dksX11_nearestFor_0 21 rfl rfl)
theorem dX11_nearestFor_22 : decode cX11_nearestFor 22 = .ok (.lload_n 1, 1) := dk_31 (dk_at dksX11_nearestFor_0 22 rfl rfl)
theorem dX11_nearestFor_23 : decode cX11_nearestFor 23 = .ok (.invokevirtual 29, 3) := dk_182 0 29 (dk_at dksX11_nearestFor_1 0 rfl rfl)
theorem dX11_nearestFor_26 : decode cX11_nearestFor 26 = .ok (.lcmp, 1) := dk_148 (dk_at dksX11_nearestFor_1 3 rfl rfl)
theorem dX11_nearestFor_27 : decode cX11_nearestFor 27 = .ok (.ifCond .gt 7, 3) := dk_157 0 7 (dk_at dksX11_nearestFor_1 4 rfl rfl)
theorem dX11_nearestFor_30 : decode cX11_nearestFor 30 = .ok (.lload_n 3, 1) := dk_33 (dk_at dksX11_nearestFor_1 7 rfl rfl)
theorem dX11_nearestFor_31 : decode cX11_nearestFor 31 = .ok (.goto 6, 3) := dk_167 0 6 (dk_at dksX11_nearestFor_1 8 rfl rfl)
theorem dX11_nearestFor_34 : decode cX11_nearestFor 34 = .ok (.lload_n 3, 1) := dk_33 (dk_at dksX11_nearestFor_1 11 rfl rfl)
theorem dX11_nearestFor_35 : decode cX11_nearestFor 35 = .ok (.lconst 1, 1) := dk_10 (dk_at dksX11_nearestFor_1 12 rfl rfl)
theorem dX11_nearestFor_36 : decode cX11_nearestFor 36 = .ok (.ladd, 1) := dk_97 (dk_at dksX11_nearestFor_1 13 rfl rfl)
theorem dX11_nearestFor_37 : decode cX11_nearestFor 37 = .ok (.lreturn, 1) := dk_173 (dk_at dksX11_nearestFor_1 14 rfl rfl)
theorem q181 : (Jvm.Cond.initialized "DoughLedger$Nearness") ∈ lw_all := lw_g (lw_at lw_m1 57 rfl) rfl
theorem q929 : (Jvm.Cond.selects "DoughLedger$Nearness" ({ cls := "java/lang/Object", name := "getClass", desc := "()Ljava/lang/Class;" } : Jvm.MethodName) ({ cls := "java/lang/Object", name := "getClass", desc := "()Ljava/lang/Class;" } : Jvm.MethodName)) ∈ lw_all := lw_g (lw_at lw_m4 85 rfl) rfl
theorem q1855 : (Jvm.Cond.instantiable "DoughLedger$Nearness" (2 : Nat)) ∈ lw_all := lw_g (lw_at lw_m8 51 rfl) rfl
theorem q1857 : (Jvm.Cond.instanceMethod ({ cls := "DoughLedger$Nearness", name := "<init>", desc := "(LDoughLedger$Fraction;LDoughLedger$Fraction;)V" } : Jvm.MethodName)) ∈ lw_all := lw_g (lw_at lw_m8 53 rfl) rfl
theorem q1858 : (Jvm.Cond.code ({ cls := "DoughLedger$Nearness", name := "<init>", desc := "(LDoughLedger$Fraction;LDoughLedger$Fraction;)V" } : Jvm.MethodName) prog_12_method_1_code (3 : Nat) (Option.none : Option Jvm.ClassFile.FieldType)) ∈ lw_all := lw_g (lw_at lw_m8 54 rfl) rfl
theorem q1859 : (Jvm.Cond.methodLink "DoughLedger$Nearness" (1 : Nat) ({ cls := "java/lang/Object", name := "<init>", desc := "()V" } : Jvm.MethodName)) ∈ lw_all := lw_g (lw_at lw_m8 55 rfl) rfl
theorem q1860 : (Jvm.Cond.fieldLink "DoughLedger$Nearness" (16 : Nat) "DoughLedger$Nearness" "above" "J") ∈ lw_all := lw_g (lw_at lw_m8 56 rfl) rfl
theorem q1861 : (Jvm.Cond.fieldLink "DoughLedger$Nearness" (21 : Nat) "DoughLedger$Nearness" "below" "J") ∈ lw_all := lw_g (lw_at lw_m8 57 rfl) rfl
theorem q1864 : (Jvm.Cond.laysFinal "DoughLedger$Nearness" "DoughLedger$Nearness" "above" "J") ∈ lw_all := lw_g (lw_at lw_m8 60 rfl) rfl
theorem q1865 : (Jvm.Cond.soleField "DoughLedger$Nearness" "above") ∈ lw_all := lw_g (lw_at lw_m8 61 rfl) rfl
theorem q1866 : (Jvm.Cond.laysFinal "DoughLedger$Nearness" "DoughLedger$Nearness" "below" "J") ∈ lw_all := lw_g (lw_at lw_m8 62 rfl) rfl
theorem q1867 : (Jvm.Cond.soleField "DoughLedger$Nearness" "below") ∈ lw_all := lw_g (lw_at lw_m8 63 rfl) rfl
theorem q1868 : (Jvm.Cond.superclass "DoughLedger$Nearness" "java/lang/Object") ∈ lw_all := lw_g (lw_at lw_m8 64 rfl) rfl
theorem q1870 : (Jvm.Cond.instanceMethod ({ cls := "DoughLedger$Nearness", name := "byHalves", desc := "(IZ)J" } : Jvm.MethodName)) ∈ lw_all := lw_g (lw_at lw_m8 66 rfl) rfl
theorem q1871 : (Jvm.Cond.selects "DoughLedger$Nearness" ({ cls := "DoughLedger$Nearness", name := "byHalves", desc := "(IZ)J" } : Jvm.MethodName) ({ cls := "DoughLedger$Nearness", name := "byHalves", desc := "(IZ)J" } : Jvm.MethodName)) ∈ lw_all := lw_g (lw_at lw_m8 67 rfl) rfl
theorem q1872 : (Jvm.Cond.code ({ cls := "DoughLedger$Nearness", name := "byHalves", desc := "(IZ)J" } : Jvm.MethodName) prog_12_method_3_code (15 : Nat) (Option.some Jvm.ClassFile.FieldType.long)) ∈ lw_all := lw_g (lw_at lw_m8 68 rfl) rfl
theorem q1873 : (Jvm.Cond.methodLink "DoughLedger$Nearness" (29 : Nat) ({ cls := "DoughLedger$Nearness", name := "distance", desc := "(JJ)J" } : Jvm.MethodName)) ∈ lw_all := lw_g (lw_at lw_m8 69 rfl) rfl
theorem q1874 : (Jvm.Cond.privateMethod ({ cls := "DoughLedger$Nearness", name := "distance", desc := "(JJ)J" } : Jvm.MethodName)) ∈ lw_tbl := lw_at lw_m8 70 rfl
theorem q1875 : (Jvm.Cond.instanceMethod ({ cls := "DoughLedger$Nearness", name := "distance", desc := "(JJ)J" } : Jvm.MethodName)) ∈ lw_all := lw_g (lw_at lw_m8 71 rfl) rfl
theorem q1876 : (Jvm.Cond.code ({ cls := "DoughLedger$Nearness", name := "distance", desc := "(JJ)J" } : Jvm.MethodName) prog_12_method_2_code (5 : Nat) (Option.some Jvm.ClassFile.FieldType.long)) ∈ lw_all := lw_g (lw_at lw_m8 72 rfl) rfl
theorem q1877 : (Jvm.Cond.methodLink "DoughLedger$Nearness" (23 : Nat) ({ cls := "java/lang/Math", name := "abs", desc := "(J)J" } : Jvm.MethodName)) ∈ lw_all := lw_g (lw_at lw_m8 73 rfl) rfl
theorem q1880 : (Jvm.Cond.methodLink "DoughLedger$Nearness" (33 : Nat) ({ cls := "DoughLedger$Nearness", name := "isLowNearer", desc := "(JJJJ)Z" } : Jvm.MethodName)) ∈ lw_all := lw_g (lw_at lw_m8 76 rfl) rfl
theorem q1881 : (Jvm.Cond.privateMethod ({ cls := "DoughLedger$Nearness", name := "isLowNearer", desc := "(JJJJ)Z" } : Jvm.MethodName)) ∈ lw_tbl := lw_at lw_m8 77 rfl
theorem q1882 : (Jvm.Cond.instanceMethod ({ cls := "DoughLedger$Nearness", name := "isLowNearer", desc := "(JJJJ)Z" } : Jvm.MethodName)) ∈ lw_all := lw_g (lw_at lw_m8 78 rfl) rfl
theorem q1883 : (Jvm.Cond.code ({ cls := "DoughLedger$Nearness", name := "isLowNearer", desc := "(JJJJ)Z" } : Jvm.MethodName) prog_12_method_4_code (13 : Nat) (Option.some Jvm.ClassFile.FieldType.boolean)) ∈ lw_all := lw_g (lw_at lw_m8 79 rfl) rfl
theorem q1885 : (Jvm.Cond.instanceMethod ({ cls := "DoughLedger$Nearness", name := "byTrying", desc := "(I)I" } : Jvm.MethodName)) ∈ lw_all := lw_g (lw_at lw_m8 81 rfl) rfl
theorem q1886 : (Jvm.Cond.selects "DoughLedger$Nearness" ({ cls := "DoughLedger$Nearness", name := "byTrying", desc := "(I)I" } : Jvm.MethodName) ({ cls := "DoughLedger$Nearness", name := "byTrying", desc := "(I)I" } : Jvm.MethodName)) ∈ lw_all := lw_g (lw_at lw_m8 82 rfl) rfl
theorem q1887 : (Jvm.Cond.code ({ cls := "DoughLedger$Nearness", name := "byTrying", desc := "(I)I" } : Jvm.MethodName) prog_12_method_6_code (8 : Nat) (Option.some Jvm.ClassFile.FieldType.int)) ∈ lw_all := lw_g (lw_at lw_m8 83 rfl) rfl
theorem q1888 : (Jvm.Cond.methodLink "DoughLedger$Nearness" (37 : Nat) ({ cls := "DoughLedger$Nearness", name := "nearestFor", desc := "(J)J" } : Jvm.MethodName)) ∈ lw_all := lw_g (lw_at lw_m8 84 rfl) rfl
theorem q1889 : (Jvm.Cond.privateMethod ({ cls := "DoughLedger$Nearness", name := "nearestFor", desc := "(J)J" } : Jvm.MethodName)) ∈ lw_tbl := lw_at lw_m8 85 rfl
theorem q1890 : (Jvm.Cond.instanceMethod ({ cls := "DoughLedger$Nearness", name := "nearestFor", desc := "(J)J" } : Jvm.MethodName)) ∈ lw_all := lw_g (lw_at lw_m8 86 rfl) rfl
theorem q1891 : (Jvm.Cond.code ({ cls := "DoughLedger$Nearness", name := "nearestFor", desc := "(J)J" } : Jvm.MethodName) prog_12_method_5_code (5 : Nat) (Option.some Jvm.ClassFile.FieldType.long)) ∈ lw_all := lw_g (lw_at lw_m8 87 rfl) rfl
theorem q2193 : (Jvm.Cond.fieldLinkNest "DoughLedger$Nearness" (7 : Nat) "DoughLedger$Fraction" "above" "I" "DoughLedger") ∈ lw_tbl := lw_at lw_m9 149 rfl
theorem q2197 : (Jvm.Cond.fieldLinkNest "DoughLedger$Nearness" (13 : Nat) "DoughLedger$Fraction" "below" "I" "DoughLedger") ∈ lw_tbl := lw_at lw_m9 153 rfl
theorem q2858 : (Jvm.Cond.selects "DoughLedger$Nearness" ({ cls := "java/lang/Object", name := "toString", desc := "()Ljava/lang/String;" } : Jvm.MethodName) ({ cls := "java/lang/Object", name := "toString", desc := "()Ljava/lang/String;" } : Jvm.MethodName)) ∈ lw_all := lw_g (lw_at lw_m12 94 rfl) rfl
theorem q4059 : (Jvm.Cond.castable "DoughLedger$Nearness" "java/lang/Object") ∈ lw_tbl := lw_at lw_m17 95 rfl
theorem in_X11 : ∀ w ∈ wsX110, w ∈ lw_all := lw_in wsX110 [1864, 1866] (by decide +kernel) (by decide +kernel)

/-! DoughLedger$Baking -/
set_option maxRecDepth 100000
def RX12 : String := "DoughLedger$Baking"
def TX12 : u_T := fun k => match k with
  | 0 => ("DoughLedger$Baking", "loaves", "Ljava/util/List;", true)
  | _ => ("DoughLedger$Baking", "ovens", "I", true)
def tyX12 : Nat → FieldType := fun k => match k with
  | 0 => .object "java/util/List"
  | _ => .int
abbrev wsX120 : List Cond := u_ws RX12 TX12 2
theorem nmX12 : ∀ a, a < 2 → ∀ b, b < 2 → a ≠ b → (TX12 a).2.1 ≠ (TX12 b).2.1 := by decide +kernel
theorem tyX12_ok : ∀ k, k < 2 → parseFieldDescriptor (TX12 k).2.2.1 = some (tyX12 k) := by decide +kernel
abbrev cX12_init : ByteArray := prog_3_method_1_code
def yX12_init : MethodName := ⟨RX12, "<init>", "(Ljava/util/List;I)V"⟩
def dkwX12_init_0 : List UInt8 := [42, 183, 0, 3, 42, 43, 181, 0, 9, 42, 28, 181, 0, 15, 177]
abbrev dktX12_init_0 : List UInt8 := dkwX12_init_0 ++ []
theorem dksX12_init_0 : cX12_init.data.toList.drop 0 = dktX12_init_0 := by decide +kernel
theorem dX12_init_0 : decode cX12_init 0 = .ok (.aload_n 0, 1) := dk_42 (dk_at dksX12_init_0 0 rfl rfl)
theorem dX12_init_1 : decode cX12_init 1 = .ok (.invokespecial 3, 3) := dk_183 0 3 (dk_at dksX12_init_0 1 rfl rfl)
theorem dX12_init_4 : decode cX12_init 4 = .ok (.aload_n 0, 1) := dk_42 (dk_at dksX12_init_0 4 rfl rfl)
theorem dX12_init_5 : decode cX12_init 5 = .ok (.aload_n 1, 1) := dk_43 (dk_at dksX12_init_0 5 rfl rfl)
theorem dX12_init_6 : decode cX12_init 6 = .ok (.putfield 9, 3) := dk_181 0 9 (dk_at dksX12_init_0 6 rfl rfl)
theorem dX12_init_9 : decode cX12_init 9 = .ok (.aload_n 0, 1) := dk_42 (dk_at dksX12_init_0 9 rfl rfl)
theorem dX12_init_10 : decode cX12_init 10 = .ok (.iload_n 2, 1) := dk_28 (dk_at dksX12_init_0 10 rfl rfl)
theorem dX12_init_11 : decode cX12_init 11 = .ok (.putfield 15, 3) := dk_181 0 15 (dk_at dksX12_init_0 11 rfl rfl)
theorem dX12_init_14 : decode cX12_init 14 = .ok (.return_, 1) := dk_177 (dk_at dksX12_init_0 14 rfl rfl)
abbrev cX12_shortest : ByteArray := prog_3_method_4_code
def yX12_shortest : MethodName := ⟨RX12, "shortest", "()I"⟩
def dkwX12_shortest_2 : List UInt8 := [182, 0, 46, 76, 132, 2, 1, 167, 255, 239, 43, 43, 190, 4, 100, 46, 172]
abbrev dktX12_shortest_2 : List UInt8 := dkwX12_shortest_2 ++ []
def dkwX12_shortest_1 : List UInt8 := [42, 28, 182, 0, 34, 79, 132, 2, 1, 167, 255, 239, 4, 61, 28, 42, 180, 0, 15, 162, 0, 15, 42, 43]
abbrev dktX12_shortest_1 : List UInt8 := dkwX12_shortest_1 ++ dktX12_shortest_2
def dkwX12_shortest_0 : List UInt8 := [4, 42, 180, 0, 9, 185, 0, 19, 1, 0, 120, 188, 10, 76, 4, 61, 28, 43, 190, 162, 0, 17, 43, 28]
abbrev dktX12_shortest_0 : List UInt8 := dkwX12_shortest_0 ++ dktX12_shortest_1
theorem dksX12_shortest_0 : cX12_shortest.data.toList.drop 0 = dktX12_shortest_0 := by decide +kernel
theorem dksX12_shortest_1 : cX12_shortest.data.toList.drop 24 = dktX12_shortest_1 := dk_seg dksX12_shortest_0 24 rfl rfl
theorem dksX12_shortest_2 : cX12_shortest.data.toList.drop 48 = dktX12_shortest_2 := dk_seg dksX12_shortest_1 24 rfl rfl
theorem dX12_shortest_0 : decode cX12_shortest 0 = .ok (.iconst 1, 1) := dk_4 (dk_at dksX12_shortest_0 0 rfl rfl)
theorem dX12_shortest_1 : decode cX12_shortest 1 = .ok (.aload_n 0, 1) := dk_42 (dk_at dksX12_shortest_0 1 rfl rfl)
theorem dX12_shortest_2 : decode cX12_shortest 2 = .ok (.getfield 9, 3) := dk_180 0 9 (dk_at dksX12_shortest_0 2 rfl rfl)
theorem dX12_shortest_5 : decode cX12_shortest 5 = .ok (.invokeinterface 19 1, 5) := by decide +kernel
theorem dX12_shortest_10 : decode cX12_shortest 10 = .ok (.ishl, 1) := dk_120 (dk_at dksX12_shortest_0 10 rfl rfl)
theorem dX12_shortest_11 : decode cX12_shortest 11 = .ok (.newarray .int, 2) := dk_188_10 (dk_at dksX12_shortest_0 11 rfl rfl)
theorem dX12_shortest_13 : decode cX12_shortest 13 = .ok (.astore_n 1, 1) := dk_76 (dk_at dksX12_shortest_0 13 rfl rfl)
theorem dX12_shortest_14 : decode cX12_shortest 14 = .ok (.iconst 1, 1) := dk_4 (dk_at dksX12_shortest_0 14 rfl rfl)
theorem dX12_shortest_15 : decode cX12_shortest 15 = .ok (.istore_n 2, 1) := dk_61 (dk_at dksX12_shortest_0 15 rfl rfl)
theorem dX12_shortest_16 : decode cX12_shortest 16 = .ok (.iload_n 2, 1) := dk_28 (dk_at dksX12_shortest_0 16 rfl rfl)
theorem dX12_shortest_17 : decode cX12_shortest 17 = .ok (.aload_n 1, 1) := dk_43 (dk_at dksX12_shortest_0 17 rfl rfl)
theorem dX12_shortest_18 : decode cX12_shortest 18 = .ok (.arraylength, 1) := dk_190 (dk_at dksX12_shortest_0 18 rfl rfl)
theorem dX12_shortest_19 : decode cX12_shortest 19 = .ok (.if_icmp .ge 17, 3) := dk_162 0 17 (dk_at dksX12_shortest_0 19 rfl rfl)
theorem dX12_shortest_22 : decode cX12_shortest 22 = .ok (.aload_n 1, 1) := dk_43 (dk_at dksX12_shortest_0 22 rfl rfl)
theorem dX12_shortest_23 : decode cX12_shortest 23 = .ok (.iload_n 2, 1) := dk_28 (dk_at dksX12_shortest_0 23 rfl rfl)
theorem dX12_shortest_24 : decode cX12_shortest 24 = .ok (.aload_n 0, 1) := dk_42 (dk_at dksX12_shortest_1 0 rfl rfl)
theorem dX12_shortest_25 : decode cX12_shortest 25 = .ok (.iload_n 2, 1) := dk_28 (dk_at dksX12_shortest_1 1 rfl rfl)
theorem dX12_shortest_26 : decode cX12_shortest 26 = .ok (.invokevirtual 34, 3) := dk_182 0 34 (dk_at dksX12_shortest_1 2 rfl rfl)
theorem dX12_shortest_29 : decode cX12_shortest 29 = .ok (.iastore, 1) := dk_79 (dk_at dksX12_shortest_1 5 rfl rfl)
theorem dX12_shortest_30 : decode cX12_shortest 30 = .ok (.iinc 2 1, 3) := dk_132 2 1 (dk_at dksX12_shortest_1 6 rfl rfl)
theorem dX12_shortest_33 : decode cX12_shortest 33 = .ok (.goto (-17), 3) := dk_167 255 239 (dk_at dksX12_shortest_1 9 rfl rfl)
theorem dX12_shortest_36 : decode cX12_shortest 36 = .ok (.iconst 1, 1) := dk_4 (dk_at dksX12_shortest_1 12 rfl rfl)
theorem dX12_shortest_37 : decode cX12_shortest 37 = .ok (.istore_n 2, 1) := dk_61 (dk_at dksX12_shortest_1 13 rfl rfl)
theorem dX12_shortest_38 : decode cX12_shortest 38 = .ok (.iload_n 2, 1) := dk_28 (dk_at dksX12_shortest_1 14 rfl rfl)
theorem dX12_shortest_39 : decode cX12_shortest 39 = .ok (.aload_n 0, 1) := dk_42 (dk_at dksX12_shortest_1 15 rfl rfl)
theorem dX12_shortest_40 : decode cX12_shortest 40 = .ok (.getfield 15, 3) := dk_180 0 15 (dk_at dksX12_shortest_1 16 rfl rfl)
theorem dX12_shortest_43 : decode cX12_shortest 43 = .ok (.if_icmp .ge 15, 3) := dk_162 0 15 (dk_at dksX12_shortest_1 19 rfl rfl)
theorem dX12_shortest_46 : decode cX12_shortest 46 = .ok (.aload_n 0, 1) := dk_42 (dk_at dksX12_shortest_1 22 rfl rfl)
theorem dX12_shortest_47 : decode cX12_shortest 47 = .ok (.aload_n 1, 1) := dk_43 (dk_at dksX12_shortest_1 23 rfl rfl)
theorem dX12_shortest_48 : decode cX12_shortest 48 = .ok (.invokevirtual 46, 3) := dk_182 0 46 (dk_at dksX12_shortest_2 0 rfl rfl)
theorem dX12_shortest_51 : decode cX12_shortest 51 = .ok (.astore_n 1, 1) := dk_76 (dk_at dksX12_shortest_2 3 rfl rfl)
theorem dX12_shortest_52 : decode cX12_shortest 52 = .ok (.iinc 2 1, 3) := dk_132 2 1 (dk_at dksX12_shortest_2 4 rfl rfl)
theorem dX12_shortest_55 : decode cX12_shortest 55 = .ok (.goto (-17), 3) := dk_167 255 239 (dk_at dksX12_shortest_2 7 rfl rfl)
theorem dX12_shortest_58 : decode cX12_shortest 58 = .ok (.aload_n 1, 1) := dk_43 (dk_at dksX12_shortest_2 10 rfl rfl)
theorem dX12_shortest_59 : decode cX12_shortest 59 = .ok (.aload_n 1, 1) := dk_43 (dk_at dksX12_shortest_2 11 rfl rfl)
theorem dX12_shortest_60 : decode cX12_shortest 60 = .ok (.arraylength, 1) := dk_190 (dk_at dksX12_shortest_2 12 rfl rfl)
theorem dX12_shortest_61 : decode cX12_shortest 61 = .ok (.iconst 1, 1) := dk_4 (dk_at dksX12_shortest_2 13 rfl rfl)
theorem dX12_shortest_62 : decode cX12_shortest 62 = .ok (.isub, 1) := dk_100 (dk_at dksX12_shortest_2 14 rfl rfl)
theorem dX12_shortest_63 : decode cX12_shortest 63 = .ok (.iaload, 1) := dk_46 (dk_at dksX12_shortest_2 15 rfl rfl)
theorem dX12_shortest_64 : decode cX12_shortest 64 = .ok (.ireturn, 1) := dk_172 (dk_at dksX12_shortest_2 16 rfl rfl)
abbrev cX12_minutes : ByteArray := prog_3_method_2_code
def yX12_minutes : MethodName := ⟨RX12, "minutes", "(I)I"⟩
def dkwX12_minutes_2 : List UInt8 := [61, 132, 3, 1, 167, 255, 208, 28, 172]
abbrev dktX12_minutes_2 : List UInt8 := dkwX12_minutes_2 ++ []
def dkwX12_minutes_1 : List UInt8 := [160, 0, 22, 42, 180, 0, 9, 29, 185, 0, 25, 2, 0, 192, 0, 29, 180, 0, 31, 167, 0, 4, 3, 96]
abbrev dktX12_minutes_1 : List UInt8 := dkwX12_minutes_1 ++ dktX12_minutes_2
def dkwX12_minutes_0 : List UInt8 := [3, 61, 3, 62, 29, 42, 180, 0, 9, 185, 0, 19, 1, 0, 162, 0, 41, 28, 27, 29, 122, 4, 126, 4]
abbrev dktX12_minutes_0 : List UInt8 := dkwX12_minutes_0 ++ dktX12_minutes_1
theorem dksX12_minutes_0 : cX12_minutes.data.toList.drop 0 = dktX12_minutes_0 := by decide +kernel
theorem dksX12_minutes_1 : cX12_minutes.data.toList.drop 24 = dktX12_minutes_1 := dk_seg dksX12_minutes_0 24 rfl rfl
theorem dksX12_minutes_2 : cX12_minutes.data.toList.drop 48 = dktX12_minutes_2 := dk_seg dksX12_minutes_1 24 rfl rfl
theorem dX12_minutes_0 : decode cX12_minutes 0 = .ok (.iconst 0, 1) := dk_3 (dk_at dksX12_minutes_0 0 rfl rfl)
theorem dX12_minutes_1 : decode cX12_minutes 1 = .ok (.istore_n 2, 1) := dk_61 (dk_at dksX12_minutes_0 1 rfl rfl)
theorem dX12_minutes_2 : decode cX12_minutes 2 = .ok (.iconst 0, 1) := dk_3 (dk_at dksX12_minutes_0 2 rfl rfl)
theorem dX12_minutes_3 : decode cX12_minutes 3 = .ok (.istore_n 3, 1) := dk_62 (dk_at dksX12_minutes_0 3 rfl rfl)
theorem dX12_minutes_4 : decode cX12_minutes 4 = .ok (.iload_n 3, 1) := dk_29 (dk_at dksX12_minutes_0 4 rfl rfl)
theorem dX12_minutes_5 : decode cX12_minutes 5 = .ok (.aload_n 0, 1) := dk_42 (dk_at dksX12_minutes_0 5 rfl rfl)
theorem dX12_minutes_6 : decode cX12_minutes 6 = .ok (.getfield 9, 3) := dk_180 0 9 (dk_at dksX12_minutes_0 6 rfl rfl)
theorem dX12_minutes_9 : decode cX12_minutes 9 = .ok (.invokeinterface 19 1, 5) := by decide +kernel
theorem dX12_minutes_14 : decode cX12_minutes 14 = .ok (.if_icmp .ge 41, 3) := dk_162 0 41 (dk_at dksX12_minutes_0 14 rfl rfl)
theorem dX12_minutes_17 : decode cX12_minutes 17 = .ok (.iload_n 2, 1) := dk_28 (dk_at dksX12_minutes_0 17 rfl rfl)
theorem dX12_minutes_18 : decode cX12_minutes 18 = .ok (.iload_n 1, 1) := dk_27 (dk_at dksX12_minutes_0 18 rfl rfl)
theorem dX12_minutes_19 : decode cX12_minutes 19 = .ok (.iload_n 3, 1) := dk_29 (dk_at dksX12_minutes_0 19 rfl rfl)
theorem dX12_minutes_20 : decode cX12_minutes 20 = .ok (.ishr, 1) := dk_122 (dk_at dksX12_minutes_0 20 rfl rfl)
theorem dX12_minutes_21 : decode cX12_minutes 21 = .ok (.iconst 1, 1) := dk_4 (dk_at dksX12_minutes_0 21 rfl rfl)
theorem dX12_minutes_22 : decode cX12_minutes 22 = .ok (.iand, 1) := dk_126 (dk_at dksX12_minutes_0 22 rfl rfl)
theorem dX12_minutes_23 : decode cX12_minutes 23 = .ok (.iconst 1, 1) := dk_4 (dk_at dksX12_minutes_0 23 rfl rfl)
theorem dX12_minutes_24 : decode cX12_minutes 24 = .ok (.if_icmp .ne 22, 3) := dk_160 0 22 (dk_at dksX12_minutes_1 0 rfl rfl)
theorem dX12_minutes_27 : decode cX12_minutes 27 = .ok (.aload_n 0, 1) := dk_42 (dk_at dksX12_minutes_1 3 rfl rfl)
theorem dX12_minutes_28 : decode cX12_minutes 28 = .ok (.getfield 9, 3) := dk_180 0 9 (dk_at dksX12_minutes_1 4 rfl rfl)
theorem dX12_minutes_31 : decode cX12_minutes 31 = .ok (.iload_n 3, 1) := dk_29 (dk_at dksX12_minutes_1 7 rfl rfl)
theorem dX12_minutes_32 : decode cX12_minutes 32 = .ok (.invokeinterface 25 2, 5) := by decide +kernel
theorem dX12_minutes_37 : decode cX12_minutes 37 = .ok (.checkcast 29, 3) := dk_192 0 29 (dk_at dksX12_minutes_1 13 rfl rfl)
theorem dX12_minutes_40 : decode cX12_minutes 40 = .ok (.getfield 31, 3) := dk_180 0 31 (dk_at dksX12_minutes_1 16 rfl rfl)
theorem dX12_minutes_43 : decode cX12_minutes 43 = .ok (.goto 4, 3) := dk_167 0 4 (dk_at dksX12_minutes_1 19 rfl rfl)
theorem dX12_minutes_46 : decode cX12_minutes 46 = .ok (.iconst 0, 1) := dk_3 (dk_at dksX12_minutes_1 22 rfl rfl)
theorem dX12_minutes_47 : decode cX12_minutes 47 = .ok (.iadd, 1) := dk_96 (dk_at dksX12_minutes_1 23 rfl rfl)
theorem dX12_minutes_48 : decode cX12_minutes 48 = .ok (.istore_n 2, 1) := dk_61 (dk_at dksX12_minutes_2 0 rfl rfl)
theorem dX12_minutes_49 : decode cX12_minutes 49 = .ok (.iinc 3 1, 3) := dk_132 3 1 (dk_at dksX12_minutes_2 1 rfl rfl)
theorem dX12_minutes_52 : decode cX12_minutes 52 = .ok (.goto (-48), 3) := dk_167 255 208 (dk_at dksX12_minutes_2 4 rfl rfl)
theorem dX12_minutes_55 : decode cX12_minutes 55 = .ok (.iload_n 2, 1) := dk_28 (dk_at dksX12_minutes_2 7 rfl rfl)
theorem dX12_minutes_56 : decode cX12_minutes 56 = .ok (.ireturn, 1) := dk_172 (dk_at dksX12_minutes_2 8 rfl rfl)
abbrev cX12_withOneMore : ByteArray := prog_3_method_3_code
def yX12_withOneMore : MethodName := ⟨RX12, "withOneMore", "([I)[I"⟩
def dkwX12_withOneMore_3 : List UInt8 := [44, 176]
abbrev dktX12_withOneMore_3 : List UInt8 := dkwX12_withOneMore_3 ++ []
def dkwX12_withOneMore_2 : List UInt8 := [184, 0, 37, 184, 0, 43, 79, 21, 4, 4, 100, 29, 126, 54, 4, 167, 255, 217, 132, 3, 1, 167, 255, 196]
abbrev dktX12_withOneMore_2 : List UInt8 := dkwX12_withOneMore_2 ++ dktX12_withOneMore_3
def dkwX12_withOneMore_1 : List UInt8 := [158, 0, 40, 44, 29, 44, 29, 46, 42, 21, 4, 182, 0, 34, 43, 29, 21, 4, 2, 130, 126, 46]
abbrev dktX12_withOneMore_1 : List UInt8 := dkwX12_withOneMore_1 ++ dktX12_withOneMore_2
def dkwX12_withOneMore_0 : List UInt8 := [43, 190, 188, 10, 77, 4, 62, 29, 43, 190, 162, 0, 60, 44, 29, 43, 29, 46, 79, 29, 54, 4, 21, 4]
abbrev dktX12_withOneMore_0 : List UInt8 := dkwX12_withOneMore_0 ++ dktX12_withOneMore_1
theorem dksX12_withOneMore_0 : cX12_withOneMore.data.toList.drop 0 = dktX12_withOneMore_0 := by decide +kernel
theorem dksX12_withOneMore_1 : cX12_withOneMore.data.toList.drop 24 = dktX12_withOneMore_1 := dk_seg dksX12_withOneMore_0 24 rfl rfl
theorem dksX12_withOneMore_2 : cX12_withOneMore.data.toList.drop 46 = dktX12_withOneMore_2 := dk_seg dksX12_withOneMore_1 22 rfl rfl
theorem dksX12_withOneMore_3 : cX12_withOneMore.data.toList.drop 70 = dktX12_withOneMore_3 := dk_seg dksX12_withOneMore_2 24 rfl rfl
theorem dX12_withOneMore_0 : decode cX12_withOneMore 0 = .ok (.aload_n 1, 1) := dk_43 (dk_at dksX12_withOneMore_0 0 rfl rfl)
theorem dX12_withOneMore_1 : decode cX12_withOneMore 1 = .ok (.arraylength, 1) := dk_190 (dk_at dksX12_withOneMore_0 1 rfl rfl)
theorem dX12_withOneMore_2 : decode cX12_withOneMore 2 = .ok (.newarray .int, 2) := dk_188_10 (dk_at dksX12_withOneMore_0 2 rfl rfl)
theorem dX12_withOneMore_4 : decode cX12_withOneMore 4 = .ok (.astore_n 2, 1) := dk_77 (dk_at dksX12_withOneMore_0 4 rfl rfl)
theorem dX12_withOneMore_5 : decode cX12_withOneMore 5 = .ok (.iconst 1, 1) := dk_4 (dk_at dksX12_withOneMore_0 5 rfl rfl)
theorem dX12_withOneMore_6 : decode cX12_withOneMore 6 = .ok (.istore_n 3, 1) := dk_62 (dk_at dksX12_withOneMore_0 6 rfl rfl)
theorem dX12_withOneMore_7 : decode cX12_withOneMore 7 = .ok (.iload_n 3, 1) := dk_29 (dk_at dksX12_withOneMore_0 7 rfl rfl)
theorem dX12_withOneMore_8 : decode cX12_withOneMore 8 = .ok (.aload_n 1, 1) := dk_43 (dk_at dksX12_withOneMore_0 8 rfl rfl)
theorem dX12_withOneMore_9 : decode cX12_withOneMore 9 = .ok (.arraylength, 1) := dk_190 (dk_at dksX12_withOneMore_0 9 rfl rfl)
theorem dX12_withOneMore_10 : decode cX12_withOneMore 10 = .ok (.if_icmp .ge 60, 3) := dk_162 0 60 (dk_at dksX12_withOneMore_0 10 rfl rfl)
theorem dX12_withOneMore_13 : decode cX12_withOneMore 13 = .ok (.aload_n 2, 1) := dk_44 (dk_at dksX12_withOneMore_0 13 rfl rfl)
theorem dX12_withOneMore_14 : decode cX12_withOneMore 14 = .ok (.iload_n 3, 1) := dk_29 (dk_at dksX12_withOneMore_0 14 rfl rfl)
theorem dX12_withOneMore_15 : decode cX12_withOneMore 15 = .ok (.aload_n 1, 1) := dk_43 (dk_at dksX12_withOneMore_0 15 rfl rfl)
theorem dX12_withOneMore_16 : decode cX12_withOneMore 16 = .ok (.iload_n 3, 1) := dk_29 (dk_at dksX12_withOneMore_0 16 rfl rfl)
theorem dX12_withOneMore_17 : decode cX12_withOneMore 17 = .ok (.iaload, 1) := dk_46 (dk_at dksX12_withOneMore_0 17 rfl rfl)
theorem dX12_withOneMore_18 : decode cX12_withOneMore 18 = .ok (.iastore, 1) := dk_79 (dk_at dksX12_withOneMore_0 18 rfl rfl)
theorem dX12_withOneMore_19 : decode cX12_withOneMore 19 = .ok (.iload_n 3, 1) := dk_29 (dk_at dksX12_withOneMore_0 19 rfl rfl)
theorem dX12_withOneMore_20 : decode cX12_withOneMore 20 = .ok (.istore 4, 2) := dk_54 4 (dk_at dksX12_withOneMore_0 20 rfl rfl)
theorem dX12_withOneMore_22 : decode cX12_withOneMore 22 = .ok (.iload 4, 2) := dk_21 4 (dk_at dksX12_withOneMore_0 22 rfl rfl)
theorem dX12_withOneMore_24 : decode cX12_withOneMore 24 = .ok (.ifCond .le 40, 3) := dk_158 0 40 (dk_at dksX12_withOneMore_1 0 rfl rfl)
theorem dX12_withOneMore_27 : decode cX12_withOneMore 27 = .ok (.aload_n 2, 1) := dk_44 (dk_at dksX12_withOneMore_1 3 rfl rfl)
theorem dX12_withOneMore_28 : decode cX12_withOneMore 28 = .ok (.iload_n 3, 1) := dk_29 (dk_at dksX12_withOneMore_1 4 rfl rfl)
theorem dX12_withOneMore_29 : decode cX12_withOneMore 29 = .ok (.aload_n 2, 1) := dk_44 (dk_at dksX12_withOneMore_1 5 rfl rfl)
theorem dX12_withOneMore_30 : decode cX12_withOneMore 30 = .ok (.iload_n 3, 1) := dk_29 (dk_at dksX12_withOneMore_1 6 rfl rfl)
theorem dX12_withOneMore_31 : decode cX12_withOneMore 31 = .ok (.iaload, 1) := dk_46 (dk_at dksX12_withOneMore_1 7 rfl rfl)
theorem dX12_withOneMore_32 : decode cX12_withOneMore 32 = .ok (.aload_n 0, 1) := dk_42 (dk_at dksX12_withOneMore_1 8 rfl rfl)
theorem dX12_withOneMore_33 : decode cX12_withOneMore 33 = .ok (.iload 4, 2) := dk_21 4 (dk_at dksX12_withOneMore_1 9 rfl rfl)
theorem dX12_withOneMore_35 : decode cX12_withOneMore 35 = .ok (.invokevirtual 34, 3) := dk_182 0 34 (dk_at dksX12_withOneMore_1 11 rfl rfl)
theorem dX12_withOneMore_38 : decode cX12_withOneMore 38 = .ok (.aload_n 1, 1) := dk_43 (dk_at dksX12_withOneMore_1 14 rfl rfl)
theorem dX12_withOneMore_39 : decode cX12_withOneMore 39 = .ok (.iload_n 3, 1) := dk_29 (dk_at dksX12_withOneMore_1 15 rfl rfl)
theorem dX12_withOneMore_40 : decode cX12_withOneMore 40 = .ok (.iload 4, 2) := dk_21 4 (dk_at dksX12_withOneMore_1 16 rfl rfl)
theorem dX12_withOneMore_42 : decode cX12_withOneMore 42 = .ok (.iconst (-1), 1) := dk_2 (dk_at dksX12_withOneMore_1 18 rfl rfl)
theorem dX12_withOneMore_43 : decode cX12_withOneMore 43 = .ok (.ixor, 1) := dk_130 (dk_at dksX12_withOneMore_1 19 rfl rfl)
theorem dX12_withOneMore_44 : decode cX12_withOneMore 44 = .ok (.iand, 1) := dk_126 (dk_at dksX12_withOneMore_1 20 rfl rfl)
theorem dX12_withOneMore_45 : decode cX12_withOneMore 45 = .ok (.iaload, 1) := dk_46 (dk_at dksX12_withOneMore_1 21 rfl rfl)
theorem dX12_withOneMore_46 : decode cX12_withOneMore 46 = .ok (.invokestatic 37, 3) := dk_184 0 37 (dk_at dksX12_withOneMore_2 0 rfl rfl)
theorem dX12_withOneMore_49 : decode cX12_withOneMore 49 = .ok (.invokestatic 43, 3) := dk_184 0 43 (dk_at dksX12_withOneMore_2 3 rfl rfl)
theorem dX12_withOneMore_52 : decode cX12_withOneMore 52 = .ok (.iastore, 1) := dk_79 (dk_at dksX12_withOneMore_2 6 rfl rfl)
theorem dX12_withOneMore_53 : decode cX12_withOneMore 53 = .ok (.iload 4, 2) := dk_21 4 (dk_at dksX12_withOneMore_2 7 rfl rfl)
theorem dX12_withOneMore_55 : decode cX12_withOneMore 55 = .ok (.iconst 1, 1) := dk_4 (dk_at dksX12_withOneMore_2 9 rfl rfl)
theorem dX12_withOneMore_56 : decode cX12_withOneMore 56 = .ok (.isub, 1) := dk_100 (dk_at dksX12_withOneMore_2 10 rfl rfl)
theorem dX12_withOneMore_57 : decode cX12_withOneMore 57 = .ok (.iload_n 3, 1) := dk_29 (dk_at dksX12_withOneMore_2 11 rfl rfl)
theorem dX12_withOneMore_58 : decode cX12_withOneMore 58 = .ok (.iand, 1) := dk_126 (dk_at dksX12_withOneMore_2 12 rfl rfl)
theorem dX12_withOneMore_59 : decode cX12_withOneMore 59 = .ok (.istore 4, 2) := dk_54 4 (dk_at dksX12_withOneMore_2 13 rfl rfl)
theorem dX12_withOneMore_61 : decode cX12_withOneMore 61 = .ok (.goto (-39), 3) := dk_167 255 217 (dk_at dksX12_withOneMore_2 15 rfl rfl)
theorem dX12_withOneMore_64 : decode cX12_withOneMore 64 = .ok (.iinc 3 1, 3) := dk_132 3 1 (dk_at dksX12_withOneMore_2 18 rfl rfl)
theorem dX12_withOneMore_67 : decode cX12_withOneMore 67 = .ok (.goto (-60), 3) := dk_167 255 196 (dk_at dksX12_withOneMore_2 21 rfl rfl)
theorem dX12_withOneMore_70 : decode cX12_withOneMore 70 = .ok (.aload_n 2, 1) := dk_44 (dk_at dksX12_withOneMore_3 0 rfl rfl)
theorem dX12_withOneMore_71 : decode cX12_withOneMore 71 = .ok (.areturn, 1) := dk_176 (dk_at dksX12_withOneMore_3 1 rfl rfl)
abbrev cX12_shortestByDeciding : ByteArray := prog_3_method_5_code
def yX12_shortestByDeciding : MethodName := ⟨RX12, "shortestByDeciding", "()I"⟩
def dkwX12_shortestByDeciding_0 : List UInt8 := [42, 3, 42, 180, 0, 15, 188, 10, 3, 18, 50, 182, 0, 51, 172]
abbrev dktX12_shortestByDeciding_0 : List UInt8 := dkwX12_shortestByDeciding_0 ++ []
theorem dksX12_shortestByDeciding_0 : cX12_shortestByDeciding.data.toList.drop 0 = dktX12_shortestByDeciding_0 := by decide +kernel
theorem dX12_shortestByDeciding_0 : decode cX12_shortestByDeciding 0 = .ok (.aload_n 0, 1) := dk_42 (dk_at dksX12_shortestByDeciding_0 0 rfl rfl)
theorem dX12_shortestByDeciding_1 : decode cX12_shortestByDeciding 1 = .ok (.iconst 0, 1) := dk_3 (dk_at dksX12_shortestByDeciding_0 1 rfl rfl)
theorem dX12_shortestByDeciding_2 : decode cX12_shortestByDeciding 2 = .ok (.aload_n 0, 1) := dk_42 (dk_at dksX12_shortestByDeciding_0 2 rfl rfl)
theorem dX12_shortestByDeciding_3 : decode cX12_shortestByDeciding 3 = .ok (.getfield 15, 3) := dk_180 0 15 (dk_at dksX12_shortestByDeciding_0 3 rfl rfl)
theorem dX12_shortestByDeciding_6 : decode cX12_shortestByDeciding 6 = .ok (.newarray .int, 2) := dk_188_10 (dk_at dksX12_shortestByDeciding_0 6 rfl rfl)
theorem dX12_shortestByDeciding_8 : decode cX12_shortestByDeciding 8 = .ok (.iconst 0, 1) := dk_3 (dk_at dksX12_shortestByDeciding_0 8 rfl rfl)
theorem dX12_shortestByDeciding_9 : decode cX12_shortestByDeciding 9 = .ok (.ldc 50, 2) := dk_18 50 (dk_at dksX12_shortestByDeciding_0 9 rfl rfl)
theorem dX12_shortestByDeciding_11 : decode cX12_shortestByDeciding 11 = .ok (.invokevirtual 51, 3) := dk_182 0 51 (dk_at dksX12_shortestByDeciding_0 11 rfl rfl)
theorem dX12_shortestByDeciding_14 : decode cX12_shortestByDeciding 14 = .ok (.ireturn, 1) := dk_172 (dk_at dksX12_shortestByDeciding_0 14 rfl rfl)
abbrev cX12_decide : ByteArray := prog_3_method_6_code
def yX12_decide : MethodName := ⟨RX12, "decide", "(I[III)I"⟩
def dkwX12_decide_4 : List UInt8 := [27, 185, 0, 25, 2, 0, 192, 0, 29, 180, 0, 31, 100, 79, 132, 6, 1, 167, 255, 178, 21, 5, 172]
abbrev dktX12_decide_4 : List UInt8 := dkwX12_decide_4 ++ []
def dkwX12_decide_3 : List UInt8 := [29, 44, 21, 6, 46, 184, 0, 37, 21, 5, 182, 0, 51, 54, 5, 44, 21, 6, 92, 46, 42, 180, 0, 9]
abbrev dktX12_decide_3 : List UInt8 := dkwX12_decide_3 ++ dktX12_decide_4
def dkwX12_decide_2 : List UInt8 := [46, 42, 180, 0, 9, 27, 185, 0, 25, 2, 0, 192, 0, 29, 180, 0, 31, 96, 79, 42, 27, 4, 96, 44]
abbrev dktX12_decide_2 : List UInt8 := dkwX12_decide_2 ++ dktX12_decide_3
def dkwX12_decide_1 : List UInt8 := [184, 0, 43, 172, 21, 4, 54, 5, 3, 54, 6, 21, 6, 42, 180, 0, 15, 162, 0, 75, 44, 21, 6, 92]
abbrev dktX12_decide_1 : List UInt8 := dkwX12_decide_1 ++ dktX12_decide_2
def dkwX12_decide_0 : List UInt8 := [29, 21, 4, 162, 0, 16, 27, 42, 180, 0, 9, 185, 0, 19, 1, 0, 160, 0, 10, 29, 21, 4]
abbrev dktX12_decide_0 : List UInt8 := dkwX12_decide_0 ++ dktX12_decide_1
theorem dksX12_decide_0 : cX12_decide.data.toList.drop 0 = dktX12_decide_0 := by decide +kernel
theorem dksX12_decide_1 : cX12_decide.data.toList.drop 22 = dktX12_decide_1 := dk_seg dksX12_decide_0 22 rfl rfl
theorem dksX12_decide_2 : cX12_decide.data.toList.drop 46 = dktX12_decide_2 := dk_seg dksX12_decide_1 24 rfl rfl
theorem dksX12_decide_3 : cX12_decide.data.toList.drop 70 = dktX12_decide_3 := dk_seg dksX12_decide_2 24 rfl rfl
theorem dksX12_decide_4 : cX12_decide.data.toList.drop 94 = dktX12_decide_4 := dk_seg dksX12_decide_3 24 rfl rfl
theorem dX12_decide_0 : decode cX12_decide 0 = .ok (.iload_n 3, 1) := dk_29 (dk_at dksX12_decide_0 0 rfl rfl)
theorem dX12_decide_1 : decode cX12_decide 1 = .ok (.iload 4, 2) := dk_21 4 (dk_at dksX12_decide_0 1 rfl rfl)
theorem dX12_decide_3 : decode cX12_decide 3 = .ok (.if_icmp .ge 16, 3) := dk_162 0 16 (dk_at dksX12_decide_0 3 rfl rfl)
theorem dX12_decide_6 : decode cX12_decide 6 = .ok (.iload_n 1, 1) := dk_27 (dk_at dksX12_decide_0 6 rfl rfl)
theorem dX12_decide_7 : decode cX12_decide 7 = .ok (.aload_n 0, 1) := dk_42 (dk_at dksX12_decide_0 7 rfl rfl)
theorem dX12_decide_8 : decode cX12_decide 8 = .ok (.getfield 9, 3) := dk_180 0 9 (dk_at dksX12_decide_0 8 rfl rfl)
theorem dX12_decide_11 : decode cX12_decide 11 = .ok (.invokeinterface 19 1, 5) := by decide +kernel
theorem dX12_decide_16 : decode cX12_decide 16 = .ok (.if_icmp .ne 10, 3) := dk_160 0 10 (dk_at dksX12_decide_0 16 rfl rfl)
theorem dX12_decide_19 : decode cX12_decide 19 = .ok (.iload_n 3, 1) := dk_29 (dk_at dksX12_decide_0 19 rfl rfl)
theorem dX12_decide_20 : decode cX12_decide 20 = .ok (.iload 4, 2) := dk_21 4 (dk_at dksX12_decide_0 20 rfl rfl)
theorem dX12_decide_22 : decode cX12_decide 22 = .ok (.invokestatic 43, 3) := dk_184 0 43 (dk_at dksX12_decide_1 0 rfl rfl)
theorem dX12_decide_25 : decode cX12_decide 25 = .ok (.ireturn, 1) := dk_172 (dk_at dksX12_decide_1 3 rfl rfl)
theorem dX12_decide_26 : decode cX12_decide 26 = .ok (.iload 4, 2) := dk_21 4 (dk_at dksX12_decide_1 4 rfl rfl)
theorem dX12_decide_28 : decode cX12_decide 28 = .ok (.istore 5, 2) := dk_54 5 (dk_at dksX12_decide_1 6 rfl rfl)
theorem dX12_decide_30 : decode cX12_decide 30 = .ok (.iconst 0, 1) := dk_3 (dk_at dksX12_decide_1 8 rfl rfl)
theorem dX12_decide_31 : decode cX12_decide 31 = .ok (.istore 6, 2) := dk_54 6 (dk_at dksX12_decide_1 9 rfl rfl)
theorem dX12_decide_33 : decode cX12_decide 33 = .ok (.iload 6, 2) := dk_21 6 (dk_at dksX12_decide_1 11 rfl rfl)
theorem dX12_decide_35 : decode cX12_decide 35 = .ok (.aload_n 0, 1) := dk_42 (dk_at dksX12_decide_1 13 rfl rfl)
theorem dX12_decide_36 : decode cX12_decide 36 = .ok (.getfield 15, 3) := dk_180 0 15 (dk_at dksX12_decide_1 14 rfl rfl)
theorem dX12_decide_39 : decode cX12_decide 39 = .ok (.if_icmp .ge 75, 3) := dk_162 0 75 (dk_at dksX12_decide_1 17 rfl rfl)
theorem dX12_decide_42 : decode cX12_decide 42 = .ok (.aload_n 2, 1) := dk_44 (dk_at dksX12_decide_1 20 rfl rfl)
theorem dX12_decide_43 : decode cX12_decide 43 = .ok (.iload 6, 2) := dk_21 6 (dk_at dksX12_decide_1 21 rfl rfl)
theorem dX12_decide_45 : decode cX12_decide 45 = .ok (.dup2, 1) := dk_92 (dk_at dksX12_decide_1 23 rfl rfl)
theorem dX12_decide_46 : decode cX12_decide 46 = .ok (.iaload, 1) := dk_46 (dk_at dksX12_decide_2 0 rfl rfl)
theorem dX12_decide_47 : decode cX12_decide 47 = .ok (.aload_n 0, 1) := dk_42 (dk_at dksX12_decide_2 1 rfl rfl)
theorem dX12_decide_48 : decode cX12_decide 48 = .ok (.getfield 9, 3) := dk_180 0 9 (dk_at dksX12_decide_2 2 rfl rfl)
theorem dX12_decide_51 : decode cX12_decide 51 = .ok (.iload_n 1, 1) := dk_27 (dk_at dksX12_decide_2 5 rfl rfl)
theorem dX12_decide_52 : decode cX12_decide 52 = .ok (.invokeinterface 25 2, 5) := by decide +kernel
theorem dX12_decide_57 : decode cX12_decide 57 = .ok (.checkcast 29, 3) := dk_192 0 29 (dk_at dksX12_decide_2 11 rfl rfl)
theorem dX12_decide_60 : decode cX12_decide 60 = .ok (.getfield 31, 3) := dk_180 0 31 (dk_at dksX12_decide_2 14 rfl rfl)
theorem dX12_decide_63 : decode cX12_decide 63 = .ok (.iadd, 1) := dk_96 (dk_at dksX12_decide_2 17 rfl rfl)
theorem dX12_decide_64 : decode cX12_decide 64 = .ok (.iastore, 1) := dk_79 (dk_at dksX12_decide_2 18 rfl rfl)
theorem dX12_decide_65 : decode cX12_decide 65 = .ok (.aload_n 0, 1) := dk_42 (dk_at dksX12_decide_2 19 rfl rfl)
theorem dX12_decide_66 : decode cX12_decide 66 = .ok (.iload_n 1, 1) := dk_27 (dk_at dksX12_decide_2 20 rfl rfl)
theorem dX12_decide_67 : decode cX12_decide 67 = .ok (.iconst 1, 1) := dk_4 (dk_at dksX12_decide_2 21 rfl rfl)
theorem dX12_decide_68 : decode cX12_decide 68 = .ok (.iadd, 1) := dk_96 (dk_at dksX12_decide_2 22 rfl rfl)
theorem dX12_decide_69 : decode cX12_decide 69 = .ok (.aload_n 2, 1) := dk_44 (dk_at dksX12_decide_2 23 rfl rfl)
theorem dX12_decide_70 : decode cX12_decide 70 = .ok (.iload_n 3, 1) := dk_29 (dk_at dksX12_decide_3 0 rfl rfl)
theorem dX12_decide_71 : decode cX12_decide 71 = .ok (.aload_n 2, 1) := dk_44 (dk_at dksX12_decide_3 1 rfl rfl)
theorem dX12_decide_72 : decode cX12_decide 72 = .ok (.iload 6, 2) := dk_21 6 (dk_at dksX12_decide_3 2 rfl rfl)
theorem dX12_decide_74 : decode cX12_decide 74 = .ok (.iaload, 1) := dk_46 (dk_at dksX12_decide_3 4 rfl rfl)
theorem dX12_decide_75 : decode cX12_decide 75 = .ok (.invokestatic 37, 3) := dk_184 0 37 (dk_at dksX12_decide_3 5 rfl rfl)
theorem dX12_decide_78 : decode cX12_decide 78 = .ok (.iload 5, 2) := dk_21 5 (dk_at dksX12_decide_3 8 rfl rfl)
theorem dX12_decide_80 : decode cX12_decide 80 = .ok (.invokevirtual 51, 3) := dk_182 0 51 (dk_at dksX12_decide_3 10 rfl rfl)
theorem dX12_decide_83 : decode cX12_decide 83 = .ok (.istore 5, 2) := dk_54 5 (dk_at dksX12_decide_3 13 rfl rfl)
theorem dX12_decide_85 : decode cX12_decide 85 = .ok (.aload_n 2, 1) := dk_44 (dk_at dksX12_decide_3 15 rfl rfl)
theorem dX12_decide_86 : decode cX12_decide 86 = .ok (.iload 6, 2) := dk_21 6 (dk_at dksX12_decide_3 16 rfl rfl)
theorem dX12_decide_88 : decode cX12_decide 88 = .ok (.dup2, 1) := dk_92 (dk_at dksX12_decide_3 18 rfl rfl)
theorem dX12_decide_89 : decode cX12_decide 89 = .ok (.iaload, 1) := dk_46 (dk_at dksX12_decide_3 19 rfl rfl)
theorem dX12_decide_90 : decode cX12_decide 90 = .ok (.aload_n 0, 1) := dk_42 (dk_at dksX12_decide_3 20 rfl rfl)
theorem dX12_decide_91 : decode cX12_decide 91 = .ok (.getfield 9, 3) := dk_180 0 9 (dk_at dksX12_decide_3 21 rfl rfl)
theorem dX12_decide_94 : decode cX12_decide 94 = .ok (.iload_n 1, 1) := dk_27 (dk_at dksX12_decide_4 0 rfl rfl)
theorem dX12_decide_95 : decode cX12_decide 95 = .ok (.invokeinterface 25 2, 5) := by decide +kernel
theorem dX12_decide_100 : decode cX12_decide 100 = .ok (.checkcast 29, 3) := dk_192 0 29 (dk_at dksX12_decide_4 6 rfl rfl)
theorem dX12_decide_103 : decode cX12_decide 103 = .ok (.getfield 31, 3) := dk_180 0 31 (dk_at dksX12_decide_4 9 rfl rfl)
theorem dX12_decide_106 : decode cX12_decide 106 = .ok (.isub, 1) := dk_100 (dk_at dksX12_decide_4 12 rfl rfl)
theorem dX12_decide_107 : decode cX12_decide 107 = .ok (.iastore, 1) := dk_79 (dk_at dksX12_decide_4 13 rfl rfl)
theorem dX12_decide_108 : decode cX12_decide 108 = .ok (.iinc 6 1, 3) := dk_132 6 1 (dk_at dksX12_decide_4 14 rfl rfl)
theorem dX12_decide_111 : decode cX12_decide 111 = .ok (.goto (-78), 3) := dk_167 255 178 (dk_at dksX12_decide_4 17 rfl rfl)
theorem dX12_decide_114 : decode cX12_decide 114 = .ok (.iload 5, 2) := dk_21 5 (dk_at dksX12_decide_4 20 rfl rfl)
theorem dX12_decide_116 : decode cX12_decide 116 = .ok (.ireturn, 1) := dk_172 (dk_at dksX12_decide_4 22 rfl rfl)
abbrev cX12_greedy : ByteArray := prog_3_method_7_code
def yX12_greedy : MethodName := ⟨RX12, "greedy", "()I"⟩
def dkwX12_greedy_5 : List UInt8 := [167, 255, 195, 28, 172]
abbrev dktX12_greedy_5 : List UInt8 := dkwX12_greedy_5 ++ []
def dkwX12_greedy_4 : List UInt8 := [180, 0, 31, 96, 181, 0, 95, 28, 25, 5, 180, 0, 95, 184, 0, 37, 61, 43, 25, 5, 182, 0, 68, 87]
abbrev dktX12_greedy_4 : List UInt8 := dkwX12_greedy_4 ++ dktX12_greedy_5
def dkwX12_greedy_3 : List UInt8 := [192, 0, 29, 58, 4, 43, 182, 0, 92, 192, 0, 63, 58, 5, 25, 5, 89, 180, 0, 95, 25, 4]
abbrev dktX12_greedy_3 : List UInt8 := dkwX12_greedy_3 ++ dktX12_greedy_4
def dkwX12_greedy_2 : List UInt8 := [42, 182, 0, 72, 182, 0, 76, 78, 45, 185, 0, 82, 1, 0, 153, 0, 58, 45, 185, 0, 88, 1, 0]
abbrev dktX12_greedy_2 : List UInt8 := dkwX12_greedy_2 ++ dktX12_greedy_3
def dkwX12_greedy_1 : List UInt8 := [162, 0, 22, 43, 187, 0, 63, 89, 28, 183, 0, 65, 182, 0, 68, 87, 132, 2, 1, 167, 255, 232, 3, 61]
abbrev dktX12_greedy_1 : List UInt8 := dkwX12_greedy_1 ++ dktX12_greedy_2
def dkwX12_greedy_0 : List UInt8 := [187, 0, 55, 89, 187, 0, 57, 89, 183, 0, 59, 183, 0, 60, 76, 3, 61, 28, 42, 180, 0, 15]
abbrev dktX12_greedy_0 : List UInt8 := dkwX12_greedy_0 ++ dktX12_greedy_1
theorem dksX12_greedy_0 : cX12_greedy.data.toList.drop 0 = dktX12_greedy_0 := by decide +kernel
theorem dksX12_greedy_1 : cX12_greedy.data.toList.drop 22 = dktX12_greedy_1 := dk_seg dksX12_greedy_0 22 rfl rfl
theorem dksX12_greedy_2 : cX12_greedy.data.toList.drop 46 = dktX12_greedy_2 := dk_seg dksX12_greedy_1 24 rfl rfl
theorem dksX12_greedy_3 : cX12_greedy.data.toList.drop 69 = dktX12_greedy_3 := dk_seg dksX12_greedy_2 23 rfl rfl
theorem dksX12_greedy_4 : cX12_greedy.data.toList.drop 91 = dktX12_greedy_4 := dk_seg dksX12_greedy_3 22 rfl rfl
theorem dksX12_greedy_5 : cX12_greedy.data.toList.drop 115 = dktX12_greedy_5 := dk_seg dksX12_greedy_4 24 rfl rfl
theorem dX12_greedy_0 : decode cX12_greedy 0 = .ok (.new 55, 3) := dk_187 0 55 (dk_at dksX12_greedy_0 0 rfl rfl)
theorem dX12_greedy_3 : decode cX12_greedy 3 = .ok (.dup, 1) := dk_89 (dk_at dksX12_greedy_0 3 rfl rfl)
theorem dX12_greedy_4 : decode cX12_greedy 4 = .ok (.new 57, 3) := dk_187 0 57 (dk_at dksX12_greedy_0 4 rfl rfl)
theorem dX12_greedy_7 : decode cX12_greedy 7 = .ok (.dup, 1) := dk_89 (dk_at dksX12_greedy_0 7 rfl rfl)
theorem dX12_greedy_8 : decode cX12_greedy 8 = .ok (.invokespecial 59, 3) := dk_183 0 59 (dk_at dksX12_greedy_0 8 rfl rfl)
theorem dX12_greedy_11 : decode cX12_greedy 11 = .ok (.invokespecial 60, 3) := dk_183 0 60 (dk_at dksX12_greedy_0 11 rfl rfl)
theorem dX12_greedy_14 : decode cX12_greedy 14 = .ok (.astore_n 1, 1) := dk_76 (dk_at dksX12_greedy_0 14 rfl rfl)
theorem dX12_greedy_15 : decode cX12_greedy 15 = .ok (.iconst 0, 1) := dk_3 (dk_at dksX12_greedy_0 15 rfl rfl)
theorem dX12_greedy_16 : decode cX12_greedy 16 = .ok (.istore_n 2, 1) := dk_61 (dk_at dksX12_greedy_0 16 rfl rfl)
theorem dX12_greedy_17 : decode cX12_greedy 17 = .ok (.iload_n 2, 1) := dk_28 (dk_at dksX12_greedy_0 17 rfl rfl)
theorem dX12_greedy_18 : decode cX12_greedy 18 = .ok (.aload_n 0, 1) := dk_42 (dk_at dksX12_greedy_0 18 rfl rfl)
theorem dX12_greedy_19 : decode cX12_greedy 19 = .ok (.getfield 15, 3) := dk_180 0 15 (dk_at dksX12_greedy_0 19 rfl rfl)
theorem dX12_greedy_22 : decode cX12_greedy 22 = .ok (.if_icmp .ge 22, 3) := dk_162 0 22 (dk_at dksX12_greedy_1 0 rfl rfl)
theorem dX12_greedy_25 : decode cX12_greedy 25 = .ok (.aload_n 1, 1) := dk_43 (dk_at dksX12_greedy_1 3 rfl rfl)
theorem dX12_greedy_26 : decode cX12_greedy 26 = .ok (.new 63, 3) := dk_187 0 63 (dk_at dksX12_greedy_1 4 rfl rfl)
theorem dX12_greedy_29 : decode cX12_greedy 29 = .ok (.dup, 1) := dk_89 (dk_at dksX12_greedy_1 7 rfl rfl)
theorem dX12_greedy_30 : decode cX12_greedy 30 = .ok (.iload_n 2, 1) := dk_28 (dk_at dksX12_greedy_1 8 rfl rfl)
theorem dX12_greedy_31 : decode cX12_greedy 31 = .ok (.invokespecial 65, 3) := dk_183 0 65 (dk_at dksX12_greedy_1 9 rfl rfl)
theorem dX12_greedy_34 : decode cX12_greedy 34 = .ok (.invokevirtual 68, 3) := dk_182 0 68 (dk_at dksX12_greedy_1 12 rfl rfl)
theorem dX12_greedy_37 : decode cX12_greedy 37 = .ok (.pop, 1) := dk_87 (dk_at dksX12_greedy_1 15 rfl rfl)
theorem dX12_greedy_38 : decode cX12_greedy 38 = .ok (.iinc 2 1, 3) := dk_132 2 1 (dk_at dksX12_greedy_1 16 rfl rfl)
theorem dX12_greedy_41 : decode cX12_greedy 41 = .ok (.goto (-24), 3) := dk_167 255 232 (dk_at dksX12_greedy_1 19 rfl rfl)
theorem dX12_greedy_44 : decode cX12_greedy 44 = .ok (.iconst 0, 1) := dk_3 (dk_at dksX12_greedy_1 22 rfl rfl)
theorem dX12_greedy_45 : decode cX12_greedy 45 = .ok (.istore_n 2, 1) := dk_61 (dk_at dksX12_greedy_1 23 rfl rfl)
theorem dX12_greedy_46 : decode cX12_greedy 46 = .ok (.aload_n 0, 1) := dk_42 (dk_at dksX12_greedy_2 0 rfl rfl)
theorem dX12_greedy_47 : decode cX12_greedy 47 = .ok (.invokevirtual 72, 3) := dk_182 0 72 (dk_at dksX12_greedy_2 1 rfl rfl)
theorem dX12_greedy_50 : decode cX12_greedy 50 = .ok (.invokevirtual 76, 3) := dk_182 0 76 (dk_at dksX12_greedy_2 4 rfl rfl)
theorem dX12_greedy_53 : decode cX12_greedy 53 = .ok (.astore_n 3, 1) := dk_78 (dk_at dksX12_greedy_2 7 rfl rfl)
theorem dX12_greedy_54 : decode cX12_greedy 54 = .ok (.aload_n 3, 1) := dk_45 (dk_at dksX12_greedy_2 8 rfl rfl)
theorem dX12_greedy_55 : decode cX12_greedy 55 = .ok (.invokeinterface 82 1, 5) := by decide +kernel
theorem dX12_greedy_60 : decode cX12_greedy 60 = .ok (.ifCond .eq 58, 3) := dk_153 0 58 (dk_at dksX12_greedy_2 14 rfl rfl)
theorem dX12_greedy_63 : decode cX12_greedy 63 = .ok (.aload_n 3, 1) := dk_45 (dk_at dksX12_greedy_2 17 rfl rfl)
theorem dX12_greedy_64 : decode cX12_greedy 64 = .ok (.invokeinterface 88 1, 5) := by decide +kernel
theorem dX12_greedy_69 : decode cX12_greedy 69 = .ok (.checkcast 29, 3) := dk_192 0 29 (dk_at dksX12_greedy_3 0 rfl rfl)
theorem dX12_greedy_72 : decode cX12_greedy 72 = .ok (.astore 4, 2) := dk_58 4 (dk_at dksX12_greedy_3 3 rfl rfl)
theorem dX12_greedy_74 : decode cX12_greedy 74 = .ok (.aload_n 1, 1) := dk_43 (dk_at dksX12_greedy_3 5 rfl rfl)
theorem dX12_greedy_75 : decode cX12_greedy 75 = .ok (.invokevirtual 92, 3) := dk_182 0 92 (dk_at dksX12_greedy_3 6 rfl rfl)
theorem dX12_greedy_78 : decode cX12_greedy 78 = .ok (.checkcast 63, 3) := dk_192 0 63 (dk_at dksX12_greedy_3 9 rfl rfl)
theorem dX12_greedy_81 : decode cX12_greedy 81 = .ok (.astore 5, 2) := dk_58 5 (dk_at dksX12_greedy_3 12 rfl rfl)
theorem dX12_greedy_83 : decode cX12_greedy 83 = .ok (.aload 5, 2) := dk_25 5 (dk_at dksX12_greedy_3 14 rfl rfl)
theorem dX12_greedy_85 : decode cX12_greedy 85 = .ok (.dup, 1) := dk_89 (dk_at dksX12_greedy_3 16 rfl rfl)
theorem dX12_greedy_86 : decode cX12_greedy 86 = .ok (.getfield 95, 3) := dk_180 0 95 (dk_at dksX12_greedy_3 17 rfl rfl)
theorem dX12_greedy_89 : decode cX12_greedy 89 = .ok (.aload 4, 2) := dk_25 4 (dk_at dksX12_greedy_3 20 rfl rfl)
theorem dX12_greedy_91 : decode cX12_greedy 91 = .ok (.getfield 31, 3) := dk_180 0 31 (dk_at dksX12_greedy_4 0 rfl rfl)
theorem dX12_greedy_94 : decode cX12_greedy 94 = .ok (.iadd, 1) := dk_96 (dk_at dksX12_greedy_4 3 rfl rfl)
theorem dX12_greedy_95 : decode cX12_greedy 95 = .ok (.putfield 95, 3) := dk_181 0 95 (dk_at dksX12_greedy_4 4 rfl rfl)
theorem dX12_greedy_98 : decode cX12_greedy 98 = .ok (.iload_n 2, 1) := dk_28 (dk_at dksX12_greedy_4 7 rfl rfl)
theorem dX12_greedy_99 : decode cX12_greedy 99 = .ok (.aload 5, 2) := dk_25 5 (dk_at dksX12_greedy_4 8 rfl rfl)
theorem dX12_greedy_101 : decode cX12_greedy 101 = .ok (.getfield 95, 3) := dk_180 0 95 (dk_at dksX12_greedy_4 10 rfl rfl)
theorem dX12_greedy_104 : decode cX12_greedy 104 = .ok (.invokestatic 37, 3) := dk_184 0 37 (dk_at dksX12_greedy_4 13 rfl rfl)
theorem dX12_greedy_107 : decode cX12_greedy 107 = .ok (.istore_n 2, 1) := dk_61 (dk_at dksX12_greedy_4 16 rfl rfl)
theorem dX12_greedy_108 : decode cX12_greedy 108 = .ok (.aload_n 1, 1) := dk_43 (dk_at dksX12_greedy_4 17 rfl rfl)
theorem dX12_greedy_109 : decode cX12_greedy 109 = .ok (.aload 5, 2) := dk_25 5 (dk_at dksX12_greedy_4 18 rfl rfl)
theorem dX12_greedy_111 : decode cX12_greedy 111 = .ok (.invokevirtual 68, 3) := dk_182 0 68 (dk_at dksX12_greedy_4 20 rfl rfl)
theorem dX12_greedy_114 : decode cX12_greedy 114 = .ok (.pop, 1) := dk_87 (dk_at dksX12_greedy_4 23 rfl rfl)
theorem dX12_greedy_115 : decode cX12_greedy 115 = .ok (.goto (-61), 3) := dk_167 255 195 (dk_at dksX12_greedy_5 0 rfl rfl)
theorem dX12_greedy_118 : decode cX12_greedy 118 = .ok (.iload_n 2, 1) := dk_28 (dk_at dksX12_greedy_5 3 rfl rfl)
theorem dX12_greedy_119 : decode cX12_greedy 119 = .ok (.ireturn, 1) := dk_172 (dk_at dksX12_greedy_5 4 rfl rfl)
abbrev cX12_longestFirst : ByteArray := prog_3_method_8_code
def yX12_longestFirst : MethodName := ⟨RX12, "longestFirst", "()Ljava/util/ArrayDeque;"⟩
def dkwX12_longestFirst_2 : List UInt8 := [180, 0, 31, 28, 160, 0, 9, 43, 25, 4, 182, 0, 100, 167, 255, 221, 132, 2, 255, 167, 255, 201, 43, 176]
abbrev dktX12_longestFirst_2 : List UInt8 := dkwX12_longestFirst_2 ++ []
def dkwX12_longestFirst_1 : List UInt8 := [78, 45, 185, 0, 82, 1, 0, 153, 0, 32, 45, 185, 0, 88, 1, 0, 192, 0, 29, 58, 4, 25, 4]
abbrev dktX12_longestFirst_1 : List UInt8 := dkwX12_longestFirst_1 ++ dktX12_longestFirst_2
def dkwX12_longestFirst_0 : List UInt8 := [187, 0, 77, 89, 183, 0, 98, 76, 16, 60, 61, 28, 158, 0, 57, 42, 180, 0, 9, 185, 0, 99, 1, 0]
abbrev dktX12_longestFirst_0 : List UInt8 := dkwX12_longestFirst_0 ++ dktX12_longestFirst_1
theorem dksX12_longestFirst_0 : cX12_longestFirst.data.toList.drop 0 = dktX12_longestFirst_0 := by decide +kernel
theorem dksX12_longestFirst_1 : cX12_longestFirst.data.toList.drop 24 = dktX12_longestFirst_1 := dk_seg dksX12_longestFirst_0 24 rfl rfl
theorem dksX12_longestFirst_2 : cX12_longestFirst.data.toList.drop 47 = dktX12_longestFirst_2 := dk_seg dksX12_longestFirst_1 23 rfl rfl
theorem dX12_longestFirst_0 : decode cX12_longestFirst 0 = .ok (.new 77, 3) := dk_187 0 77 (dk_at dksX12_longestFirst_0 0 rfl rfl)
theorem dX12_longestFirst_3 : decode cX12_longestFirst 3 = .ok (.dup, 1) := dk_89 (dk_at dksX12_longestFirst_0 3 rfl rfl)
theorem dX12_longestFirst_4 : decode cX12_longestFirst 4 = .ok (.invokespecial 98, 3) := dk_183 0 98 (dk_at dksX12_longestFirst_0 4 rfl rfl)
theorem dX12_longestFirst_7 : decode cX12_longestFirst 7 = .ok (.astore_n 1, 1) := dk_76 (dk_at dksX12_longestFirst_0 7 rfl rfl)
theorem dX12_longestFirst_8 : decode cX12_longestFirst 8 = .ok (.bipush 60, 2) := dk_16 60 (dk_at dksX12_longestFirst_0 8 rfl rfl)
theorem dX12_longestFirst_10 : decode cX12_longestFirst 10 = .ok (.istore_n 2, 1) := dk_61 (dk_at dksX12_longestFirst_0 10 rfl rfl)
theorem dX12_longestFirst_11 : decode cX12_longestFirst 11 = .ok (.iload_n 2, 1) := dk_28 (dk_at dksX12_longestFirst_0 11 rfl rfl)
theorem dX12_longestFirst_12 : decode cX12_longestFirst 12 = .ok (.ifCond .le 57, 3) := dk_158 0 57 (dk_at dksX12_longestFirst_0 12 rfl rfl)
theorem dX12_longestFirst_15 : decode cX12_longestFirst 15 = .ok (.aload_n 0, 1) := dk_42 (dk_at dksX12_longestFirst_0 15 rfl rfl)
theorem dX12_longestFirst_16 : decode cX12_longestFirst 16 = .ok (.getfield 9, 3) := dk_180 0 9 (dk_at dksX12_longestFirst_0 16 rfl rfl)
theorem dX12_longestFirst_19 : decode cX12_longestFirst 19 = .ok (.invokeinterface 99 1, 5) := by decide +kernel
theorem dX12_longestFirst_24 : decode cX12_longestFirst 24 = .ok (.astore_n 3, 1) := dk_78 (dk_at dksX12_longestFirst_1 0 rfl rfl)
theorem dX12_longestFirst_25 : decode cX12_longestFirst 25 = .ok (.aload_n 3, 1) := dk_45 (dk_at dksX12_longestFirst_1 1 rfl rfl)
theorem dX12_longestFirst_26 : decode cX12_longestFirst 26 = .ok (.invokeinterface 82 1, 5) := by decide +kernel
theorem dX12_longestFirst_31 : decode cX12_longestFirst 31 = .ok (.ifCond .eq 32, 3) := dk_153 0 32 (dk_at dksX12_longestFirst_1 7 rfl rfl)
theorem dX12_longestFirst_34 : decode cX12_longestFirst 34 = .ok (.aload_n 3, 1) := dk_45 (dk_at dksX12_longestFirst_1 10 rfl rfl)
theorem dX12_longestFirst_35 : decode cX12_longestFirst 35 = .ok (.invokeinterface 88 1, 5) := by decide +kernel
theorem dX12_longestFirst_40 : decode cX12_longestFirst 40 = .ok (.checkcast 29, 3) := dk_192 0 29 (dk_at dksX12_longestFirst_1 16 rfl rfl)
theorem dX12_longestFirst_43 : decode cX12_longestFirst 43 = .ok (.astore 4, 2) := dk_58 4 (dk_at dksX12_longestFirst_1 19 rfl rfl)
theorem dX12_longestFirst_45 : decode cX12_longestFirst 45 = .ok (.aload 4, 2) := dk_25 4 (dk_at dksX12_longestFirst_1 21 rfl rfl)
theorem dX12_longestFirst_47 : decode cX12_longestFirst 47 = .ok (.getfield 31, 3) := dk_180 0 31 (dk_at dksX12_longestFirst_2 0 rfl rfl)
theorem dX12_longestFirst_50 : decode cX12_longestFirst 50 = .ok (.iload_n 2, 1) := dk_28 (dk_at dksX12_longestFirst_2 3 rfl rfl)
theorem dX12_longestFirst_51 : decode cX12_longestFirst 51 = .ok (.if_icmp .ne 9, 3) := dk_160 0 9 (dk_at dksX12_longestFirst_2 4 rfl rfl)
theorem dX12_longestFirst_54 : decode cX12_longestFirst 54 = .ok (.aload_n 1, 1) := dk_43 (dk_at dksX12_longestFirst_2 7 rfl rfl)
theorem dX12_longestFirst_55 : decode cX12_longestFirst 55 = .ok (.aload 4, 2) := dk_25 4 (dk_at dksX12_longestFirst_2 8 rfl rfl)
theorem dX12_longestFirst_57 : decode cX12_longestFirst 57 = .ok (.invokevirtual 100, 3) := dk_182 0 100 (dk_at dksX12_longestFirst_2 10 rfl rfl)
theorem dX12_longestFirst_60 : decode cX12_longestFirst 60 = .ok (.goto (-35), 3) := dk_167 255 221 (dk_at dksX12_longestFirst_2 13 rfl rfl)
theorem dX12_longestFirst_63 : decode cX12_longestFirst 63 = .ok (.iinc 2 (-1), 3) := dk_132 2 255 (dk_at dksX12_longestFirst_2 16 rfl rfl)
theorem dX12_longestFirst_66 : decode cX12_longestFirst 66 = .ok (.goto (-55), 3) := dk_167 255 201 (dk_at dksX12_longestFirst_2 19 rfl rfl)
theorem dX12_longestFirst_69 : decode cX12_longestFirst 69 = .ok (.aload_n 1, 1) := dk_43 (dk_at dksX12_longestFirst_2 22 rfl rfl)
theorem dX12_longestFirst_70 : decode cX12_longestFirst 70 = .ok (.areturn, 1) := dk_176 (dk_at dksX12_longestFirst_2 23 rfl rfl)
theorem q182 : (Jvm.Cond.initialized "DoughLedger$Baking") ∈ lw_all := lw_g (lw_at lw_m1 58 rfl) rfl
theorem q443 : (Jvm.Cond.instantiable "DoughLedger$Baking" (2 : Nat)) ∈ lw_all := lw_g (lw_at lw_m2 79 rfl) rfl
theorem q445 : (Jvm.Cond.instanceMethod ({ cls := "DoughLedger$Baking", name := "<init>", desc := "(Ljava/util/List;I)V" } : Jvm.MethodName)) ∈ lw_all := lw_g (lw_at lw_m2 81 rfl) rfl
theorem q446 : (Jvm.Cond.code ({ cls := "DoughLedger$Baking", name := "<init>", desc := "(Ljava/util/List;I)V" } : Jvm.MethodName) prog_3_method_1_code (3 : Nat) (Option.none : Option Jvm.ClassFile.FieldType)) ∈ lw_all := lw_g (lw_at lw_m2 82 rfl) rfl
theorem q447 : (Jvm.Cond.methodLink "DoughLedger$Baking" (3 : Nat) ({ cls := "java/lang/Object", name := "<init>", desc := "()V" } : Jvm.MethodName)) ∈ lw_all := lw_g (lw_at lw_m2 83 rfl) rfl
theorem q448 : (Jvm.Cond.fieldLink "DoughLedger$Baking" (9 : Nat) "DoughLedger$Baking" "loaves" "Ljava/util/List;") ∈ lw_all := lw_g (lw_at lw_m2 84 rfl) rfl
theorem q449 : (Jvm.Cond.fieldLink "DoughLedger$Baking" (15 : Nat) "DoughLedger$Baking" "ovens" "I") ∈ lw_all := lw_g (lw_at lw_m2 85 rfl) rfl
theorem q450 : (Jvm.Cond.laysFinal "DoughLedger$Baking" "DoughLedger$Baking" "loaves" "Ljava/util/List;") ∈ lw_all := lw_g (lw_at lw_m2 86 rfl) rfl
theorem q451 : (Jvm.Cond.soleField "DoughLedger$Baking" "loaves") ∈ lw_all := lw_g (lw_at lw_m2 87 rfl) rfl
theorem q452 : (Jvm.Cond.laysFinal "DoughLedger$Baking" "DoughLedger$Baking" "ovens" "I") ∈ lw_all := lw_g (lw_at lw_m2 88 rfl) rfl
theorem q453 : (Jvm.Cond.soleField "DoughLedger$Baking" "ovens") ∈ lw_all := lw_g (lw_at lw_m2 89 rfl) rfl
theorem q454 : (Jvm.Cond.superclass "DoughLedger$Baking" "java/lang/Object") ∈ lw_all := lw_g (lw_at lw_m2 90 rfl) rfl
theorem q456 : (Jvm.Cond.instanceMethod ({ cls := "DoughLedger$Baking", name := "shortest", desc := "()I" } : Jvm.MethodName)) ∈ lw_all := lw_g (lw_at lw_m2 92 rfl) rfl
theorem q457 : (Jvm.Cond.selects "DoughLedger$Baking" ({ cls := "DoughLedger$Baking", name := "shortest", desc := "()I" } : Jvm.MethodName) ({ cls := "DoughLedger$Baking", name := "shortest", desc := "()I" } : Jvm.MethodName)) ∈ lw_all := lw_g (lw_at lw_m2 93 rfl) rfl
theorem q458 : (Jvm.Cond.code ({ cls := "DoughLedger$Baking", name := "shortest", desc := "()I" } : Jvm.MethodName) prog_3_method_4_code (3 : Nat) (Option.some Jvm.ClassFile.FieldType.int)) ∈ lw_all := lw_g (lw_at lw_m2 94 rfl) rfl
theorem q459 : (Jvm.Cond.interfaceEntry "DoughLedger$Baking" (19 : Nat)) ∈ lw_tbl := lw_at lw_m2 95 rfl
theorem q460 : (Jvm.Cond.methodLink "DoughLedger$Baking" (19 : Nat) ({ cls := "java/util/List", name := "size", desc := "()I" } : Jvm.MethodName)) ∈ lw_all := lw_g (lw_at lw_m2 96 rfl) rfl
theorem q461 : (Jvm.Cond.methodLink "DoughLedger$Baking" (34 : Nat) ({ cls := "DoughLedger$Baking", name := "minutes", desc := "(I)I" } : Jvm.MethodName)) ∈ lw_all := lw_g (lw_at lw_m2 97 rfl) rfl
theorem q462 : (Jvm.Cond.privateMethod ({ cls := "DoughLedger$Baking", name := "minutes", desc := "(I)I" } : Jvm.MethodName)) ∈ lw_tbl := lw_at lw_m2 98 rfl
theorem q463 : (Jvm.Cond.instanceMethod ({ cls := "DoughLedger$Baking", name := "minutes", desc := "(I)I" } : Jvm.MethodName)) ∈ lw_all := lw_g (lw_at lw_m2 99 rfl) rfl
theorem q464 : (Jvm.Cond.code ({ cls := "DoughLedger$Baking", name := "minutes", desc := "(I)I" } : Jvm.MethodName) prog_3_method_2_code (4 : Nat) (Option.some Jvm.ClassFile.FieldType.int)) ∈ lw_all := lw_g (lw_at lw_m2 100 rfl) rfl
theorem q465 : (Jvm.Cond.interfaceEntry "DoughLedger$Baking" (25 : Nat)) ∈ lw_tbl := lw_at lw_m2 101 rfl
theorem q466 : (Jvm.Cond.methodLink "DoughLedger$Baking" (25 : Nat) ({ cls := "java/util/List", name := "get", desc := "(I)Ljava/lang/Object;" } : Jvm.MethodName)) ∈ lw_all := lw_g (lw_at lw_m2 102 rfl) rfl
theorem q812 : (Jvm.Cond.classLink "DoughLedger$Baking" (29 : Nat) "DoughLedger$Loaf") ∈ lw_all := lw_g (lw_at lw_m3 208 rfl) rfl
theorem q813 : (Jvm.Cond.methodLink "DoughLedger$Baking" (46 : Nat) ({ cls := "DoughLedger$Baking", name := "withOneMore", desc := "([I)[I" } : Jvm.MethodName)) ∈ lw_all := lw_g (lw_at lw_m3 209 rfl) rfl
theorem q814 : (Jvm.Cond.privateMethod ({ cls := "DoughLedger$Baking", name := "withOneMore", desc := "([I)[I" } : Jvm.MethodName)) ∈ lw_tbl := lw_at lw_m3 210 rfl
theorem q815 : (Jvm.Cond.instanceMethod ({ cls := "DoughLedger$Baking", name := "withOneMore", desc := "([I)[I" } : Jvm.MethodName)) ∈ lw_all := lw_g (lw_at lw_m3 211 rfl) rfl
theorem q816 : (Jvm.Cond.code ({ cls := "DoughLedger$Baking", name := "withOneMore", desc := "([I)[I" } : Jvm.MethodName) prog_3_method_3_code (5 : Nat) (Option.some (Jvm.ClassFile.FieldType.array Jvm.ClassFile.FieldType.int))) ∈ lw_all := lw_g (lw_at lw_m3 212 rfl) rfl
theorem q817 : (Jvm.Cond.methodLink "DoughLedger$Baking" (37 : Nat) ({ cls := "java/lang/Math", name := "max", desc := "(II)I" } : Jvm.MethodName)) ∈ lw_all := lw_g (lw_at lw_m3 213 rfl) rfl
theorem q818 : (Jvm.Cond.methodLink "DoughLedger$Baking" (43 : Nat) ({ cls := "java/lang/Math", name := "min", desc := "(II)I" } : Jvm.MethodName)) ∈ lw_all := lw_g (lw_at lw_m3 214 rfl) rfl
theorem q824 : (Jvm.Cond.instanceMethod ({ cls := "DoughLedger$Baking", name := "shortestByDeciding", desc := "()I" } : Jvm.MethodName)) ∈ lw_all := lw_g (lw_at lw_m3 220 rfl) rfl
theorem q825 : (Jvm.Cond.selects "DoughLedger$Baking" ({ cls := "DoughLedger$Baking", name := "shortestByDeciding", desc := "()I" } : Jvm.MethodName) ({ cls := "DoughLedger$Baking", name := "shortestByDeciding", desc := "()I" } : Jvm.MethodName)) ∈ lw_all := lw_g (lw_at lw_m3 221 rfl) rfl
theorem q826 : (Jvm.Cond.code ({ cls := "DoughLedger$Baking", name := "shortestByDeciding", desc := "()I" } : Jvm.MethodName) prog_3_method_5_code (1 : Nat) (Option.some Jvm.ClassFile.FieldType.int)) ∈ lw_all := lw_g (lw_at lw_m3 222 rfl) rfl
theorem q827 : (Jvm.Cond.constant "DoughLedger$Baking" (50 : Nat) (1000000 : Int32)) ∈ lw_all := lw_g (lw_at lw_m3 223 rfl) rfl
theorem q828 : (Jvm.Cond.methodLink "DoughLedger$Baking" (51 : Nat) ({ cls := "DoughLedger$Baking", name := "decide", desc := "(I[III)I" } : Jvm.MethodName)) ∈ lw_all := lw_g (lw_at lw_m3 224 rfl) rfl
theorem q829 : (Jvm.Cond.privateMethod ({ cls := "DoughLedger$Baking", name := "decide", desc := "(I[III)I" } : Jvm.MethodName)) ∈ lw_tbl := lw_at lw_m3 225 rfl
theorem q830 : (Jvm.Cond.instanceMethod ({ cls := "DoughLedger$Baking", name := "decide", desc := "(I[III)I" } : Jvm.MethodName)) ∈ lw_all := lw_g (lw_at lw_m3 226 rfl) rfl
theorem q831 : (Jvm.Cond.code ({ cls := "DoughLedger$Baking", name := "decide", desc := "(I[III)I" } : Jvm.MethodName) prog_3_method_6_code (7 : Nat) (Option.some Jvm.ClassFile.FieldType.int)) ∈ lw_all := lw_g (lw_at lw_m3 227 rfl) rfl
theorem q837 : (Jvm.Cond.instanceMethod ({ cls := "DoughLedger$Baking", name := "greedy", desc := "()I" } : Jvm.MethodName)) ∈ lw_all := lw_g (lw_at lw_m3 233 rfl) rfl
theorem q838 : (Jvm.Cond.selects "DoughLedger$Baking" ({ cls := "DoughLedger$Baking", name := "greedy", desc := "()I" } : Jvm.MethodName) ({ cls := "DoughLedger$Baking", name := "greedy", desc := "()I" } : Jvm.MethodName)) ∈ lw_all := lw_g (lw_at lw_m3 234 rfl) rfl
theorem q839 : (Jvm.Cond.code ({ cls := "DoughLedger$Baking", name := "greedy", desc := "()I" } : Jvm.MethodName) prog_3_method_7_code (6 : Nat) (Option.some Jvm.ClassFile.FieldType.int)) ∈ lw_all := lw_g (lw_at lw_m3 235 rfl) rfl
theorem q840 : (Jvm.Cond.classLink "DoughLedger$Baking" (55 : Nat) "java/util/PriorityQueue") ∈ lw_all := lw_g (lw_at lw_m3 236 rfl) rfl
theorem q842 : (Jvm.Cond.classLink "DoughLedger$Baking" (57 : Nat) "DoughLedger$ByTime") ∈ lw_all := lw_g (lw_at lw_m3 238 rfl) rfl
theorem q844 : (Jvm.Cond.methodLinkNest "DoughLedger$Baking" (59 : Nat) ({ cls := "DoughLedger$ByTime", name := "<init>", desc := "()V" } : Jvm.MethodName) "DoughLedger") ∈ lw_tbl := lw_at lw_m4 0 rfl
theorem q849 : (Jvm.Cond.methodLink "DoughLedger$Baking" (60 : Nat) ({ cls := "java/util/PriorityQueue", name := "<init>", desc := "(Ljava/util/Comparator;)V" } : Jvm.MethodName)) ∈ lw_all := lw_g (lw_at lw_m4 5 rfl) rfl
theorem q885 : (Jvm.Cond.classLink "DoughLedger$Baking" (63 : Nat) "DoughLedger$Oven") ∈ lw_all := lw_g (lw_at lw_m4 41 rfl) rfl
theorem q887 : (Jvm.Cond.methodLink "DoughLedger$Baking" (65 : Nat) ({ cls := "DoughLedger$Oven", name := "<init>", desc := "(I)V" } : Jvm.MethodName)) ∈ lw_all := lw_g (lw_at lw_m4 43 rfl) rfl
theorem q894 : (Jvm.Cond.fieldLinkNest "DoughLedger$Baking" (95 : Nat) "DoughLedger$Oven" "busy" "I" "DoughLedger") ∈ lw_tbl := lw_at lw_m4 50 rfl
theorem q900 : (Jvm.Cond.methodLink "DoughLedger$Baking" (68 : Nat) ({ cls := "java/util/PriorityQueue", name := "add", desc := "(Ljava/lang/Object;)Z" } : Jvm.MethodName)) ∈ lw_all := lw_g (lw_at lw_m4 56 rfl) rfl
theorem q921 : (Jvm.Cond.selects "DoughLedger$Baking" ({ cls := "java/lang/Object", name := "getClass", desc := "()Ljava/lang/Class;" } : Jvm.MethodName) ({ cls := "java/lang/Object", name := "getClass", desc := "()Ljava/lang/Class;" } : Jvm.MethodName)) ∈ lw_all := lw_g (lw_at lw_m4 77 rfl) rfl
theorem q1218 : (Jvm.Cond.methodLink "DoughLedger$Baking" (72 : Nat) ({ cls := "DoughLedger$Baking", name := "longestFirst", desc := "()Ljava/util/ArrayDeque;" } : Jvm.MethodName)) ∈ lw_all := lw_g (lw_at lw_m5 134 rfl) rfl
theorem q1219 : (Jvm.Cond.privateMethod ({ cls := "DoughLedger$Baking", name := "longestFirst", desc := "()Ljava/util/ArrayDeque;" } : Jvm.MethodName)) ∈ lw_tbl := lw_at lw_m5 135 rfl
theorem q1220 : (Jvm.Cond.instanceMethod ({ cls := "DoughLedger$Baking", name := "longestFirst", desc := "()Ljava/util/ArrayDeque;" } : Jvm.MethodName)) ∈ lw_all := lw_g (lw_at lw_m5 136 rfl) rfl
theorem q1221 : (Jvm.Cond.code ({ cls := "DoughLedger$Baking", name := "longestFirst", desc := "()Ljava/util/ArrayDeque;" } : Jvm.MethodName) prog_3_method_8_code (5 : Nat) (Option.some (Jvm.ClassFile.FieldType.object "java/util/ArrayDeque"))) ∈ lw_all := lw_g (lw_at lw_m5 137 rfl) rfl
theorem q1222 : (Jvm.Cond.classLink "DoughLedger$Baking" (77 : Nat) "java/util/ArrayDeque") ∈ lw_all := lw_g (lw_at lw_m5 138 rfl) rfl
theorem q1224 : (Jvm.Cond.methodLink "DoughLedger$Baking" (98 : Nat) ({ cls := "java/util/ArrayDeque", name := "<init>", desc := "()V" } : Jvm.MethodName)) ∈ lw_all := lw_g (lw_at lw_m5 140 rfl) rfl
theorem q1241 : (Jvm.Cond.interfaceEntry "DoughLedger$Baking" (99 : Nat)) ∈ lw_tbl := lw_at lw_m5 157 rfl
theorem q1242 : (Jvm.Cond.methodLink "DoughLedger$Baking" (99 : Nat) ({ cls := "java/util/List", name := "iterator", desc := "()Ljava/util/Iterator;" } : Jvm.MethodName)) ∈ lw_all := lw_g (lw_at lw_m5 158 rfl) rfl
theorem q1354 : (Jvm.Cond.interfaceEntry "DoughLedger$Baking" (82 : Nat)) ∈ lw_tbl := lw_at lw_m6 30 rfl
theorem q1355 : (Jvm.Cond.methodLink "DoughLedger$Baking" (82 : Nat) ({ cls := "java/util/Iterator", name := "hasNext", desc := "()Z" } : Jvm.MethodName)) ∈ lw_all := lw_g (lw_at lw_m6 31 rfl) rfl
theorem q1396 : (Jvm.Cond.interfaceEntry "DoughLedger$Baking" (88 : Nat)) ∈ lw_tbl := lw_at lw_m6 72 rfl
theorem q1397 : (Jvm.Cond.methodLink "DoughLedger$Baking" (88 : Nat) ({ cls := "java/util/Iterator", name := "next", desc := "()Ljava/lang/Object;" } : Jvm.MethodName)) ∈ lw_all := lw_g (lw_at lw_m6 73 rfl) rfl
theorem q1548 : (Jvm.Cond.methodLink "DoughLedger$Baking" (100 : Nat) ({ cls := "java/util/ArrayDeque", name := "addLast", desc := "(Ljava/lang/Object;)V" } : Jvm.MethodName)) ∈ lw_all := lw_g (lw_at lw_m6 224 rfl) rfl
theorem q1581 : (Jvm.Cond.methodLink "DoughLedger$Baking" (76 : Nat) ({ cls := "java/util/ArrayDeque", name := "iterator", desc := "()Ljava/util/Iterator;" } : Jvm.MethodName)) ∈ lw_all := lw_g (lw_at lw_m7 17 rfl) rfl
theorem q1611 : (Jvm.Cond.methodLink "DoughLedger$Baking" (92 : Nat) ({ cls := "java/util/PriorityQueue", name := "poll", desc := "()Ljava/lang/Object;" } : Jvm.MethodName)) ∈ lw_all := lw_g (lw_at lw_m7 47 rfl) rfl
theorem q2301 : (Jvm.Cond.fieldLinkNest "DoughLedger$Baking" (31 : Nat) "DoughLedger$Loaf" "minutes" "I" "DoughLedger") ∈ lw_tbl := lw_at lw_m10 17 rfl
theorem q2842 : (Jvm.Cond.selects "DoughLedger$Baking" ({ cls := "java/lang/Object", name := "toString", desc := "()Ljava/lang/String;" } : Jvm.MethodName) ({ cls := "java/lang/Object", name := "toString", desc := "()Ljava/lang/String;" } : Jvm.MethodName)) ∈ lw_all := lw_g (lw_at lw_m12 78 rfl) rfl
theorem q4060 : (Jvm.Cond.castable "DoughLedger$Baking" "java/lang/Object") ∈ lw_tbl := lw_at lw_m17 96 rfl
theorem in_X12 : ∀ w ∈ wsX120, w ∈ lw_all := lw_in wsX120 [450, 452] (by decide +kernel) (by decide +kernel)

/-! DoughLedger$ByTime -/
set_option maxRecDepth 100000
def RX13 : String := "DoughLedger$ByTime"
abbrev cX13_init : ByteArray := prog_5_method_1_code
def yX13_init : MethodName := ⟨RX13, "<init>", "()V"⟩
theorem dX13_init_0 : decode cX13_init 0 = .ok (.aload_n 0, 1) := by decide +kernel
theorem dX13_init_1 : decode cX13_init 1 = .ok (.invokespecial 1, 3) := by decide +kernel
theorem dX13_init_4 : decode cX13_init 4 = .ok (.return_, 1) := by decide +kernel
abbrev cX13_compare : ByteArray := prog_5_method_3_code
def yX13_compare : MethodName := ⟨RX13, "compare", "(Ljava/lang/Object;Ljava/lang/Object;)I"⟩
def dkwX13_compare_0 : List UInt8 := [42, 43, 192, 0, 8, 44, 192, 0, 8, 182, 0, 22, 172]
abbrev dktX13_compare_0 : List UInt8 := dkwX13_compare_0 ++ []
theorem dksX13_compare_0 : cX13_compare.data.toList.drop 0 = dktX13_compare_0 := by decide +kernel
theorem dX13_compare_0 : decode cX13_compare 0 = .ok (.aload_n 0, 1) := dk_42 (dk_at dksX13_compare_0 0 rfl rfl)
theorem dX13_compare_1 : decode cX13_compare 1 = .ok (.aload_n 1, 1) := dk_43 (dk_at dksX13_compare_0 1 rfl rfl)
theorem dX13_compare_2 : decode cX13_compare 2 = .ok (.checkcast 8, 3) := dk_192 0 8 (dk_at dksX13_compare_0 2 rfl rfl)
theorem dX13_compare_5 : decode cX13_compare 5 = .ok (.aload_n 2, 1) := dk_44 (dk_at dksX13_compare_0 5 rfl rfl)
theorem dX13_compare_6 : decode cX13_compare 6 = .ok (.checkcast 8, 3) := dk_192 0 8 (dk_at dksX13_compare_0 6 rfl rfl)
theorem dX13_compare_9 : decode cX13_compare 9 = .ok (.invokevirtual 22, 3) := dk_182 0 22 (dk_at dksX13_compare_0 9 rfl rfl)
theorem dX13_compare_12 : decode cX13_compare 12 = .ok (.ireturn, 1) := dk_172 (dk_at dksX13_compare_0 12 rfl rfl)
abbrev cX13_compare_2 : ByteArray := prog_5_method_2_code
def yX13_compare_2 : MethodName := ⟨RX13, "compare", "(LDoughLedger$Oven;LDoughLedger$Oven;)I"⟩
def dkwX13_compare_2_1 : List UInt8 := [167, 0, 14, 43, 180, 0, 7, 44, 180, 0, 7, 184, 0, 16, 172]
abbrev dktX13_compare_2_1 : List UInt8 := dkwX13_compare_2_1 ++ []
def dkwX13_compare_2_0 : List UInt8 := [43, 180, 0, 7, 44, 180, 0, 7, 160, 0, 17, 43, 180, 0, 13, 44, 180, 0, 13, 184, 0, 16]
abbrev dktX13_compare_2_0 : List UInt8 := dkwX13_compare_2_0 ++ dktX13_compare_2_1
theorem dksX13_compare_2_0 : cX13_compare_2.data.toList.drop 0 = dktX13_compare_2_0 := by decide +kernel
theorem dksX13_compare_2_1 : cX13_compare_2.data.toList.drop 22 = dktX13_compare_2_1 := dk_seg dksX13_compare_2_0 22 rfl rfl
theorem dX13_compare_2_0 : decode cX13_compare_2 0 = .ok (.aload_n 1, 1) := dk_43 (dk_at dksX13_compare_2_0 0 rfl rfl)
theorem dX13_compare_2_1 : decode cX13_compare_2 1 = .ok (.getfield 7, 3) := dk_180 0 7 (dk_at dksX13_compare_2_0 1 rfl rfl)
theorem dX13_compare_2_4 : decode cX13_compare_2 4 = .ok (.aload_n 2, 1) := dk_44 (dk_at dksX13_compare_2_0 4 rfl rfl)
theorem dX13_compare_2_5 : decode cX13_compare_2 5 = .ok (.getfield 7, 3) := dk_180 0 7 (dk_at dksX13_compare_2_0 5 rfl rfl)
theorem dX13_compare_2_8 : decode cX13_compare_2 8 = .ok (.if_icmp .ne 17, 3) := dk_160 0 17 (dk_at dksX13_compare_2_0 8 rfl rfl)
theorem dX13_compare_2_11 : decode cX13_compare_2 11 = .ok (.aload_n 1, 1) := dk_43 (dk_at dksX13_compare_2_0 11 rfl rfl)
theorem dX13_compare_2_12 : decode cX13_compare_2 12 = .ok (.getfield 13, 3) := dk_180 0 13 (dk_at dksX13_compare_2_0 12 rfl rfl)
theorem dX13_compare_2_15 : decode cX13_compare_2 15 = .ok (.aload_n 2, 1) := dk_44 (dk_at dksX13_compare_2_0 15 rfl rfl)
theorem dX13_compare_2_16 : decode cX13_compare_2 16 = .ok (.getfield 13, 3) := dk_180 0 13 (dk_at dksX13_compare_2_0 16 rfl rfl)
theorem dX13_compare_2_19 : decode cX13_compare_2 19 = .ok (.invokestatic 16, 3) := dk_184 0 16 (dk_at dksX13_compare_2_0 19 rfl rfl)
theorem dX13_compare_2_22 : decode cX13_compare_2 22 = .ok (.goto 14, 3) := dk_167 0 14 (dk_at dksX13_compare_2_1 0 rfl rfl)
theorem dX13_compare_2_25 : decode cX13_compare_2 25 = .ok (.aload_n 1, 1) := dk_43 (dk_at dksX13_compare_2_1 3 rfl rfl)
theorem dX13_compare_2_26 : decode cX13_compare_2 26 = .ok (.getfield 7, 3) := dk_180 0 7 (dk_at dksX13_compare_2_1 4 rfl rfl)
theorem dX13_compare_2_29 : decode cX13_compare_2 29 = .ok (.aload_n 2, 1) := dk_44 (dk_at dksX13_compare_2_1 7 rfl rfl)
theorem dX13_compare_2_30 : decode cX13_compare_2 30 = .ok (.getfield 7, 3) := dk_180 0 7 (dk_at dksX13_compare_2_1 8 rfl rfl)
theorem dX13_compare_2_33 : decode cX13_compare_2 33 = .ok (.invokestatic 16, 3) := dk_184 0 16 (dk_at dksX13_compare_2_1 11 rfl rfl)
theorem dX13_compare_2_36 : decode cX13_compare_2 36 = .ok (.ireturn, 1) := dk_172 (dk_at dksX13_compare_2_1 14 rfl rfl)
theorem q185 : (Jvm.Cond.initialized "DoughLedger$ByTime") ∈ lw_all := lw_g (lw_at lw_m1 61 rfl) rfl
theorem q843 : (Jvm.Cond.instantiable "DoughLedger$ByTime" (0 : Nat)) ∈ lw_all := lw_g (lw_at lw_m3 239 rfl) rfl
theorem q845 : (Jvm.Cond.instanceMethod ({ cls := "DoughLedger$ByTime", name := "<init>", desc := "()V" } : Jvm.MethodName)) ∈ lw_all := lw_g (lw_at lw_m4 1 rfl) rfl
theorem q846 : (Jvm.Cond.code ({ cls := "DoughLedger$ByTime", name := "<init>", desc := "()V" } : Jvm.MethodName) prog_5_method_1_code (1 : Nat) (Option.none : Option Jvm.ClassFile.FieldType)) ∈ lw_all := lw_g (lw_at lw_m4 2 rfl) rfl
theorem q847 : (Jvm.Cond.methodLink "DoughLedger$ByTime" (1 : Nat) ({ cls := "java/lang/Object", name := "<init>", desc := "()V" } : Jvm.MethodName)) ∈ lw_all := lw_g (lw_at lw_m4 3 rfl) rfl
theorem q848 : (Jvm.Cond.superclass "DoughLedger$ByTime" "java/lang/Object") ∈ lw_all := lw_g (lw_at lw_m4 4 rfl) rfl
theorem q892 : (Jvm.Cond.fieldLinkNest "DoughLedger$ByTime" (13 : Nat) "DoughLedger$Oven" "index" "I" "DoughLedger") ∈ lw_tbl := lw_at lw_m4 48 rfl
theorem q893 : (Jvm.Cond.fieldLinkNest "DoughLedger$ByTime" (7 : Nat) "DoughLedger$Oven" "busy" "I" "DoughLedger") ∈ lw_tbl := lw_at lw_m4 49 rfl
theorem q923 : (Jvm.Cond.selects "DoughLedger$ByTime" ({ cls := "java/lang/Object", name := "getClass", desc := "()Ljava/lang/Class;" } : Jvm.MethodName) ({ cls := "java/lang/Object", name := "getClass", desc := "()Ljava/lang/Class;" } : Jvm.MethodName)) ∈ lw_all := lw_g (lw_at lw_m4 79 rfl) rfl
theorem q981 : (Jvm.Cond.castable "DoughLedger$ByTime" "java/util/Comparator") ∈ lw_tbl := lw_at lw_m4 137 rfl
theorem q982 : (Jvm.Cond.selects "DoughLedger$ByTime" ({ cls := "java/util/Comparator", name := "compare", desc := "(Ljava/lang/Object;Ljava/lang/Object;)I" } : Jvm.MethodName) ({ cls := "DoughLedger$ByTime", name := "compare", desc := "(Ljava/lang/Object;Ljava/lang/Object;)I" } : Jvm.MethodName)) ∈ lw_all := lw_g (lw_at lw_m4 138 rfl) rfl
theorem q983 : (Jvm.Cond.unhidden "DoughLedger$ByTime" "compare" "(Ljava/lang/Object;Ljava/lang/Object;)I") ∈ lw_tbl := lw_at lw_m4 139 rfl
theorem q984 : (Jvm.Cond.instanceMethod ({ cls := "DoughLedger$ByTime", name := "compare", desc := "(Ljava/lang/Object;Ljava/lang/Object;)I" } : Jvm.MethodName)) ∈ lw_all := lw_g (lw_at lw_m4 140 rfl) rfl
theorem q985 : (Jvm.Cond.publicMethod ({ cls := "DoughLedger$ByTime", name := "compare", desc := "(Ljava/lang/Object;Ljava/lang/Object;)I" } : Jvm.MethodName)) ∈ lw_tbl := lw_at lw_m4 141 rfl
theorem q986 : (Jvm.Cond.code ({ cls := "DoughLedger$ByTime", name := "compare", desc := "(Ljava/lang/Object;Ljava/lang/Object;)I" } : Jvm.MethodName) prog_5_method_3_code (3 : Nat) (Option.some Jvm.ClassFile.FieldType.int)) ∈ lw_all := lw_g (lw_at lw_m4 142 rfl) rfl
theorem q987 : (Jvm.Cond.classLink "DoughLedger$ByTime" (8 : Nat) "DoughLedger$Oven") ∈ lw_all := lw_g (lw_at lw_m4 143 rfl) rfl
theorem q988 : (Jvm.Cond.methodLink "DoughLedger$ByTime" (22 : Nat) ({ cls := "DoughLedger$ByTime", name := "compare", desc := "(LDoughLedger$Oven;LDoughLedger$Oven;)I" } : Jvm.MethodName)) ∈ lw_all := lw_g (lw_at lw_m4 144 rfl) rfl
theorem q989 : (Jvm.Cond.instanceMethod ({ cls := "DoughLedger$ByTime", name := "compare", desc := "(LDoughLedger$Oven;LDoughLedger$Oven;)I" } : Jvm.MethodName)) ∈ lw_all := lw_g (lw_at lw_m4 145 rfl) rfl
theorem q990 : (Jvm.Cond.selects "DoughLedger$ByTime" ({ cls := "DoughLedger$ByTime", name := "compare", desc := "(LDoughLedger$Oven;LDoughLedger$Oven;)I" } : Jvm.MethodName) ({ cls := "DoughLedger$ByTime", name := "compare", desc := "(LDoughLedger$Oven;LDoughLedger$Oven;)I" } : Jvm.MethodName)) ∈ lw_all := lw_g (lw_at lw_m4 146 rfl) rfl
theorem q991 : (Jvm.Cond.code ({ cls := "DoughLedger$ByTime", name := "compare", desc := "(LDoughLedger$Oven;LDoughLedger$Oven;)I" } : Jvm.MethodName) prog_5_method_2_code (3 : Nat) (Option.some Jvm.ClassFile.FieldType.int)) ∈ lw_all := lw_g (lw_at lw_m4 147 rfl) rfl
theorem q992 : (Jvm.Cond.methodLink "DoughLedger$ByTime" (16 : Nat) ({ cls := "java/lang/Integer", name := "compare", desc := "(II)I" } : Jvm.MethodName)) ∈ lw_all := lw_g (lw_at lw_m4 148 rfl) rfl
theorem q2844 : (Jvm.Cond.selects "DoughLedger$ByTime" ({ cls := "java/lang/Object", name := "toString", desc := "()Ljava/lang/String;" } : Jvm.MethodName) ({ cls := "java/lang/Object", name := "toString", desc := "()Ljava/lang/String;" } : Jvm.MethodName)) ∈ lw_all := lw_g (lw_at lw_m12 80 rfl) rfl
theorem q4062 : (Jvm.Cond.castable "DoughLedger$ByTime" "java/lang/Object") ∈ lw_tbl := lw_at lw_m17 98 rfl

/-! DoughLedger$Oven -/
set_option maxRecDepth 100000
def RX14 : String := "DoughLedger$Oven"
def TX14 : u_T := fun k => match k with
  | 0 => ("DoughLedger$Oven", "index", "I", true)
  | _ => ("DoughLedger$Oven", "busy", "I", false)
def tyX14 : Nat → FieldType := fun k => match k with
  | 0 => .int
  | _ => .int
abbrev wsX140 : List Cond := u_ws RX14 TX14 2
theorem nmX14 : ∀ a, a < 2 → ∀ b, b < 2 → a ≠ b → (TX14 a).2.1 ≠ (TX14 b).2.1 := by decide +kernel
theorem tyX14_ok : ∀ k, k < 2 → parseFieldDescriptor (TX14 k).2.2.1 = some (tyX14 k) := by decide +kernel
abbrev cX14_init : ByteArray := prog_13_method_1_code
def yX14_init : MethodName := ⟨RX14, "<init>", "(I)V"⟩
def dkwX14_init_0 : List UInt8 := [42, 183, 0, 1, 42, 27, 181, 0, 7, 177]
abbrev dktX14_init_0 : List UInt8 := dkwX14_init_0 ++ []
theorem dksX14_init_0 : cX14_init.data.toList.drop 0 = dktX14_init_0 := by decide +kernel
theorem dX14_init_0 : decode cX14_init 0 = .ok (.aload_n 0, 1) := dk_42 (dk_at dksX14_init_0 0 rfl rfl)
theorem dX14_init_1 : decode cX14_init 1 = .ok (.invokespecial 1, 3) := dk_183 0 1 (dk_at dksX14_init_0 1 rfl rfl)
theorem dX14_init_4 : decode cX14_init 4 = .ok (.aload_n 0, 1) := dk_42 (dk_at dksX14_init_0 4 rfl rfl)
theorem dX14_init_5 : decode cX14_init 5 = .ok (.iload_n 1, 1) := dk_27 (dk_at dksX14_init_0 5 rfl rfl)
theorem dX14_init_6 : decode cX14_init 6 = .ok (.putfield 7, 3) := dk_181 0 7 (dk_at dksX14_init_0 6 rfl rfl)
theorem dX14_init_9 : decode cX14_init 9 = .ok (.return_, 1) := dk_177 (dk_at dksX14_init_0 9 rfl rfl)
theorem q186 : (Jvm.Cond.initialized "DoughLedger$Oven") ∈ lw_all := lw_g (lw_at lw_m1 62 rfl) rfl
theorem q886 : (Jvm.Cond.instantiable "DoughLedger$Oven" (2 : Nat)) ∈ lw_all := lw_g (lw_at lw_m4 42 rfl) rfl
theorem q888 : (Jvm.Cond.instanceMethod ({ cls := "DoughLedger$Oven", name := "<init>", desc := "(I)V" } : Jvm.MethodName)) ∈ lw_all := lw_g (lw_at lw_m4 44 rfl) rfl
theorem q889 : (Jvm.Cond.code ({ cls := "DoughLedger$Oven", name := "<init>", desc := "(I)V" } : Jvm.MethodName) prog_13_method_1_code (2 : Nat) (Option.none : Option Jvm.ClassFile.FieldType)) ∈ lw_all := lw_g (lw_at lw_m4 45 rfl) rfl
theorem q890 : (Jvm.Cond.methodLink "DoughLedger$Oven" (1 : Nat) ({ cls := "java/lang/Object", name := "<init>", desc := "()V" } : Jvm.MethodName)) ∈ lw_all := lw_g (lw_at lw_m4 46 rfl) rfl
theorem q891 : (Jvm.Cond.fieldLink "DoughLedger$Oven" (7 : Nat) "DoughLedger$Oven" "index" "I") ∈ lw_all := lw_g (lw_at lw_m4 47 rfl) rfl
theorem q895 : (Jvm.Cond.laysFinal "DoughLedger$Oven" "DoughLedger$Oven" "index" "I") ∈ lw_all := lw_g (lw_at lw_m4 51 rfl) rfl
theorem q896 : (Jvm.Cond.soleField "DoughLedger$Oven" "index") ∈ lw_all := lw_g (lw_at lw_m4 52 rfl) rfl
theorem q897 : (Jvm.Cond.lays "DoughLedger$Oven" "DoughLedger$Oven" "busy" "I") ∈ lw_all := lw_g (lw_at lw_m4 53 rfl) rfl
theorem q898 : (Jvm.Cond.soleField "DoughLedger$Oven" "busy") ∈ lw_all := lw_g (lw_at lw_m4 54 rfl) rfl
theorem q899 : (Jvm.Cond.superclass "DoughLedger$Oven" "java/lang/Object") ∈ lw_all := lw_g (lw_at lw_m4 55 rfl) rfl
theorem q930 : (Jvm.Cond.selects "DoughLedger$Oven" ({ cls := "java/lang/Object", name := "getClass", desc := "()Ljava/lang/Class;" } : Jvm.MethodName) ({ cls := "java/lang/Object", name := "getClass", desc := "()Ljava/lang/Class;" } : Jvm.MethodName)) ∈ lw_all := lw_g (lw_at lw_m4 86 rfl) rfl
theorem q2859 : (Jvm.Cond.selects "DoughLedger$Oven" ({ cls := "java/lang/Object", name := "toString", desc := "()Ljava/lang/String;" } : Jvm.MethodName) ({ cls := "java/lang/Object", name := "toString", desc := "()Ljava/lang/String;" } : Jvm.MethodName)) ∈ lw_all := lw_g (lw_at lw_m12 95 rfl) rfl
theorem q4063 : (Jvm.Cond.castable "DoughLedger$Oven" "java/lang/Object") ∈ lw_tbl := lw_at lw_m17 99 rfl
theorem in_X14 : ∀ w ∈ wsX140, w ∈ lw_all := lw_in wsX140 [895, 897] (by decide +kernel) (by decide +kernel)

/-! DoughLedger$Parser -/
set_option maxRecDepth 100000
def RX15 : String := "DoughLedger$Parser"
def TX15 : u_T := fun k => match k with
  | 0 => ("DoughLedger$Parser", "text", "Ljava/lang/String;", true)
  | _ => ("DoughLedger$Parser", "at", "I", false)
def tyX15 : Nat → FieldType := fun k => match k with
  | 0 => .object "java/lang/String"
  | _ => .int
abbrev wsX150 : List Cond := u_ws RX15 TX15 2
theorem nmX15 : ∀ a, a < 2 → ∀ b, b < 2 → a ≠ b → (TX15 a).2.1 ≠ (TX15 b).2.1 := by decide +kernel
theorem tyX15_ok : ∀ k, k < 2 → parseFieldDescriptor (TX15 k).2.2.1 = some (tyX15 k) := by decide +kernel
abbrev cX15_init : ByteArray := prog_14_method_1_code
def yX15_init : MethodName := ⟨RX15, "<init>", "(Ljava/lang/String;)V"⟩
def dkwX15_init_0 : List UInt8 := [42, 183, 0, 1, 42, 43, 181, 0, 7, 177]
abbrev dktX15_init_0 : List UInt8 := dkwX15_init_0 ++ []
theorem dksX15_init_0 : cX15_init.data.toList.drop 0 = dktX15_init_0 := by decide +kernel
theorem dX15_init_0 : decode cX15_init 0 = .ok (.aload_n 0, 1) := dk_42 (dk_at dksX15_init_0 0 rfl rfl)
theorem dX15_init_1 : decode cX15_init 1 = .ok (.invokespecial 1, 3) := dk_183 0 1 (dk_at dksX15_init_0 1 rfl rfl)
theorem dX15_init_4 : decode cX15_init 4 = .ok (.aload_n 0, 1) := dk_42 (dk_at dksX15_init_0 4 rfl rfl)
theorem dX15_init_5 : decode cX15_init 5 = .ok (.aload_n 1, 1) := dk_43 (dk_at dksX15_init_0 5 rfl rfl)
theorem dX15_init_6 : decode cX15_init 6 = .ok (.putfield 7, 3) := dk_181 0 7 (dk_at dksX15_init_0 6 rfl rfl)
theorem dX15_init_9 : decode cX15_init 9 = .ok (.return_, 1) := dk_177 (dk_at dksX15_init_0 9 rfl rfl)
abbrev cX15_commands : ByteArray := prog_14_method_13_code
def yX15_commands : MethodName := ⟨RX15, "commands", "()Ljava/util/LinkedList;"⟩
def dkwX15_commands_2 : List UInt8 := [182, 0, 44, 87, 43, 42, 182, 0, 154, 182, 0, 158, 87, 167, 255, 214, 43, 176]
abbrev dktX15_commands_2 : List UInt8 := dkwX15_commands_2 ++ []
def dkwX15_commands_1 : List UInt8 := [180, 0, 7, 182, 0, 17, 162, 0, 34, 42, 42, 182, 0, 36, 16, 59, 160, 0, 7, 4, 167, 0, 4, 3]
abbrev dktX15_commands_1 : List UInt8 := dkwX15_commands_1 ++ dktX15_commands_2
def dkwX15_commands_0 : List UInt8 := [187, 0, 151, 89, 183, 0, 153, 76, 43, 42, 182, 0, 154, 182, 0, 158, 87, 42, 180, 0, 13, 42]
abbrev dktX15_commands_0 : List UInt8 := dkwX15_commands_0 ++ dktX15_commands_1
theorem dksX15_commands_0 : cX15_commands.data.toList.drop 0 = dktX15_commands_0 := by decide +kernel
theorem dksX15_commands_1 : cX15_commands.data.toList.drop 22 = dktX15_commands_1 := dk_seg dksX15_commands_0 22 rfl rfl
theorem dksX15_commands_2 : cX15_commands.data.toList.drop 46 = dktX15_commands_2 := dk_seg dksX15_commands_1 24 rfl rfl
theorem dX15_commands_0 : decode cX15_commands 0 = .ok (.new 151, 3) := dk_187 0 151 (dk_at dksX15_commands_0 0 rfl rfl)
theorem dX15_commands_3 : decode cX15_commands 3 = .ok (.dup, 1) := dk_89 (dk_at dksX15_commands_0 3 rfl rfl)
theorem dX15_commands_4 : decode cX15_commands 4 = .ok (.invokespecial 153, 3) := dk_183 0 153 (dk_at dksX15_commands_0 4 rfl rfl)
theorem dX15_commands_7 : decode cX15_commands 7 = .ok (.astore_n 1, 1) := dk_76 (dk_at dksX15_commands_0 7 rfl rfl)
theorem dX15_commands_8 : decode cX15_commands 8 = .ok (.aload_n 1, 1) := dk_43 (dk_at dksX15_commands_0 8 rfl rfl)
theorem dX15_commands_9 : decode cX15_commands 9 = .ok (.aload_n 0, 1) := dk_42 (dk_at dksX15_commands_0 9 rfl rfl)
theorem dX15_commands_10 : decode cX15_commands 10 = .ok (.invokevirtual 154, 3) := dk_182 0 154 (dk_at dksX15_commands_0 10 rfl rfl)
theorem dX15_commands_13 : decode cX15_commands 13 = .ok (.invokevirtual 158, 3) := dk_182 0 158 (dk_at dksX15_commands_0 13 rfl rfl)
theorem dX15_commands_16 : decode cX15_commands 16 = .ok (.pop, 1) := dk_87 (dk_at dksX15_commands_0 16 rfl rfl)
theorem dX15_commands_17 : decode cX15_commands 17 = .ok (.aload_n 0, 1) := dk_42 (dk_at dksX15_commands_0 17 rfl rfl)
theorem dX15_commands_18 : decode cX15_commands 18 = .ok (.getfield 13, 3) := dk_180 0 13 (dk_at dksX15_commands_0 18 rfl rfl)
theorem dX15_commands_21 : decode cX15_commands 21 = .ok (.aload_n 0, 1) := dk_42 (dk_at dksX15_commands_0 21 rfl rfl)
theorem dX15_commands_22 : decode cX15_commands 22 = .ok (.getfield 7, 3) := dk_180 0 7 (dk_at dksX15_commands_1 0 rfl rfl)
theorem dX15_commands_25 : decode cX15_commands 25 = .ok (.invokevirtual 17, 3) := dk_182 0 17 (dk_at dksX15_commands_1 3 rfl rfl)
theorem dX15_commands_28 : decode cX15_commands 28 = .ok (.if_icmp .ge 34, 3) := dk_162 0 34 (dk_at dksX15_commands_1 6 rfl rfl)
theorem dX15_commands_31 : decode cX15_commands 31 = .ok (.aload_n 0, 1) := dk_42 (dk_at dksX15_commands_1 9 rfl rfl)
theorem dX15_commands_32 : decode cX15_commands 32 = .ok (.aload_n 0, 1) := dk_42 (dk_at dksX15_commands_1 10 rfl rfl)
theorem dX15_commands_33 : decode cX15_commands 33 = .ok (.invokevirtual 36, 3) := dk_182 0 36 (dk_at dksX15_commands_1 11 rfl rfl)
theorem dX15_commands_36 : decode cX15_commands 36 = .ok (.bipush 59, 2) := dk_16 59 (dk_at dksX15_commands_1 14 rfl rfl)
theorem dX15_commands_38 : decode cX15_commands 38 = .ok (.if_icmp .ne 7, 3) := dk_160 0 7 (dk_at dksX15_commands_1 16 rfl rfl)
theorem dX15_commands_41 : decode cX15_commands 41 = .ok (.iconst 1, 1) := dk_4 (dk_at dksX15_commands_1 19 rfl rfl)
theorem dX15_commands_42 : decode cX15_commands 42 = .ok (.goto 4, 3) := dk_167 0 4 (dk_at dksX15_commands_1 20 rfl rfl)
theorem dX15_commands_45 : decode cX15_commands 45 = .ok (.iconst 0, 1) := dk_3 (dk_at dksX15_commands_1 23 rfl rfl)
theorem dX15_commands_46 : decode cX15_commands 46 = .ok (.invokevirtual 44, 3) := dk_182 0 44 (dk_at dksX15_commands_2 0 rfl rfl)
theorem dX15_commands_49 : decode cX15_commands 49 = .ok (.pop, 1) := dk_87 (dk_at dksX15_commands_2 3 rfl rfl)
theorem dX15_commands_50 : decode cX15_commands 50 = .ok (.aload_n 1, 1) := dk_43 (dk_at dksX15_commands_2 4 rfl rfl)
theorem dX15_commands_51 : decode cX15_commands 51 = .ok (.aload_n 0, 1) := dk_42 (dk_at dksX15_commands_2 5 rfl rfl)
theorem dX15_commands_52 : decode cX15_commands 52 = .ok (.invokevirtual 154, 3) := dk_182 0 154 (dk_at dksX15_commands_2 6 rfl rfl)
theorem dX15_commands_55 : decode cX15_commands 55 = .ok (.invokevirtual 158, 3) := dk_182 0 158 (dk_at dksX15_commands_2 9 rfl rfl)
theorem dX15_commands_58 : decode cX15_commands 58 = .ok (.pop, 1) := dk_87 (dk_at dksX15_commands_2 12 rfl rfl)
theorem dX15_commands_59 : decode cX15_commands 59 = .ok (.goto (-42), 3) := dk_167 255 214 (dk_at dksX15_commands_2 13 rfl rfl)
theorem dX15_commands_62 : decode cX15_commands 62 = .ok (.aload_n 1, 1) := dk_43 (dk_at dksX15_commands_2 16 rfl rfl)
theorem dX15_commands_63 : decode cX15_commands 63 = .ok (.areturn, 1) := dk_176 (dk_at dksX15_commands_2 17 rfl rfl)
abbrev cX15_command : ByteArray := prog_14_method_10_code
def yX15_command : MethodName := ⟨RX15, "command", "()LDoughLedger$Command;"⟩
def dkwX15_command_14 : List UInt8 := [43, 42, 182, 0, 125, 184, 0, 132, 183, 0, 109, 176]
abbrev dktX15_command_14 : List UInt8 := dkwX15_command_14 ++ []
def dkwX15_command_13 : List UInt8 := [54, 10, 187, 0, 103, 89, 43, 21, 10, 42, 182, 0, 48, 184, 0, 128, 183, 0, 109, 176, 187, 0, 103, 89]
abbrev dktX15_command_13 : List UInt8 := dkwX15_command_13 ++ dktX15_command_14
def dkwX15_command_12 : List UInt8 := [182, 0, 44, 54, 9, 187, 0, 103, 89, 21, 9, 186, 0, 122, 0, 0, 183, 0, 109, 176, 42, 182, 0, 125]
abbrev dktX15_command_12 : List UInt8 := dkwX15_command_12 ++ dktX15_command_13
def dkwX15_command_11 : List UInt8 := [16, 32, 160, 0, 7, 4, 167, 0, 4, 3, 182, 0, 44, 87, 42, 42, 182, 0, 36, 184, 0, 116]
abbrev dktX15_command_11 : List UInt8 := dkwX15_command_11 ++ dktX15_command_12
def dkwX15_command_10 : List UInt8 := [54, 8, 187, 0, 103, 89, 21, 7, 21, 8, 186, 0, 115, 0, 0, 183, 0, 109, 176, 42, 42, 182, 0, 36]
abbrev dktX15_command_10 : List UInt8 := dkwX15_command_10 ++ dktX15_command_11
def dkwX15_command_9 : List UInt8 := [186, 0, 112, 0, 0, 183, 0, 109, 176, 42, 16, 32, 182, 0, 99, 54, 7, 42, 16, 32, 182, 0, 99]
abbrev dktX15_command_9 : List UInt8 := dkwX15_command_9 ++ dktX15_command_10
def dkwX15_command_8 : List UInt8 := [186, 0, 105, 0, 0, 183, 0, 109, 176, 42, 16, 32, 182, 0, 99, 54, 6, 187, 0, 103, 89, 21, 6]
abbrev dktX15_command_8 : List UInt8 := dkwX15_command_8 ++ dktX15_command_9
def dkwX15_command_7 : List UInt8 := [42, 16, 32, 182, 0, 99, 54, 4, 42, 16, 47, 182, 0, 99, 54, 5, 187, 0, 103, 89, 21, 4, 21, 5]
abbrev dktX15_command_7 : List UInt8 := dkwX15_command_7 ++ dktX15_command_8
def dkwX15_command_6 : List UInt8 := [170, 0, 0, 0, 0, 198, 0, 0, 0, 0, 0, 0, 0, 5, 0, 0, 0, 38, 0, 0, 0, 71, 0, 0, 0, 94, 0, 0, 0, 127, 0, 0, 0, 174, 0, 0, 0, 174]
abbrev dktX15_command_6 : List UInt8 := dkwX15_command_6 ++ dktX15_command_7
def dkwX15_command_5 : List UInt8 := [18, 97, 182, 0, 85, 153, 0, 5, 8, 62, 29]
abbrev dktX15_command_5 : List UInt8 := dkwX15_command_5 ++ dktX15_command_6
def dkwX15_command_4 : List UInt8 := [153, 0, 33, 6, 62, 167, 0, 28, 44, 18, 95, 182, 0, 85, 153, 0, 19, 7, 62, 167, 0, 14, 44]
abbrev dktX15_command_4 : List UInt8 := dkwX15_command_4 ++ dktX15_command_5
def dkwX15_command_3 : List UInt8 := [62, 167, 0, 56, 44, 18, 91, 182, 0, 85, 153, 0, 47, 5, 62, 167, 0, 42, 44, 18, 93, 182, 0, 85]
abbrev dktX15_command_3 : List UInt8 := dkwX15_command_3 ++ dktX15_command_4
def dkwX15_command_2 : List UInt8 := [44, 18, 83, 182, 0, 85, 153, 0, 75, 3, 62, 167, 0, 70, 44, 18, 89, 182, 0, 85, 153, 0, 61, 4]
abbrev dktX15_command_2 : List UInt8 := dkwX15_command_2 ++ dktX15_command_3
def dkwX15_command_1 : List UInt8 := [171, 0, 0, 0, 0, 0, 140, 0, 0, 0, 6, 0, 1, 166, 92, 0, 0, 0, 115, 0, 46, 59, 226, 0, 0, 0, 73, 0, 50, 196, 232, 0, 0, 0, 87, 0, 52, 152, 220, 0, 0, 0, 129, 5, 181, 103, 171, 0, 0, 0, 59, 6, 122, 177, 142, 0, 0, 0, 101]
abbrev dktX15_command_1 : List UInt8 := dkwX15_command_1 ++ dktX15_command_2
def dkwX15_command_0 : List UInt8 := [42, 182, 0, 77, 76, 43, 77, 2, 62, 44, 182, 0, 80]
abbrev dktX15_command_0 : List UInt8 := dkwX15_command_0 ++ dktX15_command_1
theorem dksX15_command_0 : cX15_command.data.toList.drop 0 = dktX15_command_0 := by decide +kernel
theorem dksX15_command_1 : cX15_command.data.toList.drop 13 = dktX15_command_1 := dk_seg dksX15_command_0 13 rfl rfl
theorem dksX15_command_2 : cX15_command.data.toList.drop 72 = dktX15_command_2 := dk_seg dksX15_command_1 59 rfl rfl
theorem dksX15_command_3 : cX15_command.data.toList.drop 96 = dktX15_command_3 := dk_seg dksX15_command_2 24 rfl rfl
theorem dksX15_command_4 : cX15_command.data.toList.drop 120 = dktX15_command_4 := dk_seg dksX15_command_3 24 rfl rfl
theorem dksX15_command_5 : cX15_command.data.toList.drop 143 = dktX15_command_5 := dk_seg dksX15_command_4 23 rfl rfl
theorem dksX15_command_6 : cX15_command.data.toList.drop 154 = dktX15_command_6 := dk_seg dksX15_command_5 11 rfl rfl
theorem dksX15_command_7 : cX15_command.data.toList.drop 192 = dktX15_command_7 := dk_seg dksX15_command_6 38 rfl rfl
theorem dksX15_command_8 : cX15_command.data.toList.drop 216 = dktX15_command_8 := dk_seg dksX15_command_7 24 rfl rfl
theorem dksX15_command_9 : cX15_command.data.toList.drop 239 = dktX15_command_9 := dk_seg dksX15_command_8 23 rfl rfl
theorem dksX15_command_10 : cX15_command.data.toList.drop 262 = dktX15_command_10 := dk_seg dksX15_command_9 23 rfl rfl
theorem dksX15_command_11 : cX15_command.data.toList.drop 286 = dktX15_command_11 := dk_seg dksX15_command_10 24 rfl rfl
theorem dksX15_command_12 : cX15_command.data.toList.drop 308 = dktX15_command_12 := dk_seg dksX15_command_11 22 rfl rfl
theorem dksX15_command_13 : cX15_command.data.toList.drop 332 = dktX15_command_13 := dk_seg dksX15_command_12 24 rfl rfl
theorem dksX15_command_14 : cX15_command.data.toList.drop 356 = dktX15_command_14 := dk_seg dksX15_command_13 24 rfl rfl
theorem dX15_command_0 : decode cX15_command 0 = .ok (.aload_n 0, 1) := dk_42 (dk_at dksX15_command_0 0 rfl rfl)
theorem dX15_command_1 : decode cX15_command 1 = .ok (.invokevirtual 77, 3) := dk_182 0 77 (dk_at dksX15_command_0 1 rfl rfl)
theorem dX15_command_4 : decode cX15_command 4 = .ok (.astore_n 1, 1) := dk_76 (dk_at dksX15_command_0 4 rfl rfl)
theorem dX15_command_5 : decode cX15_command 5 = .ok (.aload_n 1, 1) := dk_43 (dk_at dksX15_command_0 5 rfl rfl)
theorem dX15_command_6 : decode cX15_command 6 = .ok (.astore_n 2, 1) := dk_77 (dk_at dksX15_command_0 6 rfl rfl)
theorem dX15_command_7 : decode cX15_command 7 = .ok (.iconst (-1), 1) := dk_2 (dk_at dksX15_command_0 7 rfl rfl)
theorem dX15_command_8 : decode cX15_command 8 = .ok (.istore_n 3, 1) := dk_62 (dk_at dksX15_command_0 8 rfl rfl)
theorem dX15_command_9 : decode cX15_command 9 = .ok (.aload_n 2, 1) := dk_44 (dk_at dksX15_command_0 9 rfl rfl)
theorem dX15_command_10 : decode cX15_command 10 = .ok (.invokevirtual 80, 3) := dk_182 0 80 (dk_at dksX15_command_0 10 rfl rfl)
theorem dX15_command_13 : decode cX15_command 13 = .ok (.lookupswitch 140 #[(108124, 115), (3029986, 73), (3327208, 87), (3447004, 129), (95774635, 59), (108704142, 101)], 59) := by decide +kernel
theorem dX15_command_72 : decode cX15_command 72 = .ok (.aload_n 2, 1) := dk_44 (dk_at dksX15_command_2 0 rfl rfl)
theorem dX15_command_73 : decode cX15_command 73 = .ok (.ldc 83, 2) := dk_18 83 (dk_at dksX15_command_2 1 rfl rfl)
theorem dX15_command_75 : decode cX15_command 75 = .ok (.invokevirtual 85, 3) := dk_182 0 85 (dk_at dksX15_command_2 3 rfl rfl)
theorem dX15_command_78 : decode cX15_command 78 = .ok (.ifCond .eq 75, 3) := dk_153 0 75 (dk_at dksX15_command_2 6 rfl rfl)
theorem dX15_command_81 : decode cX15_command 81 = .ok (.iconst 0, 1) := dk_3 (dk_at dksX15_command_2 9 rfl rfl)
theorem dX15_command_82 : decode cX15_command 82 = .ok (.istore_n 3, 1) := dk_62 (dk_at dksX15_command_2 10 rfl rfl)
theorem dX15_command_83 : decode cX15_command 83 = .ok (.goto 70, 3) := dk_167 0 70 (dk_at dksX15_command_2 11 rfl rfl)
theorem dX15_command_86 : decode cX15_command 86 = .ok (.aload_n 2, 1) := dk_44 (dk_at dksX15_command_2 14 rfl rfl)
theorem dX15_command_87 : decode cX15_command 87 = .ok (.ldc 89, 2) := dk_18 89 (dk_at dksX15_command_2 15 rfl rfl)
theorem dX15_command_89 : decode cX15_command 89 = .ok (.invokevirtual 85, 3) := dk_182 0 85 (dk_at dksX15_command_2 17 rfl rfl)
theorem dX15_command_92 : decode cX15_command 92 = .ok (.ifCond .eq 61, 3) := dk_153 0 61 (dk_at dksX15_command_2 20 rfl rfl)
theorem dX15_command_95 : decode cX15_command 95 = .ok (.iconst 1, 1) := dk_4 (dk_at dksX15_command_2 23 rfl rfl)
theorem dX15_command_96 : decode cX15_command 96 = .ok (.istore_n 3, 1) := dk_62 (dk_at dksX15_command_3 0 rfl rfl)
theorem dX15_command_97 : decode cX15_command 97 = .ok (.goto 56, 3) := dk_167 0 56 (dk_at dksX15_command_3 1 rfl rfl)
theorem dX15_command_100 : decode cX15_command 100 = .ok (.aload_n 2, 1) := dk_44 (dk_at dksX15_command_3 4 rfl rfl)
theorem dX15_command_101 : decode cX15_command 101 = .ok (.ldc 91, 2) := dk_18 91 (dk_at dksX15_command_3 5 rfl rfl)
theorem dX15_command_103 : decode cX15_command 103 = .ok (.invokevirtual 85, 3) := dk_182 0 85 (dk_at dksX15_command_3 7 rfl rfl)
theorem dX15_command_106 : decode cX15_command 106 = .ok (.ifCond .eq 47, 3) := dk_153 0 47 (dk_at dksX15_command_3 10 rfl rfl)
theorem dX15_command_109 : decode cX15_command 109 = .ok (.iconst 2, 1) := dk_5 (dk_at dksX15_command_3 13 rfl rfl)
theorem dX15_command_110 : decode cX15_command 110 = .ok (.istore_n 3, 1) := dk_62 (dk_at dksX15_command_3 14 rfl rfl)
theorem dX15_command_111 : decode cX15_command 111 = .ok (.goto 42, 3) := dk_167 0 42 (dk_at dksX15_command_3 15 rfl rfl)
theorem dX15_command_114 : decode cX15_command 114 = .ok (.aload_n 2, 1) := dk_44 (dk_at dksX15_command_3 18 rfl rfl)
theorem dX15_command_115 : decode cX15_command 115 = .ok (.ldc 93, 2) := dk_18 93 (dk_at dksX15_command_3 19 rfl rfl)
theorem dX15_command_117 : decode cX15_command 117 = .ok (.invokevirtual 85, 3) := dk_182 0 85 (dk_at dksX15_command_3 21 rfl rfl)
theorem dX15_command_120 : decode cX15_command 120 = .ok (.ifCond .eq 33, 3) := dk_153 0 33 (dk_at dksX15_command_4 0 rfl rfl)
theorem dX15_command_123 : decode cX15_command 123 = .ok (.iconst 3, 1) := dk_6 (dk_at dksX15_command_4 3 rfl rfl)
theorem dX15_command_124 : decode cX15_command 124 = .ok (.istore_n 3, 1) := dk_62 (dk_at dksX15_command_4 4 rfl rfl)
theorem dX15_command_125 : decode cX15_command 125 = .ok (.goto 28, 3) := dk_167 0 28 (dk_at dksX15_command_4 5 rfl rfl)
theorem dX15_command_128 : decode cX15_command 128 = .ok (.aload_n 2, 1) := dk_44 (dk_at dksX15_command_4 8 rfl rfl)
theorem dX15_command_129 : decode cX15_command 129 = .ok (.ldc 95, 2) := dk_18 95 (dk_at dksX15_command_4 9 rfl rfl)
theorem dX15_command_131 : decode cX15_command 131 = .ok (.invokevirtual 85, 3) := dk_182 0 85 (dk_at dksX15_command_4 11 rfl rfl)
theorem dX15_command_134 : decode cX15_command 134 = .ok (.ifCond .eq 19, 3) := dk_153 0 19 (dk_at dksX15_command_4 14 rfl rfl)
theorem dX15_command_137 : decode cX15_command 137 = .ok (.iconst 4, 1) := dk_7 (dk_at dksX15_command_4 17 rfl rfl)
theorem dX15_command_138 : decode cX15_command 138 = .ok (.istore_n 3, 1) := dk_62 (dk_at dksX15_command_4 18 rfl rfl)
theorem dX15_command_139 : decode cX15_command 139 = .ok (.goto 14, 3) := dk_167 0 14 (dk_at dksX15_command_4 19 rfl rfl)
theorem dX15_command_142 : decode cX15_command 142 = .ok (.aload_n 2, 1) := dk_44 (dk_at dksX15_command_4 22 rfl rfl)
theorem dX15_command_143 : decode cX15_command 143 = .ok (.ldc 97, 2) := dk_18 97 (dk_at dksX15_command_5 0 rfl rfl)
theorem dX15_command_145 : decode cX15_command 145 = .ok (.invokevirtual 85, 3) := dk_182 0 85 (dk_at dksX15_command_5 2 rfl rfl)
theorem dX15_command_148 : decode cX15_command 148 = .ok (.ifCond .eq 5, 3) := dk_153 0 5 (dk_at dksX15_command_5 5 rfl rfl)
theorem dX15_command_151 : decode cX15_command 151 = .ok (.iconst 5, 1) := dk_8 (dk_at dksX15_command_5 8 rfl rfl)
theorem dX15_command_152 : decode cX15_command 152 = .ok (.istore_n 3, 1) := dk_62 (dk_at dksX15_command_5 9 rfl rfl)
theorem dX15_command_153 : decode cX15_command 153 = .ok (.iload_n 3, 1) := dk_29 (dk_at dksX15_command_5 10 rfl rfl)
theorem dX15_command_154 : decode cX15_command 154 = .ok (.tableswitch 198 0 5 #[38, 71, 94, 127, 174, 174], 38) := by decide +kernel
theorem dX15_command_192 : decode cX15_command 192 = .ok (.aload_n 0, 1) := dk_42 (dk_at dksX15_command_7 0 rfl rfl)
theorem dX15_command_193 : decode cX15_command 193 = .ok (.bipush 32, 2) := dk_16 32 (dk_at dksX15_command_7 1 rfl rfl)
theorem dX15_command_195 : decode cX15_command 195 = .ok (.invokevirtual 99, 3) := dk_182 0 99 (dk_at dksX15_command_7 3 rfl rfl)
theorem dX15_command_198 : decode cX15_command 198 = .ok (.istore 4, 2) := dk_54 4 (dk_at dksX15_command_7 6 rfl rfl)
theorem dX15_command_200 : decode cX15_command 200 = .ok (.aload_n 0, 1) := dk_42 (dk_at dksX15_command_7 8 rfl rfl)
theorem dX15_command_201 : decode cX15_command 201 = .ok (.bipush 47, 2) := dk_16 47 (dk_at dksX15_command_7 9 rfl rfl)
theorem dX15_command_203 : decode cX15_command 203 = .ok (.invokevirtual 99, 3) := dk_182 0 99 (dk_at dksX15_command_7 11 rfl rfl)
theorem dX15_command_206 : decode cX15_command 206 = .ok (.istore 5, 2) := dk_54 5 (dk_at dksX15_command_7 14 rfl rfl)
theorem dX15_command_208 : decode cX15_command 208 = .ok (.new 103, 3) := dk_187 0 103 (dk_at dksX15_command_7 16 rfl rfl)
theorem dX15_command_211 : decode cX15_command 211 = .ok (.dup, 1) := dk_89 (dk_at dksX15_command_7 19 rfl rfl)
theorem dX15_command_212 : decode cX15_command 212 = .ok (.iload 4, 2) := dk_21 4 (dk_at dksX15_command_7 20 rfl rfl)
theorem dX15_command_214 : decode cX15_command 214 = .ok (.iload 5, 2) := dk_21 5 (dk_at dksX15_command_7 22 rfl rfl)
theorem dX15_command_216 : decode cX15_command 216 = .ok (.invokedynamic 105, 5) := by decide +kernel
theorem dX15_command_221 : decode cX15_command 221 = .ok (.invokespecial 109, 3) := dk_183 0 109 (dk_at dksX15_command_8 5 rfl rfl)
theorem dX15_command_224 : decode cX15_command 224 = .ok (.areturn, 1) := dk_176 (dk_at dksX15_command_8 8 rfl rfl)
theorem dX15_command_225 : decode cX15_command 225 = .ok (.aload_n 0, 1) := dk_42 (dk_at dksX15_command_8 9 rfl rfl)
theorem dX15_command_226 : decode cX15_command 226 = .ok (.bipush 32, 2) := dk_16 32 (dk_at dksX15_command_8 10 rfl rfl)
theorem dX15_command_228 : decode cX15_command 228 = .ok (.invokevirtual 99, 3) := dk_182 0 99 (dk_at dksX15_command_8 12 rfl rfl)
theorem dX15_command_231 : decode cX15_command 231 = .ok (.istore 6, 2) := dk_54 6 (dk_at dksX15_command_8 15 rfl rfl)
theorem dX15_command_233 : decode cX15_command 233 = .ok (.new 103, 3) := dk_187 0 103 (dk_at dksX15_command_8 17 rfl rfl)
theorem dX15_command_236 : decode cX15_command 236 = .ok (.dup, 1) := dk_89 (dk_at dksX15_command_8 20 rfl rfl)
theorem dX15_command_237 : decode cX15_command 237 = .ok (.iload 6, 2) := dk_21 6 (dk_at dksX15_command_8 21 rfl rfl)
theorem dX15_command_239 : decode cX15_command 239 = .ok (.invokedynamic 112, 5) := by decide +kernel
theorem dX15_command_244 : decode cX15_command 244 = .ok (.invokespecial 109, 3) := dk_183 0 109 (dk_at dksX15_command_9 5 rfl rfl)
theorem dX15_command_247 : decode cX15_command 247 = .ok (.areturn, 1) := dk_176 (dk_at dksX15_command_9 8 rfl rfl)
theorem dX15_command_248 : decode cX15_command 248 = .ok (.aload_n 0, 1) := dk_42 (dk_at dksX15_command_9 9 rfl rfl)
theorem dX15_command_249 : decode cX15_command 249 = .ok (.bipush 32, 2) := dk_16 32 (dk_at dksX15_command_9 10 rfl rfl)
theorem dX15_command_251 : decode cX15_command 251 = .ok (.invokevirtual 99, 3) := dk_182 0 99 (dk_at dksX15_command_9 12 rfl rfl)
theorem dX15_command_254 : decode cX15_command 254 = .ok (.istore 7, 2) := dk_54 7 (dk_at dksX15_command_9 15 rfl rfl)
theorem dX15_command_256 : decode cX15_command 256 = .ok (.aload_n 0, 1) := dk_42 (dk_at dksX15_command_9 17 rfl rfl)
theorem dX15_command_257 : decode cX15_command 257 = .ok (.bipush 32, 2) := dk_16 32 (dk_at dksX15_command_9 18 rfl rfl)
theorem dX15_command_259 : decode cX15_command 259 = .ok (.invokevirtual 99, 3) := dk_182 0 99 (dk_at dksX15_command_9 20 rfl rfl)
theorem dX15_command_262 : decode cX15_command 262 = .ok (.istore 8, 2) := dk_54 8 (dk_at dksX15_command_10 0 rfl rfl)
theorem dX15_command_264 : decode cX15_command 264 = .ok (.new 103, 3) := dk_187 0 103 (dk_at dksX15_command_10 2 rfl rfl)
theorem dX15_command_267 : decode cX15_command 267 = .ok (.dup, 1) := dk_89 (dk_at dksX15_command_10 5 rfl rfl)
theorem dX15_command_268 : decode cX15_command 268 = .ok (.iload 7, 2) := dk_21 7 (dk_at dksX15_command_10 6 rfl rfl)
theorem dX15_command_270 : decode cX15_command 270 = .ok (.iload 8, 2) := dk_21 8 (dk_at dksX15_command_10 8 rfl rfl)
theorem dX15_command_272 : decode cX15_command 272 = .ok (.invokedynamic 115, 5) := by decide +kernel
theorem dX15_command_277 : decode cX15_command 277 = .ok (.invokespecial 109, 3) := dk_183 0 109 (dk_at dksX15_command_10 15 rfl rfl)
theorem dX15_command_280 : decode cX15_command 280 = .ok (.areturn, 1) := dk_176 (dk_at dksX15_command_10 18 rfl rfl)
theorem dX15_command_281 : decode cX15_command 281 = .ok (.aload_n 0, 1) := dk_42 (dk_at dksX15_command_10 19 rfl rfl)
theorem dX15_command_282 : decode cX15_command 282 = .ok (.aload_n 0, 1) := dk_42 (dk_at dksX15_command_10 20 rfl rfl)
theorem dX15_command_283 : decode cX15_command 283 = .ok (.invokevirtual 36, 3) := dk_182 0 36 (dk_at dksX15_command_10 21 rfl rfl)
theorem dX15_command_286 : decode cX15_command 286 = .ok (.bipush 32, 2) := dk_16 32 (dk_at dksX15_command_11 0 rfl rfl)
theorem dX15_command_288 : decode cX15_command 288 = .ok (.if_icmp .ne 7, 3) := dk_160 0 7 (dk_at dksX15_command_11 2 rfl rfl)
theorem dX15_command_291 : decode cX15_command 291 = .ok (.iconst 1, 1) := dk_4 (dk_at dksX15_command_11 5 rfl rfl)
theorem dX15_command_292 : decode cX15_command 292 = .ok (.goto 4, 3) := dk_167 0 4 (dk_at dksX15_command_11 6 rfl rfl)
theorem dX15_command_295 : decode cX15_command 295 = .ok (.iconst 0, 1) := dk_3 (dk_at dksX15_command_11 9 rfl rfl)
theorem dX15_command_296 : decode cX15_command 296 = .ok (.invokevirtual 44, 3) := dk_182 0 44 (dk_at dksX15_command_11 10 rfl rfl)
theorem dX15_command_299 : decode cX15_command 299 = .ok (.pop, 1) := dk_87 (dk_at dksX15_command_11 13 rfl rfl)
theorem dX15_command_300 : decode cX15_command 300 = .ok (.aload_n 0, 1) := dk_42 (dk_at dksX15_command_11 14 rfl rfl)
theorem dX15_command_301 : decode cX15_command 301 = .ok (.aload_n 0, 1) := dk_42 (dk_at dksX15_command_11 15 rfl rfl)
theorem dX15_command_302 : decode cX15_command 302 = .ok (.invokevirtual 36, 3) := dk_182 0 36 (dk_at dksX15_command_11 16 rfl rfl)
theorem dX15_command_305 : decode cX15_command 305 = .ok (.invokestatic 116, 3) := dk_184 0 116 (dk_at dksX15_command_11 19 rfl rfl)
theorem dX15_command_308 : decode cX15_command 308 = .ok (.invokevirtual 44, 3) := dk_182 0 44 (dk_at dksX15_command_12 0 rfl rfl)
theorem dX15_command_311 : decode cX15_command 311 = .ok (.istore 9, 2) := dk_54 9 (dk_at dksX15_command_12 3 rfl rfl)
theorem dX15_command_313 : decode cX15_command 313 = .ok (.new 103, 3) := dk_187 0 103 (dk_at dksX15_command_12 5 rfl rfl)
theorem dX15_command_316 : decode cX15_command 316 = .ok (.dup, 1) := dk_89 (dk_at dksX15_command_12 8 rfl rfl)
theorem dX15_command_317 : decode cX15_command 317 = .ok (.iload 9, 2) := dk_21 9 (dk_at dksX15_command_12 9 rfl rfl)
theorem dX15_command_319 : decode cX15_command 319 = .ok (.invokedynamic 122, 5) := by decide +kernel
theorem dX15_command_324 : decode cX15_command 324 = .ok (.invokespecial 109, 3) := dk_183 0 109 (dk_at dksX15_command_12 16 rfl rfl)
theorem dX15_command_327 : decode cX15_command 327 = .ok (.areturn, 1) := dk_176 (dk_at dksX15_command_12 19 rfl rfl)
theorem dX15_command_328 : decode cX15_command 328 = .ok (.aload_n 0, 1) := dk_42 (dk_at dksX15_command_12 20 rfl rfl)
theorem dX15_command_329 : decode cX15_command 329 = .ok (.invokevirtual 125, 3) := dk_182 0 125 (dk_at dksX15_command_12 21 rfl rfl)
theorem dX15_command_332 : decode cX15_command 332 = .ok (.istore 10, 2) := dk_54 10 (dk_at dksX15_command_13 0 rfl rfl)
theorem dX15_command_334 : decode cX15_command 334 = .ok (.new 103, 3) := dk_187 0 103 (dk_at dksX15_command_13 2 rfl rfl)
theorem dX15_command_337 : decode cX15_command 337 = .ok (.dup, 1) := dk_89 (dk_at dksX15_command_13 5 rfl rfl)
theorem dX15_command_338 : decode cX15_command 338 = .ok (.aload_n 1, 1) := dk_43 (dk_at dksX15_command_13 6 rfl rfl)
theorem dX15_command_339 : decode cX15_command 339 = .ok (.iload 10, 2) := dk_21 10 (dk_at dksX15_command_13 7 rfl rfl)
theorem dX15_command_341 : decode cX15_command 341 = .ok (.aload_n 0, 1) := dk_42 (dk_at dksX15_command_13 9 rfl rfl)
theorem dX15_command_342 : decode cX15_command 342 = .ok (.invokevirtual 48, 3) := dk_182 0 48 (dk_at dksX15_command_13 10 rfl rfl)
theorem dX15_command_345 : decode cX15_command 345 = .ok (.invokestatic 128, 3) := dk_184 0 128 (dk_at dksX15_command_13 13 rfl rfl)
theorem dX15_command_348 : decode cX15_command 348 = .ok (.invokespecial 109, 3) := dk_183 0 109 (dk_at dksX15_command_13 16 rfl rfl)
theorem dX15_command_351 : decode cX15_command 351 = .ok (.areturn, 1) := dk_176 (dk_at dksX15_command_13 19 rfl rfl)
theorem dX15_command_352 : decode cX15_command 352 = .ok (.new 103, 3) := dk_187 0 103 (dk_at dksX15_command_13 20 rfl rfl)
theorem dX15_command_355 : decode cX15_command 355 = .ok (.dup, 1) := dk_89 (dk_at dksX15_command_13 23 rfl rfl)
theorem dX15_command_356 : decode cX15_command 356 = .ok (.aload_n 1, 1) := dk_43 (dk_at dksX15_command_14 0 rfl rfl)
theorem dX15_command_357 : decode cX15_command 357 = .ok (.aload_n 0, 1) := dk_42 (dk_at dksX15_command_14 1 rfl rfl)
theorem dX15_command_358 : decode cX15_command 358 = .ok (.invokevirtual 125, 3) := dk_182 0 125 (dk_at dksX15_command_14 2 rfl rfl)
theorem dX15_command_361 : decode cX15_command 361 = .ok (.invokestatic 132, 3) := dk_184 0 132 (dk_at dksX15_command_14 5 rfl rfl)
theorem dX15_command_364 : decode cX15_command 364 = .ok (.invokespecial 109, 3) := dk_183 0 109 (dk_at dksX15_command_14 8 rfl rfl)
theorem dX15_command_367 : decode cX15_command 367 = .ok (.areturn, 1) := dk_176 (dk_at dksX15_command_14 11 rfl rfl)
abbrev cX15_word : ByteArray := prog_14_method_9_code
def yX15_word : MethodName := ⟨RX15, "word", "()Ljava/lang/String;"⟩
def dkwX15_word_5 : List UInt8 := [182, 0, 72, 153, 0, 7, 4, 167, 0, 4, 3, 182, 0, 32, 43, 182, 0, 68, 176]
abbrev dktX15_word_5 : List UInt8 := dkwX15_word_5 ++ []
def dkwX15_word_4 : List UInt8 := [187, 0, 51, 89, 183, 0, 53, 18, 56, 182, 0, 58, 43, 182, 0, 62, 18, 56, 182, 0, 58, 182, 0, 68]
abbrev dktX15_word_4 : List UInt8 := dkwX15_word_4 ++ dktX15_word_5
def dkwX15_word_3 : List UInt8 := [42, 89, 180, 0, 13, 4, 96, 181, 0, 13, 167, 255, 184, 42, 43, 182, 0, 76, 158, 0, 39, 18, 54]
abbrev dktX15_word_3 : List UInt8 := dkwX15_word_3 ++ dktX15_word_4
def dkwX15_word_2 : List UInt8 := [182, 0, 36, 182, 0, 65, 182, 0, 68, 182, 0, 72, 182, 0, 32, 43, 42, 182, 0, 36, 182, 0, 65, 87]
abbrev dktX15_word_2 : List UInt8 := dkwX15_word_2 ++ dktX15_word_3
def dkwX15_word_1 : List UInt8 := [163, 0, 60, 42, 18, 54, 187, 0, 51, 89, 183, 0, 53, 18, 56, 182, 0, 58, 43, 182, 0, 62, 42]
abbrev dktX15_word_1 : List UInt8 := dkwX15_word_1 ++ dktX15_word_2
def dkwX15_word_0 : List UInt8 := [187, 0, 51, 89, 183, 0, 53, 76, 42, 182, 0, 36, 16, 97, 161, 0, 69, 42, 182, 0, 36, 16, 122]
abbrev dktX15_word_0 : List UInt8 := dkwX15_word_0 ++ dktX15_word_1
theorem dksX15_word_0 : cX15_word.data.toList.drop 0 = dktX15_word_0 := by decide +kernel
theorem dksX15_word_1 : cX15_word.data.toList.drop 23 = dktX15_word_1 := dk_seg dksX15_word_0 23 rfl rfl
theorem dksX15_word_2 : cX15_word.data.toList.drop 46 = dktX15_word_2 := dk_seg dksX15_word_1 23 rfl rfl
theorem dksX15_word_3 : cX15_word.data.toList.drop 70 = dktX15_word_3 := dk_seg dksX15_word_2 24 rfl rfl
theorem dksX15_word_4 : cX15_word.data.toList.drop 93 = dktX15_word_4 := dk_seg dksX15_word_3 23 rfl rfl
theorem dksX15_word_5 : cX15_word.data.toList.drop 117 = dktX15_word_5 := dk_seg dksX15_word_4 24 rfl rfl
theorem dX15_word_0 : decode cX15_word 0 = .ok (.new 51, 3) := dk_187 0 51 (dk_at dksX15_word_0 0 rfl rfl)
theorem dX15_word_3 : decode cX15_word 3 = .ok (.dup, 1) := dk_89 (dk_at dksX15_word_0 3 rfl rfl)
theorem dX15_word_4 : decode cX15_word 4 = .ok (.invokespecial 53, 3) := dk_183 0 53 (dk_at dksX15_word_0 4 rfl rfl)
theorem dX15_word_7 : decode cX15_word 7 = .ok (.astore_n 1, 1) := dk_76 (dk_at dksX15_word_0 7 rfl rfl)
theorem dX15_word_8 : decode cX15_word 8 = .ok (.aload_n 0, 1) := dk_42 (dk_at dksX15_word_0 8 rfl rfl)
theorem dX15_word_9 : decode cX15_word 9 = .ok (.invokevirtual 36, 3) := dk_182 0 36 (dk_at dksX15_word_0 9 rfl rfl)
theorem dX15_word_12 : decode cX15_word 12 = .ok (.bipush 97, 2) := dk_16 97 (dk_at dksX15_word_0 12 rfl rfl)
theorem dX15_word_14 : decode cX15_word 14 = .ok (.if_icmp .lt 69, 3) := dk_161 0 69 (dk_at dksX15_word_0 14 rfl rfl)
theorem dX15_word_17 : decode cX15_word 17 = .ok (.aload_n 0, 1) := dk_42 (dk_at dksX15_word_0 17 rfl rfl)
theorem dX15_word_18 : decode cX15_word 18 = .ok (.invokevirtual 36, 3) := dk_182 0 36 (dk_at dksX15_word_0 18 rfl rfl)
theorem dX15_word_21 : decode cX15_word 21 = .ok (.bipush 122, 2) := dk_16 122 (dk_at dksX15_word_0 21 rfl rfl)
theorem dX15_word_23 : decode cX15_word 23 = .ok (.if_icmp .gt 60, 3) := dk_163 0 60 (dk_at dksX15_word_1 0 rfl rfl)
theorem dX15_word_26 : decode cX15_word 26 = .ok (.aload_n 0, 1) := dk_42 (dk_at dksX15_word_1 3 rfl rfl)
theorem dX15_word_27 : decode cX15_word 27 = .ok (.ldc 54, 2) := dk_18 54 (dk_at dksX15_word_1 4 rfl rfl)
theorem dX15_word_29 : decode cX15_word 29 = .ok (.new 51, 3) := dk_187 0 51 (dk_at dksX15_word_1 6 rfl rfl)
theorem dX15_word_32 : decode cX15_word 32 = .ok (.dup, 1) := dk_89 (dk_at dksX15_word_1 9 rfl rfl)
theorem dX15_word_33 : decode cX15_word 33 = .ok (.invokespecial 53, 3) := dk_183 0 53 (dk_at dksX15_word_1 10 rfl rfl)
theorem dX15_word_36 : decode cX15_word 36 = .ok (.ldc 56, 2) := dk_18 56 (dk_at dksX15_word_1 13 rfl rfl)
theorem dX15_word_38 : decode cX15_word 38 = .ok (.invokevirtual 58, 3) := dk_182 0 58 (dk_at dksX15_word_1 15 rfl rfl)
theorem dX15_word_41 : decode cX15_word 41 = .ok (.aload_n 1, 1) := dk_43 (dk_at dksX15_word_1 18 rfl rfl)
theorem dX15_word_42 : decode cX15_word 42 = .ok (.invokevirtual 62, 3) := dk_182 0 62 (dk_at dksX15_word_1 19 rfl rfl)
theorem dX15_word_45 : decode cX15_word 45 = .ok (.aload_n 0, 1) := dk_42 (dk_at dksX15_word_1 22 rfl rfl)
theorem dX15_word_46 : decode cX15_word 46 = .ok (.invokevirtual 36, 3) := dk_182 0 36 (dk_at dksX15_word_2 0 rfl rfl)
theorem dX15_word_49 : decode cX15_word 49 = .ok (.invokevirtual 65, 3) := dk_182 0 65 (dk_at dksX15_word_2 3 rfl rfl)
theorem dX15_word_52 : decode cX15_word 52 = .ok (.invokevirtual 68, 3) := dk_182 0 68 (dk_at dksX15_word_2 6 rfl rfl)
theorem dX15_word_55 : decode cX15_word 55 = .ok (.invokevirtual 72, 3) := dk_182 0 72 (dk_at dksX15_word_2 9 rfl rfl)
theorem dX15_word_58 : decode cX15_word 58 = .ok (.invokevirtual 32, 3) := dk_182 0 32 (dk_at dksX15_word_2 12 rfl rfl)
theorem dX15_word_61 : decode cX15_word 61 = .ok (.aload_n 1, 1) := dk_43 (dk_at dksX15_word_2 15 rfl rfl)
theorem dX15_word_62 : decode cX15_word 62 = .ok (.aload_n 0, 1) := dk_42 (dk_at dksX15_word_2 16 rfl rfl)
theorem dX15_word_63 : decode cX15_word 63 = .ok (.invokevirtual 36, 3) := dk_182 0 36 (dk_at dksX15_word_2 17 rfl rfl)
theorem dX15_word_66 : decode cX15_word 66 = .ok (.invokevirtual 65, 3) := dk_182 0 65 (dk_at dksX15_word_2 20 rfl rfl)
theorem dX15_word_69 : decode cX15_word 69 = .ok (.pop, 1) := dk_87 (dk_at dksX15_word_2 23 rfl rfl)
theorem dX15_word_70 : decode cX15_word 70 = .ok (.aload_n 0, 1) := dk_42 (dk_at dksX15_word_3 0 rfl rfl)
theorem dX15_word_71 : decode cX15_word 71 = .ok (.dup, 1) := dk_89 (dk_at dksX15_word_3 1 rfl rfl)
theorem dX15_word_72 : decode cX15_word 72 = .ok (.getfield 13, 3) := dk_180 0 13 (dk_at dksX15_word_3 2 rfl rfl)
theorem dX15_word_75 : decode cX15_word 75 = .ok (.iconst 1, 1) := dk_4 (dk_at dksX15_word_3 5 rfl rfl)
theorem dX15_word_76 : decode cX15_word 76 = .ok (.iadd, 1) := dk_96 (dk_at dksX15_word_3 6 rfl rfl)
theorem dX15_word_77 : decode cX15_word 77 = .ok (.putfield 13, 3) := dk_181 0 13 (dk_at dksX15_word_3 7 rfl rfl)
theorem dX15_word_80 : decode cX15_word 80 = .ok (.goto (-72), 3) := dk_167 255 184 (dk_at dksX15_word_3 10 rfl rfl)
theorem dX15_word_83 : decode cX15_word 83 = .ok (.aload_n 0, 1) := dk_42 (dk_at dksX15_word_3 13 rfl rfl)
theorem dX15_word_84 : decode cX15_word 84 = .ok (.aload_n 1, 1) := dk_43 (dk_at dksX15_word_3 14 rfl rfl)
theorem dX15_word_85 : decode cX15_word 85 = .ok (.invokevirtual 76, 3) := dk_182 0 76 (dk_at dksX15_word_3 15 rfl rfl)
theorem dX15_word_88 : decode cX15_word 88 = .ok (.ifCond .le 39, 3) := dk_158 0 39 (dk_at dksX15_word_3 18 rfl rfl)
theorem dX15_word_91 : decode cX15_word 91 = .ok (.ldc 54, 2) := dk_18 54 (dk_at dksX15_word_3 21 rfl rfl)
theorem dX15_word_93 : decode cX15_word 93 = .ok (.new 51, 3) := dk_187 0 51 (dk_at dksX15_word_4 0 rfl rfl)
theorem dX15_word_96 : decode cX15_word 96 = .ok (.dup, 1) := dk_89 (dk_at dksX15_word_4 3 rfl rfl)
theorem dX15_word_97 : decode cX15_word 97 = .ok (.invokespecial 53, 3) := dk_183 0 53 (dk_at dksX15_word_4 4 rfl rfl)
theorem dX15_word_100 : decode cX15_word 100 = .ok (.ldc 56, 2) := dk_18 56 (dk_at dksX15_word_4 7 rfl rfl)
theorem dX15_word_102 : decode cX15_word 102 = .ok (.invokevirtual 58, 3) := dk_182 0 58 (dk_at dksX15_word_4 9 rfl rfl)
theorem dX15_word_105 : decode cX15_word 105 = .ok (.aload_n 1, 1) := dk_43 (dk_at dksX15_word_4 12 rfl rfl)
theorem dX15_word_106 : decode cX15_word 106 = .ok (.invokevirtual 62, 3) := dk_182 0 62 (dk_at dksX15_word_4 13 rfl rfl)
theorem dX15_word_109 : decode cX15_word 109 = .ok (.ldc 56, 2) := dk_18 56 (dk_at dksX15_word_4 16 rfl rfl)
theorem dX15_word_111 : decode cX15_word 111 = .ok (.invokevirtual 58, 3) := dk_182 0 58 (dk_at dksX15_word_4 18 rfl rfl)
theorem dX15_word_114 : decode cX15_word 114 = .ok (.invokevirtual 68, 3) := dk_182 0 68 (dk_at dksX15_word_4 21 rfl rfl)
theorem dX15_word_117 : decode cX15_word 117 = .ok (.invokevirtual 72, 3) := dk_182 0 72 (dk_at dksX15_word_5 0 rfl rfl)
theorem dX15_word_120 : decode cX15_word 120 = .ok (.ifCond .eq 7, 3) := dk_153 0 7 (dk_at dksX15_word_5 3 rfl rfl)
theorem dX15_word_123 : decode cX15_word 123 = .ok (.iconst 1, 1) := dk_4 (dk_at dksX15_word_5 6 rfl rfl)
theorem dX15_word_124 : decode cX15_word 124 = .ok (.goto 4, 3) := dk_167 0 4 (dk_at dksX15_word_5 7 rfl rfl)
theorem dX15_word_127 : decode cX15_word 127 = .ok (.iconst 0, 1) := dk_3 (dk_at dksX15_word_5 10 rfl rfl)
theorem dX15_word_128 : decode cX15_word 128 = .ok (.invokevirtual 32, 3) := dk_182 0 32 (dk_at dksX15_word_5 11 rfl rfl)
theorem dX15_word_131 : decode cX15_word 131 = .ok (.aload_n 1, 1) := dk_43 (dk_at dksX15_word_5 14 rfl rfl)
theorem dX15_word_132 : decode cX15_word 132 = .ok (.invokevirtual 68, 3) := dk_182 0 68 (dk_at dksX15_word_5 15 rfl rfl)
theorem dX15_word_135 : decode cX15_word 135 = .ok (.areturn, 1) := dk_176 (dk_at dksX15_word_5 18 rfl rfl)
abbrev cX15_current : ByteArray := prog_14_method_2_code
def yX15_current : MethodName := ⟨RX15, "current", "()C"⟩
def dkwX15_current_1 : List UInt8 := [182, 0, 23, 167, 0, 5, 16, 10, 172]
abbrev dktX15_current_1 : List UInt8 := dkwX15_current_1 ++ []
def dkwX15_current_0 : List UInt8 := [42, 180, 0, 13, 42, 180, 0, 7, 182, 0, 17, 162, 0, 17, 42, 180, 0, 7, 42, 180, 0, 13]
abbrev dktX15_current_0 : List UInt8 := dkwX15_current_0 ++ dktX15_current_1
theorem dksX15_current_0 : cX15_current.data.toList.drop 0 = dktX15_current_0 := by decide +kernel
theorem dksX15_current_1 : cX15_current.data.toList.drop 22 = dktX15_current_1 := dk_seg dksX15_current_0 22 rfl rfl
theorem dX15_current_0 : decode cX15_current 0 = .ok (.aload_n 0, 1) := dk_42 (dk_at dksX15_current_0 0 rfl rfl)
theorem dX15_current_1 : decode cX15_current 1 = .ok (.getfield 13, 3) := dk_180 0 13 (dk_at dksX15_current_0 1 rfl rfl)
theorem dX15_current_4 : decode cX15_current 4 = .ok (.aload_n 0, 1) := dk_42 (dk_at dksX15_current_0 4 rfl rfl)
theorem dX15_current_5 : decode cX15_current 5 = .ok (.getfield 7, 3) := dk_180 0 7 (dk_at dksX15_current_0 5 rfl rfl)
theorem dX15_current_8 : decode cX15_current 8 = .ok (.invokevirtual 17, 3) := dk_182 0 17 (dk_at dksX15_current_0 8 rfl rfl)
theorem dX15_current_11 : decode cX15_current 11 = .ok (.if_icmp .ge 17, 3) := dk_162 0 17 (dk_at dksX15_current_0 11 rfl rfl)
theorem dX15_current_14 : decode cX15_current 14 = .ok (.aload_n 0, 1) := dk_42 (dk_at dksX15_current_0 14 rfl rfl)
theorem dX15_current_15 : decode cX15_current 15 = .ok (.getfield 7, 3) := dk_180 0 7 (dk_at dksX15_current_0 15 rfl rfl)
theorem dX15_current_18 : decode cX15_current 18 = .ok (.aload_n 0, 1) := dk_42 (dk_at dksX15_current_0 18 rfl rfl)
theorem dX15_current_19 : decode cX15_current 19 = .ok (.getfield 13, 3) := dk_180 0 13 (dk_at dksX15_current_0 19 rfl rfl)
theorem dX15_current_22 : decode cX15_current 22 = .ok (.invokevirtual 23, 3) := dk_182 0 23 (dk_at dksX15_current_1 0 rfl rfl)
theorem dX15_current_25 : decode cX15_current 25 = .ok (.goto 5, 3) := dk_167 0 5 (dk_at dksX15_current_1 3 rfl rfl)
theorem dX15_current_28 : decode cX15_current 28 = .ok (.bipush 10, 2) := dk_16 10 (dk_at dksX15_current_1 6 rfl rfl)
theorem dX15_current_30 : decode cX15_current 30 = .ok (.ireturn, 1) := dk_172 (dk_at dksX15_current_1 8 rfl rfl)
abbrev cX15_require : ByteArray := prog_14_method_3_code
def yX15_require : MethodName := ⟨RX15, "require", "(Z)V"⟩
def dkwX15_require_0 : List UInt8 := [27, 154, 0, 15, 187, 0, 27, 89, 42, 180, 0, 13, 183, 0, 29, 191, 177]
abbrev dktX15_require_0 : List UInt8 := dkwX15_require_0 ++ []
theorem dksX15_require_0 : cX15_require.data.toList.drop 0 = dktX15_require_0 := by decide +kernel
theorem dX15_require_0 : decode cX15_require 0 = .ok (.iload_n 1, 1) := dk_27 (dk_at dksX15_require_0 0 rfl rfl)
theorem dX15_require_1 : decode cX15_require 1 = .ok (.ifCond .ne 15, 3) := dk_154 0 15 (dk_at dksX15_require_0 1 rfl rfl)
theorem dX15_require_4 : decode cX15_require 4 = .ok (.new 27, 3) := dk_187 0 27 (dk_at dksX15_require_0 4 rfl rfl)
theorem dX15_require_7 : decode cX15_require 7 = .ok (.dup, 1) := dk_89 (dk_at dksX15_require_0 7 rfl rfl)
theorem dX15_require_8 : decode cX15_require 8 = .ok (.aload_n 0, 1) := dk_42 (dk_at dksX15_require_0 8 rfl rfl)
theorem dX15_require_9 : decode cX15_require 9 = .ok (.getfield 13, 3) := dk_180 0 13 (dk_at dksX15_require_0 9 rfl rfl)
theorem dX15_require_12 : decode cX15_require 12 = .ok (.invokespecial 29, 3) := dk_183 0 29 (dk_at dksX15_require_0 12 rfl rfl)
theorem dX15_require_15 : decode cX15_require 15 = .ok (.athrow, 1) := dk_191 (dk_at dksX15_require_0 15 rfl rfl)
theorem dX15_require_16 : decode cX15_require 16 = .ok (.return_, 1) := dk_177 (dk_at dksX15_require_0 16 rfl rfl)
abbrev cX15_numberAfter : ByteArray := prog_14_method_8_code
def yX15_numberAfter : MethodName := ⟨RX15, "numberAfter", "(C)I"⟩
def dkwX15_numberAfter_2 : List UInt8 := [132, 3, 1, 167, 255, 231, 28, 172]
abbrev dktX15_numberAfter_2 : List UInt8 := dkwX15_numberAfter_2 ++ []
def dkwX15_numberAfter_1 : List UInt8 := [62, 29, 7, 162, 0, 26, 42, 182, 0, 40, 153, 0, 19, 16, 10, 28, 104, 42, 182, 0, 48, 96, 61]
abbrev dktX15_numberAfter_1 : List UInt8 := dkwX15_numberAfter_1 ++ dktX15_numberAfter_2
def dkwX15_numberAfter_0 : List UInt8 := [42, 42, 182, 0, 36, 27, 160, 0, 7, 4, 167, 0, 4, 3, 182, 0, 44, 87, 42, 182, 0, 48, 61, 4]
abbrev dktX15_numberAfter_0 : List UInt8 := dkwX15_numberAfter_0 ++ dktX15_numberAfter_1
theorem dksX15_numberAfter_0 : cX15_numberAfter.data.toList.drop 0 = dktX15_numberAfter_0 := by decide +kernel
theorem dksX15_numberAfter_1 : cX15_numberAfter.data.toList.drop 24 = dktX15_numberAfter_1 := dk_seg dksX15_numberAfter_0 24 rfl rfl
theorem dksX15_numberAfter_2 : cX15_numberAfter.data.toList.drop 47 = dktX15_numberAfter_2 := dk_seg dksX15_numberAfter_1 23 rfl rfl
theorem dX15_numberAfter_0 : decode cX15_numberAfter 0 = .ok (.aload_n 0, 1) := dk_42 (dk_at dksX15_numberAfter_0 0 rfl rfl)
theorem dX15_numberAfter_1 : decode cX15_numberAfter 1 = .ok (.aload_n 0, 1) := dk_42 (dk_at dksX15_numberAfter_0 1 rfl rfl)
theorem dX15_numberAfter_2 : decode cX15_numberAfter 2 = .ok (.invokevirtual 36, 3) := dk_182 0 36 (dk_at dksX15_numberAfter_0 2 rfl rfl)
theorem dX15_numberAfter_5 : decode cX15_numberAfter 5 = .ok (.iload_n 1, 1) := dk_27 (dk_at dksX15_numberAfter_0 5 rfl rfl)
theorem dX15_numberAfter_6 : decode cX15_numberAfter 6 = .ok (.if_icmp .ne 7, 3) := dk_160 0 7 (dk_at dksX15_numberAfter_0 6 rfl rfl)
theorem dX15_numberAfter_9 : decode cX15_numberAfter 9 = .ok (.iconst 1, 1) := dk_4 (dk_at dksX15_numberAfter_0 9 rfl rfl)
theorem dX15_numberAfter_10 : decode cX15_numberAfter 10 = .ok (.goto 4, 3) := dk_167 0 4 (dk_at dksX15_numberAfter_0 10 rfl rfl)
theorem dX15_numberAfter_13 : decode cX15_numberAfter 13 = .ok (.iconst 0, 1) := dk_3 (dk_at dksX15_numberAfter_0 13 rfl rfl)
theorem dX15_numberAfter_14 : decode cX15_numberAfter 14 = .ok (.invokevirtual 44, 3) := dk_182 0 44 (dk_at dksX15_numberAfter_0 14 rfl rfl)
theorem dX15_numberAfter_17 : decode cX15_numberAfter 17 = .ok (.pop, 1) := dk_87 (dk_at dksX15_numberAfter_0 17 rfl rfl)
theorem dX15_numberAfter_18 : decode cX15_numberAfter 18 = .ok (.aload_n 0, 1) := dk_42 (dk_at dksX15_numberAfter_0 18 rfl rfl)
theorem dX15_numberAfter_19 : decode cX15_numberAfter 19 = .ok (.invokevirtual 48, 3) := dk_182 0 48 (dk_at dksX15_numberAfter_0 19 rfl rfl)
theorem dX15_numberAfter_22 : decode cX15_numberAfter 22 = .ok (.istore_n 2, 1) := dk_61 (dk_at dksX15_numberAfter_0 22 rfl rfl)
theorem dX15_numberAfter_23 : decode cX15_numberAfter 23 = .ok (.iconst 1, 1) := dk_4 (dk_at dksX15_numberAfter_0 23 rfl rfl)
theorem dX15_numberAfter_24 : decode cX15_numberAfter 24 = .ok (.istore_n 3, 1) := dk_62 (dk_at dksX15_numberAfter_1 0 rfl rfl)
theorem dX15_numberAfter_25 : decode cX15_numberAfter 25 = .ok (.iload_n 3, 1) := dk_29 (dk_at dksX15_numberAfter_1 1 rfl rfl)
theorem dX15_numberAfter_26 : decode cX15_numberAfter 26 = .ok (.iconst 4, 1) := dk_7 (dk_at dksX15_numberAfter_1 2 rfl rfl)
theorem dX15_numberAfter_27 : decode cX15_numberAfter 27 = .ok (.if_icmp .ge 26, 3) := dk_162 0 26 (dk_at dksX15_numberAfter_1 3 rfl rfl)
theorem dX15_numberAfter_30 : decode cX15_numberAfter 30 = .ok (.aload_n 0, 1) := dk_42 (dk_at dksX15_numberAfter_1 6 rfl rfl)
theorem dX15_numberAfter_31 : decode cX15_numberAfter 31 = .ok (.invokevirtual 40, 3) := dk_182 0 40 (dk_at dksX15_numberAfter_1 7 rfl rfl)
theorem dX15_numberAfter_34 : decode cX15_numberAfter 34 = .ok (.ifCond .eq 19, 3) := dk_153 0 19 (dk_at dksX15_numberAfter_1 10 rfl rfl)
theorem dX15_numberAfter_37 : decode cX15_numberAfter 37 = .ok (.bipush 10, 2) := dk_16 10 (dk_at dksX15_numberAfter_1 13 rfl rfl)
theorem dX15_numberAfter_39 : decode cX15_numberAfter 39 = .ok (.iload_n 2, 1) := dk_28 (dk_at dksX15_numberAfter_1 15 rfl rfl)
theorem dX15_numberAfter_40 : decode cX15_numberAfter 40 = .ok (.imul, 1) := dk_104 (dk_at dksX15_numberAfter_1 16 rfl rfl)
theorem dX15_numberAfter_41 : decode cX15_numberAfter 41 = .ok (.aload_n 0, 1) := dk_42 (dk_at dksX15_numberAfter_1 17 rfl rfl)
theorem dX15_numberAfter_42 : decode cX15_numberAfter 42 = .ok (.invokevirtual 48, 3) := dk_182 0 48 (dk_at dksX15_numberAfter_1 18 rfl rfl)
theorem dX15_numberAfter_45 : decode cX15_numberAfter 45 = .ok (.iadd, 1) := dk_96 (dk_at dksX15_numberAfter_1 21 rfl rfl)
theorem dX15_numberAfter_46 : decode cX15_numberAfter 46 = .ok (.istore_n 2, 1) := dk_61 (dk_at dksX15_numberAfter_1 22 rfl rfl)
theorem dX15_numberAfter_47 : decode cX15_numberAfter 47 = .ok (.iinc 3 1, 3) := dk_132 3 1 (dk_at dksX15_numberAfter_2 0 rfl rfl)
theorem dX15_numberAfter_50 : decode cX15_numberAfter 50 = .ok (.goto (-25), 3) := dk_167 255 231 (dk_at dksX15_numberAfter_2 3 rfl rfl)
theorem dX15_numberAfter_53 : decode cX15_numberAfter 53 = .ok (.iload_n 2, 1) := dk_28 (dk_at dksX15_numberAfter_2 6 rfl rfl)
theorem dX15_numberAfter_54 : decode cX15_numberAfter 54 = .ok (.ireturn, 1) := dk_172 (dk_at dksX15_numberAfter_2 7 rfl rfl)
abbrev cX15_taken : ByteArray := prog_14_method_4_code
def yX15_taken : MethodName := ⟨RX15, "taken", "(Z)C"⟩
def dkwX15_taken_1 : List UInt8 := [100, 182, 0, 23, 172]
abbrev dktX15_taken_1 : List UInt8 := dkwX15_taken_1 ++ []
def dkwX15_taken_0 : List UInt8 := [42, 27, 182, 0, 32, 42, 89, 180, 0, 13, 4, 96, 181, 0, 13, 42, 180, 0, 7, 42, 180, 0, 13, 4]
abbrev dktX15_taken_0 : List UInt8 := dkwX15_taken_0 ++ dktX15_taken_1
theorem dksX15_taken_0 : cX15_taken.data.toList.drop 0 = dktX15_taken_0 := by decide +kernel
theorem dksX15_taken_1 : cX15_taken.data.toList.drop 24 = dktX15_taken_1 := dk_seg dksX15_taken_0 24 rfl rfl
theorem dX15_taken_0 : decode cX15_taken 0 = .ok (.aload_n 0, 1) := dk_42 (dk_at dksX15_taken_0 0 rfl rfl)
theorem dX15_taken_1 : decode cX15_taken 1 = .ok (.iload_n 1, 1) := dk_27 (dk_at dksX15_taken_0 1 rfl rfl)
theorem dX15_taken_2 : decode cX15_taken 2 = .ok (.invokevirtual 32, 3) := dk_182 0 32 (dk_at dksX15_taken_0 2 rfl rfl)
theorem dX15_taken_5 : decode cX15_taken 5 = .ok (.aload_n 0, 1) := dk_42 (dk_at dksX15_taken_0 5 rfl rfl)
theorem dX15_taken_6 : decode cX15_taken 6 = .ok (.dup, 1) := dk_89 (dk_at dksX15_taken_0 6 rfl rfl)
theorem dX15_taken_7 : decode cX15_taken 7 = .ok (.getfield 13, 3) := dk_180 0 13 (dk_at dksX15_taken_0 7 rfl rfl)
theorem dX15_taken_10 : decode cX15_taken 10 = .ok (.iconst 1, 1) := dk_4 (dk_at dksX15_taken_0 10 rfl rfl)
theorem dX15_taken_11 : decode cX15_taken 11 = .ok (.iadd, 1) := dk_96 (dk_at dksX15_taken_0 11 rfl rfl)
theorem dX15_taken_12 : decode cX15_taken 12 = .ok (.putfield 13, 3) := dk_181 0 13 (dk_at dksX15_taken_0 12 rfl rfl)
theorem dX15_taken_15 : decode cX15_taken 15 = .ok (.aload_n 0, 1) := dk_42 (dk_at dksX15_taken_0 15 rfl rfl)
theorem dX15_taken_16 : decode cX15_taken 16 = .ok (.getfield 7, 3) := dk_180 0 7 (dk_at dksX15_taken_0 16 rfl rfl)
theorem dX15_taken_19 : decode cX15_taken 19 = .ok (.aload_n 0, 1) := dk_42 (dk_at dksX15_taken_0 19 rfl rfl)
theorem dX15_taken_20 : decode cX15_taken 20 = .ok (.getfield 13, 3) := dk_180 0 13 (dk_at dksX15_taken_0 20 rfl rfl)
theorem dX15_taken_23 : decode cX15_taken 23 = .ok (.iconst 1, 1) := dk_4 (dk_at dksX15_taken_0 23 rfl rfl)
theorem dX15_taken_24 : decode cX15_taken 24 = .ok (.isub, 1) := dk_100 (dk_at dksX15_taken_1 0 rfl rfl)
theorem dX15_taken_25 : decode cX15_taken 25 = .ok (.invokevirtual 23, 3) := dk_182 0 23 (dk_at dksX15_taken_1 1 rfl rfl)
theorem dX15_taken_28 : decode cX15_taken 28 = .ok (.ireturn, 1) := dk_172 (dk_at dksX15_taken_1 4 rfl rfl)
abbrev cX15_digit : ByteArray := prog_14_method_6_code
def yX15_digit : MethodName := ⟨RX15, "digit", "()I"⟩
def dkwX15_digit_0 : List UInt8 := [42, 42, 182, 0, 40, 182, 0, 44, 16, 48, 100, 172]
abbrev dktX15_digit_0 : List UInt8 := dkwX15_digit_0 ++ []
theorem dksX15_digit_0 : cX15_digit.data.toList.drop 0 = dktX15_digit_0 := by decide +kernel
theorem dX15_digit_0 : decode cX15_digit 0 = .ok (.aload_n 0, 1) := dk_42 (dk_at dksX15_digit_0 0 rfl rfl)
theorem dX15_digit_1 : decode cX15_digit 1 = .ok (.aload_n 0, 1) := dk_42 (dk_at dksX15_digit_0 1 rfl rfl)
theorem dX15_digit_2 : decode cX15_digit 2 = .ok (.invokevirtual 40, 3) := dk_182 0 40 (dk_at dksX15_digit_0 2 rfl rfl)
theorem dX15_digit_5 : decode cX15_digit 5 = .ok (.invokevirtual 44, 3) := dk_182 0 44 (dk_at dksX15_digit_0 5 rfl rfl)
theorem dX15_digit_8 : decode cX15_digit 8 = .ok (.bipush 48, 2) := dk_16 48 (dk_at dksX15_digit_0 8 rfl rfl)
theorem dX15_digit_10 : decode cX15_digit 10 = .ok (.isub, 1) := dk_100 (dk_at dksX15_digit_0 10 rfl rfl)
theorem dX15_digit_11 : decode cX15_digit 11 = .ok (.ireturn, 1) := dk_172 (dk_at dksX15_digit_0 11 rfl rfl)
abbrev cX15_isAtDigit : ByteArray := prog_14_method_5_code
def yX15_isAtDigit : MethodName := ⟨RX15, "isAtDigit", "()Z"⟩
def dkwX15_isAtDigit_0 : List UInt8 := [42, 182, 0, 36, 16, 48, 161, 0, 16, 42, 182, 0, 36, 16, 57, 163, 0, 7, 4, 167, 0, 4, 3, 172]
abbrev dktX15_isAtDigit_0 : List UInt8 := dkwX15_isAtDigit_0 ++ []
theorem dksX15_isAtDigit_0 : cX15_isAtDigit.data.toList.drop 0 = dktX15_isAtDigit_0 := by decide +kernel
theorem dX15_isAtDigit_0 : decode cX15_isAtDigit 0 = .ok (.aload_n 0, 1) := dk_42 (dk_at dksX15_isAtDigit_0 0 rfl rfl)
theorem dX15_isAtDigit_1 : decode cX15_isAtDigit 1 = .ok (.invokevirtual 36, 3) := dk_182 0 36 (dk_at dksX15_isAtDigit_0 1 rfl rfl)
theorem dX15_isAtDigit_4 : decode cX15_isAtDigit 4 = .ok (.bipush 48, 2) := dk_16 48 (dk_at dksX15_isAtDigit_0 4 rfl rfl)
theorem dX15_isAtDigit_6 : decode cX15_isAtDigit 6 = .ok (.if_icmp .lt 16, 3) := dk_161 0 16 (dk_at dksX15_isAtDigit_0 6 rfl rfl)
theorem dX15_isAtDigit_9 : decode cX15_isAtDigit 9 = .ok (.aload_n 0, 1) := dk_42 (dk_at dksX15_isAtDigit_0 9 rfl rfl)
theorem dX15_isAtDigit_10 : decode cX15_isAtDigit 10 = .ok (.invokevirtual 36, 3) := dk_182 0 36 (dk_at dksX15_isAtDigit_0 10 rfl rfl)
theorem dX15_isAtDigit_13 : decode cX15_isAtDigit 13 = .ok (.bipush 57, 2) := dk_16 57 (dk_at dksX15_isAtDigit_0 13 rfl rfl)
theorem dX15_isAtDigit_15 : decode cX15_isAtDigit 15 = .ok (.if_icmp .gt 7, 3) := dk_163 0 7 (dk_at dksX15_isAtDigit_0 15 rfl rfl)
theorem dX15_isAtDigit_18 : decode cX15_isAtDigit 18 = .ok (.iconst 1, 1) := dk_4 (dk_at dksX15_isAtDigit_0 18 rfl rfl)
theorem dX15_isAtDigit_19 : decode cX15_isAtDigit 19 = .ok (.goto 4, 3) := dk_167 0 4 (dk_at dksX15_isAtDigit_0 19 rfl rfl)
theorem dX15_isAtDigit_22 : decode cX15_isAtDigit 22 = .ok (.iconst 0, 1) := dk_3 (dk_at dksX15_isAtDigit_0 22 rfl rfl)
theorem dX15_isAtDigit_23 : decode cX15_isAtDigit 23 = .ok (.ireturn, 1) := dk_172 (dk_at dksX15_isAtDigit_0 23 rfl rfl)
abbrev cX15_lambda_command_0 : ByteArray := prog_14_method_24_code
def yX15_lambda_command_0 : MethodName := ⟨RX15, "lambda$command$0", "(IILDoughLedger$Bakery;)I"⟩
def dkwX15_lambda_command_0_0 : List UInt8 := [44, 26, 27, 182, 0, 191, 172]
abbrev dktX15_lambda_command_0_0 : List UInt8 := dkwX15_lambda_command_0_0 ++ []
theorem dksX15_lambda_command_0_0 : cX15_lambda_command_0.data.toList.drop 0 = dktX15_lambda_command_0_0 := by decide +kernel
theorem dX15_lambda_command_0_0 : decode cX15_lambda_command_0 0 = .ok (.aload_n 2, 1) := dk_44 (dk_at dksX15_lambda_command_0_0 0 rfl rfl)
theorem dX15_lambda_command_0_1 : decode cX15_lambda_command_0 1 = .ok (.iload_n 0, 1) := dk_26 (dk_at dksX15_lambda_command_0_0 1 rfl rfl)
theorem dX15_lambda_command_0_2 : decode cX15_lambda_command_0 2 = .ok (.iload_n 1, 1) := dk_27 (dk_at dksX15_lambda_command_0_0 2 rfl rfl)
theorem dX15_lambda_command_0_3 : decode cX15_lambda_command_0 3 = .ok (.invokevirtual 191, 3) := dk_182 0 191 (dk_at dksX15_lambda_command_0_0 3 rfl rfl)
theorem dX15_lambda_command_0_6 : decode cX15_lambda_command_0 6 = .ok (.ireturn, 1) := dk_172 (dk_at dksX15_lambda_command_0_0 6 rfl rfl)
abbrev cX15_lambda_command_1 : ByteArray := prog_14_method_23_code
def yX15_lambda_command_1 : MethodName := ⟨RX15, "lambda$command$1", "(ILDoughLedger$Bakery;)I"⟩
def dkwX15_lambda_command_1_0 : List UInt8 := [43, 26, 182, 0, 188, 172]
abbrev dktX15_lambda_command_1_0 : List UInt8 := dkwX15_lambda_command_1_0 ++ []
theorem dksX15_lambda_command_1_0 : cX15_lambda_command_1.data.toList.drop 0 = dktX15_lambda_command_1_0 := by decide +kernel
theorem dX15_lambda_command_1_0 : decode cX15_lambda_command_1 0 = .ok (.aload_n 1, 1) := dk_43 (dk_at dksX15_lambda_command_1_0 0 rfl rfl)
theorem dX15_lambda_command_1_1 : decode cX15_lambda_command_1 1 = .ok (.iload_n 0, 1) := dk_26 (dk_at dksX15_lambda_command_1_0 1 rfl rfl)
theorem dX15_lambda_command_1_2 : decode cX15_lambda_command_1 2 = .ok (.invokevirtual 188, 3) := dk_182 0 188 (dk_at dksX15_lambda_command_1_0 2 rfl rfl)
theorem dX15_lambda_command_1_5 : decode cX15_lambda_command_1 5 = .ok (.ireturn, 1) := dk_172 (dk_at dksX15_lambda_command_1_0 5 rfl rfl)
abbrev cX15_lambda_command_2 : ByteArray := prog_14_method_22_code
def yX15_lambda_command_2 : MethodName := ⟨RX15, "lambda$command$2", "(IILDoughLedger$Bakery;)I"⟩
def dkwX15_lambda_command_2_0 : List UInt8 := [44, 26, 27, 182, 0, 185, 172]
abbrev dktX15_lambda_command_2_0 : List UInt8 := dkwX15_lambda_command_2_0 ++ []
theorem dksX15_lambda_command_2_0 : cX15_lambda_command_2.data.toList.drop 0 = dktX15_lambda_command_2_0 := by decide +kernel
theorem dX15_lambda_command_2_0 : decode cX15_lambda_command_2 0 = .ok (.aload_n 2, 1) := dk_44 (dk_at dksX15_lambda_command_2_0 0 rfl rfl)
theorem dX15_lambda_command_2_1 : decode cX15_lambda_command_2 1 = .ok (.iload_n 0, 1) := dk_26 (dk_at dksX15_lambda_command_2_0 1 rfl rfl)
theorem dX15_lambda_command_2_2 : decode cX15_lambda_command_2 2 = .ok (.iload_n 1, 1) := dk_27 (dk_at dksX15_lambda_command_2_0 2 rfl rfl)
theorem dX15_lambda_command_2_3 : decode cX15_lambda_command_2 3 = .ok (.invokevirtual 185, 3) := dk_182 0 185 (dk_at dksX15_lambda_command_2_0 3 rfl rfl)
theorem dX15_lambda_command_2_6 : decode cX15_lambda_command_2 6 = .ok (.ireturn, 1) := dk_172 (dk_at dksX15_lambda_command_2_0 6 rfl rfl)
abbrev cX15_lambda_command_3 : ByteArray := prog_14_method_21_code
def yX15_lambda_command_3 : MethodName := ⟨RX15, "lambda$command$3", "(CLDoughLedger$Bakery;)I"⟩
def dkwX15_lambda_command_3_0 : List UInt8 := [43, 26, 182, 0, 182, 172]
abbrev dktX15_lambda_command_3_0 : List UInt8 := dkwX15_lambda_command_3_0 ++ []
theorem dksX15_lambda_command_3_0 : cX15_lambda_command_3.data.toList.drop 0 = dktX15_lambda_command_3_0 := by decide +kernel
theorem dX15_lambda_command_3_0 : decode cX15_lambda_command_3 0 = .ok (.aload_n 1, 1) := dk_43 (dk_at dksX15_lambda_command_3_0 0 rfl rfl)
theorem dX15_lambda_command_3_1 : decode cX15_lambda_command_3 1 = .ok (.iload_n 0, 1) := dk_26 (dk_at dksX15_lambda_command_3_0 1 rfl rfl)
theorem dX15_lambda_command_3_2 : decode cX15_lambda_command_3 2 = .ok (.invokevirtual 182, 3) := dk_182 0 182 (dk_at dksX15_lambda_command_3_0 2 rfl rfl)
theorem dX15_lambda_command_3_5 : decode cX15_lambda_command_3 5 = .ok (.ireturn, 1) := dk_172 (dk_at dksX15_lambda_command_3_0 5 rfl rfl)
abbrev cX15_digitAfterSpace : ByteArray := prog_14_method_7_code
def yX15_digitAfterSpace : MethodName := ⟨RX15, "digitAfterSpace", "()I"⟩
def dkwX15_digitAfterSpace_0 : List UInt8 := [42, 42, 182, 0, 36, 16, 32, 160, 0, 7, 4, 167, 0, 4, 3, 182, 0, 44, 87, 42, 182, 0, 48, 172]
abbrev dktX15_digitAfterSpace_0 : List UInt8 := dkwX15_digitAfterSpace_0 ++ []
theorem dksX15_digitAfterSpace_0 : cX15_digitAfterSpace.data.toList.drop 0 = dktX15_digitAfterSpace_0 := by decide +kernel
theorem dX15_digitAfterSpace_0 : decode cX15_digitAfterSpace 0 = .ok (.aload_n 0, 1) := dk_42 (dk_at dksX15_digitAfterSpace_0 0 rfl rfl)
theorem dX15_digitAfterSpace_1 : decode cX15_digitAfterSpace 1 = .ok (.aload_n 0, 1) := dk_42 (dk_at dksX15_digitAfterSpace_0 1 rfl rfl)
theorem dX15_digitAfterSpace_2 : decode cX15_digitAfterSpace 2 = .ok (.invokevirtual 36, 3) := dk_182 0 36 (dk_at dksX15_digitAfterSpace_0 2 rfl rfl)
theorem dX15_digitAfterSpace_5 : decode cX15_digitAfterSpace 5 = .ok (.bipush 32, 2) := dk_16 32 (dk_at dksX15_digitAfterSpace_0 5 rfl rfl)
theorem dX15_digitAfterSpace_7 : decode cX15_digitAfterSpace 7 = .ok (.if_icmp .ne 7, 3) := dk_160 0 7 (dk_at dksX15_digitAfterSpace_0 7 rfl rfl)
theorem dX15_digitAfterSpace_10 : decode cX15_digitAfterSpace 10 = .ok (.iconst 1, 1) := dk_4 (dk_at dksX15_digitAfterSpace_0 10 rfl rfl)
theorem dX15_digitAfterSpace_11 : decode cX15_digitAfterSpace 11 = .ok (.goto 4, 3) := dk_167 0 4 (dk_at dksX15_digitAfterSpace_0 11 rfl rfl)
theorem dX15_digitAfterSpace_14 : decode cX15_digitAfterSpace 14 = .ok (.iconst 0, 1) := dk_3 (dk_at dksX15_digitAfterSpace_0 14 rfl rfl)
theorem dX15_digitAfterSpace_15 : decode cX15_digitAfterSpace 15 = .ok (.invokevirtual 44, 3) := dk_182 0 44 (dk_at dksX15_digitAfterSpace_0 15 rfl rfl)
theorem dX15_digitAfterSpace_18 : decode cX15_digitAfterSpace 18 = .ok (.pop, 1) := dk_87 (dk_at dksX15_digitAfterSpace_0 18 rfl rfl)
theorem dX15_digitAfterSpace_19 : decode cX15_digitAfterSpace 19 = .ok (.aload_n 0, 1) := dk_42 (dk_at dksX15_digitAfterSpace_0 19 rfl rfl)
theorem dX15_digitAfterSpace_20 : decode cX15_digitAfterSpace 20 = .ok (.invokevirtual 48, 3) := dk_182 0 48 (dk_at dksX15_digitAfterSpace_0 20 rfl rfl)
theorem dX15_digitAfterSpace_23 : decode cX15_digitAfterSpace 23 = .ok (.ireturn, 1) := dk_172 (dk_at dksX15_digitAfterSpace_0 23 rfl rfl)
abbrev cX15_pair : ByteArray := prog_14_method_11_code
def yX15_pair : MethodName := ⟨RX15, "pair", "(Ljava/lang/String;II)LDoughLedger$Step;"⟩
def dkwX15_pair_1 : List UInt8 := [186, 0, 137, 0, 0, 176]
abbrev dktX15_pair_1 : List UInt8 := dkwX15_pair_1 ++ []
def dkwX15_pair_0 : List UInt8 := [42, 18, 95, 182, 0, 85, 153, 0, 13, 27, 28, 186, 0, 136, 0, 0, 167, 0, 10, 27, 28]
abbrev dktX15_pair_0 : List UInt8 := dkwX15_pair_0 ++ dktX15_pair_1
theorem dksX15_pair_0 : cX15_pair.data.toList.drop 0 = dktX15_pair_0 := by decide +kernel
theorem dksX15_pair_1 : cX15_pair.data.toList.drop 21 = dktX15_pair_1 := dk_seg dksX15_pair_0 21 rfl rfl
theorem dX15_pair_0 : decode cX15_pair 0 = .ok (.aload_n 0, 1) := dk_42 (dk_at dksX15_pair_0 0 rfl rfl)
theorem dX15_pair_1 : decode cX15_pair 1 = .ok (.ldc 95, 2) := dk_18 95 (dk_at dksX15_pair_0 1 rfl rfl)
theorem dX15_pair_3 : decode cX15_pair 3 = .ok (.invokevirtual 85, 3) := dk_182 0 85 (dk_at dksX15_pair_0 3 rfl rfl)
theorem dX15_pair_6 : decode cX15_pair 6 = .ok (.ifCond .eq 13, 3) := dk_153 0 13 (dk_at dksX15_pair_0 6 rfl rfl)
theorem dX15_pair_9 : decode cX15_pair 9 = .ok (.iload_n 1, 1) := dk_27 (dk_at dksX15_pair_0 9 rfl rfl)
theorem dX15_pair_10 : decode cX15_pair 10 = .ok (.iload_n 2, 1) := dk_28 (dk_at dksX15_pair_0 10 rfl rfl)
theorem dX15_pair_11 : decode cX15_pair 11 = .ok (.invokedynamic 136, 5) := by decide +kernel
theorem dX15_pair_16 : decode cX15_pair 16 = .ok (.goto 10, 3) := dk_167 0 10 (dk_at dksX15_pair_0 16 rfl rfl)
theorem dX15_pair_19 : decode cX15_pair 19 = .ok (.iload_n 1, 1) := dk_27 (dk_at dksX15_pair_0 19 rfl rfl)
theorem dX15_pair_20 : decode cX15_pair 20 = .ok (.iload_n 2, 1) := dk_28 (dk_at dksX15_pair_0 20 rfl rfl)
theorem dX15_pair_21 : decode cX15_pair 21 = .ok (.invokedynamic 137, 5) := by decide +kernel
theorem dX15_pair_26 : decode cX15_pair 26 = .ok (.areturn, 1) := dk_176 (dk_at dksX15_pair_1 5 rfl rfl)
abbrev cX15_lambda_pair_4 : ByteArray := prog_14_method_20_code
def yX15_lambda_pair_4 : MethodName := ⟨RX15, "lambda$pair$4", "(IILDoughLedger$Bakery;)I"⟩
def dkwX15_lambda_pair_4_0 : List UInt8 := [44, 26, 27, 182, 0, 180, 172]
abbrev dktX15_lambda_pair_4_0 : List UInt8 := dkwX15_lambda_pair_4_0 ++ []
theorem dksX15_lambda_pair_4_0 : cX15_lambda_pair_4.data.toList.drop 0 = dktX15_lambda_pair_4_0 := by decide +kernel
theorem dX15_lambda_pair_4_0 : decode cX15_lambda_pair_4 0 = .ok (.aload_n 2, 1) := dk_44 (dk_at dksX15_lambda_pair_4_0 0 rfl rfl)
theorem dX15_lambda_pair_4_1 : decode cX15_lambda_pair_4 1 = .ok (.iload_n 0, 1) := dk_26 (dk_at dksX15_lambda_pair_4_0 1 rfl rfl)
theorem dX15_lambda_pair_4_2 : decode cX15_lambda_pair_4 2 = .ok (.iload_n 1, 1) := dk_27 (dk_at dksX15_lambda_pair_4_0 2 rfl rfl)
theorem dX15_lambda_pair_4_3 : decode cX15_lambda_pair_4 3 = .ok (.invokevirtual 180, 3) := dk_182 0 180 (dk_at dksX15_lambda_pair_4_0 3 rfl rfl)
theorem dX15_lambda_pair_4_6 : decode cX15_lambda_pair_4 6 = .ok (.ireturn, 1) := dk_172 (dk_at dksX15_lambda_pair_4_0 6 rfl rfl)
abbrev cX15_lambda_pair_5 : ByteArray := prog_14_method_19_code
def yX15_lambda_pair_5 : MethodName := ⟨RX15, "lambda$pair$5", "(IILDoughLedger$Bakery;)I"⟩
def dkwX15_lambda_pair_5_0 : List UInt8 := [44, 26, 27, 182, 0, 177, 172]
abbrev dktX15_lambda_pair_5_0 : List UInt8 := dkwX15_lambda_pair_5_0 ++ []
theorem dksX15_lambda_pair_5_0 : cX15_lambda_pair_5.data.toList.drop 0 = dktX15_lambda_pair_5_0 := by decide +kernel
theorem dX15_lambda_pair_5_0 : decode cX15_lambda_pair_5 0 = .ok (.aload_n 2, 1) := dk_44 (dk_at dksX15_lambda_pair_5_0 0 rfl rfl)
theorem dX15_lambda_pair_5_1 : decode cX15_lambda_pair_5 1 = .ok (.iload_n 0, 1) := dk_26 (dk_at dksX15_lambda_pair_5_0 1 rfl rfl)
theorem dX15_lambda_pair_5_2 : decode cX15_lambda_pair_5 2 = .ok (.iload_n 1, 1) := dk_27 (dk_at dksX15_lambda_pair_5_0 2 rfl rfl)
theorem dX15_lambda_pair_5_3 : decode cX15_lambda_pair_5 3 = .ok (.invokevirtual 177, 3) := dk_182 0 177 (dk_at dksX15_lambda_pair_5_0 3 rfl rfl)
theorem dX15_lambda_pair_5_6 : decode cX15_lambda_pair_5 6 = .ok (.ireturn, 1) := dk_172 (dk_at dksX15_lambda_pair_5_0 6 rfl rfl)
abbrev cX15_single : ByteArray := prog_14_method_12_code
def yX15_single : MethodName := ⟨RX15, "single", "(Ljava/lang/String;I)LDoughLedger$Step;"⟩
def dkwX15_single_7 : List UInt8 := [186, 0, 149, 0, 0, 176, 27, 186, 0, 150, 0, 0, 176]
abbrev dktX15_single_7 : List UInt8 := dkwX15_single_7 ++ []
def dkwX15_single_6 : List UInt8 := [27, 186, 0, 146, 0, 0, 176, 27, 186, 0, 147, 0, 0, 176, 27, 186, 0, 148, 0, 0, 176, 27]
abbrev dktX15_single_6 : List UInt8 := dkwX15_single_6 ++ dktX15_single_7
def dkwX15_single_5 : List UInt8 := [170, 0, 0, 0, 0, 58, 0, 0, 0, 0, 0, 0, 0, 3, 0, 0, 0, 30, 0, 0, 0, 37, 0, 0, 0, 44, 0, 0, 0, 51]
abbrev dktX15_single_5 : List UInt8 := dkwX15_single_5 ++ dktX15_single_6
def dkwX15_single_4 : List UInt8 := [153, 0, 5, 6, 62, 29]
abbrev dktX15_single_4 : List UInt8 := dkwX15_single_4 ++ dktX15_single_5
def dkwX15_single_3 : List UInt8 := [62, 167, 0, 28, 44, 18, 142, 182, 0, 85, 153, 0, 19, 5, 62, 167, 0, 14, 44, 18, 144, 182, 0, 85]
abbrev dktX15_single_3 : List UInt8 := dkwX15_single_3 ++ dktX15_single_4
def dkwX15_single_2 : List UInt8 := [44, 18, 138, 182, 0, 85, 153, 0, 47, 3, 62, 167, 0, 42, 44, 18, 140, 182, 0, 85, 153, 0, 33, 4]
abbrev dktX15_single_2 : List UInt8 := dkwX15_single_2 ++ dktX15_single_3
def dkwX15_single_1 : List UInt8 := [171, 0, 0, 0, 0, 0, 0, 97, 0, 0, 0, 4, 0, 46, 5, 217, 0, 0, 0, 86, 0, 53, 207, 82, 0, 0, 0, 44, 5, 194, 133, 77, 0, 0, 0, 72, 6, 131, 9, 74, 0, 0, 0, 58]
abbrev dktX15_single_1 : List UInt8 := dkwX15_single_1 ++ dktX15_single_2
def dkwX15_single_0 : List UInt8 := [42, 77, 2, 62, 44, 182, 0, 80]
abbrev dktX15_single_0 : List UInt8 := dkwX15_single_0 ++ dktX15_single_1
theorem dksX15_single_0 : cX15_single.data.toList.drop 0 = dktX15_single_0 := by decide +kernel
theorem dksX15_single_1 : cX15_single.data.toList.drop 8 = dktX15_single_1 := dk_seg dksX15_single_0 8 rfl rfl
theorem dksX15_single_2 : cX15_single.data.toList.drop 52 = dktX15_single_2 := dk_seg dksX15_single_1 44 rfl rfl
theorem dksX15_single_3 : cX15_single.data.toList.drop 76 = dktX15_single_3 := dk_seg dksX15_single_2 24 rfl rfl
theorem dksX15_single_4 : cX15_single.data.toList.drop 100 = dktX15_single_4 := dk_seg dksX15_single_3 24 rfl rfl
theorem dksX15_single_5 : cX15_single.data.toList.drop 106 = dktX15_single_5 := dk_seg dksX15_single_4 6 rfl rfl
theorem dksX15_single_6 : cX15_single.data.toList.drop 136 = dktX15_single_6 := dk_seg dksX15_single_5 30 rfl rfl
theorem dksX15_single_7 : cX15_single.data.toList.drop 158 = dktX15_single_7 := dk_seg dksX15_single_6 22 rfl rfl
theorem dX15_single_0 : decode cX15_single 0 = .ok (.aload_n 0, 1) := dk_42 (dk_at dksX15_single_0 0 rfl rfl)
theorem dX15_single_1 : decode cX15_single 1 = .ok (.astore_n 2, 1) := dk_77 (dk_at dksX15_single_0 1 rfl rfl)
theorem dX15_single_2 : decode cX15_single 2 = .ok (.iconst (-1), 1) := dk_2 (dk_at dksX15_single_0 2 rfl rfl)
theorem dX15_single_3 : decode cX15_single 3 = .ok (.istore_n 3, 1) := dk_62 (dk_at dksX15_single_0 3 rfl rfl)
theorem dX15_single_4 : decode cX15_single 4 = .ok (.aload_n 2, 1) := dk_44 (dk_at dksX15_single_0 4 rfl rfl)
theorem dX15_single_5 : decode cX15_single 5 = .ok (.invokevirtual 80, 3) := dk_182 0 80 (dk_at dksX15_single_0 5 rfl rfl)
theorem dX15_single_8 : decode cX15_single 8 = .ok (.lookupswitch 97 #[(3016153, 86), (3526482, 44), (96634189, 72), (109250890, 58)], 44) := by decide +kernel
theorem dX15_single_52 : decode cX15_single 52 = .ok (.aload_n 2, 1) := dk_44 (dk_at dksX15_single_2 0 rfl rfl)
theorem dX15_single_53 : decode cX15_single 53 = .ok (.ldc 138, 2) := dk_18 138 (dk_at dksX15_single_2 1 rfl rfl)
theorem dX15_single_55 : decode cX15_single 55 = .ok (.invokevirtual 85, 3) := dk_182 0 85 (dk_at dksX15_single_2 3 rfl rfl)
theorem dX15_single_58 : decode cX15_single 58 = .ok (.ifCond .eq 47, 3) := dk_153 0 47 (dk_at dksX15_single_2 6 rfl rfl)
theorem dX15_single_61 : decode cX15_single 61 = .ok (.iconst 0, 1) := dk_3 (dk_at dksX15_single_2 9 rfl rfl)
theorem dX15_single_62 : decode cX15_single 62 = .ok (.istore_n 3, 1) := dk_62 (dk_at dksX15_single_2 10 rfl rfl)
theorem dX15_single_63 : decode cX15_single 63 = .ok (.goto 42, 3) := dk_167 0 42 (dk_at dksX15_single_2 11 rfl rfl)
theorem dX15_single_66 : decode cX15_single 66 = .ok (.aload_n 2, 1) := dk_44 (dk_at dksX15_single_2 14 rfl rfl)
theorem dX15_single_67 : decode cX15_single 67 = .ok (.ldc 140, 2) := dk_18 140 (dk_at dksX15_single_2 15 rfl rfl)
theorem dX15_single_69 : decode cX15_single 69 = .ok (.invokevirtual 85, 3) := dk_182 0 85 (dk_at dksX15_single_2 17 rfl rfl)
theorem dX15_single_72 : decode cX15_single 72 = .ok (.ifCond .eq 33, 3) := dk_153 0 33 (dk_at dksX15_single_2 20 rfl rfl)
theorem dX15_single_75 : decode cX15_single 75 = .ok (.iconst 1, 1) := dk_4 (dk_at dksX15_single_2 23 rfl rfl)
theorem dX15_single_76 : decode cX15_single 76 = .ok (.istore_n 3, 1) := dk_62 (dk_at dksX15_single_3 0 rfl rfl)
theorem dX15_single_77 : decode cX15_single 77 = .ok (.goto 28, 3) := dk_167 0 28 (dk_at dksX15_single_3 1 rfl rfl)
theorem dX15_single_80 : decode cX15_single 80 = .ok (.aload_n 2, 1) := dk_44 (dk_at dksX15_single_3 4 rfl rfl)
theorem dX15_single_81 : decode cX15_single 81 = .ok (.ldc 142, 2) := dk_18 142 (dk_at dksX15_single_3 5 rfl rfl)
theorem dX15_single_83 : decode cX15_single 83 = .ok (.invokevirtual 85, 3) := dk_182 0 85 (dk_at dksX15_single_3 7 rfl rfl)
theorem dX15_single_86 : decode cX15_single 86 = .ok (.ifCond .eq 19, 3) := dk_153 0 19 (dk_at dksX15_single_3 10 rfl rfl)
theorem dX15_single_89 : decode cX15_single 89 = .ok (.iconst 2, 1) := dk_5 (dk_at dksX15_single_3 13 rfl rfl)
theorem dX15_single_90 : decode cX15_single 90 = .ok (.istore_n 3, 1) := dk_62 (dk_at dksX15_single_3 14 rfl rfl)
theorem dX15_single_91 : decode cX15_single 91 = .ok (.goto 14, 3) := dk_167 0 14 (dk_at dksX15_single_3 15 rfl rfl)
theorem dX15_single_94 : decode cX15_single 94 = .ok (.aload_n 2, 1) := dk_44 (dk_at dksX15_single_3 18 rfl rfl)
theorem dX15_single_95 : decode cX15_single 95 = .ok (.ldc 144, 2) := dk_18 144 (dk_at dksX15_single_3 19 rfl rfl)
theorem dX15_single_97 : decode cX15_single 97 = .ok (.invokevirtual 85, 3) := dk_182 0 85 (dk_at dksX15_single_3 21 rfl rfl)
theorem dX15_single_100 : decode cX15_single 100 = .ok (.ifCond .eq 5, 3) := dk_153 0 5 (dk_at dksX15_single_4 0 rfl rfl)
theorem dX15_single_103 : decode cX15_single 103 = .ok (.iconst 3, 1) := dk_6 (dk_at dksX15_single_4 3 rfl rfl)
theorem dX15_single_104 : decode cX15_single 104 = .ok (.istore_n 3, 1) := dk_62 (dk_at dksX15_single_4 4 rfl rfl)
theorem dX15_single_105 : decode cX15_single 105 = .ok (.iload_n 3, 1) := dk_29 (dk_at dksX15_single_4 5 rfl rfl)
theorem dX15_single_106 : decode cX15_single 106 = .ok (.tableswitch 58 0 3 #[30, 37, 44, 51], 30) := by decide +kernel
theorem dX15_single_136 : decode cX15_single 136 = .ok (.iload_n 1, 1) := dk_27 (dk_at dksX15_single_6 0 rfl rfl)
theorem dX15_single_137 : decode cX15_single 137 = .ok (.invokedynamic 146, 5) := by decide +kernel
theorem dX15_single_142 : decode cX15_single 142 = .ok (.areturn, 1) := dk_176 (dk_at dksX15_single_6 6 rfl rfl)
theorem dX15_single_143 : decode cX15_single 143 = .ok (.iload_n 1, 1) := dk_27 (dk_at dksX15_single_6 7 rfl rfl)
theorem dX15_single_144 : decode cX15_single 144 = .ok (.invokedynamic 147, 5) := by decide +kernel
theorem dX15_single_149 : decode cX15_single 149 = .ok (.areturn, 1) := dk_176 (dk_at dksX15_single_6 13 rfl rfl)
theorem dX15_single_150 : decode cX15_single 150 = .ok (.iload_n 1, 1) := dk_27 (dk_at dksX15_single_6 14 rfl rfl)
theorem dX15_single_151 : decode cX15_single 151 = .ok (.invokedynamic 148, 5) := by decide +kernel
theorem dX15_single_156 : decode cX15_single 156 = .ok (.areturn, 1) := dk_176 (dk_at dksX15_single_6 20 rfl rfl)
theorem dX15_single_157 : decode cX15_single 157 = .ok (.iload_n 1, 1) := dk_27 (dk_at dksX15_single_6 21 rfl rfl)
theorem dX15_single_158 : decode cX15_single 158 = .ok (.invokedynamic 149, 5) := by decide +kernel
theorem dX15_single_163 : decode cX15_single 163 = .ok (.areturn, 1) := dk_176 (dk_at dksX15_single_7 5 rfl rfl)
theorem dX15_single_164 : decode cX15_single 164 = .ok (.iload_n 1, 1) := dk_27 (dk_at dksX15_single_7 6 rfl rfl)
theorem dX15_single_165 : decode cX15_single 165 = .ok (.invokedynamic 150, 5) := by decide +kernel
theorem dX15_single_170 : decode cX15_single 170 = .ok (.areturn, 1) := dk_176 (dk_at dksX15_single_7 12 rfl rfl)
abbrev cX15_lambda_single_6 : ByteArray := prog_14_method_18_code
def yX15_lambda_single_6 : MethodName := ⟨RX15, "lambda$single$6", "(ILDoughLedger$Bakery;)I"⟩
def dkwX15_lambda_single_6_0 : List UInt8 := [43, 26, 182, 0, 174, 172]
abbrev dktX15_lambda_single_6_0 : List UInt8 := dkwX15_lambda_single_6_0 ++ []
theorem dksX15_lambda_single_6_0 : cX15_lambda_single_6.data.toList.drop 0 = dktX15_lambda_single_6_0 := by decide +kernel
theorem dX15_lambda_single_6_0 : decode cX15_lambda_single_6 0 = .ok (.aload_n 1, 1) := dk_43 (dk_at dksX15_lambda_single_6_0 0 rfl rfl)
theorem dX15_lambda_single_6_1 : decode cX15_lambda_single_6 1 = .ok (.iload_n 0, 1) := dk_26 (dk_at dksX15_lambda_single_6_0 1 rfl rfl)
theorem dX15_lambda_single_6_2 : decode cX15_lambda_single_6 2 = .ok (.invokevirtual 174, 3) := dk_182 0 174 (dk_at dksX15_lambda_single_6_0 2 rfl rfl)
theorem dX15_lambda_single_6_5 : decode cX15_lambda_single_6 5 = .ok (.ireturn, 1) := dk_172 (dk_at dksX15_lambda_single_6_0 5 rfl rfl)
abbrev cX15_lambda_single_7 : ByteArray := prog_14_method_17_code
def yX15_lambda_single_7 : MethodName := ⟨RX15, "lambda$single$7", "(ILDoughLedger$Bakery;)I"⟩
def dkwX15_lambda_single_7_0 : List UInt8 := [43, 26, 182, 0, 171, 172]
abbrev dktX15_lambda_single_7_0 : List UInt8 := dkwX15_lambda_single_7_0 ++ []
theorem dksX15_lambda_single_7_0 : cX15_lambda_single_7.data.toList.drop 0 = dktX15_lambda_single_7_0 := by decide +kernel
theorem dX15_lambda_single_7_0 : decode cX15_lambda_single_7 0 = .ok (.aload_n 1, 1) := dk_43 (dk_at dksX15_lambda_single_7_0 0 rfl rfl)
theorem dX15_lambda_single_7_1 : decode cX15_lambda_single_7 1 = .ok (.iload_n 0, 1) := dk_26 (dk_at dksX15_lambda_single_7_0 1 rfl rfl)
theorem dX15_lambda_single_7_2 : decode cX15_lambda_single_7 2 = .ok (.invokevirtual 171, 3) := dk_182 0 171 (dk_at dksX15_lambda_single_7_0 2 rfl rfl)
theorem dX15_lambda_single_7_5 : decode cX15_lambda_single_7 5 = .ok (.ireturn, 1) := dk_172 (dk_at dksX15_lambda_single_7_0 5 rfl rfl)
abbrev cX15_lambda_single_8 : ByteArray := prog_14_method_16_code
def yX15_lambda_single_8 : MethodName := ⟨RX15, "lambda$single$8", "(ILDoughLedger$Bakery;)I"⟩
def dkwX15_lambda_single_8_0 : List UInt8 := [43, 26, 182, 0, 169, 172]
abbrev dktX15_lambda_single_8_0 : List UInt8 := dkwX15_lambda_single_8_0 ++ []
theorem dksX15_lambda_single_8_0 : cX15_lambda_single_8.data.toList.drop 0 = dktX15_lambda_single_8_0 := by decide +kernel
theorem dX15_lambda_single_8_0 : decode cX15_lambda_single_8 0 = .ok (.aload_n 1, 1) := dk_43 (dk_at dksX15_lambda_single_8_0 0 rfl rfl)
theorem dX15_lambda_single_8_1 : decode cX15_lambda_single_8 1 = .ok (.iload_n 0, 1) := dk_26 (dk_at dksX15_lambda_single_8_0 1 rfl rfl)
theorem dX15_lambda_single_8_2 : decode cX15_lambda_single_8 2 = .ok (.invokevirtual 169, 3) := dk_182 0 169 (dk_at dksX15_lambda_single_8_0 2 rfl rfl)
theorem dX15_lambda_single_8_5 : decode cX15_lambda_single_8 5 = .ok (.ireturn, 1) := dk_172 (dk_at dksX15_lambda_single_8_0 5 rfl rfl)
abbrev cX15_lambda_single_9 : ByteArray := prog_14_method_15_code
def yX15_lambda_single_9 : MethodName := ⟨RX15, "lambda$single$9", "(ILDoughLedger$Bakery;)I"⟩
def dkwX15_lambda_single_9_0 : List UInt8 := [43, 26, 182, 0, 167, 172]
abbrev dktX15_lambda_single_9_0 : List UInt8 := dkwX15_lambda_single_9_0 ++ []
theorem dksX15_lambda_single_9_0 : cX15_lambda_single_9.data.toList.drop 0 = dktX15_lambda_single_9_0 := by decide +kernel
theorem dX15_lambda_single_9_0 : decode cX15_lambda_single_9 0 = .ok (.aload_n 1, 1) := dk_43 (dk_at dksX15_lambda_single_9_0 0 rfl rfl)
theorem dX15_lambda_single_9_1 : decode cX15_lambda_single_9 1 = .ok (.iload_n 0, 1) := dk_26 (dk_at dksX15_lambda_single_9_0 1 rfl rfl)
theorem dX15_lambda_single_9_2 : decode cX15_lambda_single_9 2 = .ok (.invokevirtual 167, 3) := dk_182 0 167 (dk_at dksX15_lambda_single_9_0 2 rfl rfl)
theorem dX15_lambda_single_9_5 : decode cX15_lambda_single_9 5 = .ok (.ireturn, 1) := dk_172 (dk_at dksX15_lambda_single_9_0 5 rfl rfl)
abbrev cX15_lambda_single_10 : ByteArray := prog_14_method_14_code
def yX15_lambda_single_10 : MethodName := ⟨RX15, "lambda$single$10", "(ILDoughLedger$Bakery;)I"⟩
def dkwX15_lambda_single_10_0 : List UInt8 := [43, 26, 182, 0, 161, 172]
abbrev dktX15_lambda_single_10_0 : List UInt8 := dkwX15_lambda_single_10_0 ++ []
theorem dksX15_lambda_single_10_0 : cX15_lambda_single_10.data.toList.drop 0 = dktX15_lambda_single_10_0 := by decide +kernel
theorem dX15_lambda_single_10_0 : decode cX15_lambda_single_10 0 = .ok (.aload_n 1, 1) := dk_43 (dk_at dksX15_lambda_single_10_0 0 rfl rfl)
theorem dX15_lambda_single_10_1 : decode cX15_lambda_single_10 1 = .ok (.iload_n 0, 1) := dk_26 (dk_at dksX15_lambda_single_10_0 1 rfl rfl)
theorem dX15_lambda_single_10_2 : decode cX15_lambda_single_10 2 = .ok (.invokevirtual 161, 3) := dk_182 0 161 (dk_at dksX15_lambda_single_10_0 2 rfl rfl)
theorem dX15_lambda_single_10_5 : decode cX15_lambda_single_10 5 = .ok (.ireturn, 1) := dk_172 (dk_at dksX15_lambda_single_10_0 5 rfl rfl)
theorem q189 : (Jvm.Cond.initialized "DoughLedger$Parser") ∈ lw_all := lw_g (lw_at lw_m1 65 rfl) rfl
theorem q931 : (Jvm.Cond.selects "DoughLedger$Parser" ({ cls := "java/lang/Object", name := "getClass", desc := "()Ljava/lang/Class;" } : Jvm.MethodName) ({ cls := "java/lang/Object", name := "getClass", desc := "()Ljava/lang/Class;" } : Jvm.MethodName)) ∈ lw_all := lw_g (lw_at lw_m4 87 rfl) rfl
theorem q2860 : (Jvm.Cond.selects "DoughLedger$Parser" ({ cls := "java/lang/Object", name := "toString", desc := "()Ljava/lang/String;" } : Jvm.MethodName) ({ cls := "java/lang/Object", name := "toString", desc := "()Ljava/lang/String;" } : Jvm.MethodName)) ∈ lw_all := lw_g (lw_at lw_m12 96 rfl) rfl
theorem q2968 : (Jvm.Cond.instantiable "DoughLedger$Parser" (2 : Nat)) ∈ lw_all := lw_g (lw_at lw_m12 204 rfl) rfl
theorem q2970 : (Jvm.Cond.instanceMethod ({ cls := "DoughLedger$Parser", name := "<init>", desc := "(Ljava/lang/String;)V" } : Jvm.MethodName)) ∈ lw_all := lw_g (lw_at lw_m12 206 rfl) rfl
theorem q2971 : (Jvm.Cond.code ({ cls := "DoughLedger$Parser", name := "<init>", desc := "(Ljava/lang/String;)V" } : Jvm.MethodName) prog_14_method_1_code (2 : Nat) (Option.none : Option Jvm.ClassFile.FieldType)) ∈ lw_all := lw_g (lw_at lw_m12 207 rfl) rfl
theorem q2972 : (Jvm.Cond.methodLink "DoughLedger$Parser" (1 : Nat) ({ cls := "java/lang/Object", name := "<init>", desc := "()V" } : Jvm.MethodName)) ∈ lw_all := lw_g (lw_at lw_m12 208 rfl) rfl
theorem q2973 : (Jvm.Cond.fieldLink "DoughLedger$Parser" (7 : Nat) "DoughLedger$Parser" "text" "Ljava/lang/String;") ∈ lw_all := lw_g (lw_at lw_m12 209 rfl) rfl
theorem q2974 : (Jvm.Cond.fieldLink "DoughLedger$Parser" (13 : Nat) "DoughLedger$Parser" "at" "I") ∈ lw_all := lw_g (lw_at lw_m12 210 rfl) rfl
theorem q2975 : (Jvm.Cond.laysFinal "DoughLedger$Parser" "DoughLedger$Parser" "text" "Ljava/lang/String;") ∈ lw_all := lw_g (lw_at lw_m12 211 rfl) rfl
theorem q2976 : (Jvm.Cond.soleField "DoughLedger$Parser" "text") ∈ lw_all := lw_g (lw_at lw_m12 212 rfl) rfl
theorem q2977 : (Jvm.Cond.lays "DoughLedger$Parser" "DoughLedger$Parser" "at" "I") ∈ lw_all := lw_g (lw_at lw_m12 213 rfl) rfl
theorem q2978 : (Jvm.Cond.soleField "DoughLedger$Parser" "at") ∈ lw_all := lw_g (lw_at lw_m12 214 rfl) rfl
theorem q2979 : (Jvm.Cond.superclass "DoughLedger$Parser" "java/lang/Object") ∈ lw_all := lw_g (lw_at lw_m12 215 rfl) rfl
theorem q2981 : (Jvm.Cond.instanceMethod ({ cls := "DoughLedger$Parser", name := "commands", desc := "()Ljava/util/LinkedList;" } : Jvm.MethodName)) ∈ lw_all := lw_g (lw_at lw_m12 217 rfl) rfl
theorem q2982 : (Jvm.Cond.selects "DoughLedger$Parser" ({ cls := "DoughLedger$Parser", name := "commands", desc := "()Ljava/util/LinkedList;" } : Jvm.MethodName) ({ cls := "DoughLedger$Parser", name := "commands", desc := "()Ljava/util/LinkedList;" } : Jvm.MethodName)) ∈ lw_all := lw_g (lw_at lw_m12 218 rfl) rfl
theorem q2983 : (Jvm.Cond.code ({ cls := "DoughLedger$Parser", name := "commands", desc := "()Ljava/util/LinkedList;" } : Jvm.MethodName) prog_14_method_13_code (2 : Nat) (Option.some (Jvm.ClassFile.FieldType.object "java/util/LinkedList"))) ∈ lw_all := lw_g (lw_at lw_m12 219 rfl) rfl
theorem q2984 : (Jvm.Cond.classLink "DoughLedger$Parser" (151 : Nat) "java/util/LinkedList") ∈ lw_all := lw_g (lw_at lw_m12 220 rfl) rfl
theorem q2985 : (Jvm.Cond.methodLink "DoughLedger$Parser" (153 : Nat) ({ cls := "java/util/LinkedList", name := "<init>", desc := "()V" } : Jvm.MethodName)) ∈ lw_all := lw_g (lw_at lw_m12 221 rfl) rfl
theorem q2986 : (Jvm.Cond.methodLink "DoughLedger$Parser" (154 : Nat) ({ cls := "DoughLedger$Parser", name := "command", desc := "()LDoughLedger$Command;" } : Jvm.MethodName)) ∈ lw_all := lw_g (lw_at lw_m12 222 rfl) rfl
theorem q2987 : (Jvm.Cond.privateMethod ({ cls := "DoughLedger$Parser", name := "command", desc := "()LDoughLedger$Command;" } : Jvm.MethodName)) ∈ lw_tbl := lw_at lw_m12 223 rfl
theorem q2988 : (Jvm.Cond.instanceMethod ({ cls := "DoughLedger$Parser", name := "command", desc := "()LDoughLedger$Command;" } : Jvm.MethodName)) ∈ lw_all := lw_g (lw_at lw_m12 224 rfl) rfl
theorem q2989 : (Jvm.Cond.code ({ cls := "DoughLedger$Parser", name := "command", desc := "()LDoughLedger$Command;" } : Jvm.MethodName) prog_14_method_10_code (11 : Nat) (Option.some (Jvm.ClassFile.FieldType.object "DoughLedger$Command"))) ∈ lw_all := lw_g (lw_at lw_m12 225 rfl) rfl
theorem q2990 : (Jvm.Cond.methodLink "DoughLedger$Parser" (77 : Nat) ({ cls := "DoughLedger$Parser", name := "word", desc := "()Ljava/lang/String;" } : Jvm.MethodName)) ∈ lw_all := lw_g (lw_at lw_m12 226 rfl) rfl
theorem q2991 : (Jvm.Cond.privateMethod ({ cls := "DoughLedger$Parser", name := "word", desc := "()Ljava/lang/String;" } : Jvm.MethodName)) ∈ lw_tbl := lw_at lw_m12 227 rfl
theorem q2992 : (Jvm.Cond.instanceMethod ({ cls := "DoughLedger$Parser", name := "word", desc := "()Ljava/lang/String;" } : Jvm.MethodName)) ∈ lw_all := lw_g (lw_at lw_m12 228 rfl) rfl
theorem q2993 : (Jvm.Cond.code ({ cls := "DoughLedger$Parser", name := "word", desc := "()Ljava/lang/String;" } : Jvm.MethodName) prog_14_method_9_code (2 : Nat) (Option.some (Jvm.ClassFile.FieldType.object "java/lang/String"))) ∈ lw_all := lw_g (lw_at lw_m12 229 rfl) rfl
theorem q2994 : (Jvm.Cond.classLink "DoughLedger$Parser" (51 : Nat) "java/lang/StringBuilder") ∈ lw_all := lw_g (lw_at lw_m12 230 rfl) rfl
theorem q2995 : (Jvm.Cond.methodLink "DoughLedger$Parser" (53 : Nat) ({ cls := "java/lang/StringBuilder", name := "<init>", desc := "()V" } : Jvm.MethodName)) ∈ lw_all := lw_g (lw_at lw_m12 231 rfl) rfl
theorem q2996 : (Jvm.Cond.methodLink "DoughLedger$Parser" (36 : Nat) ({ cls := "DoughLedger$Parser", name := "current", desc := "()C" } : Jvm.MethodName)) ∈ lw_all := lw_g (lw_at lw_m12 232 rfl) rfl
theorem q2997 : (Jvm.Cond.privateMethod ({ cls := "DoughLedger$Parser", name := "current", desc := "()C" } : Jvm.MethodName)) ∈ lw_tbl := lw_at lw_m12 233 rfl
theorem q2998 : (Jvm.Cond.instanceMethod ({ cls := "DoughLedger$Parser", name := "current", desc := "()C" } : Jvm.MethodName)) ∈ lw_all := lw_g (lw_at lw_m12 234 rfl) rfl
theorem q2999 : (Jvm.Cond.code ({ cls := "DoughLedger$Parser", name := "current", desc := "()C" } : Jvm.MethodName) prog_14_method_2_code (1 : Nat) (Option.some Jvm.ClassFile.FieldType.char)) ∈ lw_all := lw_g (lw_at lw_m12 235 rfl) rfl
theorem q3000 : (Jvm.Cond.methodLink "DoughLedger$Parser" (17 : Nat) ({ cls := "java/lang/String", name := "length", desc := "()I" } : Jvm.MethodName)) ∈ lw_all := lw_g (lw_at lw_m12 236 rfl) rfl
theorem q3001 : (Jvm.Cond.methodLink "DoughLedger$Parser" (23 : Nat) ({ cls := "java/lang/String", name := "charAt", desc := "(I)C" } : Jvm.MethodName)) ∈ lw_all := lw_g (lw_at lw_m12 237 rfl) rfl
theorem q3002 : (Jvm.Cond.stringRef "DoughLedger$Parser" (54 : Nat) " dough mix bowl loaf sell scale round pour empty bake ovens ") ∈ lw_tbl := lw_at lw_m12 238 rfl
theorem q3003 : (Jvm.Cond.stringRef "DoughLedger$Parser" (56 : Nat) " ") ∈ lw_tbl := lw_at lw_m12 239 rfl
theorem q3004 : (Jvm.Cond.methodLink "DoughLedger$Parser" (58 : Nat) ({ cls := "java/lang/StringBuilder", name := "append", desc := "(Ljava/lang/String;)Ljava/lang/StringBuilder;" } : Jvm.MethodName)) ∈ lw_all := lw_g (lw_at lw_m13 0 rfl) rfl
theorem q3005 : (Jvm.Cond.methodLink "DoughLedger$Parser" (62 : Nat) ({ cls := "java/lang/StringBuilder", name := "append", desc := "(Ljava/lang/Object;)Ljava/lang/StringBuilder;" } : Jvm.MethodName)) ∈ lw_all := lw_g (lw_at lw_m13 1 rfl) rfl
theorem q3006 : (Jvm.Cond.methodLink "DoughLedger$Parser" (65 : Nat) ({ cls := "java/lang/StringBuilder", name := "append", desc := "(C)Ljava/lang/StringBuilder;" } : Jvm.MethodName)) ∈ lw_all := lw_g (lw_at lw_m13 2 rfl) rfl
theorem q3007 : (Jvm.Cond.methodLink "DoughLedger$Parser" (68 : Nat) ({ cls := "java/lang/StringBuilder", name := "toString", desc := "()Ljava/lang/String;" } : Jvm.MethodName)) ∈ lw_all := lw_g (lw_at lw_m13 3 rfl) rfl
theorem q3008 : (Jvm.Cond.methodLink "DoughLedger$Parser" (72 : Nat) ({ cls := "java/lang/String", name := "contains", desc := "(Ljava/lang/CharSequence;)Z" } : Jvm.MethodName)) ∈ lw_all := lw_g (lw_at lw_m13 4 rfl) rfl
theorem q3046 : (Jvm.Cond.methodLink "DoughLedger$Parser" (32 : Nat) ({ cls := "DoughLedger$Parser", name := "require", desc := "(Z)V" } : Jvm.MethodName)) ∈ lw_all := lw_g (lw_at lw_m13 42 rfl) rfl
theorem q3047 : (Jvm.Cond.privateMethod ({ cls := "DoughLedger$Parser", name := "require", desc := "(Z)V" } : Jvm.MethodName)) ∈ lw_tbl := lw_at lw_m13 43 rfl
theorem q3048 : (Jvm.Cond.instanceMethod ({ cls := "DoughLedger$Parser", name := "require", desc := "(Z)V" } : Jvm.MethodName)) ∈ lw_all := lw_g (lw_at lw_m13 44 rfl) rfl
theorem q3049 : (Jvm.Cond.code ({ cls := "DoughLedger$Parser", name := "require", desc := "(Z)V" } : Jvm.MethodName) prog_14_method_3_code (2 : Nat) (Option.none : Option Jvm.ClassFile.FieldType)) ∈ lw_all := lw_g (lw_at lw_m13 45 rfl) rfl
theorem q3050 : (Jvm.Cond.classLink "DoughLedger$Parser" (27 : Nat) "DoughLedger$SyntaxFailure") ∈ lw_all := lw_g (lw_at lw_m13 46 rfl) rfl
theorem q3059 : (Jvm.Cond.methodLink "DoughLedger$Parser" (29 : Nat) ({ cls := "DoughLedger$SyntaxFailure", name := "<init>", desc := "(I)V" } : Jvm.MethodName)) ∈ lw_all := lw_g (lw_at lw_m13 55 rfl) rfl
theorem q3068 : (Jvm.Cond.methodLink "DoughLedger$Parser" (76 : Nat) ({ cls := "java/lang/StringBuilder", name := "length", desc := "()I" } : Jvm.MethodName)) ∈ lw_all := lw_g (lw_at lw_m13 64 rfl) rfl
theorem q3069 : (Jvm.Cond.methodLink "DoughLedger$Parser" (80 : Nat) ({ cls := "java/lang/String", name := "hashCode", desc := "()I" } : Jvm.MethodName)) ∈ lw_all := lw_g (lw_at lw_m13 65 rfl) rfl
theorem q3126 : (Jvm.Cond.stringRef "DoughLedger$Parser" (83 : Nat) "dough") ∈ lw_tbl := lw_at lw_m13 122 rfl
theorem q3127 : (Jvm.Cond.methodLink "DoughLedger$Parser" (85 : Nat) ({ cls := "java/lang/String", name := "equals", desc := "(Ljava/lang/Object;)Z" } : Jvm.MethodName)) ∈ lw_all := lw_g (lw_at lw_m13 123 rfl) rfl
theorem q3134 : (Jvm.Cond.stringRef "DoughLedger$Parser" (89 : Nat) "bowl") ∈ lw_tbl := lw_at lw_m13 130 rfl
theorem q3135 : (Jvm.Cond.stringRef "DoughLedger$Parser" (91 : Nat) "loaf") ∈ lw_tbl := lw_at lw_m13 131 rfl
theorem q3136 : (Jvm.Cond.stringRef "DoughLedger$Parser" (93 : Nat) "round") ∈ lw_tbl := lw_at lw_m13 132 rfl
theorem q3137 : (Jvm.Cond.stringRef "DoughLedger$Parser" (95 : Nat) "mix") ∈ lw_tbl := lw_at lw_m13 133 rfl
theorem q3138 : (Jvm.Cond.stringRef "DoughLedger$Parser" (97 : Nat) "pour") ∈ lw_tbl := lw_at lw_m13 134 rfl
theorem q3139 : (Jvm.Cond.methodLink "DoughLedger$Parser" (99 : Nat) ({ cls := "DoughLedger$Parser", name := "numberAfter", desc := "(C)I" } : Jvm.MethodName)) ∈ lw_all := lw_g (lw_at lw_m13 135 rfl) rfl
theorem q3140 : (Jvm.Cond.privateMethod ({ cls := "DoughLedger$Parser", name := "numberAfter", desc := "(C)I" } : Jvm.MethodName)) ∈ lw_tbl := lw_at lw_m13 136 rfl
theorem q3141 : (Jvm.Cond.instanceMethod ({ cls := "DoughLedger$Parser", name := "numberAfter", desc := "(C)I" } : Jvm.MethodName)) ∈ lw_all := lw_g (lw_at lw_m13 137 rfl) rfl
theorem q3142 : (Jvm.Cond.code ({ cls := "DoughLedger$Parser", name := "numberAfter", desc := "(C)I" } : Jvm.MethodName) prog_14_method_8_code (4 : Nat) (Option.some Jvm.ClassFile.FieldType.int)) ∈ lw_all := lw_g (lw_at lw_m13 138 rfl) rfl
theorem q3143 : (Jvm.Cond.methodLink "DoughLedger$Parser" (44 : Nat) ({ cls := "DoughLedger$Parser", name := "taken", desc := "(Z)C" } : Jvm.MethodName)) ∈ lw_all := lw_g (lw_at lw_m13 139 rfl) rfl
theorem q3144 : (Jvm.Cond.privateMethod ({ cls := "DoughLedger$Parser", name := "taken", desc := "(Z)C" } : Jvm.MethodName)) ∈ lw_tbl := lw_at lw_m13 140 rfl
theorem q3145 : (Jvm.Cond.instanceMethod ({ cls := "DoughLedger$Parser", name := "taken", desc := "(Z)C" } : Jvm.MethodName)) ∈ lw_all := lw_g (lw_at lw_m13 141 rfl) rfl
theorem q3146 : (Jvm.Cond.code ({ cls := "DoughLedger$Parser", name := "taken", desc := "(Z)C" } : Jvm.MethodName) prog_14_method_4_code (2 : Nat) (Option.some Jvm.ClassFile.FieldType.char)) ∈ lw_all := lw_g (lw_at lw_m13 142 rfl) rfl
theorem q3147 : (Jvm.Cond.methodLink "DoughLedger$Parser" (48 : Nat) ({ cls := "DoughLedger$Parser", name := "digit", desc := "()I" } : Jvm.MethodName)) ∈ lw_all := lw_g (lw_at lw_m13 143 rfl) rfl
theorem q3148 : (Jvm.Cond.privateMethod ({ cls := "DoughLedger$Parser", name := "digit", desc := "()I" } : Jvm.MethodName)) ∈ lw_tbl := lw_at lw_m13 144 rfl
theorem q3149 : (Jvm.Cond.instanceMethod ({ cls := "DoughLedger$Parser", name := "digit", desc := "()I" } : Jvm.MethodName)) ∈ lw_all := lw_g (lw_at lw_m13 145 rfl) rfl
theorem q3150 : (Jvm.Cond.code ({ cls := "DoughLedger$Parser", name := "digit", desc := "()I" } : Jvm.MethodName) prog_14_method_6_code (1 : Nat) (Option.some Jvm.ClassFile.FieldType.int)) ∈ lw_all := lw_g (lw_at lw_m13 146 rfl) rfl
theorem q3151 : (Jvm.Cond.methodLink "DoughLedger$Parser" (40 : Nat) ({ cls := "DoughLedger$Parser", name := "isAtDigit", desc := "()Z" } : Jvm.MethodName)) ∈ lw_all := lw_g (lw_at lw_m13 147 rfl) rfl
theorem q3152 : (Jvm.Cond.privateMethod ({ cls := "DoughLedger$Parser", name := "isAtDigit", desc := "()Z" } : Jvm.MethodName)) ∈ lw_tbl := lw_at lw_m13 148 rfl
theorem q3153 : (Jvm.Cond.instanceMethod ({ cls := "DoughLedger$Parser", name := "isAtDigit", desc := "()Z" } : Jvm.MethodName)) ∈ lw_all := lw_g (lw_at lw_m13 149 rfl) rfl
theorem q3154 : (Jvm.Cond.code ({ cls := "DoughLedger$Parser", name := "isAtDigit", desc := "()Z" } : Jvm.MethodName) prog_14_method_5_code (1 : Nat) (Option.some Jvm.ClassFile.FieldType.boolean)) ∈ lw_all := lw_g (lw_at lw_m13 150 rfl) rfl
theorem q3155 : (Jvm.Cond.classLink "DoughLedger$Parser" (103 : Nat) "DoughLedger$Command") ∈ lw_all := lw_g (lw_at lw_m13 151 rfl) rfl
theorem q3157 : (Jvm.Cond.static ({ cls := "DoughLedger$Parser", name := "lambda$command$0", desc := "(IILDoughLedger$Bakery;)I" } : Jvm.MethodName)) ∈ lw_all := lw_g (lw_at lw_m13 153 rfl) rfl
theorem q3158 : (Jvm.Cond.code ({ cls := "DoughLedger$Parser", name := "lambda$command$0", desc := "(IILDoughLedger$Bakery;)I" } : Jvm.MethodName) prog_14_method_24_code (3 : Nat) (Option.some Jvm.ClassFile.FieldType.int)) ∈ lw_all := lw_g (lw_at lw_m13 154 rfl) rfl
theorem q3159 : (Jvm.Cond.methodLink "DoughLedger$Parser" (191 : Nat) ({ cls := "DoughLedger$Bakery", name := "addDough", desc := "(II)I" } : Jvm.MethodName)) ∈ lw_all := lw_g (lw_at lw_m13 155 rfl) rfl
theorem q3160 : (Jvm.Cond.methodLink "DoughLedger$Parser" (109 : Nat) ({ cls := "DoughLedger$Command", name := "<init>", desc := "(LDoughLedger$Step;)V" } : Jvm.MethodName)) ∈ lw_all := lw_g (lw_at lw_m13 156 rfl) rfl
theorem q3168 : (Jvm.Cond.static ({ cls := "DoughLedger$Parser", name := "lambda$command$1", desc := "(ILDoughLedger$Bakery;)I" } : Jvm.MethodName)) ∈ lw_all := lw_g (lw_at lw_m13 164 rfl) rfl
theorem q3169 : (Jvm.Cond.code ({ cls := "DoughLedger$Parser", name := "lambda$command$1", desc := "(ILDoughLedger$Bakery;)I" } : Jvm.MethodName) prog_14_method_23_code (2 : Nat) (Option.some Jvm.ClassFile.FieldType.int)) ∈ lw_all := lw_g (lw_at lw_m13 165 rfl) rfl
theorem q3170 : (Jvm.Cond.methodLink "DoughLedger$Parser" (188 : Nat) ({ cls := "DoughLedger$Bakery", name := "addBowl", desc := "(I)I" } : Jvm.MethodName)) ∈ lw_all := lw_g (lw_at lw_m13 166 rfl) rfl
theorem q3171 : (Jvm.Cond.static ({ cls := "DoughLedger$Parser", name := "lambda$command$2", desc := "(IILDoughLedger$Bakery;)I" } : Jvm.MethodName)) ∈ lw_all := lw_g (lw_at lw_m13 167 rfl) rfl
theorem q3172 : (Jvm.Cond.code ({ cls := "DoughLedger$Parser", name := "lambda$command$2", desc := "(IILDoughLedger$Bakery;)I" } : Jvm.MethodName) prog_14_method_22_code (3 : Nat) (Option.some Jvm.ClassFile.FieldType.int)) ∈ lw_all := lw_g (lw_at lw_m13 168 rfl) rfl
theorem q3173 : (Jvm.Cond.methodLink "DoughLedger$Parser" (185 : Nat) ({ cls := "DoughLedger$Bakery", name := "addLoaf", desc := "(II)I" } : Jvm.MethodName)) ∈ lw_all := lw_g (lw_at lw_m13 169 rfl) rfl
theorem q3174 : (Jvm.Cond.methodLinkNest "DoughLedger$Parser" (116 : Nat) ({ cls := "DoughLedger", name := "isRule", desc := "(I)Z" } : Jvm.MethodName) "DoughLedger") ∈ lw_tbl := lw_at lw_m13 170 rfl
theorem q3175 : (Jvm.Cond.static ({ cls := "DoughLedger$Parser", name := "lambda$command$3", desc := "(CLDoughLedger$Bakery;)I" } : Jvm.MethodName)) ∈ lw_all := lw_g (lw_at lw_m13 171 rfl) rfl
theorem q3176 : (Jvm.Cond.code ({ cls := "DoughLedger$Parser", name := "lambda$command$3", desc := "(CLDoughLedger$Bakery;)I" } : Jvm.MethodName) prog_14_method_21_code (2 : Nat) (Option.some Jvm.ClassFile.FieldType.int)) ∈ lw_all := lw_g (lw_at lw_m13 172 rfl) rfl
theorem q3177 : (Jvm.Cond.methodLink "DoughLedger$Parser" (182 : Nat) ({ cls := "DoughLedger$Bakery", name := "setRounding", desc := "(I)I" } : Jvm.MethodName)) ∈ lw_all := lw_g (lw_at lw_m13 173 rfl) rfl
theorem q3178 : (Jvm.Cond.methodLink "DoughLedger$Parser" (125 : Nat) ({ cls := "DoughLedger$Parser", name := "digitAfterSpace", desc := "()I" } : Jvm.MethodName)) ∈ lw_all := lw_g (lw_at lw_m13 174 rfl) rfl
theorem q3179 : (Jvm.Cond.privateMethod ({ cls := "DoughLedger$Parser", name := "digitAfterSpace", desc := "()I" } : Jvm.MethodName)) ∈ lw_tbl := lw_at lw_m13 175 rfl
theorem q3180 : (Jvm.Cond.instanceMethod ({ cls := "DoughLedger$Parser", name := "digitAfterSpace", desc := "()I" } : Jvm.MethodName)) ∈ lw_all := lw_g (lw_at lw_m13 176 rfl) rfl
theorem q3181 : (Jvm.Cond.code ({ cls := "DoughLedger$Parser", name := "digitAfterSpace", desc := "()I" } : Jvm.MethodName) prog_14_method_7_code (1 : Nat) (Option.some Jvm.ClassFile.FieldType.int)) ∈ lw_all := lw_g (lw_at lw_m13 177 rfl) rfl
theorem q3182 : (Jvm.Cond.methodLink "DoughLedger$Parser" (128 : Nat) ({ cls := "DoughLedger$Parser", name := "pair", desc := "(Ljava/lang/String;II)LDoughLedger$Step;" } : Jvm.MethodName)) ∈ lw_all := lw_g (lw_at lw_m13 178 rfl) rfl
theorem q3183 : (Jvm.Cond.static ({ cls := "DoughLedger$Parser", name := "pair", desc := "(Ljava/lang/String;II)LDoughLedger$Step;" } : Jvm.MethodName)) ∈ lw_all := lw_g (lw_at lw_m13 179 rfl) rfl
theorem q3184 : (Jvm.Cond.code ({ cls := "DoughLedger$Parser", name := "pair", desc := "(Ljava/lang/String;II)LDoughLedger$Step;" } : Jvm.MethodName) prog_14_method_11_code (3 : Nat) (Option.some (Jvm.ClassFile.FieldType.object "DoughLedger$Step"))) ∈ lw_all := lw_g (lw_at lw_m13 180 rfl) rfl
theorem q3185 : (Jvm.Cond.static ({ cls := "DoughLedger$Parser", name := "lambda$pair$4", desc := "(IILDoughLedger$Bakery;)I" } : Jvm.MethodName)) ∈ lw_all := lw_g (lw_at lw_m13 181 rfl) rfl
theorem q3186 : (Jvm.Cond.code ({ cls := "DoughLedger$Parser", name := "lambda$pair$4", desc := "(IILDoughLedger$Bakery;)I" } : Jvm.MethodName) prog_14_method_20_code (3 : Nat) (Option.some Jvm.ClassFile.FieldType.int)) ∈ lw_all := lw_g (lw_at lw_m13 182 rfl) rfl
theorem q3187 : (Jvm.Cond.methodLink "DoughLedger$Parser" (180 : Nat) ({ cls := "DoughLedger$Bakery", name := "mix", desc := "(II)I" } : Jvm.MethodName)) ∈ lw_all := lw_g (lw_at lw_m13 183 rfl) rfl
theorem q3188 : (Jvm.Cond.static ({ cls := "DoughLedger$Parser", name := "lambda$pair$5", desc := "(IILDoughLedger$Bakery;)I" } : Jvm.MethodName)) ∈ lw_all := lw_g (lw_at lw_m13 184 rfl) rfl
theorem q3189 : (Jvm.Cond.code ({ cls := "DoughLedger$Parser", name := "lambda$pair$5", desc := "(IILDoughLedger$Bakery;)I" } : Jvm.MethodName) prog_14_method_19_code (3 : Nat) (Option.some Jvm.ClassFile.FieldType.int)) ∈ lw_all := lw_g (lw_at lw_m13 185 rfl) rfl
theorem q3190 : (Jvm.Cond.methodLink "DoughLedger$Parser" (177 : Nat) ({ cls := "DoughLedger$Bakery", name := "pour", desc := "(II)I" } : Jvm.MethodName)) ∈ lw_all := lw_g (lw_at lw_m13 186 rfl) rfl
theorem q3191 : (Jvm.Cond.methodLink "DoughLedger$Parser" (132 : Nat) ({ cls := "DoughLedger$Parser", name := "single", desc := "(Ljava/lang/String;I)LDoughLedger$Step;" } : Jvm.MethodName)) ∈ lw_all := lw_g (lw_at lw_m13 187 rfl) rfl
theorem q3192 : (Jvm.Cond.static ({ cls := "DoughLedger$Parser", name := "single", desc := "(Ljava/lang/String;I)LDoughLedger$Step;" } : Jvm.MethodName)) ∈ lw_all := lw_g (lw_at lw_m13 188 rfl) rfl
theorem q3193 : (Jvm.Cond.code ({ cls := "DoughLedger$Parser", name := "single", desc := "(Ljava/lang/String;I)LDoughLedger$Step;" } : Jvm.MethodName) prog_14_method_12_code (4 : Nat) (Option.some (Jvm.ClassFile.FieldType.object "DoughLedger$Step"))) ∈ lw_all := lw_g (lw_at lw_m13 189 rfl) rfl
theorem q3194 : (Jvm.Cond.stringRef "DoughLedger$Parser" (138 : Nat) "sell") ∈ lw_tbl := lw_at lw_m13 190 rfl
theorem q3195 : (Jvm.Cond.stringRef "DoughLedger$Parser" (140 : Nat) "scale") ∈ lw_tbl := lw_at lw_m13 191 rfl
theorem q3196 : (Jvm.Cond.stringRef "DoughLedger$Parser" (142 : Nat) "empty") ∈ lw_tbl := lw_at lw_m13 192 rfl
theorem q3197 : (Jvm.Cond.stringRef "DoughLedger$Parser" (144 : Nat) "bake") ∈ lw_tbl := lw_at lw_m13 193 rfl
theorem q3198 : (Jvm.Cond.static ({ cls := "DoughLedger$Parser", name := "lambda$single$6", desc := "(ILDoughLedger$Bakery;)I" } : Jvm.MethodName)) ∈ lw_all := lw_g (lw_at lw_m13 194 rfl) rfl
theorem q3199 : (Jvm.Cond.code ({ cls := "DoughLedger$Parser", name := "lambda$single$6", desc := "(ILDoughLedger$Bakery;)I" } : Jvm.MethodName) prog_14_method_18_code (2 : Nat) (Option.some Jvm.ClassFile.FieldType.int)) ∈ lw_all := lw_g (lw_at lw_m13 195 rfl) rfl
theorem q3200 : (Jvm.Cond.methodLink "DoughLedger$Parser" (174 : Nat) ({ cls := "DoughLedger$Bakery", name := "sellLoaf", desc := "(I)I" } : Jvm.MethodName)) ∈ lw_all := lw_g (lw_at lw_m13 196 rfl) rfl
theorem q3201 : (Jvm.Cond.static ({ cls := "DoughLedger$Parser", name := "lambda$single$7", desc := "(ILDoughLedger$Bakery;)I" } : Jvm.MethodName)) ∈ lw_all := lw_g (lw_at lw_m13 197 rfl) rfl
theorem q3202 : (Jvm.Cond.code ({ cls := "DoughLedger$Parser", name := "lambda$single$7", desc := "(ILDoughLedger$Bakery;)I" } : Jvm.MethodName) prog_14_method_17_code (2 : Nat) (Option.some Jvm.ClassFile.FieldType.int)) ∈ lw_all := lw_g (lw_at lw_m13 198 rfl) rfl
theorem q3203 : (Jvm.Cond.methodLink "DoughLedger$Parser" (171 : Nat) ({ cls := "DoughLedger$Bakery", name := "setScale", desc := "(I)I" } : Jvm.MethodName)) ∈ lw_all := lw_g (lw_at lw_m13 199 rfl) rfl
theorem q3204 : (Jvm.Cond.static ({ cls := "DoughLedger$Parser", name := "lambda$single$8", desc := "(ILDoughLedger$Bakery;)I" } : Jvm.MethodName)) ∈ lw_all := lw_g (lw_at lw_m13 200 rfl) rfl
theorem q3205 : (Jvm.Cond.code ({ cls := "DoughLedger$Parser", name := "lambda$single$8", desc := "(ILDoughLedger$Bakery;)I" } : Jvm.MethodName) prog_14_method_16_code (2 : Nat) (Option.some Jvm.ClassFile.FieldType.int)) ∈ lw_all := lw_g (lw_at lw_m13 201 rfl) rfl
theorem q3206 : (Jvm.Cond.methodLink "DoughLedger$Parser" (169 : Nat) ({ cls := "DoughLedger$Bakery", name := "empty", desc := "(I)I" } : Jvm.MethodName)) ∈ lw_all := lw_g (lw_at lw_m13 202 rfl) rfl
theorem q3207 : (Jvm.Cond.static ({ cls := "DoughLedger$Parser", name := "lambda$single$9", desc := "(ILDoughLedger$Bakery;)I" } : Jvm.MethodName)) ∈ lw_all := lw_g (lw_at lw_m13 203 rfl) rfl
theorem q3208 : (Jvm.Cond.code ({ cls := "DoughLedger$Parser", name := "lambda$single$9", desc := "(ILDoughLedger$Bakery;)I" } : Jvm.MethodName) prog_14_method_15_code (2 : Nat) (Option.some Jvm.ClassFile.FieldType.int)) ∈ lw_all := lw_g (lw_at lw_m13 204 rfl) rfl
theorem q3209 : (Jvm.Cond.methodLink "DoughLedger$Parser" (167 : Nat) ({ cls := "DoughLedger$Bakery", name := "bake", desc := "(I)I" } : Jvm.MethodName)) ∈ lw_all := lw_g (lw_at lw_m13 205 rfl) rfl
theorem q3210 : (Jvm.Cond.static ({ cls := "DoughLedger$Parser", name := "lambda$single$10", desc := "(ILDoughLedger$Bakery;)I" } : Jvm.MethodName)) ∈ lw_all := lw_g (lw_at lw_m13 206 rfl) rfl
theorem q3211 : (Jvm.Cond.code ({ cls := "DoughLedger$Parser", name := "lambda$single$10", desc := "(ILDoughLedger$Bakery;)I" } : Jvm.MethodName) prog_14_method_14_code (2 : Nat) (Option.some Jvm.ClassFile.FieldType.int)) ∈ lw_all := lw_g (lw_at lw_m13 207 rfl) rfl
theorem q3212 : (Jvm.Cond.methodLink "DoughLedger$Parser" (161 : Nat) ({ cls := "DoughLedger$Bakery", name := "setOvens", desc := "(I)I" } : Jvm.MethodName)) ∈ lw_all := lw_g (lw_at lw_m13 208 rfl) rfl
theorem q3213 : (Jvm.Cond.methodLink "DoughLedger$Parser" (158 : Nat) ({ cls := "java/util/LinkedList", name := "add", desc := "(Ljava/lang/Object;)Z" } : Jvm.MethodName)) ∈ lw_all := lw_g (lw_at lw_m13 209 rfl) rfl
theorem q4068 : (Jvm.Cond.castable "DoughLedger$Parser" "java/lang/Object") ∈ lw_tbl := lw_at lw_m17 104 rfl
theorem in_X15 : ∀ w ∈ wsX150, w ∈ lw_all := lw_in wsX150 [2975, 2977] (by decide +kernel) (by decide +kernel)

/-! DoughLedger$SyntaxFailure -/
set_option maxRecDepth 100000
def RX16 : String := "DoughLedger$SyntaxFailure"
def TX16 : u_T := fun k => match k with
  | 0 => ("java/lang/Throwable", "cause", "Ljava/lang/Throwable;", false)
  | 1 => ("java/lang/Throwable", "stackTrace", "[Ljava/lang/StackTraceElement;", false)
  | 2 => ("java/lang/Throwable", "suppressedExceptions", "Ljava/util/List;", false)
  | 3 => ("java/lang/Throwable", "detailMessage", "Ljava/lang/String;", false)
  | 4 => ("java/lang/Throwable", "backtrace", "Ljava/lang/Object;", false)
  | 5 => ("java/lang/Throwable", "depth", "I", false)
  | _ => ("DoughLedger$SyntaxFailure", "position", "I", true)
def tyX16 : Nat → FieldType := fun k => match k with
  | 0 => .object "java/lang/Throwable"
  | 1 => .array (.object "java/lang/StackTraceElement")
  | 2 => .object "java/util/List"
  | 3 => .object "java/lang/String"
  | 4 => .object "java/lang/Object"
  | 5 => .int
  | _ => .int
abbrev wsX160 : List Cond := u_ws RX16 TX16 7
theorem nmX16 : ∀ a, a < 7 → ∀ b, b < 7 → a ≠ b → (TX16 a).2.1 ≠ (TX16 b).2.1 := by decide +kernel
theorem tyX16_ok : ∀ k, k < 7 → parseFieldDescriptor (TX16 k).2.2.1 = some (tyX16 k) := by decide +kernel
abbrev cX16_init : ByteArray := prog_19_method_1_code
def yX16_init : MethodName := ⟨RX16, "<init>", "(I)V"⟩
def dkwX16_init_0 : List UInt8 := [42, 1, 183, 0, 1, 42, 27, 181, 0, 7, 177]
abbrev dktX16_init_0 : List UInt8 := dkwX16_init_0 ++ []
theorem dksX16_init_0 : cX16_init.data.toList.drop 0 = dktX16_init_0 := by decide +kernel
theorem dX16_init_0 : decode cX16_init 0 = .ok (.aload_n 0, 1) := dk_42 (dk_at dksX16_init_0 0 rfl rfl)
theorem dX16_init_1 : decode cX16_init 1 = .ok (.aconst_null, 1) := dk_1 (dk_at dksX16_init_0 1 rfl rfl)
theorem dX16_init_2 : decode cX16_init 2 = .ok (.invokespecial 1, 3) := dk_183 0 1 (dk_at dksX16_init_0 2 rfl rfl)
theorem dX16_init_5 : decode cX16_init 5 = .ok (.aload_n 0, 1) := dk_42 (dk_at dksX16_init_0 5 rfl rfl)
theorem dX16_init_6 : decode cX16_init 6 = .ok (.iload_n 1, 1) := dk_27 (dk_at dksX16_init_0 6 rfl rfl)
theorem dX16_init_7 : decode cX16_init 7 = .ok (.putfield 7, 3) := dk_181 0 7 (dk_at dksX16_init_0 7 rfl rfl)
theorem dX16_init_10 : decode cX16_init 10 = .ok (.return_, 1) := dk_177 (dk_at dksX16_init_0 10 rfl rfl)
abbrev cX16_position : ByteArray := prog_19_method_2_code
def yX16_position : MethodName := ⟨RX16, "position", "()I"⟩
theorem dX16_position_0 : decode cX16_position 0 = .ok (.aload_n 0, 1) := by decide +kernel
theorem dX16_position_1 : decode cX16_position 1 = .ok (.getfield 7, 3) := by decide +kernel
theorem dX16_position_4 : decode cX16_position 4 = .ok (.ireturn, 1) := by decide +kernel
abbrev cX16_asPublicException : ByteArray := prog_19_method_3_code
def yX16_asPublicException : MethodName := ⟨RX16, "asPublicException", "()Ljava/lang/RuntimeException;"⟩
def dkwX16_asPublicException_0 : List UInt8 := [187, 0, 13, 89, 183, 0, 15, 176]
abbrev dktX16_asPublicException_0 : List UInt8 := dkwX16_asPublicException_0 ++ []
theorem dksX16_asPublicException_0 : cX16_asPublicException.data.toList.drop 0 = dktX16_asPublicException_0 := by decide +kernel
theorem dX16_asPublicException_0 : decode cX16_asPublicException 0 = .ok (.new 13, 3) := dk_187 0 13 (dk_at dksX16_asPublicException_0 0 rfl rfl)
theorem dX16_asPublicException_3 : decode cX16_asPublicException 3 = .ok (.dup, 1) := dk_89 (dk_at dksX16_asPublicException_0 3 rfl rfl)
theorem dX16_asPublicException_4 : decode cX16_asPublicException 4 = .ok (.invokespecial 15, 3) := dk_183 0 15 (dk_at dksX16_asPublicException_0 4 rfl rfl)
theorem dX16_asPublicException_7 : decode cX16_asPublicException 7 = .ok (.areturn, 1) := dk_176 (dk_at dksX16_asPublicException_0 7 rfl rfl)
theorem q190 : (Jvm.Cond.initialized "DoughLedger$SyntaxFailure") ∈ lw_all := lw_g (lw_at lw_m1 66 rfl) rfl
theorem q532 : (Jvm.Cond.selects "DoughLedger$SyntaxFailure" ({ cls := "java/lang/Throwable", name := "fillInStackTrace", desc := "()Ljava/lang/Throwable;" } : Jvm.MethodName) ({ cls := "java/lang/Throwable", name := "fillInStackTrace", desc := "()Ljava/lang/Throwable;" } : Jvm.MethodName)) ∈ lw_all := lw_g (lw_at lw_m2 168 rfl) rfl
theorem q934 : (Jvm.Cond.selects "DoughLedger$SyntaxFailure" ({ cls := "java/lang/Object", name := "getClass", desc := "()Ljava/lang/Class;" } : Jvm.MethodName) ({ cls := "java/lang/Object", name := "getClass", desc := "()Ljava/lang/Class;" } : Jvm.MethodName)) ∈ lw_all := lw_g (lw_at lw_m4 90 rfl) rfl
theorem q1441 : (Jvm.Cond.selects "DoughLedger$SyntaxFailure" ({ cls := "java/lang/Throwable", name := "toString", desc := "()Ljava/lang/String;" } : Jvm.MethodName) ({ cls := "java/lang/Throwable", name := "toString", desc := "()Ljava/lang/String;" } : Jvm.MethodName)) ∈ lw_all := lw_g (lw_at lw_m6 117 rfl) rfl
theorem q1457 : (Jvm.Cond.selects "DoughLedger$SyntaxFailure" ({ cls := "java/lang/Throwable", name := "getLocalizedMessage", desc := "()Ljava/lang/String;" } : Jvm.MethodName) ({ cls := "java/lang/Throwable", name := "getLocalizedMessage", desc := "()Ljava/lang/String;" } : Jvm.MethodName)) ∈ lw_all := lw_g (lw_at lw_m6 133 rfl) rfl
theorem q1472 : (Jvm.Cond.selects "DoughLedger$SyntaxFailure" ({ cls := "java/lang/Throwable", name := "getMessage", desc := "()Ljava/lang/String;" } : Jvm.MethodName) ({ cls := "java/lang/Throwable", name := "getMessage", desc := "()Ljava/lang/String;" } : Jvm.MethodName)) ∈ lw_all := lw_g (lw_at lw_m6 148 rfl) rfl
theorem q2863 : (Jvm.Cond.selects "DoughLedger$SyntaxFailure" ({ cls := "java/lang/Object", name := "toString", desc := "()Ljava/lang/String;" } : Jvm.MethodName) ({ cls := "java/lang/Throwable", name := "toString", desc := "()Ljava/lang/String;" } : Jvm.MethodName)) ∈ lw_all := lw_g (lw_at lw_m12 99 rfl) rfl
theorem q3051 : (Jvm.Cond.instantiable "DoughLedger$SyntaxFailure" (7 : Nat)) ∈ lw_all := lw_g (lw_at lw_m13 47 rfl) rfl
theorem q3052 : (Jvm.Cond.castable "DoughLedger$SyntaxFailure" "DoughLedger$SyntaxFailure") ∈ lw_tbl := lw_at lw_m13 48 rfl
theorem q3053 : (Jvm.Cond.selects "DoughLedger$SyntaxFailure" ({ cls := "java/lang/Throwable", name := "fillInStackTrace", desc := "(I)Ljava/lang/Throwable;" } : Jvm.MethodName) ({ cls := "java/lang/Throwable", name := "fillInStackTrace", desc := "(I)Ljava/lang/Throwable;" } : Jvm.MethodName)) ∈ lw_all := lw_g (lw_at lw_m13 49 rfl) rfl
theorem q3054 : (Jvm.Cond.lays "DoughLedger$SyntaxFailure" "java/lang/Throwable" "cause" "Ljava/lang/Throwable;") ∈ lw_all := lw_g (lw_at lw_m13 50 rfl) rfl
theorem q3055 : (Jvm.Cond.lays "DoughLedger$SyntaxFailure" "java/lang/Throwable" "stackTrace" "[Ljava/lang/StackTraceElement;") ∈ lw_all := lw_g (lw_at lw_m13 51 rfl) rfl
theorem q3056 : (Jvm.Cond.lays "DoughLedger$SyntaxFailure" "java/lang/Throwable" "suppressedExceptions" "Ljava/util/List;") ∈ lw_all := lw_g (lw_at lw_m13 52 rfl) rfl
theorem q3057 : (Jvm.Cond.lays "DoughLedger$SyntaxFailure" "java/lang/Throwable" "detailMessage" "Ljava/lang/String;") ∈ lw_all := lw_g (lw_at lw_m13 53 rfl) rfl
theorem q3058 : (Jvm.Cond.lays "DoughLedger$SyntaxFailure" "java/lang/Throwable" "backtrace" "Ljava/lang/Object;") ∈ lw_all := lw_g (lw_at lw_m13 54 rfl) rfl
theorem q3060 : (Jvm.Cond.instanceMethod ({ cls := "DoughLedger$SyntaxFailure", name := "<init>", desc := "(I)V" } : Jvm.MethodName)) ∈ lw_all := lw_g (lw_at lw_m13 56 rfl) rfl
theorem q3061 : (Jvm.Cond.code ({ cls := "DoughLedger$SyntaxFailure", name := "<init>", desc := "(I)V" } : Jvm.MethodName) prog_19_method_1_code (2 : Nat) (Option.none : Option Jvm.ClassFile.FieldType)) ∈ lw_all := lw_g (lw_at lw_m13 57 rfl) rfl
theorem q3062 : (Jvm.Cond.methodLink "DoughLedger$SyntaxFailure" (1 : Nat) ({ cls := "DoughLedger$Failure", name := "<init>", desc := "(LDoughLedger$Failure;)V" } : Jvm.MethodName)) ∈ lw_all := lw_g (lw_at lw_m13 58 rfl) rfl
theorem q3063 : (Jvm.Cond.fieldLink "DoughLedger$SyntaxFailure" (7 : Nat) "DoughLedger$SyntaxFailure" "position" "I") ∈ lw_all := lw_g (lw_at lw_m13 59 rfl) rfl
theorem q3064 : (Jvm.Cond.laysFinal "DoughLedger$SyntaxFailure" "DoughLedger$SyntaxFailure" "position" "I") ∈ lw_all := lw_g (lw_at lw_m13 60 rfl) rfl
theorem q3065 : (Jvm.Cond.soleField "DoughLedger$SyntaxFailure" "position") ∈ lw_all := lw_g (lw_at lw_m13 61 rfl) rfl
theorem q3066 : (Jvm.Cond.lays "DoughLedger$SyntaxFailure" "java/lang/Throwable" "depth" "I") ∈ lw_all := lw_g (lw_at lw_m13 62 rfl) rfl
theorem q3067 : (Jvm.Cond.superclass "DoughLedger$SyntaxFailure" "DoughLedger$Failure") ∈ lw_all := lw_g (lw_at lw_m13 63 rfl) rfl
theorem q3303 : (Jvm.Cond.instanceMethod ({ cls := "DoughLedger$SyntaxFailure", name := "position", desc := "()I" } : Jvm.MethodName)) ∈ lw_all := lw_g (lw_at lw_m14 59 rfl) rfl
theorem q3304 : (Jvm.Cond.selects "DoughLedger$SyntaxFailure" ({ cls := "DoughLedger$SyntaxFailure", name := "position", desc := "()I" } : Jvm.MethodName) ({ cls := "DoughLedger$SyntaxFailure", name := "position", desc := "()I" } : Jvm.MethodName)) ∈ lw_all := lw_g (lw_at lw_m14 60 rfl) rfl
theorem q3305 : (Jvm.Cond.code ({ cls := "DoughLedger$SyntaxFailure", name := "position", desc := "()I" } : Jvm.MethodName) prog_19_method_2_code (1 : Nat) (Option.some Jvm.ClassFile.FieldType.int)) ∈ lw_all := lw_g (lw_at lw_m14 61 rfl) rfl
theorem q3334 : (Jvm.Cond.selects "DoughLedger$SyntaxFailure" ({ cls := "DoughLedger$Failure", name := "asPublicException", desc := "()Ljava/lang/RuntimeException;" } : Jvm.MethodName) ({ cls := "DoughLedger$SyntaxFailure", name := "asPublicException", desc := "()Ljava/lang/RuntimeException;" } : Jvm.MethodName)) ∈ lw_all := lw_g (lw_at lw_m14 90 rfl) rfl
theorem q3335 : (Jvm.Cond.instanceMethod ({ cls := "DoughLedger$SyntaxFailure", name := "asPublicException", desc := "()Ljava/lang/RuntimeException;" } : Jvm.MethodName)) ∈ lw_all := lw_g (lw_at lw_m14 91 rfl) rfl
theorem q3336 : (Jvm.Cond.code ({ cls := "DoughLedger$SyntaxFailure", name := "asPublicException", desc := "()Ljava/lang/RuntimeException;" } : Jvm.MethodName) prog_19_method_3_code (1 : Nat) (Option.some (Jvm.ClassFile.FieldType.object "java/lang/RuntimeException"))) ∈ lw_all := lw_g (lw_at lw_m14 92 rfl) rfl
theorem q3337 : (Jvm.Cond.classLink "DoughLedger$SyntaxFailure" (13 : Nat) "java/lang/IllegalArgumentException") ∈ lw_all := lw_g (lw_at lw_m14 93 rfl) rfl
theorem q3338 : (Jvm.Cond.methodLink "DoughLedger$SyntaxFailure" (15 : Nat) ({ cls := "java/lang/IllegalArgumentException", name := "<init>", desc := "()V" } : Jvm.MethodName)) ∈ lw_all := lw_g (lw_at lw_m14 94 rfl) rfl
theorem q4069 : (Jvm.Cond.castable "DoughLedger$SyntaxFailure" "java/lang/Object") ∈ lw_tbl := lw_at lw_m17 105 rfl
theorem in_X16 : ∀ w ∈ wsX160, w ∈ lw_all := lw_in wsX160 [3054, 3055, 3056, 3057, 3058, 3066, 3064] (by decide +kernel) (by decide +kernel)

/-! DoughLedger$Command -/
set_option maxRecDepth 100000
def RX17 : String := "DoughLedger$Command"
def TX17 : u_T := fun k => match k with
  | _ => ("DoughLedger$Command", "step", "LDoughLedger$Step;", true)
def tyX17 : Nat → FieldType := fun k => match k with
  | _ => .object "DoughLedger$Step"
abbrev wsX170 : List Cond := u_ws RX17 TX17 1
theorem nmX17 : ∀ a, a < 1 → ∀ b, b < 1 → a ≠ b → (TX17 a).2.1 ≠ (TX17 b).2.1 := by decide +kernel
theorem tyX17_ok : ∀ k, k < 1 → parseFieldDescriptor (TX17 k).2.2.1 = some (tyX17 k) := by decide +kernel
abbrev cX17_init : ByteArray := prog_6_method_1_code
def yX17_init : MethodName := ⟨RX17, "<init>", "(LDoughLedger$Step;)V"⟩
def dkwX17_init_0 : List UInt8 := [42, 183, 0, 1, 42, 43, 181, 0, 7, 177]
abbrev dktX17_init_0 : List UInt8 := dkwX17_init_0 ++ []
theorem dksX17_init_0 : cX17_init.data.toList.drop 0 = dktX17_init_0 := by decide +kernel
theorem dX17_init_0 : decode cX17_init 0 = .ok (.aload_n 0, 1) := dk_42 (dk_at dksX17_init_0 0 rfl rfl)
theorem dX17_init_1 : decode cX17_init 1 = .ok (.invokespecial 1, 3) := dk_183 0 1 (dk_at dksX17_init_0 1 rfl rfl)
theorem dX17_init_4 : decode cX17_init 4 = .ok (.aload_n 0, 1) := dk_42 (dk_at dksX17_init_0 4 rfl rfl)
theorem dX17_init_5 : decode cX17_init 5 = .ok (.aload_n 1, 1) := dk_43 (dk_at dksX17_init_0 5 rfl rfl)
theorem dX17_init_6 : decode cX17_init 6 = .ok (.putfield 7, 3) := dk_181 0 7 (dk_at dksX17_init_0 6 rfl rfl)
theorem dX17_init_9 : decode cX17_init 9 = .ok (.return_, 1) := dk_177 (dk_at dksX17_init_0 9 rfl rfl)
abbrev cX17_applyTo : ByteArray := prog_6_method_2_code
def yX17_applyTo : MethodName := ⟨RX17, "applyTo", "(LDoughLedger$Bakery;)I"⟩
def dkwX17_applyTo_0 : List UInt8 := [42, 180, 0, 7, 43, 185, 0, 13, 2, 0, 172]
abbrev dktX17_applyTo_0 : List UInt8 := dkwX17_applyTo_0 ++ []
theorem dksX17_applyTo_0 : cX17_applyTo.data.toList.drop 0 = dktX17_applyTo_0 := by decide +kernel
theorem dX17_applyTo_0 : decode cX17_applyTo 0 = .ok (.aload_n 0, 1) := dk_42 (dk_at dksX17_applyTo_0 0 rfl rfl)
theorem dX17_applyTo_1 : decode cX17_applyTo 1 = .ok (.getfield 7, 3) := dk_180 0 7 (dk_at dksX17_applyTo_0 1 rfl rfl)
theorem dX17_applyTo_4 : decode cX17_applyTo 4 = .ok (.aload_n 1, 1) := dk_43 (dk_at dksX17_applyTo_0 4 rfl rfl)
theorem dX17_applyTo_5 : decode cX17_applyTo 5 = .ok (.invokeinterface 13 2, 5) := by decide +kernel
theorem dX17_applyTo_10 : decode cX17_applyTo 10 = .ok (.ireturn, 1) := dk_172 (dk_at dksX17_applyTo_0 10 rfl rfl)
theorem q191 : (Jvm.Cond.initialized "DoughLedger$Command") ∈ lw_all := lw_g (lw_at lw_m1 67 rfl) rfl
theorem q924 : (Jvm.Cond.selects "DoughLedger$Command" ({ cls := "java/lang/Object", name := "getClass", desc := "()Ljava/lang/Class;" } : Jvm.MethodName) ({ cls := "java/lang/Object", name := "getClass", desc := "()Ljava/lang/Class;" } : Jvm.MethodName)) ∈ lw_all := lw_g (lw_at lw_m4 80 rfl) rfl
theorem q2845 : (Jvm.Cond.selects "DoughLedger$Command" ({ cls := "java/lang/Object", name := "toString", desc := "()Ljava/lang/String;" } : Jvm.MethodName) ({ cls := "java/lang/Object", name := "toString", desc := "()Ljava/lang/String;" } : Jvm.MethodName)) ∈ lw_all := lw_g (lw_at lw_m12 81 rfl) rfl
theorem q3156 : (Jvm.Cond.instantiable "DoughLedger$Command" (1 : Nat)) ∈ lw_all := lw_g (lw_at lw_m13 152 rfl) rfl
theorem q3161 : (Jvm.Cond.instanceMethod ({ cls := "DoughLedger$Command", name := "<init>", desc := "(LDoughLedger$Step;)V" } : Jvm.MethodName)) ∈ lw_all := lw_g (lw_at lw_m13 157 rfl) rfl
theorem q3162 : (Jvm.Cond.code ({ cls := "DoughLedger$Command", name := "<init>", desc := "(LDoughLedger$Step;)V" } : Jvm.MethodName) prog_6_method_1_code (2 : Nat) (Option.none : Option Jvm.ClassFile.FieldType)) ∈ lw_all := lw_g (lw_at lw_m13 158 rfl) rfl
theorem q3163 : (Jvm.Cond.methodLink "DoughLedger$Command" (1 : Nat) ({ cls := "java/lang/Object", name := "<init>", desc := "()V" } : Jvm.MethodName)) ∈ lw_all := lw_g (lw_at lw_m13 159 rfl) rfl
theorem q3164 : (Jvm.Cond.fieldLink "DoughLedger$Command" (7 : Nat) "DoughLedger$Command" "step" "LDoughLedger$Step;") ∈ lw_all := lw_g (lw_at lw_m13 160 rfl) rfl
theorem q3165 : (Jvm.Cond.laysFinal "DoughLedger$Command" "DoughLedger$Command" "step" "LDoughLedger$Step;") ∈ lw_all := lw_g (lw_at lw_m13 161 rfl) rfl
theorem q3166 : (Jvm.Cond.soleField "DoughLedger$Command" "step") ∈ lw_all := lw_g (lw_at lw_m13 162 rfl) rfl
theorem q3167 : (Jvm.Cond.superclass "DoughLedger$Command" "java/lang/Object") ∈ lw_all := lw_g (lw_at lw_m13 163 rfl) rfl
theorem q3224 : (Jvm.Cond.instanceMethod ({ cls := "DoughLedger$Command", name := "applyTo", desc := "(LDoughLedger$Bakery;)I" } : Jvm.MethodName)) ∈ lw_all := lw_g (lw_at lw_m13 220 rfl) rfl
theorem q3225 : (Jvm.Cond.selects "DoughLedger$Command" ({ cls := "DoughLedger$Command", name := "applyTo", desc := "(LDoughLedger$Bakery;)I" } : Jvm.MethodName) ({ cls := "DoughLedger$Command", name := "applyTo", desc := "(LDoughLedger$Bakery;)I" } : Jvm.MethodName)) ∈ lw_all := lw_g (lw_at lw_m13 221 rfl) rfl
theorem q3226 : (Jvm.Cond.code ({ cls := "DoughLedger$Command", name := "applyTo", desc := "(LDoughLedger$Bakery;)I" } : Jvm.MethodName) prog_6_method_2_code (2 : Nat) (Option.some Jvm.ClassFile.FieldType.int)) ∈ lw_all := lw_g (lw_at lw_m13 222 rfl) rfl
theorem q3227 : (Jvm.Cond.interfaceEntry "DoughLedger$Command" (13 : Nat)) ∈ lw_tbl := lw_at lw_m13 223 rfl
theorem q3228 : (Jvm.Cond.methodLink "DoughLedger$Command" (13 : Nat) ({ cls := "DoughLedger$Step", name := "apply", desc := "(LDoughLedger$Bakery;)I" } : Jvm.MethodName)) ∈ lw_all := lw_g (lw_at lw_m13 224 rfl) rfl
theorem q4070 : (Jvm.Cond.castable "DoughLedger$Command" "java/lang/Object") ∈ lw_tbl := lw_at lw_m17 106 rfl
theorem in_X17 : ∀ w ∈ wsX170, w ∈ lw_all := lw_in wsX170 [3165] (by decide +kernel) (by decide +kernel)

/-! DoughLedger$CommandFailure -/
set_option maxRecDepth 100000
def RX18 : String := "DoughLedger$CommandFailure"
def TX18 : u_T := fun k => match k with
  | 0 => ("java/lang/Throwable", "cause", "Ljava/lang/Throwable;", false)
  | 1 => ("java/lang/Throwable", "stackTrace", "[Ljava/lang/StackTraceElement;", false)
  | 2 => ("java/lang/Throwable", "suppressedExceptions", "Ljava/util/List;", false)
  | 3 => ("java/lang/Throwable", "detailMessage", "Ljava/lang/String;", false)
  | 4 => ("java/lang/Throwable", "backtrace", "Ljava/lang/Object;", false)
  | 5 => ("java/lang/Throwable", "depth", "I", false)
  | _ => ("DoughLedger$CommandFailure", "index", "I", true)
def tyX18 : Nat → FieldType := fun k => match k with
  | 0 => .object "java/lang/Throwable"
  | 1 => .array (.object "java/lang/StackTraceElement")
  | 2 => .object "java/util/List"
  | 3 => .object "java/lang/String"
  | 4 => .object "java/lang/Object"
  | 5 => .int
  | _ => .int
abbrev wsX180 : List Cond := u_ws RX18 TX18 7
theorem nmX18 : ∀ a, a < 7 → ∀ b, b < 7 → a ≠ b → (TX18 a).2.1 ≠ (TX18 b).2.1 := by decide +kernel
theorem tyX18_ok : ∀ k, k < 7 → parseFieldDescriptor (TX18 k).2.2.1 = some (tyX18 k) := by decide +kernel
abbrev cX18_init : ByteArray := prog_7_method_1_code
def yX18_init : MethodName := ⟨RX18, "<init>", "(ILDoughLedger$ConditionFailure;)V"⟩
def dkwX18_init_0 : List UInt8 := [42, 44, 183, 0, 1, 42, 27, 181, 0, 7, 177]
abbrev dktX18_init_0 : List UInt8 := dkwX18_init_0 ++ []
theorem dksX18_init_0 : cX18_init.data.toList.drop 0 = dktX18_init_0 := by decide +kernel
theorem dX18_init_0 : decode cX18_init 0 = .ok (.aload_n 0, 1) := dk_42 (dk_at dksX18_init_0 0 rfl rfl)
theorem dX18_init_1 : decode cX18_init 1 = .ok (.aload_n 2, 1) := dk_44 (dk_at dksX18_init_0 1 rfl rfl)
theorem dX18_init_2 : decode cX18_init 2 = .ok (.invokespecial 1, 3) := dk_183 0 1 (dk_at dksX18_init_0 2 rfl rfl)
theorem dX18_init_5 : decode cX18_init 5 = .ok (.aload_n 0, 1) := dk_42 (dk_at dksX18_init_0 5 rfl rfl)
theorem dX18_init_6 : decode cX18_init 6 = .ok (.iload_n 1, 1) := dk_27 (dk_at dksX18_init_0 6 rfl rfl)
theorem dX18_init_7 : decode cX18_init 7 = .ok (.putfield 7, 3) := dk_181 0 7 (dk_at dksX18_init_0 7 rfl rfl)
theorem dX18_init_10 : decode cX18_init 10 = .ok (.return_, 1) := dk_177 (dk_at dksX18_init_0 10 rfl rfl)
abbrev cX18_index : ByteArray := prog_7_method_2_code
def yX18_index : MethodName := ⟨RX18, "index", "()I"⟩
theorem dX18_index_0 : decode cX18_index 0 = .ok (.aload_n 0, 1) := by decide +kernel
theorem dX18_index_1 : decode cX18_index 1 = .ok (.getfield 7, 3) := by decide +kernel
theorem dX18_index_4 : decode cX18_index 4 = .ok (.ireturn, 1) := by decide +kernel
abbrev cX18_kind : ByteArray := prog_7_method_3_code
def yX18_kind : MethodName := ⟨RX18, "kind", "()C"⟩
def dkwX18_kind_1 : List UInt8 := [16, 32, 172]
abbrev dktX18_kind_1 : List UInt8 := dkwX18_kind_1 ++ []
def dkwX18_kind_0 : List UInt8 := [42, 182, 0, 13, 77, 44, 193, 0, 17, 153, 0, 15, 44, 192, 0, 17, 76, 43, 182, 0, 19, 167, 0, 5]
abbrev dktX18_kind_0 : List UInt8 := dkwX18_kind_0 ++ dktX18_kind_1
theorem dksX18_kind_0 : cX18_kind.data.toList.drop 0 = dktX18_kind_0 := by decide +kernel
theorem dksX18_kind_1 : cX18_kind.data.toList.drop 24 = dktX18_kind_1 := dk_seg dksX18_kind_0 24 rfl rfl
theorem dX18_kind_0 : decode cX18_kind 0 = .ok (.aload_n 0, 1) := dk_42 (dk_at dksX18_kind_0 0 rfl rfl)
theorem dX18_kind_1 : decode cX18_kind 1 = .ok (.invokevirtual 13, 3) := dk_182 0 13 (dk_at dksX18_kind_0 1 rfl rfl)
theorem dX18_kind_4 : decode cX18_kind 4 = .ok (.astore_n 2, 1) := dk_77 (dk_at dksX18_kind_0 4 rfl rfl)
theorem dX18_kind_5 : decode cX18_kind 5 = .ok (.aload_n 2, 1) := dk_44 (dk_at dksX18_kind_0 5 rfl rfl)
theorem dX18_kind_6 : decode cX18_kind 6 = .ok (.instanceof 17, 3) := dk_193 0 17 (dk_at dksX18_kind_0 6 rfl rfl)
theorem dX18_kind_9 : decode cX18_kind 9 = .ok (.ifCond .eq 15, 3) := dk_153 0 15 (dk_at dksX18_kind_0 9 rfl rfl)
theorem dX18_kind_12 : decode cX18_kind 12 = .ok (.aload_n 2, 1) := dk_44 (dk_at dksX18_kind_0 12 rfl rfl)
theorem dX18_kind_13 : decode cX18_kind 13 = .ok (.checkcast 17, 3) := dk_192 0 17 (dk_at dksX18_kind_0 13 rfl rfl)
theorem dX18_kind_16 : decode cX18_kind 16 = .ok (.astore_n 1, 1) := dk_76 (dk_at dksX18_kind_0 16 rfl rfl)
theorem dX18_kind_17 : decode cX18_kind 17 = .ok (.aload_n 1, 1) := dk_43 (dk_at dksX18_kind_0 17 rfl rfl)
theorem dX18_kind_18 : decode cX18_kind 18 = .ok (.invokevirtual 19, 3) := dk_182 0 19 (dk_at dksX18_kind_0 18 rfl rfl)
theorem dX18_kind_21 : decode cX18_kind 21 = .ok (.goto 5, 3) := dk_167 0 5 (dk_at dksX18_kind_0 21 rfl rfl)
theorem dX18_kind_24 : decode cX18_kind 24 = .ok (.bipush 32, 2) := dk_16 32 (dk_at dksX18_kind_1 0 rfl rfl)
theorem dX18_kind_26 : decode cX18_kind 26 = .ok (.ireturn, 1) := dk_172 (dk_at dksX18_kind_1 2 rfl rfl)
abbrev cX18_asPublicException : ByteArray := prog_7_method_4_code
def yX18_asPublicException : MethodName := ⟨RX18, "asPublicException", "()Ljava/lang/RuntimeException;"⟩
def dkwX18_asPublicException_0 : List UInt8 := [187, 0, 23, 89, 183, 0, 25, 176]
abbrev dktX18_asPublicException_0 : List UInt8 := dkwX18_asPublicException_0 ++ []
theorem dksX18_asPublicException_0 : cX18_asPublicException.data.toList.drop 0 = dktX18_asPublicException_0 := by decide +kernel
theorem dX18_asPublicException_0 : decode cX18_asPublicException 0 = .ok (.new 23, 3) := dk_187 0 23 (dk_at dksX18_asPublicException_0 0 rfl rfl)
theorem dX18_asPublicException_3 : decode cX18_asPublicException 3 = .ok (.dup, 1) := dk_89 (dk_at dksX18_asPublicException_0 3 rfl rfl)
theorem dX18_asPublicException_4 : decode cX18_asPublicException 4 = .ok (.invokespecial 25, 3) := dk_183 0 25 (dk_at dksX18_asPublicException_0 4 rfl rfl)
theorem dX18_asPublicException_7 : decode cX18_asPublicException 7 = .ok (.areturn, 1) := dk_176 (dk_at dksX18_asPublicException_0 7 rfl rfl)
theorem q192 : (Jvm.Cond.initialized "DoughLedger$CommandFailure") ∈ lw_all := lw_g (lw_at lw_m1 68 rfl) rfl
theorem q530 : (Jvm.Cond.selects "DoughLedger$CommandFailure" ({ cls := "java/lang/Throwable", name := "fillInStackTrace", desc := "()Ljava/lang/Throwable;" } : Jvm.MethodName) ({ cls := "java/lang/Throwable", name := "fillInStackTrace", desc := "()Ljava/lang/Throwable;" } : Jvm.MethodName)) ∈ lw_all := lw_g (lw_at lw_m2 166 rfl) rfl
theorem q925 : (Jvm.Cond.selects "DoughLedger$CommandFailure" ({ cls := "java/lang/Object", name := "getClass", desc := "()Ljava/lang/Class;" } : Jvm.MethodName) ({ cls := "java/lang/Object", name := "getClass", desc := "()Ljava/lang/Class;" } : Jvm.MethodName)) ∈ lw_all := lw_g (lw_at lw_m4 81 rfl) rfl
theorem q1439 : (Jvm.Cond.selects "DoughLedger$CommandFailure" ({ cls := "java/lang/Throwable", name := "toString", desc := "()Ljava/lang/String;" } : Jvm.MethodName) ({ cls := "java/lang/Throwable", name := "toString", desc := "()Ljava/lang/String;" } : Jvm.MethodName)) ∈ lw_all := lw_g (lw_at lw_m6 115 rfl) rfl
theorem q1455 : (Jvm.Cond.selects "DoughLedger$CommandFailure" ({ cls := "java/lang/Throwable", name := "getLocalizedMessage", desc := "()Ljava/lang/String;" } : Jvm.MethodName) ({ cls := "java/lang/Throwable", name := "getLocalizedMessage", desc := "()Ljava/lang/String;" } : Jvm.MethodName)) ∈ lw_all := lw_g (lw_at lw_m6 131 rfl) rfl
theorem q1470 : (Jvm.Cond.selects "DoughLedger$CommandFailure" ({ cls := "java/lang/Throwable", name := "getMessage", desc := "()Ljava/lang/String;" } : Jvm.MethodName) ({ cls := "java/lang/Throwable", name := "getMessage", desc := "()Ljava/lang/String;" } : Jvm.MethodName)) ∈ lw_all := lw_g (lw_at lw_m6 146 rfl) rfl
theorem q2846 : (Jvm.Cond.selects "DoughLedger$CommandFailure" ({ cls := "java/lang/Object", name := "toString", desc := "()Ljava/lang/String;" } : Jvm.MethodName) ({ cls := "java/lang/Throwable", name := "toString", desc := "()Ljava/lang/String;" } : Jvm.MethodName)) ∈ lw_all := lw_g (lw_at lw_m12 82 rfl) rfl
theorem q3229 : (Jvm.Cond.instantiable "DoughLedger$CommandFailure" (7 : Nat)) ∈ lw_all := lw_g (lw_at lw_m13 225 rfl) rfl
theorem q3230 : (Jvm.Cond.castable "DoughLedger$CommandFailure" "DoughLedger$CommandFailure") ∈ lw_tbl := lw_at lw_m13 226 rfl
theorem q3231 : (Jvm.Cond.selects "DoughLedger$CommandFailure" ({ cls := "java/lang/Throwable", name := "fillInStackTrace", desc := "(I)Ljava/lang/Throwable;" } : Jvm.MethodName) ({ cls := "java/lang/Throwable", name := "fillInStackTrace", desc := "(I)Ljava/lang/Throwable;" } : Jvm.MethodName)) ∈ lw_all := lw_g (lw_at lw_m13 227 rfl) rfl
theorem q3232 : (Jvm.Cond.lays "DoughLedger$CommandFailure" "java/lang/Throwable" "cause" "Ljava/lang/Throwable;") ∈ lw_all := lw_g (lw_at lw_m13 228 rfl) rfl
theorem q3233 : (Jvm.Cond.lays "DoughLedger$CommandFailure" "java/lang/Throwable" "stackTrace" "[Ljava/lang/StackTraceElement;") ∈ lw_all := lw_g (lw_at lw_m13 229 rfl) rfl
theorem q3234 : (Jvm.Cond.lays "DoughLedger$CommandFailure" "java/lang/Throwable" "suppressedExceptions" "Ljava/util/List;") ∈ lw_all := lw_g (lw_at lw_m13 230 rfl) rfl
theorem q3235 : (Jvm.Cond.lays "DoughLedger$CommandFailure" "java/lang/Throwable" "detailMessage" "Ljava/lang/String;") ∈ lw_all := lw_g (lw_at lw_m13 231 rfl) rfl
theorem q3236 : (Jvm.Cond.lays "DoughLedger$CommandFailure" "java/lang/Throwable" "backtrace" "Ljava/lang/Object;") ∈ lw_all := lw_g (lw_at lw_m13 232 rfl) rfl
theorem q3238 : (Jvm.Cond.instanceMethod ({ cls := "DoughLedger$CommandFailure", name := "<init>", desc := "(ILDoughLedger$ConditionFailure;)V" } : Jvm.MethodName)) ∈ lw_all := lw_g (lw_at lw_m13 234 rfl) rfl
theorem q3239 : (Jvm.Cond.code ({ cls := "DoughLedger$CommandFailure", name := "<init>", desc := "(ILDoughLedger$ConditionFailure;)V" } : Jvm.MethodName) prog_7_method_1_code (3 : Nat) (Option.none : Option Jvm.ClassFile.FieldType)) ∈ lw_all := lw_g (lw_at lw_m13 235 rfl) rfl
theorem q3240 : (Jvm.Cond.methodLink "DoughLedger$CommandFailure" (1 : Nat) ({ cls := "DoughLedger$Failure", name := "<init>", desc := "(LDoughLedger$Failure;)V" } : Jvm.MethodName)) ∈ lw_all := lw_g (lw_at lw_m13 236 rfl) rfl
theorem q3241 : (Jvm.Cond.fieldLink "DoughLedger$CommandFailure" (7 : Nat) "DoughLedger$CommandFailure" "index" "I") ∈ lw_all := lw_g (lw_at lw_m13 237 rfl) rfl
theorem q3242 : (Jvm.Cond.laysFinal "DoughLedger$CommandFailure" "DoughLedger$CommandFailure" "index" "I") ∈ lw_all := lw_g (lw_at lw_m13 238 rfl) rfl
theorem q3243 : (Jvm.Cond.soleField "DoughLedger$CommandFailure" "index") ∈ lw_all := lw_g (lw_at lw_m13 239 rfl) rfl
theorem q3244 : (Jvm.Cond.lays "DoughLedger$CommandFailure" "java/lang/Throwable" "depth" "I") ∈ lw_all := lw_g (lw_at lw_m14 0 rfl) rfl
theorem q3245 : (Jvm.Cond.superclass "DoughLedger$CommandFailure" "DoughLedger$Failure") ∈ lw_all := lw_g (lw_at lw_m14 1 rfl) rfl
theorem q3307 : (Jvm.Cond.instanceMethod ({ cls := "DoughLedger$CommandFailure", name := "index", desc := "()I" } : Jvm.MethodName)) ∈ lw_all := lw_g (lw_at lw_m14 63 rfl) rfl
theorem q3308 : (Jvm.Cond.selects "DoughLedger$CommandFailure" ({ cls := "DoughLedger$CommandFailure", name := "index", desc := "()I" } : Jvm.MethodName) ({ cls := "DoughLedger$CommandFailure", name := "index", desc := "()I" } : Jvm.MethodName)) ∈ lw_all := lw_g (lw_at lw_m14 64 rfl) rfl
theorem q3309 : (Jvm.Cond.code ({ cls := "DoughLedger$CommandFailure", name := "index", desc := "()I" } : Jvm.MethodName) prog_7_method_2_code (1 : Nat) (Option.some Jvm.ClassFile.FieldType.int)) ∈ lw_all := lw_g (lw_at lw_m14 65 rfl) rfl
theorem q3311 : (Jvm.Cond.instanceMethod ({ cls := "DoughLedger$CommandFailure", name := "kind", desc := "()C" } : Jvm.MethodName)) ∈ lw_all := lw_g (lw_at lw_m14 67 rfl) rfl
theorem q3312 : (Jvm.Cond.selects "DoughLedger$CommandFailure" ({ cls := "DoughLedger$CommandFailure", name := "kind", desc := "()C" } : Jvm.MethodName) ({ cls := "DoughLedger$CommandFailure", name := "kind", desc := "()C" } : Jvm.MethodName)) ∈ lw_all := lw_g (lw_at lw_m14 68 rfl) rfl
theorem q3313 : (Jvm.Cond.code ({ cls := "DoughLedger$CommandFailure", name := "kind", desc := "()C" } : Jvm.MethodName) prog_7_method_3_code (3 : Nat) (Option.some Jvm.ClassFile.FieldType.char)) ∈ lw_all := lw_g (lw_at lw_m14 69 rfl) rfl
theorem q3314 : (Jvm.Cond.methodLink "DoughLedger$CommandFailure" (13 : Nat) ({ cls := "DoughLedger$CommandFailure", name := "getCause", desc := "()Ljava/lang/Throwable;" } : Jvm.MethodName)) ∈ lw_all := lw_g (lw_at lw_m14 70 rfl) rfl
theorem q3315 : (Jvm.Cond.sameMethod "DoughLedger$CommandFailure" "java/lang/Throwable" "getCause" "()Ljava/lang/Throwable;") ∈ lw_all := lw_g (lw_at lw_m14 71 rfl) rfl
theorem q3317 : (Jvm.Cond.selects "DoughLedger$CommandFailure" ({ cls := "DoughLedger$CommandFailure", name := "getCause", desc := "()Ljava/lang/Throwable;" } : Jvm.MethodName) ({ cls := "java/lang/Throwable", name := "getCause", desc := "()Ljava/lang/Throwable;" } : Jvm.MethodName)) ∈ lw_all := lw_g (lw_at lw_m14 73 rfl) rfl
theorem q3320 : (Jvm.Cond.classLink "DoughLedger$CommandFailure" (17 : Nat) "DoughLedger$ConditionFailure") ∈ lw_all := lw_g (lw_at lw_m14 76 rfl) rfl
theorem q3321 : (Jvm.Cond.methodLink "DoughLedger$CommandFailure" (19 : Nat) ({ cls := "DoughLedger$ConditionFailure", name := "kind", desc := "()C" } : Jvm.MethodName)) ∈ lw_all := lw_g (lw_at lw_m14 77 rfl) rfl
theorem q3328 : (Jvm.Cond.selects "DoughLedger$CommandFailure" ({ cls := "DoughLedger$Failure", name := "asPublicException", desc := "()Ljava/lang/RuntimeException;" } : Jvm.MethodName) ({ cls := "DoughLedger$CommandFailure", name := "asPublicException", desc := "()Ljava/lang/RuntimeException;" } : Jvm.MethodName)) ∈ lw_all := lw_g (lw_at lw_m14 84 rfl) rfl
theorem q3329 : (Jvm.Cond.instanceMethod ({ cls := "DoughLedger$CommandFailure", name := "asPublicException", desc := "()Ljava/lang/RuntimeException;" } : Jvm.MethodName)) ∈ lw_all := lw_g (lw_at lw_m14 85 rfl) rfl
theorem q3330 : (Jvm.Cond.code ({ cls := "DoughLedger$CommandFailure", name := "asPublicException", desc := "()Ljava/lang/RuntimeException;" } : Jvm.MethodName) prog_7_method_4_code (1 : Nat) (Option.some (Jvm.ClassFile.FieldType.object "java/lang/RuntimeException"))) ∈ lw_all := lw_g (lw_at lw_m14 86 rfl) rfl
theorem q3331 : (Jvm.Cond.classLink "DoughLedger$CommandFailure" (23 : Nat) "java/lang/IllegalStateException") ∈ lw_all := lw_g (lw_at lw_m14 87 rfl) rfl
theorem q3332 : (Jvm.Cond.methodLink "DoughLedger$CommandFailure" (25 : Nat) ({ cls := "java/lang/IllegalStateException", name := "<init>", desc := "()V" } : Jvm.MethodName)) ∈ lw_all := lw_g (lw_at lw_m14 88 rfl) rfl
theorem q4071 : (Jvm.Cond.castable "DoughLedger$CommandFailure" "java/lang/Object") ∈ lw_tbl := lw_at lw_m17 107 rfl
theorem in_X18 : ∀ w ∈ wsX180, w ∈ lw_all := lw_in wsX180 [3232, 3233, 3234, 3235, 3236, 3244, 3242] (by decide +kernel) (by decide +kernel)
