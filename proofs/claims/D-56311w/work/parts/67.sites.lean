/-! the program's sites of lambdas -/
set_option maxRecDepth 100000
abbrev l_x1 : MethodName := ⟨"DoughLedger", "rounding", "(C)LDoughLedger$Rounding;"⟩
def l_s1 : Lambda.Shape := { iface := "DoughLedger$Rounding", name := "round", sam := ({ parameters := [FieldType.int, FieldType.int], returnType := (some FieldType.int) } : MethodDescriptor), captured := [], kind := 6, implClass := "DoughLedger", implName := "lambda$rounding$0", implDesc := ({ parameters := [FieldType.int, FieldType.int], returnType := (some FieldType.int) } : MethodDescriptor), implItf := false, inst := ({ parameters := [FieldType.int, FieldType.int], returnType := (some FieldType.int) } : MethodDescriptor) }
abbrev l_C1 : ByteArray := ⟨#[27, 28, 184, 0, 17, 172]⟩
theorem l_F1 : fwF l_s1 "DoughLedger" l_C1 3 17 14 13 16 := by unfold fwF; decide +kernel
theorem l_T1 : (fwL l_s1 "DoughLedger").2.1 = l_s1.captured.toArray := by decide +kernel
abbrev l_x2 : MethodName := ⟨"DoughLedger", "rounding", "(C)LDoughLedger$Rounding;"⟩
def l_s2 : Lambda.Shape := { iface := "DoughLedger$Rounding", name := "round", sam := ({ parameters := [FieldType.int, FieldType.int], returnType := (some FieldType.int) } : MethodDescriptor), captured := [], kind := 6, implClass := "DoughLedger", implName := "lambda$rounding$1", implDesc := ({ parameters := [FieldType.int, FieldType.int], returnType := (some FieldType.int) } : MethodDescriptor), implItf := false, inst := ({ parameters := [FieldType.int, FieldType.int], returnType := (some FieldType.int) } : MethodDescriptor) }
abbrev l_C2 : ByteArray := ⟨#[27, 28, 184, 0, 17, 172]⟩
theorem l_F2 : fwF l_s2 "DoughLedger" l_C2 3 17 14 13 16 := by unfold fwF; decide +kernel
theorem l_T2 : (fwL l_s2 "DoughLedger").2.1 = l_s2.captured.toArray := by decide +kernel
abbrev l_x3 : MethodName := ⟨"DoughLedger", "rounding", "(C)LDoughLedger$Rounding;"⟩
def l_s3 : Lambda.Shape := { iface := "DoughLedger$Rounding", name := "round", sam := ({ parameters := [FieldType.int, FieldType.int], returnType := (some FieldType.int) } : MethodDescriptor), captured := [], kind := 6, implClass := "DoughLedger", implName := "lambda$rounding$2", implDesc := ({ parameters := [FieldType.int, FieldType.int], returnType := (some FieldType.int) } : MethodDescriptor), implItf := false, inst := ({ parameters := [FieldType.int, FieldType.int], returnType := (some FieldType.int) } : MethodDescriptor) }
abbrev l_C3 : ByteArray := ⟨#[27, 28, 184, 0, 17, 172]⟩
theorem l_F3 : fwF l_s3 "DoughLedger" l_C3 3 17 14 13 16 := by unfold fwF; decide +kernel
theorem l_T3 : (fwL l_s3 "DoughLedger").2.1 = l_s3.captured.toArray := by decide +kernel
abbrev l_x4 : MethodName := ⟨"DoughLedger", "rounding", "(C)LDoughLedger$Rounding;"⟩
def l_s4 : Lambda.Shape := { iface := "DoughLedger$Rounding", name := "round", sam := ({ parameters := [FieldType.int, FieldType.int], returnType := (some FieldType.int) } : MethodDescriptor), captured := [], kind := 6, implClass := "DoughLedger", implName := "lambda$rounding$3", implDesc := ({ parameters := [FieldType.int, FieldType.int], returnType := (some FieldType.int) } : MethodDescriptor), implItf := false, inst := ({ parameters := [FieldType.int, FieldType.int], returnType := (some FieldType.int) } : MethodDescriptor) }
abbrev l_C4 : ByteArray := ⟨#[27, 28, 184, 0, 17, 172]⟩
theorem l_F4 : fwF l_s4 "DoughLedger" l_C4 3 17 14 13 16 := by unfold fwF; decide +kernel
theorem l_T4 : (fwL l_s4 "DoughLedger").2.1 = l_s4.captured.toArray := by decide +kernel
abbrev l_x5 : MethodName := ⟨"DoughLedger", "addDough", "(II)I"⟩
def l_s5 : Lambda.Shape := { iface := "DoughLedger$Step", name := "apply", sam := ({ parameters := [(FieldType.object "DoughLedger$Bakery")], returnType := (some FieldType.int) } : MethodDescriptor), captured := [FieldType.int, FieldType.int], kind := 6, implClass := "DoughLedger", implName := "lambda$addDough$4", implDesc := ({ parameters := [FieldType.int, FieldType.int, (FieldType.object "DoughLedger$Bakery")], returnType := (some FieldType.int) } : MethodDescriptor), implItf := false, inst := ({ parameters := [(FieldType.object "DoughLedger$Bakery")], returnType := (some FieldType.int) } : MethodDescriptor) }
abbrev l_C5 : ByteArray := ⟨#[42, 180, 0, 16, 42, 180, 0, 18, 43, 184, 0, 26, 172]⟩
theorem l_F5 : fwF l_s5 "DoughLedger" l_C5 2 26 22 21 25 := by unfold fwF; decide +kernel
theorem l_T5 : (fwL l_s5 "DoughLedger").2.1 = l_s5.captured.toArray := by decide +kernel
theorem l_G5_0 : fwG l_s5 "DoughLedger" 16 15 0 "arg$1" "I" := by unfold fwG; decide +kernel
theorem l_G5_1 : fwG l_s5 "DoughLedger" 18 17 1 "arg$2" "I" := by unfold fwG; decide +kernel
abbrev l_x6 : MethodName := ⟨"DoughLedger", "mix", "(II)I"⟩
def l_s6 : Lambda.Shape := { iface := "DoughLedger$Step", name := "apply", sam := ({ parameters := [(FieldType.object "DoughLedger$Bakery")], returnType := (some FieldType.int) } : MethodDescriptor), captured := [FieldType.int, FieldType.int], kind := 6, implClass := "DoughLedger", implName := "lambda$mix$5", implDesc := ({ parameters := [FieldType.int, FieldType.int, (FieldType.object "DoughLedger$Bakery")], returnType := (some FieldType.int) } : MethodDescriptor), implItf := false, inst := ({ parameters := [(FieldType.object "DoughLedger$Bakery")], returnType := (some FieldType.int) } : MethodDescriptor) }
abbrev l_C6 : ByteArray := ⟨#[42, 180, 0, 16, 42, 180, 0, 18, 43, 184, 0, 26, 172]⟩
theorem l_F6 : fwF l_s6 "DoughLedger" l_C6 2 26 22 21 25 := by unfold fwF; decide +kernel
theorem l_T6 : (fwL l_s6 "DoughLedger").2.1 = l_s6.captured.toArray := by decide +kernel
theorem l_G6_0 : fwG l_s6 "DoughLedger" 16 15 0 "arg$1" "I" := by unfold fwG; decide +kernel
theorem l_G6_1 : fwG l_s6 "DoughLedger" 18 17 1 "arg$2" "I" := by unfold fwG; decide +kernel
abbrev l_x7 : MethodName := ⟨"DoughLedger", "addBowl", "(I)I"⟩
def l_s7 : Lambda.Shape := { iface := "DoughLedger$Step", name := "apply", sam := ({ parameters := [(FieldType.object "DoughLedger$Bakery")], returnType := (some FieldType.int) } : MethodDescriptor), captured := [FieldType.int], kind := 6, implClass := "DoughLedger", implName := "lambda$addBowl$6", implDesc := ({ parameters := [FieldType.int, (FieldType.object "DoughLedger$Bakery")], returnType := (some FieldType.int) } : MethodDescriptor), implItf := false, inst := ({ parameters := [(FieldType.object "DoughLedger$Bakery")], returnType := (some FieldType.int) } : MethodDescriptor) }
abbrev l_C7 : ByteArray := ⟨#[42, 180, 0, 15, 43, 184, 0, 23, 172]⟩
theorem l_F7 : fwF l_s7 "DoughLedger" l_C7 2 23 19 18 22 := by unfold fwF; decide +kernel
theorem l_T7 : (fwL l_s7 "DoughLedger").2.1 = l_s7.captured.toArray := by decide +kernel
theorem l_G7_0 : fwG l_s7 "DoughLedger" 15 14 0 "arg$1" "I" := by unfold fwG; decide +kernel
abbrev l_x8 : MethodName := ⟨"DoughLedger", "addLoaf", "(II)I"⟩
def l_s8 : Lambda.Shape := { iface := "DoughLedger$Step", name := "apply", sam := ({ parameters := [(FieldType.object "DoughLedger$Bakery")], returnType := (some FieldType.int) } : MethodDescriptor), captured := [FieldType.int, FieldType.int], kind := 6, implClass := "DoughLedger", implName := "lambda$addLoaf$7", implDesc := ({ parameters := [FieldType.int, FieldType.int, (FieldType.object "DoughLedger$Bakery")], returnType := (some FieldType.int) } : MethodDescriptor), implItf := false, inst := ({ parameters := [(FieldType.object "DoughLedger$Bakery")], returnType := (some FieldType.int) } : MethodDescriptor) }
abbrev l_C8 : ByteArray := ⟨#[42, 180, 0, 16, 42, 180, 0, 18, 43, 184, 0, 26, 172]⟩
theorem l_F8 : fwF l_s8 "DoughLedger" l_C8 2 26 22 21 25 := by unfold fwF; decide +kernel
theorem l_T8 : (fwL l_s8 "DoughLedger").2.1 = l_s8.captured.toArray := by decide +kernel
theorem l_G8_0 : fwG l_s8 "DoughLedger" 16 15 0 "arg$1" "I" := by unfold fwG; decide +kernel
theorem l_G8_1 : fwG l_s8 "DoughLedger" 18 17 1 "arg$2" "I" := by unfold fwG; decide +kernel
abbrev l_x9 : MethodName := ⟨"DoughLedger", "sellLoaf", "(I)I"⟩
def l_s9 : Lambda.Shape := { iface := "DoughLedger$Step", name := "apply", sam := ({ parameters := [(FieldType.object "DoughLedger$Bakery")], returnType := (some FieldType.int) } : MethodDescriptor), captured := [FieldType.int], kind := 6, implClass := "DoughLedger", implName := "lambda$sellLoaf$8", implDesc := ({ parameters := [FieldType.int, (FieldType.object "DoughLedger$Bakery")], returnType := (some FieldType.int) } : MethodDescriptor), implItf := false, inst := ({ parameters := [(FieldType.object "DoughLedger$Bakery")], returnType := (some FieldType.int) } : MethodDescriptor) }
abbrev l_C9 : ByteArray := ⟨#[42, 180, 0, 15, 43, 184, 0, 23, 172]⟩
theorem l_F9 : fwF l_s9 "DoughLedger" l_C9 2 23 19 18 22 := by unfold fwF; decide +kernel
theorem l_T9 : (fwL l_s9 "DoughLedger").2.1 = l_s9.captured.toArray := by decide +kernel
theorem l_G9_0 : fwG l_s9 "DoughLedger" 15 14 0 "arg$1" "I" := by unfold fwG; decide +kernel
abbrev l_x10 : MethodName := ⟨"DoughLedger", "setScale", "(I)I"⟩
def l_s10 : Lambda.Shape := { iface := "DoughLedger$Step", name := "apply", sam := ({ parameters := [(FieldType.object "DoughLedger$Bakery")], returnType := (some FieldType.int) } : MethodDescriptor), captured := [FieldType.int], kind := 6, implClass := "DoughLedger", implName := "lambda$setScale$9", implDesc := ({ parameters := [FieldType.int, (FieldType.object "DoughLedger$Bakery")], returnType := (some FieldType.int) } : MethodDescriptor), implItf := false, inst := ({ parameters := [(FieldType.object "DoughLedger$Bakery")], returnType := (some FieldType.int) } : MethodDescriptor) }
abbrev l_C10 : ByteArray := ⟨#[42, 180, 0, 15, 43, 184, 0, 23, 172]⟩
theorem l_F10 : fwF l_s10 "DoughLedger" l_C10 2 23 19 18 22 := by unfold fwF; decide +kernel
theorem l_T10 : (fwL l_s10 "DoughLedger").2.1 = l_s10.captured.toArray := by decide +kernel
theorem l_G10_0 : fwG l_s10 "DoughLedger" 15 14 0 "arg$1" "I" := by unfold fwG; decide +kernel
abbrev l_x11 : MethodName := ⟨"DoughLedger", "setRounding", "(C)C"⟩
def l_s11 : Lambda.Shape := { iface := "DoughLedger$Step", name := "apply", sam := ({ parameters := [(FieldType.object "DoughLedger$Bakery")], returnType := (some FieldType.int) } : MethodDescriptor), captured := [FieldType.char], kind := 6, implClass := "DoughLedger", implName := "lambda$setRounding$10", implDesc := ({ parameters := [FieldType.char, (FieldType.object "DoughLedger$Bakery")], returnType := (some FieldType.int) } : MethodDescriptor), implItf := false, inst := ({ parameters := [(FieldType.object "DoughLedger$Bakery")], returnType := (some FieldType.int) } : MethodDescriptor) }
abbrev l_C11 : ByteArray := ⟨#[42, 180, 0, 15, 43, 184, 0, 23, 172]⟩
theorem l_F11 : fwF l_s11 "DoughLedger" l_C11 2 23 19 18 22 := by unfold fwF; decide +kernel
theorem l_T11 : (fwL l_s11 "DoughLedger").2.1 = l_s11.captured.toArray := by decide +kernel
theorem l_G11_0 : fwG l_s11 "DoughLedger" 15 14 0 "arg$1" "C" := by unfold fwG; decide +kernel
abbrev l_x12 : MethodName := ⟨"DoughLedger", "pour", "(II)I"⟩
def l_s12 : Lambda.Shape := { iface := "DoughLedger$Step", name := "apply", sam := ({ parameters := [(FieldType.object "DoughLedger$Bakery")], returnType := (some FieldType.int) } : MethodDescriptor), captured := [FieldType.int, FieldType.int], kind := 6, implClass := "DoughLedger", implName := "lambda$pour$11", implDesc := ({ parameters := [FieldType.int, FieldType.int, (FieldType.object "DoughLedger$Bakery")], returnType := (some FieldType.int) } : MethodDescriptor), implItf := false, inst := ({ parameters := [(FieldType.object "DoughLedger$Bakery")], returnType := (some FieldType.int) } : MethodDescriptor) }
abbrev l_C12 : ByteArray := ⟨#[42, 180, 0, 16, 42, 180, 0, 18, 43, 184, 0, 26, 172]⟩
theorem l_F12 : fwF l_s12 "DoughLedger" l_C12 2 26 22 21 25 := by unfold fwF; decide +kernel
theorem l_T12 : (fwL l_s12 "DoughLedger").2.1 = l_s12.captured.toArray := by decide +kernel
theorem l_G12_0 : fwG l_s12 "DoughLedger" 16 15 0 "arg$1" "I" := by unfold fwG; decide +kernel
theorem l_G12_1 : fwG l_s12 "DoughLedger" 18 17 1 "arg$2" "I" := by unfold fwG; decide +kernel
abbrev l_x13 : MethodName := ⟨"DoughLedger", "empty", "(I)I"⟩
def l_s13 : Lambda.Shape := { iface := "DoughLedger$Step", name := "apply", sam := ({ parameters := [(FieldType.object "DoughLedger$Bakery")], returnType := (some FieldType.int) } : MethodDescriptor), captured := [FieldType.int], kind := 6, implClass := "DoughLedger", implName := "lambda$empty$12", implDesc := ({ parameters := [FieldType.int, (FieldType.object "DoughLedger$Bakery")], returnType := (some FieldType.int) } : MethodDescriptor), implItf := false, inst := ({ parameters := [(FieldType.object "DoughLedger$Bakery")], returnType := (some FieldType.int) } : MethodDescriptor) }
abbrev l_C13 : ByteArray := ⟨#[42, 180, 0, 15, 43, 184, 0, 23, 172]⟩
theorem l_F13 : fwF l_s13 "DoughLedger" l_C13 2 23 19 18 22 := by unfold fwF; decide +kernel
theorem l_T13 : (fwL l_s13 "DoughLedger").2.1 = l_s13.captured.toArray := by decide +kernel
theorem l_G13_0 : fwG l_s13 "DoughLedger" 15 14 0 "arg$1" "I" := by unfold fwG; decide +kernel
abbrev l_x14 : MethodName := ⟨"DoughLedger", "bake", "(I)I"⟩
def l_s14 : Lambda.Shape := { iface := "DoughLedger$Step", name := "apply", sam := ({ parameters := [(FieldType.object "DoughLedger$Bakery")], returnType := (some FieldType.int) } : MethodDescriptor), captured := [FieldType.int], kind := 6, implClass := "DoughLedger", implName := "lambda$bake$13", implDesc := ({ parameters := [FieldType.int, (FieldType.object "DoughLedger$Bakery")], returnType := (some FieldType.int) } : MethodDescriptor), implItf := false, inst := ({ parameters := [(FieldType.object "DoughLedger$Bakery")], returnType := (some FieldType.int) } : MethodDescriptor) }
abbrev l_C14 : ByteArray := ⟨#[42, 180, 0, 15, 43, 184, 0, 23, 172]⟩
theorem l_F14 : fwF l_s14 "DoughLedger" l_C14 2 23 19 18 22 := by unfold fwF; decide +kernel
theorem l_T14 : (fwL l_s14 "DoughLedger").2.1 = l_s14.captured.toArray := by decide +kernel
theorem l_G14_0 : fwG l_s14 "DoughLedger" 15 14 0 "arg$1" "I" := by unfold fwG; decide +kernel
abbrev l_x15 : MethodName := ⟨"DoughLedger", "setOvens", "(I)I"⟩
def l_s15 : Lambda.Shape := { iface := "DoughLedger$Step", name := "apply", sam := ({ parameters := [(FieldType.object "DoughLedger$Bakery")], returnType := (some FieldType.int) } : MethodDescriptor), captured := [FieldType.int], kind := 6, implClass := "DoughLedger", implName := "lambda$setOvens$14", implDesc := ({ parameters := [FieldType.int, (FieldType.object "DoughLedger$Bakery")], returnType := (some FieldType.int) } : MethodDescriptor), implItf := false, inst := ({ parameters := [(FieldType.object "DoughLedger$Bakery")], returnType := (some FieldType.int) } : MethodDescriptor) }
abbrev l_C15 : ByteArray := ⟨#[42, 180, 0, 15, 43, 184, 0, 23, 172]⟩
theorem l_F15 : fwF l_s15 "DoughLedger" l_C15 2 23 19 18 22 := by unfold fwF; decide +kernel
theorem l_T15 : (fwL l_s15 "DoughLedger").2.1 = l_s15.captured.toArray := by decide +kernel
theorem l_G15_0 : fwG l_s15 "DoughLedger" 15 14 0 "arg$1" "I" := by unfold fwG; decide +kernel
abbrev l_x16 : MethodName := ⟨"DoughLedger$Parser", "command", "()LDoughLedger$Command;"⟩
def l_s16 : Lambda.Shape := { iface := "DoughLedger$Step", name := "apply", sam := ({ parameters := [(FieldType.object "DoughLedger$Bakery")], returnType := (some FieldType.int) } : MethodDescriptor), captured := [FieldType.int, FieldType.int], kind := 6, implClass := "DoughLedger$Parser", implName := "lambda$command$0", implDesc := ({ parameters := [FieldType.int, FieldType.int, (FieldType.object "DoughLedger$Bakery")], returnType := (some FieldType.int) } : MethodDescriptor), implItf := false, inst := ({ parameters := [(FieldType.object "DoughLedger$Bakery")], returnType := (some FieldType.int) } : MethodDescriptor) }
abbrev l_C16 : ByteArray := ⟨#[42, 180, 0, 16, 42, 180, 0, 18, 43, 184, 0, 26, 172]⟩
theorem l_F16 : fwF l_s16 "DoughLedger$Parser" l_C16 2 26 22 21 25 := by unfold fwF; decide +kernel
theorem l_T16 : (fwL l_s16 "DoughLedger$Parser").2.1 = l_s16.captured.toArray := by decide +kernel
theorem l_G16_0 : fwG l_s16 "DoughLedger$Parser" 16 15 0 "arg$1" "I" := by unfold fwG; decide +kernel
theorem l_G16_1 : fwG l_s16 "DoughLedger$Parser" 18 17 1 "arg$2" "I" := by unfold fwG; decide +kernel
abbrev l_x17 : MethodName := ⟨"DoughLedger$Parser", "command", "()LDoughLedger$Command;"⟩
def l_s17 : Lambda.Shape := { iface := "DoughLedger$Step", name := "apply", sam := ({ parameters := [(FieldType.object "DoughLedger$Bakery")], returnType := (some FieldType.int) } : MethodDescriptor), captured := [FieldType.int], kind := 6, implClass := "DoughLedger$Parser", implName := "lambda$command$1", implDesc := ({ parameters := [FieldType.int, (FieldType.object "DoughLedger$Bakery")], returnType := (some FieldType.int) } : MethodDescriptor), implItf := false, inst := ({ parameters := [(FieldType.object "DoughLedger$Bakery")], returnType := (some FieldType.int) } : MethodDescriptor) }
abbrev l_C17 : ByteArray := ⟨#[42, 180, 0, 15, 43, 184, 0, 23, 172]⟩
theorem l_F17 : fwF l_s17 "DoughLedger$Parser" l_C17 2 23 19 18 22 := by unfold fwF; decide +kernel
theorem l_T17 : (fwL l_s17 "DoughLedger$Parser").2.1 = l_s17.captured.toArray := by decide +kernel
theorem l_G17_0 : fwG l_s17 "DoughLedger$Parser" 15 14 0 "arg$1" "I" := by unfold fwG; decide +kernel
abbrev l_x18 : MethodName := ⟨"DoughLedger$Parser", "command", "()LDoughLedger$Command;"⟩
def l_s18 : Lambda.Shape := { iface := "DoughLedger$Step", name := "apply", sam := ({ parameters := [(FieldType.object "DoughLedger$Bakery")], returnType := (some FieldType.int) } : MethodDescriptor), captured := [FieldType.int, FieldType.int], kind := 6, implClass := "DoughLedger$Parser", implName := "lambda$command$2", implDesc := ({ parameters := [FieldType.int, FieldType.int, (FieldType.object "DoughLedger$Bakery")], returnType := (some FieldType.int) } : MethodDescriptor), implItf := false, inst := ({ parameters := [(FieldType.object "DoughLedger$Bakery")], returnType := (some FieldType.int) } : MethodDescriptor) }
abbrev l_C18 : ByteArray := ⟨#[42, 180, 0, 16, 42, 180, 0, 18, 43, 184, 0, 26, 172]⟩
theorem l_F18 : fwF l_s18 "DoughLedger$Parser" l_C18 2 26 22 21 25 := by unfold fwF; decide +kernel
theorem l_T18 : (fwL l_s18 "DoughLedger$Parser").2.1 = l_s18.captured.toArray := by decide +kernel
theorem l_G18_0 : fwG l_s18 "DoughLedger$Parser" 16 15 0 "arg$1" "I" := by unfold fwG; decide +kernel
theorem l_G18_1 : fwG l_s18 "DoughLedger$Parser" 18 17 1 "arg$2" "I" := by unfold fwG; decide +kernel
abbrev l_x19 : MethodName := ⟨"DoughLedger$Parser", "command", "()LDoughLedger$Command;"⟩
def l_s19 : Lambda.Shape := { iface := "DoughLedger$Step", name := "apply", sam := ({ parameters := [(FieldType.object "DoughLedger$Bakery")], returnType := (some FieldType.int) } : MethodDescriptor), captured := [FieldType.char], kind := 6, implClass := "DoughLedger$Parser", implName := "lambda$command$3", implDesc := ({ parameters := [FieldType.char, (FieldType.object "DoughLedger$Bakery")], returnType := (some FieldType.int) } : MethodDescriptor), implItf := false, inst := ({ parameters := [(FieldType.object "DoughLedger$Bakery")], returnType := (some FieldType.int) } : MethodDescriptor) }
abbrev l_C19 : ByteArray := ⟨#[42, 180, 0, 15, 43, 184, 0, 23, 172]⟩
theorem l_F19 : fwF l_s19 "DoughLedger$Parser" l_C19 2 23 19 18 22 := by unfold fwF; decide +kernel
theorem l_T19 : (fwL l_s19 "DoughLedger$Parser").2.1 = l_s19.captured.toArray := by decide +kernel
theorem l_G19_0 : fwG l_s19 "DoughLedger$Parser" 15 14 0 "arg$1" "C" := by unfold fwG; decide +kernel
abbrev l_x20 : MethodName := ⟨"DoughLedger$Parser", "pair", "(Ljava/lang/String;II)LDoughLedger$Step;"⟩
def l_s20 : Lambda.Shape := { iface := "DoughLedger$Step", name := "apply", sam := ({ parameters := [(FieldType.object "DoughLedger$Bakery")], returnType := (some FieldType.int) } : MethodDescriptor), captured := [FieldType.int, FieldType.int], kind := 6, implClass := "DoughLedger$Parser", implName := "lambda$pair$4", implDesc := ({ parameters := [FieldType.int, FieldType.int, (FieldType.object "DoughLedger$Bakery")], returnType := (some FieldType.int) } : MethodDescriptor), implItf := false, inst := ({ parameters := [(FieldType.object "DoughLedger$Bakery")], returnType := (some FieldType.int) } : MethodDescriptor) }
abbrev l_C20 : ByteArray := ⟨#[42, 180, 0, 16, 42, 180, 0, 18, 43, 184, 0, 26, 172]⟩
theorem l_F20 : fwF l_s20 "DoughLedger$Parser" l_C20 2 26 22 21 25 := by unfold fwF; decide +kernel
theorem l_T20 : (fwL l_s20 "DoughLedger$Parser").2.1 = l_s20.captured.toArray := by decide +kernel
theorem l_G20_0 : fwG l_s20 "DoughLedger$Parser" 16 15 0 "arg$1" "I" := by unfold fwG; decide +kernel
theorem l_G20_1 : fwG l_s20 "DoughLedger$Parser" 18 17 1 "arg$2" "I" := by unfold fwG; decide +kernel
abbrev l_x21 : MethodName := ⟨"DoughLedger$Parser", "pair", "(Ljava/lang/String;II)LDoughLedger$Step;"⟩
def l_s21 : Lambda.Shape := { iface := "DoughLedger$Step", name := "apply", sam := ({ parameters := [(FieldType.object "DoughLedger$Bakery")], returnType := (some FieldType.int) } : MethodDescriptor), captured := [FieldType.int, FieldType.int], kind := 6, implClass := "DoughLedger$Parser", implName := "lambda$pair$5", implDesc := ({ parameters := [FieldType.int, FieldType.int, (FieldType.object "DoughLedger$Bakery")], returnType := (some FieldType.int) } : MethodDescriptor), implItf := false, inst := ({ parameters := [(FieldType.object "DoughLedger$Bakery")], returnType := (some FieldType.int) } : MethodDescriptor) }
abbrev l_C21 : ByteArray := ⟨#[42, 180, 0, 16, 42, 180, 0, 18, 43, 184, 0, 26, 172]⟩
theorem l_F21 : fwF l_s21 "DoughLedger$Parser" l_C21 2 26 22 21 25 := by unfold fwF; decide +kernel
theorem l_T21 : (fwL l_s21 "DoughLedger$Parser").2.1 = l_s21.captured.toArray := by decide +kernel
theorem l_G21_0 : fwG l_s21 "DoughLedger$Parser" 16 15 0 "arg$1" "I" := by unfold fwG; decide +kernel
theorem l_G21_1 : fwG l_s21 "DoughLedger$Parser" 18 17 1 "arg$2" "I" := by unfold fwG; decide +kernel
abbrev l_x22 : MethodName := ⟨"DoughLedger$Parser", "single", "(Ljava/lang/String;I)LDoughLedger$Step;"⟩
def l_s22 : Lambda.Shape := { iface := "DoughLedger$Step", name := "apply", sam := ({ parameters := [(FieldType.object "DoughLedger$Bakery")], returnType := (some FieldType.int) } : MethodDescriptor), captured := [FieldType.int], kind := 6, implClass := "DoughLedger$Parser", implName := "lambda$single$6", implDesc := ({ parameters := [FieldType.int, (FieldType.object "DoughLedger$Bakery")], returnType := (some FieldType.int) } : MethodDescriptor), implItf := false, inst := ({ parameters := [(FieldType.object "DoughLedger$Bakery")], returnType := (some FieldType.int) } : MethodDescriptor) }
abbrev l_C22 : ByteArray := ⟨#[42, 180, 0, 15, 43, 184, 0, 23, 172]⟩
theorem l_F22 : fwF l_s22 "DoughLedger$Parser" l_C22 2 23 19 18 22 := by unfold fwF; decide +kernel
theorem l_T22 : (fwL l_s22 "DoughLedger$Parser").2.1 = l_s22.captured.toArray := by decide +kernel
theorem l_G22_0 : fwG l_s22 "DoughLedger$Parser" 15 14 0 "arg$1" "I" := by unfold fwG; decide +kernel
abbrev l_x23 : MethodName := ⟨"DoughLedger$Parser", "single", "(Ljava/lang/String;I)LDoughLedger$Step;"⟩
def l_s23 : Lambda.Shape := { iface := "DoughLedger$Step", name := "apply", sam := ({ parameters := [(FieldType.object "DoughLedger$Bakery")], returnType := (some FieldType.int) } : MethodDescriptor), captured := [FieldType.int], kind := 6, implClass := "DoughLedger$Parser", implName := "lambda$single$7", implDesc := ({ parameters := [FieldType.int, (FieldType.object "DoughLedger$Bakery")], returnType := (some FieldType.int) } : MethodDescriptor), implItf := false, inst := ({ parameters := [(FieldType.object "DoughLedger$Bakery")], returnType := (some FieldType.int) } : MethodDescriptor) }
abbrev l_C23 : ByteArray := ⟨#[42, 180, 0, 15, 43, 184, 0, 23, 172]⟩
theorem l_F23 : fwF l_s23 "DoughLedger$Parser" l_C23 2 23 19 18 22 := by unfold fwF; decide +kernel
theorem l_T23 : (fwL l_s23 "DoughLedger$Parser").2.1 = l_s23.captured.toArray := by decide +kernel
theorem l_G23_0 : fwG l_s23 "DoughLedger$Parser" 15 14 0 "arg$1" "I" := by unfold fwG; decide +kernel
abbrev l_x24 : MethodName := ⟨"DoughLedger$Parser", "single", "(Ljava/lang/String;I)LDoughLedger$Step;"⟩
def l_s24 : Lambda.Shape := { iface := "DoughLedger$Step", name := "apply", sam := ({ parameters := [(FieldType.object "DoughLedger$Bakery")], returnType := (some FieldType.int) } : MethodDescriptor), captured := [FieldType.int], kind := 6, implClass := "DoughLedger$Parser", implName := "lambda$single$8", implDesc := ({ parameters := [FieldType.int, (FieldType.object "DoughLedger$Bakery")], returnType := (some FieldType.int) } : MethodDescriptor), implItf := false, inst := ({ parameters := [(FieldType.object "DoughLedger$Bakery")], returnType := (some FieldType.int) } : MethodDescriptor) }
abbrev l_C24 : ByteArray := ⟨#[42, 180, 0, 15, 43, 184, 0, 23, 172]⟩
theorem l_F24 : fwF l_s24 "DoughLedger$Parser" l_C24 2 23 19 18 22 := by unfold fwF; decide +kernel
theorem l_T24 : (fwL l_s24 "DoughLedger$Parser").2.1 = l_s24.captured.toArray := by decide +kernel
theorem l_G24_0 : fwG l_s24 "DoughLedger$Parser" 15 14 0 "arg$1" "I" := by unfold fwG; decide +kernel
abbrev l_x25 : MethodName := ⟨"DoughLedger$Parser", "single", "(Ljava/lang/String;I)LDoughLedger$Step;"⟩
def l_s25 : Lambda.Shape := { iface := "DoughLedger$Step", name := "apply", sam := ({ parameters := [(FieldType.object "DoughLedger$Bakery")], returnType := (some FieldType.int) } : MethodDescriptor), captured := [FieldType.int], kind := 6, implClass := "DoughLedger$Parser", implName := "lambda$single$9", implDesc := ({ parameters := [FieldType.int, (FieldType.object "DoughLedger$Bakery")], returnType := (some FieldType.int) } : MethodDescriptor), implItf := false, inst := ({ parameters := [(FieldType.object "DoughLedger$Bakery")], returnType := (some FieldType.int) } : MethodDescriptor) }
abbrev l_C25 : ByteArray := ⟨#[42, 180, 0, 15, 43, 184, 0, 23, 172]⟩
theorem l_F25 : fwF l_s25 "DoughLedger$Parser" l_C25 2 23 19 18 22 := by unfold fwF; decide +kernel
theorem l_T25 : (fwL l_s25 "DoughLedger$Parser").2.1 = l_s25.captured.toArray := by decide +kernel
theorem l_G25_0 : fwG l_s25 "DoughLedger$Parser" 15 14 0 "arg$1" "I" := by unfold fwG; decide +kernel
abbrev l_x26 : MethodName := ⟨"DoughLedger$Parser", "single", "(Ljava/lang/String;I)LDoughLedger$Step;"⟩
def l_s26 : Lambda.Shape := { iface := "DoughLedger$Step", name := "apply", sam := ({ parameters := [(FieldType.object "DoughLedger$Bakery")], returnType := (some FieldType.int) } : MethodDescriptor), captured := [FieldType.int], kind := 6, implClass := "DoughLedger$Parser", implName := "lambda$single$10", implDesc := ({ parameters := [FieldType.int, (FieldType.object "DoughLedger$Bakery")], returnType := (some FieldType.int) } : MethodDescriptor), implItf := false, inst := ({ parameters := [(FieldType.object "DoughLedger$Bakery")], returnType := (some FieldType.int) } : MethodDescriptor) }
abbrev l_C26 : ByteArray := ⟨#[42, 180, 0, 15, 43, 184, 0, 23, 172]⟩
theorem l_F26 : fwF l_s26 "DoughLedger$Parser" l_C26 2 23 19 18 22 := by unfold fwF; decide +kernel
theorem l_T26 : (fwL l_s26 "DoughLedger$Parser").2.1 = l_s26.captured.toArray := by decide +kernel
theorem l_G26_0 : fwG l_s26 "DoughLedger$Parser" 15 14 0 "arg$1" "I" := by unfold fwG; decide +kernel
/-- the run's constants know the sites: A the objects of those that capture nothing -/
def lOK (K : g_K) (A : Nat → Nat) : Prop :=
  (((l_x1, 36, 7, l_s1, k_L K 1, some (A 1)) : g_LI) ∈ k_f K ∧ k_p K (A 1) = some (g_la 1 []) ∧ A 1 < k_b K) ∧
  (((l_x2, 42, 11, l_s2, k_L K 2, some (A 2)) : g_LI) ∈ k_f K ∧ k_p K (A 2) = some (g_la 2 []) ∧ A 2 < k_b K) ∧
  (((l_x3, 48, 12, l_s3, k_L K 3, some (A 3)) : g_LI) ∈ k_f K ∧ k_p K (A 3) = some (g_la 3 []) ∧ A 3 < k_b K) ∧
  (((l_x4, 54, 13, l_s4, k_L K 4, some (A 4)) : g_LI) ∈ k_f K ∧ k_p K (A 4) = some (g_la 4 []) ∧ A 4 < k_b K) ∧
  (((l_x5, 3, 89, l_s5, k_L K 5, none) : g_LI) ∈ k_f K) ∧
  (((l_x6, 3, 96, l_s6, k_L K 6, none) : g_LI) ∈ k_f K) ∧
  (((l_x7, 2, 97, l_s7, k_L K 7, none) : g_LI) ∈ k_f K) ∧
  (((l_x8, 3, 100, l_s8, k_L K 8, none) : g_LI) ∈ k_f K) ∧
  (((l_x9, 2, 101, l_s9, k_L K 9, none) : g_LI) ∈ k_f K) ∧
  (((l_x10, 2, 102, l_s10, k_L K 10, none) : g_LI) ∈ k_f K) ∧
  (((l_x11, 2, 103, l_s11, k_L K 11, none) : g_LI) ∈ k_f K) ∧
  (((l_x12, 3, 106, l_s12, k_L K 12, none) : g_LI) ∈ k_f K) ∧
  (((l_x13, 2, 107, l_s13, k_L K 13, none) : g_LI) ∈ k_f K) ∧
  (((l_x14, 2, 108, l_s14, k_L K 14, none) : g_LI) ∈ k_f K) ∧
  (((l_x15, 2, 109, l_s15, k_L K 15, none) : g_LI) ∈ k_f K) ∧
  (((l_x16, 216, 105, l_s16, k_L K 16, none) : g_LI) ∈ k_f K) ∧
  (((l_x17, 239, 112, l_s17, k_L K 17, none) : g_LI) ∈ k_f K) ∧
  (((l_x18, 272, 115, l_s18, k_L K 18, none) : g_LI) ∈ k_f K) ∧
  (((l_x19, 319, 122, l_s19, k_L K 19, none) : g_LI) ∈ k_f K) ∧
  (((l_x20, 11, 136, l_s20, k_L K 20, none) : g_LI) ∈ k_f K) ∧
  (((l_x21, 21, 137, l_s21, k_L K 21, none) : g_LI) ∈ k_f K) ∧
  (((l_x22, 137, 146, l_s22, k_L K 22, none) : g_LI) ∈ k_f K) ∧
  (((l_x23, 144, 147, l_s23, k_L K 23, none) : g_LI) ∈ k_f K) ∧
  (((l_x24, 151, 148, l_s24, k_L K 24, none) : g_LI) ∈ k_f K) ∧
  (((l_x25, 158, 149, l_s25, k_L K 25, none) : g_LI) ∈ k_f K) ∧
  (((l_x26, 165, 150, l_s26, k_L K 26, none) : g_LI) ∈ k_f K)
theorem l_c1 {K : g_K} {A : Nat → Nat} (w : lOK K A) : ((l_x1, 36, 7, l_s1, k_L K 1, some (A 1)) : g_LI) ∈ k_f K ∧ k_p K (A 1) = some (g_la 1 []) ∧ A 1 < k_b K := w.1
theorem l_c2 {K : g_K} {A : Nat → Nat} (w : lOK K A) : ((l_x2, 42, 11, l_s2, k_L K 2, some (A 2)) : g_LI) ∈ k_f K ∧ k_p K (A 2) = some (g_la 2 []) ∧ A 2 < k_b K := w.2.1
theorem l_c3 {K : g_K} {A : Nat → Nat} (w : lOK K A) : ((l_x3, 48, 12, l_s3, k_L K 3, some (A 3)) : g_LI) ∈ k_f K ∧ k_p K (A 3) = some (g_la 3 []) ∧ A 3 < k_b K := w.2.2.1
theorem l_c4 {K : g_K} {A : Nat → Nat} (w : lOK K A) : ((l_x4, 54, 13, l_s4, k_L K 4, some (A 4)) : g_LI) ∈ k_f K ∧ k_p K (A 4) = some (g_la 4 []) ∧ A 4 < k_b K := w.2.2.2.1
theorem l_m5 {K : g_K} {A : Nat → Nat} (w : lOK K A) : ((l_x5, 3, 89, l_s5, k_L K 5, none) : g_LI) ∈ k_f K := w.2.2.2.2.1
theorem l_m6 {K : g_K} {A : Nat → Nat} (w : lOK K A) : ((l_x6, 3, 96, l_s6, k_L K 6, none) : g_LI) ∈ k_f K := w.2.2.2.2.2.1
theorem l_m7 {K : g_K} {A : Nat → Nat} (w : lOK K A) : ((l_x7, 2, 97, l_s7, k_L K 7, none) : g_LI) ∈ k_f K := w.2.2.2.2.2.2.1
theorem l_m8 {K : g_K} {A : Nat → Nat} (w : lOK K A) : ((l_x8, 3, 100, l_s8, k_L K 8, none) : g_LI) ∈ k_f K := w.2.2.2.2.2.2.2.1
theorem l_m9 {K : g_K} {A : Nat → Nat} (w : lOK K A) : ((l_x9, 2, 101, l_s9, k_L K 9, none) : g_LI) ∈ k_f K := w.2.2.2.2.2.2.2.2.1
theorem l_m10 {K : g_K} {A : Nat → Nat} (w : lOK K A) : ((l_x10, 2, 102, l_s10, k_L K 10, none) : g_LI) ∈ k_f K := w.2.2.2.2.2.2.2.2.2.1
theorem l_m11 {K : g_K} {A : Nat → Nat} (w : lOK K A) : ((l_x11, 2, 103, l_s11, k_L K 11, none) : g_LI) ∈ k_f K := w.2.2.2.2.2.2.2.2.2.2.1
theorem l_m12 {K : g_K} {A : Nat → Nat} (w : lOK K A) : ((l_x12, 3, 106, l_s12, k_L K 12, none) : g_LI) ∈ k_f K := w.2.2.2.2.2.2.2.2.2.2.2.1
theorem l_m13 {K : g_K} {A : Nat → Nat} (w : lOK K A) : ((l_x13, 2, 107, l_s13, k_L K 13, none) : g_LI) ∈ k_f K := w.2.2.2.2.2.2.2.2.2.2.2.2.1
theorem l_m14 {K : g_K} {A : Nat → Nat} (w : lOK K A) : ((l_x14, 2, 108, l_s14, k_L K 14, none) : g_LI) ∈ k_f K := w.2.2.2.2.2.2.2.2.2.2.2.2.2.1
theorem l_m15 {K : g_K} {A : Nat → Nat} (w : lOK K A) : ((l_x15, 2, 109, l_s15, k_L K 15, none) : g_LI) ∈ k_f K := w.2.2.2.2.2.2.2.2.2.2.2.2.2.2.1
theorem l_m16 {K : g_K} {A : Nat → Nat} (w : lOK K A) : ((l_x16, 216, 105, l_s16, k_L K 16, none) : g_LI) ∈ k_f K := w.2.2.2.2.2.2.2.2.2.2.2.2.2.2.2.1
theorem l_m17 {K : g_K} {A : Nat → Nat} (w : lOK K A) : ((l_x17, 239, 112, l_s17, k_L K 17, none) : g_LI) ∈ k_f K := w.2.2.2.2.2.2.2.2.2.2.2.2.2.2.2.2.1
theorem l_m18 {K : g_K} {A : Nat → Nat} (w : lOK K A) : ((l_x18, 272, 115, l_s18, k_L K 18, none) : g_LI) ∈ k_f K := w.2.2.2.2.2.2.2.2.2.2.2.2.2.2.2.2.2.1
theorem l_m19 {K : g_K} {A : Nat → Nat} (w : lOK K A) : ((l_x19, 319, 122, l_s19, k_L K 19, none) : g_LI) ∈ k_f K := w.2.2.2.2.2.2.2.2.2.2.2.2.2.2.2.2.2.2.1
theorem l_m20 {K : g_K} {A : Nat → Nat} (w : lOK K A) : ((l_x20, 11, 136, l_s20, k_L K 20, none) : g_LI) ∈ k_f K := w.2.2.2.2.2.2.2.2.2.2.2.2.2.2.2.2.2.2.2.1
theorem l_m21 {K : g_K} {A : Nat → Nat} (w : lOK K A) : ((l_x21, 21, 137, l_s21, k_L K 21, none) : g_LI) ∈ k_f K := w.2.2.2.2.2.2.2.2.2.2.2.2.2.2.2.2.2.2.2.2.1
theorem l_m22 {K : g_K} {A : Nat → Nat} (w : lOK K A) : ((l_x22, 137, 146, l_s22, k_L K 22, none) : g_LI) ∈ k_f K := w.2.2.2.2.2.2.2.2.2.2.2.2.2.2.2.2.2.2.2.2.2.1
theorem l_m23 {K : g_K} {A : Nat → Nat} (w : lOK K A) : ((l_x23, 144, 147, l_s23, k_L K 23, none) : g_LI) ∈ k_f K := w.2.2.2.2.2.2.2.2.2.2.2.2.2.2.2.2.2.2.2.2.2.2.1
theorem l_m24 {K : g_K} {A : Nat → Nat} (w : lOK K A) : ((l_x24, 151, 148, l_s24, k_L K 24, none) : g_LI) ∈ k_f K := w.2.2.2.2.2.2.2.2.2.2.2.2.2.2.2.2.2.2.2.2.2.2.2.1
theorem l_m25 {K : g_K} {A : Nat → Nat} (w : lOK K A) : ((l_x25, 158, 149, l_s25, k_L K 25, none) : g_LI) ∈ k_f K := w.2.2.2.2.2.2.2.2.2.2.2.2.2.2.2.2.2.2.2.2.2.2.2.2.1
theorem l_m26 {K : g_K} {A : Nat → Nat} (w : lOK K A) : ((l_x26, 165, 150, l_s26, k_L K 26, none) : g_LI) ∈ k_f K := w.2.2.2.2.2.2.2.2.2.2.2.2.2.2.2.2.2.2.2.2.2.2.2.2.2
