/-! SpoilMeadows -/
set_option maxRecDepth 100000
def RX1 : String := "SpoilMeadows"
def TX1 : u_T := fun k => match k with
  | 0 => ("SpoilMeadows", "state", "LSpoilMeadows$State;", false)
  | 1 => ("SpoilMeadows", "saved", "Ljava/util/ArrayDeque;", true)
  | 2 => ("SpoilMeadows", "slots", "[LSpoilMeadows$State;", true)
  | 3 => ("SpoilMeadows", "buffer", "Ljava/lang/StringBuilder;", true)
  | 4 => ("SpoilMeadows", "loads", "LSpoilMeadows$Sum;", true)
  | 5 => ("SpoilMeadows", "laidLoads", "LSpoilMeadows$Sum;", true)
  | 6 => ("SpoilMeadows", "raises", "LSpoilMeadows$Measure;", true)
  | 7 => ("SpoilMeadows", "lays", "LSpoilMeadows$Measure;", true)
  | 8 => ("SpoilMeadows", "carries", "LSpoilMeadows$Measure;", true)
  | 9 => ("SpoilMeadows", "waits", "LSpoilMeadows$Measure;", true)
  | 10 => ("SpoilMeadows", "silts", "LSpoilMeadows$Measure;", true)
  | _ => ("SpoilMeadows", "hash", "J", false)
def tyX1 : Nat → FieldType := fun k => match k with
  | 0 => .object "SpoilMeadows$State"
  | 1 => .object "java/util/ArrayDeque"
  | 2 => .array (.object "SpoilMeadows$State")
  | 3 => .object "java/lang/StringBuilder"
  | 4 => .object "SpoilMeadows$Sum"
  | 5 => .object "SpoilMeadows$Sum"
  | 6 => .object "SpoilMeadows$Measure"
  | 7 => .object "SpoilMeadows$Measure"
  | 8 => .object "SpoilMeadows$Measure"
  | 9 => .object "SpoilMeadows$Measure"
  | 10 => .object "SpoilMeadows$Measure"
  | _ => .long
abbrev wsX10 : List Cond := u_ws RX1 TX1 12
theorem nmX1 : ∀ a, a < 12 → ∀ b, b < 12 → a ≠ b → (TX1 a).2.1 ≠ (TX1 b).2.1 := by decide +kernel
theorem tyX1_ok : ∀ k, k < 12 → parseFieldDescriptor (TX1 k).2.2.1 = some (tyX1 k) := by decide +kernel
abbrev cX1_init : ByteArray := prog_1_method_9_code
def yX1_init : MethodName := ⟨RX1, "<init>", "()V"⟩
def dkwX1_init_5 : List UInt8 := [181, 0, 106, 177]
abbrev dktX1_init_5 : List UInt8 := dkwX1_init_5 ++ []
def dkwX1_init_4 : List UInt8 := [186, 0, 95, 0, 0, 181, 0, 96, 42, 42, 186, 0, 99, 0, 0, 181, 0, 100, 42, 186, 0, 103, 0, 0]
abbrev dktX1_init_4 : List UInt8 := dkwX1_init_4 ++ dktX1_init_5
def dkwX1_init_3 : List UInt8 := [42, 186, 0, 83, 0, 0, 181, 0, 87, 42, 42, 186, 0, 91, 0, 0, 181, 0, 92, 42, 42]
abbrev dktX1_init_3 : List UInt8 := dkwX1_init_3 ++ dktX1_init_4
def dkwX1_init_2 : List UInt8 := [187, 0, 68, 89, 42, 183, 0, 70, 181, 0, 73, 42, 187, 0, 77, 89, 42, 183, 0, 79, 181, 0, 80, 42]
abbrev dktX1_init_2 : List UInt8 := dkwX1_init_2 ++ dktX1_init_3
def dkwX1_init_1 : List UInt8 := [42, 5, 189, 0, 19, 181, 0, 57, 42, 187, 0, 61, 89, 16, 60, 183, 0, 63, 181, 0, 64, 42]
abbrev dktX1_init_1 : List UInt8 := dkwX1_init_1 ++ dktX1_init_2
def dkwX1_init_0 : List UInt8 := [42, 183, 0, 37, 42, 184, 0, 40, 181, 0, 44, 42, 187, 0, 48, 89, 16, 6, 183, 0, 50, 181, 0, 53]
abbrev dktX1_init_0 : List UInt8 := dkwX1_init_0 ++ dktX1_init_1
theorem dksX1_init_0 : cX1_init.data.toList.drop 0 = dktX1_init_0 := by decide +kernel
theorem dksX1_init_1 : cX1_init.data.toList.drop 24 = dktX1_init_1 := dk_seg dksX1_init_0 24 rfl rfl
theorem dksX1_init_2 : cX1_init.data.toList.drop 46 = dktX1_init_2 := dk_seg dksX1_init_1 22 rfl rfl
theorem dksX1_init_3 : cX1_init.data.toList.drop 70 = dktX1_init_3 := dk_seg dksX1_init_2 24 rfl rfl
theorem dksX1_init_4 : cX1_init.data.toList.drop 91 = dktX1_init_4 := dk_seg dksX1_init_3 21 rfl rfl
theorem dksX1_init_5 : cX1_init.data.toList.drop 115 = dktX1_init_5 := dk_seg dksX1_init_4 24 rfl rfl
theorem dX1_init_0 : decode cX1_init 0 = .ok (.aload_n 0, 1) := dk_42 (dk_at dksX1_init_0 0 rfl rfl)
theorem dX1_init_1 : decode cX1_init 1 = .ok (.invokespecial 37, 3) := dk_183 0 37 (dk_at dksX1_init_0 1 rfl rfl)
theorem dX1_init_4 : decode cX1_init 4 = .ok (.aload_n 0, 1) := dk_42 (dk_at dksX1_init_0 4 rfl rfl)
theorem dX1_init_5 : decode cX1_init 5 = .ok (.invokestatic 40, 3) := dk_184 0 40 (dk_at dksX1_init_0 5 rfl rfl)
theorem dX1_init_8 : decode cX1_init 8 = .ok (.putfield 44, 3) := dk_181 0 44 (dk_at dksX1_init_0 8 rfl rfl)
theorem dX1_init_11 : decode cX1_init 11 = .ok (.aload_n 0, 1) := dk_42 (dk_at dksX1_init_0 11 rfl rfl)
theorem dX1_init_12 : decode cX1_init 12 = .ok (.new 48, 3) := dk_187 0 48 (dk_at dksX1_init_0 12 rfl rfl)
theorem dX1_init_15 : decode cX1_init 15 = .ok (.dup, 1) := dk_89 (dk_at dksX1_init_0 15 rfl rfl)
theorem dX1_init_16 : decode cX1_init 16 = .ok (.bipush 6, 2) := dk_16 6 (dk_at dksX1_init_0 16 rfl rfl)
theorem dX1_init_18 : decode cX1_init 18 = .ok (.invokespecial 50, 3) := dk_183 0 50 (dk_at dksX1_init_0 18 rfl rfl)
theorem dX1_init_21 : decode cX1_init 21 = .ok (.putfield 53, 3) := dk_181 0 53 (dk_at dksX1_init_0 21 rfl rfl)
theorem dX1_init_24 : decode cX1_init 24 = .ok (.aload_n 0, 1) := dk_42 (dk_at dksX1_init_1 0 rfl rfl)
theorem dX1_init_25 : decode cX1_init 25 = .ok (.iconst 2, 1) := dk_5 (dk_at dksX1_init_1 1 rfl rfl)
theorem dX1_init_26 : decode cX1_init 26 = .ok (.anewarray 19, 3) := dk_189 0 19 (dk_at dksX1_init_1 2 rfl rfl)
theorem dX1_init_29 : decode cX1_init 29 = .ok (.putfield 57, 3) := dk_181 0 57 (dk_at dksX1_init_1 5 rfl rfl)
theorem dX1_init_32 : decode cX1_init 32 = .ok (.aload_n 0, 1) := dk_42 (dk_at dksX1_init_1 8 rfl rfl)
theorem dX1_init_33 : decode cX1_init 33 = .ok (.new 61, 3) := dk_187 0 61 (dk_at dksX1_init_1 9 rfl rfl)
theorem dX1_init_36 : decode cX1_init 36 = .ok (.dup, 1) := dk_89 (dk_at dksX1_init_1 12 rfl rfl)
theorem dX1_init_37 : decode cX1_init 37 = .ok (.bipush 60, 2) := dk_16 60 (dk_at dksX1_init_1 13 rfl rfl)
theorem dX1_init_39 : decode cX1_init 39 = .ok (.invokespecial 63, 3) := dk_183 0 63 (dk_at dksX1_init_1 15 rfl rfl)
theorem dX1_init_42 : decode cX1_init 42 = .ok (.putfield 64, 3) := dk_181 0 64 (dk_at dksX1_init_1 18 rfl rfl)
theorem dX1_init_45 : decode cX1_init 45 = .ok (.aload_n 0, 1) := dk_42 (dk_at dksX1_init_1 21 rfl rfl)
theorem dX1_init_46 : decode cX1_init 46 = .ok (.new 68, 3) := dk_187 0 68 (dk_at dksX1_init_2 0 rfl rfl)
theorem dX1_init_49 : decode cX1_init 49 = .ok (.dup, 1) := dk_89 (dk_at dksX1_init_2 3 rfl rfl)
theorem dX1_init_50 : decode cX1_init 50 = .ok (.aload_n 0, 1) := dk_42 (dk_at dksX1_init_2 4 rfl rfl)
theorem dX1_init_51 : decode cX1_init 51 = .ok (.invokespecial 70, 3) := dk_183 0 70 (dk_at dksX1_init_2 5 rfl rfl)
theorem dX1_init_54 : decode cX1_init 54 = .ok (.putfield 73, 3) := dk_181 0 73 (dk_at dksX1_init_2 8 rfl rfl)
theorem dX1_init_57 : decode cX1_init 57 = .ok (.aload_n 0, 1) := dk_42 (dk_at dksX1_init_2 11 rfl rfl)
theorem dX1_init_58 : decode cX1_init 58 = .ok (.new 77, 3) := dk_187 0 77 (dk_at dksX1_init_2 12 rfl rfl)
theorem dX1_init_61 : decode cX1_init 61 = .ok (.dup, 1) := dk_89 (dk_at dksX1_init_2 15 rfl rfl)
theorem dX1_init_62 : decode cX1_init 62 = .ok (.aload_n 0, 1) := dk_42 (dk_at dksX1_init_2 16 rfl rfl)
theorem dX1_init_63 : decode cX1_init 63 = .ok (.invokespecial 79, 3) := dk_183 0 79 (dk_at dksX1_init_2 17 rfl rfl)
theorem dX1_init_66 : decode cX1_init 66 = .ok (.putfield 80, 3) := dk_181 0 80 (dk_at dksX1_init_2 20 rfl rfl)
theorem dX1_init_69 : decode cX1_init 69 = .ok (.aload_n 0, 1) := dk_42 (dk_at dksX1_init_2 23 rfl rfl)
theorem dX1_init_70 : decode cX1_init 70 = .ok (.aload_n 0, 1) := dk_42 (dk_at dksX1_init_3 0 rfl rfl)
theorem dX1_init_71 : decode cX1_init 71 = .ok (.invokedynamic 83, 5) := by decide +kernel
theorem dX1_init_76 : decode cX1_init 76 = .ok (.putfield 87, 3) := dk_181 0 87 (dk_at dksX1_init_3 6 rfl rfl)
theorem dX1_init_79 : decode cX1_init 79 = .ok (.aload_n 0, 1) := dk_42 (dk_at dksX1_init_3 9 rfl rfl)
theorem dX1_init_80 : decode cX1_init 80 = .ok (.aload_n 0, 1) := dk_42 (dk_at dksX1_init_3 10 rfl rfl)
theorem dX1_init_81 : decode cX1_init 81 = .ok (.invokedynamic 91, 5) := by decide +kernel
theorem dX1_init_86 : decode cX1_init 86 = .ok (.putfield 92, 3) := dk_181 0 92 (dk_at dksX1_init_3 16 rfl rfl)
theorem dX1_init_89 : decode cX1_init 89 = .ok (.aload_n 0, 1) := dk_42 (dk_at dksX1_init_3 19 rfl rfl)
theorem dX1_init_90 : decode cX1_init 90 = .ok (.aload_n 0, 1) := dk_42 (dk_at dksX1_init_3 20 rfl rfl)
theorem dX1_init_91 : decode cX1_init 91 = .ok (.invokedynamic 95, 5) := by decide +kernel
theorem dX1_init_96 : decode cX1_init 96 = .ok (.putfield 96, 3) := dk_181 0 96 (dk_at dksX1_init_4 5 rfl rfl)
theorem dX1_init_99 : decode cX1_init 99 = .ok (.aload_n 0, 1) := dk_42 (dk_at dksX1_init_4 8 rfl rfl)
theorem dX1_init_100 : decode cX1_init 100 = .ok (.aload_n 0, 1) := dk_42 (dk_at dksX1_init_4 9 rfl rfl)
theorem dX1_init_101 : decode cX1_init 101 = .ok (.invokedynamic 99, 5) := by decide +kernel
theorem dX1_init_106 : decode cX1_init 106 = .ok (.putfield 100, 3) := dk_181 0 100 (dk_at dksX1_init_4 15 rfl rfl)
theorem dX1_init_109 : decode cX1_init 109 = .ok (.aload_n 0, 1) := dk_42 (dk_at dksX1_init_4 18 rfl rfl)
theorem dX1_init_110 : decode cX1_init 110 = .ok (.invokedynamic 103, 5) := by decide +kernel
theorem dX1_init_115 : decode cX1_init 115 = .ok (.putfield 106, 3) := dk_181 0 106 (dk_at dksX1_init_5 0 rfl rfl)
theorem dX1_init_118 : decode cX1_init 118 = .ok (.return_, 1) := dk_177 (dk_at dksX1_init_5 3 rfl rfl)
abbrev cX1_firstState : ByteArray := prog_1_method_8_code
def yX1_firstState : MethodName := ⟨RX1, "firstState", "()LSpoilMeadows$State;"⟩
def dkwX1_firstState_4 : List UInt8 := [182, 0, 31, 87, 132, 3, 1, 167, 255, 233, 44, 176]
abbrev dktX1_firstState_4 : List UInt8 := dkwX1_firstState_4 ++ []
def dkwX1_firstState_3 : List UInt8 := [188, 10, 183, 0, 21, 77, 3, 62, 29, 8, 162, 0, 24, 44, 180, 0, 24, 187, 0, 28, 89, 183, 0, 30]
abbrev dktX1_firstState_3 : List UInt8 := dkwX1_firstState_3 ++ dktX1_firstState_4
def dkwX1_firstState_2 : List UInt8 := [89, 7, 16, 100, 79, 89, 8, 16, 100, 79, 76, 187, 0, 19, 89, 42, 43, 16, 6, 188, 10, 16, 6]
abbrev dktX1_firstState_2 : List UInt8 := dkwX1_firstState_2 ++ dktX1_firstState_3
def dkwX1_firstState_1 : List UInt8 := [16, 6, 188, 10, 89, 3, 16, 100, 79, 89, 4, 16, 100, 79, 89, 5, 16, 100, 79, 89, 6, 16, 100, 79]
abbrev dktX1_firstState_1 : List UInt8 := dkwX1_firstState_1 ++ dktX1_firstState_2
def dkwX1_firstState_0 : List UInt8 := [7, 188, 10, 89, 3, 16, 10, 79, 89, 4, 4, 79, 89, 5, 16, 30, 79, 89, 6, 16, 8, 79, 75]
abbrev dktX1_firstState_0 : List UInt8 := dkwX1_firstState_0 ++ dktX1_firstState_1
theorem dksX1_firstState_0 : cX1_firstState.data.toList.drop 0 = dktX1_firstState_0 := by decide +kernel
theorem dksX1_firstState_1 : cX1_firstState.data.toList.drop 23 = dktX1_firstState_1 := dk_seg dksX1_firstState_0 23 rfl rfl
theorem dksX1_firstState_2 : cX1_firstState.data.toList.drop 47 = dktX1_firstState_2 := dk_seg dksX1_firstState_1 24 rfl rfl
theorem dksX1_firstState_3 : cX1_firstState.data.toList.drop 70 = dktX1_firstState_3 := dk_seg dksX1_firstState_2 23 rfl rfl
theorem dksX1_firstState_4 : cX1_firstState.data.toList.drop 94 = dktX1_firstState_4 := dk_seg dksX1_firstState_3 24 rfl rfl
theorem dX1_firstState_0 : decode cX1_firstState 0 = .ok (.iconst 4, 1) := dk_7 (dk_at dksX1_firstState_0 0 rfl rfl)
theorem dX1_firstState_1 : decode cX1_firstState 1 = .ok (.newarray .int, 2) := dk_188_10 (dk_at dksX1_firstState_0 1 rfl rfl)
theorem dX1_firstState_3 : decode cX1_firstState 3 = .ok (.dup, 1) := dk_89 (dk_at dksX1_firstState_0 3 rfl rfl)
theorem dX1_firstState_4 : decode cX1_firstState 4 = .ok (.iconst 0, 1) := dk_3 (dk_at dksX1_firstState_0 4 rfl rfl)
theorem dX1_firstState_5 : decode cX1_firstState 5 = .ok (.bipush 10, 2) := dk_16 10 (dk_at dksX1_firstState_0 5 rfl rfl)
theorem dX1_firstState_7 : decode cX1_firstState 7 = .ok (.iastore, 1) := dk_79 (dk_at dksX1_firstState_0 7 rfl rfl)
theorem dX1_firstState_8 : decode cX1_firstState 8 = .ok (.dup, 1) := dk_89 (dk_at dksX1_firstState_0 8 rfl rfl)
theorem dX1_firstState_9 : decode cX1_firstState 9 = .ok (.iconst 1, 1) := dk_4 (dk_at dksX1_firstState_0 9 rfl rfl)
theorem dX1_firstState_10 : decode cX1_firstState 10 = .ok (.iconst 1, 1) := dk_4 (dk_at dksX1_firstState_0 10 rfl rfl)
theorem dX1_firstState_11 : decode cX1_firstState 11 = .ok (.iastore, 1) := dk_79 (dk_at dksX1_firstState_0 11 rfl rfl)
theorem dX1_firstState_12 : decode cX1_firstState 12 = .ok (.dup, 1) := dk_89 (dk_at dksX1_firstState_0 12 rfl rfl)
theorem dX1_firstState_13 : decode cX1_firstState 13 = .ok (.iconst 2, 1) := dk_5 (dk_at dksX1_firstState_0 13 rfl rfl)
theorem dX1_firstState_14 : decode cX1_firstState 14 = .ok (.bipush 30, 2) := dk_16 30 (dk_at dksX1_firstState_0 14 rfl rfl)
theorem dX1_firstState_16 : decode cX1_firstState 16 = .ok (.iastore, 1) := dk_79 (dk_at dksX1_firstState_0 16 rfl rfl)
theorem dX1_firstState_17 : decode cX1_firstState 17 = .ok (.dup, 1) := dk_89 (dk_at dksX1_firstState_0 17 rfl rfl)
theorem dX1_firstState_18 : decode cX1_firstState 18 = .ok (.iconst 3, 1) := dk_6 (dk_at dksX1_firstState_0 18 rfl rfl)
theorem dX1_firstState_19 : decode cX1_firstState 19 = .ok (.bipush 8, 2) := dk_16 8 (dk_at dksX1_firstState_0 19 rfl rfl)
theorem dX1_firstState_21 : decode cX1_firstState 21 = .ok (.iastore, 1) := dk_79 (dk_at dksX1_firstState_0 21 rfl rfl)
theorem dX1_firstState_22 : decode cX1_firstState 22 = .ok (.astore_n 0, 1) := dk_75 (dk_at dksX1_firstState_0 22 rfl rfl)
theorem dX1_firstState_23 : decode cX1_firstState 23 = .ok (.bipush 6, 2) := dk_16 6 (dk_at dksX1_firstState_1 0 rfl rfl)
theorem dX1_firstState_25 : decode cX1_firstState 25 = .ok (.newarray .int, 2) := dk_188_10 (dk_at dksX1_firstState_1 2 rfl rfl)
theorem dX1_firstState_27 : decode cX1_firstState 27 = .ok (.dup, 1) := dk_89 (dk_at dksX1_firstState_1 4 rfl rfl)
theorem dX1_firstState_28 : decode cX1_firstState 28 = .ok (.iconst 0, 1) := dk_3 (dk_at dksX1_firstState_1 5 rfl rfl)
theorem dX1_firstState_29 : decode cX1_firstState 29 = .ok (.bipush 100, 2) := dk_16 100 (dk_at dksX1_firstState_1 6 rfl rfl)
theorem dX1_firstState_31 : decode cX1_firstState 31 = .ok (.iastore, 1) := dk_79 (dk_at dksX1_firstState_1 8 rfl rfl)
theorem dX1_firstState_32 : decode cX1_firstState 32 = .ok (.dup, 1) := dk_89 (dk_at dksX1_firstState_1 9 rfl rfl)
theorem dX1_firstState_33 : decode cX1_firstState 33 = .ok (.iconst 1, 1) := dk_4 (dk_at dksX1_firstState_1 10 rfl rfl)
theorem dX1_firstState_34 : decode cX1_firstState 34 = .ok (.bipush 100, 2) := dk_16 100 (dk_at dksX1_firstState_1 11 rfl rfl)
theorem dX1_firstState_36 : decode cX1_firstState 36 = .ok (.iastore, 1) := dk_79 (dk_at dksX1_firstState_1 13 rfl rfl)
theorem dX1_firstState_37 : decode cX1_firstState 37 = .ok (.dup, 1) := dk_89 (dk_at dksX1_firstState_1 14 rfl rfl)
theorem dX1_firstState_38 : decode cX1_firstState 38 = .ok (.iconst 2, 1) := dk_5 (dk_at dksX1_firstState_1 15 rfl rfl)
theorem dX1_firstState_39 : decode cX1_firstState 39 = .ok (.bipush 100, 2) := dk_16 100 (dk_at dksX1_firstState_1 16 rfl rfl)
theorem dX1_firstState_41 : decode cX1_firstState 41 = .ok (.iastore, 1) := dk_79 (dk_at dksX1_firstState_1 18 rfl rfl)
theorem dX1_firstState_42 : decode cX1_firstState 42 = .ok (.dup, 1) := dk_89 (dk_at dksX1_firstState_1 19 rfl rfl)
theorem dX1_firstState_43 : decode cX1_firstState 43 = .ok (.iconst 3, 1) := dk_6 (dk_at dksX1_firstState_1 20 rfl rfl)
theorem dX1_firstState_44 : decode cX1_firstState 44 = .ok (.bipush 100, 2) := dk_16 100 (dk_at dksX1_firstState_1 21 rfl rfl)
theorem dX1_firstState_46 : decode cX1_firstState 46 = .ok (.iastore, 1) := dk_79 (dk_at dksX1_firstState_1 23 rfl rfl)
theorem dX1_firstState_47 : decode cX1_firstState 47 = .ok (.dup, 1) := dk_89 (dk_at dksX1_firstState_2 0 rfl rfl)
theorem dX1_firstState_48 : decode cX1_firstState 48 = .ok (.iconst 4, 1) := dk_7 (dk_at dksX1_firstState_2 1 rfl rfl)
theorem dX1_firstState_49 : decode cX1_firstState 49 = .ok (.bipush 100, 2) := dk_16 100 (dk_at dksX1_firstState_2 2 rfl rfl)
theorem dX1_firstState_51 : decode cX1_firstState 51 = .ok (.iastore, 1) := dk_79 (dk_at dksX1_firstState_2 4 rfl rfl)
theorem dX1_firstState_52 : decode cX1_firstState 52 = .ok (.dup, 1) := dk_89 (dk_at dksX1_firstState_2 5 rfl rfl)
theorem dX1_firstState_53 : decode cX1_firstState 53 = .ok (.iconst 5, 1) := dk_8 (dk_at dksX1_firstState_2 6 rfl rfl)
theorem dX1_firstState_54 : decode cX1_firstState 54 = .ok (.bipush 100, 2) := dk_16 100 (dk_at dksX1_firstState_2 7 rfl rfl)
theorem dX1_firstState_56 : decode cX1_firstState 56 = .ok (.iastore, 1) := dk_79 (dk_at dksX1_firstState_2 9 rfl rfl)
theorem dX1_firstState_57 : decode cX1_firstState 57 = .ok (.astore_n 1, 1) := dk_76 (dk_at dksX1_firstState_2 10 rfl rfl)
theorem dX1_firstState_58 : decode cX1_firstState 58 = .ok (.new 19, 3) := dk_187 0 19 (dk_at dksX1_firstState_2 11 rfl rfl)
theorem dX1_firstState_61 : decode cX1_firstState 61 = .ok (.dup, 1) := dk_89 (dk_at dksX1_firstState_2 14 rfl rfl)
theorem dX1_firstState_62 : decode cX1_firstState 62 = .ok (.aload_n 0, 1) := dk_42 (dk_at dksX1_firstState_2 15 rfl rfl)
theorem dX1_firstState_63 : decode cX1_firstState 63 = .ok (.aload_n 1, 1) := dk_43 (dk_at dksX1_firstState_2 16 rfl rfl)
theorem dX1_firstState_64 : decode cX1_firstState 64 = .ok (.bipush 6, 2) := dk_16 6 (dk_at dksX1_firstState_2 17 rfl rfl)
theorem dX1_firstState_66 : decode cX1_firstState 66 = .ok (.newarray .int, 2) := dk_188_10 (dk_at dksX1_firstState_2 19 rfl rfl)
theorem dX1_firstState_68 : decode cX1_firstState 68 = .ok (.bipush 6, 2) := dk_16 6 (dk_at dksX1_firstState_2 21 rfl rfl)
theorem dX1_firstState_70 : decode cX1_firstState 70 = .ok (.newarray .int, 2) := dk_188_10 (dk_at dksX1_firstState_3 0 rfl rfl)
theorem dX1_firstState_72 : decode cX1_firstState 72 = .ok (.invokespecial 21, 3) := dk_183 0 21 (dk_at dksX1_firstState_3 2 rfl rfl)
theorem dX1_firstState_75 : decode cX1_firstState 75 = .ok (.astore_n 2, 1) := dk_77 (dk_at dksX1_firstState_3 5 rfl rfl)
theorem dX1_firstState_76 : decode cX1_firstState 76 = .ok (.iconst 0, 1) := dk_3 (dk_at dksX1_firstState_3 6 rfl rfl)
theorem dX1_firstState_77 : decode cX1_firstState 77 = .ok (.istore_n 3, 1) := dk_62 (dk_at dksX1_firstState_3 7 rfl rfl)
theorem dX1_firstState_78 : decode cX1_firstState 78 = .ok (.iload_n 3, 1) := dk_29 (dk_at dksX1_firstState_3 8 rfl rfl)
theorem dX1_firstState_79 : decode cX1_firstState 79 = .ok (.iconst 5, 1) := dk_8 (dk_at dksX1_firstState_3 9 rfl rfl)
theorem dX1_firstState_80 : decode cX1_firstState 80 = .ok (.if_icmp .ge 24, 3) := dk_162 0 24 (dk_at dksX1_firstState_3 10 rfl rfl)
theorem dX1_firstState_83 : decode cX1_firstState 83 = .ok (.aload_n 2, 1) := dk_44 (dk_at dksX1_firstState_3 13 rfl rfl)
theorem dX1_firstState_84 : decode cX1_firstState 84 = .ok (.getfield 24, 3) := dk_180 0 24 (dk_at dksX1_firstState_3 14 rfl rfl)
theorem dX1_firstState_87 : decode cX1_firstState 87 = .ok (.new 28, 3) := dk_187 0 28 (dk_at dksX1_firstState_3 17 rfl rfl)
theorem dX1_firstState_90 : decode cX1_firstState 90 = .ok (.dup, 1) := dk_89 (dk_at dksX1_firstState_3 20 rfl rfl)
theorem dX1_firstState_91 : decode cX1_firstState 91 = .ok (.invokespecial 30, 3) := dk_183 0 30 (dk_at dksX1_firstState_3 21 rfl rfl)
theorem dX1_firstState_94 : decode cX1_firstState 94 = .ok (.invokevirtual 31, 3) := dk_182 0 31 (dk_at dksX1_firstState_4 0 rfl rfl)
theorem dX1_firstState_97 : decode cX1_firstState 97 = .ok (.pop, 1) := dk_87 (dk_at dksX1_firstState_4 3 rfl rfl)
theorem dX1_firstState_98 : decode cX1_firstState 98 = .ok (.iinc 3 1, 3) := dk_132 3 1 (dk_at dksX1_firstState_4 4 rfl rfl)
theorem dX1_firstState_101 : decode cX1_firstState 101 = .ok (.goto (-23), 3) := dk_167 255 233 (dk_at dksX1_firstState_4 7 rfl rfl)
theorem dX1_firstState_104 : decode cX1_firstState 104 = .ok (.aload_n 2, 1) := dk_44 (dk_at dksX1_firstState_4 10 rfl rfl)
theorem dX1_firstState_105 : decode cX1_firstState 105 = .ok (.areturn, 1) := dk_176 (dk_at dksX1_firstState_4 11 rfl rfl)
abbrev cX1_lambda_new_0 : ByteArray := prog_1_method_69_code
def yX1_lambda_new_0 : MethodName := ⟨RX1, "lambda$new$0", "(LSpoilMeadows$State;)I"⟩
def dkwX1_lambda_new_0_0 : List UInt8 := [43, 180, 1, 32, 184, 1, 89, 42, 180, 0, 44, 180, 1, 32, 184, 1, 89, 100, 172]
abbrev dktX1_lambda_new_0_0 : List UInt8 := dkwX1_lambda_new_0_0 ++ []
theorem dksX1_lambda_new_0_0 : cX1_lambda_new_0.data.toList.drop 0 = dktX1_lambda_new_0_0 := by decide +kernel
theorem dX1_lambda_new_0_0 : decode cX1_lambda_new_0 0 = .ok (.aload_n 1, 1) := dk_43 (dk_at dksX1_lambda_new_0_0 0 rfl rfl)
theorem dX1_lambda_new_0_1 : decode cX1_lambda_new_0 1 = .ok (.getfield 288, 3) := dk_180 1 32 (dk_at dksX1_lambda_new_0_0 1 rfl rfl)
theorem dX1_lambda_new_0_4 : decode cX1_lambda_new_0 4 = .ok (.invokestatic 345, 3) := dk_184 1 89 (dk_at dksX1_lambda_new_0_0 4 rfl rfl)
theorem dX1_lambda_new_0_7 : decode cX1_lambda_new_0 7 = .ok (.aload_n 0, 1) := dk_42 (dk_at dksX1_lambda_new_0_0 7 rfl rfl)
theorem dX1_lambda_new_0_8 : decode cX1_lambda_new_0 8 = .ok (.getfield 44, 3) := dk_180 0 44 (dk_at dksX1_lambda_new_0_0 8 rfl rfl)
theorem dX1_lambda_new_0_11 : decode cX1_lambda_new_0 11 = .ok (.getfield 288, 3) := dk_180 1 32 (dk_at dksX1_lambda_new_0_0 11 rfl rfl)
theorem dX1_lambda_new_0_14 : decode cX1_lambda_new_0 14 = .ok (.invokestatic 345, 3) := dk_184 1 89 (dk_at dksX1_lambda_new_0_0 14 rfl rfl)
theorem dX1_lambda_new_0_17 : decode cX1_lambda_new_0 17 = .ok (.isub, 1) := dk_100 (dk_at dksX1_lambda_new_0_0 17 rfl rfl)
theorem dX1_lambda_new_0_18 : decode cX1_lambda_new_0 18 = .ok (.ireturn, 1) := dk_172 (dk_at dksX1_lambda_new_0_0 18 rfl rfl)
abbrev cX1_sumOf : ByteArray := prog_1_method_47_code
def yX1_sumOf : MethodName := ⟨RX1, "sumOf", "([I)I"⟩
def dkwX1_sumOf_1 : List UInt8 := [21, 5, 96, 60, 132, 4, 1, 167, 255, 236, 27, 172]
abbrev dktX1_sumOf_1 : List UInt8 := dkwX1_sumOf_1 ++ []
def dkwX1_sumOf_0 : List UInt8 := [3, 60, 42, 77, 44, 190, 62, 3, 54, 4, 21, 4, 29, 162, 0, 20, 44, 21, 4, 46, 54, 5, 27]
abbrev dktX1_sumOf_0 : List UInt8 := dkwX1_sumOf_0 ++ dktX1_sumOf_1
theorem dksX1_sumOf_0 : cX1_sumOf.data.toList.drop 0 = dktX1_sumOf_0 := by decide +kernel
theorem dksX1_sumOf_1 : cX1_sumOf.data.toList.drop 23 = dktX1_sumOf_1 := dk_seg dksX1_sumOf_0 23 rfl rfl
theorem dX1_sumOf_0 : decode cX1_sumOf 0 = .ok (.iconst 0, 1) := dk_3 (dk_at dksX1_sumOf_0 0 rfl rfl)
theorem dX1_sumOf_1 : decode cX1_sumOf 1 = .ok (.istore_n 1, 1) := dk_60 (dk_at dksX1_sumOf_0 1 rfl rfl)
theorem dX1_sumOf_2 : decode cX1_sumOf 2 = .ok (.aload_n 0, 1) := dk_42 (dk_at dksX1_sumOf_0 2 rfl rfl)
theorem dX1_sumOf_3 : decode cX1_sumOf 3 = .ok (.astore_n 2, 1) := dk_77 (dk_at dksX1_sumOf_0 3 rfl rfl)
theorem dX1_sumOf_4 : decode cX1_sumOf 4 = .ok (.aload_n 2, 1) := dk_44 (dk_at dksX1_sumOf_0 4 rfl rfl)
theorem dX1_sumOf_5 : decode cX1_sumOf 5 = .ok (.arraylength, 1) := dk_190 (dk_at dksX1_sumOf_0 5 rfl rfl)
theorem dX1_sumOf_6 : decode cX1_sumOf 6 = .ok (.istore_n 3, 1) := dk_62 (dk_at dksX1_sumOf_0 6 rfl rfl)
theorem dX1_sumOf_7 : decode cX1_sumOf 7 = .ok (.iconst 0, 1) := dk_3 (dk_at dksX1_sumOf_0 7 rfl rfl)
theorem dX1_sumOf_8 : decode cX1_sumOf 8 = .ok (.istore 4, 2) := dk_54 4 (dk_at dksX1_sumOf_0 8 rfl rfl)
theorem dX1_sumOf_10 : decode cX1_sumOf 10 = .ok (.iload 4, 2) := dk_21 4 (dk_at dksX1_sumOf_0 10 rfl rfl)
theorem dX1_sumOf_12 : decode cX1_sumOf 12 = .ok (.iload_n 3, 1) := dk_29 (dk_at dksX1_sumOf_0 12 rfl rfl)
theorem dX1_sumOf_13 : decode cX1_sumOf 13 = .ok (.if_icmp .ge 20, 3) := dk_162 0 20 (dk_at dksX1_sumOf_0 13 rfl rfl)
theorem dX1_sumOf_16 : decode cX1_sumOf 16 = .ok (.aload_n 2, 1) := dk_44 (dk_at dksX1_sumOf_0 16 rfl rfl)
theorem dX1_sumOf_17 : decode cX1_sumOf 17 = .ok (.iload 4, 2) := dk_21 4 (dk_at dksX1_sumOf_0 17 rfl rfl)
theorem dX1_sumOf_19 : decode cX1_sumOf 19 = .ok (.iaload, 1) := dk_46 (dk_at dksX1_sumOf_0 19 rfl rfl)
theorem dX1_sumOf_20 : decode cX1_sumOf 20 = .ok (.istore 5, 2) := dk_54 5 (dk_at dksX1_sumOf_0 20 rfl rfl)
theorem dX1_sumOf_22 : decode cX1_sumOf 22 = .ok (.iload_n 1, 1) := dk_27 (dk_at dksX1_sumOf_0 22 rfl rfl)
theorem dX1_sumOf_23 : decode cX1_sumOf 23 = .ok (.iload 5, 2) := dk_21 5 (dk_at dksX1_sumOf_1 0 rfl rfl)
theorem dX1_sumOf_25 : decode cX1_sumOf 25 = .ok (.iadd, 1) := dk_96 (dk_at dksX1_sumOf_1 2 rfl rfl)
theorem dX1_sumOf_26 : decode cX1_sumOf 26 = .ok (.istore_n 1, 1) := dk_60 (dk_at dksX1_sumOf_1 3 rfl rfl)
theorem dX1_sumOf_27 : decode cX1_sumOf 27 = .ok (.iinc 4 1, 3) := dk_132 4 1 (dk_at dksX1_sumOf_1 4 rfl rfl)
theorem dX1_sumOf_30 : decode cX1_sumOf 30 = .ok (.goto (-20), 3) := dk_167 255 236 (dk_at dksX1_sumOf_1 7 rfl rfl)
theorem dX1_sumOf_33 : decode cX1_sumOf 33 = .ok (.iload_n 1, 1) := dk_27 (dk_at dksX1_sumOf_1 10 rfl rfl)
theorem dX1_sumOf_34 : decode cX1_sumOf 34 = .ok (.ireturn, 1) := dk_172 (dk_at dksX1_sumOf_1 11 rfl rfl)
abbrev cX1_lambda_new_1 : ByteArray := prog_1_method_68_code
def yX1_lambda_new_1 : MethodName := ⟨RX1, "lambda$new$1", "(LSpoilMeadows$State;)I"⟩
def dkwX1_lambda_new_1_0 : List UInt8 := [43, 184, 0, 224, 42, 180, 0, 44, 184, 0, 224, 100, 172]
abbrev dktX1_lambda_new_1_0 : List UInt8 := dkwX1_lambda_new_1_0 ++ []
theorem dksX1_lambda_new_1_0 : cX1_lambda_new_1.data.toList.drop 0 = dktX1_lambda_new_1_0 := by decide +kernel
theorem dX1_lambda_new_1_0 : decode cX1_lambda_new_1 0 = .ok (.aload_n 1, 1) := dk_43 (dk_at dksX1_lambda_new_1_0 0 rfl rfl)
theorem dX1_lambda_new_1_1 : decode cX1_lambda_new_1 1 = .ok (.invokestatic 224, 3) := dk_184 0 224 (dk_at dksX1_lambda_new_1_0 1 rfl rfl)
theorem dX1_lambda_new_1_4 : decode cX1_lambda_new_1 4 = .ok (.aload_n 0, 1) := dk_42 (dk_at dksX1_lambda_new_1_0 4 rfl rfl)
theorem dX1_lambda_new_1_5 : decode cX1_lambda_new_1 5 = .ok (.getfield 44, 3) := dk_180 0 44 (dk_at dksX1_lambda_new_1_0 5 rfl rfl)
theorem dX1_lambda_new_1_8 : decode cX1_lambda_new_1 8 = .ok (.invokestatic 224, 3) := dk_184 0 224 (dk_at dksX1_lambda_new_1_0 8 rfl rfl)
theorem dX1_lambda_new_1_11 : decode cX1_lambda_new_1 11 = .ok (.isub, 1) := dk_100 (dk_at dksX1_lambda_new_1_0 11 rfl rfl)
theorem dX1_lambda_new_1_12 : decode cX1_lambda_new_1 12 = .ok (.ireturn, 1) := dk_172 (dk_at dksX1_lambda_new_1_0 12 rfl rfl)
abbrev cX1_laidOf : ByteArray := prog_1_method_26_code
def yX1_laidOf : MethodName := ⟨RX1, "laidOf", "(LSpoilMeadows$State;)I"⟩
def dkwX1_laidOf_1 : List UInt8 := [96, 60, 132, 2, 1, 167, 255, 231, 27, 172]
abbrev dktX1_laidOf_1 : List UInt8 := dkwX1_laidOf_1 ++ []
def dkwX1_laidOf_0 : List UInt8 := [3, 60, 3, 61, 28, 8, 162, 0, 26, 27, 42, 180, 0, 24, 28, 182, 0, 128, 192, 0, 28, 180, 0, 221]
abbrev dktX1_laidOf_0 : List UInt8 := dkwX1_laidOf_0 ++ dktX1_laidOf_1
theorem dksX1_laidOf_0 : cX1_laidOf.data.toList.drop 0 = dktX1_laidOf_0 := by decide +kernel
theorem dksX1_laidOf_1 : cX1_laidOf.data.toList.drop 24 = dktX1_laidOf_1 := dk_seg dksX1_laidOf_0 24 rfl rfl
theorem dX1_laidOf_0 : decode cX1_laidOf 0 = .ok (.iconst 0, 1) := dk_3 (dk_at dksX1_laidOf_0 0 rfl rfl)
theorem dX1_laidOf_1 : decode cX1_laidOf 1 = .ok (.istore_n 1, 1) := dk_60 (dk_at dksX1_laidOf_0 1 rfl rfl)
theorem dX1_laidOf_2 : decode cX1_laidOf 2 = .ok (.iconst 0, 1) := dk_3 (dk_at dksX1_laidOf_0 2 rfl rfl)
theorem dX1_laidOf_3 : decode cX1_laidOf 3 = .ok (.istore_n 2, 1) := dk_61 (dk_at dksX1_laidOf_0 3 rfl rfl)
theorem dX1_laidOf_4 : decode cX1_laidOf 4 = .ok (.iload_n 2, 1) := dk_28 (dk_at dksX1_laidOf_0 4 rfl rfl)
theorem dX1_laidOf_5 : decode cX1_laidOf 5 = .ok (.iconst 5, 1) := dk_8 (dk_at dksX1_laidOf_0 5 rfl rfl)
theorem dX1_laidOf_6 : decode cX1_laidOf 6 = .ok (.if_icmp .ge 26, 3) := dk_162 0 26 (dk_at dksX1_laidOf_0 6 rfl rfl)
theorem dX1_laidOf_9 : decode cX1_laidOf 9 = .ok (.iload_n 1, 1) := dk_27 (dk_at dksX1_laidOf_0 9 rfl rfl)
theorem dX1_laidOf_10 : decode cX1_laidOf 10 = .ok (.aload_n 0, 1) := dk_42 (dk_at dksX1_laidOf_0 10 rfl rfl)
theorem dX1_laidOf_11 : decode cX1_laidOf 11 = .ok (.getfield 24, 3) := dk_180 0 24 (dk_at dksX1_laidOf_0 11 rfl rfl)
theorem dX1_laidOf_14 : decode cX1_laidOf 14 = .ok (.iload_n 2, 1) := dk_28 (dk_at dksX1_laidOf_0 14 rfl rfl)
theorem dX1_laidOf_15 : decode cX1_laidOf 15 = .ok (.invokevirtual 128, 3) := dk_182 0 128 (dk_at dksX1_laidOf_0 15 rfl rfl)
theorem dX1_laidOf_18 : decode cX1_laidOf 18 = .ok (.checkcast 28, 3) := dk_192 0 28 (dk_at dksX1_laidOf_0 18 rfl rfl)
theorem dX1_laidOf_21 : decode cX1_laidOf 21 = .ok (.getfield 221, 3) := dk_180 0 221 (dk_at dksX1_laidOf_0 21 rfl rfl)
theorem dX1_laidOf_24 : decode cX1_laidOf 24 = .ok (.iadd, 1) := dk_96 (dk_at dksX1_laidOf_1 0 rfl rfl)
theorem dX1_laidOf_25 : decode cX1_laidOf 25 = .ok (.istore_n 1, 1) := dk_60 (dk_at dksX1_laidOf_1 1 rfl rfl)
theorem dX1_laidOf_26 : decode cX1_laidOf 26 = .ok (.iinc 2 1, 3) := dk_132 2 1 (dk_at dksX1_laidOf_1 2 rfl rfl)
theorem dX1_laidOf_29 : decode cX1_laidOf 29 = .ok (.goto (-25), 3) := dk_167 255 231 (dk_at dksX1_laidOf_1 5 rfl rfl)
theorem dX1_laidOf_32 : decode cX1_laidOf 32 = .ok (.iload_n 1, 1) := dk_27 (dk_at dksX1_laidOf_1 8 rfl rfl)
theorem dX1_laidOf_33 : decode cX1_laidOf 33 = .ok (.ireturn, 1) := dk_172 (dk_at dksX1_laidOf_1 9 rfl rfl)
abbrev cX1_lambda_new_2 : ByteArray := prog_1_method_67_code
def yX1_lambda_new_2 : MethodName := ⟨RX1, "lambda$new$2", "(LSpoilMeadows$State;)I"⟩
def dkwX1_lambda_new_2_0 : List UInt8 := [42, 180, 0, 73, 43, 182, 1, 93, 172]
abbrev dktX1_lambda_new_2_0 : List UInt8 := dkwX1_lambda_new_2_0 ++ []
theorem dksX1_lambda_new_2_0 : cX1_lambda_new_2.data.toList.drop 0 = dktX1_lambda_new_2_0 := by decide +kernel
theorem dX1_lambda_new_2_0 : decode cX1_lambda_new_2 0 = .ok (.aload_n 0, 1) := dk_42 (dk_at dksX1_lambda_new_2_0 0 rfl rfl)
theorem dX1_lambda_new_2_1 : decode cX1_lambda_new_2 1 = .ok (.getfield 73, 3) := dk_180 0 73 (dk_at dksX1_lambda_new_2_0 1 rfl rfl)
theorem dX1_lambda_new_2_4 : decode cX1_lambda_new_2 4 = .ok (.aload_n 1, 1) := dk_43 (dk_at dksX1_lambda_new_2_0 4 rfl rfl)
theorem dX1_lambda_new_2_5 : decode cX1_lambda_new_2 5 = .ok (.invokevirtual 349, 3) := dk_182 1 93 (dk_at dksX1_lambda_new_2_0 5 rfl rfl)
theorem dX1_lambda_new_2_8 : decode cX1_lambda_new_2 8 = .ok (.ireturn, 1) := dk_172 (dk_at dksX1_lambda_new_2_0 8 rfl rfl)
abbrev cX1_flag : ByteArray := prog_1_method_5_code
def yX1_flag : MethodName := ⟨RX1, "flag", "(Z)I"⟩
def dkwX1_flag_0 : List UInt8 := [26, 153, 0, 7, 4, 167, 0, 4, 3, 172]
abbrev dktX1_flag_0 : List UInt8 := dkwX1_flag_0 ++ []
theorem dksX1_flag_0 : cX1_flag.data.toList.drop 0 = dktX1_flag_0 := by decide +kernel
theorem dX1_flag_0 : decode cX1_flag 0 = .ok (.iload_n 0, 1) := dk_26 (dk_at dksX1_flag_0 0 rfl rfl)
theorem dX1_flag_1 : decode cX1_flag 1 = .ok (.ifCond .eq 7, 3) := dk_153 0 7 (dk_at dksX1_flag_0 1 rfl rfl)
theorem dX1_flag_4 : decode cX1_flag 4 = .ok (.iconst 1, 1) := dk_4 (dk_at dksX1_flag_0 4 rfl rfl)
theorem dX1_flag_5 : decode cX1_flag 5 = .ok (.goto 4, 3) := dk_167 0 4 (dk_at dksX1_flag_0 5 rfl rfl)
theorem dX1_flag_8 : decode cX1_flag 8 = .ok (.iconst 0, 1) := dk_3 (dk_at dksX1_flag_0 8 rfl rfl)
theorem dX1_flag_9 : decode cX1_flag 9 = .ok (.ireturn, 1) := dk_172 (dk_at dksX1_flag_0 9 rfl rfl)
abbrev cX1_lambda_new_3 : ByteArray := prog_1_method_66_code
def yX1_lambda_new_3 : MethodName := ⟨RX1, "lambda$new$3", "(LSpoilMeadows$State;)I"⟩
def dkwX1_lambda_new_3_0 : List UInt8 := [43, 180, 1, 99, 42, 180, 0, 44, 180, 1, 99, 100, 172]
abbrev dktX1_lambda_new_3_0 : List UInt8 := dkwX1_lambda_new_3_0 ++ []
theorem dksX1_lambda_new_3_0 : cX1_lambda_new_3.data.toList.drop 0 = dktX1_lambda_new_3_0 := by decide +kernel
theorem dX1_lambda_new_3_0 : decode cX1_lambda_new_3 0 = .ok (.aload_n 1, 1) := dk_43 (dk_at dksX1_lambda_new_3_0 0 rfl rfl)
theorem dX1_lambda_new_3_1 : decode cX1_lambda_new_3 1 = .ok (.getfield 355, 3) := dk_180 1 99 (dk_at dksX1_lambda_new_3_0 1 rfl rfl)
theorem dX1_lambda_new_3_4 : decode cX1_lambda_new_3 4 = .ok (.aload_n 0, 1) := dk_42 (dk_at dksX1_lambda_new_3_0 4 rfl rfl)
theorem dX1_lambda_new_3_5 : decode cX1_lambda_new_3 5 = .ok (.getfield 44, 3) := dk_180 0 44 (dk_at dksX1_lambda_new_3_0 5 rfl rfl)
theorem dX1_lambda_new_3_8 : decode cX1_lambda_new_3 8 = .ok (.getfield 355, 3) := dk_180 1 99 (dk_at dksX1_lambda_new_3_0 8 rfl rfl)
theorem dX1_lambda_new_3_11 : decode cX1_lambda_new_3 11 = .ok (.isub, 1) := dk_100 (dk_at dksX1_lambda_new_3_0 11 rfl rfl)
theorem dX1_lambda_new_3_12 : decode cX1_lambda_new_3 12 = .ok (.ireturn, 1) := dk_172 (dk_at dksX1_lambda_new_3_0 12 rfl rfl)
abbrev cX1_lambda_new_4 : ByteArray := prog_1_method_65_code
def yX1_lambda_new_4 : MethodName := ⟨RX1, "lambda$new$4", "(LSpoilMeadows$State;)I"⟩
def dkwX1_lambda_new_4_0 : List UInt8 := [42, 180, 0, 177, 184, 1, 89, 172]
abbrev dktX1_lambda_new_4_0 : List UInt8 := dkwX1_lambda_new_4_0 ++ []
theorem dksX1_lambda_new_4_0 : cX1_lambda_new_4.data.toList.drop 0 = dktX1_lambda_new_4_0 := by decide +kernel
theorem dX1_lambda_new_4_0 : decode cX1_lambda_new_4 0 = .ok (.aload_n 0, 1) := dk_42 (dk_at dksX1_lambda_new_4_0 0 rfl rfl)
theorem dX1_lambda_new_4_1 : decode cX1_lambda_new_4 1 = .ok (.getfield 177, 3) := dk_180 0 177 (dk_at dksX1_lambda_new_4_0 1 rfl rfl)
theorem dX1_lambda_new_4_4 : decode cX1_lambda_new_4 4 = .ok (.invokestatic 345, 3) := dk_184 1 89 (dk_at dksX1_lambda_new_4_0 4 rfl rfl)
theorem dX1_lambda_new_4_7 : decode cX1_lambda_new_4 7 = .ok (.ireturn, 1) := dk_172 (dk_at dksX1_lambda_new_4_0 7 rfl rfl)
abbrev cX1_clearBuffer : ByteArray := prog_1_method_33_code
def yX1_clearBuffer : MethodName := ⟨RX1, "clearBuffer", "()I"⟩
def dkwX1_clearBuffer_0 : List UInt8 := [42, 180, 0, 64, 182, 0, 250, 60, 42, 180, 0, 64, 3, 182, 1, 1, 27, 172]
abbrev dktX1_clearBuffer_0 : List UInt8 := dkwX1_clearBuffer_0 ++ []
theorem dksX1_clearBuffer_0 : cX1_clearBuffer.data.toList.drop 0 = dktX1_clearBuffer_0 := by decide +kernel
theorem dX1_clearBuffer_0 : decode cX1_clearBuffer 0 = .ok (.aload_n 0, 1) := dk_42 (dk_at dksX1_clearBuffer_0 0 rfl rfl)
theorem dX1_clearBuffer_1 : decode cX1_clearBuffer 1 = .ok (.getfield 64, 3) := dk_180 0 64 (dk_at dksX1_clearBuffer_0 1 rfl rfl)
theorem dX1_clearBuffer_4 : decode cX1_clearBuffer 4 = .ok (.invokevirtual 250, 3) := dk_182 0 250 (dk_at dksX1_clearBuffer_0 4 rfl rfl)
theorem dX1_clearBuffer_7 : decode cX1_clearBuffer 7 = .ok (.istore_n 1, 1) := dk_60 (dk_at dksX1_clearBuffer_0 7 rfl rfl)
theorem dX1_clearBuffer_8 : decode cX1_clearBuffer 8 = .ok (.aload_n 0, 1) := dk_42 (dk_at dksX1_clearBuffer_0 8 rfl rfl)
theorem dX1_clearBuffer_9 : decode cX1_clearBuffer 9 = .ok (.getfield 64, 3) := dk_180 0 64 (dk_at dksX1_clearBuffer_0 9 rfl rfl)
theorem dX1_clearBuffer_12 : decode cX1_clearBuffer 12 = .ok (.iconst 0, 1) := dk_3 (dk_at dksX1_clearBuffer_0 12 rfl rfl)
theorem dX1_clearBuffer_13 : decode cX1_clearBuffer 13 = .ok (.invokevirtual 257, 3) := dk_182 1 1 (dk_at dksX1_clearBuffer_0 13 rfl rfl)
theorem dX1_clearBuffer_16 : decode cX1_clearBuffer 16 = .ok (.iload_n 1, 1) := dk_27 (dk_at dksX1_clearBuffer_0 16 rfl rfl)
theorem dX1_clearBuffer_17 : decode cX1_clearBuffer 17 = .ok (.ireturn, 1) := dk_172 (dk_at dksX1_clearBuffer_0 17 rfl rfl)
abbrev cX1_firstError : ByteArray := prog_1_method_34_code
def yX1_firstError : MethodName := ⟨RX1, "firstError", "()I"⟩
def dkwX1_firstError_0 : List UInt8 := [187, 1, 4, 89, 42, 183, 1, 6, 76, 43, 182, 1, 7, 61, 43, 180, 1, 11, 172]
abbrev dktX1_firstError_0 : List UInt8 := dkwX1_firstError_0 ++ []
theorem dksX1_firstError_0 : cX1_firstError.data.toList.drop 0 = dktX1_firstError_0 := by decide +kernel
theorem dX1_firstError_0 : decode cX1_firstError 0 = .ok (.new 260, 3) := dk_187 1 4 (dk_at dksX1_firstError_0 0 rfl rfl)
theorem dX1_firstError_3 : decode cX1_firstError 3 = .ok (.dup, 1) := dk_89 (dk_at dksX1_firstError_0 3 rfl rfl)
theorem dX1_firstError_4 : decode cX1_firstError 4 = .ok (.aload_n 0, 1) := dk_42 (dk_at dksX1_firstError_0 4 rfl rfl)
theorem dX1_firstError_5 : decode cX1_firstError 5 = .ok (.invokespecial 262, 3) := dk_183 1 6 (dk_at dksX1_firstError_0 5 rfl rfl)
theorem dX1_firstError_8 : decode cX1_firstError 8 = .ok (.astore_n 1, 1) := dk_76 (dk_at dksX1_firstError_0 8 rfl rfl)
theorem dX1_firstError_9 : decode cX1_firstError 9 = .ok (.aload_n 1, 1) := dk_43 (dk_at dksX1_firstError_0 9 rfl rfl)
theorem dX1_firstError_10 : decode cX1_firstError 10 = .ok (.invokevirtual 263, 3) := dk_182 1 7 (dk_at dksX1_firstError_0 10 rfl rfl)
theorem dX1_firstError_13 : decode cX1_firstError 13 = .ok (.istore_n 2, 1) := dk_61 (dk_at dksX1_firstError_0 13 rfl rfl)
theorem dX1_firstError_14 : decode cX1_firstError 14 = .ok (.aload_n 1, 1) := dk_43 (dk_at dksX1_firstError_0 14 rfl rfl)
theorem dX1_firstError_15 : decode cX1_firstError 15 = .ok (.getfield 267, 3) := dk_180 1 11 (dk_at dksX1_firstError_0 15 rfl rfl)
theorem dX1_firstError_18 : decode cX1_firstError 18 = .ok (.ireturn, 1) := dk_172 (dk_at dksX1_firstError_0 18 rfl rfl)
abbrev cX1_inRange : ByteArray := prog_1_method_1_code
def yX1_inRange : MethodName := ⟨RX1, "inRange", "(III)Z"⟩
def dkwX1_inRange_0 : List UInt8 := [26, 27, 161, 0, 12, 26, 28, 163, 0, 7, 4, 167, 0, 4, 3, 172]
abbrev dktX1_inRange_0 : List UInt8 := dkwX1_inRange_0 ++ []
theorem dksX1_inRange_0 : cX1_inRange.data.toList.drop 0 = dktX1_inRange_0 := by decide +kernel
theorem dX1_inRange_0 : decode cX1_inRange 0 = .ok (.iload_n 0, 1) := dk_26 (dk_at dksX1_inRange_0 0 rfl rfl)
theorem dX1_inRange_1 : decode cX1_inRange 1 = .ok (.iload_n 1, 1) := dk_27 (dk_at dksX1_inRange_0 1 rfl rfl)
theorem dX1_inRange_2 : decode cX1_inRange 2 = .ok (.if_icmp .lt 12, 3) := dk_161 0 12 (dk_at dksX1_inRange_0 2 rfl rfl)
theorem dX1_inRange_5 : decode cX1_inRange 5 = .ok (.iload_n 0, 1) := dk_26 (dk_at dksX1_inRange_0 5 rfl rfl)
theorem dX1_inRange_6 : decode cX1_inRange 6 = .ok (.iload_n 2, 1) := dk_28 (dk_at dksX1_inRange_0 6 rfl rfl)
theorem dX1_inRange_7 : decode cX1_inRange 7 = .ok (.if_icmp .gt 7, 3) := dk_163 0 7 (dk_at dksX1_inRange_0 7 rfl rfl)
theorem dX1_inRange_10 : decode cX1_inRange 10 = .ok (.iconst 1, 1) := dk_4 (dk_at dksX1_inRange_0 10 rfl rfl)
theorem dX1_inRange_11 : decode cX1_inRange 11 = .ok (.goto 4, 3) := dk_167 0 4 (dk_at dksX1_inRange_0 11 rfl rfl)
theorem dX1_inRange_14 : decode cX1_inRange 14 = .ok (.iconst 0, 1) := dk_3 (dk_at dksX1_inRange_0 14 rfl rfl)
theorem dX1_inRange_15 : decode cX1_inRange 15 = .ok (.ireturn, 1) := dk_172 (dk_at dksX1_inRange_0 15 rfl rfl)
abbrev cX1_best : ByteArray := prog_1_method_55_code
def yX1_best : MethodName := ⟨RX1, "best", "()I"⟩
def dkwX1_best_0 : List UInt8 := [42, 180, 0, 44, 182, 1, 118, 172]
abbrev dktX1_best_0 : List UInt8 := dkwX1_best_0 ++ []
theorem dksX1_best_0 : cX1_best.data.toList.drop 0 = dktX1_best_0 := by decide +kernel
theorem dX1_best_0 : decode cX1_best 0 = .ok (.aload_n 0, 1) := dk_42 (dk_at dksX1_best_0 0 rfl rfl)
theorem dX1_best_1 : decode cX1_best 1 = .ok (.getfield 44, 3) := dk_180 0 44 (dk_at dksX1_best_0 1 rfl rfl)
theorem dX1_best_4 : decode cX1_best 4 = .ok (.invokevirtual 374, 3) := dk_182 1 118 (dk_at dksX1_best_0 4 rfl rfl)
theorem dX1_best_7 : decode cX1_best 7 = .ok (.ireturn, 1) := dk_172 (dk_at dksX1_best_0 7 rfl rfl)
abbrev cX1_clearIn : ByteArray := prog_1_method_57_code
def yX1_clearIn : MethodName := ⟨RX1, "clearIn", "()I"⟩
theorem dX1_clearIn_0 : decode cX1_clearIn 0 = .ok (.aload_n 0, 1) := by decide +kernel
theorem dX1_clearIn_1 : decode cX1_clearIn 1 = .ok (.invokevirtual 380, 3) := by decide +kernel
theorem dX1_clearIn_4 : decode cX1_clearIn 4 = .ok (.ireturn, 1) := by decide +kernel
abbrev cX1_daysToClear : ByteArray := prog_1_method_56_code
def yX1_daysToClear : MethodName := ⟨RX1, "daysToClear", "()I"⟩
def dkwX1_daysToClear_2 : List UInt8 := [132, 2, 1, 167, 255, 237, 2, 172]
abbrev dktX1_daysToClear_2 : List UInt8 := dkwX1_daysToClear_2 ++ []
def dkwX1_daysToClear_1 : List UInt8 := [182, 0, 117, 76, 4, 61, 28, 17, 0, 200, 163, 0, 18, 43, 182, 1, 121, 153, 0, 5, 28, 172]
abbrev dktX1_daysToClear_1 : List UInt8 := dkwX1_daysToClear_1 ++ dktX1_daysToClear_2
def dkwX1_daysToClear_0 : List UInt8 := [42, 180, 0, 44, 180, 0, 177, 42, 180, 0, 44, 180, 0, 167, 46, 154, 0, 5, 3, 172, 42, 180, 0, 44]
abbrev dktX1_daysToClear_0 : List UInt8 := dkwX1_daysToClear_0 ++ dktX1_daysToClear_1
theorem dksX1_daysToClear_0 : cX1_daysToClear.data.toList.drop 0 = dktX1_daysToClear_0 := by decide +kernel
theorem dksX1_daysToClear_1 : cX1_daysToClear.data.toList.drop 24 = dktX1_daysToClear_1 := dk_seg dksX1_daysToClear_0 24 rfl rfl
theorem dksX1_daysToClear_2 : cX1_daysToClear.data.toList.drop 46 = dktX1_daysToClear_2 := dk_seg dksX1_daysToClear_1 22 rfl rfl
theorem dX1_daysToClear_0 : decode cX1_daysToClear 0 = .ok (.aload_n 0, 1) := dk_42 (dk_at dksX1_daysToClear_0 0 rfl rfl)
theorem dX1_daysToClear_1 : decode cX1_daysToClear 1 = .ok (.getfield 44, 3) := dk_180 0 44 (dk_at dksX1_daysToClear_0 1 rfl rfl)
theorem dX1_daysToClear_4 : decode cX1_daysToClear 4 = .ok (.getfield 177, 3) := dk_180 0 177 (dk_at dksX1_daysToClear_0 4 rfl rfl)
theorem dX1_daysToClear_7 : decode cX1_daysToClear 7 = .ok (.aload_n 0, 1) := dk_42 (dk_at dksX1_daysToClear_0 7 rfl rfl)
theorem dX1_daysToClear_8 : decode cX1_daysToClear 8 = .ok (.getfield 44, 3) := dk_180 0 44 (dk_at dksX1_daysToClear_0 8 rfl rfl)
theorem dX1_daysToClear_11 : decode cX1_daysToClear 11 = .ok (.getfield 167, 3) := dk_180 0 167 (dk_at dksX1_daysToClear_0 11 rfl rfl)
theorem dX1_daysToClear_14 : decode cX1_daysToClear 14 = .ok (.iaload, 1) := dk_46 (dk_at dksX1_daysToClear_0 14 rfl rfl)
theorem dX1_daysToClear_15 : decode cX1_daysToClear 15 = .ok (.ifCond .ne 5, 3) := dk_154 0 5 (dk_at dksX1_daysToClear_0 15 rfl rfl)
theorem dX1_daysToClear_18 : decode cX1_daysToClear 18 = .ok (.iconst 0, 1) := dk_3 (dk_at dksX1_daysToClear_0 18 rfl rfl)
theorem dX1_daysToClear_19 : decode cX1_daysToClear 19 = .ok (.ireturn, 1) := dk_172 (dk_at dksX1_daysToClear_0 19 rfl rfl)
theorem dX1_daysToClear_20 : decode cX1_daysToClear 20 = .ok (.aload_n 0, 1) := dk_42 (dk_at dksX1_daysToClear_0 20 rfl rfl)
theorem dX1_daysToClear_21 : decode cX1_daysToClear 21 = .ok (.getfield 44, 3) := dk_180 0 44 (dk_at dksX1_daysToClear_0 21 rfl rfl)
theorem dX1_daysToClear_24 : decode cX1_daysToClear 24 = .ok (.invokevirtual 117, 3) := dk_182 0 117 (dk_at dksX1_daysToClear_1 0 rfl rfl)
theorem dX1_daysToClear_27 : decode cX1_daysToClear 27 = .ok (.astore_n 1, 1) := dk_76 (dk_at dksX1_daysToClear_1 3 rfl rfl)
theorem dX1_daysToClear_28 : decode cX1_daysToClear 28 = .ok (.iconst 1, 1) := dk_4 (dk_at dksX1_daysToClear_1 4 rfl rfl)
theorem dX1_daysToClear_29 : decode cX1_daysToClear 29 = .ok (.istore_n 2, 1) := dk_61 (dk_at dksX1_daysToClear_1 5 rfl rfl)
theorem dX1_daysToClear_30 : decode cX1_daysToClear 30 = .ok (.iload_n 2, 1) := dk_28 (dk_at dksX1_daysToClear_1 6 rfl rfl)
theorem dX1_daysToClear_31 : decode cX1_daysToClear 31 = .ok (.sipush 200, 3) := dk_17 0 200 (dk_at dksX1_daysToClear_1 7 rfl rfl)
theorem dX1_daysToClear_34 : decode cX1_daysToClear 34 = .ok (.if_icmp .gt 18, 3) := dk_163 0 18 (dk_at dksX1_daysToClear_1 10 rfl rfl)
theorem dX1_daysToClear_37 : decode cX1_daysToClear 37 = .ok (.aload_n 1, 1) := dk_43 (dk_at dksX1_daysToClear_1 13 rfl rfl)
theorem dX1_daysToClear_38 : decode cX1_daysToClear 38 = .ok (.invokevirtual 377, 3) := dk_182 1 121 (dk_at dksX1_daysToClear_1 14 rfl rfl)
theorem dX1_daysToClear_41 : decode cX1_daysToClear 41 = .ok (.ifCond .eq 5, 3) := dk_153 0 5 (dk_at dksX1_daysToClear_1 17 rfl rfl)
theorem dX1_daysToClear_44 : decode cX1_daysToClear 44 = .ok (.iload_n 2, 1) := dk_28 (dk_at dksX1_daysToClear_1 20 rfl rfl)
theorem dX1_daysToClear_45 : decode cX1_daysToClear 45 = .ok (.ireturn, 1) := dk_172 (dk_at dksX1_daysToClear_1 21 rfl rfl)
theorem dX1_daysToClear_46 : decode cX1_daysToClear 46 = .ok (.iinc 2 1, 3) := dk_132 2 1 (dk_at dksX1_daysToClear_2 0 rfl rfl)
theorem dX1_daysToClear_49 : decode cX1_daysToClear 49 = .ok (.goto (-19), 3) := dk_167 255 237 (dk_at dksX1_daysToClear_2 3 rfl rfl)
theorem dX1_daysToClear_52 : decode cX1_daysToClear 52 = .ok (.iconst (-1), 1) := dk_2 (dk_at dksX1_daysToClear_2 6 rfl rfl)
theorem dX1_daysToClear_53 : decode cX1_daysToClear 53 = .ok (.ireturn, 1) := dk_172 (dk_at dksX1_daysToClear_2 7 rfl rfl)
abbrev cX1_laidShare : ByteArray := prog_1_method_61_code
def yX1_laidShare : MethodName := ⟨RX1, "laidShare", "()D"⟩
theorem dX1_laidShare_0 : decode cX1_laidShare 0 = .ok (.aload_n 0, 1) := by decide +kernel
theorem dX1_laidShare_1 : decode cX1_laidShare 1 = .ok (.invokevirtual 386, 3) := by decide +kernel
theorem dX1_laidShare_4 : decode cX1_laidShare 4 = .ok (.dreturn, 1) := by decide +kernel
abbrev cX1_laidNow : ByteArray := prog_1_method_60_code
def yX1_laidNow : MethodName := ⟨RX1, "laidNow", "()D"⟩
def dkwX1_laidNow_1 : List UInt8 := [184, 0, 224, 135, 27, 135, 111, 175]
abbrev dktX1_laidNow_1 : List UInt8 := dkwX1_laidNow_1 ++ []
def dkwX1_laidNow_0 : List UInt8 := [42, 180, 0, 44, 180, 1, 32, 184, 1, 89, 60, 27, 154, 0, 7, 15, 167, 0, 14, 42, 180, 0, 44]
abbrev dktX1_laidNow_0 : List UInt8 := dkwX1_laidNow_0 ++ dktX1_laidNow_1
theorem dksX1_laidNow_0 : cX1_laidNow.data.toList.drop 0 = dktX1_laidNow_0 := by decide +kernel
theorem dksX1_laidNow_1 : cX1_laidNow.data.toList.drop 23 = dktX1_laidNow_1 := dk_seg dksX1_laidNow_0 23 rfl rfl
theorem dX1_laidNow_0 : decode cX1_laidNow 0 = .ok (.aload_n 0, 1) := dk_42 (dk_at dksX1_laidNow_0 0 rfl rfl)
theorem dX1_laidNow_1 : decode cX1_laidNow 1 = .ok (.getfield 44, 3) := dk_180 0 44 (dk_at dksX1_laidNow_0 1 rfl rfl)
theorem dX1_laidNow_4 : decode cX1_laidNow 4 = .ok (.getfield 288, 3) := dk_180 1 32 (dk_at dksX1_laidNow_0 4 rfl rfl)
theorem dX1_laidNow_7 : decode cX1_laidNow 7 = .ok (.invokestatic 345, 3) := dk_184 1 89 (dk_at dksX1_laidNow_0 7 rfl rfl)
theorem dX1_laidNow_10 : decode cX1_laidNow 10 = .ok (.istore_n 1, 1) := dk_60 (dk_at dksX1_laidNow_0 10 rfl rfl)
theorem dX1_laidNow_11 : decode cX1_laidNow 11 = .ok (.iload_n 1, 1) := dk_27 (dk_at dksX1_laidNow_0 11 rfl rfl)
theorem dX1_laidNow_12 : decode cX1_laidNow 12 = .ok (.ifCond .ne 7, 3) := dk_154 0 7 (dk_at dksX1_laidNow_0 12 rfl rfl)
theorem dX1_laidNow_15 : decode cX1_laidNow 15 = .ok (.dconst 1, 1) := dk_15 (dk_at dksX1_laidNow_0 15 rfl rfl)
theorem dX1_laidNow_16 : decode cX1_laidNow 16 = .ok (.goto 14, 3) := dk_167 0 14 (dk_at dksX1_laidNow_0 16 rfl rfl)
theorem dX1_laidNow_19 : decode cX1_laidNow 19 = .ok (.aload_n 0, 1) := dk_42 (dk_at dksX1_laidNow_0 19 rfl rfl)
theorem dX1_laidNow_20 : decode cX1_laidNow 20 = .ok (.getfield 44, 3) := dk_180 0 44 (dk_at dksX1_laidNow_0 20 rfl rfl)
theorem dX1_laidNow_23 : decode cX1_laidNow 23 = .ok (.invokestatic 224, 3) := dk_184 0 224 (dk_at dksX1_laidNow_1 0 rfl rfl)
theorem dX1_laidNow_26 : decode cX1_laidNow 26 = .ok (.i2d, 1) := dk_135 (dk_at dksX1_laidNow_1 3 rfl rfl)
theorem dX1_laidNow_27 : decode cX1_laidNow 27 = .ok (.iload_n 1, 1) := dk_27 (dk_at dksX1_laidNow_1 4 rfl rfl)
theorem dX1_laidNow_28 : decode cX1_laidNow 28 = .ok (.i2d, 1) := dk_135 (dk_at dksX1_laidNow_1 5 rfl rfl)
theorem dX1_laidNow_29 : decode cX1_laidNow 29 = .ok (.ddiv, 1) := dk_111 (dk_at dksX1_laidNow_1 6 rfl rfl)
theorem dX1_laidNow_30 : decode cX1_laidNow 30 = .ok (.dreturn, 1) := dk_175 (dk_at dksX1_laidNow_1 7 rfl rfl)
abbrev cX1_digest : ByteArray := prog_1_method_64_code
def yX1_digest : MethodName := ⟨RX1, "digest", "()J"⟩
def dkwX1_digest_9 : List UInt8 := [42, 42, 180, 0, 64, 27, 182, 1, 155, 133, 182, 1, 140, 132, 1, 1, 167, 255, 229, 42, 180, 1, 136, 173]
abbrev dktX1_digest_9 : List UInt8 := dkwX1_digest_9 ++ []
def dkwX1_digest_8 : List UInt8 := [42, 180, 0, 64, 182, 0, 250, 133, 182, 1, 140, 3, 60, 27, 42, 180, 0, 64, 182, 0, 250, 162, 0, 22]
abbrev dktX1_digest_8 : List UInt8 := dkwX1_digest_8 ++ dktX1_digest_9
def dkwX1_digest_7 : List UInt8 := [25, 4, 198, 0, 7, 4, 167, 0, 4, 3, 184, 0, 203, 133, 182, 1, 140, 132, 3, 1, 167, 255, 225, 42]
abbrev dktX1_digest_7 : List UInt8 := dkwX1_digest_7 ++ dktX1_digest_8
def dkwX1_digest_6 : List UInt8 := [182, 1, 140, 42, 180, 0, 57, 76, 43, 190, 61, 3, 62, 29, 28, 162, 0, 32, 43, 29, 50, 58, 4, 42]
abbrev dktX1_digest_6 : List UInt8 := dkwX1_digest_6 ++ dktX1_digest_7
def dkwX1_digest_5 : List UInt8 := [182, 1, 140, 42, 42, 16, 15, 182, 1, 127, 133, 182, 1, 140, 42, 42, 182, 1, 130, 184, 1, 149]
abbrev dktX1_digest_5 : List UInt8 := dkwX1_digest_5 ++ dktX1_digest_6
def dkwX1_digest_4 : List UInt8 := [132, 1, 1, 167, 255, 236, 42, 42, 180, 0, 44, 182, 1, 118, 133, 182, 1, 140, 42, 42, 182, 1, 124, 133]
abbrev dktX1_digest_4 : List UInt8 := dkwX1_digest_4 ++ dktX1_digest_5
def dkwX1_digest_3 : List UInt8 := [182, 1, 146, 3, 60, 27, 8, 162, 0, 21, 42, 42, 16, 20, 27, 182, 1, 115, 133, 182, 1, 140]
abbrev dktX1_digest_3 : List UInt8 := dkwX1_digest_3 ++ dktX1_digest_4
def dkwX1_digest_2 : List UInt8 := [162, 0, 21, 43, 29, 46, 54, 4, 42, 21, 4, 133, 182, 1, 140, 132, 3, 1, 167, 255, 236, 42]
abbrev dktX1_digest_2 : List UInt8 := dkwX1_digest_2 ++ dktX1_digest_3
def dkwX1_digest_1 : List UInt8 := [182, 1, 140, 132, 1, 1, 167, 255, 237, 42, 180, 0, 44, 180, 0, 247, 76, 43, 190, 61, 3, 62, 29, 28]
abbrev dktX1_digest_1 : List UInt8 := dkwX1_digest_1 ++ dktX1_digest_2
def dkwX1_digest_0 : List UInt8 := [42, 20, 1, 144, 181, 1, 136, 3, 60, 27, 16, 12, 162, 0, 19, 42, 42, 27, 182, 1, 104, 133]
abbrev dktX1_digest_0 : List UInt8 := dkwX1_digest_0 ++ dktX1_digest_1
theorem dksX1_digest_0 : cX1_digest.data.toList.drop 0 = dktX1_digest_0 := by decide +kernel
theorem dksX1_digest_1 : cX1_digest.data.toList.drop 22 = dktX1_digest_1 := dk_seg dksX1_digest_0 22 rfl rfl
theorem dksX1_digest_2 : cX1_digest.data.toList.drop 46 = dktX1_digest_2 := dk_seg dksX1_digest_1 24 rfl rfl
theorem dksX1_digest_3 : cX1_digest.data.toList.drop 68 = dktX1_digest_3 := dk_seg dksX1_digest_2 22 rfl rfl
theorem dksX1_digest_4 : cX1_digest.data.toList.drop 90 = dktX1_digest_4 := dk_seg dksX1_digest_3 22 rfl rfl
theorem dksX1_digest_5 : cX1_digest.data.toList.drop 114 = dktX1_digest_5 := dk_seg dksX1_digest_4 24 rfl rfl
theorem dksX1_digest_6 : cX1_digest.data.toList.drop 136 = dktX1_digest_6 := dk_seg dksX1_digest_5 22 rfl rfl
theorem dksX1_digest_7 : cX1_digest.data.toList.drop 160 = dktX1_digest_7 := dk_seg dksX1_digest_6 24 rfl rfl
theorem dksX1_digest_8 : cX1_digest.data.toList.drop 184 = dktX1_digest_8 := dk_seg dksX1_digest_7 24 rfl rfl
theorem dksX1_digest_9 : cX1_digest.data.toList.drop 208 = dktX1_digest_9 := dk_seg dksX1_digest_8 24 rfl rfl
theorem dX1_digest_0 : decode cX1_digest 0 = .ok (.aload_n 0, 1) := dk_42 (dk_at dksX1_digest_0 0 rfl rfl)
theorem dX1_digest_1 : decode cX1_digest 1 = .ok (.ldc2_w 400, 3) := dk_20 1 144 (dk_at dksX1_digest_0 1 rfl rfl)
theorem dX1_digest_4 : decode cX1_digest 4 = .ok (.putfield 392, 3) := dk_181 1 136 (dk_at dksX1_digest_0 4 rfl rfl)
theorem dX1_digest_7 : decode cX1_digest 7 = .ok (.iconst 0, 1) := dk_3 (dk_at dksX1_digest_0 7 rfl rfl)
theorem dX1_digest_8 : decode cX1_digest 8 = .ok (.istore_n 1, 1) := dk_60 (dk_at dksX1_digest_0 8 rfl rfl)
theorem dX1_digest_9 : decode cX1_digest 9 = .ok (.iload_n 1, 1) := dk_27 (dk_at dksX1_digest_0 9 rfl rfl)
theorem dX1_digest_10 : decode cX1_digest 10 = .ok (.bipush 12, 2) := dk_16 12 (dk_at dksX1_digest_0 10 rfl rfl)
theorem dX1_digest_12 : decode cX1_digest 12 = .ok (.if_icmp .ge 19, 3) := dk_162 0 19 (dk_at dksX1_digest_0 12 rfl rfl)
theorem dX1_digest_15 : decode cX1_digest 15 = .ok (.aload_n 0, 1) := dk_42 (dk_at dksX1_digest_0 15 rfl rfl)
theorem dX1_digest_16 : decode cX1_digest 16 = .ok (.aload_n 0, 1) := dk_42 (dk_at dksX1_digest_0 16 rfl rfl)
theorem dX1_digest_17 : decode cX1_digest 17 = .ok (.iload_n 1, 1) := dk_27 (dk_at dksX1_digest_0 17 rfl rfl)
theorem dX1_digest_18 : decode cX1_digest 18 = .ok (.invokevirtual 360, 3) := dk_182 1 104 (dk_at dksX1_digest_0 18 rfl rfl)
theorem dX1_digest_21 : decode cX1_digest 21 = .ok (.i2l, 1) := dk_133 (dk_at dksX1_digest_0 21 rfl rfl)
theorem dX1_digest_22 : decode cX1_digest 22 = .ok (.invokevirtual 396, 3) := dk_182 1 140 (dk_at dksX1_digest_1 0 rfl rfl)
theorem dX1_digest_25 : decode cX1_digest 25 = .ok (.iinc 1 1, 3) := dk_132 1 1 (dk_at dksX1_digest_1 3 rfl rfl)
theorem dX1_digest_28 : decode cX1_digest 28 = .ok (.goto (-19), 3) := dk_167 255 237 (dk_at dksX1_digest_1 6 rfl rfl)
theorem dX1_digest_31 : decode cX1_digest 31 = .ok (.aload_n 0, 1) := dk_42 (dk_at dksX1_digest_1 9 rfl rfl)
theorem dX1_digest_32 : decode cX1_digest 32 = .ok (.getfield 44, 3) := dk_180 0 44 (dk_at dksX1_digest_1 10 rfl rfl)
theorem dX1_digest_35 : decode cX1_digest 35 = .ok (.getfield 247, 3) := dk_180 0 247 (dk_at dksX1_digest_1 13 rfl rfl)
theorem dX1_digest_38 : decode cX1_digest 38 = .ok (.astore_n 1, 1) := dk_76 (dk_at dksX1_digest_1 16 rfl rfl)
theorem dX1_digest_39 : decode cX1_digest 39 = .ok (.aload_n 1, 1) := dk_43 (dk_at dksX1_digest_1 17 rfl rfl)
theorem dX1_digest_40 : decode cX1_digest 40 = .ok (.arraylength, 1) := dk_190 (dk_at dksX1_digest_1 18 rfl rfl)
theorem dX1_digest_41 : decode cX1_digest 41 = .ok (.istore_n 2, 1) := dk_61 (dk_at dksX1_digest_1 19 rfl rfl)
theorem dX1_digest_42 : decode cX1_digest 42 = .ok (.iconst 0, 1) := dk_3 (dk_at dksX1_digest_1 20 rfl rfl)
theorem dX1_digest_43 : decode cX1_digest 43 = .ok (.istore_n 3, 1) := dk_62 (dk_at dksX1_digest_1 21 rfl rfl)
theorem dX1_digest_44 : decode cX1_digest 44 = .ok (.iload_n 3, 1) := dk_29 (dk_at dksX1_digest_1 22 rfl rfl)
theorem dX1_digest_45 : decode cX1_digest 45 = .ok (.iload_n 2, 1) := dk_28 (dk_at dksX1_digest_1 23 rfl rfl)
theorem dX1_digest_46 : decode cX1_digest 46 = .ok (.if_icmp .ge 21, 3) := dk_162 0 21 (dk_at dksX1_digest_2 0 rfl rfl)
theorem dX1_digest_49 : decode cX1_digest 49 = .ok (.aload_n 1, 1) := dk_43 (dk_at dksX1_digest_2 3 rfl rfl)
theorem dX1_digest_50 : decode cX1_digest 50 = .ok (.iload_n 3, 1) := dk_29 (dk_at dksX1_digest_2 4 rfl rfl)
theorem dX1_digest_51 : decode cX1_digest 51 = .ok (.iaload, 1) := dk_46 (dk_at dksX1_digest_2 5 rfl rfl)
theorem dX1_digest_52 : decode cX1_digest 52 = .ok (.istore 4, 2) := dk_54 4 (dk_at dksX1_digest_2 6 rfl rfl)
theorem dX1_digest_54 : decode cX1_digest 54 = .ok (.aload_n 0, 1) := dk_42 (dk_at dksX1_digest_2 8 rfl rfl)
theorem dX1_digest_55 : decode cX1_digest 55 = .ok (.iload 4, 2) := dk_21 4 (dk_at dksX1_digest_2 9 rfl rfl)
theorem dX1_digest_57 : decode cX1_digest 57 = .ok (.i2l, 1) := dk_133 (dk_at dksX1_digest_2 11 rfl rfl)
theorem dX1_digest_58 : decode cX1_digest 58 = .ok (.invokevirtual 396, 3) := dk_182 1 140 (dk_at dksX1_digest_2 12 rfl rfl)
theorem dX1_digest_61 : decode cX1_digest 61 = .ok (.iinc 3 1, 3) := dk_132 3 1 (dk_at dksX1_digest_2 15 rfl rfl)
theorem dX1_digest_64 : decode cX1_digest 64 = .ok (.goto (-20), 3) := dk_167 255 236 (dk_at dksX1_digest_2 18 rfl rfl)
theorem dX1_digest_67 : decode cX1_digest 67 = .ok (.aload_n 0, 1) := dk_42 (dk_at dksX1_digest_2 21 rfl rfl)
theorem dX1_digest_68 : decode cX1_digest 68 = .ok (.invokevirtual 402, 3) := dk_182 1 146 (dk_at dksX1_digest_3 0 rfl rfl)
theorem dX1_digest_71 : decode cX1_digest 71 = .ok (.iconst 0, 1) := dk_3 (dk_at dksX1_digest_3 3 rfl rfl)
theorem dX1_digest_72 : decode cX1_digest 72 = .ok (.istore_n 1, 1) := dk_60 (dk_at dksX1_digest_3 4 rfl rfl)
theorem dX1_digest_73 : decode cX1_digest 73 = .ok (.iload_n 1, 1) := dk_27 (dk_at dksX1_digest_3 5 rfl rfl)
theorem dX1_digest_74 : decode cX1_digest 74 = .ok (.iconst 5, 1) := dk_8 (dk_at dksX1_digest_3 6 rfl rfl)
theorem dX1_digest_75 : decode cX1_digest 75 = .ok (.if_icmp .ge 21, 3) := dk_162 0 21 (dk_at dksX1_digest_3 7 rfl rfl)
theorem dX1_digest_78 : decode cX1_digest 78 = .ok (.aload_n 0, 1) := dk_42 (dk_at dksX1_digest_3 10 rfl rfl)
theorem dX1_digest_79 : decode cX1_digest 79 = .ok (.aload_n 0, 1) := dk_42 (dk_at dksX1_digest_3 11 rfl rfl)
theorem dX1_digest_80 : decode cX1_digest 80 = .ok (.bipush 20, 2) := dk_16 20 (dk_at dksX1_digest_3 12 rfl rfl)
theorem dX1_digest_82 : decode cX1_digest 82 = .ok (.iload_n 1, 1) := dk_27 (dk_at dksX1_digest_3 14 rfl rfl)
theorem dX1_digest_83 : decode cX1_digest 83 = .ok (.invokevirtual 371, 3) := dk_182 1 115 (dk_at dksX1_digest_3 15 rfl rfl)
theorem dX1_digest_86 : decode cX1_digest 86 = .ok (.i2l, 1) := dk_133 (dk_at dksX1_digest_3 18 rfl rfl)
theorem dX1_digest_87 : decode cX1_digest 87 = .ok (.invokevirtual 396, 3) := dk_182 1 140 (dk_at dksX1_digest_3 19 rfl rfl)
theorem dX1_digest_90 : decode cX1_digest 90 = .ok (.iinc 1 1, 3) := dk_132 1 1 (dk_at dksX1_digest_4 0 rfl rfl)
theorem dX1_digest_93 : decode cX1_digest 93 = .ok (.goto (-20), 3) := dk_167 255 236 (dk_at dksX1_digest_4 3 rfl rfl)
theorem dX1_digest_96 : decode cX1_digest 96 = .ok (.aload_n 0, 1) := dk_42 (dk_at dksX1_digest_4 6 rfl rfl)
theorem dX1_digest_97 : decode cX1_digest 97 = .ok (.aload_n 0, 1) := dk_42 (dk_at dksX1_digest_4 7 rfl rfl)
theorem dX1_digest_98 : decode cX1_digest 98 = .ok (.getfield 44, 3) := dk_180 0 44 (dk_at dksX1_digest_4 8 rfl rfl)
theorem dX1_digest_101 : decode cX1_digest 101 = .ok (.invokevirtual 374, 3) := dk_182 1 118 (dk_at dksX1_digest_4 11 rfl rfl)
theorem dX1_digest_104 : decode cX1_digest 104 = .ok (.i2l, 1) := dk_133 (dk_at dksX1_digest_4 14 rfl rfl)
theorem dX1_digest_105 : decode cX1_digest 105 = .ok (.invokevirtual 396, 3) := dk_182 1 140 (dk_at dksX1_digest_4 15 rfl rfl)
theorem dX1_digest_108 : decode cX1_digest 108 = .ok (.aload_n 0, 1) := dk_42 (dk_at dksX1_digest_4 18 rfl rfl)
theorem dX1_digest_109 : decode cX1_digest 109 = .ok (.aload_n 0, 1) := dk_42 (dk_at dksX1_digest_4 19 rfl rfl)
theorem dX1_digest_110 : decode cX1_digest 110 = .ok (.invokevirtual 380, 3) := dk_182 1 124 (dk_at dksX1_digest_4 20 rfl rfl)
theorem dX1_digest_113 : decode cX1_digest 113 = .ok (.i2l, 1) := dk_133 (dk_at dksX1_digest_4 23 rfl rfl)
theorem dX1_digest_114 : decode cX1_digest 114 = .ok (.invokevirtual 396, 3) := dk_182 1 140 (dk_at dksX1_digest_5 0 rfl rfl)
theorem dX1_digest_117 : decode cX1_digest 117 = .ok (.aload_n 0, 1) := dk_42 (dk_at dksX1_digest_5 3 rfl rfl)
theorem dX1_digest_118 : decode cX1_digest 118 = .ok (.aload_n 0, 1) := dk_42 (dk_at dksX1_digest_5 4 rfl rfl)
theorem dX1_digest_119 : decode cX1_digest 119 = .ok (.bipush 15, 2) := dk_16 15 (dk_at dksX1_digest_5 5 rfl rfl)
theorem dX1_digest_121 : decode cX1_digest 121 = .ok (.invokevirtual 383, 3) := dk_182 1 127 (dk_at dksX1_digest_5 7 rfl rfl)
theorem dX1_digest_124 : decode cX1_digest 124 = .ok (.i2l, 1) := dk_133 (dk_at dksX1_digest_5 10 rfl rfl)
theorem dX1_digest_125 : decode cX1_digest 125 = .ok (.invokevirtual 396, 3) := dk_182 1 140 (dk_at dksX1_digest_5 11 rfl rfl)
theorem dX1_digest_128 : decode cX1_digest 128 = .ok (.aload_n 0, 1) := dk_42 (dk_at dksX1_digest_5 14 rfl rfl)
theorem dX1_digest_129 : decode cX1_digest 129 = .ok (.aload_n 0, 1) := dk_42 (dk_at dksX1_digest_5 15 rfl rfl)
theorem dX1_digest_130 : decode cX1_digest 130 = .ok (.invokevirtual 386, 3) := dk_182 1 130 (dk_at dksX1_digest_5 16 rfl rfl)
theorem dX1_digest_133 : decode cX1_digest 133 = .ok (.invokestatic 405, 3) := dk_184 1 149 (dk_at dksX1_digest_5 19 rfl rfl)
theorem dX1_digest_136 : decode cX1_digest 136 = .ok (.invokevirtual 396, 3) := dk_182 1 140 (dk_at dksX1_digest_6 0 rfl rfl)
theorem dX1_digest_139 : decode cX1_digest 139 = .ok (.aload_n 0, 1) := dk_42 (dk_at dksX1_digest_6 3 rfl rfl)
theorem dX1_digest_140 : decode cX1_digest 140 = .ok (.getfield 57, 3) := dk_180 0 57 (dk_at dksX1_digest_6 4 rfl rfl)
theorem dX1_digest_143 : decode cX1_digest 143 = .ok (.astore_n 1, 1) := dk_76 (dk_at dksX1_digest_6 7 rfl rfl)
theorem dX1_digest_144 : decode cX1_digest 144 = .ok (.aload_n 1, 1) := dk_43 (dk_at dksX1_digest_6 8 rfl rfl)
theorem dX1_digest_145 : decode cX1_digest 145 = .ok (.arraylength, 1) := dk_190 (dk_at dksX1_digest_6 9 rfl rfl)
theorem dX1_digest_146 : decode cX1_digest 146 = .ok (.istore_n 2, 1) := dk_61 (dk_at dksX1_digest_6 10 rfl rfl)
theorem dX1_digest_147 : decode cX1_digest 147 = .ok (.iconst 0, 1) := dk_3 (dk_at dksX1_digest_6 11 rfl rfl)
theorem dX1_digest_148 : decode cX1_digest 148 = .ok (.istore_n 3, 1) := dk_62 (dk_at dksX1_digest_6 12 rfl rfl)
theorem dX1_digest_149 : decode cX1_digest 149 = .ok (.iload_n 3, 1) := dk_29 (dk_at dksX1_digest_6 13 rfl rfl)
theorem dX1_digest_150 : decode cX1_digest 150 = .ok (.iload_n 2, 1) := dk_28 (dk_at dksX1_digest_6 14 rfl rfl)
theorem dX1_digest_151 : decode cX1_digest 151 = .ok (.if_icmp .ge 32, 3) := dk_162 0 32 (dk_at dksX1_digest_6 15 rfl rfl)
theorem dX1_digest_154 : decode cX1_digest 154 = .ok (.aload_n 1, 1) := dk_43 (dk_at dksX1_digest_6 18 rfl rfl)
theorem dX1_digest_155 : decode cX1_digest 155 = .ok (.iload_n 3, 1) := dk_29 (dk_at dksX1_digest_6 19 rfl rfl)
theorem dX1_digest_156 : decode cX1_digest 156 = .ok (.aaload, 1) := dk_50 (dk_at dksX1_digest_6 20 rfl rfl)
theorem dX1_digest_157 : decode cX1_digest 157 = .ok (.astore 4, 2) := dk_58 4 (dk_at dksX1_digest_6 21 rfl rfl)
theorem dX1_digest_159 : decode cX1_digest 159 = .ok (.aload_n 0, 1) := dk_42 (dk_at dksX1_digest_6 23 rfl rfl)
theorem dX1_digest_160 : decode cX1_digest 160 = .ok (.aload 4, 2) := dk_25 4 (dk_at dksX1_digest_7 0 rfl rfl)
theorem dX1_digest_162 : decode cX1_digest 162 = .ok (.ifnull 7, 3) := dk_198 0 7 (dk_at dksX1_digest_7 2 rfl rfl)
theorem dX1_digest_165 : decode cX1_digest 165 = .ok (.iconst 1, 1) := dk_4 (dk_at dksX1_digest_7 5 rfl rfl)
theorem dX1_digest_166 : decode cX1_digest 166 = .ok (.goto 4, 3) := dk_167 0 4 (dk_at dksX1_digest_7 6 rfl rfl)
theorem dX1_digest_169 : decode cX1_digest 169 = .ok (.iconst 0, 1) := dk_3 (dk_at dksX1_digest_7 9 rfl rfl)
theorem dX1_digest_170 : decode cX1_digest 170 = .ok (.invokestatic 203, 3) := dk_184 0 203 (dk_at dksX1_digest_7 10 rfl rfl)
theorem dX1_digest_173 : decode cX1_digest 173 = .ok (.i2l, 1) := dk_133 (dk_at dksX1_digest_7 13 rfl rfl)
theorem dX1_digest_174 : decode cX1_digest 174 = .ok (.invokevirtual 396, 3) := dk_182 1 140 (dk_at dksX1_digest_7 14 rfl rfl)
theorem dX1_digest_177 : decode cX1_digest 177 = .ok (.iinc 3 1, 3) := dk_132 3 1 (dk_at dksX1_digest_7 17 rfl rfl)
theorem dX1_digest_180 : decode cX1_digest 180 = .ok (.goto (-31), 3) := dk_167 255 225 (dk_at dksX1_digest_7 20 rfl rfl)
theorem dX1_digest_183 : decode cX1_digest 183 = .ok (.aload_n 0, 1) := dk_42 (dk_at dksX1_digest_7 23 rfl rfl)
theorem dX1_digest_184 : decode cX1_digest 184 = .ok (.aload_n 0, 1) := dk_42 (dk_at dksX1_digest_8 0 rfl rfl)
theorem dX1_digest_185 : decode cX1_digest 185 = .ok (.getfield 64, 3) := dk_180 0 64 (dk_at dksX1_digest_8 1 rfl rfl)
theorem dX1_digest_188 : decode cX1_digest 188 = .ok (.invokevirtual 250, 3) := dk_182 0 250 (dk_at dksX1_digest_8 4 rfl rfl)
theorem dX1_digest_191 : decode cX1_digest 191 = .ok (.i2l, 1) := dk_133 (dk_at dksX1_digest_8 7 rfl rfl)
theorem dX1_digest_192 : decode cX1_digest 192 = .ok (.invokevirtual 396, 3) := dk_182 1 140 (dk_at dksX1_digest_8 8 rfl rfl)
theorem dX1_digest_195 : decode cX1_digest 195 = .ok (.iconst 0, 1) := dk_3 (dk_at dksX1_digest_8 11 rfl rfl)
theorem dX1_digest_196 : decode cX1_digest 196 = .ok (.istore_n 1, 1) := dk_60 (dk_at dksX1_digest_8 12 rfl rfl)
theorem dX1_digest_197 : decode cX1_digest 197 = .ok (.iload_n 1, 1) := dk_27 (dk_at dksX1_digest_8 13 rfl rfl)
theorem dX1_digest_198 : decode cX1_digest 198 = .ok (.aload_n 0, 1) := dk_42 (dk_at dksX1_digest_8 14 rfl rfl)
theorem dX1_digest_199 : decode cX1_digest 199 = .ok (.getfield 64, 3) := dk_180 0 64 (dk_at dksX1_digest_8 15 rfl rfl)
theorem dX1_digest_202 : decode cX1_digest 202 = .ok (.invokevirtual 250, 3) := dk_182 0 250 (dk_at dksX1_digest_8 18 rfl rfl)
theorem dX1_digest_205 : decode cX1_digest 205 = .ok (.if_icmp .ge 22, 3) := dk_162 0 22 (dk_at dksX1_digest_8 21 rfl rfl)
theorem dX1_digest_208 : decode cX1_digest 208 = .ok (.aload_n 0, 1) := dk_42 (dk_at dksX1_digest_9 0 rfl rfl)
theorem dX1_digest_209 : decode cX1_digest 209 = .ok (.aload_n 0, 1) := dk_42 (dk_at dksX1_digest_9 1 rfl rfl)
theorem dX1_digest_210 : decode cX1_digest 210 = .ok (.getfield 64, 3) := dk_180 0 64 (dk_at dksX1_digest_9 2 rfl rfl)
theorem dX1_digest_213 : decode cX1_digest 213 = .ok (.iload_n 1, 1) := dk_27 (dk_at dksX1_digest_9 5 rfl rfl)
theorem dX1_digest_214 : decode cX1_digest 214 = .ok (.invokevirtual 411, 3) := dk_182 1 155 (dk_at dksX1_digest_9 6 rfl rfl)
theorem dX1_digest_217 : decode cX1_digest 217 = .ok (.i2l, 1) := dk_133 (dk_at dksX1_digest_9 9 rfl rfl)
theorem dX1_digest_218 : decode cX1_digest 218 = .ok (.invokevirtual 396, 3) := dk_182 1 140 (dk_at dksX1_digest_9 10 rfl rfl)
theorem dX1_digest_221 : decode cX1_digest 221 = .ok (.iinc 1 1, 3) := dk_132 1 1 (dk_at dksX1_digest_9 13 rfl rfl)
theorem dX1_digest_224 : decode cX1_digest 224 = .ok (.goto (-27), 3) := dk_167 255 229 (dk_at dksX1_digest_9 16 rfl rfl)
theorem dX1_digest_227 : decode cX1_digest 227 = .ok (.aload_n 0, 1) := dk_42 (dk_at dksX1_digest_9 19 rfl rfl)
theorem dX1_digest_228 : decode cX1_digest 228 = .ok (.getfield 392, 3) := dk_180 1 136 (dk_at dksX1_digest_9 20 rfl rfl)
theorem dX1_digest_231 : decode cX1_digest 231 = .ok (.lreturn, 1) := dk_173 (dk_at dksX1_digest_9 23 rfl rfl)
abbrev cX1_counted : ByteArray := prog_1_method_49_code
def yX1_counted : MethodName := ⟨RX1, "counted", "(I)I"⟩
def dkwX1_counted_6 : List UInt8 := [172, 42, 182, 1, 101, 172, 42, 180, 0, 53, 182, 0, 109, 172]
abbrev dktX1_counted_6 : List UInt8 := dkwX1_counted_6 ++ []
def dkwX1_counted_5 : List UInt8 := [42, 180, 0, 44, 180, 0, 177, 184, 1, 89, 172, 42, 5, 182, 1, 96, 172, 42, 180, 0, 44, 180, 1, 99]
abbrev dktX1_counted_5 : List UInt8 := dkwX1_counted_5 ++ dktX1_counted_6
def dkwX1_counted_4 : List UInt8 := [182, 1, 93, 172, 42, 180, 0, 44, 184, 0, 224, 172, 42, 180, 0, 80, 42, 180, 0, 44, 182, 1, 93, 172]
abbrev dktX1_counted_4 : List UInt8 := dkwX1_counted_4 ++ dktX1_counted_5
def dkwX1_counted_3 : List UInt8 := [180, 0, 167, 172, 42, 180, 0, 44, 180, 1, 32, 184, 1, 89, 172, 42, 180, 0, 73, 42, 180, 0, 44]
abbrev dktX1_counted_3 : List UInt8 := dkwX1_counted_3 ++ dktX1_counted_4
def dkwX1_counted_2 : List UInt8 := [42, 180, 0, 44, 180, 0, 197, 172, 42, 180, 0, 44, 180, 0, 124, 182, 0, 127, 172, 42, 180, 0, 44]
abbrev dktX1_counted_2 : List UInt8 := dkwX1_counted_2 ++ dktX1_counted_3
def dkwX1_counted_1 : List UInt8 := [170, 0, 0, 0, 0, 0, 159, 0, 0, 0, 0, 0, 0, 0, 10, 0, 0, 0, 59, 0, 0, 0, 67, 0, 0, 0, 78, 0, 0, 0, 86, 0, 0, 0, 97, 0, 0, 0, 109, 0, 0, 0, 117, 0, 0, 0, 129, 0, 0, 0, 140, 0, 0, 0, 146, 0, 0, 0, 154]
abbrev dktX1_counted_1 : List UInt8 := dkwX1_counted_1 ++ dktX1_counted_2
def dkwX1_counted_0 : List UInt8 := [27]
abbrev dktX1_counted_0 : List UInt8 := dkwX1_counted_0 ++ dktX1_counted_1
theorem dksX1_counted_0 : cX1_counted.data.toList.drop 0 = dktX1_counted_0 := by decide +kernel
theorem dksX1_counted_1 : cX1_counted.data.toList.drop 1 = dktX1_counted_1 := dk_seg dksX1_counted_0 1 rfl rfl
theorem dksX1_counted_2 : cX1_counted.data.toList.drop 60 = dktX1_counted_2 := dk_seg dksX1_counted_1 59 rfl rfl
theorem dksX1_counted_3 : cX1_counted.data.toList.drop 83 = dktX1_counted_3 := dk_seg dksX1_counted_2 23 rfl rfl
theorem dksX1_counted_4 : cX1_counted.data.toList.drop 106 = dktX1_counted_4 := dk_seg dksX1_counted_3 23 rfl rfl
theorem dksX1_counted_5 : cX1_counted.data.toList.drop 130 = dktX1_counted_5 := dk_seg dksX1_counted_4 24 rfl rfl
theorem dksX1_counted_6 : cX1_counted.data.toList.drop 154 = dktX1_counted_6 := dk_seg dksX1_counted_5 24 rfl rfl
theorem dX1_counted_0 : decode cX1_counted 0 = .ok (.iload_n 1, 1) := dk_27 (dk_at dksX1_counted_0 0 rfl rfl)
theorem dX1_counted_1 : decode cX1_counted 1 = .ok (.tableswitch 159 0 10 #[59, 67, 78, 86, 97, 109, 117, 129, 140, 146, 154], 59) := by decide +kernel
theorem dX1_counted_60 : decode cX1_counted 60 = .ok (.aload_n 0, 1) := dk_42 (dk_at dksX1_counted_2 0 rfl rfl)
theorem dX1_counted_61 : decode cX1_counted 61 = .ok (.getfield 44, 3) := dk_180 0 44 (dk_at dksX1_counted_2 1 rfl rfl)
theorem dX1_counted_64 : decode cX1_counted 64 = .ok (.getfield 197, 3) := dk_180 0 197 (dk_at dksX1_counted_2 4 rfl rfl)
theorem dX1_counted_67 : decode cX1_counted 67 = .ok (.ireturn, 1) := dk_172 (dk_at dksX1_counted_2 7 rfl rfl)
theorem dX1_counted_68 : decode cX1_counted 68 = .ok (.aload_n 0, 1) := dk_42 (dk_at dksX1_counted_2 8 rfl rfl)
theorem dX1_counted_69 : decode cX1_counted 69 = .ok (.getfield 44, 3) := dk_180 0 44 (dk_at dksX1_counted_2 9 rfl rfl)
theorem dX1_counted_72 : decode cX1_counted 72 = .ok (.getfield 124, 3) := dk_180 0 124 (dk_at dksX1_counted_2 12 rfl rfl)
theorem dX1_counted_75 : decode cX1_counted 75 = .ok (.invokevirtual 127, 3) := dk_182 0 127 (dk_at dksX1_counted_2 15 rfl rfl)
theorem dX1_counted_78 : decode cX1_counted 78 = .ok (.ireturn, 1) := dk_172 (dk_at dksX1_counted_2 18 rfl rfl)
theorem dX1_counted_79 : decode cX1_counted 79 = .ok (.aload_n 0, 1) := dk_42 (dk_at dksX1_counted_2 19 rfl rfl)
theorem dX1_counted_80 : decode cX1_counted 80 = .ok (.getfield 44, 3) := dk_180 0 44 (dk_at dksX1_counted_2 20 rfl rfl)
theorem dX1_counted_83 : decode cX1_counted 83 = .ok (.getfield 167, 3) := dk_180 0 167 (dk_at dksX1_counted_3 0 rfl rfl)
theorem dX1_counted_86 : decode cX1_counted 86 = .ok (.ireturn, 1) := dk_172 (dk_at dksX1_counted_3 3 rfl rfl)
theorem dX1_counted_87 : decode cX1_counted 87 = .ok (.aload_n 0, 1) := dk_42 (dk_at dksX1_counted_3 4 rfl rfl)
theorem dX1_counted_88 : decode cX1_counted 88 = .ok (.getfield 44, 3) := dk_180 0 44 (dk_at dksX1_counted_3 5 rfl rfl)
theorem dX1_counted_91 : decode cX1_counted 91 = .ok (.getfield 288, 3) := dk_180 1 32 (dk_at dksX1_counted_3 8 rfl rfl)
theorem dX1_counted_94 : decode cX1_counted 94 = .ok (.invokestatic 345, 3) := dk_184 1 89 (dk_at dksX1_counted_3 11 rfl rfl)
theorem dX1_counted_97 : decode cX1_counted 97 = .ok (.ireturn, 1) := dk_172 (dk_at dksX1_counted_3 14 rfl rfl)
theorem dX1_counted_98 : decode cX1_counted 98 = .ok (.aload_n 0, 1) := dk_42 (dk_at dksX1_counted_3 15 rfl rfl)
theorem dX1_counted_99 : decode cX1_counted 99 = .ok (.getfield 73, 3) := dk_180 0 73 (dk_at dksX1_counted_3 16 rfl rfl)
theorem dX1_counted_102 : decode cX1_counted 102 = .ok (.aload_n 0, 1) := dk_42 (dk_at dksX1_counted_3 19 rfl rfl)
theorem dX1_counted_103 : decode cX1_counted 103 = .ok (.getfield 44, 3) := dk_180 0 44 (dk_at dksX1_counted_3 20 rfl rfl)
theorem dX1_counted_106 : decode cX1_counted 106 = .ok (.invokevirtual 349, 3) := dk_182 1 93 (dk_at dksX1_counted_4 0 rfl rfl)
theorem dX1_counted_109 : decode cX1_counted 109 = .ok (.ireturn, 1) := dk_172 (dk_at dksX1_counted_4 3 rfl rfl)
theorem dX1_counted_110 : decode cX1_counted 110 = .ok (.aload_n 0, 1) := dk_42 (dk_at dksX1_counted_4 4 rfl rfl)
theorem dX1_counted_111 : decode cX1_counted 111 = .ok (.getfield 44, 3) := dk_180 0 44 (dk_at dksX1_counted_4 5 rfl rfl)
theorem dX1_counted_114 : decode cX1_counted 114 = .ok (.invokestatic 224, 3) := dk_184 0 224 (dk_at dksX1_counted_4 8 rfl rfl)
theorem dX1_counted_117 : decode cX1_counted 117 = .ok (.ireturn, 1) := dk_172 (dk_at dksX1_counted_4 11 rfl rfl)
theorem dX1_counted_118 : decode cX1_counted 118 = .ok (.aload_n 0, 1) := dk_42 (dk_at dksX1_counted_4 12 rfl rfl)
theorem dX1_counted_119 : decode cX1_counted 119 = .ok (.getfield 80, 3) := dk_180 0 80 (dk_at dksX1_counted_4 13 rfl rfl)
theorem dX1_counted_122 : decode cX1_counted 122 = .ok (.aload_n 0, 1) := dk_42 (dk_at dksX1_counted_4 16 rfl rfl)
theorem dX1_counted_123 : decode cX1_counted 123 = .ok (.getfield 44, 3) := dk_180 0 44 (dk_at dksX1_counted_4 17 rfl rfl)
theorem dX1_counted_126 : decode cX1_counted 126 = .ok (.invokevirtual 349, 3) := dk_182 1 93 (dk_at dksX1_counted_4 20 rfl rfl)
theorem dX1_counted_129 : decode cX1_counted 129 = .ok (.ireturn, 1) := dk_172 (dk_at dksX1_counted_4 23 rfl rfl)
theorem dX1_counted_130 : decode cX1_counted 130 = .ok (.aload_n 0, 1) := dk_42 (dk_at dksX1_counted_5 0 rfl rfl)
theorem dX1_counted_131 : decode cX1_counted 131 = .ok (.getfield 44, 3) := dk_180 0 44 (dk_at dksX1_counted_5 1 rfl rfl)
theorem dX1_counted_134 : decode cX1_counted 134 = .ok (.getfield 177, 3) := dk_180 0 177 (dk_at dksX1_counted_5 4 rfl rfl)
theorem dX1_counted_137 : decode cX1_counted 137 = .ok (.invokestatic 345, 3) := dk_184 1 89 (dk_at dksX1_counted_5 7 rfl rfl)
theorem dX1_counted_140 : decode cX1_counted 140 = .ok (.ireturn, 1) := dk_172 (dk_at dksX1_counted_5 10 rfl rfl)
theorem dX1_counted_141 : decode cX1_counted 141 = .ok (.aload_n 0, 1) := dk_42 (dk_at dksX1_counted_5 11 rfl rfl)
theorem dX1_counted_142 : decode cX1_counted 142 = .ok (.iconst 2, 1) := dk_5 (dk_at dksX1_counted_5 12 rfl rfl)
theorem dX1_counted_143 : decode cX1_counted 143 = .ok (.invokevirtual 352, 3) := dk_182 1 96 (dk_at dksX1_counted_5 13 rfl rfl)
theorem dX1_counted_146 : decode cX1_counted 146 = .ok (.ireturn, 1) := dk_172 (dk_at dksX1_counted_5 16 rfl rfl)
theorem dX1_counted_147 : decode cX1_counted 147 = .ok (.aload_n 0, 1) := dk_42 (dk_at dksX1_counted_5 17 rfl rfl)
theorem dX1_counted_148 : decode cX1_counted 148 = .ok (.getfield 44, 3) := dk_180 0 44 (dk_at dksX1_counted_5 18 rfl rfl)
theorem dX1_counted_151 : decode cX1_counted 151 = .ok (.getfield 355, 3) := dk_180 1 99 (dk_at dksX1_counted_5 21 rfl rfl)
theorem dX1_counted_154 : decode cX1_counted 154 = .ok (.ireturn, 1) := dk_172 (dk_at dksX1_counted_6 0 rfl rfl)
theorem dX1_counted_155 : decode cX1_counted 155 = .ok (.aload_n 0, 1) := dk_42 (dk_at dksX1_counted_6 1 rfl rfl)
theorem dX1_counted_156 : decode cX1_counted 156 = .ok (.invokevirtual 357, 3) := dk_182 1 101 (dk_at dksX1_counted_6 2 rfl rfl)
theorem dX1_counted_159 : decode cX1_counted 159 = .ok (.ireturn, 1) := dk_172 (dk_at dksX1_counted_6 5 rfl rfl)
theorem dX1_counted_160 : decode cX1_counted 160 = .ok (.aload_n 0, 1) := dk_42 (dk_at dksX1_counted_6 6 rfl rfl)
theorem dX1_counted_161 : decode cX1_counted 161 = .ok (.getfield 53, 3) := dk_180 0 53 (dk_at dksX1_counted_6 7 rfl rfl)
theorem dX1_counted_164 : decode cX1_counted 164 = .ok (.invokevirtual 109, 3) := dk_182 0 109 (dk_at dksX1_counted_6 10 rfl rfl)
theorem dX1_counted_167 : decode cX1_counted 167 = .ok (.ireturn, 1) := dk_172 (dk_at dksX1_counted_6 13 rfl rfl)
abbrev cX1_bargesIn : ByteArray := prog_1_method_46_code
def yX1_bargesIn : MethodName := ⟨RX1, "bargesIn", "(I)I"⟩
def dkwX1_bargesIn_0 : List UInt8 := [187, 1, 81, 89, 42, 27, 183, 1, 83, 42, 180, 0, 44, 182, 1, 86, 172]
abbrev dktX1_bargesIn_0 : List UInt8 := dkwX1_bargesIn_0 ++ []
theorem dksX1_bargesIn_0 : cX1_bargesIn.data.toList.drop 0 = dktX1_bargesIn_0 := by decide +kernel
theorem dX1_bargesIn_0 : decode cX1_bargesIn 0 = .ok (.new 337, 3) := dk_187 1 81 (dk_at dksX1_bargesIn_0 0 rfl rfl)
theorem dX1_bargesIn_3 : decode cX1_bargesIn 3 = .ok (.dup, 1) := dk_89 (dk_at dksX1_bargesIn_0 3 rfl rfl)
theorem dX1_bargesIn_4 : decode cX1_bargesIn 4 = .ok (.aload_n 0, 1) := dk_42 (dk_at dksX1_bargesIn_0 4 rfl rfl)
theorem dX1_bargesIn_5 : decode cX1_bargesIn 5 = .ok (.iload_n 1, 1) := dk_27 (dk_at dksX1_bargesIn_0 5 rfl rfl)
theorem dX1_bargesIn_6 : decode cX1_bargesIn 6 = .ok (.invokespecial 339, 3) := dk_183 1 83 (dk_at dksX1_bargesIn_0 6 rfl rfl)
theorem dX1_bargesIn_9 : decode cX1_bargesIn 9 = .ok (.aload_n 0, 1) := dk_42 (dk_at dksX1_bargesIn_0 9 rfl rfl)
theorem dX1_bargesIn_10 : decode cX1_bargesIn 10 = .ok (.getfield 44, 3) := dk_180 0 44 (dk_at dksX1_bargesIn_0 10 rfl rfl)
theorem dX1_bargesIn_13 : decode cX1_bargesIn 13 = .ok (.invokevirtual 342, 3) := dk_182 1 86 (dk_at dksX1_bargesIn_0 13 rfl rfl)
theorem dX1_bargesIn_16 : decode cX1_bargesIn 16 = .ok (.ireturn, 1) := dk_172 (dk_at dksX1_bargesIn_0 16 rfl rfl)
abbrev cX1_openMeadows : ByteArray := prog_1_method_48_code
def yX1_openMeadows : MethodName := ⟨RX1, "openMeadows", "()I"⟩
def dkwX1_openMeadows_1 : List UInt8 := [132, 2, 1, 167, 255, 234, 27, 172]
abbrev dktX1_openMeadows_1 : List UInt8 := dkwX1_openMeadows_1 ++ []
def dkwX1_openMeadows_0 : List UInt8 := [3, 60, 3, 61, 28, 8, 162, 0, 23, 27, 42, 180, 0, 44, 28, 182, 1, 75, 184, 0, 203, 96, 60]
abbrev dktX1_openMeadows_0 : List UInt8 := dkwX1_openMeadows_0 ++ dktX1_openMeadows_1
theorem dksX1_openMeadows_0 : cX1_openMeadows.data.toList.drop 0 = dktX1_openMeadows_0 := by decide +kernel
theorem dksX1_openMeadows_1 : cX1_openMeadows.data.toList.drop 23 = dktX1_openMeadows_1 := dk_seg dksX1_openMeadows_0 23 rfl rfl
theorem dX1_openMeadows_0 : decode cX1_openMeadows 0 = .ok (.iconst 0, 1) := dk_3 (dk_at dksX1_openMeadows_0 0 rfl rfl)
theorem dX1_openMeadows_1 : decode cX1_openMeadows 1 = .ok (.istore_n 1, 1) := dk_60 (dk_at dksX1_openMeadows_0 1 rfl rfl)
theorem dX1_openMeadows_2 : decode cX1_openMeadows 2 = .ok (.iconst 0, 1) := dk_3 (dk_at dksX1_openMeadows_0 2 rfl rfl)
theorem dX1_openMeadows_3 : decode cX1_openMeadows 3 = .ok (.istore_n 2, 1) := dk_61 (dk_at dksX1_openMeadows_0 3 rfl rfl)
theorem dX1_openMeadows_4 : decode cX1_openMeadows 4 = .ok (.iload_n 2, 1) := dk_28 (dk_at dksX1_openMeadows_0 4 rfl rfl)
theorem dX1_openMeadows_5 : decode cX1_openMeadows 5 = .ok (.iconst 5, 1) := dk_8 (dk_at dksX1_openMeadows_0 5 rfl rfl)
theorem dX1_openMeadows_6 : decode cX1_openMeadows 6 = .ok (.if_icmp .ge 23, 3) := dk_162 0 23 (dk_at dksX1_openMeadows_0 6 rfl rfl)
theorem dX1_openMeadows_9 : decode cX1_openMeadows 9 = .ok (.iload_n 1, 1) := dk_27 (dk_at dksX1_openMeadows_0 9 rfl rfl)
theorem dX1_openMeadows_10 : decode cX1_openMeadows 10 = .ok (.aload_n 0, 1) := dk_42 (dk_at dksX1_openMeadows_0 10 rfl rfl)
theorem dX1_openMeadows_11 : decode cX1_openMeadows 11 = .ok (.getfield 44, 3) := dk_180 0 44 (dk_at dksX1_openMeadows_0 11 rfl rfl)
theorem dX1_openMeadows_14 : decode cX1_openMeadows 14 = .ok (.iload_n 2, 1) := dk_28 (dk_at dksX1_openMeadows_0 14 rfl rfl)
theorem dX1_openMeadows_15 : decode cX1_openMeadows 15 = .ok (.invokevirtual 331, 3) := dk_182 1 75 (dk_at dksX1_openMeadows_0 15 rfl rfl)
theorem dX1_openMeadows_18 : decode cX1_openMeadows 18 = .ok (.invokestatic 203, 3) := dk_184 0 203 (dk_at dksX1_openMeadows_0 18 rfl rfl)
theorem dX1_openMeadows_21 : decode cX1_openMeadows 21 = .ok (.iadd, 1) := dk_96 (dk_at dksX1_openMeadows_0 21 rfl rfl)
theorem dX1_openMeadows_22 : decode cX1_openMeadows 22 = .ok (.istore_n 1, 1) := dk_60 (dk_at dksX1_openMeadows_0 22 rfl rfl)
theorem dX1_openMeadows_23 : decode cX1_openMeadows 23 = .ok (.iinc 2 1, 3) := dk_132 2 1 (dk_at dksX1_openMeadows_1 0 rfl rfl)
theorem dX1_openMeadows_26 : decode cX1_openMeadows 26 = .ok (.goto (-22), 3) := dk_167 255 234 (dk_at dksX1_openMeadows_1 3 rfl rfl)
theorem dX1_openMeadows_29 : decode cX1_openMeadows 29 = .ok (.iload_n 1, 1) := dk_27 (dk_at dksX1_openMeadows_1 6 rfl rfl)
theorem dX1_openMeadows_30 : decode cX1_openMeadows 30 = .ok (.ireturn, 1) := dk_172 (dk_at dksX1_openMeadows_1 7 rfl rfl)
abbrev cX1_mix : ByteArray := prog_1_method_62_code
def yX1_mix : MethodName := ⟨RX1, "mix", "(J)V"⟩
def dkwX1_mix_0 : List UInt8 := [42, 20, 1, 134, 42, 180, 1, 136, 105, 31, 97, 181, 1, 136, 177]
abbrev dktX1_mix_0 : List UInt8 := dkwX1_mix_0 ++ []
theorem dksX1_mix_0 : cX1_mix.data.toList.drop 0 = dktX1_mix_0 := by decide +kernel
theorem dX1_mix_0 : decode cX1_mix 0 = .ok (.aload_n 0, 1) := dk_42 (dk_at dksX1_mix_0 0 rfl rfl)
theorem dX1_mix_1 : decode cX1_mix 1 = .ok (.ldc2_w 390, 3) := dk_20 1 134 (dk_at dksX1_mix_0 1 rfl rfl)
theorem dX1_mix_4 : decode cX1_mix 4 = .ok (.aload_n 0, 1) := dk_42 (dk_at dksX1_mix_0 4 rfl rfl)
theorem dX1_mix_5 : decode cX1_mix 5 = .ok (.getfield 392, 3) := dk_180 1 136 (dk_at dksX1_mix_0 5 rfl rfl)
theorem dX1_mix_8 : decode cX1_mix 8 = .ok (.lmul, 1) := dk_105 (dk_at dksX1_mix_0 8 rfl rfl)
theorem dX1_mix_9 : decode cX1_mix 9 = .ok (.lload_n 1, 1) := dk_31 (dk_at dksX1_mix_0 9 rfl rfl)
theorem dX1_mix_10 : decode cX1_mix 10 = .ok (.ladd, 1) := dk_97 (dk_at dksX1_mix_0 10 rfl rfl)
theorem dX1_mix_11 : decode cX1_mix 11 = .ok (.putfield 392, 3) := dk_181 1 136 (dk_at dksX1_mix_0 11 rfl rfl)
theorem dX1_mix_14 : decode cX1_mix 14 = .ok (.return_, 1) := dk_177 (dk_at dksX1_mix_0 14 rfl rfl)
abbrev cX1_mixParts : ByteArray := prog_1_method_63_code
def yX1_mixParts : MethodName := ⟨RX1, "mixParts", "()V"⟩
def dkwX1_mixParts_4 : List UInt8 := [182, 1, 78, 133, 182, 1, 140, 132, 1, 1, 167, 255, 230, 177]
abbrev dktX1_mixParts_4 : List UInt8 := dkwX1_mixParts_4 ++ []
def dkwX1_mixParts_3 : List UInt8 := [132, 1, 1, 167, 255, 215, 3, 60, 27, 16, 45, 162, 0, 26, 42, 42, 27, 16, 9, 108, 27, 16, 9, 112]
abbrev dktX1_mixParts_3 : List UInt8 := dkwX1_mixParts_3 ++ dktX1_mixParts_4
def dkwX1_mixParts_2 : List UInt8 := [162, 0, 30, 42, 42, 42, 27, 16, 8, 108, 182, 0, 145, 27, 16, 8, 112, 182, 1, 65, 133, 182, 1, 140]
abbrev dktX1_mixParts_2 : List UInt8 := dkwX1_mixParts_2 ++ dktX1_mixParts_3
def dkwX1_mixParts_1 : List UInt8 := [132, 1, 1, 167, 255, 232, 3, 60, 27, 16, 8, 42, 180, 0, 44, 180, 0, 124, 182, 0, 127, 104]
abbrev dktX1_mixParts_1 : List UInt8 := dkwX1_mixParts_1 ++ dktX1_mixParts_2
def dkwX1_mixParts_0 : List UInt8 := [3, 60, 27, 16, 18, 162, 0, 24, 42, 42, 27, 6, 108, 27, 6, 112, 182, 1, 38, 133, 182, 1, 140]
abbrev dktX1_mixParts_0 : List UInt8 := dkwX1_mixParts_0 ++ dktX1_mixParts_1
theorem dksX1_mixParts_0 : cX1_mixParts.data.toList.drop 0 = dktX1_mixParts_0 := by decide +kernel
theorem dksX1_mixParts_1 : cX1_mixParts.data.toList.drop 23 = dktX1_mixParts_1 := dk_seg dksX1_mixParts_0 23 rfl rfl
theorem dksX1_mixParts_2 : cX1_mixParts.data.toList.drop 45 = dktX1_mixParts_2 := dk_seg dksX1_mixParts_1 22 rfl rfl
theorem dksX1_mixParts_3 : cX1_mixParts.data.toList.drop 69 = dktX1_mixParts_3 := dk_seg dksX1_mixParts_2 24 rfl rfl
theorem dksX1_mixParts_4 : cX1_mixParts.data.toList.drop 93 = dktX1_mixParts_4 := dk_seg dksX1_mixParts_3 24 rfl rfl
theorem dX1_mixParts_0 : decode cX1_mixParts 0 = .ok (.iconst 0, 1) := dk_3 (dk_at dksX1_mixParts_0 0 rfl rfl)
theorem dX1_mixParts_1 : decode cX1_mixParts 1 = .ok (.istore_n 1, 1) := dk_60 (dk_at dksX1_mixParts_0 1 rfl rfl)
theorem dX1_mixParts_2 : decode cX1_mixParts 2 = .ok (.iload_n 1, 1) := dk_27 (dk_at dksX1_mixParts_0 2 rfl rfl)
theorem dX1_mixParts_3 : decode cX1_mixParts 3 = .ok (.bipush 18, 2) := dk_16 18 (dk_at dksX1_mixParts_0 3 rfl rfl)
theorem dX1_mixParts_5 : decode cX1_mixParts 5 = .ok (.if_icmp .ge 24, 3) := dk_162 0 24 (dk_at dksX1_mixParts_0 5 rfl rfl)
theorem dX1_mixParts_8 : decode cX1_mixParts 8 = .ok (.aload_n 0, 1) := dk_42 (dk_at dksX1_mixParts_0 8 rfl rfl)
theorem dX1_mixParts_9 : decode cX1_mixParts 9 = .ok (.aload_n 0, 1) := dk_42 (dk_at dksX1_mixParts_0 9 rfl rfl)
theorem dX1_mixParts_10 : decode cX1_mixParts 10 = .ok (.iload_n 1, 1) := dk_27 (dk_at dksX1_mixParts_0 10 rfl rfl)
theorem dX1_mixParts_11 : decode cX1_mixParts 11 = .ok (.iconst 3, 1) := dk_6 (dk_at dksX1_mixParts_0 11 rfl rfl)
theorem dX1_mixParts_12 : decode cX1_mixParts 12 = .ok (.idiv, 1) := dk_108 (dk_at dksX1_mixParts_0 12 rfl rfl)
theorem dX1_mixParts_13 : decode cX1_mixParts 13 = .ok (.iload_n 1, 1) := dk_27 (dk_at dksX1_mixParts_0 13 rfl rfl)
theorem dX1_mixParts_14 : decode cX1_mixParts 14 = .ok (.iconst 3, 1) := dk_6 (dk_at dksX1_mixParts_0 14 rfl rfl)
theorem dX1_mixParts_15 : decode cX1_mixParts 15 = .ok (.irem, 1) := dk_112 (dk_at dksX1_mixParts_0 15 rfl rfl)
theorem dX1_mixParts_16 : decode cX1_mixParts 16 = .ok (.invokevirtual 294, 3) := dk_182 1 38 (dk_at dksX1_mixParts_0 16 rfl rfl)
theorem dX1_mixParts_19 : decode cX1_mixParts 19 = .ok (.i2l, 1) := dk_133 (dk_at dksX1_mixParts_0 19 rfl rfl)
theorem dX1_mixParts_20 : decode cX1_mixParts 20 = .ok (.invokevirtual 396, 3) := dk_182 1 140 (dk_at dksX1_mixParts_0 20 rfl rfl)
theorem dX1_mixParts_23 : decode cX1_mixParts 23 = .ok (.iinc 1 1, 3) := dk_132 1 1 (dk_at dksX1_mixParts_1 0 rfl rfl)
theorem dX1_mixParts_26 : decode cX1_mixParts 26 = .ok (.goto (-24), 3) := dk_167 255 232 (dk_at dksX1_mixParts_1 3 rfl rfl)
theorem dX1_mixParts_29 : decode cX1_mixParts 29 = .ok (.iconst 0, 1) := dk_3 (dk_at dksX1_mixParts_1 6 rfl rfl)
theorem dX1_mixParts_30 : decode cX1_mixParts 30 = .ok (.istore_n 1, 1) := dk_60 (dk_at dksX1_mixParts_1 7 rfl rfl)
theorem dX1_mixParts_31 : decode cX1_mixParts 31 = .ok (.iload_n 1, 1) := dk_27 (dk_at dksX1_mixParts_1 8 rfl rfl)
theorem dX1_mixParts_32 : decode cX1_mixParts 32 = .ok (.bipush 8, 2) := dk_16 8 (dk_at dksX1_mixParts_1 9 rfl rfl)
theorem dX1_mixParts_34 : decode cX1_mixParts 34 = .ok (.aload_n 0, 1) := dk_42 (dk_at dksX1_mixParts_1 11 rfl rfl)
theorem dX1_mixParts_35 : decode cX1_mixParts 35 = .ok (.getfield 44, 3) := dk_180 0 44 (dk_at dksX1_mixParts_1 12 rfl rfl)
theorem dX1_mixParts_38 : decode cX1_mixParts 38 = .ok (.getfield 124, 3) := dk_180 0 124 (dk_at dksX1_mixParts_1 15 rfl rfl)
theorem dX1_mixParts_41 : decode cX1_mixParts 41 = .ok (.invokevirtual 127, 3) := dk_182 0 127 (dk_at dksX1_mixParts_1 18 rfl rfl)
theorem dX1_mixParts_44 : decode cX1_mixParts 44 = .ok (.imul, 1) := dk_104 (dk_at dksX1_mixParts_1 21 rfl rfl)
theorem dX1_mixParts_45 : decode cX1_mixParts 45 = .ok (.if_icmp .ge 30, 3) := dk_162 0 30 (dk_at dksX1_mixParts_2 0 rfl rfl)
theorem dX1_mixParts_48 : decode cX1_mixParts 48 = .ok (.aload_n 0, 1) := dk_42 (dk_at dksX1_mixParts_2 3 rfl rfl)
theorem dX1_mixParts_49 : decode cX1_mixParts 49 = .ok (.aload_n 0, 1) := dk_42 (dk_at dksX1_mixParts_2 4 rfl rfl)
theorem dX1_mixParts_50 : decode cX1_mixParts 50 = .ok (.aload_n 0, 1) := dk_42 (dk_at dksX1_mixParts_2 5 rfl rfl)
theorem dX1_mixParts_51 : decode cX1_mixParts 51 = .ok (.iload_n 1, 1) := dk_27 (dk_at dksX1_mixParts_2 6 rfl rfl)
theorem dX1_mixParts_52 : decode cX1_mixParts 52 = .ok (.bipush 8, 2) := dk_16 8 (dk_at dksX1_mixParts_2 7 rfl rfl)
theorem dX1_mixParts_54 : decode cX1_mixParts 54 = .ok (.idiv, 1) := dk_108 (dk_at dksX1_mixParts_2 9 rfl rfl)
theorem dX1_mixParts_55 : decode cX1_mixParts 55 = .ok (.invokevirtual 145, 3) := dk_182 0 145 (dk_at dksX1_mixParts_2 10 rfl rfl)
theorem dX1_mixParts_58 : decode cX1_mixParts 58 = .ok (.iload_n 1, 1) := dk_27 (dk_at dksX1_mixParts_2 13 rfl rfl)
theorem dX1_mixParts_59 : decode cX1_mixParts 59 = .ok (.bipush 8, 2) := dk_16 8 (dk_at dksX1_mixParts_2 14 rfl rfl)
theorem dX1_mixParts_61 : decode cX1_mixParts 61 = .ok (.irem, 1) := dk_112 (dk_at dksX1_mixParts_2 16 rfl rfl)
theorem dX1_mixParts_62 : decode cX1_mixParts 62 = .ok (.invokevirtual 321, 3) := dk_182 1 65 (dk_at dksX1_mixParts_2 17 rfl rfl)
theorem dX1_mixParts_65 : decode cX1_mixParts 65 = .ok (.i2l, 1) := dk_133 (dk_at dksX1_mixParts_2 20 rfl rfl)
theorem dX1_mixParts_66 : decode cX1_mixParts 66 = .ok (.invokevirtual 396, 3) := dk_182 1 140 (dk_at dksX1_mixParts_2 21 rfl rfl)
theorem dX1_mixParts_69 : decode cX1_mixParts 69 = .ok (.iinc 1 1, 3) := dk_132 1 1 (dk_at dksX1_mixParts_3 0 rfl rfl)
theorem dX1_mixParts_72 : decode cX1_mixParts 72 = .ok (.goto (-41), 3) := dk_167 255 215 (dk_at dksX1_mixParts_3 3 rfl rfl)
theorem dX1_mixParts_75 : decode cX1_mixParts 75 = .ok (.iconst 0, 1) := dk_3 (dk_at dksX1_mixParts_3 6 rfl rfl)
theorem dX1_mixParts_76 : decode cX1_mixParts 76 = .ok (.istore_n 1, 1) := dk_60 (dk_at dksX1_mixParts_3 7 rfl rfl)
theorem dX1_mixParts_77 : decode cX1_mixParts 77 = .ok (.iload_n 1, 1) := dk_27 (dk_at dksX1_mixParts_3 8 rfl rfl)
theorem dX1_mixParts_78 : decode cX1_mixParts 78 = .ok (.bipush 45, 2) := dk_16 45 (dk_at dksX1_mixParts_3 9 rfl rfl)
theorem dX1_mixParts_80 : decode cX1_mixParts 80 = .ok (.if_icmp .ge 26, 3) := dk_162 0 26 (dk_at dksX1_mixParts_3 11 rfl rfl)
theorem dX1_mixParts_83 : decode cX1_mixParts 83 = .ok (.aload_n 0, 1) := dk_42 (dk_at dksX1_mixParts_3 14 rfl rfl)
theorem dX1_mixParts_84 : decode cX1_mixParts 84 = .ok (.aload_n 0, 1) := dk_42 (dk_at dksX1_mixParts_3 15 rfl rfl)
theorem dX1_mixParts_85 : decode cX1_mixParts 85 = .ok (.iload_n 1, 1) := dk_27 (dk_at dksX1_mixParts_3 16 rfl rfl)
theorem dX1_mixParts_86 : decode cX1_mixParts 86 = .ok (.bipush 9, 2) := dk_16 9 (dk_at dksX1_mixParts_3 17 rfl rfl)
theorem dX1_mixParts_88 : decode cX1_mixParts 88 = .ok (.idiv, 1) := dk_108 (dk_at dksX1_mixParts_3 19 rfl rfl)
theorem dX1_mixParts_89 : decode cX1_mixParts 89 = .ok (.iload_n 1, 1) := dk_27 (dk_at dksX1_mixParts_3 20 rfl rfl)
theorem dX1_mixParts_90 : decode cX1_mixParts 90 = .ok (.bipush 9, 2) := dk_16 9 (dk_at dksX1_mixParts_3 21 rfl rfl)
theorem dX1_mixParts_92 : decode cX1_mixParts 92 = .ok (.irem, 1) := dk_112 (dk_at dksX1_mixParts_3 23 rfl rfl)
theorem dX1_mixParts_93 : decode cX1_mixParts 93 = .ok (.invokevirtual 334, 3) := dk_182 1 78 (dk_at dksX1_mixParts_4 0 rfl rfl)
theorem dX1_mixParts_96 : decode cX1_mixParts 96 = .ok (.i2l, 1) := dk_133 (dk_at dksX1_mixParts_4 3 rfl rfl)
theorem dX1_mixParts_97 : decode cX1_mixParts 97 = .ok (.invokevirtual 396, 3) := dk_182 1 140 (dk_at dksX1_mixParts_4 4 rfl rfl)
theorem dX1_mixParts_100 : decode cX1_mixParts 100 = .ok (.iinc 1 1, 3) := dk_132 1 1 (dk_at dksX1_mixParts_4 7 rfl rfl)
theorem dX1_mixParts_103 : decode cX1_mixParts 103 = .ok (.goto (-26), 3) := dk_167 255 230 (dk_at dksX1_mixParts_4 10 rfl rfl)
theorem dX1_mixParts_106 : decode cX1_mixParts 106 = .ok (.return_, 1) := dk_177 (dk_at dksX1_mixParts_4 13 rfl rfl)
abbrev cX1_reachPart : ByteArray := prog_1_method_40_code
def yX1_reachPart : MethodName := ⟨RX1, "reachPart", "(II)I"⟩
def dkwX1_reachPart_1 : List UInt8 := [180, 0, 44, 180, 1, 32, 27, 46, 167, 0, 12, 42, 180, 0, 44, 180, 1, 35, 27, 46, 172]
abbrev dktX1_reachPart_1 : List UInt8 := dkwX1_reachPart_1 ++ []
def dkwX1_reachPart_0 : List UInt8 := [28, 154, 0, 15, 42, 180, 0, 44, 180, 0, 177, 27, 46, 167, 0, 29, 28, 4, 160, 0, 15, 42]
abbrev dktX1_reachPart_0 : List UInt8 := dkwX1_reachPart_0 ++ dktX1_reachPart_1
theorem dksX1_reachPart_0 : cX1_reachPart.data.toList.drop 0 = dktX1_reachPart_0 := by decide +kernel
theorem dksX1_reachPart_1 : cX1_reachPart.data.toList.drop 22 = dktX1_reachPart_1 := dk_seg dksX1_reachPart_0 22 rfl rfl
theorem dX1_reachPart_0 : decode cX1_reachPart 0 = .ok (.iload_n 2, 1) := dk_28 (dk_at dksX1_reachPart_0 0 rfl rfl)
theorem dX1_reachPart_1 : decode cX1_reachPart 1 = .ok (.ifCond .ne 15, 3) := dk_154 0 15 (dk_at dksX1_reachPart_0 1 rfl rfl)
theorem dX1_reachPart_4 : decode cX1_reachPart 4 = .ok (.aload_n 0, 1) := dk_42 (dk_at dksX1_reachPart_0 4 rfl rfl)
theorem dX1_reachPart_5 : decode cX1_reachPart 5 = .ok (.getfield 44, 3) := dk_180 0 44 (dk_at dksX1_reachPart_0 5 rfl rfl)
theorem dX1_reachPart_8 : decode cX1_reachPart 8 = .ok (.getfield 177, 3) := dk_180 0 177 (dk_at dksX1_reachPart_0 8 rfl rfl)
theorem dX1_reachPart_11 : decode cX1_reachPart 11 = .ok (.iload_n 1, 1) := dk_27 (dk_at dksX1_reachPart_0 11 rfl rfl)
theorem dX1_reachPart_12 : decode cX1_reachPart 12 = .ok (.iaload, 1) := dk_46 (dk_at dksX1_reachPart_0 12 rfl rfl)
theorem dX1_reachPart_13 : decode cX1_reachPart 13 = .ok (.goto 29, 3) := dk_167 0 29 (dk_at dksX1_reachPart_0 13 rfl rfl)
theorem dX1_reachPart_16 : decode cX1_reachPart 16 = .ok (.iload_n 2, 1) := dk_28 (dk_at dksX1_reachPart_0 16 rfl rfl)
theorem dX1_reachPart_17 : decode cX1_reachPart 17 = .ok (.iconst 1, 1) := dk_4 (dk_at dksX1_reachPart_0 17 rfl rfl)
theorem dX1_reachPart_18 : decode cX1_reachPart 18 = .ok (.if_icmp .ne 15, 3) := dk_160 0 15 (dk_at dksX1_reachPart_0 18 rfl rfl)
theorem dX1_reachPart_21 : decode cX1_reachPart 21 = .ok (.aload_n 0, 1) := dk_42 (dk_at dksX1_reachPart_0 21 rfl rfl)
theorem dX1_reachPart_22 : decode cX1_reachPart 22 = .ok (.getfield 44, 3) := dk_180 0 44 (dk_at dksX1_reachPart_1 0 rfl rfl)
theorem dX1_reachPart_25 : decode cX1_reachPart 25 = .ok (.getfield 288, 3) := dk_180 1 32 (dk_at dksX1_reachPart_1 3 rfl rfl)
theorem dX1_reachPart_28 : decode cX1_reachPart 28 = .ok (.iload_n 1, 1) := dk_27 (dk_at dksX1_reachPart_1 6 rfl rfl)
theorem dX1_reachPart_29 : decode cX1_reachPart 29 = .ok (.iaload, 1) := dk_46 (dk_at dksX1_reachPart_1 7 rfl rfl)
theorem dX1_reachPart_30 : decode cX1_reachPart 30 = .ok (.goto 12, 3) := dk_167 0 12 (dk_at dksX1_reachPart_1 8 rfl rfl)
theorem dX1_reachPart_33 : decode cX1_reachPart 33 = .ok (.aload_n 0, 1) := dk_42 (dk_at dksX1_reachPart_1 11 rfl rfl)
theorem dX1_reachPart_34 : decode cX1_reachPart 34 = .ok (.getfield 44, 3) := dk_180 0 44 (dk_at dksX1_reachPart_1 12 rfl rfl)
theorem dX1_reachPart_37 : decode cX1_reachPart 37 = .ok (.getfield 291, 3) := dk_180 1 35 (dk_at dksX1_reachPart_1 15 rfl rfl)
theorem dX1_reachPart_40 : decode cX1_reachPart 40 = .ok (.iload_n 1, 1) := dk_27 (dk_at dksX1_reachPart_1 18 rfl rfl)
theorem dX1_reachPart_41 : decode cX1_reachPart 41 = .ok (.iaload, 1) := dk_46 (dk_at dksX1_reachPart_1 19 rfl rfl)
theorem dX1_reachPart_42 : decode cX1_reachPart 42 = .ok (.ireturn, 1) := dk_172 (dk_at dksX1_reachPart_1 20 rfl rfl)
abbrev cX1_at : ByteArray := prog_1_method_12_code
def yX1_at : MethodName := ⟨RX1, "at", "(I)LSpoilMeadows$Barge;"⟩
def dkwX1_at_0 : List UInt8 := [42, 180, 0, 44, 180, 0, 124, 27, 182, 0, 128, 192, 0, 132, 176]
abbrev dktX1_at_0 : List UInt8 := dkwX1_at_0 ++ []
theorem dksX1_at_0 : cX1_at.data.toList.drop 0 = dktX1_at_0 := by decide +kernel
theorem dX1_at_0 : decode cX1_at 0 = .ok (.aload_n 0, 1) := dk_42 (dk_at dksX1_at_0 0 rfl rfl)
theorem dX1_at_1 : decode cX1_at 1 = .ok (.getfield 44, 3) := dk_180 0 44 (dk_at dksX1_at_0 1 rfl rfl)
theorem dX1_at_4 : decode cX1_at 4 = .ok (.getfield 124, 3) := dk_180 0 124 (dk_at dksX1_at_0 4 rfl rfl)
theorem dX1_at_7 : decode cX1_at 7 = .ok (.iload_n 1, 1) := dk_27 (dk_at dksX1_at_0 7 rfl rfl)
theorem dX1_at_8 : decode cX1_at 8 = .ok (.invokevirtual 128, 3) := dk_182 0 128 (dk_at dksX1_at_0 8 rfl rfl)
theorem dX1_at_11 : decode cX1_at 11 = .ok (.checkcast 132, 3) := dk_192 0 132 (dk_at dksX1_at_0 11 rfl rfl)
theorem dX1_at_14 : decode cX1_at 14 = .ok (.areturn, 1) := dk_176 (dk_at dksX1_at_0 14 rfl rfl)
abbrev cX1_bargePart : ByteArray := prog_1_method_42_code
def yX1_bargePart : MethodName := ⟨RX1, "bargePart", "(LSpoilMeadows$Barge;I)I"⟩
def dkwX1_bargePart_4 : List UInt8 := [182, 1, 58, 172, 43, 180, 1, 62, 172]
abbrev dktX1_bargePart_4 : List UInt8 := dkwX1_bargePart_4 ++ []
def dkwX1_bargePart_3 : List UInt8 := [153, 0, 10, 43, 180, 1, 55, 167, 0, 4, 3, 172, 43, 180, 0, 149, 172, 42, 180, 0, 44, 43]
abbrev dktX1_bargePart_3 : List UInt8 := dkwX1_bargePart_3 ++ dktX1_bargePart_4
def dkwX1_bargePart_2 : List UInt8 := [43, 180, 1, 41, 172, 43, 180, 1, 43, 172, 43, 180, 1, 46, 172, 43, 180, 1, 49, 172, 43, 182, 1, 52]
abbrev dktX1_bargePart_2 : List UInt8 := dkwX1_bargePart_2 ++ dktX1_bargePart_3
def dkwX1_bargePart_1 : List UInt8 := [170, 0, 0, 0, 0, 0, 93, 0, 0, 0, 0, 0, 0, 0, 6, 0, 0, 0, 43, 0, 0, 0, 48, 0, 0, 0, 53, 0, 0, 0, 58, 0, 0, 0, 63, 0, 0, 0, 79, 0, 0, 0, 84]
abbrev dktX1_bargePart_1 : List UInt8 := dkwX1_bargePart_1 ++ dktX1_bargePart_2
def dkwX1_bargePart_0 : List UInt8 := [28]
abbrev dktX1_bargePart_0 : List UInt8 := dkwX1_bargePart_0 ++ dktX1_bargePart_1
theorem dksX1_bargePart_0 : cX1_bargePart.data.toList.drop 0 = dktX1_bargePart_0 := by decide +kernel
theorem dksX1_bargePart_1 : cX1_bargePart.data.toList.drop 1 = dktX1_bargePart_1 := dk_seg dksX1_bargePart_0 1 rfl rfl
theorem dksX1_bargePart_2 : cX1_bargePart.data.toList.drop 44 = dktX1_bargePart_2 := dk_seg dksX1_bargePart_1 43 rfl rfl
theorem dksX1_bargePart_3 : cX1_bargePart.data.toList.drop 68 = dktX1_bargePart_3 := dk_seg dksX1_bargePart_2 24 rfl rfl
theorem dksX1_bargePart_4 : cX1_bargePart.data.toList.drop 90 = dktX1_bargePart_4 := dk_seg dksX1_bargePart_3 22 rfl rfl
theorem dX1_bargePart_0 : decode cX1_bargePart 0 = .ok (.iload_n 2, 1) := dk_28 (dk_at dksX1_bargePart_0 0 rfl rfl)
theorem dX1_bargePart_1 : decode cX1_bargePart 1 = .ok (.tableswitch 93 0 6 #[43, 48, 53, 58, 63, 79, 84], 43) := by decide +kernel
theorem dX1_bargePart_44 : decode cX1_bargePart 44 = .ok (.aload_n 1, 1) := dk_43 (dk_at dksX1_bargePart_2 0 rfl rfl)
theorem dX1_bargePart_45 : decode cX1_bargePart 45 = .ok (.getfield 297, 3) := dk_180 1 41 (dk_at dksX1_bargePart_2 1 rfl rfl)
theorem dX1_bargePart_48 : decode cX1_bargePart 48 = .ok (.ireturn, 1) := dk_172 (dk_at dksX1_bargePart_2 4 rfl rfl)
theorem dX1_bargePart_49 : decode cX1_bargePart 49 = .ok (.aload_n 1, 1) := dk_43 (dk_at dksX1_bargePart_2 5 rfl rfl)
theorem dX1_bargePart_50 : decode cX1_bargePart 50 = .ok (.getfield 299, 3) := dk_180 1 43 (dk_at dksX1_bargePart_2 6 rfl rfl)
theorem dX1_bargePart_53 : decode cX1_bargePart 53 = .ok (.ireturn, 1) := dk_172 (dk_at dksX1_bargePart_2 9 rfl rfl)
theorem dX1_bargePart_54 : decode cX1_bargePart 54 = .ok (.aload_n 1, 1) := dk_43 (dk_at dksX1_bargePart_2 10 rfl rfl)
theorem dX1_bargePart_55 : decode cX1_bargePart 55 = .ok (.getfield 302, 3) := dk_180 1 46 (dk_at dksX1_bargePart_2 11 rfl rfl)
theorem dX1_bargePart_58 : decode cX1_bargePart 58 = .ok (.ireturn, 1) := dk_172 (dk_at dksX1_bargePart_2 14 rfl rfl)
theorem dX1_bargePart_59 : decode cX1_bargePart 59 = .ok (.aload_n 1, 1) := dk_43 (dk_at dksX1_bargePart_2 15 rfl rfl)
theorem dX1_bargePart_60 : decode cX1_bargePart 60 = .ok (.getfield 305, 3) := dk_180 1 49 (dk_at dksX1_bargePart_2 16 rfl rfl)
theorem dX1_bargePart_63 : decode cX1_bargePart 63 = .ok (.ireturn, 1) := dk_172 (dk_at dksX1_bargePart_2 19 rfl rfl)
theorem dX1_bargePart_64 : decode cX1_bargePart 64 = .ok (.aload_n 1, 1) := dk_43 (dk_at dksX1_bargePart_2 20 rfl rfl)
theorem dX1_bargePart_65 : decode cX1_bargePart 65 = .ok (.invokevirtual 308, 3) := dk_182 1 52 (dk_at dksX1_bargePart_2 21 rfl rfl)
theorem dX1_bargePart_68 : decode cX1_bargePart 68 = .ok (.ifCond .eq 10, 3) := dk_153 0 10 (dk_at dksX1_bargePart_3 0 rfl rfl)
theorem dX1_bargePart_71 : decode cX1_bargePart 71 = .ok (.aload_n 1, 1) := dk_43 (dk_at dksX1_bargePart_3 3 rfl rfl)
theorem dX1_bargePart_72 : decode cX1_bargePart 72 = .ok (.getfield 311, 3) := dk_180 1 55 (dk_at dksX1_bargePart_3 4 rfl rfl)
theorem dX1_bargePart_75 : decode cX1_bargePart 75 = .ok (.goto 4, 3) := dk_167 0 4 (dk_at dksX1_bargePart_3 7 rfl rfl)
theorem dX1_bargePart_78 : decode cX1_bargePart 78 = .ok (.iconst 0, 1) := dk_3 (dk_at dksX1_bargePart_3 10 rfl rfl)
theorem dX1_bargePart_79 : decode cX1_bargePart 79 = .ok (.ireturn, 1) := dk_172 (dk_at dksX1_bargePart_3 11 rfl rfl)
theorem dX1_bargePart_80 : decode cX1_bargePart 80 = .ok (.aload_n 1, 1) := dk_43 (dk_at dksX1_bargePart_3 12 rfl rfl)
theorem dX1_bargePart_81 : decode cX1_bargePart 81 = .ok (.getfield 149, 3) := dk_180 0 149 (dk_at dksX1_bargePart_3 13 rfl rfl)
theorem dX1_bargePart_84 : decode cX1_bargePart 84 = .ok (.ireturn, 1) := dk_172 (dk_at dksX1_bargePart_3 16 rfl rfl)
theorem dX1_bargePart_85 : decode cX1_bargePart 85 = .ok (.aload_n 0, 1) := dk_42 (dk_at dksX1_bargePart_3 17 rfl rfl)
theorem dX1_bargePart_86 : decode cX1_bargePart 86 = .ok (.getfield 44, 3) := dk_180 0 44 (dk_at dksX1_bargePart_3 18 rfl rfl)
theorem dX1_bargePart_89 : decode cX1_bargePart 89 = .ok (.aload_n 1, 1) := dk_43 (dk_at dksX1_bargePart_3 21 rfl rfl)
theorem dX1_bargePart_90 : decode cX1_bargePart 90 = .ok (.invokevirtual 314, 3) := dk_182 1 58 (dk_at dksX1_bargePart_4 0 rfl rfl)
theorem dX1_bargePart_93 : decode cX1_bargePart 93 = .ok (.ireturn, 1) := dk_172 (dk_at dksX1_bargePart_4 3 rfl rfl)
theorem dX1_bargePart_94 : decode cX1_bargePart 94 = .ok (.aload_n 1, 1) := dk_43 (dk_at dksX1_bargePart_4 4 rfl rfl)
theorem dX1_bargePart_95 : decode cX1_bargePart 95 = .ok (.getfield 318, 3) := dk_180 1 62 (dk_at dksX1_bargePart_4 5 rfl rfl)
theorem dX1_bargePart_98 : decode cX1_bargePart 98 = .ok (.ireturn, 1) := dk_172 (dk_at dksX1_bargePart_4 8 rfl rfl)
abbrev cX1_meadowPart : ByteArray := prog_1_method_44_code
def yX1_meadowPart : MethodName := ⟨RX1, "meadowPart", "(II)I"⟩
def dkwX1_meadowPart_4 : List UInt8 := [42, 180, 0, 44, 27, 182, 1, 72, 184, 0, 210, 172, 42, 180, 0, 44, 27, 182, 1, 75, 184, 0, 203, 172]
abbrev dktX1_meadowPart_4 : List UInt8 := dkwX1_meadowPart_4 ++ []
def dkwX1_meadowPart_3 : List UInt8 := [172, 3, 45, 180, 0, 207, 42, 180, 0, 44, 180, 0, 197, 100, 184, 0, 210, 172, 45, 180, 0, 218, 172, 3]
abbrev dktX1_meadowPart_3 : List UInt8 := dkwX1_meadowPart_3 ++ dktX1_meadowPart_4
def dkwX1_meadowPart_2 : List UInt8 := [45, 180, 0, 185, 172, 45, 180, 0, 221, 172, 45, 180, 1, 69, 172, 45, 180, 0, 191, 172, 45, 180, 0, 194]
abbrev dktX1_meadowPart_2 : List UInt8 := dkwX1_meadowPart_2 ++ dktX1_meadowPart_3
def dkwX1_meadowPart_1 : List UInt8 := [170, 0, 0, 0, 105, 0, 0, 0, 0, 0, 0, 0, 7, 0, 0, 0, 45, 0, 0, 0, 50, 0, 0, 0, 55, 0, 0, 0, 60, 0, 0, 0, 65, 0, 0, 0, 70, 0, 0, 0, 87, 0, 0, 0, 92]
abbrev dktX1_meadowPart_1 : List UInt8 := dkwX1_meadowPart_1 ++ dktX1_meadowPart_2
def dkwX1_meadowPart_0 : List UInt8 := [42, 27, 182, 0, 181, 78, 28]
abbrev dktX1_meadowPart_0 : List UInt8 := dkwX1_meadowPart_0 ++ dktX1_meadowPart_1
theorem dksX1_meadowPart_0 : cX1_meadowPart.data.toList.drop 0 = dktX1_meadowPart_0 := by decide +kernel
theorem dksX1_meadowPart_1 : cX1_meadowPart.data.toList.drop 7 = dktX1_meadowPart_1 := dk_seg dksX1_meadowPart_0 7 rfl rfl
theorem dksX1_meadowPart_2 : cX1_meadowPart.data.toList.drop 52 = dktX1_meadowPart_2 := dk_seg dksX1_meadowPart_1 45 rfl rfl
theorem dksX1_meadowPart_3 : cX1_meadowPart.data.toList.drop 76 = dktX1_meadowPart_3 := dk_seg dksX1_meadowPart_2 24 rfl rfl
theorem dksX1_meadowPart_4 : cX1_meadowPart.data.toList.drop 100 = dktX1_meadowPart_4 := dk_seg dksX1_meadowPart_3 24 rfl rfl
theorem dX1_meadowPart_0 : decode cX1_meadowPart 0 = .ok (.aload_n 0, 1) := dk_42 (dk_at dksX1_meadowPart_0 0 rfl rfl)
theorem dX1_meadowPart_1 : decode cX1_meadowPart 1 = .ok (.iload_n 1, 1) := dk_27 (dk_at dksX1_meadowPart_0 1 rfl rfl)
theorem dX1_meadowPart_2 : decode cX1_meadowPart 2 = .ok (.invokevirtual 181, 3) := dk_182 0 181 (dk_at dksX1_meadowPart_0 2 rfl rfl)
theorem dX1_meadowPart_5 : decode cX1_meadowPart 5 = .ok (.astore_n 3, 1) := dk_78 (dk_at dksX1_meadowPart_0 5 rfl rfl)
theorem dX1_meadowPart_6 : decode cX1_meadowPart 6 = .ok (.iload_n 2, 1) := dk_28 (dk_at dksX1_meadowPart_0 6 rfl rfl)
theorem dX1_meadowPart_7 : decode cX1_meadowPart 7 = .ok (.tableswitch 105 0 7 #[45, 50, 55, 60, 65, 70, 87, 92], 45) := by decide +kernel
theorem dX1_meadowPart_52 : decode cX1_meadowPart 52 = .ok (.aload_n 3, 1) := dk_45 (dk_at dksX1_meadowPart_2 0 rfl rfl)
theorem dX1_meadowPart_53 : decode cX1_meadowPart 53 = .ok (.getfield 185, 3) := dk_180 0 185 (dk_at dksX1_meadowPart_2 1 rfl rfl)
theorem dX1_meadowPart_56 : decode cX1_meadowPart 56 = .ok (.ireturn, 1) := dk_172 (dk_at dksX1_meadowPart_2 4 rfl rfl)
theorem dX1_meadowPart_57 : decode cX1_meadowPart 57 = .ok (.aload_n 3, 1) := dk_45 (dk_at dksX1_meadowPart_2 5 rfl rfl)
theorem dX1_meadowPart_58 : decode cX1_meadowPart 58 = .ok (.getfield 221, 3) := dk_180 0 221 (dk_at dksX1_meadowPart_2 6 rfl rfl)
theorem dX1_meadowPart_61 : decode cX1_meadowPart 61 = .ok (.ireturn, 1) := dk_172 (dk_at dksX1_meadowPart_2 9 rfl rfl)
theorem dX1_meadowPart_62 : decode cX1_meadowPart 62 = .ok (.aload_n 3, 1) := dk_45 (dk_at dksX1_meadowPart_2 10 rfl rfl)
theorem dX1_meadowPart_63 : decode cX1_meadowPart 63 = .ok (.getfield 325, 3) := dk_180 1 69 (dk_at dksX1_meadowPart_2 11 rfl rfl)
theorem dX1_meadowPart_66 : decode cX1_meadowPart 66 = .ok (.ireturn, 1) := dk_172 (dk_at dksX1_meadowPart_2 14 rfl rfl)
theorem dX1_meadowPart_67 : decode cX1_meadowPart 67 = .ok (.aload_n 3, 1) := dk_45 (dk_at dksX1_meadowPart_2 15 rfl rfl)
theorem dX1_meadowPart_68 : decode cX1_meadowPart 68 = .ok (.getfield 191, 3) := dk_180 0 191 (dk_at dksX1_meadowPart_2 16 rfl rfl)
theorem dX1_meadowPart_71 : decode cX1_meadowPart 71 = .ok (.ireturn, 1) := dk_172 (dk_at dksX1_meadowPart_2 19 rfl rfl)
theorem dX1_meadowPart_72 : decode cX1_meadowPart 72 = .ok (.aload_n 3, 1) := dk_45 (dk_at dksX1_meadowPart_2 20 rfl rfl)
theorem dX1_meadowPart_73 : decode cX1_meadowPart 73 = .ok (.getfield 194, 3) := dk_180 0 194 (dk_at dksX1_meadowPart_2 21 rfl rfl)
theorem dX1_meadowPart_76 : decode cX1_meadowPart 76 = .ok (.ireturn, 1) := dk_172 (dk_at dksX1_meadowPart_3 0 rfl rfl)
theorem dX1_meadowPart_77 : decode cX1_meadowPart 77 = .ok (.iconst 0, 1) := dk_3 (dk_at dksX1_meadowPart_3 1 rfl rfl)
theorem dX1_meadowPart_78 : decode cX1_meadowPart 78 = .ok (.aload_n 3, 1) := dk_45 (dk_at dksX1_meadowPart_3 2 rfl rfl)
theorem dX1_meadowPart_79 : decode cX1_meadowPart 79 = .ok (.getfield 207, 3) := dk_180 0 207 (dk_at dksX1_meadowPart_3 3 rfl rfl)
theorem dX1_meadowPart_82 : decode cX1_meadowPart 82 = .ok (.aload_n 0, 1) := dk_42 (dk_at dksX1_meadowPart_3 6 rfl rfl)
theorem dX1_meadowPart_83 : decode cX1_meadowPart 83 = .ok (.getfield 44, 3) := dk_180 0 44 (dk_at dksX1_meadowPart_3 7 rfl rfl)
theorem dX1_meadowPart_86 : decode cX1_meadowPart 86 = .ok (.getfield 197, 3) := dk_180 0 197 (dk_at dksX1_meadowPart_3 10 rfl rfl)
theorem dX1_meadowPart_89 : decode cX1_meadowPart 89 = .ok (.isub, 1) := dk_100 (dk_at dksX1_meadowPart_3 13 rfl rfl)
theorem dX1_meadowPart_90 : decode cX1_meadowPart 90 = .ok (.invokestatic 210, 3) := dk_184 0 210 (dk_at dksX1_meadowPart_3 14 rfl rfl)
theorem dX1_meadowPart_93 : decode cX1_meadowPart 93 = .ok (.ireturn, 1) := dk_172 (dk_at dksX1_meadowPart_3 17 rfl rfl)
theorem dX1_meadowPart_94 : decode cX1_meadowPart 94 = .ok (.aload_n 3, 1) := dk_45 (dk_at dksX1_meadowPart_3 18 rfl rfl)
theorem dX1_meadowPart_95 : decode cX1_meadowPart 95 = .ok (.getfield 218, 3) := dk_180 0 218 (dk_at dksX1_meadowPart_3 19 rfl rfl)
theorem dX1_meadowPart_98 : decode cX1_meadowPart 98 = .ok (.ireturn, 1) := dk_172 (dk_at dksX1_meadowPart_3 22 rfl rfl)
theorem dX1_meadowPart_99 : decode cX1_meadowPart 99 = .ok (.iconst 0, 1) := dk_3 (dk_at dksX1_meadowPart_3 23 rfl rfl)
theorem dX1_meadowPart_100 : decode cX1_meadowPart 100 = .ok (.aload_n 0, 1) := dk_42 (dk_at dksX1_meadowPart_4 0 rfl rfl)
theorem dX1_meadowPart_101 : decode cX1_meadowPart 101 = .ok (.getfield 44, 3) := dk_180 0 44 (dk_at dksX1_meadowPart_4 1 rfl rfl)
theorem dX1_meadowPart_104 : decode cX1_meadowPart 104 = .ok (.iload_n 1, 1) := dk_27 (dk_at dksX1_meadowPart_4 4 rfl rfl)
theorem dX1_meadowPart_105 : decode cX1_meadowPart 105 = .ok (.invokevirtual 328, 3) := dk_182 1 72 (dk_at dksX1_meadowPart_4 5 rfl rfl)
theorem dX1_meadowPart_108 : decode cX1_meadowPart 108 = .ok (.invokestatic 210, 3) := dk_184 0 210 (dk_at dksX1_meadowPart_4 8 rfl rfl)
theorem dX1_meadowPart_111 : decode cX1_meadowPart 111 = .ok (.ireturn, 1) := dk_172 (dk_at dksX1_meadowPart_4 11 rfl rfl)
theorem dX1_meadowPart_112 : decode cX1_meadowPart 112 = .ok (.aload_n 0, 1) := dk_42 (dk_at dksX1_meadowPart_4 12 rfl rfl)
theorem dX1_meadowPart_113 : decode cX1_meadowPart 113 = .ok (.getfield 44, 3) := dk_180 0 44 (dk_at dksX1_meadowPart_4 13 rfl rfl)
theorem dX1_meadowPart_116 : decode cX1_meadowPart 116 = .ok (.iload_n 1, 1) := dk_27 (dk_at dksX1_meadowPart_4 16 rfl rfl)
theorem dX1_meadowPart_117 : decode cX1_meadowPart 117 = .ok (.invokevirtual 331, 3) := dk_182 1 75 (dk_at dksX1_meadowPart_4 17 rfl rfl)
theorem dX1_meadowPart_120 : decode cX1_meadowPart 120 = .ok (.invokestatic 203, 3) := dk_184 0 203 (dk_at dksX1_meadowPart_4 20 rfl rfl)
theorem dX1_meadowPart_123 : decode cX1_meadowPart 123 = .ok (.ireturn, 1) := dk_172 (dk_at dksX1_meadowPart_4 23 rfl rfl)
abbrev cX1_field : ByteArray := prog_1_method_19_code
def yX1_field : MethodName := ⟨RX1, "field", "(I)LSpoilMeadows$Meadow;"⟩
def dkwX1_field_0 : List UInt8 := [42, 180, 0, 44, 180, 0, 24, 27, 182, 0, 128, 192, 0, 28, 176]
abbrev dktX1_field_0 : List UInt8 := dkwX1_field_0 ++ []
theorem dksX1_field_0 : cX1_field.data.toList.drop 0 = dktX1_field_0 := by decide +kernel
theorem dX1_field_0 : decode cX1_field 0 = .ok (.aload_n 0, 1) := dk_42 (dk_at dksX1_field_0 0 rfl rfl)
theorem dX1_field_1 : decode cX1_field 1 = .ok (.getfield 44, 3) := dk_180 0 44 (dk_at dksX1_field_0 1 rfl rfl)
theorem dX1_field_4 : decode cX1_field 4 = .ok (.getfield 24, 3) := dk_180 0 24 (dk_at dksX1_field_0 4 rfl rfl)
theorem dX1_field_7 : decode cX1_field 7 = .ok (.iload_n 1, 1) := dk_27 (dk_at dksX1_field_0 7 rfl rfl)
theorem dX1_field_8 : decode cX1_field 8 = .ok (.invokevirtual 128, 3) := dk_182 0 128 (dk_at dksX1_field_0 8 rfl rfl)
theorem dX1_field_11 : decode cX1_field 11 = .ok (.checkcast 28, 3) := dk_192 0 28 (dk_at dksX1_field_0 11 rfl rfl)
theorem dX1_field_14 : decode cX1_field 14 = .ok (.areturn, 1) := dk_176 (dk_at dksX1_field_0 14 rfl rfl)
abbrev cX1_passedThen : ByteArray := prog_1_method_53_code
def yX1_passedThen : MethodName := ⟨RX1, "passedThen", "(II)I"⟩
def dkwX1_passedThen_0 : List UInt8 := [42, 28, 182, 1, 107, 42, 180, 0, 44, 182, 0, 117, 27, 182, 0, 228, 185, 1, 111, 2, 0, 172]
abbrev dktX1_passedThen_0 : List UInt8 := dkwX1_passedThen_0 ++ []
theorem dksX1_passedThen_0 : cX1_passedThen.data.toList.drop 0 = dktX1_passedThen_0 := by decide +kernel
theorem dX1_passedThen_0 : decode cX1_passedThen 0 = .ok (.aload_n 0, 1) := dk_42 (dk_at dksX1_passedThen_0 0 rfl rfl)
theorem dX1_passedThen_1 : decode cX1_passedThen 1 = .ok (.iload_n 2, 1) := dk_28 (dk_at dksX1_passedThen_0 1 rfl rfl)
theorem dX1_passedThen_2 : decode cX1_passedThen 2 = .ok (.invokevirtual 363, 3) := dk_182 1 107 (dk_at dksX1_passedThen_0 2 rfl rfl)
theorem dX1_passedThen_5 : decode cX1_passedThen 5 = .ok (.aload_n 0, 1) := dk_42 (dk_at dksX1_passedThen_0 5 rfl rfl)
theorem dX1_passedThen_6 : decode cX1_passedThen 6 = .ok (.getfield 44, 3) := dk_180 0 44 (dk_at dksX1_passedThen_0 6 rfl rfl)
theorem dX1_passedThen_9 : decode cX1_passedThen 9 = .ok (.invokevirtual 117, 3) := dk_182 0 117 (dk_at dksX1_passedThen_0 9 rfl rfl)
theorem dX1_passedThen_12 : decode cX1_passedThen 12 = .ok (.iload_n 1, 1) := dk_27 (dk_at dksX1_passedThen_0 12 rfl rfl)
theorem dX1_passedThen_13 : decode cX1_passedThen 13 = .ok (.invokevirtual 228, 3) := dk_182 0 228 (dk_at dksX1_passedThen_0 13 rfl rfl)
theorem dX1_passedThen_16 : decode cX1_passedThen 16 = .ok (.invokeinterface 367 2, 5) := by decide +kernel
theorem dX1_passedThen_21 : decode cX1_passedThen 21 = .ok (.ireturn, 1) := dk_172 (dk_at dksX1_passedThen_0 21 rfl rfl)
abbrev cX1_measureOf : ByteArray := prog_1_method_52_code
def yX1_measureOf : MethodName := ⟨RX1, "measureOf", "(I)LSpoilMeadows$Measure;"⟩
def dkwX1_measureOf_3 : List UInt8 := [176]
abbrev dktX1_measureOf_3 : List UInt8 := dkwX1_measureOf_3 ++ []
def dkwX1_measureOf_2 : List UInt8 := [42, 180, 0, 87, 176, 42, 180, 0, 92, 176, 42, 180, 0, 96, 176, 42, 180, 0, 100, 176, 42, 180, 0, 106]
abbrev dktX1_measureOf_2 : List UInt8 := dkwX1_measureOf_2 ++ dktX1_measureOf_3
def dkwX1_measureOf_1 : List UInt8 := [170, 0, 0, 0, 0, 0, 51, 0, 0, 0, 0, 0, 0, 0, 3, 0, 0, 0, 31, 0, 0, 0, 36, 0, 0, 0, 41, 0, 0, 0, 46]
abbrev dktX1_measureOf_1 : List UInt8 := dkwX1_measureOf_1 ++ dktX1_measureOf_2
def dkwX1_measureOf_0 : List UInt8 := [27]
abbrev dktX1_measureOf_0 : List UInt8 := dkwX1_measureOf_0 ++ dktX1_measureOf_1
theorem dksX1_measureOf_0 : cX1_measureOf.data.toList.drop 0 = dktX1_measureOf_0 := by decide +kernel
theorem dksX1_measureOf_1 : cX1_measureOf.data.toList.drop 1 = dktX1_measureOf_1 := dk_seg dksX1_measureOf_0 1 rfl rfl
theorem dksX1_measureOf_2 : cX1_measureOf.data.toList.drop 32 = dktX1_measureOf_2 := dk_seg dksX1_measureOf_1 31 rfl rfl
theorem dksX1_measureOf_3 : cX1_measureOf.data.toList.drop 56 = dktX1_measureOf_3 := dk_seg dksX1_measureOf_2 24 rfl rfl
theorem dX1_measureOf_0 : decode cX1_measureOf 0 = .ok (.iload_n 1, 1) := dk_27 (dk_at dksX1_measureOf_0 0 rfl rfl)
theorem dX1_measureOf_1 : decode cX1_measureOf 1 = .ok (.tableswitch 51 0 3 #[31, 36, 41, 46], 31) := by decide +kernel
theorem dX1_measureOf_32 : decode cX1_measureOf 32 = .ok (.aload_n 0, 1) := dk_42 (dk_at dksX1_measureOf_2 0 rfl rfl)
theorem dX1_measureOf_33 : decode cX1_measureOf 33 = .ok (.getfield 87, 3) := dk_180 0 87 (dk_at dksX1_measureOf_2 1 rfl rfl)
theorem dX1_measureOf_36 : decode cX1_measureOf 36 = .ok (.areturn, 1) := dk_176 (dk_at dksX1_measureOf_2 4 rfl rfl)
theorem dX1_measureOf_37 : decode cX1_measureOf 37 = .ok (.aload_n 0, 1) := dk_42 (dk_at dksX1_measureOf_2 5 rfl rfl)
theorem dX1_measureOf_38 : decode cX1_measureOf 38 = .ok (.getfield 92, 3) := dk_180 0 92 (dk_at dksX1_measureOf_2 6 rfl rfl)
theorem dX1_measureOf_41 : decode cX1_measureOf 41 = .ok (.areturn, 1) := dk_176 (dk_at dksX1_measureOf_2 9 rfl rfl)
theorem dX1_measureOf_42 : decode cX1_measureOf 42 = .ok (.aload_n 0, 1) := dk_42 (dk_at dksX1_measureOf_2 10 rfl rfl)
theorem dX1_measureOf_43 : decode cX1_measureOf 43 = .ok (.getfield 96, 3) := dk_180 0 96 (dk_at dksX1_measureOf_2 11 rfl rfl)
theorem dX1_measureOf_46 : decode cX1_measureOf 46 = .ok (.areturn, 1) := dk_176 (dk_at dksX1_measureOf_2 14 rfl rfl)
theorem dX1_measureOf_47 : decode cX1_measureOf 47 = .ok (.aload_n 0, 1) := dk_42 (dk_at dksX1_measureOf_2 15 rfl rfl)
theorem dX1_measureOf_48 : decode cX1_measureOf 48 = .ok (.getfield 100, 3) := dk_180 0 100 (dk_at dksX1_measureOf_2 16 rfl rfl)
theorem dX1_measureOf_51 : decode cX1_measureOf 51 = .ok (.areturn, 1) := dk_176 (dk_at dksX1_measureOf_2 19 rfl rfl)
theorem dX1_measureOf_52 : decode cX1_measureOf 52 = .ok (.aload_n 0, 1) := dk_42 (dk_at dksX1_measureOf_2 20 rfl rfl)
theorem dX1_measureOf_53 : decode cX1_measureOf 53 = .ok (.getfield 106, 3) := dk_180 0 106 (dk_at dksX1_measureOf_2 21 rfl rfl)
theorem dX1_measureOf_56 : decode cX1_measureOf 56 = .ok (.areturn, 1) := dk_176 (dk_at dksX1_measureOf_3 0 rfl rfl)
abbrev cX1_bestReachFor : ByteArray := prog_1_method_58_code
def yX1_bestReachFor : MethodName := ⟨RX1, "bestReachFor", "(I)I"⟩
def dkwX1_bestReachFor_3 : List UInt8 := [167, 255, 193, 28, 172]
abbrev dktX1_bestReachFor_3 : List UInt8 := dkwX1_bestReachFor_3 ++ []
def dkwX1_bestReachFor_2 : List UInt8 := [21, 6, 29, 164, 0, 8, 21, 4, 167, 0, 4, 28, 61, 29, 21, 6, 184, 0, 210, 62, 132, 4, 1]
abbrev dktX1_bestReachFor_2 : List UInt8 := dkwX1_bestReachFor_2 ++ dktX1_bestReachFor_3
def dkwX1_bestReachFor_1 : List UInt8 := [25, 5, 21, 4, 181, 0, 167, 42, 180, 0, 87, 25, 5, 27, 182, 0, 228, 185, 1, 111, 2, 0, 54, 6]
abbrev dktX1_bestReachFor_1 : List UInt8 := dkwX1_bestReachFor_1 ++ dktX1_bestReachFor_2
def dkwX1_bestReachFor_0 : List UInt8 := [3, 61, 2, 62, 3, 54, 4, 21, 4, 16, 6, 162, 0, 62, 42, 180, 0, 44, 182, 0, 117, 58, 5]
abbrev dktX1_bestReachFor_0 : List UInt8 := dkwX1_bestReachFor_0 ++ dktX1_bestReachFor_1
theorem dksX1_bestReachFor_0 : cX1_bestReachFor.data.toList.drop 0 = dktX1_bestReachFor_0 := by decide +kernel
theorem dksX1_bestReachFor_1 : cX1_bestReachFor.data.toList.drop 23 = dktX1_bestReachFor_1 := dk_seg dksX1_bestReachFor_0 23 rfl rfl
theorem dksX1_bestReachFor_2 : cX1_bestReachFor.data.toList.drop 47 = dktX1_bestReachFor_2 := dk_seg dksX1_bestReachFor_1 24 rfl rfl
theorem dksX1_bestReachFor_3 : cX1_bestReachFor.data.toList.drop 70 = dktX1_bestReachFor_3 := dk_seg dksX1_bestReachFor_2 23 rfl rfl
theorem dX1_bestReachFor_0 : decode cX1_bestReachFor 0 = .ok (.iconst 0, 1) := dk_3 (dk_at dksX1_bestReachFor_0 0 rfl rfl)
theorem dX1_bestReachFor_1 : decode cX1_bestReachFor 1 = .ok (.istore_n 2, 1) := dk_61 (dk_at dksX1_bestReachFor_0 1 rfl rfl)
theorem dX1_bestReachFor_2 : decode cX1_bestReachFor 2 = .ok (.iconst (-1), 1) := dk_2 (dk_at dksX1_bestReachFor_0 2 rfl rfl)
theorem dX1_bestReachFor_3 : decode cX1_bestReachFor 3 = .ok (.istore_n 3, 1) := dk_62 (dk_at dksX1_bestReachFor_0 3 rfl rfl)
theorem dX1_bestReachFor_4 : decode cX1_bestReachFor 4 = .ok (.iconst 0, 1) := dk_3 (dk_at dksX1_bestReachFor_0 4 rfl rfl)
theorem dX1_bestReachFor_5 : decode cX1_bestReachFor 5 = .ok (.istore 4, 2) := dk_54 4 (dk_at dksX1_bestReachFor_0 5 rfl rfl)
theorem dX1_bestReachFor_7 : decode cX1_bestReachFor 7 = .ok (.iload 4, 2) := dk_21 4 (dk_at dksX1_bestReachFor_0 7 rfl rfl)
theorem dX1_bestReachFor_9 : decode cX1_bestReachFor 9 = .ok (.bipush 6, 2) := dk_16 6 (dk_at dksX1_bestReachFor_0 9 rfl rfl)
theorem dX1_bestReachFor_11 : decode cX1_bestReachFor 11 = .ok (.if_icmp .ge 62, 3) := dk_162 0 62 (dk_at dksX1_bestReachFor_0 11 rfl rfl)
theorem dX1_bestReachFor_14 : decode cX1_bestReachFor 14 = .ok (.aload_n 0, 1) := dk_42 (dk_at dksX1_bestReachFor_0 14 rfl rfl)
theorem dX1_bestReachFor_15 : decode cX1_bestReachFor 15 = .ok (.getfield 44, 3) := dk_180 0 44 (dk_at dksX1_bestReachFor_0 15 rfl rfl)
theorem dX1_bestReachFor_18 : decode cX1_bestReachFor 18 = .ok (.invokevirtual 117, 3) := dk_182 0 117 (dk_at dksX1_bestReachFor_0 18 rfl rfl)
theorem dX1_bestReachFor_21 : decode cX1_bestReachFor 21 = .ok (.astore 5, 2) := dk_58 5 (dk_at dksX1_bestReachFor_0 21 rfl rfl)
theorem dX1_bestReachFor_23 : decode cX1_bestReachFor 23 = .ok (.aload 5, 2) := dk_25 5 (dk_at dksX1_bestReachFor_1 0 rfl rfl)
theorem dX1_bestReachFor_25 : decode cX1_bestReachFor 25 = .ok (.iload 4, 2) := dk_21 4 (dk_at dksX1_bestReachFor_1 2 rfl rfl)
theorem dX1_bestReachFor_27 : decode cX1_bestReachFor 27 = .ok (.putfield 167, 3) := dk_181 0 167 (dk_at dksX1_bestReachFor_1 4 rfl rfl)
theorem dX1_bestReachFor_30 : decode cX1_bestReachFor 30 = .ok (.aload_n 0, 1) := dk_42 (dk_at dksX1_bestReachFor_1 7 rfl rfl)
theorem dX1_bestReachFor_31 : decode cX1_bestReachFor 31 = .ok (.getfield 87, 3) := dk_180 0 87 (dk_at dksX1_bestReachFor_1 8 rfl rfl)
theorem dX1_bestReachFor_34 : decode cX1_bestReachFor 34 = .ok (.aload 5, 2) := dk_25 5 (dk_at dksX1_bestReachFor_1 11 rfl rfl)
theorem dX1_bestReachFor_36 : decode cX1_bestReachFor 36 = .ok (.iload_n 1, 1) := dk_27 (dk_at dksX1_bestReachFor_1 13 rfl rfl)
theorem dX1_bestReachFor_37 : decode cX1_bestReachFor 37 = .ok (.invokevirtual 228, 3) := dk_182 0 228 (dk_at dksX1_bestReachFor_1 14 rfl rfl)
theorem dX1_bestReachFor_40 : decode cX1_bestReachFor 40 = .ok (.invokeinterface 367 2, 5) := by decide +kernel
theorem dX1_bestReachFor_45 : decode cX1_bestReachFor 45 = .ok (.istore 6, 2) := dk_54 6 (dk_at dksX1_bestReachFor_1 22 rfl rfl)
theorem dX1_bestReachFor_47 : decode cX1_bestReachFor 47 = .ok (.iload 6, 2) := dk_21 6 (dk_at dksX1_bestReachFor_2 0 rfl rfl)
theorem dX1_bestReachFor_49 : decode cX1_bestReachFor 49 = .ok (.iload_n 3, 1) := dk_29 (dk_at dksX1_bestReachFor_2 2 rfl rfl)
theorem dX1_bestReachFor_50 : decode cX1_bestReachFor 50 = .ok (.if_icmp .le 8, 3) := dk_164 0 8 (dk_at dksX1_bestReachFor_2 3 rfl rfl)
theorem dX1_bestReachFor_53 : decode cX1_bestReachFor 53 = .ok (.iload 4, 2) := dk_21 4 (dk_at dksX1_bestReachFor_2 6 rfl rfl)
theorem dX1_bestReachFor_55 : decode cX1_bestReachFor 55 = .ok (.goto 4, 3) := dk_167 0 4 (dk_at dksX1_bestReachFor_2 8 rfl rfl)
theorem dX1_bestReachFor_58 : decode cX1_bestReachFor 58 = .ok (.iload_n 2, 1) := dk_28 (dk_at dksX1_bestReachFor_2 11 rfl rfl)
theorem dX1_bestReachFor_59 : decode cX1_bestReachFor 59 = .ok (.istore_n 2, 1) := dk_61 (dk_at dksX1_bestReachFor_2 12 rfl rfl)
theorem dX1_bestReachFor_60 : decode cX1_bestReachFor 60 = .ok (.iload_n 3, 1) := dk_29 (dk_at dksX1_bestReachFor_2 13 rfl rfl)
theorem dX1_bestReachFor_61 : decode cX1_bestReachFor 61 = .ok (.iload 6, 2) := dk_21 6 (dk_at dksX1_bestReachFor_2 14 rfl rfl)
theorem dX1_bestReachFor_63 : decode cX1_bestReachFor 63 = .ok (.invokestatic 210, 3) := dk_184 0 210 (dk_at dksX1_bestReachFor_2 16 rfl rfl)
theorem dX1_bestReachFor_66 : decode cX1_bestReachFor 66 = .ok (.istore_n 3, 1) := dk_62 (dk_at dksX1_bestReachFor_2 19 rfl rfl)
theorem dX1_bestReachFor_67 : decode cX1_bestReachFor 67 = .ok (.iinc 4 1, 3) := dk_132 4 1 (dk_at dksX1_bestReachFor_2 20 rfl rfl)
theorem dX1_bestReachFor_70 : decode cX1_bestReachFor 70 = .ok (.goto (-63), 3) := dk_167 255 193 (dk_at dksX1_bestReachFor_3 0 rfl rfl)
theorem dX1_bestReachFor_73 : decode cX1_bestReachFor 73 = .ok (.iload_n 2, 1) := dk_28 (dk_at dksX1_bestReachFor_3 3 rfl rfl)
theorem dX1_bestReachFor_74 : decode cX1_bestReachFor 74 = .ok (.ireturn, 1) := dk_172 (dk_at dksX1_bestReachFor_3 4 rfl rfl)
abbrev cX1_barge : ByteArray := prog_1_method_13_code
def yX1_barge : MethodName := ⟨RX1, "barge", "(I)I"⟩
def dkwX1_barge_2 : List UInt8 := [183, 0, 144, 182, 0, 31, 87, 42, 180, 0, 44, 180, 0, 124, 182, 0, 127, 4, 100, 172]
abbrev dktX1_barge_2 : List UInt8 := dkwX1_barge_2 ++ []
def dkwX1_barge_1 : List UInt8 := [4, 167, 0, 4, 3, 184, 0, 138, 42, 182, 0, 141, 42, 180, 0, 44, 180, 0, 124, 187, 0, 132, 89, 27]
abbrev dktX1_barge_1 : List UInt8 := dkwX1_barge_1 ++ dktX1_barge_2
def dkwX1_barge_0 : List UInt8 := [27, 5, 16, 20, 184, 0, 15, 184, 0, 134, 42, 180, 0, 44, 180, 0, 124, 182, 0, 127, 7, 162, 0, 7]
abbrev dktX1_barge_0 : List UInt8 := dkwX1_barge_0 ++ dktX1_barge_1
theorem dksX1_barge_0 : cX1_barge.data.toList.drop 0 = dktX1_barge_0 := by decide +kernel
theorem dksX1_barge_1 : cX1_barge.data.toList.drop 24 = dktX1_barge_1 := dk_seg dksX1_barge_0 24 rfl rfl
theorem dksX1_barge_2 : cX1_barge.data.toList.drop 48 = dktX1_barge_2 := dk_seg dksX1_barge_1 24 rfl rfl
theorem dX1_barge_0 : decode cX1_barge 0 = .ok (.iload_n 1, 1) := dk_27 (dk_at dksX1_barge_0 0 rfl rfl)
theorem dX1_barge_1 : decode cX1_barge 1 = .ok (.iconst 2, 1) := dk_5 (dk_at dksX1_barge_0 1 rfl rfl)
theorem dX1_barge_2 : decode cX1_barge 2 = .ok (.bipush 20, 2) := dk_16 20 (dk_at dksX1_barge_0 2 rfl rfl)
theorem dX1_barge_4 : decode cX1_barge 4 = .ok (.invokestatic 15, 3) := dk_184 0 15 (dk_at dksX1_barge_0 4 rfl rfl)
theorem dX1_barge_7 : decode cX1_barge 7 = .ok (.invokestatic 134, 3) := dk_184 0 134 (dk_at dksX1_barge_0 7 rfl rfl)
theorem dX1_barge_10 : decode cX1_barge 10 = .ok (.aload_n 0, 1) := dk_42 (dk_at dksX1_barge_0 10 rfl rfl)
theorem dX1_barge_11 : decode cX1_barge 11 = .ok (.getfield 44, 3) := dk_180 0 44 (dk_at dksX1_barge_0 11 rfl rfl)
theorem dX1_barge_14 : decode cX1_barge 14 = .ok (.getfield 124, 3) := dk_180 0 124 (dk_at dksX1_barge_0 14 rfl rfl)
theorem dX1_barge_17 : decode cX1_barge 17 = .ok (.invokevirtual 127, 3) := dk_182 0 127 (dk_at dksX1_barge_0 17 rfl rfl)
theorem dX1_barge_20 : decode cX1_barge 20 = .ok (.iconst 4, 1) := dk_7 (dk_at dksX1_barge_0 20 rfl rfl)
theorem dX1_barge_21 : decode cX1_barge 21 = .ok (.if_icmp .ge 7, 3) := dk_162 0 7 (dk_at dksX1_barge_0 21 rfl rfl)
theorem dX1_barge_24 : decode cX1_barge 24 = .ok (.iconst 1, 1) := dk_4 (dk_at dksX1_barge_1 0 rfl rfl)
theorem dX1_barge_25 : decode cX1_barge 25 = .ok (.goto 4, 3) := dk_167 0 4 (dk_at dksX1_barge_1 1 rfl rfl)
theorem dX1_barge_28 : decode cX1_barge 28 = .ok (.iconst 0, 1) := dk_3 (dk_at dksX1_barge_1 4 rfl rfl)
theorem dX1_barge_29 : decode cX1_barge 29 = .ok (.invokestatic 138, 3) := dk_184 0 138 (dk_at dksX1_barge_1 5 rfl rfl)
theorem dX1_barge_32 : decode cX1_barge 32 = .ok (.aload_n 0, 1) := dk_42 (dk_at dksX1_barge_1 8 rfl rfl)
theorem dX1_barge_33 : decode cX1_barge 33 = .ok (.invokevirtual 141, 3) := dk_182 0 141 (dk_at dksX1_barge_1 9 rfl rfl)
theorem dX1_barge_36 : decode cX1_barge 36 = .ok (.aload_n 0, 1) := dk_42 (dk_at dksX1_barge_1 12 rfl rfl)
theorem dX1_barge_37 : decode cX1_barge 37 = .ok (.getfield 44, 3) := dk_180 0 44 (dk_at dksX1_barge_1 13 rfl rfl)
theorem dX1_barge_40 : decode cX1_barge 40 = .ok (.getfield 124, 3) := dk_180 0 124 (dk_at dksX1_barge_1 16 rfl rfl)
theorem dX1_barge_43 : decode cX1_barge 43 = .ok (.new 132, 3) := dk_187 0 132 (dk_at dksX1_barge_1 19 rfl rfl)
theorem dX1_barge_46 : decode cX1_barge 46 = .ok (.dup, 1) := dk_89 (dk_at dksX1_barge_1 22 rfl rfl)
theorem dX1_barge_47 : decode cX1_barge 47 = .ok (.iload_n 1, 1) := dk_27 (dk_at dksX1_barge_1 23 rfl rfl)
theorem dX1_barge_48 : decode cX1_barge 48 = .ok (.invokespecial 144, 3) := dk_183 0 144 (dk_at dksX1_barge_2 0 rfl rfl)
theorem dX1_barge_51 : decode cX1_barge 51 = .ok (.invokevirtual 31, 3) := dk_182 0 31 (dk_at dksX1_barge_2 3 rfl rfl)
theorem dX1_barge_54 : decode cX1_barge 54 = .ok (.pop, 1) := dk_87 (dk_at dksX1_barge_2 6 rfl rfl)
theorem dX1_barge_55 : decode cX1_barge 55 = .ok (.aload_n 0, 1) := dk_42 (dk_at dksX1_barge_2 7 rfl rfl)
theorem dX1_barge_56 : decode cX1_barge 56 = .ok (.getfield 44, 3) := dk_180 0 44 (dk_at dksX1_barge_2 8 rfl rfl)
theorem dX1_barge_59 : decode cX1_barge 59 = .ok (.getfield 124, 3) := dk_180 0 124 (dk_at dksX1_barge_2 11 rfl rfl)
theorem dX1_barge_62 : decode cX1_barge 62 = .ok (.invokevirtual 127, 3) := dk_182 0 127 (dk_at dksX1_barge_2 14 rfl rfl)
theorem dX1_barge_65 : decode cX1_barge 65 = .ok (.iconst 1, 1) := dk_4 (dk_at dksX1_barge_2 17 rfl rfl)
theorem dX1_barge_66 : decode cX1_barge 66 = .ok (.isub, 1) := dk_100 (dk_at dksX1_barge_2 18 rfl rfl)
theorem dX1_barge_67 : decode cX1_barge 67 = .ok (.ireturn, 1) := dk_172 (dk_at dksX1_barge_2 19 rfl rfl)
abbrev cX1_require : ByteArray := prog_1_method_2_code
def yX1_require : MethodName := ⟨RX1, "require", "(Z)V"⟩
def dkwX1_require_0 : List UInt8 := [26, 154, 0, 11, 187, 0, 1, 89, 183, 0, 3, 191, 177]
abbrev dktX1_require_0 : List UInt8 := dkwX1_require_0 ++ []
theorem dksX1_require_0 : cX1_require.data.toList.drop 0 = dktX1_require_0 := by decide +kernel
theorem dX1_require_0 : decode cX1_require 0 = .ok (.iload_n 0, 1) := dk_26 (dk_at dksX1_require_0 0 rfl rfl)
theorem dX1_require_1 : decode cX1_require 1 = .ok (.ifCond .ne 11, 3) := dk_154 0 11 (dk_at dksX1_require_0 1 rfl rfl)
theorem dX1_require_4 : decode cX1_require 4 = .ok (.new 1, 3) := dk_187 0 1 (dk_at dksX1_require_0 4 rfl rfl)
theorem dX1_require_7 : decode cX1_require 7 = .ok (.dup, 1) := dk_89 (dk_at dksX1_require_0 7 rfl rfl)
theorem dX1_require_8 : decode cX1_require 8 = .ok (.invokespecial 3, 3) := dk_183 0 3 (dk_at dksX1_require_0 8 rfl rfl)
theorem dX1_require_11 : decode cX1_require 11 = .ok (.athrow, 1) := dk_191 (dk_at dksX1_require_0 11 rfl rfl)
theorem dX1_require_12 : decode cX1_require 12 = .ok (.return_, 1) := dk_177 (dk_at dksX1_require_0 12 rfl rfl)
abbrev cX1_requireState : ByteArray := prog_1_method_3_code
def yX1_requireState : MethodName := ⟨RX1, "requireState", "(Z)V"⟩
def dkwX1_requireState_0 : List UInt8 := [26, 154, 0, 11, 187, 0, 7, 89, 183, 0, 9, 191, 177]
abbrev dktX1_requireState_0 : List UInt8 := dkwX1_requireState_0 ++ []
theorem dksX1_requireState_0 : cX1_requireState.data.toList.drop 0 = dktX1_requireState_0 := by decide +kernel
theorem dX1_requireState_0 : decode cX1_requireState 0 = .ok (.iload_n 0, 1) := dk_26 (dk_at dksX1_requireState_0 0 rfl rfl)
theorem dX1_requireState_1 : decode cX1_requireState 1 = .ok (.ifCond .ne 11, 3) := dk_154 0 11 (dk_at dksX1_requireState_0 1 rfl rfl)
theorem dX1_requireState_4 : decode cX1_requireState 4 = .ok (.new 7, 3) := dk_187 0 7 (dk_at dksX1_requireState_0 4 rfl rfl)
theorem dX1_requireState_7 : decode cX1_requireState 7 = .ok (.dup, 1) := dk_89 (dk_at dksX1_requireState_0 7 rfl rfl)
theorem dX1_requireState_8 : decode cX1_requireState 8 = .ok (.invokespecial 9, 3) := dk_183 0 9 (dk_at dksX1_requireState_0 8 rfl rfl)
theorem dX1_requireState_11 : decode cX1_requireState 11 = .ok (.athrow, 1) := dk_191 (dk_at dksX1_requireState_0 11 rfl rfl)
theorem dX1_requireState_12 : decode cX1_requireState 12 = .ok (.return_, 1) := dk_177 (dk_at dksX1_requireState_0 12 rfl rfl)
abbrev cX1_save : ByteArray := prog_1_method_10_code
def yX1_save : MethodName := ⟨RX1, "save", "()V"⟩
def dkwX1_save_1 : List UInt8 := [42, 180, 0, 44, 182, 0, 117, 182, 0, 120, 177]
abbrev dktX1_save_1 : List UInt8 := dkwX1_save_1 ++ []
def dkwX1_save_0 : List UInt8 := [42, 180, 0, 53, 182, 0, 109, 16, 6, 160, 0, 11, 42, 180, 0, 53, 182, 0, 113, 87, 42, 180, 0, 53]
abbrev dktX1_save_0 : List UInt8 := dkwX1_save_0 ++ dktX1_save_1
theorem dksX1_save_0 : cX1_save.data.toList.drop 0 = dktX1_save_0 := by decide +kernel
theorem dksX1_save_1 : cX1_save.data.toList.drop 24 = dktX1_save_1 := dk_seg dksX1_save_0 24 rfl rfl
theorem dX1_save_0 : decode cX1_save 0 = .ok (.aload_n 0, 1) := dk_42 (dk_at dksX1_save_0 0 rfl rfl)
theorem dX1_save_1 : decode cX1_save 1 = .ok (.getfield 53, 3) := dk_180 0 53 (dk_at dksX1_save_0 1 rfl rfl)
theorem dX1_save_4 : decode cX1_save 4 = .ok (.invokevirtual 109, 3) := dk_182 0 109 (dk_at dksX1_save_0 4 rfl rfl)
theorem dX1_save_7 : decode cX1_save 7 = .ok (.bipush 6, 2) := dk_16 6 (dk_at dksX1_save_0 7 rfl rfl)
theorem dX1_save_9 : decode cX1_save 9 = .ok (.if_icmp .ne 11, 3) := dk_160 0 11 (dk_at dksX1_save_0 9 rfl rfl)
theorem dX1_save_12 : decode cX1_save 12 = .ok (.aload_n 0, 1) := dk_42 (dk_at dksX1_save_0 12 rfl rfl)
theorem dX1_save_13 : decode cX1_save 13 = .ok (.getfield 53, 3) := dk_180 0 53 (dk_at dksX1_save_0 13 rfl rfl)
theorem dX1_save_16 : decode cX1_save 16 = .ok (.invokevirtual 113, 3) := dk_182 0 113 (dk_at dksX1_save_0 16 rfl rfl)
theorem dX1_save_19 : decode cX1_save 19 = .ok (.pop, 1) := dk_87 (dk_at dksX1_save_0 19 rfl rfl)
theorem dX1_save_20 : decode cX1_save 20 = .ok (.aload_n 0, 1) := dk_42 (dk_at dksX1_save_0 20 rfl rfl)
theorem dX1_save_21 : decode cX1_save 21 = .ok (.getfield 53, 3) := dk_180 0 53 (dk_at dksX1_save_0 21 rfl rfl)
theorem dX1_save_24 : decode cX1_save 24 = .ok (.aload_n 0, 1) := dk_42 (dk_at dksX1_save_1 0 rfl rfl)
theorem dX1_save_25 : decode cX1_save 25 = .ok (.getfield 44, 3) := dk_180 0 44 (dk_at dksX1_save_1 1 rfl rfl)
theorem dX1_save_28 : decode cX1_save 28 = .ok (.invokevirtual 117, 3) := dk_182 0 117 (dk_at dksX1_save_1 4 rfl rfl)
theorem dX1_save_31 : decode cX1_save 31 = .ok (.invokevirtual 120, 3) := dk_182 0 120 (dk_at dksX1_save_1 7 rfl rfl)
theorem dX1_save_34 : decode cX1_save 34 = .ok (.return_, 1) := dk_177 (dk_at dksX1_save_1 10 rfl rfl)
abbrev cX1_order : ByteArray := prog_1_method_15_code
def yX1_order : MethodName := ⟨RX1, "order", "(II)I"⟩
def dkwX1_order_1 : List UInt8 := [3, 184, 0, 134, 42, 182, 0, 141, 42, 27, 28, 182, 0, 163, 172]
abbrev dktX1_order_1 : List UInt8 := dkwX1_order_1 ++ []
def dkwX1_order_0 : List UInt8 := [42, 27, 182, 0, 153, 184, 0, 157, 28, 2, 159, 0, 10, 28, 184, 0, 160, 153, 0, 7, 4, 167, 0, 4]
abbrev dktX1_order_0 : List UInt8 := dkwX1_order_0 ++ dktX1_order_1
theorem dksX1_order_0 : cX1_order.data.toList.drop 0 = dktX1_order_0 := by decide +kernel
theorem dksX1_order_1 : cX1_order.data.toList.drop 24 = dktX1_order_1 := dk_seg dksX1_order_0 24 rfl rfl
theorem dX1_order_0 : decode cX1_order 0 = .ok (.aload_n 0, 1) := dk_42 (dk_at dksX1_order_0 0 rfl rfl)
theorem dX1_order_1 : decode cX1_order 1 = .ok (.iload_n 1, 1) := dk_27 (dk_at dksX1_order_0 1 rfl rfl)
theorem dX1_order_2 : decode cX1_order 2 = .ok (.invokevirtual 153, 3) := dk_182 0 153 (dk_at dksX1_order_0 2 rfl rfl)
theorem dX1_order_5 : decode cX1_order 5 = .ok (.invokestatic 157, 3) := dk_184 0 157 (dk_at dksX1_order_0 5 rfl rfl)
theorem dX1_order_8 : decode cX1_order 8 = .ok (.iload_n 2, 1) := dk_28 (dk_at dksX1_order_0 8 rfl rfl)
theorem dX1_order_9 : decode cX1_order 9 = .ok (.iconst (-1), 1) := dk_2 (dk_at dksX1_order_0 9 rfl rfl)
theorem dX1_order_10 : decode cX1_order 10 = .ok (.if_icmp .eq 10, 3) := dk_159 0 10 (dk_at dksX1_order_0 10 rfl rfl)
theorem dX1_order_13 : decode cX1_order 13 = .ok (.iload_n 2, 1) := dk_28 (dk_at dksX1_order_0 13 rfl rfl)
theorem dX1_order_14 : decode cX1_order 14 = .ok (.invokestatic 160, 3) := dk_184 0 160 (dk_at dksX1_order_0 14 rfl rfl)
theorem dX1_order_17 : decode cX1_order 17 = .ok (.ifCond .eq 7, 3) := dk_153 0 7 (dk_at dksX1_order_0 17 rfl rfl)
theorem dX1_order_20 : decode cX1_order 20 = .ok (.iconst 1, 1) := dk_4 (dk_at dksX1_order_0 20 rfl rfl)
theorem dX1_order_21 : decode cX1_order 21 = .ok (.goto 4, 3) := dk_167 0 4 (dk_at dksX1_order_0 21 rfl rfl)
theorem dX1_order_24 : decode cX1_order 24 = .ok (.iconst 0, 1) := dk_3 (dk_at dksX1_order_1 0 rfl rfl)
theorem dX1_order_25 : decode cX1_order 25 = .ok (.invokestatic 134, 3) := dk_184 0 134 (dk_at dksX1_order_1 1 rfl rfl)
theorem dX1_order_28 : decode cX1_order 28 = .ok (.aload_n 0, 1) := dk_42 (dk_at dksX1_order_1 4 rfl rfl)
theorem dX1_order_29 : decode cX1_order 29 = .ok (.invokevirtual 141, 3) := dk_182 0 141 (dk_at dksX1_order_1 5 rfl rfl)
theorem dX1_order_32 : decode cX1_order 32 = .ok (.aload_n 0, 1) := dk_42 (dk_at dksX1_order_1 8 rfl rfl)
theorem dX1_order_33 : decode cX1_order 33 = .ok (.iload_n 1, 1) := dk_27 (dk_at dksX1_order_1 9 rfl rfl)
theorem dX1_order_34 : decode cX1_order 34 = .ok (.iload_n 2, 1) := dk_28 (dk_at dksX1_order_1 10 rfl rfl)
theorem dX1_order_35 : decode cX1_order 35 = .ok (.invokevirtual 163, 3) := dk_182 0 163 (dk_at dksX1_order_1 11 rfl rfl)
theorem dX1_order_38 : decode cX1_order 38 = .ok (.ireturn, 1) := dk_172 (dk_at dksX1_order_1 14 rfl rfl)
abbrev cX1_isBarge : ByteArray := prog_1_method_11_code
def yX1_isBarge : MethodName := ⟨RX1, "isBarge", "(I)Z"⟩
def dkwX1_isBarge_0 : List UInt8 := [27, 3, 42, 180, 0, 44, 180, 0, 124, 182, 0, 127, 4, 100, 184, 0, 15, 172]
abbrev dktX1_isBarge_0 : List UInt8 := dkwX1_isBarge_0 ++ []
theorem dksX1_isBarge_0 : cX1_isBarge.data.toList.drop 0 = dktX1_isBarge_0 := by decide +kernel
theorem dX1_isBarge_0 : decode cX1_isBarge 0 = .ok (.iload_n 1, 1) := dk_27 (dk_at dksX1_isBarge_0 0 rfl rfl)
theorem dX1_isBarge_1 : decode cX1_isBarge 1 = .ok (.iconst 0, 1) := dk_3 (dk_at dksX1_isBarge_0 1 rfl rfl)
theorem dX1_isBarge_2 : decode cX1_isBarge 2 = .ok (.aload_n 0, 1) := dk_42 (dk_at dksX1_isBarge_0 2 rfl rfl)
theorem dX1_isBarge_3 : decode cX1_isBarge 3 = .ok (.getfield 44, 3) := dk_180 0 44 (dk_at dksX1_isBarge_0 3 rfl rfl)
theorem dX1_isBarge_6 : decode cX1_isBarge 6 = .ok (.getfield 124, 3) := dk_180 0 124 (dk_at dksX1_isBarge_0 6 rfl rfl)
theorem dX1_isBarge_9 : decode cX1_isBarge 9 = .ok (.invokevirtual 127, 3) := dk_182 0 127 (dk_at dksX1_isBarge_0 9 rfl rfl)
theorem dX1_isBarge_12 : decode cX1_isBarge 12 = .ok (.iconst 1, 1) := dk_4 (dk_at dksX1_isBarge_0 12 rfl rfl)
theorem dX1_isBarge_13 : decode cX1_isBarge 13 = .ok (.isub, 1) := dk_100 (dk_at dksX1_isBarge_0 13 rfl rfl)
theorem dX1_isBarge_14 : decode cX1_isBarge 14 = .ok (.invokestatic 15, 3) := dk_184 0 15 (dk_at dksX1_isBarge_0 14 rfl rfl)
theorem dX1_isBarge_17 : decode cX1_isBarge 17 = .ok (.ireturn, 1) := dk_172 (dk_at dksX1_isBarge_0 17 rfl rfl)
abbrev cX1_requireIndex : ByteArray := prog_1_method_4_code
def yX1_requireIndex : MethodName := ⟨RX1, "requireIndex", "(Z)V"⟩
def dkwX1_requireIndex_0 : List UInt8 := [26, 154, 0, 11, 187, 0, 10, 89, 183, 0, 12, 191, 177]
abbrev dktX1_requireIndex_0 : List UInt8 := dkwX1_requireIndex_0 ++ []
theorem dksX1_requireIndex_0 : cX1_requireIndex.data.toList.drop 0 = dktX1_requireIndex_0 := by decide +kernel
theorem dX1_requireIndex_0 : decode cX1_requireIndex 0 = .ok (.iload_n 0, 1) := dk_26 (dk_at dksX1_requireIndex_0 0 rfl rfl)
theorem dX1_requireIndex_1 : decode cX1_requireIndex 1 = .ok (.ifCond .ne 11, 3) := dk_154 0 11 (dk_at dksX1_requireIndex_0 1 rfl rfl)
theorem dX1_requireIndex_4 : decode cX1_requireIndex 4 = .ok (.new 10, 3) := dk_187 0 10 (dk_at dksX1_requireIndex_0 4 rfl rfl)
theorem dX1_requireIndex_7 : decode cX1_requireIndex 7 = .ok (.dup, 1) := dk_89 (dk_at dksX1_requireIndex_0 7 rfl rfl)
theorem dX1_requireIndex_8 : decode cX1_requireIndex 8 = .ok (.invokespecial 12, 3) := dk_183 0 12 (dk_at dksX1_requireIndex_0 8 rfl rfl)
theorem dX1_requireIndex_11 : decode cX1_requireIndex 11 = .ok (.athrow, 1) := dk_191 (dk_at dksX1_requireIndex_0 11 rfl rfl)
theorem dX1_requireIndex_12 : decode cX1_requireIndex 12 = .ok (.return_, 1) := dk_177 (dk_at dksX1_requireIndex_0 12 rfl rfl)
abbrev cX1_isMeadow : ByteArray := prog_1_method_7_code
def yX1_isMeadow : MethodName := ⟨RX1, "isMeadow", "(I)Z"⟩
def dkwX1_isMeadow_0 : List UInt8 := [26, 3, 7, 184, 0, 15, 172]
abbrev dktX1_isMeadow_0 : List UInt8 := dkwX1_isMeadow_0 ++ []
theorem dksX1_isMeadow_0 : cX1_isMeadow.data.toList.drop 0 = dktX1_isMeadow_0 := by decide +kernel
theorem dX1_isMeadow_0 : decode cX1_isMeadow 0 = .ok (.iload_n 0, 1) := dk_26 (dk_at dksX1_isMeadow_0 0 rfl rfl)
theorem dX1_isMeadow_1 : decode cX1_isMeadow 1 = .ok (.iconst 0, 1) := dk_3 (dk_at dksX1_isMeadow_0 1 rfl rfl)
theorem dX1_isMeadow_2 : decode cX1_isMeadow 2 = .ok (.iconst 4, 1) := dk_7 (dk_at dksX1_isMeadow_0 2 rfl rfl)
theorem dX1_isMeadow_3 : decode cX1_isMeadow 3 = .ok (.invokestatic 15, 3) := dk_184 0 15 (dk_at dksX1_isMeadow_0 3 rfl rfl)
theorem dX1_isMeadow_6 : decode cX1_isMeadow 6 = .ok (.ireturn, 1) := dk_172 (dk_at dksX1_isMeadow_0 6 rfl rfl)
abbrev cX1_orders : ByteArray := prog_1_method_14_code
def yX1_orders : MethodName := ⟨RX1, "orders", "(II)I"⟩
def dkwX1_orders_0 : List UInt8 := [42, 27, 182, 0, 145, 180, 0, 149, 62, 42, 27, 182, 0, 145, 28, 181, 0, 149, 29, 172]
abbrev dktX1_orders_0 : List UInt8 := dkwX1_orders_0 ++ []
theorem dksX1_orders_0 : cX1_orders.data.toList.drop 0 = dktX1_orders_0 := by decide +kernel
theorem dX1_orders_0 : decode cX1_orders 0 = .ok (.aload_n 0, 1) := dk_42 (dk_at dksX1_orders_0 0 rfl rfl)
theorem dX1_orders_1 : decode cX1_orders 1 = .ok (.iload_n 1, 1) := dk_27 (dk_at dksX1_orders_0 1 rfl rfl)
theorem dX1_orders_2 : decode cX1_orders 2 = .ok (.invokevirtual 145, 3) := dk_182 0 145 (dk_at dksX1_orders_0 2 rfl rfl)
theorem dX1_orders_5 : decode cX1_orders 5 = .ok (.getfield 149, 3) := dk_180 0 149 (dk_at dksX1_orders_0 5 rfl rfl)
theorem dX1_orders_8 : decode cX1_orders 8 = .ok (.istore_n 3, 1) := dk_62 (dk_at dksX1_orders_0 8 rfl rfl)
theorem dX1_orders_9 : decode cX1_orders 9 = .ok (.aload_n 0, 1) := dk_42 (dk_at dksX1_orders_0 9 rfl rfl)
theorem dX1_orders_10 : decode cX1_orders 10 = .ok (.iload_n 1, 1) := dk_27 (dk_at dksX1_orders_0 10 rfl rfl)
theorem dX1_orders_11 : decode cX1_orders 11 = .ok (.invokevirtual 145, 3) := dk_182 0 145 (dk_at dksX1_orders_0 11 rfl rfl)
theorem dX1_orders_14 : decode cX1_orders 14 = .ok (.iload_n 2, 1) := dk_28 (dk_at dksX1_orders_0 14 rfl rfl)
theorem dX1_orders_15 : decode cX1_orders 15 = .ok (.putfield 149, 3) := dk_181 0 149 (dk_at dksX1_orders_0 15 rfl rfl)
theorem dX1_orders_18 : decode cX1_orders 18 = .ok (.iload_n 3, 1) := dk_29 (dk_at dksX1_orders_0 18 rfl rfl)
theorem dX1_orders_19 : decode cX1_orders 19 = .ok (.ireturn, 1) := dk_172 (dk_at dksX1_orders_0 19 rfl rfl)
abbrev cX1_move : ByteArray := prog_1_method_17_code
def yX1_move : MethodName := ⟨RX1, "move", "(I)I"⟩
def dkwX1_move_0 : List UInt8 := [27, 184, 0, 170, 184, 0, 134, 42, 182, 0, 141, 42, 27, 182, 0, 173, 172]
abbrev dktX1_move_0 : List UInt8 := dkwX1_move_0 ++ []
theorem dksX1_move_0 : cX1_move.data.toList.drop 0 = dktX1_move_0 := by decide +kernel
theorem dX1_move_0 : decode cX1_move 0 = .ok (.iload_n 1, 1) := dk_27 (dk_at dksX1_move_0 0 rfl rfl)
theorem dX1_move_1 : decode cX1_move 1 = .ok (.invokestatic 170, 3) := dk_184 0 170 (dk_at dksX1_move_0 1 rfl rfl)
theorem dX1_move_4 : decode cX1_move 4 = .ok (.invokestatic 134, 3) := dk_184 0 134 (dk_at dksX1_move_0 4 rfl rfl)
theorem dX1_move_7 : decode cX1_move 7 = .ok (.aload_n 0, 1) := dk_42 (dk_at dksX1_move_0 7 rfl rfl)
theorem dX1_move_8 : decode cX1_move 8 = .ok (.invokevirtual 141, 3) := dk_182 0 141 (dk_at dksX1_move_0 8 rfl rfl)
theorem dX1_move_11 : decode cX1_move 11 = .ok (.aload_n 0, 1) := dk_42 (dk_at dksX1_move_0 11 rfl rfl)
theorem dX1_move_12 : decode cX1_move 12 = .ok (.iload_n 1, 1) := dk_27 (dk_at dksX1_move_0 12 rfl rfl)
theorem dX1_move_13 : decode cX1_move 13 = .ok (.invokevirtual 173, 3) := dk_182 0 173 (dk_at dksX1_move_0 13 rfl rfl)
theorem dX1_move_16 : decode cX1_move 16 = .ok (.ireturn, 1) := dk_172 (dk_at dksX1_move_0 16 rfl rfl)
abbrev cX1_isReach : ByteArray := prog_1_method_6_code
def yX1_isReach : MethodName := ⟨RX1, "isReach", "(I)Z"⟩
def dkwX1_isReach_0 : List UInt8 := [26, 3, 8, 184, 0, 15, 172]
abbrev dktX1_isReach_0 : List UInt8 := dkwX1_isReach_0 ++ []
theorem dksX1_isReach_0 : cX1_isReach.data.toList.drop 0 = dktX1_isReach_0 := by decide +kernel
theorem dX1_isReach_0 : decode cX1_isReach 0 = .ok (.iload_n 0, 1) := dk_26 (dk_at dksX1_isReach_0 0 rfl rfl)
theorem dX1_isReach_1 : decode cX1_isReach 1 = .ok (.iconst 0, 1) := dk_3 (dk_at dksX1_isReach_0 1 rfl rfl)
theorem dX1_isReach_2 : decode cX1_isReach 2 = .ok (.iconst 5, 1) := dk_8 (dk_at dksX1_isReach_0 2 rfl rfl)
theorem dX1_isReach_3 : decode cX1_isReach 3 = .ok (.invokestatic 15, 3) := dk_184 0 15 (dk_at dksX1_isReach_0 3 rfl rfl)
theorem dX1_isReach_6 : decode cX1_isReach 6 = .ok (.ireturn, 1) := dk_172 (dk_at dksX1_isReach_0 6 rfl rfl)
abbrev cX1_moves : ByteArray := prog_1_method_16_code
def yX1_moves : MethodName := ⟨RX1, "moves", "(I)I"⟩
def dkwX1_moves_0 : List UInt8 := [42, 180, 0, 44, 180, 0, 167, 61, 42, 180, 0, 44, 27, 181, 0, 167, 28, 172]
abbrev dktX1_moves_0 : List UInt8 := dkwX1_moves_0 ++ []
theorem dksX1_moves_0 : cX1_moves.data.toList.drop 0 = dktX1_moves_0 := by decide +kernel
theorem dX1_moves_0 : decode cX1_moves 0 = .ok (.aload_n 0, 1) := dk_42 (dk_at dksX1_moves_0 0 rfl rfl)
theorem dX1_moves_1 : decode cX1_moves 1 = .ok (.getfield 44, 3) := dk_180 0 44 (dk_at dksX1_moves_0 1 rfl rfl)
theorem dX1_moves_4 : decode cX1_moves 4 = .ok (.getfield 167, 3) := dk_180 0 167 (dk_at dksX1_moves_0 4 rfl rfl)
theorem dX1_moves_7 : decode cX1_moves 7 = .ok (.istore_n 2, 1) := dk_61 (dk_at dksX1_moves_0 7 rfl rfl)
theorem dX1_moves_8 : decode cX1_moves 8 = .ok (.aload_n 0, 1) := dk_42 (dk_at dksX1_moves_0 8 rfl rfl)
theorem dX1_moves_9 : decode cX1_moves 9 = .ok (.getfield 44, 3) := dk_180 0 44 (dk_at dksX1_moves_0 9 rfl rfl)
theorem dX1_moves_12 : decode cX1_moves 12 = .ok (.iload_n 1, 1) := dk_27 (dk_at dksX1_moves_0 12 rfl rfl)
theorem dX1_moves_13 : decode cX1_moves 13 = .ok (.putfield 167, 3) := dk_181 0 167 (dk_at dksX1_moves_0 13 rfl rfl)
theorem dX1_moves_16 : decode cX1_moves 16 = .ok (.iload_n 2, 1) := dk_28 (dk_at dksX1_moves_0 16 rfl rfl)
theorem dX1_moves_17 : decode cX1_moves 17 = .ok (.ireturn, 1) := dk_172 (dk_at dksX1_moves_0 17 rfl rfl)
abbrev cX1_silt : ByteArray := prog_1_method_18_code
def yX1_silt : MethodName := ⟨RX1, "silt", "(II)I"⟩
def dkwX1_silt_2 : List UInt8 := [27, 28, 79, 29, 172]
abbrev dktX1_silt_2 : List UInt8 := dkwX1_silt_2 ++ []
def dkwX1_silt_1 : List UInt8 := [184, 0, 134, 42, 182, 0, 141, 42, 180, 0, 44, 180, 0, 177, 27, 46, 62, 42, 180, 0, 44, 180, 0, 177]
abbrev dktX1_silt_1 : List UInt8 := dkwX1_silt_1 ++ dktX1_silt_2
def dkwX1_silt_0 : List UInt8 := [27, 184, 0, 170, 153, 0, 18, 28, 3, 17, 3, 231, 184, 0, 15, 153, 0, 7, 4, 167, 0, 4, 3]
abbrev dktX1_silt_0 : List UInt8 := dkwX1_silt_0 ++ dktX1_silt_1
theorem dksX1_silt_0 : cX1_silt.data.toList.drop 0 = dktX1_silt_0 := by decide +kernel
theorem dksX1_silt_1 : cX1_silt.data.toList.drop 23 = dktX1_silt_1 := dk_seg dksX1_silt_0 23 rfl rfl
theorem dksX1_silt_2 : cX1_silt.data.toList.drop 47 = dktX1_silt_2 := dk_seg dksX1_silt_1 24 rfl rfl
theorem dX1_silt_0 : decode cX1_silt 0 = .ok (.iload_n 1, 1) := dk_27 (dk_at dksX1_silt_0 0 rfl rfl)
theorem dX1_silt_1 : decode cX1_silt 1 = .ok (.invokestatic 170, 3) := dk_184 0 170 (dk_at dksX1_silt_0 1 rfl rfl)
theorem dX1_silt_4 : decode cX1_silt 4 = .ok (.ifCond .eq 18, 3) := dk_153 0 18 (dk_at dksX1_silt_0 4 rfl rfl)
theorem dX1_silt_7 : decode cX1_silt 7 = .ok (.iload_n 2, 1) := dk_28 (dk_at dksX1_silt_0 7 rfl rfl)
theorem dX1_silt_8 : decode cX1_silt 8 = .ok (.iconst 0, 1) := dk_3 (dk_at dksX1_silt_0 8 rfl rfl)
theorem dX1_silt_9 : decode cX1_silt 9 = .ok (.sipush 999, 3) := dk_17 3 231 (dk_at dksX1_silt_0 9 rfl rfl)
theorem dX1_silt_12 : decode cX1_silt 12 = .ok (.invokestatic 15, 3) := dk_184 0 15 (dk_at dksX1_silt_0 12 rfl rfl)
theorem dX1_silt_15 : decode cX1_silt 15 = .ok (.ifCond .eq 7, 3) := dk_153 0 7 (dk_at dksX1_silt_0 15 rfl rfl)
theorem dX1_silt_18 : decode cX1_silt 18 = .ok (.iconst 1, 1) := dk_4 (dk_at dksX1_silt_0 18 rfl rfl)
theorem dX1_silt_19 : decode cX1_silt 19 = .ok (.goto 4, 3) := dk_167 0 4 (dk_at dksX1_silt_0 19 rfl rfl)
theorem dX1_silt_22 : decode cX1_silt 22 = .ok (.iconst 0, 1) := dk_3 (dk_at dksX1_silt_0 22 rfl rfl)
theorem dX1_silt_23 : decode cX1_silt 23 = .ok (.invokestatic 134, 3) := dk_184 0 134 (dk_at dksX1_silt_1 0 rfl rfl)
theorem dX1_silt_26 : decode cX1_silt 26 = .ok (.aload_n 0, 1) := dk_42 (dk_at dksX1_silt_1 3 rfl rfl)
theorem dX1_silt_27 : decode cX1_silt 27 = .ok (.invokevirtual 141, 3) := dk_182 0 141 (dk_at dksX1_silt_1 4 rfl rfl)
theorem dX1_silt_30 : decode cX1_silt 30 = .ok (.aload_n 0, 1) := dk_42 (dk_at dksX1_silt_1 7 rfl rfl)
theorem dX1_silt_31 : decode cX1_silt 31 = .ok (.getfield 44, 3) := dk_180 0 44 (dk_at dksX1_silt_1 8 rfl rfl)
theorem dX1_silt_34 : decode cX1_silt 34 = .ok (.getfield 177, 3) := dk_180 0 177 (dk_at dksX1_silt_1 11 rfl rfl)
theorem dX1_silt_37 : decode cX1_silt 37 = .ok (.iload_n 1, 1) := dk_27 (dk_at dksX1_silt_1 14 rfl rfl)
theorem dX1_silt_38 : decode cX1_silt 38 = .ok (.iaload, 1) := dk_46 (dk_at dksX1_silt_1 15 rfl rfl)
theorem dX1_silt_39 : decode cX1_silt 39 = .ok (.istore_n 3, 1) := dk_62 (dk_at dksX1_silt_1 16 rfl rfl)
theorem dX1_silt_40 : decode cX1_silt 40 = .ok (.aload_n 0, 1) := dk_42 (dk_at dksX1_silt_1 17 rfl rfl)
theorem dX1_silt_41 : decode cX1_silt 41 = .ok (.getfield 44, 3) := dk_180 0 44 (dk_at dksX1_silt_1 18 rfl rfl)
theorem dX1_silt_44 : decode cX1_silt 44 = .ok (.getfield 177, 3) := dk_180 0 177 (dk_at dksX1_silt_1 21 rfl rfl)
theorem dX1_silt_47 : decode cX1_silt 47 = .ok (.iload_n 1, 1) := dk_27 (dk_at dksX1_silt_2 0 rfl rfl)
theorem dX1_silt_48 : decode cX1_silt 48 = .ok (.iload_n 2, 1) := dk_28 (dk_at dksX1_silt_2 1 rfl rfl)
theorem dX1_silt_49 : decode cX1_silt 49 = .ok (.iastore, 1) := dk_79 (dk_at dksX1_silt_2 2 rfl rfl)
theorem dX1_silt_50 : decode cX1_silt 50 = .ok (.iload_n 3, 1) := dk_29 (dk_at dksX1_silt_2 3 rfl rfl)
theorem dX1_silt_51 : decode cX1_silt 51 = .ok (.ireturn, 1) := dk_172 (dk_at dksX1_silt_2 4 rfl rfl)
abbrev cX1_bound : ByteArray := prog_1_method_20_code
def yX1_bound : MethodName := ⟨RX1, "bound", "(II)I"⟩
def dkwX1_bound_2 : List UInt8 := [181, 0, 185, 29, 172]
abbrev dktX1_bound_2 : List UInt8 := dkwX1_bound_2 ++ []
def dkwX1_bound_1 : List UInt8 := [184, 0, 134, 42, 182, 0, 141, 42, 27, 182, 0, 181, 180, 0, 185, 62, 42, 27, 182, 0, 181, 28]
abbrev dktX1_bound_1 : List UInt8 := dkwX1_bound_1 ++ dktX1_bound_2
def dkwX1_bound_0 : List UInt8 := [27, 184, 0, 160, 153, 0, 18, 28, 3, 17, 1, 244, 184, 0, 15, 153, 0, 7, 4, 167, 0, 4, 3]
abbrev dktX1_bound_0 : List UInt8 := dkwX1_bound_0 ++ dktX1_bound_1
theorem dksX1_bound_0 : cX1_bound.data.toList.drop 0 = dktX1_bound_0 := by decide +kernel
theorem dksX1_bound_1 : cX1_bound.data.toList.drop 23 = dktX1_bound_1 := dk_seg dksX1_bound_0 23 rfl rfl
theorem dksX1_bound_2 : cX1_bound.data.toList.drop 45 = dktX1_bound_2 := dk_seg dksX1_bound_1 22 rfl rfl
theorem dX1_bound_0 : decode cX1_bound 0 = .ok (.iload_n 1, 1) := dk_27 (dk_at dksX1_bound_0 0 rfl rfl)
theorem dX1_bound_1 : decode cX1_bound 1 = .ok (.invokestatic 160, 3) := dk_184 0 160 (dk_at dksX1_bound_0 1 rfl rfl)
theorem dX1_bound_4 : decode cX1_bound 4 = .ok (.ifCond .eq 18, 3) := dk_153 0 18 (dk_at dksX1_bound_0 4 rfl rfl)
theorem dX1_bound_7 : decode cX1_bound 7 = .ok (.iload_n 2, 1) := dk_28 (dk_at dksX1_bound_0 7 rfl rfl)
theorem dX1_bound_8 : decode cX1_bound 8 = .ok (.iconst 0, 1) := dk_3 (dk_at dksX1_bound_0 8 rfl rfl)
theorem dX1_bound_9 : decode cX1_bound 9 = .ok (.sipush 500, 3) := dk_17 1 244 (dk_at dksX1_bound_0 9 rfl rfl)
theorem dX1_bound_12 : decode cX1_bound 12 = .ok (.invokestatic 15, 3) := dk_184 0 15 (dk_at dksX1_bound_0 12 rfl rfl)
theorem dX1_bound_15 : decode cX1_bound 15 = .ok (.ifCond .eq 7, 3) := dk_153 0 7 (dk_at dksX1_bound_0 15 rfl rfl)
theorem dX1_bound_18 : decode cX1_bound 18 = .ok (.iconst 1, 1) := dk_4 (dk_at dksX1_bound_0 18 rfl rfl)
theorem dX1_bound_19 : decode cX1_bound 19 = .ok (.goto 4, 3) := dk_167 0 4 (dk_at dksX1_bound_0 19 rfl rfl)
theorem dX1_bound_22 : decode cX1_bound 22 = .ok (.iconst 0, 1) := dk_3 (dk_at dksX1_bound_0 22 rfl rfl)
theorem dX1_bound_23 : decode cX1_bound 23 = .ok (.invokestatic 134, 3) := dk_184 0 134 (dk_at dksX1_bound_1 0 rfl rfl)
theorem dX1_bound_26 : decode cX1_bound 26 = .ok (.aload_n 0, 1) := dk_42 (dk_at dksX1_bound_1 3 rfl rfl)
theorem dX1_bound_27 : decode cX1_bound 27 = .ok (.invokevirtual 141, 3) := dk_182 0 141 (dk_at dksX1_bound_1 4 rfl rfl)
theorem dX1_bound_30 : decode cX1_bound 30 = .ok (.aload_n 0, 1) := dk_42 (dk_at dksX1_bound_1 7 rfl rfl)
theorem dX1_bound_31 : decode cX1_bound 31 = .ok (.iload_n 1, 1) := dk_27 (dk_at dksX1_bound_1 8 rfl rfl)
theorem dX1_bound_32 : decode cX1_bound 32 = .ok (.invokevirtual 181, 3) := dk_182 0 181 (dk_at dksX1_bound_1 9 rfl rfl)
theorem dX1_bound_35 : decode cX1_bound 35 = .ok (.getfield 185, 3) := dk_180 0 185 (dk_at dksX1_bound_1 12 rfl rfl)
theorem dX1_bound_38 : decode cX1_bound 38 = .ok (.istore_n 3, 1) := dk_62 (dk_at dksX1_bound_1 15 rfl rfl)
theorem dX1_bound_39 : decode cX1_bound 39 = .ok (.aload_n 0, 1) := dk_42 (dk_at dksX1_bound_1 16 rfl rfl)
theorem dX1_bound_40 : decode cX1_bound 40 = .ok (.iload_n 1, 1) := dk_27 (dk_at dksX1_bound_1 17 rfl rfl)
theorem dX1_bound_41 : decode cX1_bound 41 = .ok (.invokevirtual 181, 3) := dk_182 0 181 (dk_at dksX1_bound_1 18 rfl rfl)
theorem dX1_bound_44 : decode cX1_bound 44 = .ok (.iload_n 2, 1) := dk_28 (dk_at dksX1_bound_1 21 rfl rfl)
theorem dX1_bound_45 : decode cX1_bound 45 = .ok (.putfield 185, 3) := dk_181 0 185 (dk_at dksX1_bound_2 0 rfl rfl)
theorem dX1_bound_48 : decode cX1_bound 48 = .ok (.iload_n 3, 1) := dk_29 (dk_at dksX1_bound_2 3 rfl rfl)
theorem dX1_bound_49 : decode cX1_bound 49 = .ok (.ireturn, 1) := dk_172 (dk_at dksX1_bound_2 4 rfl rfl)
abbrev cX1_consent : ByteArray := prog_1_method_22_code
def yX1_consent : MethodName := ⟨RX1, "consent", "(III)I"⟩
def dkwX1_consent_4 : List UInt8 := [180, 0, 44, 180, 0, 197, 182, 0, 200, 184, 0, 203, 96, 54, 4, 132, 5, 1, 167, 255, 223, 21, 4, 172]
abbrev dktX1_consent_4 : List UInt8 := dkwX1_consent_4 ++ []
def dkwX1_consent_3 : List UInt8 := [181, 0, 194, 3, 54, 4, 3, 54, 5, 21, 5, 8, 162, 0, 33, 21, 4, 42, 21, 5, 182, 0, 181, 42]
abbrev dktX1_consent_3 : List UInt8 := dkwX1_consent_3 ++ dktX1_consent_4
def dkwX1_consent_2 : List UInt8 := [167, 0, 4, 28, 181, 0, 191, 42, 27, 182, 0, 181, 29, 28, 162, 0, 7, 2, 167, 0, 4, 29]
abbrev dktX1_consent_2 : List UInt8 := dkwX1_consent_2 ++ dktX1_consent_3
def dkwX1_consent_1 : List UInt8 := [167, 0, 4, 3, 184, 0, 134, 42, 182, 0, 141, 42, 27, 182, 0, 181, 29, 28, 162, 0, 7, 2]
abbrev dktX1_consent_1 : List UInt8 := dkwX1_consent_1 ++ dktX1_consent_2
def dkwX1_consent_0 : List UInt8 := [27, 184, 0, 160, 153, 0, 21, 28, 184, 0, 188, 153, 0, 14, 29, 184, 0, 188, 153, 0, 7, 4]
abbrev dktX1_consent_0 : List UInt8 := dkwX1_consent_0 ++ dktX1_consent_1
theorem dksX1_consent_0 : cX1_consent.data.toList.drop 0 = dktX1_consent_0 := by decide +kernel
theorem dksX1_consent_1 : cX1_consent.data.toList.drop 22 = dktX1_consent_1 := dk_seg dksX1_consent_0 22 rfl rfl
theorem dksX1_consent_2 : cX1_consent.data.toList.drop 44 = dktX1_consent_2 := dk_seg dksX1_consent_1 22 rfl rfl
theorem dksX1_consent_3 : cX1_consent.data.toList.drop 66 = dktX1_consent_3 := dk_seg dksX1_consent_2 22 rfl rfl
theorem dksX1_consent_4 : cX1_consent.data.toList.drop 90 = dktX1_consent_4 := dk_seg dksX1_consent_3 24 rfl rfl
theorem dX1_consent_0 : decode cX1_consent 0 = .ok (.iload_n 1, 1) := dk_27 (dk_at dksX1_consent_0 0 rfl rfl)
theorem dX1_consent_1 : decode cX1_consent 1 = .ok (.invokestatic 160, 3) := dk_184 0 160 (dk_at dksX1_consent_0 1 rfl rfl)
theorem dX1_consent_4 : decode cX1_consent 4 = .ok (.ifCond .eq 21, 3) := dk_153 0 21 (dk_at dksX1_consent_0 4 rfl rfl)
theorem dX1_consent_7 : decode cX1_consent 7 = .ok (.iload_n 2, 1) := dk_28 (dk_at dksX1_consent_0 7 rfl rfl)
theorem dX1_consent_8 : decode cX1_consent 8 = .ok (.invokestatic 188, 3) := dk_184 0 188 (dk_at dksX1_consent_0 8 rfl rfl)
theorem dX1_consent_11 : decode cX1_consent 11 = .ok (.ifCond .eq 14, 3) := dk_153 0 14 (dk_at dksX1_consent_0 11 rfl rfl)
theorem dX1_consent_14 : decode cX1_consent 14 = .ok (.iload_n 3, 1) := dk_29 (dk_at dksX1_consent_0 14 rfl rfl)
theorem dX1_consent_15 : decode cX1_consent 15 = .ok (.invokestatic 188, 3) := dk_184 0 188 (dk_at dksX1_consent_0 15 rfl rfl)
theorem dX1_consent_18 : decode cX1_consent 18 = .ok (.ifCond .eq 7, 3) := dk_153 0 7 (dk_at dksX1_consent_0 18 rfl rfl)
theorem dX1_consent_21 : decode cX1_consent 21 = .ok (.iconst 1, 1) := dk_4 (dk_at dksX1_consent_0 21 rfl rfl)
theorem dX1_consent_22 : decode cX1_consent 22 = .ok (.goto 4, 3) := dk_167 0 4 (dk_at dksX1_consent_1 0 rfl rfl)
theorem dX1_consent_25 : decode cX1_consent 25 = .ok (.iconst 0, 1) := dk_3 (dk_at dksX1_consent_1 3 rfl rfl)
theorem dX1_consent_26 : decode cX1_consent 26 = .ok (.invokestatic 134, 3) := dk_184 0 134 (dk_at dksX1_consent_1 4 rfl rfl)
theorem dX1_consent_29 : decode cX1_consent 29 = .ok (.aload_n 0, 1) := dk_42 (dk_at dksX1_consent_1 7 rfl rfl)
theorem dX1_consent_30 : decode cX1_consent 30 = .ok (.invokevirtual 141, 3) := dk_182 0 141 (dk_at dksX1_consent_1 8 rfl rfl)
theorem dX1_consent_33 : decode cX1_consent 33 = .ok (.aload_n 0, 1) := dk_42 (dk_at dksX1_consent_1 11 rfl rfl)
theorem dX1_consent_34 : decode cX1_consent 34 = .ok (.iload_n 1, 1) := dk_27 (dk_at dksX1_consent_1 12 rfl rfl)
theorem dX1_consent_35 : decode cX1_consent 35 = .ok (.invokevirtual 181, 3) := dk_182 0 181 (dk_at dksX1_consent_1 13 rfl rfl)
theorem dX1_consent_38 : decode cX1_consent 38 = .ok (.iload_n 3, 1) := dk_29 (dk_at dksX1_consent_1 16 rfl rfl)
theorem dX1_consent_39 : decode cX1_consent 39 = .ok (.iload_n 2, 1) := dk_28 (dk_at dksX1_consent_1 17 rfl rfl)
theorem dX1_consent_40 : decode cX1_consent 40 = .ok (.if_icmp .ge 7, 3) := dk_162 0 7 (dk_at dksX1_consent_1 18 rfl rfl)
theorem dX1_consent_43 : decode cX1_consent 43 = .ok (.iconst (-1), 1) := dk_2 (dk_at dksX1_consent_1 21 rfl rfl)
theorem dX1_consent_44 : decode cX1_consent 44 = .ok (.goto 4, 3) := dk_167 0 4 (dk_at dksX1_consent_2 0 rfl rfl)
theorem dX1_consent_47 : decode cX1_consent 47 = .ok (.iload_n 2, 1) := dk_28 (dk_at dksX1_consent_2 3 rfl rfl)
theorem dX1_consent_48 : decode cX1_consent 48 = .ok (.putfield 191, 3) := dk_181 0 191 (dk_at dksX1_consent_2 4 rfl rfl)
theorem dX1_consent_51 : decode cX1_consent 51 = .ok (.aload_n 0, 1) := dk_42 (dk_at dksX1_consent_2 7 rfl rfl)
theorem dX1_consent_52 : decode cX1_consent 52 = .ok (.iload_n 1, 1) := dk_27 (dk_at dksX1_consent_2 8 rfl rfl)
theorem dX1_consent_53 : decode cX1_consent 53 = .ok (.invokevirtual 181, 3) := dk_182 0 181 (dk_at dksX1_consent_2 9 rfl rfl)
theorem dX1_consent_56 : decode cX1_consent 56 = .ok (.iload_n 3, 1) := dk_29 (dk_at dksX1_consent_2 12 rfl rfl)
theorem dX1_consent_57 : decode cX1_consent 57 = .ok (.iload_n 2, 1) := dk_28 (dk_at dksX1_consent_2 13 rfl rfl)
theorem dX1_consent_58 : decode cX1_consent 58 = .ok (.if_icmp .ge 7, 3) := dk_162 0 7 (dk_at dksX1_consent_2 14 rfl rfl)
theorem dX1_consent_61 : decode cX1_consent 61 = .ok (.iconst (-1), 1) := dk_2 (dk_at dksX1_consent_2 17 rfl rfl)
theorem dX1_consent_62 : decode cX1_consent 62 = .ok (.goto 4, 3) := dk_167 0 4 (dk_at dksX1_consent_2 18 rfl rfl)
theorem dX1_consent_65 : decode cX1_consent 65 = .ok (.iload_n 3, 1) := dk_29 (dk_at dksX1_consent_2 21 rfl rfl)
theorem dX1_consent_66 : decode cX1_consent 66 = .ok (.putfield 194, 3) := dk_181 0 194 (dk_at dksX1_consent_3 0 rfl rfl)
theorem dX1_consent_69 : decode cX1_consent 69 = .ok (.iconst 0, 1) := dk_3 (dk_at dksX1_consent_3 3 rfl rfl)
theorem dX1_consent_70 : decode cX1_consent 70 = .ok (.istore 4, 2) := dk_54 4 (dk_at dksX1_consent_3 4 rfl rfl)
theorem dX1_consent_72 : decode cX1_consent 72 = .ok (.iconst 0, 1) := dk_3 (dk_at dksX1_consent_3 6 rfl rfl)
theorem dX1_consent_73 : decode cX1_consent 73 = .ok (.istore 5, 2) := dk_54 5 (dk_at dksX1_consent_3 7 rfl rfl)
theorem dX1_consent_75 : decode cX1_consent 75 = .ok (.iload 5, 2) := dk_21 5 (dk_at dksX1_consent_3 9 rfl rfl)
theorem dX1_consent_77 : decode cX1_consent 77 = .ok (.iconst 5, 1) := dk_8 (dk_at dksX1_consent_3 11 rfl rfl)
theorem dX1_consent_78 : decode cX1_consent 78 = .ok (.if_icmp .ge 33, 3) := dk_162 0 33 (dk_at dksX1_consent_3 12 rfl rfl)
theorem dX1_consent_81 : decode cX1_consent 81 = .ok (.iload 4, 2) := dk_21 4 (dk_at dksX1_consent_3 15 rfl rfl)
theorem dX1_consent_83 : decode cX1_consent 83 = .ok (.aload_n 0, 1) := dk_42 (dk_at dksX1_consent_3 17 rfl rfl)
theorem dX1_consent_84 : decode cX1_consent 84 = .ok (.iload 5, 2) := dk_21 5 (dk_at dksX1_consent_3 18 rfl rfl)
theorem dX1_consent_86 : decode cX1_consent 86 = .ok (.invokevirtual 181, 3) := dk_182 0 181 (dk_at dksX1_consent_3 20 rfl rfl)
theorem dX1_consent_89 : decode cX1_consent 89 = .ok (.aload_n 0, 1) := dk_42 (dk_at dksX1_consent_3 23 rfl rfl)
theorem dX1_consent_90 : decode cX1_consent 90 = .ok (.getfield 44, 3) := dk_180 0 44 (dk_at dksX1_consent_4 0 rfl rfl)
theorem dX1_consent_93 : decode cX1_consent 93 = .ok (.getfield 197, 3) := dk_180 0 197 (dk_at dksX1_consent_4 3 rfl rfl)
theorem dX1_consent_96 : decode cX1_consent 96 = .ok (.invokevirtual 200, 3) := dk_182 0 200 (dk_at dksX1_consent_4 6 rfl rfl)
theorem dX1_consent_99 : decode cX1_consent 99 = .ok (.invokestatic 203, 3) := dk_184 0 203 (dk_at dksX1_consent_4 9 rfl rfl)
theorem dX1_consent_102 : decode cX1_consent 102 = .ok (.iadd, 1) := dk_96 (dk_at dksX1_consent_4 12 rfl rfl)
theorem dX1_consent_103 : decode cX1_consent 103 = .ok (.istore 4, 2) := dk_54 4 (dk_at dksX1_consent_4 13 rfl rfl)
theorem dX1_consent_105 : decode cX1_consent 105 = .ok (.iinc 5 1, 3) := dk_132 5 1 (dk_at dksX1_consent_4 15 rfl rfl)
theorem dX1_consent_108 : decode cX1_consent 108 = .ok (.goto (-33), 3) := dk_167 255 223 (dk_at dksX1_consent_4 18 rfl rfl)
theorem dX1_consent_111 : decode cX1_consent 111 = .ok (.iload 4, 2) := dk_21 4 (dk_at dksX1_consent_4 21 rfl rfl)
theorem dX1_consent_113 : decode cX1_consent 113 = .ok (.ireturn, 1) := dk_172 (dk_at dksX1_consent_4 23 rfl rfl)
abbrev cX1_isDay : ByteArray := prog_1_method_21_code
def yX1_isDay : MethodName := ⟨RX1, "isDay", "(I)Z"⟩
def dkwX1_isDay_0 : List UInt8 := [26, 3, 17, 39, 15, 184, 0, 15, 172]
abbrev dktX1_isDay_0 : List UInt8 := dkwX1_isDay_0 ++ []
theorem dksX1_isDay_0 : cX1_isDay.data.toList.drop 0 = dktX1_isDay_0 := by decide +kernel
theorem dX1_isDay_0 : decode cX1_isDay 0 = .ok (.iload_n 0, 1) := dk_26 (dk_at dksX1_isDay_0 0 rfl rfl)
theorem dX1_isDay_1 : decode cX1_isDay 1 = .ok (.iconst 0, 1) := dk_3 (dk_at dksX1_isDay_0 1 rfl rfl)
theorem dX1_isDay_2 : decode cX1_isDay 2 = .ok (.sipush 9999, 3) := dk_17 39 15 (dk_at dksX1_isDay_0 2 rfl rfl)
theorem dX1_isDay_5 : decode cX1_isDay 5 = .ok (.invokestatic 15, 3) := dk_184 0 15 (dk_at dksX1_isDay_0 5 rfl rfl)
theorem dX1_isDay_8 : decode cX1_isDay 8 = .ok (.ireturn, 1) := dk_172 (dk_at dksX1_isDay_0 8 rfl rfl)
abbrev cX1_complain : ByteArray := prog_1_method_24_code
def yX1_complain : MethodName := ⟨RX1, "complain", "(II)I"⟩
def dkwX1_complain_1 : List UInt8 := [184, 0, 134, 42, 182, 0, 141, 42, 27, 28, 182, 0, 215, 172]
abbrev dktX1_complain_1 : List UInt8 := dkwX1_complain_1 ++ []
def dkwX1_complain_0 : List UInt8 := [27, 184, 0, 160, 153, 0, 17, 28, 4, 16, 60, 184, 0, 15, 153, 0, 7, 4, 167, 0, 4, 3]
abbrev dktX1_complain_0 : List UInt8 := dkwX1_complain_0 ++ dktX1_complain_1
theorem dksX1_complain_0 : cX1_complain.data.toList.drop 0 = dktX1_complain_0 := by decide +kernel
theorem dksX1_complain_1 : cX1_complain.data.toList.drop 22 = dktX1_complain_1 := dk_seg dksX1_complain_0 22 rfl rfl
theorem dX1_complain_0 : decode cX1_complain 0 = .ok (.iload_n 1, 1) := dk_27 (dk_at dksX1_complain_0 0 rfl rfl)
theorem dX1_complain_1 : decode cX1_complain 1 = .ok (.invokestatic 160, 3) := dk_184 0 160 (dk_at dksX1_complain_0 1 rfl rfl)
theorem dX1_complain_4 : decode cX1_complain 4 = .ok (.ifCond .eq 17, 3) := dk_153 0 17 (dk_at dksX1_complain_0 4 rfl rfl)
theorem dX1_complain_7 : decode cX1_complain 7 = .ok (.iload_n 2, 1) := dk_28 (dk_at dksX1_complain_0 7 rfl rfl)
theorem dX1_complain_8 : decode cX1_complain 8 = .ok (.iconst 1, 1) := dk_4 (dk_at dksX1_complain_0 8 rfl rfl)
theorem dX1_complain_9 : decode cX1_complain 9 = .ok (.bipush 60, 2) := dk_16 60 (dk_at dksX1_complain_0 9 rfl rfl)
theorem dX1_complain_11 : decode cX1_complain 11 = .ok (.invokestatic 15, 3) := dk_184 0 15 (dk_at dksX1_complain_0 11 rfl rfl)
theorem dX1_complain_14 : decode cX1_complain 14 = .ok (.ifCond .eq 7, 3) := dk_153 0 7 (dk_at dksX1_complain_0 14 rfl rfl)
theorem dX1_complain_17 : decode cX1_complain 17 = .ok (.iconst 1, 1) := dk_4 (dk_at dksX1_complain_0 17 rfl rfl)
theorem dX1_complain_18 : decode cX1_complain 18 = .ok (.goto 4, 3) := dk_167 0 4 (dk_at dksX1_complain_0 18 rfl rfl)
theorem dX1_complain_21 : decode cX1_complain 21 = .ok (.iconst 0, 1) := dk_3 (dk_at dksX1_complain_0 21 rfl rfl)
theorem dX1_complain_22 : decode cX1_complain 22 = .ok (.invokestatic 134, 3) := dk_184 0 134 (dk_at dksX1_complain_1 0 rfl rfl)
theorem dX1_complain_25 : decode cX1_complain 25 = .ok (.aload_n 0, 1) := dk_42 (dk_at dksX1_complain_1 3 rfl rfl)
theorem dX1_complain_26 : decode cX1_complain 26 = .ok (.invokevirtual 141, 3) := dk_182 0 141 (dk_at dksX1_complain_1 4 rfl rfl)
theorem dX1_complain_29 : decode cX1_complain 29 = .ok (.aload_n 0, 1) := dk_42 (dk_at dksX1_complain_1 7 rfl rfl)
theorem dX1_complain_30 : decode cX1_complain 30 = .ok (.iload_n 1, 1) := dk_27 (dk_at dksX1_complain_1 8 rfl rfl)
theorem dX1_complain_31 : decode cX1_complain 31 = .ok (.iload_n 2, 1) := dk_28 (dk_at dksX1_complain_1 9 rfl rfl)
theorem dX1_complain_32 : decode cX1_complain 32 = .ok (.invokevirtual 215, 3) := dk_182 0 215 (dk_at dksX1_complain_1 10 rfl rfl)
theorem dX1_complain_35 : decode cX1_complain 35 = .ok (.ireturn, 1) := dk_172 (dk_at dksX1_complain_1 13 rfl rfl)
abbrev cX1_stops : ByteArray := prog_1_method_23_code
def yX1_stops : MethodName := ⟨RX1, "stops", "(II)I"⟩
def dkwX1_stops_1 : List UInt8 := [184, 0, 210, 181, 0, 207, 42, 27, 182, 0, 181, 180, 0, 207, 42, 180, 0, 44, 180, 0, 197, 100, 172]
abbrev dktX1_stops_1 : List UInt8 := dkwX1_stops_1 ++ []
def dkwX1_stops_0 : List UInt8 := [42, 27, 182, 0, 181, 42, 27, 182, 0, 181, 180, 0, 207, 42, 180, 0, 44, 180, 0, 197, 28, 96]
abbrev dktX1_stops_0 : List UInt8 := dkwX1_stops_0 ++ dktX1_stops_1
theorem dksX1_stops_0 : cX1_stops.data.toList.drop 0 = dktX1_stops_0 := by decide +kernel
theorem dksX1_stops_1 : cX1_stops.data.toList.drop 22 = dktX1_stops_1 := dk_seg dksX1_stops_0 22 rfl rfl
theorem dX1_stops_0 : decode cX1_stops 0 = .ok (.aload_n 0, 1) := dk_42 (dk_at dksX1_stops_0 0 rfl rfl)
theorem dX1_stops_1 : decode cX1_stops 1 = .ok (.iload_n 1, 1) := dk_27 (dk_at dksX1_stops_0 1 rfl rfl)
theorem dX1_stops_2 : decode cX1_stops 2 = .ok (.invokevirtual 181, 3) := dk_182 0 181 (dk_at dksX1_stops_0 2 rfl rfl)
theorem dX1_stops_5 : decode cX1_stops 5 = .ok (.aload_n 0, 1) := dk_42 (dk_at dksX1_stops_0 5 rfl rfl)
theorem dX1_stops_6 : decode cX1_stops 6 = .ok (.iload_n 1, 1) := dk_27 (dk_at dksX1_stops_0 6 rfl rfl)
theorem dX1_stops_7 : decode cX1_stops 7 = .ok (.invokevirtual 181, 3) := dk_182 0 181 (dk_at dksX1_stops_0 7 rfl rfl)
theorem dX1_stops_10 : decode cX1_stops 10 = .ok (.getfield 207, 3) := dk_180 0 207 (dk_at dksX1_stops_0 10 rfl rfl)
theorem dX1_stops_13 : decode cX1_stops 13 = .ok (.aload_n 0, 1) := dk_42 (dk_at dksX1_stops_0 13 rfl rfl)
theorem dX1_stops_14 : decode cX1_stops 14 = .ok (.getfield 44, 3) := dk_180 0 44 (dk_at dksX1_stops_0 14 rfl rfl)
theorem dX1_stops_17 : decode cX1_stops 17 = .ok (.getfield 197, 3) := dk_180 0 197 (dk_at dksX1_stops_0 17 rfl rfl)
theorem dX1_stops_20 : decode cX1_stops 20 = .ok (.iload_n 2, 1) := dk_28 (dk_at dksX1_stops_0 20 rfl rfl)
theorem dX1_stops_21 : decode cX1_stops 21 = .ok (.iadd, 1) := dk_96 (dk_at dksX1_stops_0 21 rfl rfl)
theorem dX1_stops_22 : decode cX1_stops 22 = .ok (.invokestatic 210, 3) := dk_184 0 210 (dk_at dksX1_stops_1 0 rfl rfl)
theorem dX1_stops_25 : decode cX1_stops 25 = .ok (.putfield 207, 3) := dk_181 0 207 (dk_at dksX1_stops_1 3 rfl rfl)
theorem dX1_stops_28 : decode cX1_stops 28 = .ok (.aload_n 0, 1) := dk_42 (dk_at dksX1_stops_1 6 rfl rfl)
theorem dX1_stops_29 : decode cX1_stops 29 = .ok (.iload_n 1, 1) := dk_27 (dk_at dksX1_stops_1 7 rfl rfl)
theorem dX1_stops_30 : decode cX1_stops 30 = .ok (.invokevirtual 181, 3) := dk_182 0 181 (dk_at dksX1_stops_1 8 rfl rfl)
theorem dX1_stops_33 : decode cX1_stops 33 = .ok (.getfield 207, 3) := dk_180 0 207 (dk_at dksX1_stops_1 11 rfl rfl)
theorem dX1_stops_36 : decode cX1_stops 36 = .ok (.aload_n 0, 1) := dk_42 (dk_at dksX1_stops_1 14 rfl rfl)
theorem dX1_stops_37 : decode cX1_stops 37 = .ok (.getfield 44, 3) := dk_180 0 44 (dk_at dksX1_stops_1 15 rfl rfl)
theorem dX1_stops_40 : decode cX1_stops 40 = .ok (.getfield 197, 3) := dk_180 0 197 (dk_at dksX1_stops_1 18 rfl rfl)
theorem dX1_stops_43 : decode cX1_stops 43 = .ok (.isub, 1) := dk_100 (dk_at dksX1_stops_1 21 rfl rfl)
theorem dX1_stops_44 : decode cX1_stops 44 = .ok (.ireturn, 1) := dk_172 (dk_at dksX1_stops_1 22 rfl rfl)
abbrev cX1_shift : ByteArray := prog_1_method_25_code
def yX1_shift : MethodName := ⟨RX1, "shift", "(II)I"⟩
def dkwX1_shift_2 : List UInt8 := [181, 0, 218, 29, 172]
abbrev dktX1_shift_2 : List UInt8 := dkwX1_shift_2 ++ []
def dkwX1_shift_1 : List UInt8 := [184, 0, 134, 42, 182, 0, 141, 42, 27, 182, 0, 181, 180, 0, 218, 62, 42, 27, 182, 0, 181, 28]
abbrev dktX1_shift_1 : List UInt8 := dkwX1_shift_1 ++ dktX1_shift_2
def dkwX1_shift_0 : List UInt8 := [27, 184, 0, 160, 153, 0, 17, 28, 3, 16, 9, 184, 0, 15, 153, 0, 7, 4, 167, 0, 4, 3]
abbrev dktX1_shift_0 : List UInt8 := dkwX1_shift_0 ++ dktX1_shift_1
theorem dksX1_shift_0 : cX1_shift.data.toList.drop 0 = dktX1_shift_0 := by decide +kernel
theorem dksX1_shift_1 : cX1_shift.data.toList.drop 22 = dktX1_shift_1 := dk_seg dksX1_shift_0 22 rfl rfl
theorem dksX1_shift_2 : cX1_shift.data.toList.drop 44 = dktX1_shift_2 := dk_seg dksX1_shift_1 22 rfl rfl
theorem dX1_shift_0 : decode cX1_shift 0 = .ok (.iload_n 1, 1) := dk_27 (dk_at dksX1_shift_0 0 rfl rfl)
theorem dX1_shift_1 : decode cX1_shift 1 = .ok (.invokestatic 160, 3) := dk_184 0 160 (dk_at dksX1_shift_0 1 rfl rfl)
theorem dX1_shift_4 : decode cX1_shift 4 = .ok (.ifCond .eq 17, 3) := dk_153 0 17 (dk_at dksX1_shift_0 4 rfl rfl)
theorem dX1_shift_7 : decode cX1_shift 7 = .ok (.iload_n 2, 1) := dk_28 (dk_at dksX1_shift_0 7 rfl rfl)
theorem dX1_shift_8 : decode cX1_shift 8 = .ok (.iconst 0, 1) := dk_3 (dk_at dksX1_shift_0 8 rfl rfl)
theorem dX1_shift_9 : decode cX1_shift 9 = .ok (.bipush 9, 2) := dk_16 9 (dk_at dksX1_shift_0 9 rfl rfl)
theorem dX1_shift_11 : decode cX1_shift 11 = .ok (.invokestatic 15, 3) := dk_184 0 15 (dk_at dksX1_shift_0 11 rfl rfl)
theorem dX1_shift_14 : decode cX1_shift 14 = .ok (.ifCond .eq 7, 3) := dk_153 0 7 (dk_at dksX1_shift_0 14 rfl rfl)
theorem dX1_shift_17 : decode cX1_shift 17 = .ok (.iconst 1, 1) := dk_4 (dk_at dksX1_shift_0 17 rfl rfl)
theorem dX1_shift_18 : decode cX1_shift 18 = .ok (.goto 4, 3) := dk_167 0 4 (dk_at dksX1_shift_0 18 rfl rfl)
theorem dX1_shift_21 : decode cX1_shift 21 = .ok (.iconst 0, 1) := dk_3 (dk_at dksX1_shift_0 21 rfl rfl)
theorem dX1_shift_22 : decode cX1_shift 22 = .ok (.invokestatic 134, 3) := dk_184 0 134 (dk_at dksX1_shift_1 0 rfl rfl)
theorem dX1_shift_25 : decode cX1_shift 25 = .ok (.aload_n 0, 1) := dk_42 (dk_at dksX1_shift_1 3 rfl rfl)
theorem dX1_shift_26 : decode cX1_shift 26 = .ok (.invokevirtual 141, 3) := dk_182 0 141 (dk_at dksX1_shift_1 4 rfl rfl)
theorem dX1_shift_29 : decode cX1_shift 29 = .ok (.aload_n 0, 1) := dk_42 (dk_at dksX1_shift_1 7 rfl rfl)
theorem dX1_shift_30 : decode cX1_shift 30 = .ok (.iload_n 1, 1) := dk_27 (dk_at dksX1_shift_1 8 rfl rfl)
theorem dX1_shift_31 : decode cX1_shift 31 = .ok (.invokevirtual 181, 3) := dk_182 0 181 (dk_at dksX1_shift_1 9 rfl rfl)
theorem dX1_shift_34 : decode cX1_shift 34 = .ok (.getfield 218, 3) := dk_180 0 218 (dk_at dksX1_shift_1 12 rfl rfl)
theorem dX1_shift_37 : decode cX1_shift 37 = .ok (.istore_n 3, 1) := dk_62 (dk_at dksX1_shift_1 15 rfl rfl)
theorem dX1_shift_38 : decode cX1_shift 38 = .ok (.aload_n 0, 1) := dk_42 (dk_at dksX1_shift_1 16 rfl rfl)
theorem dX1_shift_39 : decode cX1_shift 39 = .ok (.iload_n 1, 1) := dk_27 (dk_at dksX1_shift_1 17 rfl rfl)
theorem dX1_shift_40 : decode cX1_shift 40 = .ok (.invokevirtual 181, 3) := dk_182 0 181 (dk_at dksX1_shift_1 18 rfl rfl)
theorem dX1_shift_43 : decode cX1_shift 43 = .ok (.iload_n 2, 1) := dk_28 (dk_at dksX1_shift_1 21 rfl rfl)
theorem dX1_shift_44 : decode cX1_shift 44 = .ok (.putfield 218, 3) := dk_181 0 218 (dk_at dksX1_shift_2 0 rfl rfl)
theorem dX1_shift_47 : decode cX1_shift 47 = .ok (.iload_n 3, 1) := dk_29 (dk_at dksX1_shift_2 3 rfl rfl)
theorem dX1_shift_48 : decode cX1_shift 48 = .ok (.ireturn, 1) := dk_172 (dk_at dksX1_shift_2 4 rfl rfl)
abbrev cX1_pass : ByteArray := prog_1_method_29_code
def yX1_pass : MethodName := ⟨RX1, "pass", "(I)I"⟩
def dkwX1_pass_1 : List UInt8 := [182, 0, 235, 172]
abbrev dktX1_pass_1 : List UInt8 := dkwX1_pass_1 ++ []
def dkwX1_pass_0 : List UInt8 := [27, 4, 16, 60, 184, 0, 15, 184, 0, 134, 42, 27, 182, 0, 232, 184, 0, 138, 42, 182, 0, 141, 42, 27]
abbrev dktX1_pass_0 : List UInt8 := dkwX1_pass_0 ++ dktX1_pass_1
theorem dksX1_pass_0 : cX1_pass.data.toList.drop 0 = dktX1_pass_0 := by decide +kernel
theorem dksX1_pass_1 : cX1_pass.data.toList.drop 24 = dktX1_pass_1 := dk_seg dksX1_pass_0 24 rfl rfl
theorem dX1_pass_0 : decode cX1_pass 0 = .ok (.iload_n 1, 1) := dk_27 (dk_at dksX1_pass_0 0 rfl rfl)
theorem dX1_pass_1 : decode cX1_pass 1 = .ok (.iconst 1, 1) := dk_4 (dk_at dksX1_pass_0 1 rfl rfl)
theorem dX1_pass_2 : decode cX1_pass 2 = .ok (.bipush 60, 2) := dk_16 60 (dk_at dksX1_pass_0 2 rfl rfl)
theorem dX1_pass_4 : decode cX1_pass 4 = .ok (.invokestatic 15, 3) := dk_184 0 15 (dk_at dksX1_pass_0 4 rfl rfl)
theorem dX1_pass_7 : decode cX1_pass 7 = .ok (.invokestatic 134, 3) := dk_184 0 134 (dk_at dksX1_pass_0 7 rfl rfl)
theorem dX1_pass_10 : decode cX1_pass 10 = .ok (.aload_n 0, 1) := dk_42 (dk_at dksX1_pass_0 10 rfl rfl)
theorem dX1_pass_11 : decode cX1_pass 11 = .ok (.iload_n 1, 1) := dk_27 (dk_at dksX1_pass_0 11 rfl rfl)
theorem dX1_pass_12 : decode cX1_pass 12 = .ok (.invokevirtual 232, 3) := dk_182 0 232 (dk_at dksX1_pass_0 12 rfl rfl)
theorem dX1_pass_15 : decode cX1_pass 15 = .ok (.invokestatic 138, 3) := dk_184 0 138 (dk_at dksX1_pass_0 15 rfl rfl)
theorem dX1_pass_18 : decode cX1_pass 18 = .ok (.aload_n 0, 1) := dk_42 (dk_at dksX1_pass_0 18 rfl rfl)
theorem dX1_pass_19 : decode cX1_pass 19 = .ok (.invokevirtual 141, 3) := dk_182 0 141 (dk_at dksX1_pass_0 19 rfl rfl)
theorem dX1_pass_22 : decode cX1_pass 22 = .ok (.aload_n 0, 1) := dk_42 (dk_at dksX1_pass_0 22 rfl rfl)
theorem dX1_pass_23 : decode cX1_pass 23 = .ok (.iload_n 1, 1) := dk_27 (dk_at dksX1_pass_0 23 rfl rfl)
theorem dX1_pass_24 : decode cX1_pass 24 = .ok (.invokevirtual 235, 3) := dk_182 0 235 (dk_at dksX1_pass_1 0 rfl rfl)
theorem dX1_pass_27 : decode cX1_pass 27 = .ok (.ireturn, 1) := dk_172 (dk_at dksX1_pass_1 3 rfl rfl)
abbrev cX1_canPass : ByteArray := prog_1_method_27_code
def yX1_canPass : MethodName := ⟨RX1, "canPass", "(I)Z"⟩
def dkwX1_canPass_0 : List UInt8 := [42, 180, 0, 44, 180, 0, 197, 17, 39, 15, 27, 100, 163, 0, 7, 4, 167, 0, 4, 3, 172]
abbrev dktX1_canPass_0 : List UInt8 := dkwX1_canPass_0 ++ []
theorem dksX1_canPass_0 : cX1_canPass.data.toList.drop 0 = dktX1_canPass_0 := by decide +kernel
theorem dX1_canPass_0 : decode cX1_canPass 0 = .ok (.aload_n 0, 1) := dk_42 (dk_at dksX1_canPass_0 0 rfl rfl)
theorem dX1_canPass_1 : decode cX1_canPass 1 = .ok (.getfield 44, 3) := dk_180 0 44 (dk_at dksX1_canPass_0 1 rfl rfl)
theorem dX1_canPass_4 : decode cX1_canPass 4 = .ok (.getfield 197, 3) := dk_180 0 197 (dk_at dksX1_canPass_0 4 rfl rfl)
theorem dX1_canPass_7 : decode cX1_canPass 7 = .ok (.sipush 9999, 3) := dk_17 39 15 (dk_at dksX1_canPass_0 7 rfl rfl)
theorem dX1_canPass_10 : decode cX1_canPass 10 = .ok (.iload_n 1, 1) := dk_27 (dk_at dksX1_canPass_0 10 rfl rfl)
theorem dX1_canPass_11 : decode cX1_canPass 11 = .ok (.isub, 1) := dk_100 (dk_at dksX1_canPass_0 11 rfl rfl)
theorem dX1_canPass_12 : decode cX1_canPass 12 = .ok (.if_icmp .gt 7, 3) := dk_163 0 7 (dk_at dksX1_canPass_0 12 rfl rfl)
theorem dX1_canPass_15 : decode cX1_canPass 15 = .ok (.iconst 1, 1) := dk_4 (dk_at dksX1_canPass_0 15 rfl rfl)
theorem dX1_canPass_16 : decode cX1_canPass 16 = .ok (.goto 4, 3) := dk_167 0 4 (dk_at dksX1_canPass_0 16 rfl rfl)
theorem dX1_canPass_19 : decode cX1_canPass 19 = .ok (.iconst 0, 1) := dk_3 (dk_at dksX1_canPass_0 19 rfl rfl)
theorem dX1_canPass_20 : decode cX1_canPass 20 = .ok (.ireturn, 1) := dk_172 (dk_at dksX1_canPass_0 20 rfl rfl)
abbrev cX1_passes : ByteArray := prog_1_method_28_code
def yX1_passes : MethodName := ⟨RX1, "passes", "(I)I"⟩
def dkwX1_passes_0 : List UInt8 := [42, 180, 0, 44, 184, 0, 224, 61, 42, 180, 0, 44, 27, 182, 0, 228, 184, 0, 224, 28, 100, 172]
abbrev dktX1_passes_0 : List UInt8 := dkwX1_passes_0 ++ []
theorem dksX1_passes_0 : cX1_passes.data.toList.drop 0 = dktX1_passes_0 := by decide +kernel
theorem dX1_passes_0 : decode cX1_passes 0 = .ok (.aload_n 0, 1) := dk_42 (dk_at dksX1_passes_0 0 rfl rfl)
theorem dX1_passes_1 : decode cX1_passes 1 = .ok (.getfield 44, 3) := dk_180 0 44 (dk_at dksX1_passes_0 1 rfl rfl)
theorem dX1_passes_4 : decode cX1_passes 4 = .ok (.invokestatic 224, 3) := dk_184 0 224 (dk_at dksX1_passes_0 4 rfl rfl)
theorem dX1_passes_7 : decode cX1_passes 7 = .ok (.istore_n 2, 1) := dk_61 (dk_at dksX1_passes_0 7 rfl rfl)
theorem dX1_passes_8 : decode cX1_passes 8 = .ok (.aload_n 0, 1) := dk_42 (dk_at dksX1_passes_0 8 rfl rfl)
theorem dX1_passes_9 : decode cX1_passes 9 = .ok (.getfield 44, 3) := dk_180 0 44 (dk_at dksX1_passes_0 9 rfl rfl)
theorem dX1_passes_12 : decode cX1_passes 12 = .ok (.iload_n 1, 1) := dk_27 (dk_at dksX1_passes_0 12 rfl rfl)
theorem dX1_passes_13 : decode cX1_passes 13 = .ok (.invokevirtual 228, 3) := dk_182 0 228 (dk_at dksX1_passes_0 13 rfl rfl)
theorem dX1_passes_16 : decode cX1_passes 16 = .ok (.invokestatic 224, 3) := dk_184 0 224 (dk_at dksX1_passes_0 16 rfl rfl)
theorem dX1_passes_19 : decode cX1_passes 19 = .ok (.iload_n 2, 1) := dk_28 (dk_at dksX1_passes_0 19 rfl rfl)
theorem dX1_passes_20 : decode cX1_passes 20 = .ok (.isub, 1) := dk_100 (dk_at dksX1_passes_0 20 rfl rfl)
theorem dX1_passes_21 : decode cX1_passes 21 = .ok (.ireturn, 1) := dk_172 (dk_at dksX1_passes_0 21 rfl rfl)
abbrev cX1_set : ByteArray := prog_1_method_31_code
def yX1_set : MethodName := ⟨RX1, "set", "(II)I"⟩
def dkwX1_set_2 : List UInt8 := [29, 172]
abbrev dktX1_set_2 : List UInt8 := dkwX1_set_2 ++ []
def dkwX1_set_1 : List UInt8 := [42, 182, 0, 141, 42, 180, 0, 44, 180, 0, 247, 27, 46, 62, 42, 180, 0, 44, 180, 0, 247, 27, 28, 79]
abbrev dktX1_set_1 : List UInt8 := dkwX1_set_1 ++ dktX1_set_2
def dkwX1_set_0 : List UInt8 := [27, 184, 0, 238, 184, 0, 157, 28, 178, 0, 241, 27, 46, 178, 0, 244, 27, 46, 184, 0, 15, 184, 0, 134]
abbrev dktX1_set_0 : List UInt8 := dkwX1_set_0 ++ dktX1_set_1
theorem dksX1_set_0 : cX1_set.data.toList.drop 0 = dktX1_set_0 := by decide +kernel
theorem dksX1_set_1 : cX1_set.data.toList.drop 24 = dktX1_set_1 := dk_seg dksX1_set_0 24 rfl rfl
theorem dksX1_set_2 : cX1_set.data.toList.drop 48 = dktX1_set_2 := dk_seg dksX1_set_1 24 rfl rfl
theorem dX1_set_0 : decode cX1_set 0 = .ok (.iload_n 1, 1) := dk_27 (dk_at dksX1_set_0 0 rfl rfl)
theorem dX1_set_1 : decode cX1_set 1 = .ok (.invokestatic 238, 3) := dk_184 0 238 (dk_at dksX1_set_0 1 rfl rfl)
theorem dX1_set_4 : decode cX1_set 4 = .ok (.invokestatic 157, 3) := dk_184 0 157 (dk_at dksX1_set_0 4 rfl rfl)
theorem dX1_set_7 : decode cX1_set 7 = .ok (.iload_n 2, 1) := dk_28 (dk_at dksX1_set_0 7 rfl rfl)
theorem dX1_set_8 : decode cX1_set 8 = .ok (.getstatic 241, 3) := dk_178 0 241 (dk_at dksX1_set_0 8 rfl rfl)
theorem dX1_set_11 : decode cX1_set 11 = .ok (.iload_n 1, 1) := dk_27 (dk_at dksX1_set_0 11 rfl rfl)
theorem dX1_set_12 : decode cX1_set 12 = .ok (.iaload, 1) := dk_46 (dk_at dksX1_set_0 12 rfl rfl)
theorem dX1_set_13 : decode cX1_set 13 = .ok (.getstatic 244, 3) := dk_178 0 244 (dk_at dksX1_set_0 13 rfl rfl)
theorem dX1_set_16 : decode cX1_set 16 = .ok (.iload_n 1, 1) := dk_27 (dk_at dksX1_set_0 16 rfl rfl)
theorem dX1_set_17 : decode cX1_set 17 = .ok (.iaload, 1) := dk_46 (dk_at dksX1_set_0 17 rfl rfl)
theorem dX1_set_18 : decode cX1_set 18 = .ok (.invokestatic 15, 3) := dk_184 0 15 (dk_at dksX1_set_0 18 rfl rfl)
theorem dX1_set_21 : decode cX1_set 21 = .ok (.invokestatic 134, 3) := dk_184 0 134 (dk_at dksX1_set_0 21 rfl rfl)
theorem dX1_set_24 : decode cX1_set 24 = .ok (.aload_n 0, 1) := dk_42 (dk_at dksX1_set_1 0 rfl rfl)
theorem dX1_set_25 : decode cX1_set 25 = .ok (.invokevirtual 141, 3) := dk_182 0 141 (dk_at dksX1_set_1 1 rfl rfl)
theorem dX1_set_28 : decode cX1_set 28 = .ok (.aload_n 0, 1) := dk_42 (dk_at dksX1_set_1 4 rfl rfl)
theorem dX1_set_29 : decode cX1_set 29 = .ok (.getfield 44, 3) := dk_180 0 44 (dk_at dksX1_set_1 5 rfl rfl)
theorem dX1_set_32 : decode cX1_set 32 = .ok (.getfield 247, 3) := dk_180 0 247 (dk_at dksX1_set_1 8 rfl rfl)
theorem dX1_set_35 : decode cX1_set 35 = .ok (.iload_n 1, 1) := dk_27 (dk_at dksX1_set_1 11 rfl rfl)
theorem dX1_set_36 : decode cX1_set 36 = .ok (.iaload, 1) := dk_46 (dk_at dksX1_set_1 12 rfl rfl)
theorem dX1_set_37 : decode cX1_set 37 = .ok (.istore_n 3, 1) := dk_62 (dk_at dksX1_set_1 13 rfl rfl)
theorem dX1_set_38 : decode cX1_set 38 = .ok (.aload_n 0, 1) := dk_42 (dk_at dksX1_set_1 14 rfl rfl)
theorem dX1_set_39 : decode cX1_set 39 = .ok (.getfield 44, 3) := dk_180 0 44 (dk_at dksX1_set_1 15 rfl rfl)
theorem dX1_set_42 : decode cX1_set 42 = .ok (.getfield 247, 3) := dk_180 0 247 (dk_at dksX1_set_1 18 rfl rfl)
theorem dX1_set_45 : decode cX1_set 45 = .ok (.iload_n 1, 1) := dk_27 (dk_at dksX1_set_1 21 rfl rfl)
theorem dX1_set_46 : decode cX1_set 46 = .ok (.iload_n 2, 1) := dk_28 (dk_at dksX1_set_1 22 rfl rfl)
theorem dX1_set_47 : decode cX1_set 47 = .ok (.iastore, 1) := dk_79 (dk_at dksX1_set_1 23 rfl rfl)
theorem dX1_set_48 : decode cX1_set 48 = .ok (.iload_n 3, 1) := dk_29 (dk_at dksX1_set_2 0 rfl rfl)
theorem dX1_set_49 : decode cX1_set 49 = .ok (.ireturn, 1) := dk_172 (dk_at dksX1_set_2 1 rfl rfl)
abbrev cX1_isSetting : ByteArray := prog_1_method_30_code
def yX1_isSetting : MethodName := ⟨RX1, "isSetting", "(I)Z"⟩
def dkwX1_isSetting_0 : List UInt8 := [26, 3, 6, 184, 0, 15, 172]
abbrev dktX1_isSetting_0 : List UInt8 := dkwX1_isSetting_0 ++ []
theorem dksX1_isSetting_0 : cX1_isSetting.data.toList.drop 0 = dktX1_isSetting_0 := by decide +kernel
theorem dX1_isSetting_0 : decode cX1_isSetting 0 = .ok (.iload_n 0, 1) := dk_26 (dk_at dksX1_isSetting_0 0 rfl rfl)
theorem dX1_isSetting_1 : decode cX1_isSetting 1 = .ok (.iconst 0, 1) := dk_3 (dk_at dksX1_isSetting_0 1 rfl rfl)
theorem dX1_isSetting_2 : decode cX1_isSetting 2 = .ok (.iconst 3, 1) := dk_6 (dk_at dksX1_isSetting_0 2 rfl rfl)
theorem dX1_isSetting_3 : decode cX1_isSetting 3 = .ok (.invokestatic 15, 3) := dk_184 0 15 (dk_at dksX1_isSetting_0 3 rfl rfl)
theorem dX1_isSetting_6 : decode cX1_isSetting 6 = .ok (.ireturn, 1) := dk_172 (dk_at dksX1_isSetting_0 6 rfl rfl)
abbrev cX1_append : ByteArray := prog_1_method_32_code
def yX1_append : MethodName := ⟨RX1, "append", "(I)I"⟩
def dkwX1_append_2 : List UInt8 := [172]
abbrev dktX1_append_2 : List UInt8 := dkwX1_append_2 ++ []
def dkwX1_append_1 : List UInt8 := [167, 0, 4, 3, 184, 0, 138, 42, 180, 0, 64, 27, 146, 182, 0, 253, 87, 42, 180, 0, 64, 182, 0, 250]
abbrev dktX1_append_1 : List UInt8 := dkwX1_append_1 ++ dktX1_append_2
def dkwX1_append_0 : List UInt8 := [27, 16, 33, 16, 126, 184, 0, 15, 184, 0, 134, 42, 180, 0, 64, 182, 0, 250, 16, 60, 162, 0, 7, 4]
abbrev dktX1_append_0 : List UInt8 := dkwX1_append_0 ++ dktX1_append_1
theorem dksX1_append_0 : cX1_append.data.toList.drop 0 = dktX1_append_0 := by decide +kernel
theorem dksX1_append_1 : cX1_append.data.toList.drop 24 = dktX1_append_1 := dk_seg dksX1_append_0 24 rfl rfl
theorem dksX1_append_2 : cX1_append.data.toList.drop 48 = dktX1_append_2 := dk_seg dksX1_append_1 24 rfl rfl
theorem dX1_append_0 : decode cX1_append 0 = .ok (.iload_n 1, 1) := dk_27 (dk_at dksX1_append_0 0 rfl rfl)
theorem dX1_append_1 : decode cX1_append 1 = .ok (.bipush 33, 2) := dk_16 33 (dk_at dksX1_append_0 1 rfl rfl)
theorem dX1_append_3 : decode cX1_append 3 = .ok (.bipush 126, 2) := dk_16 126 (dk_at dksX1_append_0 3 rfl rfl)
theorem dX1_append_5 : decode cX1_append 5 = .ok (.invokestatic 15, 3) := dk_184 0 15 (dk_at dksX1_append_0 5 rfl rfl)
theorem dX1_append_8 : decode cX1_append 8 = .ok (.invokestatic 134, 3) := dk_184 0 134 (dk_at dksX1_append_0 8 rfl rfl)
theorem dX1_append_11 : decode cX1_append 11 = .ok (.aload_n 0, 1) := dk_42 (dk_at dksX1_append_0 11 rfl rfl)
theorem dX1_append_12 : decode cX1_append 12 = .ok (.getfield 64, 3) := dk_180 0 64 (dk_at dksX1_append_0 12 rfl rfl)
theorem dX1_append_15 : decode cX1_append 15 = .ok (.invokevirtual 250, 3) := dk_182 0 250 (dk_at dksX1_append_0 15 rfl rfl)
theorem dX1_append_18 : decode cX1_append 18 = .ok (.bipush 60, 2) := dk_16 60 (dk_at dksX1_append_0 18 rfl rfl)
theorem dX1_append_20 : decode cX1_append 20 = .ok (.if_icmp .ge 7, 3) := dk_162 0 7 (dk_at dksX1_append_0 20 rfl rfl)
theorem dX1_append_23 : decode cX1_append 23 = .ok (.iconst 1, 1) := dk_4 (dk_at dksX1_append_0 23 rfl rfl)
theorem dX1_append_24 : decode cX1_append 24 = .ok (.goto 4, 3) := dk_167 0 4 (dk_at dksX1_append_1 0 rfl rfl)
theorem dX1_append_27 : decode cX1_append 27 = .ok (.iconst 0, 1) := dk_3 (dk_at dksX1_append_1 3 rfl rfl)
theorem dX1_append_28 : decode cX1_append 28 = .ok (.invokestatic 138, 3) := dk_184 0 138 (dk_at dksX1_append_1 4 rfl rfl)
theorem dX1_append_31 : decode cX1_append 31 = .ok (.aload_n 0, 1) := dk_42 (dk_at dksX1_append_1 7 rfl rfl)
theorem dX1_append_32 : decode cX1_append 32 = .ok (.getfield 64, 3) := dk_180 0 64 (dk_at dksX1_append_1 8 rfl rfl)
theorem dX1_append_35 : decode cX1_append 35 = .ok (.iload_n 1, 1) := dk_27 (dk_at dksX1_append_1 11 rfl rfl)
theorem dX1_append_36 : decode cX1_append 36 = .ok (.i2c, 1) := dk_146 (dk_at dksX1_append_1 12 rfl rfl)
theorem dX1_append_37 : decode cX1_append 37 = .ok (.invokevirtual 253, 3) := dk_182 0 253 (dk_at dksX1_append_1 13 rfl rfl)
theorem dX1_append_40 : decode cX1_append 40 = .ok (.pop, 1) := dk_87 (dk_at dksX1_append_1 16 rfl rfl)
theorem dX1_append_41 : decode cX1_append 41 = .ok (.aload_n 0, 1) := dk_42 (dk_at dksX1_append_1 17 rfl rfl)
theorem dX1_append_42 : decode cX1_append 42 = .ok (.getfield 64, 3) := dk_180 0 64 (dk_at dksX1_append_1 18 rfl rfl)
theorem dX1_append_45 : decode cX1_append 45 = .ok (.invokevirtual 250, 3) := dk_182 0 250 (dk_at dksX1_append_1 21 rfl rfl)
theorem dX1_append_48 : decode cX1_append 48 = .ok (.ireturn, 1) := dk_172 (dk_at dksX1_append_2 0 rfl rfl)
abbrev cX1_work : ByteArray := prog_1_method_35_code
def yX1_work : MethodName := ⟨RX1, "work", "()I"⟩
def dkwX1_work_4 : List UInt8 := [182, 1, 1, 28, 172]
abbrev dktX1_work_4 : List UInt8 := dkwX1_work_4 ++ []
def dkwX1_work_3 : List UInt8 := [16, 59, 182, 1, 19, 153, 0, 7, 4, 167, 0, 4, 3, 62, 167, 255, 203, 42, 180, 0, 64, 3]
abbrev dktX1_work_3 : List UInt8 := dkwX1_work_3 ++ dktX1_work_4
def dkwX1_work_2 : List UInt8 := [153, 0, 7, 4, 167, 0, 4, 3, 54, 4, 28, 21, 4, 184, 0, 203, 96, 61, 21, 4, 153, 0, 16, 43]
abbrev dktX1_work_2 : List UInt8 := dkwX1_work_2 ++ dktX1_work_3
def dkwX1_work_1 : List UInt8 := [183, 1, 6, 76, 3, 61, 4, 62, 29, 153, 0, 55, 43, 182, 1, 13, 153, 0, 14, 43, 182, 1, 16]
abbrev dktX1_work_1 : List UInt8 := dkwX1_work_1 ++ dktX1_work_2
def dkwX1_work_0 : List UInt8 := [187, 1, 4, 89, 42, 183, 1, 6, 182, 1, 7, 184, 0, 134, 42, 182, 0, 141, 187, 1, 4, 89, 42]
abbrev dktX1_work_0 : List UInt8 := dkwX1_work_0 ++ dktX1_work_1
theorem dksX1_work_0 : cX1_work.data.toList.drop 0 = dktX1_work_0 := by decide +kernel
theorem dksX1_work_1 : cX1_work.data.toList.drop 23 = dktX1_work_1 := dk_seg dksX1_work_0 23 rfl rfl
theorem dksX1_work_2 : cX1_work.data.toList.drop 46 = dktX1_work_2 := dk_seg dksX1_work_1 23 rfl rfl
theorem dksX1_work_3 : cX1_work.data.toList.drop 70 = dktX1_work_3 := dk_seg dksX1_work_2 24 rfl rfl
theorem dksX1_work_4 : cX1_work.data.toList.drop 92 = dktX1_work_4 := dk_seg dksX1_work_3 22 rfl rfl
theorem dX1_work_0 : decode cX1_work 0 = .ok (.new 260, 3) := dk_187 1 4 (dk_at dksX1_work_0 0 rfl rfl)
theorem dX1_work_3 : decode cX1_work 3 = .ok (.dup, 1) := dk_89 (dk_at dksX1_work_0 3 rfl rfl)
theorem dX1_work_4 : decode cX1_work 4 = .ok (.aload_n 0, 1) := dk_42 (dk_at dksX1_work_0 4 rfl rfl)
theorem dX1_work_5 : decode cX1_work 5 = .ok (.invokespecial 262, 3) := dk_183 1 6 (dk_at dksX1_work_0 5 rfl rfl)
theorem dX1_work_8 : decode cX1_work 8 = .ok (.invokevirtual 263, 3) := dk_182 1 7 (dk_at dksX1_work_0 8 rfl rfl)
theorem dX1_work_11 : decode cX1_work 11 = .ok (.invokestatic 134, 3) := dk_184 0 134 (dk_at dksX1_work_0 11 rfl rfl)
theorem dX1_work_14 : decode cX1_work 14 = .ok (.aload_n 0, 1) := dk_42 (dk_at dksX1_work_0 14 rfl rfl)
theorem dX1_work_15 : decode cX1_work 15 = .ok (.invokevirtual 141, 3) := dk_182 0 141 (dk_at dksX1_work_0 15 rfl rfl)
theorem dX1_work_18 : decode cX1_work 18 = .ok (.new 260, 3) := dk_187 1 4 (dk_at dksX1_work_0 18 rfl rfl)
theorem dX1_work_21 : decode cX1_work 21 = .ok (.dup, 1) := dk_89 (dk_at dksX1_work_0 21 rfl rfl)
theorem dX1_work_22 : decode cX1_work 22 = .ok (.aload_n 0, 1) := dk_42 (dk_at dksX1_work_0 22 rfl rfl)
theorem dX1_work_23 : decode cX1_work 23 = .ok (.invokespecial 262, 3) := dk_183 1 6 (dk_at dksX1_work_1 0 rfl rfl)
theorem dX1_work_26 : decode cX1_work 26 = .ok (.astore_n 1, 1) := dk_76 (dk_at dksX1_work_1 3 rfl rfl)
theorem dX1_work_27 : decode cX1_work 27 = .ok (.iconst 0, 1) := dk_3 (dk_at dksX1_work_1 4 rfl rfl)
theorem dX1_work_28 : decode cX1_work 28 = .ok (.istore_n 2, 1) := dk_61 (dk_at dksX1_work_1 5 rfl rfl)
theorem dX1_work_29 : decode cX1_work 29 = .ok (.iconst 1, 1) := dk_4 (dk_at dksX1_work_1 6 rfl rfl)
theorem dX1_work_30 : decode cX1_work 30 = .ok (.istore_n 3, 1) := dk_62 (dk_at dksX1_work_1 7 rfl rfl)
theorem dX1_work_31 : decode cX1_work 31 = .ok (.iload_n 3, 1) := dk_29 (dk_at dksX1_work_1 8 rfl rfl)
theorem dX1_work_32 : decode cX1_work 32 = .ok (.ifCond .eq 55, 3) := dk_153 0 55 (dk_at dksX1_work_1 9 rfl rfl)
theorem dX1_work_35 : decode cX1_work 35 = .ok (.aload_n 1, 1) := dk_43 (dk_at dksX1_work_1 12 rfl rfl)
theorem dX1_work_36 : decode cX1_work 36 = .ok (.invokevirtual 269, 3) := dk_182 1 13 (dk_at dksX1_work_1 13 rfl rfl)
theorem dX1_work_39 : decode cX1_work 39 = .ok (.ifCond .eq 14, 3) := dk_153 0 14 (dk_at dksX1_work_1 16 rfl rfl)
theorem dX1_work_42 : decode cX1_work 42 = .ok (.aload_n 1, 1) := dk_43 (dk_at dksX1_work_1 19 rfl rfl)
theorem dX1_work_43 : decode cX1_work 43 = .ok (.invokevirtual 272, 3) := dk_182 1 16 (dk_at dksX1_work_1 20 rfl rfl)
theorem dX1_work_46 : decode cX1_work 46 = .ok (.ifCond .eq 7, 3) := dk_153 0 7 (dk_at dksX1_work_2 0 rfl rfl)
theorem dX1_work_49 : decode cX1_work 49 = .ok (.iconst 1, 1) := dk_4 (dk_at dksX1_work_2 3 rfl rfl)
theorem dX1_work_50 : decode cX1_work 50 = .ok (.goto 4, 3) := dk_167 0 4 (dk_at dksX1_work_2 4 rfl rfl)
theorem dX1_work_53 : decode cX1_work 53 = .ok (.iconst 0, 1) := dk_3 (dk_at dksX1_work_2 7 rfl rfl)
theorem dX1_work_54 : decode cX1_work 54 = .ok (.istore 4, 2) := dk_54 4 (dk_at dksX1_work_2 8 rfl rfl)
theorem dX1_work_56 : decode cX1_work 56 = .ok (.iload_n 2, 1) := dk_28 (dk_at dksX1_work_2 10 rfl rfl)
theorem dX1_work_57 : decode cX1_work 57 = .ok (.iload 4, 2) := dk_21 4 (dk_at dksX1_work_2 11 rfl rfl)
theorem dX1_work_59 : decode cX1_work 59 = .ok (.invokestatic 203, 3) := dk_184 0 203 (dk_at dksX1_work_2 13 rfl rfl)
theorem dX1_work_62 : decode cX1_work 62 = .ok (.iadd, 1) := dk_96 (dk_at dksX1_work_2 16 rfl rfl)
theorem dX1_work_63 : decode cX1_work 63 = .ok (.istore_n 2, 1) := dk_61 (dk_at dksX1_work_2 17 rfl rfl)
theorem dX1_work_64 : decode cX1_work 64 = .ok (.iload 4, 2) := dk_21 4 (dk_at dksX1_work_2 18 rfl rfl)
theorem dX1_work_66 : decode cX1_work 66 = .ok (.ifCond .eq 16, 3) := dk_153 0 16 (dk_at dksX1_work_2 20 rfl rfl)
theorem dX1_work_69 : decode cX1_work 69 = .ok (.aload_n 1, 1) := dk_43 (dk_at dksX1_work_2 23 rfl rfl)
theorem dX1_work_70 : decode cX1_work 70 = .ok (.bipush 59, 2) := dk_16 59 (dk_at dksX1_work_3 0 rfl rfl)
theorem dX1_work_72 : decode cX1_work 72 = .ok (.invokevirtual 275, 3) := dk_182 1 19 (dk_at dksX1_work_3 2 rfl rfl)
theorem dX1_work_75 : decode cX1_work 75 = .ok (.ifCond .eq 7, 3) := dk_153 0 7 (dk_at dksX1_work_3 5 rfl rfl)
theorem dX1_work_78 : decode cX1_work 78 = .ok (.iconst 1, 1) := dk_4 (dk_at dksX1_work_3 8 rfl rfl)
theorem dX1_work_79 : decode cX1_work 79 = .ok (.goto 4, 3) := dk_167 0 4 (dk_at dksX1_work_3 9 rfl rfl)
theorem dX1_work_82 : decode cX1_work 82 = .ok (.iconst 0, 1) := dk_3 (dk_at dksX1_work_3 12 rfl rfl)
theorem dX1_work_83 : decode cX1_work 83 = .ok (.istore_n 3, 1) := dk_62 (dk_at dksX1_work_3 13 rfl rfl)
theorem dX1_work_84 : decode cX1_work 84 = .ok (.goto (-53), 3) := dk_167 255 203 (dk_at dksX1_work_3 14 rfl rfl)
theorem dX1_work_87 : decode cX1_work 87 = .ok (.aload_n 0, 1) := dk_42 (dk_at dksX1_work_3 17 rfl rfl)
theorem dX1_work_88 : decode cX1_work 88 = .ok (.getfield 64, 3) := dk_180 0 64 (dk_at dksX1_work_3 18 rfl rfl)
theorem dX1_work_91 : decode cX1_work 91 = .ok (.iconst 0, 1) := dk_3 (dk_at dksX1_work_3 21 rfl rfl)
theorem dX1_work_92 : decode cX1_work 92 = .ok (.invokevirtual 257, 3) := dk_182 1 1 (dk_at dksX1_work_4 0 rfl rfl)
theorem dX1_work_95 : decode cX1_work 95 = .ok (.iload_n 2, 1) := dk_28 (dk_at dksX1_work_4 3 rfl rfl)
theorem dX1_work_96 : decode cX1_work 96 = .ok (.ireturn, 1) := dk_172 (dk_at dksX1_work_4 4 rfl rfl)
abbrev cX1_keep : ByteArray := prog_1_method_37_code
def yX1_keep : MethodName := ⟨RX1, "keep", "(I)I"⟩
def dkwX1_keep_1 : List UInt8 := [180, 0, 197, 172]
abbrev dktX1_keep_1 : List UInt8 := dkwX1_keep_1 ++ []
def dkwX1_keep_0 : List UInt8 := [27, 184, 1, 23, 184, 0, 134, 42, 180, 0, 57, 27, 42, 180, 0, 44, 182, 0, 117, 83, 42, 180, 0, 44]
abbrev dktX1_keep_0 : List UInt8 := dkwX1_keep_0 ++ dktX1_keep_1
theorem dksX1_keep_0 : cX1_keep.data.toList.drop 0 = dktX1_keep_0 := by decide +kernel
theorem dksX1_keep_1 : cX1_keep.data.toList.drop 24 = dktX1_keep_1 := dk_seg dksX1_keep_0 24 rfl rfl
theorem dX1_keep_0 : decode cX1_keep 0 = .ok (.iload_n 1, 1) := dk_27 (dk_at dksX1_keep_0 0 rfl rfl)
theorem dX1_keep_1 : decode cX1_keep 1 = .ok (.invokestatic 279, 3) := dk_184 1 23 (dk_at dksX1_keep_0 1 rfl rfl)
theorem dX1_keep_4 : decode cX1_keep 4 = .ok (.invokestatic 134, 3) := dk_184 0 134 (dk_at dksX1_keep_0 4 rfl rfl)
theorem dX1_keep_7 : decode cX1_keep 7 = .ok (.aload_n 0, 1) := dk_42 (dk_at dksX1_keep_0 7 rfl rfl)
theorem dX1_keep_8 : decode cX1_keep 8 = .ok (.getfield 57, 3) := dk_180 0 57 (dk_at dksX1_keep_0 8 rfl rfl)
theorem dX1_keep_11 : decode cX1_keep 11 = .ok (.iload_n 1, 1) := dk_27 (dk_at dksX1_keep_0 11 rfl rfl)
theorem dX1_keep_12 : decode cX1_keep 12 = .ok (.aload_n 0, 1) := dk_42 (dk_at dksX1_keep_0 12 rfl rfl)
theorem dX1_keep_13 : decode cX1_keep 13 = .ok (.getfield 44, 3) := dk_180 0 44 (dk_at dksX1_keep_0 13 rfl rfl)
theorem dX1_keep_16 : decode cX1_keep 16 = .ok (.invokevirtual 117, 3) := dk_182 0 117 (dk_at dksX1_keep_0 16 rfl rfl)
theorem dX1_keep_19 : decode cX1_keep 19 = .ok (.aastore, 1) := dk_83 (dk_at dksX1_keep_0 19 rfl rfl)
theorem dX1_keep_20 : decode cX1_keep 20 = .ok (.aload_n 0, 1) := dk_42 (dk_at dksX1_keep_0 20 rfl rfl)
theorem dX1_keep_21 : decode cX1_keep 21 = .ok (.getfield 44, 3) := dk_180 0 44 (dk_at dksX1_keep_0 21 rfl rfl)
theorem dX1_keep_24 : decode cX1_keep 24 = .ok (.getfield 197, 3) := dk_180 0 197 (dk_at dksX1_keep_1 0 rfl rfl)
theorem dX1_keep_27 : decode cX1_keep 27 = .ok (.ireturn, 1) := dk_172 (dk_at dksX1_keep_1 3 rfl rfl)
abbrev cX1_isSlot : ByteArray := prog_1_method_36_code
def yX1_isSlot : MethodName := ⟨RX1, "isSlot", "(I)Z"⟩
def dkwX1_isSlot_0 : List UInt8 := [26, 3, 4, 184, 0, 15, 172]
abbrev dktX1_isSlot_0 : List UInt8 := dkwX1_isSlot_0 ++ []
theorem dksX1_isSlot_0 : cX1_isSlot.data.toList.drop 0 = dktX1_isSlot_0 := by decide +kernel
theorem dX1_isSlot_0 : decode cX1_isSlot 0 = .ok (.iload_n 0, 1) := dk_26 (dk_at dksX1_isSlot_0 0 rfl rfl)
theorem dX1_isSlot_1 : decode cX1_isSlot 1 = .ok (.iconst 0, 1) := dk_3 (dk_at dksX1_isSlot_0 1 rfl rfl)
theorem dX1_isSlot_2 : decode cX1_isSlot 2 = .ok (.iconst 1, 1) := dk_4 (dk_at dksX1_isSlot_0 2 rfl rfl)
theorem dX1_isSlot_3 : decode cX1_isSlot 3 = .ok (.invokestatic 15, 3) := dk_184 0 15 (dk_at dksX1_isSlot_0 3 rfl rfl)
theorem dX1_isSlot_6 : decode cX1_isSlot 6 = .ok (.ireturn, 1) := dk_172 (dk_at dksX1_isSlot_0 6 rfl rfl)
abbrev cX1_goBack : ByteArray := prog_1_method_38_code
def yX1_goBack : MethodName := ⟨RX1, "goBack", "(I)I"⟩
def dkwX1_goBack_2 : List UInt8 := [172]
abbrev dktX1_goBack_2 : List UInt8 := dkwX1_goBack_2 ++ []
def dkwX1_goBack_1 : List UInt8 := [42, 182, 0, 141, 42, 42, 180, 0, 57, 27, 50, 182, 0, 117, 181, 0, 44, 42, 180, 0, 44, 180, 0, 197]
abbrev dktX1_goBack_1 : List UInt8 := dkwX1_goBack_1 ++ dktX1_goBack_2
def dkwX1_goBack_0 : List UInt8 := [27, 184, 1, 23, 184, 0, 134, 42, 180, 0, 57, 27, 50, 198, 0, 7, 4, 167, 0, 4, 3, 184, 0, 138]
abbrev dktX1_goBack_0 : List UInt8 := dkwX1_goBack_0 ++ dktX1_goBack_1
theorem dksX1_goBack_0 : cX1_goBack.data.toList.drop 0 = dktX1_goBack_0 := by decide +kernel
theorem dksX1_goBack_1 : cX1_goBack.data.toList.drop 24 = dktX1_goBack_1 := dk_seg dksX1_goBack_0 24 rfl rfl
theorem dksX1_goBack_2 : cX1_goBack.data.toList.drop 48 = dktX1_goBack_2 := dk_seg dksX1_goBack_1 24 rfl rfl
theorem dX1_goBack_0 : decode cX1_goBack 0 = .ok (.iload_n 1, 1) := dk_27 (dk_at dksX1_goBack_0 0 rfl rfl)
theorem dX1_goBack_1 : decode cX1_goBack 1 = .ok (.invokestatic 279, 3) := dk_184 1 23 (dk_at dksX1_goBack_0 1 rfl rfl)
theorem dX1_goBack_4 : decode cX1_goBack 4 = .ok (.invokestatic 134, 3) := dk_184 0 134 (dk_at dksX1_goBack_0 4 rfl rfl)
theorem dX1_goBack_7 : decode cX1_goBack 7 = .ok (.aload_n 0, 1) := dk_42 (dk_at dksX1_goBack_0 7 rfl rfl)
theorem dX1_goBack_8 : decode cX1_goBack 8 = .ok (.getfield 57, 3) := dk_180 0 57 (dk_at dksX1_goBack_0 8 rfl rfl)
theorem dX1_goBack_11 : decode cX1_goBack 11 = .ok (.iload_n 1, 1) := dk_27 (dk_at dksX1_goBack_0 11 rfl rfl)
theorem dX1_goBack_12 : decode cX1_goBack 12 = .ok (.aaload, 1) := dk_50 (dk_at dksX1_goBack_0 12 rfl rfl)
theorem dX1_goBack_13 : decode cX1_goBack 13 = .ok (.ifnull 7, 3) := dk_198 0 7 (dk_at dksX1_goBack_0 13 rfl rfl)
theorem dX1_goBack_16 : decode cX1_goBack 16 = .ok (.iconst 1, 1) := dk_4 (dk_at dksX1_goBack_0 16 rfl rfl)
theorem dX1_goBack_17 : decode cX1_goBack 17 = .ok (.goto 4, 3) := dk_167 0 4 (dk_at dksX1_goBack_0 17 rfl rfl)
theorem dX1_goBack_20 : decode cX1_goBack 20 = .ok (.iconst 0, 1) := dk_3 (dk_at dksX1_goBack_0 20 rfl rfl)
theorem dX1_goBack_21 : decode cX1_goBack 21 = .ok (.invokestatic 138, 3) := dk_184 0 138 (dk_at dksX1_goBack_0 21 rfl rfl)
theorem dX1_goBack_24 : decode cX1_goBack 24 = .ok (.aload_n 0, 1) := dk_42 (dk_at dksX1_goBack_1 0 rfl rfl)
theorem dX1_goBack_25 : decode cX1_goBack 25 = .ok (.invokevirtual 141, 3) := dk_182 0 141 (dk_at dksX1_goBack_1 1 rfl rfl)
theorem dX1_goBack_28 : decode cX1_goBack 28 = .ok (.aload_n 0, 1) := dk_42 (dk_at dksX1_goBack_1 4 rfl rfl)
theorem dX1_goBack_29 : decode cX1_goBack 29 = .ok (.aload_n 0, 1) := dk_42 (dk_at dksX1_goBack_1 5 rfl rfl)
theorem dX1_goBack_30 : decode cX1_goBack 30 = .ok (.getfield 57, 3) := dk_180 0 57 (dk_at dksX1_goBack_1 6 rfl rfl)
theorem dX1_goBack_33 : decode cX1_goBack 33 = .ok (.iload_n 1, 1) := dk_27 (dk_at dksX1_goBack_1 9 rfl rfl)
theorem dX1_goBack_34 : decode cX1_goBack 34 = .ok (.aaload, 1) := dk_50 (dk_at dksX1_goBack_1 10 rfl rfl)
theorem dX1_goBack_35 : decode cX1_goBack 35 = .ok (.invokevirtual 117, 3) := dk_182 0 117 (dk_at dksX1_goBack_1 11 rfl rfl)
theorem dX1_goBack_38 : decode cX1_goBack 38 = .ok (.putfield 44, 3) := dk_181 0 44 (dk_at dksX1_goBack_1 14 rfl rfl)
theorem dX1_goBack_41 : decode cX1_goBack 41 = .ok (.aload_n 0, 1) := dk_42 (dk_at dksX1_goBack_1 17 rfl rfl)
theorem dX1_goBack_42 : decode cX1_goBack 42 = .ok (.getfield 44, 3) := dk_180 0 44 (dk_at dksX1_goBack_1 18 rfl rfl)
theorem dX1_goBack_45 : decode cX1_goBack 45 = .ok (.getfield 197, 3) := dk_180 0 197 (dk_at dksX1_goBack_1 21 rfl rfl)
theorem dX1_goBack_48 : decode cX1_goBack 48 = .ok (.ireturn, 1) := dk_172 (dk_at dksX1_goBack_2 0 rfl rfl)
abbrev cX1_undo : ByteArray := prog_1_method_39_code
def yX1_undo : MethodName := ⟨RX1, "undo", "()I"⟩
def dkwX1_undo_1 : List UInt8 := [182, 1, 29, 192, 0, 19, 181, 0, 44, 42, 180, 0, 53, 182, 0, 109, 172]
abbrev dktX1_undo_1 : List UInt8 := dkwX1_undo_1 ++ []
def dkwX1_undo_0 : List UInt8 := [42, 180, 0, 53, 182, 1, 26, 154, 0, 7, 4, 167, 0, 4, 3, 184, 0, 138, 42, 42, 180, 0, 53]
abbrev dktX1_undo_0 : List UInt8 := dkwX1_undo_0 ++ dktX1_undo_1
theorem dksX1_undo_0 : cX1_undo.data.toList.drop 0 = dktX1_undo_0 := by decide +kernel
theorem dksX1_undo_1 : cX1_undo.data.toList.drop 23 = dktX1_undo_1 := dk_seg dksX1_undo_0 23 rfl rfl
theorem dX1_undo_0 : decode cX1_undo 0 = .ok (.aload_n 0, 1) := dk_42 (dk_at dksX1_undo_0 0 rfl rfl)
theorem dX1_undo_1 : decode cX1_undo 1 = .ok (.getfield 53, 3) := dk_180 0 53 (dk_at dksX1_undo_0 1 rfl rfl)
theorem dX1_undo_4 : decode cX1_undo 4 = .ok (.invokevirtual 282, 3) := dk_182 1 26 (dk_at dksX1_undo_0 4 rfl rfl)
theorem dX1_undo_7 : decode cX1_undo 7 = .ok (.ifCond .ne 7, 3) := dk_154 0 7 (dk_at dksX1_undo_0 7 rfl rfl)
theorem dX1_undo_10 : decode cX1_undo 10 = .ok (.iconst 1, 1) := dk_4 (dk_at dksX1_undo_0 10 rfl rfl)
theorem dX1_undo_11 : decode cX1_undo 11 = .ok (.goto 4, 3) := dk_167 0 4 (dk_at dksX1_undo_0 11 rfl rfl)
theorem dX1_undo_14 : decode cX1_undo 14 = .ok (.iconst 0, 1) := dk_3 (dk_at dksX1_undo_0 14 rfl rfl)
theorem dX1_undo_15 : decode cX1_undo 15 = .ok (.invokestatic 138, 3) := dk_184 0 138 (dk_at dksX1_undo_0 15 rfl rfl)
theorem dX1_undo_18 : decode cX1_undo 18 = .ok (.aload_n 0, 1) := dk_42 (dk_at dksX1_undo_0 18 rfl rfl)
theorem dX1_undo_19 : decode cX1_undo 19 = .ok (.aload_n 0, 1) := dk_42 (dk_at dksX1_undo_0 19 rfl rfl)
theorem dX1_undo_20 : decode cX1_undo 20 = .ok (.getfield 53, 3) := dk_180 0 53 (dk_at dksX1_undo_0 20 rfl rfl)
theorem dX1_undo_23 : decode cX1_undo 23 = .ok (.invokevirtual 285, 3) := dk_182 1 29 (dk_at dksX1_undo_1 0 rfl rfl)
theorem dX1_undo_26 : decode cX1_undo 26 = .ok (.checkcast 19, 3) := dk_192 0 19 (dk_at dksX1_undo_1 3 rfl rfl)
theorem dX1_undo_29 : decode cX1_undo 29 = .ok (.putfield 44, 3) := dk_181 0 44 (dk_at dksX1_undo_1 6 rfl rfl)
theorem dX1_undo_32 : decode cX1_undo 32 = .ok (.aload_n 0, 1) := dk_42 (dk_at dksX1_undo_1 9 rfl rfl)
theorem dX1_undo_33 : decode cX1_undo 33 = .ok (.getfield 53, 3) := dk_180 0 53 (dk_at dksX1_undo_1 10 rfl rfl)
theorem dX1_undo_36 : decode cX1_undo 36 = .ok (.invokevirtual 109, 3) := dk_182 0 109 (dk_at dksX1_undo_1 13 rfl rfl)
theorem dX1_undo_39 : decode cX1_undo 39 = .ok (.ireturn, 1) := dk_172 (dk_at dksX1_undo_1 16 rfl rfl)
abbrev cX1_reach : ByteArray := prog_1_method_41_code
def yX1_reach : MethodName := ⟨RX1, "reach", "(II)I"⟩
def dkwX1_reach_1 : List UInt8 := [42, 27, 28, 182, 1, 38, 172]
abbrev dktX1_reach_1 : List UInt8 := dkwX1_reach_1 ++ []
def dkwX1_reach_0 : List UInt8 := [27, 184, 0, 170, 153, 0, 16, 28, 3, 5, 184, 0, 15, 153, 0, 7, 4, 167, 0, 4, 3, 184, 0, 134]
abbrev dktX1_reach_0 : List UInt8 := dkwX1_reach_0 ++ dktX1_reach_1
theorem dksX1_reach_0 : cX1_reach.data.toList.drop 0 = dktX1_reach_0 := by decide +kernel
theorem dksX1_reach_1 : cX1_reach.data.toList.drop 24 = dktX1_reach_1 := dk_seg dksX1_reach_0 24 rfl rfl
theorem dX1_reach_0 : decode cX1_reach 0 = .ok (.iload_n 1, 1) := dk_27 (dk_at dksX1_reach_0 0 rfl rfl)
theorem dX1_reach_1 : decode cX1_reach 1 = .ok (.invokestatic 170, 3) := dk_184 0 170 (dk_at dksX1_reach_0 1 rfl rfl)
theorem dX1_reach_4 : decode cX1_reach 4 = .ok (.ifCond .eq 16, 3) := dk_153 0 16 (dk_at dksX1_reach_0 4 rfl rfl)
theorem dX1_reach_7 : decode cX1_reach 7 = .ok (.iload_n 2, 1) := dk_28 (dk_at dksX1_reach_0 7 rfl rfl)
theorem dX1_reach_8 : decode cX1_reach 8 = .ok (.iconst 0, 1) := dk_3 (dk_at dksX1_reach_0 8 rfl rfl)
theorem dX1_reach_9 : decode cX1_reach 9 = .ok (.iconst 2, 1) := dk_5 (dk_at dksX1_reach_0 9 rfl rfl)
theorem dX1_reach_10 : decode cX1_reach 10 = .ok (.invokestatic 15, 3) := dk_184 0 15 (dk_at dksX1_reach_0 10 rfl rfl)
theorem dX1_reach_13 : decode cX1_reach 13 = .ok (.ifCond .eq 7, 3) := dk_153 0 7 (dk_at dksX1_reach_0 13 rfl rfl)
theorem dX1_reach_16 : decode cX1_reach 16 = .ok (.iconst 1, 1) := dk_4 (dk_at dksX1_reach_0 16 rfl rfl)
theorem dX1_reach_17 : decode cX1_reach 17 = .ok (.goto 4, 3) := dk_167 0 4 (dk_at dksX1_reach_0 17 rfl rfl)
theorem dX1_reach_20 : decode cX1_reach 20 = .ok (.iconst 0, 1) := dk_3 (dk_at dksX1_reach_0 20 rfl rfl)
theorem dX1_reach_21 : decode cX1_reach 21 = .ok (.invokestatic 134, 3) := dk_184 0 134 (dk_at dksX1_reach_0 21 rfl rfl)
theorem dX1_reach_24 : decode cX1_reach 24 = .ok (.aload_n 0, 1) := dk_42 (dk_at dksX1_reach_1 0 rfl rfl)
theorem dX1_reach_25 : decode cX1_reach 25 = .ok (.iload_n 1, 1) := dk_27 (dk_at dksX1_reach_1 1 rfl rfl)
theorem dX1_reach_26 : decode cX1_reach 26 = .ok (.iload_n 2, 1) := dk_28 (dk_at dksX1_reach_1 2 rfl rfl)
theorem dX1_reach_27 : decode cX1_reach 27 = .ok (.invokevirtual 294, 3) := dk_182 1 38 (dk_at dksX1_reach_1 3 rfl rfl)
theorem dX1_reach_30 : decode cX1_reach 30 = .ok (.ireturn, 1) := dk_172 (dk_at dksX1_reach_1 6 rfl rfl)
abbrev cX1_bargeOf : ByteArray := prog_1_method_43_code
def yX1_bargeOf : MethodName := ⟨RX1, "bargeOf", "(II)I"⟩
def dkwX1_bargeOf_1 : List UInt8 := [28, 182, 1, 65, 172]
abbrev dktX1_bargeOf_1 : List UInt8 := dkwX1_bargeOf_1 ++ []
def dkwX1_bargeOf_0 : List UInt8 := [42, 27, 182, 0, 153, 184, 0, 157, 28, 3, 16, 7, 184, 0, 15, 184, 0, 134, 42, 42, 27, 182, 0, 145]
abbrev dktX1_bargeOf_0 : List UInt8 := dkwX1_bargeOf_0 ++ dktX1_bargeOf_1
theorem dksX1_bargeOf_0 : cX1_bargeOf.data.toList.drop 0 = dktX1_bargeOf_0 := by decide +kernel
theorem dksX1_bargeOf_1 : cX1_bargeOf.data.toList.drop 24 = dktX1_bargeOf_1 := dk_seg dksX1_bargeOf_0 24 rfl rfl
theorem dX1_bargeOf_0 : decode cX1_bargeOf 0 = .ok (.aload_n 0, 1) := dk_42 (dk_at dksX1_bargeOf_0 0 rfl rfl)
theorem dX1_bargeOf_1 : decode cX1_bargeOf 1 = .ok (.iload_n 1, 1) := dk_27 (dk_at dksX1_bargeOf_0 1 rfl rfl)
theorem dX1_bargeOf_2 : decode cX1_bargeOf 2 = .ok (.invokevirtual 153, 3) := dk_182 0 153 (dk_at dksX1_bargeOf_0 2 rfl rfl)
theorem dX1_bargeOf_5 : decode cX1_bargeOf 5 = .ok (.invokestatic 157, 3) := dk_184 0 157 (dk_at dksX1_bargeOf_0 5 rfl rfl)
theorem dX1_bargeOf_8 : decode cX1_bargeOf 8 = .ok (.iload_n 2, 1) := dk_28 (dk_at dksX1_bargeOf_0 8 rfl rfl)
theorem dX1_bargeOf_9 : decode cX1_bargeOf 9 = .ok (.iconst 0, 1) := dk_3 (dk_at dksX1_bargeOf_0 9 rfl rfl)
theorem dX1_bargeOf_10 : decode cX1_bargeOf 10 = .ok (.bipush 7, 2) := dk_16 7 (dk_at dksX1_bargeOf_0 10 rfl rfl)
theorem dX1_bargeOf_12 : decode cX1_bargeOf 12 = .ok (.invokestatic 15, 3) := dk_184 0 15 (dk_at dksX1_bargeOf_0 12 rfl rfl)
theorem dX1_bargeOf_15 : decode cX1_bargeOf 15 = .ok (.invokestatic 134, 3) := dk_184 0 134 (dk_at dksX1_bargeOf_0 15 rfl rfl)
theorem dX1_bargeOf_18 : decode cX1_bargeOf 18 = .ok (.aload_n 0, 1) := dk_42 (dk_at dksX1_bargeOf_0 18 rfl rfl)
theorem dX1_bargeOf_19 : decode cX1_bargeOf 19 = .ok (.aload_n 0, 1) := dk_42 (dk_at dksX1_bargeOf_0 19 rfl rfl)
theorem dX1_bargeOf_20 : decode cX1_bargeOf 20 = .ok (.iload_n 1, 1) := dk_27 (dk_at dksX1_bargeOf_0 20 rfl rfl)
theorem dX1_bargeOf_21 : decode cX1_bargeOf 21 = .ok (.invokevirtual 145, 3) := dk_182 0 145 (dk_at dksX1_bargeOf_0 21 rfl rfl)
theorem dX1_bargeOf_24 : decode cX1_bargeOf 24 = .ok (.iload_n 2, 1) := dk_28 (dk_at dksX1_bargeOf_1 0 rfl rfl)
theorem dX1_bargeOf_25 : decode cX1_bargeOf 25 = .ok (.invokevirtual 321, 3) := dk_182 1 65 (dk_at dksX1_bargeOf_1 1 rfl rfl)
theorem dX1_bargeOf_28 : decode cX1_bargeOf 28 = .ok (.ireturn, 1) := dk_172 (dk_at dksX1_bargeOf_1 4 rfl rfl)
abbrev cX1_meadow : ByteArray := prog_1_method_45_code
def yX1_meadow : MethodName := ⟨RX1, "meadow", "(II)I"⟩
def dkwX1_meadow_1 : List UInt8 := [184, 0, 134, 42, 27, 28, 182, 1, 78, 172]
abbrev dktX1_meadow_1 : List UInt8 := dkwX1_meadow_1 ++ []
def dkwX1_meadow_0 : List UInt8 := [27, 184, 0, 160, 153, 0, 17, 28, 3, 16, 8, 184, 0, 15, 153, 0, 7, 4, 167, 0, 4, 3]
abbrev dktX1_meadow_0 : List UInt8 := dkwX1_meadow_0 ++ dktX1_meadow_1
theorem dksX1_meadow_0 : cX1_meadow.data.toList.drop 0 = dktX1_meadow_0 := by decide +kernel
theorem dksX1_meadow_1 : cX1_meadow.data.toList.drop 22 = dktX1_meadow_1 := dk_seg dksX1_meadow_0 22 rfl rfl
theorem dX1_meadow_0 : decode cX1_meadow 0 = .ok (.iload_n 1, 1) := dk_27 (dk_at dksX1_meadow_0 0 rfl rfl)
theorem dX1_meadow_1 : decode cX1_meadow 1 = .ok (.invokestatic 160, 3) := dk_184 0 160 (dk_at dksX1_meadow_0 1 rfl rfl)
theorem dX1_meadow_4 : decode cX1_meadow 4 = .ok (.ifCond .eq 17, 3) := dk_153 0 17 (dk_at dksX1_meadow_0 4 rfl rfl)
theorem dX1_meadow_7 : decode cX1_meadow 7 = .ok (.iload_n 2, 1) := dk_28 (dk_at dksX1_meadow_0 7 rfl rfl)
theorem dX1_meadow_8 : decode cX1_meadow 8 = .ok (.iconst 0, 1) := dk_3 (dk_at dksX1_meadow_0 8 rfl rfl)
theorem dX1_meadow_9 : decode cX1_meadow 9 = .ok (.bipush 8, 2) := dk_16 8 (dk_at dksX1_meadow_0 9 rfl rfl)
theorem dX1_meadow_11 : decode cX1_meadow 11 = .ok (.invokestatic 15, 3) := dk_184 0 15 (dk_at dksX1_meadow_0 11 rfl rfl)
theorem dX1_meadow_14 : decode cX1_meadow 14 = .ok (.ifCond .eq 7, 3) := dk_153 0 7 (dk_at dksX1_meadow_0 14 rfl rfl)
theorem dX1_meadow_17 : decode cX1_meadow 17 = .ok (.iconst 1, 1) := dk_4 (dk_at dksX1_meadow_0 17 rfl rfl)
theorem dX1_meadow_18 : decode cX1_meadow 18 = .ok (.goto 4, 3) := dk_167 0 4 (dk_at dksX1_meadow_0 18 rfl rfl)
theorem dX1_meadow_21 : decode cX1_meadow 21 = .ok (.iconst 0, 1) := dk_3 (dk_at dksX1_meadow_0 21 rfl rfl)
theorem dX1_meadow_22 : decode cX1_meadow 22 = .ok (.invokestatic 134, 3) := dk_184 0 134 (dk_at dksX1_meadow_1 0 rfl rfl)
theorem dX1_meadow_25 : decode cX1_meadow 25 = .ok (.aload_n 0, 1) := dk_42 (dk_at dksX1_meadow_1 3 rfl rfl)
theorem dX1_meadow_26 : decode cX1_meadow 26 = .ok (.iload_n 1, 1) := dk_27 (dk_at dksX1_meadow_1 4 rfl rfl)
theorem dX1_meadow_27 : decode cX1_meadow 27 = .ok (.iload_n 2, 1) := dk_28 (dk_at dksX1_meadow_1 5 rfl rfl)
theorem dX1_meadow_28 : decode cX1_meadow 28 = .ok (.invokevirtual 334, 3) := dk_182 1 78 (dk_at dksX1_meadow_1 6 rfl rfl)
theorem dX1_meadow_31 : decode cX1_meadow 31 = .ok (.ireturn, 1) := dk_172 (dk_at dksX1_meadow_1 9 rfl rfl)
abbrev cX1_count : ByteArray := prog_1_method_50_code
def yX1_count : MethodName := ⟨RX1, "count", "(I)I"⟩
def dkwX1_count_0 : List UInt8 := [27, 3, 16, 11, 184, 0, 15, 184, 0, 134, 42, 27, 182, 1, 104, 172]
abbrev dktX1_count_0 : List UInt8 := dkwX1_count_0 ++ []
theorem dksX1_count_0 : cX1_count.data.toList.drop 0 = dktX1_count_0 := by decide +kernel
theorem dX1_count_0 : decode cX1_count 0 = .ok (.iload_n 1, 1) := dk_27 (dk_at dksX1_count_0 0 rfl rfl)
theorem dX1_count_1 : decode cX1_count 1 = .ok (.iconst 0, 1) := dk_3 (dk_at dksX1_count_0 1 rfl rfl)
theorem dX1_count_2 : decode cX1_count 2 = .ok (.bipush 11, 2) := dk_16 11 (dk_at dksX1_count_0 2 rfl rfl)
theorem dX1_count_4 : decode cX1_count 4 = .ok (.invokestatic 15, 3) := dk_184 0 15 (dk_at dksX1_count_0 4 rfl rfl)
theorem dX1_count_7 : decode cX1_count 7 = .ok (.invokestatic 134, 3) := dk_184 0 134 (dk_at dksX1_count_0 7 rfl rfl)
theorem dX1_count_10 : decode cX1_count 10 = .ok (.aload_n 0, 1) := dk_42 (dk_at dksX1_count_0 10 rfl rfl)
theorem dX1_count_11 : decode cX1_count 11 = .ok (.iload_n 1, 1) := dk_27 (dk_at dksX1_count_0 11 rfl rfl)
theorem dX1_count_12 : decode cX1_count 12 = .ok (.invokevirtual 360, 3) := dk_182 1 104 (dk_at dksX1_count_0 12 rfl rfl)
theorem dX1_count_15 : decode cX1_count 15 = .ok (.ireturn, 1) := dk_172 (dk_at dksX1_count_0 15 rfl rfl)
abbrev cX1_setting : ByteArray := prog_1_method_51_code
def yX1_setting : MethodName := ⟨RX1, "setting", "(I)I"⟩
def dkwX1_setting_0 : List UInt8 := [27, 184, 0, 238, 184, 0, 157, 42, 180, 0, 44, 180, 0, 247, 27, 46, 172]
abbrev dktX1_setting_0 : List UInt8 := dkwX1_setting_0 ++ []
theorem dksX1_setting_0 : cX1_setting.data.toList.drop 0 = dktX1_setting_0 := by decide +kernel
theorem dX1_setting_0 : decode cX1_setting 0 = .ok (.iload_n 1, 1) := dk_27 (dk_at dksX1_setting_0 0 rfl rfl)
theorem dX1_setting_1 : decode cX1_setting 1 = .ok (.invokestatic 238, 3) := dk_184 0 238 (dk_at dksX1_setting_0 1 rfl rfl)
theorem dX1_setting_4 : decode cX1_setting 4 = .ok (.invokestatic 157, 3) := dk_184 0 157 (dk_at dksX1_setting_0 4 rfl rfl)
theorem dX1_setting_7 : decode cX1_setting 7 = .ok (.aload_n 0, 1) := dk_42 (dk_at dksX1_setting_0 7 rfl rfl)
theorem dX1_setting_8 : decode cX1_setting 8 = .ok (.getfield 44, 3) := dk_180 0 44 (dk_at dksX1_setting_0 8 rfl rfl)
theorem dX1_setting_11 : decode cX1_setting 11 = .ok (.getfield 247, 3) := dk_180 0 247 (dk_at dksX1_setting_0 11 rfl rfl)
theorem dX1_setting_14 : decode cX1_setting 14 = .ok (.iload_n 1, 1) := dk_27 (dk_at dksX1_setting_0 14 rfl rfl)
theorem dX1_setting_15 : decode cX1_setting 15 = .ok (.iaload, 1) := dk_46 (dk_at dksX1_setting_0 15 rfl rfl)
theorem dX1_setting_16 : decode cX1_setting 16 = .ok (.ireturn, 1) := dk_172 (dk_at dksX1_setting_0 16 rfl rfl)
abbrev cX1_ifPassed : ByteArray := prog_1_method_54_code
def yX1_ifPassed : MethodName := ⟨RX1, "ifPassed", "(II)I"⟩
def dkwX1_ifPassed_1 : List UInt8 := [184, 0, 134, 42, 27, 28, 182, 1, 115, 172]
abbrev dktX1_ifPassed_1 : List UInt8 := dkwX1_ifPassed_1 ++ []
def dkwX1_ifPassed_0 : List UInt8 := [27, 4, 16, 60, 184, 0, 15, 153, 0, 16, 28, 3, 7, 184, 0, 15, 153, 0, 7, 4, 167, 0, 4, 3]
abbrev dktX1_ifPassed_0 : List UInt8 := dkwX1_ifPassed_0 ++ dktX1_ifPassed_1
theorem dksX1_ifPassed_0 : cX1_ifPassed.data.toList.drop 0 = dktX1_ifPassed_0 := by decide +kernel
theorem dksX1_ifPassed_1 : cX1_ifPassed.data.toList.drop 24 = dktX1_ifPassed_1 := dk_seg dksX1_ifPassed_0 24 rfl rfl
theorem dX1_ifPassed_0 : decode cX1_ifPassed 0 = .ok (.iload_n 1, 1) := dk_27 (dk_at dksX1_ifPassed_0 0 rfl rfl)
theorem dX1_ifPassed_1 : decode cX1_ifPassed 1 = .ok (.iconst 1, 1) := dk_4 (dk_at dksX1_ifPassed_0 1 rfl rfl)
theorem dX1_ifPassed_2 : decode cX1_ifPassed 2 = .ok (.bipush 60, 2) := dk_16 60 (dk_at dksX1_ifPassed_0 2 rfl rfl)
theorem dX1_ifPassed_4 : decode cX1_ifPassed 4 = .ok (.invokestatic 15, 3) := dk_184 0 15 (dk_at dksX1_ifPassed_0 4 rfl rfl)
theorem dX1_ifPassed_7 : decode cX1_ifPassed 7 = .ok (.ifCond .eq 16, 3) := dk_153 0 16 (dk_at dksX1_ifPassed_0 7 rfl rfl)
theorem dX1_ifPassed_10 : decode cX1_ifPassed 10 = .ok (.iload_n 2, 1) := dk_28 (dk_at dksX1_ifPassed_0 10 rfl rfl)
theorem dX1_ifPassed_11 : decode cX1_ifPassed 11 = .ok (.iconst 0, 1) := dk_3 (dk_at dksX1_ifPassed_0 11 rfl rfl)
theorem dX1_ifPassed_12 : decode cX1_ifPassed 12 = .ok (.iconst 4, 1) := dk_7 (dk_at dksX1_ifPassed_0 12 rfl rfl)
theorem dX1_ifPassed_13 : decode cX1_ifPassed 13 = .ok (.invokestatic 15, 3) := dk_184 0 15 (dk_at dksX1_ifPassed_0 13 rfl rfl)
theorem dX1_ifPassed_16 : decode cX1_ifPassed 16 = .ok (.ifCond .eq 7, 3) := dk_153 0 7 (dk_at dksX1_ifPassed_0 16 rfl rfl)
theorem dX1_ifPassed_19 : decode cX1_ifPassed 19 = .ok (.iconst 1, 1) := dk_4 (dk_at dksX1_ifPassed_0 19 rfl rfl)
theorem dX1_ifPassed_20 : decode cX1_ifPassed 20 = .ok (.goto 4, 3) := dk_167 0 4 (dk_at dksX1_ifPassed_0 20 rfl rfl)
theorem dX1_ifPassed_23 : decode cX1_ifPassed 23 = .ok (.iconst 0, 1) := dk_3 (dk_at dksX1_ifPassed_0 23 rfl rfl)
theorem dX1_ifPassed_24 : decode cX1_ifPassed 24 = .ok (.invokestatic 134, 3) := dk_184 0 134 (dk_at dksX1_ifPassed_1 0 rfl rfl)
theorem dX1_ifPassed_27 : decode cX1_ifPassed 27 = .ok (.aload_n 0, 1) := dk_42 (dk_at dksX1_ifPassed_1 3 rfl rfl)
theorem dX1_ifPassed_28 : decode cX1_ifPassed 28 = .ok (.iload_n 1, 1) := dk_27 (dk_at dksX1_ifPassed_1 4 rfl rfl)
theorem dX1_ifPassed_29 : decode cX1_ifPassed 29 = .ok (.iload_n 2, 1) := dk_28 (dk_at dksX1_ifPassed_1 5 rfl rfl)
theorem dX1_ifPassed_30 : decode cX1_ifPassed 30 = .ok (.invokevirtual 371, 3) := dk_182 1 115 (dk_at dksX1_ifPassed_1 6 rfl rfl)
theorem dX1_ifPassed_33 : decode cX1_ifPassed 33 = .ok (.ireturn, 1) := dk_172 (dk_at dksX1_ifPassed_1 9 rfl rfl)
abbrev cX1_bestReach : ByteArray := prog_1_method_59_code
def yX1_bestReach : MethodName := ⟨RX1, "bestReach", "(I)I"⟩
def dkwX1_bestReach_0 : List UInt8 := [27, 4, 16, 60, 184, 0, 15, 184, 0, 134, 42, 27, 182, 1, 127, 172]
abbrev dktX1_bestReach_0 : List UInt8 := dkwX1_bestReach_0 ++ []
theorem dksX1_bestReach_0 : cX1_bestReach.data.toList.drop 0 = dktX1_bestReach_0 := by decide +kernel
theorem dX1_bestReach_0 : decode cX1_bestReach 0 = .ok (.iload_n 1, 1) := dk_27 (dk_at dksX1_bestReach_0 0 rfl rfl)
theorem dX1_bestReach_1 : decode cX1_bestReach 1 = .ok (.iconst 1, 1) := dk_4 (dk_at dksX1_bestReach_0 1 rfl rfl)
theorem dX1_bestReach_2 : decode cX1_bestReach 2 = .ok (.bipush 60, 2) := dk_16 60 (dk_at dksX1_bestReach_0 2 rfl rfl)
theorem dX1_bestReach_4 : decode cX1_bestReach 4 = .ok (.invokestatic 15, 3) := dk_184 0 15 (dk_at dksX1_bestReach_0 4 rfl rfl)
theorem dX1_bestReach_7 : decode cX1_bestReach 7 = .ok (.invokestatic 134, 3) := dk_184 0 134 (dk_at dksX1_bestReach_0 7 rfl rfl)
theorem dX1_bestReach_10 : decode cX1_bestReach 10 = .ok (.aload_n 0, 1) := dk_42 (dk_at dksX1_bestReach_0 10 rfl rfl)
theorem dX1_bestReach_11 : decode cX1_bestReach 11 = .ok (.iload_n 1, 1) := dk_27 (dk_at dksX1_bestReach_0 11 rfl rfl)
theorem dX1_bestReach_12 : decode cX1_bestReach 12 = .ok (.invokevirtual 383, 3) := dk_182 1 127 (dk_at dksX1_bestReach_0 12 rfl rfl)
theorem dX1_bestReach_15 : decode cX1_bestReach 15 = .ok (.ireturn, 1) := dk_172 (dk_at dksX1_bestReach_0 15 rfl rfl)
theorem q74 : (Jvm.Cond.initialized "SpoilMeadows") ∈ lw_all := lw_g (lw_at lw_m1 1 rfl) rfl
theorem q113 : (Jvm.Cond.instantiable "SpoilMeadows" (12 : Nat)) ∈ lw_all := lw_g (lw_at lw_m1 40 rfl) rfl
theorem q115 : (Jvm.Cond.instanceMethod ({ cls := "SpoilMeadows", name := "<init>", desc := "()V" } : Jvm.MethodName)) ∈ lw_all := lw_g (lw_at lw_m1 42 rfl) rfl
theorem q116 : (Jvm.Cond.code ({ cls := "SpoilMeadows", name := "<init>", desc := "()V" } : Jvm.MethodName) prog_1_method_9_code (1 : Nat) (Option.none : Option Jvm.ClassFile.FieldType)) ∈ lw_all := lw_g (lw_at lw_m1 43 rfl) rfl
theorem q117 : (Jvm.Cond.methodLink "SpoilMeadows" (37 : Nat) ({ cls := "java/lang/Object", name := "<init>", desc := "()V" } : Jvm.MethodName)) ∈ lw_all := lw_g (lw_at lw_m1 44 rfl) rfl
theorem q120 : (Jvm.Cond.methodLink "SpoilMeadows" (40 : Nat) ({ cls := "SpoilMeadows", name := "firstState", desc := "()LSpoilMeadows$State;" } : Jvm.MethodName)) ∈ lw_all := lw_g (lw_at lw_m1 47 rfl) rfl
theorem q121 : (Jvm.Cond.static ({ cls := "SpoilMeadows", name := "firstState", desc := "()LSpoilMeadows$State;" } : Jvm.MethodName)) ∈ lw_all := lw_g (lw_at lw_m1 48 rfl) rfl
theorem q122 : (Jvm.Cond.code ({ cls := "SpoilMeadows", name := "firstState", desc := "()LSpoilMeadows$State;" } : Jvm.MethodName) prog_1_method_8_code (4 : Nat) (Option.some (Jvm.ClassFile.FieldType.object "SpoilMeadows$State"))) ∈ lw_all := lw_g (lw_at lw_m1 49 rfl) rfl
theorem q123 : (Jvm.Cond.classLink "SpoilMeadows" (19 : Nat) "SpoilMeadows$State") ∈ lw_all := lw_g (lw_at lw_m1 50 rfl) rfl
theorem q125 : (Jvm.Cond.methodLink "SpoilMeadows" (21 : Nat) ({ cls := "SpoilMeadows$State", name := "<init>", desc := "([I[I[I[I)V" } : Jvm.MethodName)) ∈ lw_all := lw_g (lw_at lw_m1 52 rfl) rfl
theorem q475 : (Jvm.Cond.fieldLinkNest "SpoilMeadows" (124 : Nat) "SpoilMeadows$State" "barges" "Ljava/util/ArrayList;" "SpoilMeadows") ∈ lw_tbl := lw_at lw_m2 162 rfl
theorem q477 : (Jvm.Cond.fieldLinkNest "SpoilMeadows" (24 : Nat) "SpoilMeadows$State" "meadows" "Ljava/util/ArrayList;" "SpoilMeadows") ∈ lw_tbl := lw_at lw_m2 164 rfl
theorem q479 : (Jvm.Cond.fieldLinkNest "SpoilMeadows" (247 : Nat) "SpoilMeadows$State" "settings" "[I" "SpoilMeadows") ∈ lw_tbl := lw_at lw_m2 166 rfl
theorem q481 : (Jvm.Cond.fieldLinkNest "SpoilMeadows" (177 : Nat) "SpoilMeadows$State" "silt" "[I" "SpoilMeadows") ∈ lw_tbl := lw_at lw_m2 168 rfl
theorem q483 : (Jvm.Cond.fieldLinkNest "SpoilMeadows" (288 : Nat) "SpoilMeadows$State" "raised" "[I" "SpoilMeadows") ∈ lw_tbl := lw_at lw_m2 170 rfl
theorem q485 : (Jvm.Cond.fieldLinkNest "SpoilMeadows" (291 : Nat) "SpoilMeadows$State" "lost" "[I" "SpoilMeadows") ∈ lw_tbl := lw_at lw_m2 172 rfl
theorem q487 : (Jvm.Cond.fieldLinkNest "SpoilMeadows" (197 : Nat) "SpoilMeadows$State" "day" "I" "SpoilMeadows") ∈ lw_tbl := lw_at lw_m2 174 rfl
theorem q489 : (Jvm.Cond.fieldLinkNest "SpoilMeadows" (167 : Nat) "SpoilMeadows$State" "reach" "I" "SpoilMeadows") ∈ lw_tbl := lw_at lw_m2 176 rfl
theorem q491 : (Jvm.Cond.fieldLinkNest "SpoilMeadows" (355 : Nat) "SpoilMeadows$State" "waits" "I" "SpoilMeadows") ∈ lw_tbl := lw_at lw_m2 178 rfl
theorem q511 : (Jvm.Cond.classLink "SpoilMeadows" (28 : Nat) "SpoilMeadows$Meadow") ∈ lw_all := lw_g (lw_at lw_m2 198 rfl) rfl
theorem q513 : (Jvm.Cond.methodLinkNest "SpoilMeadows" (30 : Nat) ({ cls := "SpoilMeadows$Meadow", name := "<init>", desc := "()V" } : Jvm.MethodName) "SpoilMeadows") ∈ lw_tbl := lw_at lw_m2 200 rfl
theorem q522 : (Jvm.Cond.fieldLinkNest "SpoilMeadows" (185 : Nat) "SpoilMeadows$Meadow" "bound" "I" "SpoilMeadows") ∈ lw_tbl := lw_at lw_m2 209 rfl
theorem q525 : (Jvm.Cond.fieldLinkNest "SpoilMeadows" (221 : Nat) "SpoilMeadows$Meadow" "spoil" "I" "SpoilMeadows") ∈ lw_tbl := lw_at lw_m2 212 rfl
theorem q528 : (Jvm.Cond.fieldLinkNest "SpoilMeadows" (325 : Nat) "SpoilMeadows$Meadow" "wet" "I" "SpoilMeadows") ∈ lw_tbl := lw_at lw_m2 215 rfl
theorem q530 : (Jvm.Cond.fieldLinkNest "SpoilMeadows" (191 : Nat) "SpoilMeadows$Meadow" "from" "I" "SpoilMeadows") ∈ lw_tbl := lw_at lw_m2 217 rfl
theorem q532 : (Jvm.Cond.fieldLinkNest "SpoilMeadows" (194 : Nat) "SpoilMeadows$Meadow" "to" "I" "SpoilMeadows") ∈ lw_tbl := lw_at lw_m2 219 rfl
theorem q534 : (Jvm.Cond.fieldLinkNest "SpoilMeadows" (207 : Nat) "SpoilMeadows$Meadow" "stoppedTo" "I" "SpoilMeadows") ∈ lw_tbl := lw_at lw_m2 221 rfl
theorem q536 : (Jvm.Cond.fieldLinkNest "SpoilMeadows" (218 : Nat) "SpoilMeadows$Meadow" "period" "I" "SpoilMeadows") ∈ lw_tbl := lw_at lw_m2 223 rfl
theorem q556 : (Jvm.Cond.methodLink "SpoilMeadows" (31 : Nat) ({ cls := "java/util/ArrayList", name := "add", desc := "(Ljava/lang/Object;)Z" } : Jvm.MethodName)) ∈ lw_all := lw_g (lw_at lw_m3 3 rfl) rfl
theorem q581 : (Jvm.Cond.selects "SpoilMeadows" ({ cls := "java/lang/Object", name := "getClass", desc := "()Ljava/lang/Class;" } : Jvm.MethodName) ({ cls := "java/lang/Object", name := "getClass", desc := "()Ljava/lang/Class;" } : Jvm.MethodName)) ∈ lw_all := lw_g (lw_at lw_m3 28 rfl) rfl
theorem q607 : (Jvm.Cond.classLink "SpoilMeadows" (48 : Nat) "java/util/ArrayDeque") ∈ lw_all := lw_g (lw_at lw_m3 54 rfl) rfl
theorem q609 : (Jvm.Cond.methodLink "SpoilMeadows" (50 : Nat) ({ cls := "java/util/ArrayDeque", name := "<init>", desc := "(I)V" } : Jvm.MethodName)) ∈ lw_all := lw_g (lw_at lw_m3 56 rfl) rfl
theorem q626 : (Jvm.Cond.classLink "SpoilMeadows" (61 : Nat) "java/lang/StringBuilder") ∈ lw_all := lw_g (lw_at lw_m3 73 rfl) rfl
theorem q627 : (Jvm.Cond.methodLink "SpoilMeadows" (63 : Nat) ({ cls := "java/lang/StringBuilder", name := "<init>", desc := "(I)V" } : Jvm.MethodName)) ∈ lw_all := lw_g (lw_at lw_m3 74 rfl) rfl
theorem q630 : (Jvm.Cond.classLink "SpoilMeadows" (68 : Nat) "SpoilMeadows$1") ∈ lw_all := lw_g (lw_at lw_m3 77 rfl) rfl
theorem q632 : (Jvm.Cond.methodLink "SpoilMeadows" (70 : Nat) ({ cls := "SpoilMeadows$1", name := "<init>", desc := "(LSpoilMeadows;)V" } : Jvm.MethodName)) ∈ lw_all := lw_g (lw_at lw_m3 79 rfl) rfl
theorem q643 : (Jvm.Cond.classLink "SpoilMeadows" (77 : Nat) "SpoilMeadows$2") ∈ lw_all := lw_g (lw_at lw_m3 90 rfl) rfl
theorem q645 : (Jvm.Cond.methodLink "SpoilMeadows" (79 : Nat) ({ cls := "SpoilMeadows$2", name := "<init>", desc := "(LSpoilMeadows;)V" } : Jvm.MethodName)) ∈ lw_all := lw_g (lw_at lw_m3 92 rfl) rfl
theorem q653 : (Jvm.Cond.privateMethod ({ cls := "SpoilMeadows", name := "lambda$new$0", desc := "(LSpoilMeadows$State;)I" } : Jvm.MethodName)) ∈ lw_tbl := lw_at lw_m3 100 rfl
theorem q654 : (Jvm.Cond.instanceMethod ({ cls := "SpoilMeadows", name := "lambda$new$0", desc := "(LSpoilMeadows$State;)I" } : Jvm.MethodName)) ∈ lw_all := lw_g (lw_at lw_m3 101 rfl) rfl
theorem q655 : (Jvm.Cond.code ({ cls := "SpoilMeadows", name := "lambda$new$0", desc := "(LSpoilMeadows$State;)I" } : Jvm.MethodName) prog_1_method_69_code (2 : Nat) (Option.some Jvm.ClassFile.FieldType.int)) ∈ lw_all := lw_g (lw_at lw_m3 102 rfl) rfl
theorem q656 : (Jvm.Cond.methodLink "SpoilMeadows" (345 : Nat) ({ cls := "SpoilMeadows", name := "sumOf", desc := "([I)I" } : Jvm.MethodName)) ∈ lw_all := lw_g (lw_at lw_m3 103 rfl) rfl
theorem q657 : (Jvm.Cond.static ({ cls := "SpoilMeadows", name := "sumOf", desc := "([I)I" } : Jvm.MethodName)) ∈ lw_all := lw_g (lw_at lw_m3 104 rfl) rfl
theorem q658 : (Jvm.Cond.code ({ cls := "SpoilMeadows", name := "sumOf", desc := "([I)I" } : Jvm.MethodName) prog_1_method_47_code (6 : Nat) (Option.some Jvm.ClassFile.FieldType.int)) ∈ lw_all := lw_g (lw_at lw_m3 105 rfl) rfl
theorem q659 : (Jvm.Cond.privateMethod ({ cls := "SpoilMeadows", name := "lambda$new$1", desc := "(LSpoilMeadows$State;)I" } : Jvm.MethodName)) ∈ lw_tbl := lw_at lw_m3 106 rfl
theorem q660 : (Jvm.Cond.instanceMethod ({ cls := "SpoilMeadows", name := "lambda$new$1", desc := "(LSpoilMeadows$State;)I" } : Jvm.MethodName)) ∈ lw_all := lw_g (lw_at lw_m3 107 rfl) rfl
theorem q661 : (Jvm.Cond.code ({ cls := "SpoilMeadows", name := "lambda$new$1", desc := "(LSpoilMeadows$State;)I" } : Jvm.MethodName) prog_1_method_68_code (2 : Nat) (Option.some Jvm.ClassFile.FieldType.int)) ∈ lw_all := lw_g (lw_at lw_m3 108 rfl) rfl
theorem q662 : (Jvm.Cond.methodLink "SpoilMeadows" (224 : Nat) ({ cls := "SpoilMeadows", name := "laidOf", desc := "(LSpoilMeadows$State;)I" } : Jvm.MethodName)) ∈ lw_all := lw_g (lw_at lw_m3 109 rfl) rfl
theorem q663 : (Jvm.Cond.static ({ cls := "SpoilMeadows", name := "laidOf", desc := "(LSpoilMeadows$State;)I" } : Jvm.MethodName)) ∈ lw_all := lw_g (lw_at lw_m3 110 rfl) rfl
theorem q664 : (Jvm.Cond.code ({ cls := "SpoilMeadows", name := "laidOf", desc := "(LSpoilMeadows$State;)I" } : Jvm.MethodName) prog_1_method_26_code (3 : Nat) (Option.some Jvm.ClassFile.FieldType.int)) ∈ lw_all := lw_g (lw_at lw_m3 111 rfl) rfl
theorem q665 : (Jvm.Cond.methodLink "SpoilMeadows" (128 : Nat) ({ cls := "java/util/ArrayList", name := "get", desc := "(I)Ljava/lang/Object;" } : Jvm.MethodName)) ∈ lw_all := lw_g (lw_at lw_m3 112 rfl) rfl
theorem q679 : (Jvm.Cond.privateMethod ({ cls := "SpoilMeadows", name := "lambda$new$2", desc := "(LSpoilMeadows$State;)I" } : Jvm.MethodName)) ∈ lw_tbl := lw_at lw_m3 126 rfl
theorem q680 : (Jvm.Cond.instanceMethod ({ cls := "SpoilMeadows", name := "lambda$new$2", desc := "(LSpoilMeadows$State;)I" } : Jvm.MethodName)) ∈ lw_all := lw_g (lw_at lw_m3 127 rfl) rfl
theorem q681 : (Jvm.Cond.code ({ cls := "SpoilMeadows", name := "lambda$new$2", desc := "(LSpoilMeadows$State;)I" } : Jvm.MethodName) prog_1_method_67_code (2 : Nat) (Option.some Jvm.ClassFile.FieldType.int)) ∈ lw_all := lw_g (lw_at lw_m3 128 rfl) rfl
theorem q682 : (Jvm.Cond.methodLink "SpoilMeadows" (349 : Nat) ({ cls := "SpoilMeadows$Sum", name := "over", desc := "(LSpoilMeadows$State;)I" } : Jvm.MethodName)) ∈ lw_all := lw_g (lw_at lw_m3 129 rfl) rfl
theorem q730 : (Jvm.Cond.static ({ cls := "SpoilMeadows", name := "flag", desc := "(Z)I" } : Jvm.MethodName)) ∈ lw_all := lw_g (lw_at lw_m3 177 rfl) rfl
theorem q731 : (Jvm.Cond.code ({ cls := "SpoilMeadows", name := "flag", desc := "(Z)I" } : Jvm.MethodName) prog_1_method_5_code (1 : Nat) (Option.some Jvm.ClassFile.FieldType.int)) ∈ lw_all := lw_g (lw_at lw_m3 178 rfl) rfl
theorem q735 : (Jvm.Cond.privateMethod ({ cls := "SpoilMeadows", name := "lambda$new$3", desc := "(LSpoilMeadows$State;)I" } : Jvm.MethodName)) ∈ lw_tbl := lw_at lw_m3 182 rfl
theorem q736 : (Jvm.Cond.instanceMethod ({ cls := "SpoilMeadows", name := "lambda$new$3", desc := "(LSpoilMeadows$State;)I" } : Jvm.MethodName)) ∈ lw_all := lw_g (lw_at lw_m3 183 rfl) rfl
theorem q737 : (Jvm.Cond.code ({ cls := "SpoilMeadows", name := "lambda$new$3", desc := "(LSpoilMeadows$State;)I" } : Jvm.MethodName) prog_1_method_66_code (2 : Nat) (Option.some Jvm.ClassFile.FieldType.int)) ∈ lw_all := lw_g (lw_at lw_m3 184 rfl) rfl
theorem q738 : (Jvm.Cond.static ({ cls := "SpoilMeadows", name := "lambda$new$4", desc := "(LSpoilMeadows$State;)I" } : Jvm.MethodName)) ∈ lw_all := lw_g (lw_at lw_m3 185 rfl) rfl
theorem q739 : (Jvm.Cond.code ({ cls := "SpoilMeadows", name := "lambda$new$4", desc := "(LSpoilMeadows$State;)I" } : Jvm.MethodName) prog_1_method_65_code (1 : Nat) (Option.some Jvm.ClassFile.FieldType.int)) ∈ lw_all := lw_g (lw_at lw_m3 186 rfl) rfl
theorem q740 : (Jvm.Cond.fieldLink "SpoilMeadows" (44 : Nat) "SpoilMeadows" "state" "LSpoilMeadows$State;") ∈ lw_all := lw_g (lw_at lw_m3 187 rfl) rfl
theorem q741 : (Jvm.Cond.fieldLink "SpoilMeadows" (53 : Nat) "SpoilMeadows" "saved" "Ljava/util/ArrayDeque;") ∈ lw_all := lw_g (lw_at lw_m3 188 rfl) rfl
theorem q742 : (Jvm.Cond.fieldLink "SpoilMeadows" (57 : Nat) "SpoilMeadows" "slots" "[LSpoilMeadows$State;") ∈ lw_all := lw_g (lw_at lw_m3 189 rfl) rfl
theorem q744 : (Jvm.Cond.fieldLink "SpoilMeadows" (64 : Nat) "SpoilMeadows" "buffer" "Ljava/lang/StringBuilder;") ∈ lw_all := lw_g (lw_at lw_m3 191 rfl) rfl
theorem q745 : (Jvm.Cond.fieldLink "SpoilMeadows" (73 : Nat) "SpoilMeadows" "loads" "LSpoilMeadows$Sum;") ∈ lw_all := lw_g (lw_at lw_m3 192 rfl) rfl
theorem q746 : (Jvm.Cond.fieldLink "SpoilMeadows" (80 : Nat) "SpoilMeadows" "laidLoads" "LSpoilMeadows$Sum;") ∈ lw_all := lw_g (lw_at lw_m3 193 rfl) rfl
theorem q747 : (Jvm.Cond.fieldLink "SpoilMeadows" (87 : Nat) "SpoilMeadows" "raises" "LSpoilMeadows$Measure;") ∈ lw_all := lw_g (lw_at lw_m3 194 rfl) rfl
theorem q748 : (Jvm.Cond.fieldLink "SpoilMeadows" (92 : Nat) "SpoilMeadows" "lays" "LSpoilMeadows$Measure;") ∈ lw_all := lw_g (lw_at lw_m3 195 rfl) rfl
theorem q749 : (Jvm.Cond.fieldLink "SpoilMeadows" (96 : Nat) "SpoilMeadows" "carries" "LSpoilMeadows$Measure;") ∈ lw_all := lw_g (lw_at lw_m3 196 rfl) rfl
theorem q750 : (Jvm.Cond.fieldLink "SpoilMeadows" (100 : Nat) "SpoilMeadows" "waits" "LSpoilMeadows$Measure;") ∈ lw_all := lw_g (lw_at lw_m3 197 rfl) rfl
theorem q751 : (Jvm.Cond.fieldLink "SpoilMeadows" (106 : Nat) "SpoilMeadows" "silts" "LSpoilMeadows$Measure;") ∈ lw_all := lw_g (lw_at lw_m3 198 rfl) rfl
theorem q752 : (Jvm.Cond.fieldLink "SpoilMeadows" (392 : Nat) "SpoilMeadows" "hash" "J") ∈ lw_all := lw_g (lw_at lw_m3 199 rfl) rfl
theorem q753 : (Jvm.Cond.lays "SpoilMeadows" "SpoilMeadows" "state" "LSpoilMeadows$State;") ∈ lw_all := lw_g (lw_at lw_m3 200 rfl) rfl
theorem q754 : (Jvm.Cond.soleField "SpoilMeadows" "state") ∈ lw_all := lw_g (lw_at lw_m3 201 rfl) rfl
theorem q755 : (Jvm.Cond.laysFinal "SpoilMeadows" "SpoilMeadows" "saved" "Ljava/util/ArrayDeque;") ∈ lw_all := lw_g (lw_at lw_m3 202 rfl) rfl
theorem q756 : (Jvm.Cond.soleField "SpoilMeadows" "saved") ∈ lw_all := lw_g (lw_at lw_m3 203 rfl) rfl
theorem q757 : (Jvm.Cond.laysFinal "SpoilMeadows" "SpoilMeadows" "slots" "[LSpoilMeadows$State;") ∈ lw_all := lw_g (lw_at lw_m3 204 rfl) rfl
theorem q758 : (Jvm.Cond.soleField "SpoilMeadows" "slots") ∈ lw_all := lw_g (lw_at lw_m3 205 rfl) rfl
theorem q759 : (Jvm.Cond.laysFinal "SpoilMeadows" "SpoilMeadows" "buffer" "Ljava/lang/StringBuilder;") ∈ lw_all := lw_g (lw_at lw_m3 206 rfl) rfl
theorem q760 : (Jvm.Cond.soleField "SpoilMeadows" "buffer") ∈ lw_all := lw_g (lw_at lw_m3 207 rfl) rfl
theorem q761 : (Jvm.Cond.laysFinal "SpoilMeadows" "SpoilMeadows" "loads" "LSpoilMeadows$Sum;") ∈ lw_all := lw_g (lw_at lw_m3 208 rfl) rfl
theorem q762 : (Jvm.Cond.soleField "SpoilMeadows" "loads") ∈ lw_all := lw_g (lw_at lw_m3 209 rfl) rfl
theorem q763 : (Jvm.Cond.laysFinal "SpoilMeadows" "SpoilMeadows" "laidLoads" "LSpoilMeadows$Sum;") ∈ lw_all := lw_g (lw_at lw_m3 210 rfl) rfl
theorem q764 : (Jvm.Cond.soleField "SpoilMeadows" "laidLoads") ∈ lw_all := lw_g (lw_at lw_m3 211 rfl) rfl
theorem q765 : (Jvm.Cond.laysFinal "SpoilMeadows" "SpoilMeadows" "raises" "LSpoilMeadows$Measure;") ∈ lw_all := lw_g (lw_at lw_m3 212 rfl) rfl
theorem q766 : (Jvm.Cond.soleField "SpoilMeadows" "raises") ∈ lw_all := lw_g (lw_at lw_m3 213 rfl) rfl
theorem q767 : (Jvm.Cond.laysFinal "SpoilMeadows" "SpoilMeadows" "lays" "LSpoilMeadows$Measure;") ∈ lw_all := lw_g (lw_at lw_m3 214 rfl) rfl
theorem q768 : (Jvm.Cond.soleField "SpoilMeadows" "lays") ∈ lw_all := lw_g (lw_at lw_m3 215 rfl) rfl
theorem q769 : (Jvm.Cond.laysFinal "SpoilMeadows" "SpoilMeadows" "carries" "LSpoilMeadows$Measure;") ∈ lw_all := lw_g (lw_at lw_m3 216 rfl) rfl
theorem q770 : (Jvm.Cond.soleField "SpoilMeadows" "carries") ∈ lw_all := lw_g (lw_at lw_m3 217 rfl) rfl
theorem q771 : (Jvm.Cond.laysFinal "SpoilMeadows" "SpoilMeadows" "waits" "LSpoilMeadows$Measure;") ∈ lw_all := lw_g (lw_at lw_m3 218 rfl) rfl
theorem q772 : (Jvm.Cond.soleField "SpoilMeadows" "waits") ∈ lw_all := lw_g (lw_at lw_m3 219 rfl) rfl
theorem q773 : (Jvm.Cond.laysFinal "SpoilMeadows" "SpoilMeadows" "silts" "LSpoilMeadows$Measure;") ∈ lw_all := lw_g (lw_at lw_m3 220 rfl) rfl
theorem q774 : (Jvm.Cond.soleField "SpoilMeadows" "silts") ∈ lw_all := lw_g (lw_at lw_m3 221 rfl) rfl
theorem q775 : (Jvm.Cond.lays "SpoilMeadows" "SpoilMeadows" "hash" "J") ∈ lw_all := lw_g (lw_at lw_m3 222 rfl) rfl
theorem q776 : (Jvm.Cond.soleField "SpoilMeadows" "hash") ∈ lw_all := lw_g (lw_at lw_m3 223 rfl) rfl
theorem q777 : (Jvm.Cond.superclass "SpoilMeadows" "java/lang/Object") ∈ lw_all := lw_g (lw_at lw_m3 224 rfl) rfl
theorem q779 : (Jvm.Cond.instanceMethod ({ cls := "SpoilMeadows", name := "clearBuffer", desc := "()I" } : Jvm.MethodName)) ∈ lw_all := lw_g (lw_at lw_m3 226 rfl) rfl
theorem q780 : (Jvm.Cond.selects "SpoilMeadows" ({ cls := "SpoilMeadows", name := "clearBuffer", desc := "()I" } : Jvm.MethodName) ({ cls := "SpoilMeadows", name := "clearBuffer", desc := "()I" } : Jvm.MethodName)) ∈ lw_all := lw_g (lw_at lw_m3 227 rfl) rfl
theorem q781 : (Jvm.Cond.code ({ cls := "SpoilMeadows", name := "clearBuffer", desc := "()I" } : Jvm.MethodName) prog_1_method_33_code (2 : Nat) (Option.some Jvm.ClassFile.FieldType.int)) ∈ lw_all := lw_g (lw_at lw_m3 228 rfl) rfl
theorem q782 : (Jvm.Cond.methodLink "SpoilMeadows" (250 : Nat) ({ cls := "java/lang/StringBuilder", name := "length", desc := "()I" } : Jvm.MethodName)) ∈ lw_all := lw_g (lw_at lw_m3 229 rfl) rfl
theorem q783 : (Jvm.Cond.methodLink "SpoilMeadows" (257 : Nat) ({ cls := "java/lang/StringBuilder", name := "setLength", desc := "(I)V" } : Jvm.MethodName)) ∈ lw_all := lw_g (lw_at lw_m3 230 rfl) rfl
theorem q852 : (Jvm.Cond.instanceMethod ({ cls := "SpoilMeadows", name := "firstError", desc := "()I" } : Jvm.MethodName)) ∈ lw_all := lw_g (lw_at lw_m4 59 rfl) rfl
theorem q853 : (Jvm.Cond.selects "SpoilMeadows" ({ cls := "SpoilMeadows", name := "firstError", desc := "()I" } : Jvm.MethodName) ({ cls := "SpoilMeadows", name := "firstError", desc := "()I" } : Jvm.MethodName)) ∈ lw_all := lw_g (lw_at lw_m4 60 rfl) rfl
theorem q854 : (Jvm.Cond.code ({ cls := "SpoilMeadows", name := "firstError", desc := "()I" } : Jvm.MethodName) prog_1_method_34_code (3 : Nat) (Option.some Jvm.ClassFile.FieldType.int)) ∈ lw_all := lw_g (lw_at lw_m4 61 rfl) rfl
theorem q855 : (Jvm.Cond.classLink "SpoilMeadows" (260 : Nat) "SpoilMeadows$Reader") ∈ lw_all := lw_g (lw_at lw_m4 62 rfl) rfl
theorem q857 : (Jvm.Cond.methodLinkNest "SpoilMeadows" (262 : Nat) ({ cls := "SpoilMeadows$Reader", name := "<init>", desc := "(LSpoilMeadows;)V" } : Jvm.MethodName) "SpoilMeadows") ∈ lw_tbl := lw_at lw_m4 64 rfl
theorem q862 : (Jvm.Cond.fieldLinkNest "SpoilMeadows" (267 : Nat) "SpoilMeadows$Reader" "at" "I" "SpoilMeadows") ∈ lw_tbl := lw_at lw_m4 69 rfl
theorem q878 : (Jvm.Cond.methodLink "SpoilMeadows" (263 : Nat) ({ cls := "SpoilMeadows$Reader", name := "isWhole", desc := "()Z" } : Jvm.MethodName)) ∈ lw_all := lw_g (lw_at lw_m4 85 rfl) rfl
theorem q918 : (Jvm.Cond.static ({ cls := "SpoilMeadows", name := "inRange", desc := "(III)Z" } : Jvm.MethodName)) ∈ lw_all := lw_g (lw_at lw_m4 125 rfl) rfl
theorem q919 : (Jvm.Cond.code ({ cls := "SpoilMeadows", name := "inRange", desc := "(III)Z" } : Jvm.MethodName) prog_1_method_1_code (3 : Nat) (Option.some Jvm.ClassFile.FieldType.boolean)) ∈ lw_all := lw_g (lw_at lw_m4 126 rfl) rfl
theorem q930 : (Jvm.Cond.instanceMethod ({ cls := "SpoilMeadows", name := "best", desc := "()I" } : Jvm.MethodName)) ∈ lw_all := lw_g (lw_at lw_m4 137 rfl) rfl
theorem q931 : (Jvm.Cond.selects "SpoilMeadows" ({ cls := "SpoilMeadows", name := "best", desc := "()I" } : Jvm.MethodName) ({ cls := "SpoilMeadows", name := "best", desc := "()I" } : Jvm.MethodName)) ∈ lw_all := lw_g (lw_at lw_m4 138 rfl) rfl
theorem q932 : (Jvm.Cond.code ({ cls := "SpoilMeadows", name := "best", desc := "()I" } : Jvm.MethodName) prog_1_method_55_code (1 : Nat) (Option.some Jvm.ClassFile.FieldType.int)) ∈ lw_all := lw_g (lw_at lw_m4 139 rfl) rfl
theorem q933 : (Jvm.Cond.methodLink "SpoilMeadows" (374 : Nat) ({ cls := "SpoilMeadows$State", name := "bestMeadow", desc := "()I" } : Jvm.MethodName)) ∈ lw_all := lw_g (lw_at lw_m4 140 rfl) rfl
theorem q970 : (Jvm.Cond.instanceMethod ({ cls := "SpoilMeadows", name := "clearIn", desc := "()I" } : Jvm.MethodName)) ∈ lw_all := lw_g (lw_at lw_m4 177 rfl) rfl
theorem q971 : (Jvm.Cond.selects "SpoilMeadows" ({ cls := "SpoilMeadows", name := "clearIn", desc := "()I" } : Jvm.MethodName) ({ cls := "SpoilMeadows", name := "clearIn", desc := "()I" } : Jvm.MethodName)) ∈ lw_all := lw_g (lw_at lw_m4 178 rfl) rfl
theorem q972 : (Jvm.Cond.code ({ cls := "SpoilMeadows", name := "clearIn", desc := "()I" } : Jvm.MethodName) prog_1_method_57_code (1 : Nat) (Option.some Jvm.ClassFile.FieldType.int)) ∈ lw_all := lw_g (lw_at lw_m4 179 rfl) rfl
theorem q973 : (Jvm.Cond.methodLink "SpoilMeadows" (380 : Nat) ({ cls := "SpoilMeadows", name := "daysToClear", desc := "()I" } : Jvm.MethodName)) ∈ lw_all := lw_g (lw_at lw_m4 180 rfl) rfl
theorem q974 : (Jvm.Cond.privateMethod ({ cls := "SpoilMeadows", name := "daysToClear", desc := "()I" } : Jvm.MethodName)) ∈ lw_tbl := lw_at lw_m4 181 rfl
theorem q975 : (Jvm.Cond.instanceMethod ({ cls := "SpoilMeadows", name := "daysToClear", desc := "()I" } : Jvm.MethodName)) ∈ lw_all := lw_g (lw_at lw_m4 182 rfl) rfl
theorem q976 : (Jvm.Cond.code ({ cls := "SpoilMeadows", name := "daysToClear", desc := "()I" } : Jvm.MethodName) prog_1_method_56_code (3 : Nat) (Option.some Jvm.ClassFile.FieldType.int)) ∈ lw_all := lw_g (lw_at lw_m4 183 rfl) rfl
theorem q977 : (Jvm.Cond.methodLink "SpoilMeadows" (117 : Nat) ({ cls := "SpoilMeadows$State", name := "twin", desc := "()LSpoilMeadows$State;" } : Jvm.MethodName)) ∈ lw_all := lw_g (lw_at lw_m4 184 rfl) rfl
theorem q1000 : (Jvm.Cond.fieldLinkNest "SpoilMeadows" (297 : Nat) "SpoilMeadows$Barge" "size" "I" "SpoilMeadows") ∈ lw_tbl := lw_at lw_m4 207 rfl
theorem q1004 : (Jvm.Cond.fieldLinkNest "SpoilMeadows" (299 : Nat) "SpoilMeadows$Barge" "mode" "I" "SpoilMeadows") ∈ lw_tbl := lw_at lw_m4 211 rfl
theorem q1008 : (Jvm.Cond.fieldLinkNest "SpoilMeadows" (302 : Nat) "SpoilMeadows$Barge" "load" "I" "SpoilMeadows") ∈ lw_tbl := lw_at lw_m4 215 rfl
theorem q1011 : (Jvm.Cond.fieldLinkNest "SpoilMeadows" (305 : Nat) "SpoilMeadows$Barge" "goal" "I" "SpoilMeadows") ∈ lw_tbl := lw_at lw_m4 218 rfl
theorem q1013 : (Jvm.Cond.fieldLinkNest "SpoilMeadows" (311 : Nat) "SpoilMeadows$Barge" "left" "I" "SpoilMeadows") ∈ lw_tbl := lw_at lw_m4 220 rfl
theorem q1016 : (Jvm.Cond.fieldLinkNest "SpoilMeadows" (149 : Nat) "SpoilMeadows$Barge" "order" "I" "SpoilMeadows") ∈ lw_tbl := lw_at lw_m4 223 rfl
theorem q1020 : (Jvm.Cond.fieldLinkNest "SpoilMeadows" (318 : Nat) "SpoilMeadows$Barge" "laid" "I" "SpoilMeadows") ∈ lw_tbl := lw_at lw_m4 227 rfl
theorem q1043 : (Jvm.Cond.methodLink "SpoilMeadows" (377 : Nat) ({ cls := "SpoilMeadows$State", name := "goOn", desc := "()Z" } : Jvm.MethodName)) ∈ lw_all := lw_g (lw_at lw_m5 10 rfl) rfl
theorem q1129 : (Jvm.Cond.instanceMethod ({ cls := "SpoilMeadows", name := "laidShare", desc := "()D" } : Jvm.MethodName)) ∈ lw_all := lw_g (lw_at lw_m5 96 rfl) rfl
theorem q1130 : (Jvm.Cond.selects "SpoilMeadows" ({ cls := "SpoilMeadows", name := "laidShare", desc := "()D" } : Jvm.MethodName) ({ cls := "SpoilMeadows", name := "laidShare", desc := "()D" } : Jvm.MethodName)) ∈ lw_all := lw_g (lw_at lw_m5 97 rfl) rfl
theorem q1131 : (Jvm.Cond.code ({ cls := "SpoilMeadows", name := "laidShare", desc := "()D" } : Jvm.MethodName) prog_1_method_61_code (1 : Nat) (Option.some Jvm.ClassFile.FieldType.double)) ∈ lw_all := lw_g (lw_at lw_m5 98 rfl) rfl
theorem q1132 : (Jvm.Cond.methodLink "SpoilMeadows" (386 : Nat) ({ cls := "SpoilMeadows", name := "laidNow", desc := "()D" } : Jvm.MethodName)) ∈ lw_all := lw_g (lw_at lw_m5 99 rfl) rfl
theorem q1133 : (Jvm.Cond.privateMethod ({ cls := "SpoilMeadows", name := "laidNow", desc := "()D" } : Jvm.MethodName)) ∈ lw_tbl := lw_at lw_m5 100 rfl
theorem q1134 : (Jvm.Cond.instanceMethod ({ cls := "SpoilMeadows", name := "laidNow", desc := "()D" } : Jvm.MethodName)) ∈ lw_all := lw_g (lw_at lw_m5 101 rfl) rfl
theorem q1135 : (Jvm.Cond.code ({ cls := "SpoilMeadows", name := "laidNow", desc := "()D" } : Jvm.MethodName) prog_1_method_60_code (2 : Nat) (Option.some Jvm.ClassFile.FieldType.double)) ∈ lw_all := lw_g (lw_at lw_m5 102 rfl) rfl
theorem q1137 : (Jvm.Cond.instanceMethod ({ cls := "SpoilMeadows", name := "digest", desc := "()J" } : Jvm.MethodName)) ∈ lw_all := lw_g (lw_at lw_m5 104 rfl) rfl
theorem q1138 : (Jvm.Cond.selects "SpoilMeadows" ({ cls := "SpoilMeadows", name := "digest", desc := "()J" } : Jvm.MethodName) ({ cls := "SpoilMeadows", name := "digest", desc := "()J" } : Jvm.MethodName)) ∈ lw_all := lw_g (lw_at lw_m5 105 rfl) rfl
theorem q1139 : (Jvm.Cond.code ({ cls := "SpoilMeadows", name := "digest", desc := "()J" } : Jvm.MethodName) prog_1_method_64_code (5 : Nat) (Option.some Jvm.ClassFile.FieldType.long)) ∈ lw_all := lw_g (lw_at lw_m5 106 rfl) rfl
theorem q1140 : (Jvm.Cond.constantLong "SpoilMeadows" (400 : Nat) (3137 : Int64)) ∈ lw_all := lw_g (lw_at lw_m5 107 rfl) rfl
theorem q1141 : (Jvm.Cond.methodLink "SpoilMeadows" (360 : Nat) ({ cls := "SpoilMeadows", name := "counted", desc := "(I)I" } : Jvm.MethodName)) ∈ lw_all := lw_g (lw_at lw_m5 108 rfl) rfl
theorem q1142 : (Jvm.Cond.privateMethod ({ cls := "SpoilMeadows", name := "counted", desc := "(I)I" } : Jvm.MethodName)) ∈ lw_tbl := lw_at lw_m5 109 rfl
theorem q1143 : (Jvm.Cond.instanceMethod ({ cls := "SpoilMeadows", name := "counted", desc := "(I)I" } : Jvm.MethodName)) ∈ lw_all := lw_g (lw_at lw_m5 110 rfl) rfl
theorem q1144 : (Jvm.Cond.code ({ cls := "SpoilMeadows", name := "counted", desc := "(I)I" } : Jvm.MethodName) prog_1_method_49_code (2 : Nat) (Option.some Jvm.ClassFile.FieldType.int)) ∈ lw_all := lw_g (lw_at lw_m5 111 rfl) rfl
theorem q1145 : (Jvm.Cond.methodLink "SpoilMeadows" (127 : Nat) ({ cls := "java/util/ArrayList", name := "size", desc := "()I" } : Jvm.MethodName)) ∈ lw_all := lw_g (lw_at lw_m5 112 rfl) rfl
theorem q1146 : (Jvm.Cond.methodLink "SpoilMeadows" (352 : Nat) ({ cls := "SpoilMeadows", name := "bargesIn", desc := "(I)I" } : Jvm.MethodName)) ∈ lw_all := lw_g (lw_at lw_m5 113 rfl) rfl
theorem q1147 : (Jvm.Cond.privateMethod ({ cls := "SpoilMeadows", name := "bargesIn", desc := "(I)I" } : Jvm.MethodName)) ∈ lw_tbl := lw_at lw_m5 114 rfl
theorem q1148 : (Jvm.Cond.instanceMethod ({ cls := "SpoilMeadows", name := "bargesIn", desc := "(I)I" } : Jvm.MethodName)) ∈ lw_all := lw_g (lw_at lw_m5 115 rfl) rfl
theorem q1149 : (Jvm.Cond.code ({ cls := "SpoilMeadows", name := "bargesIn", desc := "(I)I" } : Jvm.MethodName) prog_1_method_46_code (2 : Nat) (Option.some Jvm.ClassFile.FieldType.int)) ∈ lw_all := lw_g (lw_at lw_m5 116 rfl) rfl
theorem q1150 : (Jvm.Cond.classLink "SpoilMeadows" (337 : Nat) "SpoilMeadows$1In") ∈ lw_all := lw_g (lw_at lw_m5 117 rfl) rfl
theorem q1152 : (Jvm.Cond.methodLink "SpoilMeadows" (339 : Nat) ({ cls := "SpoilMeadows$1In", name := "<init>", desc := "(LSpoilMeadows;I)V" } : Jvm.MethodName)) ∈ lw_all := lw_g (lw_at lw_m5 119 rfl) rfl
theorem q1163 : (Jvm.Cond.methodLink "SpoilMeadows" (342 : Nat) ({ cls := "SpoilMeadows$1In", name := "over", desc := "(LSpoilMeadows$State;)I" } : Jvm.MethodName)) ∈ lw_all := lw_g (lw_at lw_m5 130 rfl) rfl
theorem q1167 : (Jvm.Cond.methodLink "SpoilMeadows" (357 : Nat) ({ cls := "SpoilMeadows", name := "openMeadows", desc := "()I" } : Jvm.MethodName)) ∈ lw_all := lw_g (lw_at lw_m5 134 rfl) rfl
theorem q1168 : (Jvm.Cond.privateMethod ({ cls := "SpoilMeadows", name := "openMeadows", desc := "()I" } : Jvm.MethodName)) ∈ lw_tbl := lw_at lw_m5 135 rfl
theorem q1169 : (Jvm.Cond.instanceMethod ({ cls := "SpoilMeadows", name := "openMeadows", desc := "()I" } : Jvm.MethodName)) ∈ lw_all := lw_g (lw_at lw_m5 136 rfl) rfl
theorem q1170 : (Jvm.Cond.code ({ cls := "SpoilMeadows", name := "openMeadows", desc := "()I" } : Jvm.MethodName) prog_1_method_48_code (3 : Nat) (Option.some Jvm.ClassFile.FieldType.int)) ∈ lw_all := lw_g (lw_at lw_m5 137 rfl) rfl
theorem q1171 : (Jvm.Cond.methodLink "SpoilMeadows" (331 : Nat) ({ cls := "SpoilMeadows$State", name := "isOpen", desc := "(I)Z" } : Jvm.MethodName)) ∈ lw_all := lw_g (lw_at lw_m5 138 rfl) rfl
theorem q1172 : (Jvm.Cond.methodLink "SpoilMeadows" (203 : Nat) ({ cls := "SpoilMeadows", name := "flag", desc := "(Z)I" } : Jvm.MethodName)) ∈ lw_all := lw_g (lw_at lw_m5 139 rfl) rfl
theorem q1173 : (Jvm.Cond.methodLink "SpoilMeadows" (109 : Nat) ({ cls := "java/util/ArrayDeque", name := "size", desc := "()I" } : Jvm.MethodName)) ∈ lw_all := lw_g (lw_at lw_m5 140 rfl) rfl
theorem q1180 : (Jvm.Cond.methodLink "SpoilMeadows" (396 : Nat) ({ cls := "SpoilMeadows", name := "mix", desc := "(J)V" } : Jvm.MethodName)) ∈ lw_all := lw_g (lw_at lw_m5 147 rfl) rfl
theorem q1181 : (Jvm.Cond.privateMethod ({ cls := "SpoilMeadows", name := "mix", desc := "(J)V" } : Jvm.MethodName)) ∈ lw_tbl := lw_at lw_m5 148 rfl
theorem q1182 : (Jvm.Cond.instanceMethod ({ cls := "SpoilMeadows", name := "mix", desc := "(J)V" } : Jvm.MethodName)) ∈ lw_all := lw_g (lw_at lw_m5 149 rfl) rfl
theorem q1183 : (Jvm.Cond.code ({ cls := "SpoilMeadows", name := "mix", desc := "(J)V" } : Jvm.MethodName) prog_1_method_62_code (3 : Nat) (Option.none : Option Jvm.ClassFile.FieldType)) ∈ lw_all := lw_g (lw_at lw_m5 150 rfl) rfl
theorem q1184 : (Jvm.Cond.constantLong "SpoilMeadows" (390 : Nat) (31 : Int64)) ∈ lw_all := lw_g (lw_at lw_m5 151 rfl) rfl
theorem q1185 : (Jvm.Cond.methodLink "SpoilMeadows" (402 : Nat) ({ cls := "SpoilMeadows", name := "mixParts", desc := "()V" } : Jvm.MethodName)) ∈ lw_all := lw_g (lw_at lw_m5 152 rfl) rfl
theorem q1186 : (Jvm.Cond.privateMethod ({ cls := "SpoilMeadows", name := "mixParts", desc := "()V" } : Jvm.MethodName)) ∈ lw_tbl := lw_at lw_m5 153 rfl
theorem q1187 : (Jvm.Cond.instanceMethod ({ cls := "SpoilMeadows", name := "mixParts", desc := "()V" } : Jvm.MethodName)) ∈ lw_all := lw_g (lw_at lw_m5 154 rfl) rfl
theorem q1188 : (Jvm.Cond.code ({ cls := "SpoilMeadows", name := "mixParts", desc := "()V" } : Jvm.MethodName) prog_1_method_63_code (2 : Nat) (Option.none : Option Jvm.ClassFile.FieldType)) ∈ lw_all := lw_g (lw_at lw_m5 155 rfl) rfl
theorem q1189 : (Jvm.Cond.methodLink "SpoilMeadows" (294 : Nat) ({ cls := "SpoilMeadows", name := "reachPart", desc := "(II)I" } : Jvm.MethodName)) ∈ lw_all := lw_g (lw_at lw_m5 156 rfl) rfl
theorem q1190 : (Jvm.Cond.privateMethod ({ cls := "SpoilMeadows", name := "reachPart", desc := "(II)I" } : Jvm.MethodName)) ∈ lw_tbl := lw_at lw_m5 157 rfl
theorem q1191 : (Jvm.Cond.instanceMethod ({ cls := "SpoilMeadows", name := "reachPart", desc := "(II)I" } : Jvm.MethodName)) ∈ lw_all := lw_g (lw_at lw_m5 158 rfl) rfl
theorem q1192 : (Jvm.Cond.code ({ cls := "SpoilMeadows", name := "reachPart", desc := "(II)I" } : Jvm.MethodName) prog_1_method_40_code (3 : Nat) (Option.some Jvm.ClassFile.FieldType.int)) ∈ lw_all := lw_g (lw_at lw_m5 159 rfl) rfl
theorem q1193 : (Jvm.Cond.methodLink "SpoilMeadows" (145 : Nat) ({ cls := "SpoilMeadows", name := "at", desc := "(I)LSpoilMeadows$Barge;" } : Jvm.MethodName)) ∈ lw_all := lw_g (lw_at lw_m5 160 rfl) rfl
theorem q1194 : (Jvm.Cond.privateMethod ({ cls := "SpoilMeadows", name := "at", desc := "(I)LSpoilMeadows$Barge;" } : Jvm.MethodName)) ∈ lw_tbl := lw_at lw_m5 161 rfl
theorem q1195 : (Jvm.Cond.instanceMethod ({ cls := "SpoilMeadows", name := "at", desc := "(I)LSpoilMeadows$Barge;" } : Jvm.MethodName)) ∈ lw_all := lw_g (lw_at lw_m5 162 rfl) rfl
theorem q1196 : (Jvm.Cond.code ({ cls := "SpoilMeadows", name := "at", desc := "(I)LSpoilMeadows$Barge;" } : Jvm.MethodName) prog_1_method_12_code (2 : Nat) (Option.some (Jvm.ClassFile.FieldType.object "SpoilMeadows$Barge"))) ∈ lw_all := lw_g (lw_at lw_m5 163 rfl) rfl
theorem q1197 : (Jvm.Cond.classLink "SpoilMeadows" (132 : Nat) "SpoilMeadows$Barge") ∈ lw_all := lw_g (lw_at lw_m5 164 rfl) rfl
theorem q1198 : (Jvm.Cond.methodLink "SpoilMeadows" (321 : Nat) ({ cls := "SpoilMeadows", name := "bargePart", desc := "(LSpoilMeadows$Barge;I)I" } : Jvm.MethodName)) ∈ lw_all := lw_g (lw_at lw_m5 165 rfl) rfl
theorem q1199 : (Jvm.Cond.privateMethod ({ cls := "SpoilMeadows", name := "bargePart", desc := "(LSpoilMeadows$Barge;I)I" } : Jvm.MethodName)) ∈ lw_tbl := lw_at lw_m5 166 rfl
theorem q1200 : (Jvm.Cond.instanceMethod ({ cls := "SpoilMeadows", name := "bargePart", desc := "(LSpoilMeadows$Barge;I)I" } : Jvm.MethodName)) ∈ lw_all := lw_g (lw_at lw_m5 167 rfl) rfl
theorem q1201 : (Jvm.Cond.code ({ cls := "SpoilMeadows", name := "bargePart", desc := "(LSpoilMeadows$Barge;I)I" } : Jvm.MethodName) prog_1_method_42_code (3 : Nat) (Option.some Jvm.ClassFile.FieldType.int)) ∈ lw_all := lw_g (lw_at lw_m5 168 rfl) rfl
theorem q1202 : (Jvm.Cond.methodLink "SpoilMeadows" (308 : Nat) ({ cls := "SpoilMeadows$Barge", name := "isUnderWay", desc := "()Z" } : Jvm.MethodName)) ∈ lw_all := lw_g (lw_at lw_m5 169 rfl) rfl
theorem q1203 : (Jvm.Cond.methodLink "SpoilMeadows" (314 : Nat) ({ cls := "SpoilMeadows$State", name := "reason", desc := "(LSpoilMeadows$Barge;)I" } : Jvm.MethodName)) ∈ lw_all := lw_g (lw_at lw_m5 170 rfl) rfl
theorem q1208 : (Jvm.Cond.methodLink "SpoilMeadows" (334 : Nat) ({ cls := "SpoilMeadows", name := "meadowPart", desc := "(II)I" } : Jvm.MethodName)) ∈ lw_all := lw_g (lw_at lw_m5 175 rfl) rfl
theorem q1209 : (Jvm.Cond.privateMethod ({ cls := "SpoilMeadows", name := "meadowPart", desc := "(II)I" } : Jvm.MethodName)) ∈ lw_tbl := lw_at lw_m5 176 rfl
theorem q1210 : (Jvm.Cond.instanceMethod ({ cls := "SpoilMeadows", name := "meadowPart", desc := "(II)I" } : Jvm.MethodName)) ∈ lw_all := lw_g (lw_at lw_m5 177 rfl) rfl
theorem q1211 : (Jvm.Cond.code ({ cls := "SpoilMeadows", name := "meadowPart", desc := "(II)I" } : Jvm.MethodName) prog_1_method_44_code (4 : Nat) (Option.some Jvm.ClassFile.FieldType.int)) ∈ lw_all := lw_g (lw_at lw_m5 178 rfl) rfl
theorem q1212 : (Jvm.Cond.methodLink "SpoilMeadows" (181 : Nat) ({ cls := "SpoilMeadows", name := "field", desc := "(I)LSpoilMeadows$Meadow;" } : Jvm.MethodName)) ∈ lw_all := lw_g (lw_at lw_m5 179 rfl) rfl
theorem q1213 : (Jvm.Cond.privateMethod ({ cls := "SpoilMeadows", name := "field", desc := "(I)LSpoilMeadows$Meadow;" } : Jvm.MethodName)) ∈ lw_tbl := lw_at lw_m5 180 rfl
theorem q1214 : (Jvm.Cond.instanceMethod ({ cls := "SpoilMeadows", name := "field", desc := "(I)LSpoilMeadows$Meadow;" } : Jvm.MethodName)) ∈ lw_all := lw_g (lw_at lw_m5 181 rfl) rfl
theorem q1215 : (Jvm.Cond.code ({ cls := "SpoilMeadows", name := "field", desc := "(I)LSpoilMeadows$Meadow;" } : Jvm.MethodName) prog_1_method_19_code (2 : Nat) (Option.some (Jvm.ClassFile.FieldType.object "SpoilMeadows$Meadow"))) ∈ lw_all := lw_g (lw_at lw_m5 182 rfl) rfl
theorem q1216 : (Jvm.Cond.methodLink "SpoilMeadows" (210 : Nat) ({ cls := "java/lang/Math", name := "max", desc := "(II)I" } : Jvm.MethodName)) ∈ lw_all := lw_g (lw_at lw_m5 183 rfl) rfl
theorem q1217 : (Jvm.Cond.methodLink "SpoilMeadows" (328 : Nat) ({ cls := "SpoilMeadows$State", name := "room", desc := "(I)I" } : Jvm.MethodName)) ∈ lw_all := lw_g (lw_at lw_m5 184 rfl) rfl
theorem q1218 : (Jvm.Cond.methodLink "SpoilMeadows" (371 : Nat) ({ cls := "SpoilMeadows", name := "passedThen", desc := "(II)I" } : Jvm.MethodName)) ∈ lw_all := lw_g (lw_at lw_m5 185 rfl) rfl
theorem q1219 : (Jvm.Cond.privateMethod ({ cls := "SpoilMeadows", name := "passedThen", desc := "(II)I" } : Jvm.MethodName)) ∈ lw_tbl := lw_at lw_m5 186 rfl
theorem q1220 : (Jvm.Cond.instanceMethod ({ cls := "SpoilMeadows", name := "passedThen", desc := "(II)I" } : Jvm.MethodName)) ∈ lw_all := lw_g (lw_at lw_m5 187 rfl) rfl
theorem q1221 : (Jvm.Cond.code ({ cls := "SpoilMeadows", name := "passedThen", desc := "(II)I" } : Jvm.MethodName) prog_1_method_53_code (3 : Nat) (Option.some Jvm.ClassFile.FieldType.int)) ∈ lw_all := lw_g (lw_at lw_m5 188 rfl) rfl
theorem q1222 : (Jvm.Cond.methodLink "SpoilMeadows" (363 : Nat) ({ cls := "SpoilMeadows", name := "measureOf", desc := "(I)LSpoilMeadows$Measure;" } : Jvm.MethodName)) ∈ lw_all := lw_g (lw_at lw_m5 189 rfl) rfl
theorem q1223 : (Jvm.Cond.privateMethod ({ cls := "SpoilMeadows", name := "measureOf", desc := "(I)LSpoilMeadows$Measure;" } : Jvm.MethodName)) ∈ lw_tbl := lw_at lw_m5 190 rfl
theorem q1224 : (Jvm.Cond.instanceMethod ({ cls := "SpoilMeadows", name := "measureOf", desc := "(I)LSpoilMeadows$Measure;" } : Jvm.MethodName)) ∈ lw_all := lw_g (lw_at lw_m5 191 rfl) rfl
theorem q1225 : (Jvm.Cond.code ({ cls := "SpoilMeadows", name := "measureOf", desc := "(I)LSpoilMeadows$Measure;" } : Jvm.MethodName) prog_1_method_52_code (2 : Nat) (Option.some (Jvm.ClassFile.FieldType.object "SpoilMeadows$Measure"))) ∈ lw_all := lw_g (lw_at lw_m5 192 rfl) rfl
theorem q1226 : (Jvm.Cond.methodLink "SpoilMeadows" (228 : Nat) ({ cls := "SpoilMeadows$State", name := "behind", desc := "(I)LSpoilMeadows$State;" } : Jvm.MethodName)) ∈ lw_all := lw_g (lw_at lw_m5 193 rfl) rfl
theorem q1231 : (Jvm.Cond.interfaceEntry "SpoilMeadows" (367 : Nat)) ∈ lw_tbl := lw_at lw_m5 198 rfl
theorem q1232 : (Jvm.Cond.methodLink "SpoilMeadows" (367 : Nat) ({ cls := "SpoilMeadows$Measure", name := "of", desc := "(LSpoilMeadows$State;)I" } : Jvm.MethodName)) ∈ lw_all := lw_g (lw_at lw_m5 199 rfl) rfl
theorem q1235 : (Jvm.Cond.methodLink "SpoilMeadows" (383 : Nat) ({ cls := "SpoilMeadows", name := "bestReachFor", desc := "(I)I" } : Jvm.MethodName)) ∈ lw_all := lw_g (lw_at lw_m5 202 rfl) rfl
theorem q1236 : (Jvm.Cond.privateMethod ({ cls := "SpoilMeadows", name := "bestReachFor", desc := "(I)I" } : Jvm.MethodName)) ∈ lw_tbl := lw_at lw_m5 203 rfl
theorem q1237 : (Jvm.Cond.instanceMethod ({ cls := "SpoilMeadows", name := "bestReachFor", desc := "(I)I" } : Jvm.MethodName)) ∈ lw_all := lw_g (lw_at lw_m5 204 rfl) rfl
theorem q1238 : (Jvm.Cond.code ({ cls := "SpoilMeadows", name := "bestReachFor", desc := "(I)I" } : Jvm.MethodName) prog_1_method_58_code (7 : Nat) (Option.some Jvm.ClassFile.FieldType.int)) ∈ lw_all := lw_g (lw_at lw_m5 205 rfl) rfl
theorem q1239 : (Jvm.Cond.methodLink "SpoilMeadows" (405 : Nat) ({ cls := "java/lang/Double", name := "doubleToLongBits", desc := "(D)J" } : Jvm.MethodName)) ∈ lw_all := lw_g (lw_at lw_m5 206 rfl) rfl
theorem q1249 : (Jvm.Cond.methodLink "SpoilMeadows" (411 : Nat) ({ cls := "java/lang/StringBuilder", name := "charAt", desc := "(I)C" } : Jvm.MethodName)) ∈ lw_all := lw_g (lw_at lw_m5 216 rfl) rfl
theorem q1256 : (Jvm.Cond.instanceMethod ({ cls := "SpoilMeadows", name := "barge", desc := "(I)I" } : Jvm.MethodName)) ∈ lw_all := lw_g (lw_at lw_m5 223 rfl) rfl
theorem q1257 : (Jvm.Cond.selects "SpoilMeadows" ({ cls := "SpoilMeadows", name := "barge", desc := "(I)I" } : Jvm.MethodName) ({ cls := "SpoilMeadows", name := "barge", desc := "(I)I" } : Jvm.MethodName)) ∈ lw_all := lw_g (lw_at lw_m5 224 rfl) rfl
theorem q1258 : (Jvm.Cond.code ({ cls := "SpoilMeadows", name := "barge", desc := "(I)I" } : Jvm.MethodName) prog_1_method_13_code (2 : Nat) (Option.some Jvm.ClassFile.FieldType.int)) ∈ lw_all := lw_g (lw_at lw_m5 225 rfl) rfl
theorem q1259 : (Jvm.Cond.methodLink "SpoilMeadows" (15 : Nat) ({ cls := "SpoilMeadows", name := "inRange", desc := "(III)Z" } : Jvm.MethodName)) ∈ lw_all := lw_g (lw_at lw_m5 226 rfl) rfl
theorem q1260 : (Jvm.Cond.methodLink "SpoilMeadows" (134 : Nat) ({ cls := "SpoilMeadows", name := "require", desc := "(Z)V" } : Jvm.MethodName)) ∈ lw_all := lw_g (lw_at lw_m5 227 rfl) rfl
theorem q1261 : (Jvm.Cond.static ({ cls := "SpoilMeadows", name := "require", desc := "(Z)V" } : Jvm.MethodName)) ∈ lw_all := lw_g (lw_at lw_m5 228 rfl) rfl
theorem q1262 : (Jvm.Cond.code ({ cls := "SpoilMeadows", name := "require", desc := "(Z)V" } : Jvm.MethodName) prog_1_method_2_code (1 : Nat) (Option.none : Option Jvm.ClassFile.FieldType)) ∈ lw_all := lw_g (lw_at lw_m5 229 rfl) rfl
theorem q1263 : (Jvm.Cond.classLink "SpoilMeadows" (1 : Nat) "java/lang/IllegalArgumentException") ∈ lw_all := lw_g (lw_at lw_m5 230 rfl) rfl
theorem q1264 : (Jvm.Cond.methodLink "SpoilMeadows" (3 : Nat) ({ cls := "java/lang/IllegalArgumentException", name := "<init>", desc := "()V" } : Jvm.MethodName)) ∈ lw_all := lw_g (lw_at lw_m5 231 rfl) rfl
theorem q1274 : (Jvm.Cond.methodLink "SpoilMeadows" (138 : Nat) ({ cls := "SpoilMeadows", name := "requireState", desc := "(Z)V" } : Jvm.MethodName)) ∈ lw_all := lw_g (lw_at lw_m6 1 rfl) rfl
theorem q1275 : (Jvm.Cond.static ({ cls := "SpoilMeadows", name := "requireState", desc := "(Z)V" } : Jvm.MethodName)) ∈ lw_all := lw_g (lw_at lw_m6 2 rfl) rfl
theorem q1276 : (Jvm.Cond.code ({ cls := "SpoilMeadows", name := "requireState", desc := "(Z)V" } : Jvm.MethodName) prog_1_method_3_code (1 : Nat) (Option.none : Option Jvm.ClassFile.FieldType)) ∈ lw_all := lw_g (lw_at lw_m6 3 rfl) rfl
theorem q1277 : (Jvm.Cond.classLink "SpoilMeadows" (7 : Nat) "java/lang/IllegalStateException") ∈ lw_all := lw_g (lw_at lw_m6 4 rfl) rfl
theorem q1286 : (Jvm.Cond.methodLink "SpoilMeadows" (9 : Nat) ({ cls := "java/lang/IllegalStateException", name := "<init>", desc := "()V" } : Jvm.MethodName)) ∈ lw_all := lw_g (lw_at lw_m6 13 rfl) rfl
theorem q1292 : (Jvm.Cond.methodLink "SpoilMeadows" (141 : Nat) ({ cls := "SpoilMeadows", name := "save", desc := "()V" } : Jvm.MethodName)) ∈ lw_all := lw_g (lw_at lw_m6 19 rfl) rfl
theorem q1293 : (Jvm.Cond.privateMethod ({ cls := "SpoilMeadows", name := "save", desc := "()V" } : Jvm.MethodName)) ∈ lw_tbl := lw_at lw_m6 20 rfl
theorem q1294 : (Jvm.Cond.instanceMethod ({ cls := "SpoilMeadows", name := "save", desc := "()V" } : Jvm.MethodName)) ∈ lw_all := lw_g (lw_at lw_m6 21 rfl) rfl
theorem q1295 : (Jvm.Cond.code ({ cls := "SpoilMeadows", name := "save", desc := "()V" } : Jvm.MethodName) prog_1_method_10_code (1 : Nat) (Option.none : Option Jvm.ClassFile.FieldType)) ∈ lw_all := lw_g (lw_at lw_m6 22 rfl) rfl
theorem q1296 : (Jvm.Cond.methodLink "SpoilMeadows" (113 : Nat) ({ cls := "java/util/ArrayDeque", name := "removeLast", desc := "()Ljava/lang/Object;" } : Jvm.MethodName)) ∈ lw_all := lw_g (lw_at lw_m6 23 rfl) rfl
theorem q1310 : (Jvm.Cond.methodLink "SpoilMeadows" (120 : Nat) ({ cls := "java/util/ArrayDeque", name := "push", desc := "(Ljava/lang/Object;)V" } : Jvm.MethodName)) ∈ lw_all := lw_g (lw_at lw_m6 37 rfl) rfl
theorem q1335 : (Jvm.Cond.methodLink "SpoilMeadows" (144 : Nat) ({ cls := "SpoilMeadows$Barge", name := "<init>", desc := "(I)V" } : Jvm.MethodName)) ∈ lw_all := lw_g (lw_at lw_m6 62 rfl) rfl
theorem q1343 : (Jvm.Cond.instanceMethod ({ cls := "SpoilMeadows", name := "order", desc := "(II)I" } : Jvm.MethodName)) ∈ lw_all := lw_g (lw_at lw_m6 70 rfl) rfl
theorem q1344 : (Jvm.Cond.selects "SpoilMeadows" ({ cls := "SpoilMeadows", name := "order", desc := "(II)I" } : Jvm.MethodName) ({ cls := "SpoilMeadows", name := "order", desc := "(II)I" } : Jvm.MethodName)) ∈ lw_all := lw_g (lw_at lw_m6 71 rfl) rfl
theorem q1345 : (Jvm.Cond.code ({ cls := "SpoilMeadows", name := "order", desc := "(II)I" } : Jvm.MethodName) prog_1_method_15_code (3 : Nat) (Option.some Jvm.ClassFile.FieldType.int)) ∈ lw_all := lw_g (lw_at lw_m6 72 rfl) rfl
theorem q1346 : (Jvm.Cond.methodLink "SpoilMeadows" (153 : Nat) ({ cls := "SpoilMeadows", name := "isBarge", desc := "(I)Z" } : Jvm.MethodName)) ∈ lw_all := lw_g (lw_at lw_m6 73 rfl) rfl
theorem q1347 : (Jvm.Cond.privateMethod ({ cls := "SpoilMeadows", name := "isBarge", desc := "(I)Z" } : Jvm.MethodName)) ∈ lw_tbl := lw_at lw_m6 74 rfl
theorem q1348 : (Jvm.Cond.instanceMethod ({ cls := "SpoilMeadows", name := "isBarge", desc := "(I)Z" } : Jvm.MethodName)) ∈ lw_all := lw_g (lw_at lw_m6 75 rfl) rfl
theorem q1349 : (Jvm.Cond.code ({ cls := "SpoilMeadows", name := "isBarge", desc := "(I)Z" } : Jvm.MethodName) prog_1_method_11_code (2 : Nat) (Option.some Jvm.ClassFile.FieldType.boolean)) ∈ lw_all := lw_g (lw_at lw_m6 76 rfl) rfl
theorem q1350 : (Jvm.Cond.methodLink "SpoilMeadows" (157 : Nat) ({ cls := "SpoilMeadows", name := "requireIndex", desc := "(Z)V" } : Jvm.MethodName)) ∈ lw_all := lw_g (lw_at lw_m6 77 rfl) rfl
theorem q1351 : (Jvm.Cond.static ({ cls := "SpoilMeadows", name := "requireIndex", desc := "(Z)V" } : Jvm.MethodName)) ∈ lw_all := lw_g (lw_at lw_m6 78 rfl) rfl
theorem q1352 : (Jvm.Cond.code ({ cls := "SpoilMeadows", name := "requireIndex", desc := "(Z)V" } : Jvm.MethodName) prog_1_method_4_code (1 : Nat) (Option.none : Option Jvm.ClassFile.FieldType)) ∈ lw_all := lw_g (lw_at lw_m6 79 rfl) rfl
theorem q1353 : (Jvm.Cond.classLink "SpoilMeadows" (10 : Nat) "java/lang/IndexOutOfBoundsException") ∈ lw_all := lw_g (lw_at lw_m6 80 rfl) rfl
theorem q1362 : (Jvm.Cond.methodLink "SpoilMeadows" (12 : Nat) ({ cls := "java/lang/IndexOutOfBoundsException", name := "<init>", desc := "()V" } : Jvm.MethodName)) ∈ lw_all := lw_g (lw_at lw_m6 89 rfl) rfl
theorem q1368 : (Jvm.Cond.methodLink "SpoilMeadows" (160 : Nat) ({ cls := "SpoilMeadows", name := "isMeadow", desc := "(I)Z" } : Jvm.MethodName)) ∈ lw_all := lw_g (lw_at lw_m6 95 rfl) rfl
theorem q1369 : (Jvm.Cond.static ({ cls := "SpoilMeadows", name := "isMeadow", desc := "(I)Z" } : Jvm.MethodName)) ∈ lw_all := lw_g (lw_at lw_m6 96 rfl) rfl
theorem q1370 : (Jvm.Cond.code ({ cls := "SpoilMeadows", name := "isMeadow", desc := "(I)Z" } : Jvm.MethodName) prog_1_method_7_code (1 : Nat) (Option.some Jvm.ClassFile.FieldType.boolean)) ∈ lw_all := lw_g (lw_at lw_m6 97 rfl) rfl
theorem q1371 : (Jvm.Cond.methodLink "SpoilMeadows" (163 : Nat) ({ cls := "SpoilMeadows", name := "orders", desc := "(II)I" } : Jvm.MethodName)) ∈ lw_all := lw_g (lw_at lw_m6 98 rfl) rfl
theorem q1372 : (Jvm.Cond.privateMethod ({ cls := "SpoilMeadows", name := "orders", desc := "(II)I" } : Jvm.MethodName)) ∈ lw_tbl := lw_at lw_m6 99 rfl
theorem q1373 : (Jvm.Cond.instanceMethod ({ cls := "SpoilMeadows", name := "orders", desc := "(II)I" } : Jvm.MethodName)) ∈ lw_all := lw_g (lw_at lw_m6 100 rfl) rfl
theorem q1374 : (Jvm.Cond.code ({ cls := "SpoilMeadows", name := "orders", desc := "(II)I" } : Jvm.MethodName) prog_1_method_14_code (4 : Nat) (Option.some Jvm.ClassFile.FieldType.int)) ∈ lw_all := lw_g (lw_at lw_m6 101 rfl) rfl
theorem q1379 : (Jvm.Cond.instanceMethod ({ cls := "SpoilMeadows", name := "move", desc := "(I)I" } : Jvm.MethodName)) ∈ lw_all := lw_g (lw_at lw_m6 106 rfl) rfl
theorem q1380 : (Jvm.Cond.selects "SpoilMeadows" ({ cls := "SpoilMeadows", name := "move", desc := "(I)I" } : Jvm.MethodName) ({ cls := "SpoilMeadows", name := "move", desc := "(I)I" } : Jvm.MethodName)) ∈ lw_all := lw_g (lw_at lw_m6 107 rfl) rfl
theorem q1381 : (Jvm.Cond.code ({ cls := "SpoilMeadows", name := "move", desc := "(I)I" } : Jvm.MethodName) prog_1_method_17_code (2 : Nat) (Option.some Jvm.ClassFile.FieldType.int)) ∈ lw_all := lw_g (lw_at lw_m6 108 rfl) rfl
theorem q1382 : (Jvm.Cond.methodLink "SpoilMeadows" (170 : Nat) ({ cls := "SpoilMeadows", name := "isReach", desc := "(I)Z" } : Jvm.MethodName)) ∈ lw_all := lw_g (lw_at lw_m6 109 rfl) rfl
theorem q1383 : (Jvm.Cond.static ({ cls := "SpoilMeadows", name := "isReach", desc := "(I)Z" } : Jvm.MethodName)) ∈ lw_all := lw_g (lw_at lw_m6 110 rfl) rfl
theorem q1384 : (Jvm.Cond.code ({ cls := "SpoilMeadows", name := "isReach", desc := "(I)Z" } : Jvm.MethodName) prog_1_method_6_code (1 : Nat) (Option.some Jvm.ClassFile.FieldType.boolean)) ∈ lw_all := lw_g (lw_at lw_m6 111 rfl) rfl
theorem q1385 : (Jvm.Cond.methodLink "SpoilMeadows" (173 : Nat) ({ cls := "SpoilMeadows", name := "moves", desc := "(I)I" } : Jvm.MethodName)) ∈ lw_all := lw_g (lw_at lw_m6 112 rfl) rfl
theorem q1386 : (Jvm.Cond.privateMethod ({ cls := "SpoilMeadows", name := "moves", desc := "(I)I" } : Jvm.MethodName)) ∈ lw_tbl := lw_at lw_m6 113 rfl
theorem q1387 : (Jvm.Cond.instanceMethod ({ cls := "SpoilMeadows", name := "moves", desc := "(I)I" } : Jvm.MethodName)) ∈ lw_all := lw_g (lw_at lw_m6 114 rfl) rfl
theorem q1388 : (Jvm.Cond.code ({ cls := "SpoilMeadows", name := "moves", desc := "(I)I" } : Jvm.MethodName) prog_1_method_16_code (3 : Nat) (Option.some Jvm.ClassFile.FieldType.int)) ∈ lw_all := lw_g (lw_at lw_m6 115 rfl) rfl
theorem q1393 : (Jvm.Cond.instanceMethod ({ cls := "SpoilMeadows", name := "silt", desc := "(II)I" } : Jvm.MethodName)) ∈ lw_all := lw_g (lw_at lw_m6 120 rfl) rfl
theorem q1394 : (Jvm.Cond.selects "SpoilMeadows" ({ cls := "SpoilMeadows", name := "silt", desc := "(II)I" } : Jvm.MethodName) ({ cls := "SpoilMeadows", name := "silt", desc := "(II)I" } : Jvm.MethodName)) ∈ lw_all := lw_g (lw_at lw_m6 121 rfl) rfl
theorem q1395 : (Jvm.Cond.code ({ cls := "SpoilMeadows", name := "silt", desc := "(II)I" } : Jvm.MethodName) prog_1_method_18_code (4 : Nat) (Option.some Jvm.ClassFile.FieldType.int)) ∈ lw_all := lw_g (lw_at lw_m6 122 rfl) rfl
theorem q1400 : (Jvm.Cond.instanceMethod ({ cls := "SpoilMeadows", name := "bound", desc := "(II)I" } : Jvm.MethodName)) ∈ lw_all := lw_g (lw_at lw_m6 127 rfl) rfl
theorem q1401 : (Jvm.Cond.selects "SpoilMeadows" ({ cls := "SpoilMeadows", name := "bound", desc := "(II)I" } : Jvm.MethodName) ({ cls := "SpoilMeadows", name := "bound", desc := "(II)I" } : Jvm.MethodName)) ∈ lw_all := lw_g (lw_at lw_m6 128 rfl) rfl
theorem q1402 : (Jvm.Cond.code ({ cls := "SpoilMeadows", name := "bound", desc := "(II)I" } : Jvm.MethodName) prog_1_method_20_code (4 : Nat) (Option.some Jvm.ClassFile.FieldType.int)) ∈ lw_all := lw_g (lw_at lw_m6 129 rfl) rfl
theorem q1407 : (Jvm.Cond.instanceMethod ({ cls := "SpoilMeadows", name := "consent", desc := "(III)I" } : Jvm.MethodName)) ∈ lw_all := lw_g (lw_at lw_m6 134 rfl) rfl
theorem q1408 : (Jvm.Cond.selects "SpoilMeadows" ({ cls := "SpoilMeadows", name := "consent", desc := "(III)I" } : Jvm.MethodName) ({ cls := "SpoilMeadows", name := "consent", desc := "(III)I" } : Jvm.MethodName)) ∈ lw_all := lw_g (lw_at lw_m6 135 rfl) rfl
theorem q1409 : (Jvm.Cond.code ({ cls := "SpoilMeadows", name := "consent", desc := "(III)I" } : Jvm.MethodName) prog_1_method_22_code (6 : Nat) (Option.some Jvm.ClassFile.FieldType.int)) ∈ lw_all := lw_g (lw_at lw_m6 136 rfl) rfl
theorem q1410 : (Jvm.Cond.methodLink "SpoilMeadows" (188 : Nat) ({ cls := "SpoilMeadows", name := "isDay", desc := "(I)Z" } : Jvm.MethodName)) ∈ lw_all := lw_g (lw_at lw_m6 137 rfl) rfl
theorem q1411 : (Jvm.Cond.static ({ cls := "SpoilMeadows", name := "isDay", desc := "(I)Z" } : Jvm.MethodName)) ∈ lw_all := lw_g (lw_at lw_m6 138 rfl) rfl
theorem q1412 : (Jvm.Cond.code ({ cls := "SpoilMeadows", name := "isDay", desc := "(I)Z" } : Jvm.MethodName) prog_1_method_21_code (1 : Nat) (Option.some Jvm.ClassFile.FieldType.boolean)) ∈ lw_all := lw_g (lw_at lw_m6 139 rfl) rfl
theorem q1413 : (Jvm.Cond.methodLink "SpoilMeadows" (200 : Nat) ({ cls := "SpoilMeadows$Meadow", name := "hasConsent", desc := "(I)Z" } : Jvm.MethodName)) ∈ lw_all := lw_g (lw_at lw_m6 140 rfl) rfl
theorem q1418 : (Jvm.Cond.instanceMethod ({ cls := "SpoilMeadows", name := "complain", desc := "(II)I" } : Jvm.MethodName)) ∈ lw_all := lw_g (lw_at lw_m6 145 rfl) rfl
theorem q1419 : (Jvm.Cond.selects "SpoilMeadows" ({ cls := "SpoilMeadows", name := "complain", desc := "(II)I" } : Jvm.MethodName) ({ cls := "SpoilMeadows", name := "complain", desc := "(II)I" } : Jvm.MethodName)) ∈ lw_all := lw_g (lw_at lw_m6 146 rfl) rfl
theorem q1420 : (Jvm.Cond.code ({ cls := "SpoilMeadows", name := "complain", desc := "(II)I" } : Jvm.MethodName) prog_1_method_24_code (3 : Nat) (Option.some Jvm.ClassFile.FieldType.int)) ∈ lw_all := lw_g (lw_at lw_m6 147 rfl) rfl
theorem q1421 : (Jvm.Cond.methodLink "SpoilMeadows" (215 : Nat) ({ cls := "SpoilMeadows", name := "stops", desc := "(II)I" } : Jvm.MethodName)) ∈ lw_all := lw_g (lw_at lw_m6 148 rfl) rfl
theorem q1422 : (Jvm.Cond.privateMethod ({ cls := "SpoilMeadows", name := "stops", desc := "(II)I" } : Jvm.MethodName)) ∈ lw_tbl := lw_at lw_m6 149 rfl
theorem q1423 : (Jvm.Cond.instanceMethod ({ cls := "SpoilMeadows", name := "stops", desc := "(II)I" } : Jvm.MethodName)) ∈ lw_all := lw_g (lw_at lw_m6 150 rfl) rfl
theorem q1424 : (Jvm.Cond.code ({ cls := "SpoilMeadows", name := "stops", desc := "(II)I" } : Jvm.MethodName) prog_1_method_23_code (3 : Nat) (Option.some Jvm.ClassFile.FieldType.int)) ∈ lw_all := lw_g (lw_at lw_m6 151 rfl) rfl
theorem q1429 : (Jvm.Cond.instanceMethod ({ cls := "SpoilMeadows", name := "shift", desc := "(II)I" } : Jvm.MethodName)) ∈ lw_all := lw_g (lw_at lw_m6 156 rfl) rfl
theorem q1430 : (Jvm.Cond.selects "SpoilMeadows" ({ cls := "SpoilMeadows", name := "shift", desc := "(II)I" } : Jvm.MethodName) ({ cls := "SpoilMeadows", name := "shift", desc := "(II)I" } : Jvm.MethodName)) ∈ lw_all := lw_g (lw_at lw_m6 157 rfl) rfl
theorem q1431 : (Jvm.Cond.code ({ cls := "SpoilMeadows", name := "shift", desc := "(II)I" } : Jvm.MethodName) prog_1_method_25_code (4 : Nat) (Option.some Jvm.ClassFile.FieldType.int)) ∈ lw_all := lw_g (lw_at lw_m6 158 rfl) rfl
theorem q1436 : (Jvm.Cond.instanceMethod ({ cls := "SpoilMeadows", name := "pass", desc := "(I)I" } : Jvm.MethodName)) ∈ lw_all := lw_g (lw_at lw_m6 163 rfl) rfl
theorem q1437 : (Jvm.Cond.selects "SpoilMeadows" ({ cls := "SpoilMeadows", name := "pass", desc := "(I)I" } : Jvm.MethodName) ({ cls := "SpoilMeadows", name := "pass", desc := "(I)I" } : Jvm.MethodName)) ∈ lw_all := lw_g (lw_at lw_m6 164 rfl) rfl
theorem q1438 : (Jvm.Cond.code ({ cls := "SpoilMeadows", name := "pass", desc := "(I)I" } : Jvm.MethodName) prog_1_method_29_code (2 : Nat) (Option.some Jvm.ClassFile.FieldType.int)) ∈ lw_all := lw_g (lw_at lw_m6 165 rfl) rfl
theorem q1439 : (Jvm.Cond.methodLink "SpoilMeadows" (232 : Nat) ({ cls := "SpoilMeadows", name := "canPass", desc := "(I)Z" } : Jvm.MethodName)) ∈ lw_all := lw_g (lw_at lw_m6 166 rfl) rfl
theorem q1440 : (Jvm.Cond.privateMethod ({ cls := "SpoilMeadows", name := "canPass", desc := "(I)Z" } : Jvm.MethodName)) ∈ lw_tbl := lw_at lw_m6 167 rfl
theorem q1441 : (Jvm.Cond.instanceMethod ({ cls := "SpoilMeadows", name := "canPass", desc := "(I)Z" } : Jvm.MethodName)) ∈ lw_all := lw_g (lw_at lw_m6 168 rfl) rfl
theorem q1442 : (Jvm.Cond.code ({ cls := "SpoilMeadows", name := "canPass", desc := "(I)Z" } : Jvm.MethodName) prog_1_method_27_code (2 : Nat) (Option.some Jvm.ClassFile.FieldType.boolean)) ∈ lw_all := lw_g (lw_at lw_m6 169 rfl) rfl
theorem q1443 : (Jvm.Cond.methodLink "SpoilMeadows" (235 : Nat) ({ cls := "SpoilMeadows", name := "passes", desc := "(I)I" } : Jvm.MethodName)) ∈ lw_all := lw_g (lw_at lw_m6 170 rfl) rfl
theorem q1444 : (Jvm.Cond.privateMethod ({ cls := "SpoilMeadows", name := "passes", desc := "(I)I" } : Jvm.MethodName)) ∈ lw_tbl := lw_at lw_m6 171 rfl
theorem q1445 : (Jvm.Cond.instanceMethod ({ cls := "SpoilMeadows", name := "passes", desc := "(I)I" } : Jvm.MethodName)) ∈ lw_all := lw_g (lw_at lw_m6 172 rfl) rfl
theorem q1446 : (Jvm.Cond.code ({ cls := "SpoilMeadows", name := "passes", desc := "(I)I" } : Jvm.MethodName) prog_1_method_28_code (3 : Nat) (Option.some Jvm.ClassFile.FieldType.int)) ∈ lw_all := lw_g (lw_at lw_m6 173 rfl) rfl
theorem q1451 : (Jvm.Cond.instanceMethod ({ cls := "SpoilMeadows", name := "set", desc := "(II)I" } : Jvm.MethodName)) ∈ lw_all := lw_g (lw_at lw_m6 178 rfl) rfl
theorem q1452 : (Jvm.Cond.selects "SpoilMeadows" ({ cls := "SpoilMeadows", name := "set", desc := "(II)I" } : Jvm.MethodName) ({ cls := "SpoilMeadows", name := "set", desc := "(II)I" } : Jvm.MethodName)) ∈ lw_all := lw_g (lw_at lw_m6 179 rfl) rfl
theorem q1453 : (Jvm.Cond.code ({ cls := "SpoilMeadows", name := "set", desc := "(II)I" } : Jvm.MethodName) prog_1_method_31_code (4 : Nat) (Option.some Jvm.ClassFile.FieldType.int)) ∈ lw_all := lw_g (lw_at lw_m6 180 rfl) rfl
theorem q1454 : (Jvm.Cond.methodLink "SpoilMeadows" (238 : Nat) ({ cls := "SpoilMeadows", name := "isSetting", desc := "(I)Z" } : Jvm.MethodName)) ∈ lw_all := lw_g (lw_at lw_m6 181 rfl) rfl
theorem q1455 : (Jvm.Cond.static ({ cls := "SpoilMeadows", name := "isSetting", desc := "(I)Z" } : Jvm.MethodName)) ∈ lw_all := lw_g (lw_at lw_m6 182 rfl) rfl
theorem q1456 : (Jvm.Cond.code ({ cls := "SpoilMeadows", name := "isSetting", desc := "(I)Z" } : Jvm.MethodName) prog_1_method_30_code (1 : Nat) (Option.some Jvm.ClassFile.FieldType.boolean)) ∈ lw_all := lw_g (lw_at lw_m6 183 rfl) rfl
theorem q1457 : (Jvm.Cond.fieldLink "SpoilMeadows" (241 : Nat) "SpoilMeadows" "LEAST_SET" "[I") ∈ lw_all := lw_g (lw_at lw_m6 184 rfl) rfl
theorem q1458 : (Jvm.Cond.laysStatic "SpoilMeadows" "LEAST_SET" "[I") ∈ lw_tbl := lw_at lw_m6 185 rfl
theorem q1459 : (Jvm.Cond.fieldLink "SpoilMeadows" (244 : Nat) "SpoilMeadows" "MOST_SET" "[I") ∈ lw_all := lw_g (lw_at lw_m6 186 rfl) rfl
theorem q1460 : (Jvm.Cond.laysStatic "SpoilMeadows" "MOST_SET" "[I") ∈ lw_tbl := lw_at lw_m6 187 rfl
theorem q1465 : (Jvm.Cond.instanceMethod ({ cls := "SpoilMeadows", name := "append", desc := "(I)I" } : Jvm.MethodName)) ∈ lw_all := lw_g (lw_at lw_m6 192 rfl) rfl
theorem q1466 : (Jvm.Cond.selects "SpoilMeadows" ({ cls := "SpoilMeadows", name := "append", desc := "(I)I" } : Jvm.MethodName) ({ cls := "SpoilMeadows", name := "append", desc := "(I)I" } : Jvm.MethodName)) ∈ lw_all := lw_g (lw_at lw_m6 193 rfl) rfl
theorem q1467 : (Jvm.Cond.code ({ cls := "SpoilMeadows", name := "append", desc := "(I)I" } : Jvm.MethodName) prog_1_method_32_code (2 : Nat) (Option.some Jvm.ClassFile.FieldType.int)) ∈ lw_all := lw_g (lw_at lw_m6 194 rfl) rfl
theorem q1468 : (Jvm.Cond.methodLink "SpoilMeadows" (253 : Nat) ({ cls := "java/lang/StringBuilder", name := "append", desc := "(C)Ljava/lang/StringBuilder;" } : Jvm.MethodName)) ∈ lw_all := lw_g (lw_at lw_m6 195 rfl) rfl
theorem q1489 : (Jvm.Cond.instanceMethod ({ cls := "SpoilMeadows", name := "work", desc := "()I" } : Jvm.MethodName)) ∈ lw_all := lw_g (lw_at lw_m6 216 rfl) rfl
theorem q1490 : (Jvm.Cond.selects "SpoilMeadows" ({ cls := "SpoilMeadows", name := "work", desc := "()I" } : Jvm.MethodName) ({ cls := "SpoilMeadows", name := "work", desc := "()I" } : Jvm.MethodName)) ∈ lw_all := lw_g (lw_at lw_m6 217 rfl) rfl
theorem q1491 : (Jvm.Cond.code ({ cls := "SpoilMeadows", name := "work", desc := "()I" } : Jvm.MethodName) prog_1_method_35_code (5 : Nat) (Option.some Jvm.ClassFile.FieldType.int)) ∈ lw_all := lw_g (lw_at lw_m6 218 rfl) rfl
theorem q1492 : (Jvm.Cond.methodLink "SpoilMeadows" (269 : Nat) ({ cls := "SpoilMeadows$Reader", name := "next", desc := "()Z" } : Jvm.MethodName)) ∈ lw_all := lw_g (lw_at lw_m6 219 rfl) rfl
theorem q1493 : (Jvm.Cond.methodLink "SpoilMeadows" (272 : Nat) ({ cls := "SpoilMeadows$Reader", name := "isDone", desc := "()Z" } : Jvm.MethodName)) ∈ lw_all := lw_g (lw_at lw_m6 220 rfl) rfl
theorem q1503 : (Jvm.Cond.methodLinkNest "SpoilMeadows" (275 : Nat) ({ cls := "SpoilMeadows$Reader", name := "isNext", desc := "(C)Z" } : Jvm.MethodName) "SpoilMeadows") ∈ lw_tbl := lw_at lw_m6 230 rfl
theorem q1508 : (Jvm.Cond.instanceMethod ({ cls := "SpoilMeadows", name := "keep", desc := "(I)I" } : Jvm.MethodName)) ∈ lw_all := lw_g (lw_at lw_m6 235 rfl) rfl
theorem q1509 : (Jvm.Cond.selects "SpoilMeadows" ({ cls := "SpoilMeadows", name := "keep", desc := "(I)I" } : Jvm.MethodName) ({ cls := "SpoilMeadows", name := "keep", desc := "(I)I" } : Jvm.MethodName)) ∈ lw_all := lw_g (lw_at lw_m6 236 rfl) rfl
theorem q1510 : (Jvm.Cond.code ({ cls := "SpoilMeadows", name := "keep", desc := "(I)I" } : Jvm.MethodName) prog_1_method_37_code (2 : Nat) (Option.some Jvm.ClassFile.FieldType.int)) ∈ lw_all := lw_g (lw_at lw_m6 237 rfl) rfl
theorem q1511 : (Jvm.Cond.methodLink "SpoilMeadows" (279 : Nat) ({ cls := "SpoilMeadows", name := "isSlot", desc := "(I)Z" } : Jvm.MethodName)) ∈ lw_all := lw_g (lw_at lw_m6 238 rfl) rfl
theorem q1512 : (Jvm.Cond.static ({ cls := "SpoilMeadows", name := "isSlot", desc := "(I)Z" } : Jvm.MethodName)) ∈ lw_all := lw_g (lw_at lw_m6 239 rfl) rfl
theorem q1513 : (Jvm.Cond.code ({ cls := "SpoilMeadows", name := "isSlot", desc := "(I)Z" } : Jvm.MethodName) prog_1_method_36_code (1 : Nat) (Option.some Jvm.ClassFile.FieldType.boolean)) ∈ lw_all := lw_g (lw_at lw_m7 0 rfl) rfl
theorem q1518 : (Jvm.Cond.instanceMethod ({ cls := "SpoilMeadows", name := "goBack", desc := "(I)I" } : Jvm.MethodName)) ∈ lw_all := lw_g (lw_at lw_m7 5 rfl) rfl
theorem q1519 : (Jvm.Cond.selects "SpoilMeadows" ({ cls := "SpoilMeadows", name := "goBack", desc := "(I)I" } : Jvm.MethodName) ({ cls := "SpoilMeadows", name := "goBack", desc := "(I)I" } : Jvm.MethodName)) ∈ lw_all := lw_g (lw_at lw_m7 6 rfl) rfl
theorem q1520 : (Jvm.Cond.code ({ cls := "SpoilMeadows", name := "goBack", desc := "(I)I" } : Jvm.MethodName) prog_1_method_38_code (2 : Nat) (Option.some Jvm.ClassFile.FieldType.int)) ∈ lw_all := lw_g (lw_at lw_m7 7 rfl) rfl
theorem q1525 : (Jvm.Cond.instanceMethod ({ cls := "SpoilMeadows", name := "undo", desc := "()I" } : Jvm.MethodName)) ∈ lw_all := lw_g (lw_at lw_m7 12 rfl) rfl
theorem q1526 : (Jvm.Cond.selects "SpoilMeadows" ({ cls := "SpoilMeadows", name := "undo", desc := "()I" } : Jvm.MethodName) ({ cls := "SpoilMeadows", name := "undo", desc := "()I" } : Jvm.MethodName)) ∈ lw_all := lw_g (lw_at lw_m7 13 rfl) rfl
theorem q1527 : (Jvm.Cond.code ({ cls := "SpoilMeadows", name := "undo", desc := "()I" } : Jvm.MethodName) prog_1_method_39_code (1 : Nat) (Option.some Jvm.ClassFile.FieldType.int)) ∈ lw_all := lw_g (lw_at lw_m7 14 rfl) rfl
theorem q1528 : (Jvm.Cond.methodLink "SpoilMeadows" (282 : Nat) ({ cls := "java/util/ArrayDeque", name := "isEmpty", desc := "()Z" } : Jvm.MethodName)) ∈ lw_all := lw_g (lw_at lw_m7 15 rfl) rfl
theorem q1532 : (Jvm.Cond.methodLink "SpoilMeadows" (285 : Nat) ({ cls := "java/util/ArrayDeque", name := "pop", desc := "()Ljava/lang/Object;" } : Jvm.MethodName)) ∈ lw_all := lw_g (lw_at lw_m7 19 rfl) rfl
theorem q1551 : (Jvm.Cond.instanceMethod ({ cls := "SpoilMeadows", name := "reach", desc := "(II)I" } : Jvm.MethodName)) ∈ lw_all := lw_g (lw_at lw_m7 38 rfl) rfl
theorem q1552 : (Jvm.Cond.selects "SpoilMeadows" ({ cls := "SpoilMeadows", name := "reach", desc := "(II)I" } : Jvm.MethodName) ({ cls := "SpoilMeadows", name := "reach", desc := "(II)I" } : Jvm.MethodName)) ∈ lw_all := lw_g (lw_at lw_m7 39 rfl) rfl
theorem q1553 : (Jvm.Cond.code ({ cls := "SpoilMeadows", name := "reach", desc := "(II)I" } : Jvm.MethodName) prog_1_method_41_code (3 : Nat) (Option.some Jvm.ClassFile.FieldType.int)) ∈ lw_all := lw_g (lw_at lw_m7 40 rfl) rfl
theorem q1558 : (Jvm.Cond.instanceMethod ({ cls := "SpoilMeadows", name := "bargeOf", desc := "(II)I" } : Jvm.MethodName)) ∈ lw_all := lw_g (lw_at lw_m7 45 rfl) rfl
theorem q1559 : (Jvm.Cond.selects "SpoilMeadows" ({ cls := "SpoilMeadows", name := "bargeOf", desc := "(II)I" } : Jvm.MethodName) ({ cls := "SpoilMeadows", name := "bargeOf", desc := "(II)I" } : Jvm.MethodName)) ∈ lw_all := lw_g (lw_at lw_m7 46 rfl) rfl
theorem q1560 : (Jvm.Cond.code ({ cls := "SpoilMeadows", name := "bargeOf", desc := "(II)I" } : Jvm.MethodName) prog_1_method_43_code (3 : Nat) (Option.some Jvm.ClassFile.FieldType.int)) ∈ lw_all := lw_g (lw_at lw_m7 47 rfl) rfl
theorem q1565 : (Jvm.Cond.instanceMethod ({ cls := "SpoilMeadows", name := "meadow", desc := "(II)I" } : Jvm.MethodName)) ∈ lw_all := lw_g (lw_at lw_m7 52 rfl) rfl
theorem q1566 : (Jvm.Cond.selects "SpoilMeadows" ({ cls := "SpoilMeadows", name := "meadow", desc := "(II)I" } : Jvm.MethodName) ({ cls := "SpoilMeadows", name := "meadow", desc := "(II)I" } : Jvm.MethodName)) ∈ lw_all := lw_g (lw_at lw_m7 53 rfl) rfl
theorem q1567 : (Jvm.Cond.code ({ cls := "SpoilMeadows", name := "meadow", desc := "(II)I" } : Jvm.MethodName) prog_1_method_45_code (3 : Nat) (Option.some Jvm.ClassFile.FieldType.int)) ∈ lw_all := lw_g (lw_at lw_m7 54 rfl) rfl
theorem q1572 : (Jvm.Cond.instanceMethod ({ cls := "SpoilMeadows", name := "count", desc := "(I)I" } : Jvm.MethodName)) ∈ lw_all := lw_g (lw_at lw_m7 59 rfl) rfl
theorem q1573 : (Jvm.Cond.selects "SpoilMeadows" ({ cls := "SpoilMeadows", name := "count", desc := "(I)I" } : Jvm.MethodName) ({ cls := "SpoilMeadows", name := "count", desc := "(I)I" } : Jvm.MethodName)) ∈ lw_all := lw_g (lw_at lw_m7 60 rfl) rfl
theorem q1574 : (Jvm.Cond.code ({ cls := "SpoilMeadows", name := "count", desc := "(I)I" } : Jvm.MethodName) prog_1_method_50_code (2 : Nat) (Option.some Jvm.ClassFile.FieldType.int)) ∈ lw_all := lw_g (lw_at lw_m7 61 rfl) rfl
theorem q1579 : (Jvm.Cond.instanceMethod ({ cls := "SpoilMeadows", name := "setting", desc := "(I)I" } : Jvm.MethodName)) ∈ lw_all := lw_g (lw_at lw_m7 66 rfl) rfl
theorem q1580 : (Jvm.Cond.selects "SpoilMeadows" ({ cls := "SpoilMeadows", name := "setting", desc := "(I)I" } : Jvm.MethodName) ({ cls := "SpoilMeadows", name := "setting", desc := "(I)I" } : Jvm.MethodName)) ∈ lw_all := lw_g (lw_at lw_m7 67 rfl) rfl
theorem q1581 : (Jvm.Cond.code ({ cls := "SpoilMeadows", name := "setting", desc := "(I)I" } : Jvm.MethodName) prog_1_method_51_code (2 : Nat) (Option.some Jvm.ClassFile.FieldType.int)) ∈ lw_all := lw_g (lw_at lw_m7 68 rfl) rfl
theorem q1586 : (Jvm.Cond.instanceMethod ({ cls := "SpoilMeadows", name := "ifPassed", desc := "(II)I" } : Jvm.MethodName)) ∈ lw_all := lw_g (lw_at lw_m7 73 rfl) rfl
theorem q1587 : (Jvm.Cond.selects "SpoilMeadows" ({ cls := "SpoilMeadows", name := "ifPassed", desc := "(II)I" } : Jvm.MethodName) ({ cls := "SpoilMeadows", name := "ifPassed", desc := "(II)I" } : Jvm.MethodName)) ∈ lw_all := lw_g (lw_at lw_m7 74 rfl) rfl
theorem q1588 : (Jvm.Cond.code ({ cls := "SpoilMeadows", name := "ifPassed", desc := "(II)I" } : Jvm.MethodName) prog_1_method_54_code (3 : Nat) (Option.some Jvm.ClassFile.FieldType.int)) ∈ lw_all := lw_g (lw_at lw_m7 75 rfl) rfl
theorem q1593 : (Jvm.Cond.instanceMethod ({ cls := "SpoilMeadows", name := "bestReach", desc := "(I)I" } : Jvm.MethodName)) ∈ lw_all := lw_g (lw_at lw_m7 80 rfl) rfl
theorem q1594 : (Jvm.Cond.selects "SpoilMeadows" ({ cls := "SpoilMeadows", name := "bestReach", desc := "(I)I" } : Jvm.MethodName) ({ cls := "SpoilMeadows", name := "bestReach", desc := "(I)I" } : Jvm.MethodName)) ∈ lw_all := lw_g (lw_at lw_m7 81 rfl) rfl
theorem q1595 : (Jvm.Cond.code ({ cls := "SpoilMeadows", name := "bestReach", desc := "(I)I" } : Jvm.MethodName) prog_1_method_59_code (2 : Nat) (Option.some Jvm.ClassFile.FieldType.int)) ∈ lw_all := lw_g (lw_at lw_m7 82 rfl) rfl
theorem q1973 : (Jvm.Cond.castable "SpoilMeadows" "java/lang/Object") ∈ lw_tbl := lw_at lw_m8 220 rfl
theorem in_X1 : ∀ w ∈ wsX10, w ∈ lw_all := lw_in wsX10 [753, 755, 757, 759, 761, 763, 765, 767, 769, 771, 773, 775] (by decide +kernel) (by decide +kernel)
