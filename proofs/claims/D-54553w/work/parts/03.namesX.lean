/-! SpoilMeadows$Barge -/
set_option maxRecDepth 100000
def RX10 : String := "SpoilMeadows$Barge"
def TX10 : u_T := fun k => match k with
  | 0 => ("SpoilMeadows$Barge", "size", "I", true)
  | 1 => ("SpoilMeadows$Barge", "mode", "I", false)
  | 2 => ("SpoilMeadows$Barge", "load", "I", false)
  | 3 => ("SpoilMeadows$Barge", "goal", "I", false)
  | 4 => ("SpoilMeadows$Barge", "left", "I", false)
  | 5 => ("SpoilMeadows$Barge", "order", "I", false)
  | _ => ("SpoilMeadows$Barge", "laid", "I", false)
def tyX10 : Nat → FieldType := fun k => match k with
  | 0 => .int
  | 1 => .int
  | 2 => .int
  | 3 => .int
  | 4 => .int
  | 5 => .int
  | _ => .int
abbrev wsX100 : List Cond := u_ws RX10 TX10 7
theorem nmX10 : ∀ a, a < 7 → ∀ b, b < 7 → a ≠ b → (TX10 a).2.1 ≠ (TX10 b).2.1 := by decide +kernel
theorem tyX10_ok : ∀ k, k < 7 → parseFieldDescriptor (TX10 k).2.2.1 = some (tyX10 k) := by decide +kernel
abbrev cX10_isBoundFor : ByteArray := prog_5_method_4_code
def yX10_isBoundFor : MethodName := ⟨RX10, "isBoundFor", "(I)Z"⟩
def dkwX10_isBoundFor_1 : List UInt8 := [4, 167, 0, 4, 3, 172]
abbrev dktX10_isBoundFor_1 : List UInt8 := dkwX10_isBoundFor_1 ++ []
def dkwX10_isBoundFor_0 : List UInt8 := [42, 180, 0, 9, 4, 159, 0, 11, 42, 180, 0, 9, 5, 160, 0, 15, 42, 180, 0, 15, 27, 160, 0, 7]
abbrev dktX10_isBoundFor_0 : List UInt8 := dkwX10_isBoundFor_0 ++ dktX10_isBoundFor_1
theorem dksX10_isBoundFor_0 : cX10_isBoundFor.data.toList.drop 0 = dktX10_isBoundFor_0 := by decide +kernel
theorem dksX10_isBoundFor_1 : cX10_isBoundFor.data.toList.drop 24 = dktX10_isBoundFor_1 := dk_seg dksX10_isBoundFor_0 24 rfl rfl
theorem dX10_isBoundFor_0 : decode cX10_isBoundFor 0 = .ok (.aload_n 0, 1) := dk_42 (dk_at dksX10_isBoundFor_0 0 rfl rfl)
theorem dX10_isBoundFor_1 : decode cX10_isBoundFor 1 = .ok (.getfield 9, 3) := dk_180 0 9 (dk_at dksX10_isBoundFor_0 1 rfl rfl)
theorem dX10_isBoundFor_4 : decode cX10_isBoundFor 4 = .ok (.iconst 1, 1) := dk_4 (dk_at dksX10_isBoundFor_0 4 rfl rfl)
theorem dX10_isBoundFor_5 : decode cX10_isBoundFor 5 = .ok (.if_icmp .eq 11, 3) := dk_159 0 11 (dk_at dksX10_isBoundFor_0 5 rfl rfl)
theorem dX10_isBoundFor_8 : decode cX10_isBoundFor 8 = .ok (.aload_n 0, 1) := dk_42 (dk_at dksX10_isBoundFor_0 8 rfl rfl)
theorem dX10_isBoundFor_9 : decode cX10_isBoundFor 9 = .ok (.getfield 9, 3) := dk_180 0 9 (dk_at dksX10_isBoundFor_0 9 rfl rfl)
theorem dX10_isBoundFor_12 : decode cX10_isBoundFor 12 = .ok (.iconst 2, 1) := dk_5 (dk_at dksX10_isBoundFor_0 12 rfl rfl)
theorem dX10_isBoundFor_13 : decode cX10_isBoundFor 13 = .ok (.if_icmp .ne 15, 3) := dk_160 0 15 (dk_at dksX10_isBoundFor_0 13 rfl rfl)
theorem dX10_isBoundFor_16 : decode cX10_isBoundFor 16 = .ok (.aload_n 0, 1) := dk_42 (dk_at dksX10_isBoundFor_0 16 rfl rfl)
theorem dX10_isBoundFor_17 : decode cX10_isBoundFor 17 = .ok (.getfield 15, 3) := dk_180 0 15 (dk_at dksX10_isBoundFor_0 17 rfl rfl)
theorem dX10_isBoundFor_20 : decode cX10_isBoundFor 20 = .ok (.iload_n 1, 1) := dk_27 (dk_at dksX10_isBoundFor_0 20 rfl rfl)
theorem dX10_isBoundFor_21 : decode cX10_isBoundFor 21 = .ok (.if_icmp .ne 7, 3) := dk_160 0 7 (dk_at dksX10_isBoundFor_0 21 rfl rfl)
theorem dX10_isBoundFor_24 : decode cX10_isBoundFor 24 = .ok (.iconst 1, 1) := dk_4 (dk_at dksX10_isBoundFor_1 0 rfl rfl)
theorem dX10_isBoundFor_25 : decode cX10_isBoundFor 25 = .ok (.goto 4, 3) := dk_167 0 4 (dk_at dksX10_isBoundFor_1 1 rfl rfl)
theorem dX10_isBoundFor_28 : decode cX10_isBoundFor 28 = .ok (.iconst 0, 1) := dk_3 (dk_at dksX10_isBoundFor_1 4 rfl rfl)
theorem dX10_isBoundFor_29 : decode cX10_isBoundFor 29 = .ok (.ireturn, 1) := dk_172 (dk_at dksX10_isBoundFor_1 5 rfl rfl)
abbrev cX10_twin : ByteArray := prog_5_method_2_code
def yX10_twin : MethodName := ⟨RX10, "twin", "()LSpoilMeadows$Barge;"⟩
def dkwX10_twin_2 : List UInt8 := [180, 0, 18, 181, 0, 18, 43, 42, 180, 0, 33, 181, 0, 33, 43, 176]
abbrev dktX10_twin_2 : List UInt8 := dkwX10_twin_2 ++ []
def dkwX10_twin_1 : List UInt8 := [180, 0, 27, 181, 0, 27, 43, 42, 180, 0, 15, 181, 0, 15, 43, 42, 180, 0, 30, 181, 0, 30, 43, 42]
abbrev dktX10_twin_1 : List UInt8 := dkwX10_twin_1 ++ dktX10_twin_2
def dkwX10_twin_0 : List UInt8 := [187, 0, 10, 89, 42, 180, 0, 21, 183, 0, 24, 76, 43, 42, 180, 0, 9, 181, 0, 9, 43, 42]
abbrev dktX10_twin_0 : List UInt8 := dkwX10_twin_0 ++ dktX10_twin_1
theorem dksX10_twin_0 : cX10_twin.data.toList.drop 0 = dktX10_twin_0 := by decide +kernel
theorem dksX10_twin_1 : cX10_twin.data.toList.drop 22 = dktX10_twin_1 := dk_seg dksX10_twin_0 22 rfl rfl
theorem dksX10_twin_2 : cX10_twin.data.toList.drop 46 = dktX10_twin_2 := dk_seg dksX10_twin_1 24 rfl rfl
theorem dX10_twin_0 : decode cX10_twin 0 = .ok (.new 10, 3) := dk_187 0 10 (dk_at dksX10_twin_0 0 rfl rfl)
theorem dX10_twin_3 : decode cX10_twin 3 = .ok (.dup, 1) := dk_89 (dk_at dksX10_twin_0 3 rfl rfl)
theorem dX10_twin_4 : decode cX10_twin 4 = .ok (.aload_n 0, 1) := dk_42 (dk_at dksX10_twin_0 4 rfl rfl)
theorem dX10_twin_5 : decode cX10_twin 5 = .ok (.getfield 21, 3) := dk_180 0 21 (dk_at dksX10_twin_0 5 rfl rfl)
theorem dX10_twin_8 : decode cX10_twin 8 = .ok (.invokespecial 24, 3) := dk_183 0 24 (dk_at dksX10_twin_0 8 rfl rfl)
theorem dX10_twin_11 : decode cX10_twin 11 = .ok (.astore_n 1, 1) := dk_76 (dk_at dksX10_twin_0 11 rfl rfl)
theorem dX10_twin_12 : decode cX10_twin 12 = .ok (.aload_n 1, 1) := dk_43 (dk_at dksX10_twin_0 12 rfl rfl)
theorem dX10_twin_13 : decode cX10_twin 13 = .ok (.aload_n 0, 1) := dk_42 (dk_at dksX10_twin_0 13 rfl rfl)
theorem dX10_twin_14 : decode cX10_twin 14 = .ok (.getfield 9, 3) := dk_180 0 9 (dk_at dksX10_twin_0 14 rfl rfl)
theorem dX10_twin_17 : decode cX10_twin 17 = .ok (.putfield 9, 3) := dk_181 0 9 (dk_at dksX10_twin_0 17 rfl rfl)
theorem dX10_twin_20 : decode cX10_twin 20 = .ok (.aload_n 1, 1) := dk_43 (dk_at dksX10_twin_0 20 rfl rfl)
theorem dX10_twin_21 : decode cX10_twin 21 = .ok (.aload_n 0, 1) := dk_42 (dk_at dksX10_twin_0 21 rfl rfl)
theorem dX10_twin_22 : decode cX10_twin 22 = .ok (.getfield 27, 3) := dk_180 0 27 (dk_at dksX10_twin_1 0 rfl rfl)
theorem dX10_twin_25 : decode cX10_twin 25 = .ok (.putfield 27, 3) := dk_181 0 27 (dk_at dksX10_twin_1 3 rfl rfl)
theorem dX10_twin_28 : decode cX10_twin 28 = .ok (.aload_n 1, 1) := dk_43 (dk_at dksX10_twin_1 6 rfl rfl)
theorem dX10_twin_29 : decode cX10_twin 29 = .ok (.aload_n 0, 1) := dk_42 (dk_at dksX10_twin_1 7 rfl rfl)
theorem dX10_twin_30 : decode cX10_twin 30 = .ok (.getfield 15, 3) := dk_180 0 15 (dk_at dksX10_twin_1 8 rfl rfl)
theorem dX10_twin_33 : decode cX10_twin 33 = .ok (.putfield 15, 3) := dk_181 0 15 (dk_at dksX10_twin_1 11 rfl rfl)
theorem dX10_twin_36 : decode cX10_twin 36 = .ok (.aload_n 1, 1) := dk_43 (dk_at dksX10_twin_1 14 rfl rfl)
theorem dX10_twin_37 : decode cX10_twin 37 = .ok (.aload_n 0, 1) := dk_42 (dk_at dksX10_twin_1 15 rfl rfl)
theorem dX10_twin_38 : decode cX10_twin 38 = .ok (.getfield 30, 3) := dk_180 0 30 (dk_at dksX10_twin_1 16 rfl rfl)
theorem dX10_twin_41 : decode cX10_twin 41 = .ok (.putfield 30, 3) := dk_181 0 30 (dk_at dksX10_twin_1 19 rfl rfl)
theorem dX10_twin_44 : decode cX10_twin 44 = .ok (.aload_n 1, 1) := dk_43 (dk_at dksX10_twin_1 22 rfl rfl)
theorem dX10_twin_45 : decode cX10_twin 45 = .ok (.aload_n 0, 1) := dk_42 (dk_at dksX10_twin_1 23 rfl rfl)
theorem dX10_twin_46 : decode cX10_twin 46 = .ok (.getfield 18, 3) := dk_180 0 18 (dk_at dksX10_twin_2 0 rfl rfl)
theorem dX10_twin_49 : decode cX10_twin 49 = .ok (.putfield 18, 3) := dk_181 0 18 (dk_at dksX10_twin_2 3 rfl rfl)
theorem dX10_twin_52 : decode cX10_twin 52 = .ok (.aload_n 1, 1) := dk_43 (dk_at dksX10_twin_2 6 rfl rfl)
theorem dX10_twin_53 : decode cX10_twin 53 = .ok (.aload_n 0, 1) := dk_42 (dk_at dksX10_twin_2 7 rfl rfl)
theorem dX10_twin_54 : decode cX10_twin 54 = .ok (.getfield 33, 3) := dk_180 0 33 (dk_at dksX10_twin_2 8 rfl rfl)
theorem dX10_twin_57 : decode cX10_twin 57 = .ok (.putfield 33, 3) := dk_181 0 33 (dk_at dksX10_twin_2 11 rfl rfl)
theorem dX10_twin_60 : decode cX10_twin 60 = .ok (.aload_n 1, 1) := dk_43 (dk_at dksX10_twin_2 14 rfl rfl)
theorem dX10_twin_61 : decode cX10_twin 61 = .ok (.areturn, 1) := dk_176 (dk_at dksX10_twin_2 15 rfl rfl)
abbrev cX10_init : ByteArray := prog_5_method_1_code
def yX10_init : MethodName := ⟨RX10, "<init>", "(I)V"⟩
def dkwX10_init_1 : List UInt8 := [177]
abbrev dktX10_init_1 : List UInt8 := dkwX10_init_1 ++ []
def dkwX10_init_0 : List UInt8 := [42, 183, 0, 3, 42, 3, 181, 0, 9, 42, 2, 181, 0, 15, 42, 2, 181, 0, 18, 42, 27, 181, 0, 21]
abbrev dktX10_init_0 : List UInt8 := dkwX10_init_0 ++ dktX10_init_1
theorem dksX10_init_0 : cX10_init.data.toList.drop 0 = dktX10_init_0 := by decide +kernel
theorem dksX10_init_1 : cX10_init.data.toList.drop 24 = dktX10_init_1 := dk_seg dksX10_init_0 24 rfl rfl
theorem dX10_init_0 : decode cX10_init 0 = .ok (.aload_n 0, 1) := dk_42 (dk_at dksX10_init_0 0 rfl rfl)
theorem dX10_init_1 : decode cX10_init 1 = .ok (.invokespecial 3, 3) := dk_183 0 3 (dk_at dksX10_init_0 1 rfl rfl)
theorem dX10_init_4 : decode cX10_init 4 = .ok (.aload_n 0, 1) := dk_42 (dk_at dksX10_init_0 4 rfl rfl)
theorem dX10_init_5 : decode cX10_init 5 = .ok (.iconst 0, 1) := dk_3 (dk_at dksX10_init_0 5 rfl rfl)
theorem dX10_init_6 : decode cX10_init 6 = .ok (.putfield 9, 3) := dk_181 0 9 (dk_at dksX10_init_0 6 rfl rfl)
theorem dX10_init_9 : decode cX10_init 9 = .ok (.aload_n 0, 1) := dk_42 (dk_at dksX10_init_0 9 rfl rfl)
theorem dX10_init_10 : decode cX10_init 10 = .ok (.iconst (-1), 1) := dk_2 (dk_at dksX10_init_0 10 rfl rfl)
theorem dX10_init_11 : decode cX10_init 11 = .ok (.putfield 15, 3) := dk_181 0 15 (dk_at dksX10_init_0 11 rfl rfl)
theorem dX10_init_14 : decode cX10_init 14 = .ok (.aload_n 0, 1) := dk_42 (dk_at dksX10_init_0 14 rfl rfl)
theorem dX10_init_15 : decode cX10_init 15 = .ok (.iconst (-1), 1) := dk_2 (dk_at dksX10_init_0 15 rfl rfl)
theorem dX10_init_16 : decode cX10_init 16 = .ok (.putfield 18, 3) := dk_181 0 18 (dk_at dksX10_init_0 16 rfl rfl)
theorem dX10_init_19 : decode cX10_init 19 = .ok (.aload_n 0, 1) := dk_42 (dk_at dksX10_init_0 19 rfl rfl)
theorem dX10_init_20 : decode cX10_init 20 = .ok (.iload_n 1, 1) := dk_27 (dk_at dksX10_init_0 20 rfl rfl)
theorem dX10_init_21 : decode cX10_init 21 = .ok (.putfield 21, 3) := dk_181 0 21 (dk_at dksX10_init_0 21 rfl rfl)
theorem dX10_init_24 : decode cX10_init 24 = .ok (.return_, 1) := dk_177 (dk_at dksX10_init_1 0 rfl rfl)
abbrev cX10_comeNearer : ByteArray := prog_5_method_8_code
def yX10_comeNearer : MethodName := ⟨RX10, "comeNearer", "()V"⟩
def dkwX10_comeNearer_2 : List UInt8 := [181, 0, 9, 42, 27, 153, 0, 10, 42, 180, 0, 15, 167, 0, 4, 2, 181, 0, 15, 177]
abbrev dktX10_comeNearer_2 : List UInt8 := dkwX10_comeNearer_2 ++ []
def dkwX10_comeNearer_1 : List UInt8 := [42, 180, 0, 9, 4, 160, 0, 7, 4, 167, 0, 4, 3, 60, 42, 27, 153, 0, 7, 5, 167, 0, 4, 3]
abbrev dktX10_comeNearer_1 : List UInt8 := dkwX10_comeNearer_1 ++ dktX10_comeNearer_2
def dkwX10_comeNearer_0 : List UInt8 := [42, 182, 0, 41, 153, 0, 63, 42, 89, 180, 0, 30, 4, 100, 181, 0, 30, 42, 180, 0, 30, 154, 0, 46]
abbrev dktX10_comeNearer_0 : List UInt8 := dkwX10_comeNearer_0 ++ dktX10_comeNearer_1
theorem dksX10_comeNearer_0 : cX10_comeNearer.data.toList.drop 0 = dktX10_comeNearer_0 := by decide +kernel
theorem dksX10_comeNearer_1 : cX10_comeNearer.data.toList.drop 24 = dktX10_comeNearer_1 := dk_seg dksX10_comeNearer_0 24 rfl rfl
theorem dksX10_comeNearer_2 : cX10_comeNearer.data.toList.drop 48 = dktX10_comeNearer_2 := dk_seg dksX10_comeNearer_1 24 rfl rfl
theorem dX10_comeNearer_0 : decode cX10_comeNearer 0 = .ok (.aload_n 0, 1) := dk_42 (dk_at dksX10_comeNearer_0 0 rfl rfl)
theorem dX10_comeNearer_1 : decode cX10_comeNearer 1 = .ok (.invokevirtual 41, 3) := dk_182 0 41 (dk_at dksX10_comeNearer_0 1 rfl rfl)
theorem dX10_comeNearer_4 : decode cX10_comeNearer 4 = .ok (.ifCond .eq 63, 3) := dk_153 0 63 (dk_at dksX10_comeNearer_0 4 rfl rfl)
theorem dX10_comeNearer_7 : decode cX10_comeNearer 7 = .ok (.aload_n 0, 1) := dk_42 (dk_at dksX10_comeNearer_0 7 rfl rfl)
theorem dX10_comeNearer_8 : decode cX10_comeNearer 8 = .ok (.dup, 1) := dk_89 (dk_at dksX10_comeNearer_0 8 rfl rfl)
theorem dX10_comeNearer_9 : decode cX10_comeNearer 9 = .ok (.getfield 30, 3) := dk_180 0 30 (dk_at dksX10_comeNearer_0 9 rfl rfl)
theorem dX10_comeNearer_12 : decode cX10_comeNearer 12 = .ok (.iconst 1, 1) := dk_4 (dk_at dksX10_comeNearer_0 12 rfl rfl)
theorem dX10_comeNearer_13 : decode cX10_comeNearer 13 = .ok (.isub, 1) := dk_100 (dk_at dksX10_comeNearer_0 13 rfl rfl)
theorem dX10_comeNearer_14 : decode cX10_comeNearer 14 = .ok (.putfield 30, 3) := dk_181 0 30 (dk_at dksX10_comeNearer_0 14 rfl rfl)
theorem dX10_comeNearer_17 : decode cX10_comeNearer 17 = .ok (.aload_n 0, 1) := dk_42 (dk_at dksX10_comeNearer_0 17 rfl rfl)
theorem dX10_comeNearer_18 : decode cX10_comeNearer 18 = .ok (.getfield 30, 3) := dk_180 0 30 (dk_at dksX10_comeNearer_0 18 rfl rfl)
theorem dX10_comeNearer_21 : decode cX10_comeNearer 21 = .ok (.ifCond .ne 46, 3) := dk_154 0 46 (dk_at dksX10_comeNearer_0 21 rfl rfl)
theorem dX10_comeNearer_24 : decode cX10_comeNearer 24 = .ok (.aload_n 0, 1) := dk_42 (dk_at dksX10_comeNearer_1 0 rfl rfl)
theorem dX10_comeNearer_25 : decode cX10_comeNearer 25 = .ok (.getfield 9, 3) := dk_180 0 9 (dk_at dksX10_comeNearer_1 1 rfl rfl)
theorem dX10_comeNearer_28 : decode cX10_comeNearer 28 = .ok (.iconst 1, 1) := dk_4 (dk_at dksX10_comeNearer_1 4 rfl rfl)
theorem dX10_comeNearer_29 : decode cX10_comeNearer 29 = .ok (.if_icmp .ne 7, 3) := dk_160 0 7 (dk_at dksX10_comeNearer_1 5 rfl rfl)
theorem dX10_comeNearer_32 : decode cX10_comeNearer 32 = .ok (.iconst 1, 1) := dk_4 (dk_at dksX10_comeNearer_1 8 rfl rfl)
theorem dX10_comeNearer_33 : decode cX10_comeNearer 33 = .ok (.goto 4, 3) := dk_167 0 4 (dk_at dksX10_comeNearer_1 9 rfl rfl)
theorem dX10_comeNearer_36 : decode cX10_comeNearer 36 = .ok (.iconst 0, 1) := dk_3 (dk_at dksX10_comeNearer_1 12 rfl rfl)
theorem dX10_comeNearer_37 : decode cX10_comeNearer 37 = .ok (.istore_n 1, 1) := dk_60 (dk_at dksX10_comeNearer_1 13 rfl rfl)
theorem dX10_comeNearer_38 : decode cX10_comeNearer 38 = .ok (.aload_n 0, 1) := dk_42 (dk_at dksX10_comeNearer_1 14 rfl rfl)
theorem dX10_comeNearer_39 : decode cX10_comeNearer 39 = .ok (.iload_n 1, 1) := dk_27 (dk_at dksX10_comeNearer_1 15 rfl rfl)
theorem dX10_comeNearer_40 : decode cX10_comeNearer 40 = .ok (.ifCond .eq 7, 3) := dk_153 0 7 (dk_at dksX10_comeNearer_1 16 rfl rfl)
theorem dX10_comeNearer_43 : decode cX10_comeNearer 43 = .ok (.iconst 2, 1) := dk_5 (dk_at dksX10_comeNearer_1 19 rfl rfl)
theorem dX10_comeNearer_44 : decode cX10_comeNearer 44 = .ok (.goto 4, 3) := dk_167 0 4 (dk_at dksX10_comeNearer_1 20 rfl rfl)
theorem dX10_comeNearer_47 : decode cX10_comeNearer 47 = .ok (.iconst 0, 1) := dk_3 (dk_at dksX10_comeNearer_1 23 rfl rfl)
theorem dX10_comeNearer_48 : decode cX10_comeNearer 48 = .ok (.putfield 9, 3) := dk_181 0 9 (dk_at dksX10_comeNearer_2 0 rfl rfl)
theorem dX10_comeNearer_51 : decode cX10_comeNearer 51 = .ok (.aload_n 0, 1) := dk_42 (dk_at dksX10_comeNearer_2 3 rfl rfl)
theorem dX10_comeNearer_52 : decode cX10_comeNearer 52 = .ok (.iload_n 1, 1) := dk_27 (dk_at dksX10_comeNearer_2 4 rfl rfl)
theorem dX10_comeNearer_53 : decode cX10_comeNearer 53 = .ok (.ifCond .eq 10, 3) := dk_153 0 10 (dk_at dksX10_comeNearer_2 5 rfl rfl)
theorem dX10_comeNearer_56 : decode cX10_comeNearer 56 = .ok (.aload_n 0, 1) := dk_42 (dk_at dksX10_comeNearer_2 8 rfl rfl)
theorem dX10_comeNearer_57 : decode cX10_comeNearer 57 = .ok (.getfield 15, 3) := dk_180 0 15 (dk_at dksX10_comeNearer_2 9 rfl rfl)
theorem dX10_comeNearer_60 : decode cX10_comeNearer 60 = .ok (.goto 4, 3) := dk_167 0 4 (dk_at dksX10_comeNearer_2 12 rfl rfl)
theorem dX10_comeNearer_63 : decode cX10_comeNearer 63 = .ok (.iconst (-1), 1) := dk_2 (dk_at dksX10_comeNearer_2 15 rfl rfl)
theorem dX10_comeNearer_64 : decode cX10_comeNearer 64 = .ok (.putfield 15, 3) := dk_181 0 15 (dk_at dksX10_comeNearer_2 16 rfl rfl)
theorem dX10_comeNearer_67 : decode cX10_comeNearer 67 = .ok (.return_, 1) := dk_177 (dk_at dksX10_comeNearer_2 19 rfl rfl)
abbrev cX10_isUnderWay : ByteArray := prog_5_method_3_code
def yX10_isUnderWay : MethodName := ⟨RX10, "isUnderWay", "()Z"⟩
def dkwX10_isUnderWay_0 : List UInt8 := [42, 180, 0, 9, 4, 159, 0, 11, 42, 180, 0, 9, 6, 160, 0, 7, 4, 167, 0, 4, 3, 172]
abbrev dktX10_isUnderWay_0 : List UInt8 := dkwX10_isUnderWay_0 ++ []
theorem dksX10_isUnderWay_0 : cX10_isUnderWay.data.toList.drop 0 = dktX10_isUnderWay_0 := by decide +kernel
theorem dX10_isUnderWay_0 : decode cX10_isUnderWay 0 = .ok (.aload_n 0, 1) := dk_42 (dk_at dksX10_isUnderWay_0 0 rfl rfl)
theorem dX10_isUnderWay_1 : decode cX10_isUnderWay 1 = .ok (.getfield 9, 3) := dk_180 0 9 (dk_at dksX10_isUnderWay_0 1 rfl rfl)
theorem dX10_isUnderWay_4 : decode cX10_isUnderWay 4 = .ok (.iconst 1, 1) := dk_4 (dk_at dksX10_isUnderWay_0 4 rfl rfl)
theorem dX10_isUnderWay_5 : decode cX10_isUnderWay 5 = .ok (.if_icmp .eq 11, 3) := dk_159 0 11 (dk_at dksX10_isUnderWay_0 5 rfl rfl)
theorem dX10_isUnderWay_8 : decode cX10_isUnderWay 8 = .ok (.aload_n 0, 1) := dk_42 (dk_at dksX10_isUnderWay_0 8 rfl rfl)
theorem dX10_isUnderWay_9 : decode cX10_isUnderWay 9 = .ok (.getfield 9, 3) := dk_180 0 9 (dk_at dksX10_isUnderWay_0 9 rfl rfl)
theorem dX10_isUnderWay_12 : decode cX10_isUnderWay 12 = .ok (.iconst 3, 1) := dk_6 (dk_at dksX10_isUnderWay_0 12 rfl rfl)
theorem dX10_isUnderWay_13 : decode cX10_isUnderWay 13 = .ok (.if_icmp .ne 7, 3) := dk_160 0 7 (dk_at dksX10_isUnderWay_0 13 rfl rfl)
theorem dX10_isUnderWay_16 : decode cX10_isUnderWay 16 = .ok (.iconst 1, 1) := dk_4 (dk_at dksX10_isUnderWay_0 16 rfl rfl)
theorem dX10_isUnderWay_17 : decode cX10_isUnderWay 17 = .ok (.goto 4, 3) := dk_167 0 4 (dk_at dksX10_isUnderWay_0 17 rfl rfl)
theorem dX10_isUnderWay_20 : decode cX10_isUnderWay 20 = .ok (.iconst 0, 1) := dk_3 (dk_at dksX10_isUnderWay_0 20 rfl rfl)
theorem dX10_isUnderWay_21 : decode cX10_isUnderWay 21 = .ok (.ireturn, 1) := dk_172 (dk_at dksX10_isUnderWay_0 21 rfl rfl)
abbrev cX10_go : ByteArray := prog_5_method_7_code
def yX10_go : MethodName := ⟨RX10, "go", "(III)V"⟩
def dkwX10_go_0 : List UInt8 := [42, 27, 181, 0, 9, 42, 28, 181, 0, 15, 42, 29, 181, 0, 30, 177]
abbrev dktX10_go_0 : List UInt8 := dkwX10_go_0 ++ []
theorem dksX10_go_0 : cX10_go.data.toList.drop 0 = dktX10_go_0 := by decide +kernel
theorem dX10_go_0 : decode cX10_go 0 = .ok (.aload_n 0, 1) := dk_42 (dk_at dksX10_go_0 0 rfl rfl)
theorem dX10_go_1 : decode cX10_go 1 = .ok (.iload_n 1, 1) := dk_27 (dk_at dksX10_go_0 1 rfl rfl)
theorem dX10_go_2 : decode cX10_go 2 = .ok (.putfield 9, 3) := dk_181 0 9 (dk_at dksX10_go_0 2 rfl rfl)
theorem dX10_go_5 : decode cX10_go 5 = .ok (.aload_n 0, 1) := dk_42 (dk_at dksX10_go_0 5 rfl rfl)
theorem dX10_go_6 : decode cX10_go 6 = .ok (.iload_n 2, 1) := dk_28 (dk_at dksX10_go_0 6 rfl rfl)
theorem dX10_go_7 : decode cX10_go 7 = .ok (.putfield 15, 3) := dk_181 0 15 (dk_at dksX10_go_0 7 rfl rfl)
theorem dX10_go_10 : decode cX10_go 10 = .ok (.aload_n 0, 1) := dk_42 (dk_at dksX10_go_0 10 rfl rfl)
theorem dX10_go_11 : decode cX10_go 11 = .ok (.iload_n 3, 1) := dk_29 (dk_at dksX10_go_0 11 rfl rfl)
theorem dX10_go_12 : decode cX10_go 12 = .ok (.putfield 30, 3) := dk_181 0 30 (dk_at dksX10_go_0 12 rfl rfl)
theorem dX10_go_15 : decode cX10_go 15 = .ok (.return_, 1) := dk_177 (dk_at dksX10_go_0 15 rfl rfl)
abbrev cX10_fill : ByteArray := prog_5_method_6_code
def yX10_fill : MethodName := ⟨RX10, "fill", "(I)I"⟩
def dkwX10_fill_1 : List UInt8 := [181, 0, 27, 28, 172]
abbrev dktX10_fill_1 : List UInt8 := dkwX10_fill_1 ++ []
def dkwX10_fill_0 : List UInt8 := [42, 27, 42, 180, 0, 21, 42, 180, 0, 27, 100, 182, 0, 40, 61, 42, 89, 180, 0, 27, 28, 96]
abbrev dktX10_fill_0 : List UInt8 := dkwX10_fill_0 ++ dktX10_fill_1
theorem dksX10_fill_0 : cX10_fill.data.toList.drop 0 = dktX10_fill_0 := by decide +kernel
theorem dksX10_fill_1 : cX10_fill.data.toList.drop 22 = dktX10_fill_1 := dk_seg dksX10_fill_0 22 rfl rfl
theorem dX10_fill_0 : decode cX10_fill 0 = .ok (.aload_n 0, 1) := dk_42 (dk_at dksX10_fill_0 0 rfl rfl)
theorem dX10_fill_1 : decode cX10_fill 1 = .ok (.iload_n 1, 1) := dk_27 (dk_at dksX10_fill_0 1 rfl rfl)
theorem dX10_fill_2 : decode cX10_fill 2 = .ok (.aload_n 0, 1) := dk_42 (dk_at dksX10_fill_0 2 rfl rfl)
theorem dX10_fill_3 : decode cX10_fill 3 = .ok (.getfield 21, 3) := dk_180 0 21 (dk_at dksX10_fill_0 3 rfl rfl)
theorem dX10_fill_6 : decode cX10_fill 6 = .ok (.aload_n 0, 1) := dk_42 (dk_at dksX10_fill_0 6 rfl rfl)
theorem dX10_fill_7 : decode cX10_fill 7 = .ok (.getfield 27, 3) := dk_180 0 27 (dk_at dksX10_fill_0 7 rfl rfl)
theorem dX10_fill_10 : decode cX10_fill 10 = .ok (.isub, 1) := dk_100 (dk_at dksX10_fill_0 10 rfl rfl)
theorem dX10_fill_11 : decode cX10_fill 11 = .ok (.invokevirtual 40, 3) := dk_182 0 40 (dk_at dksX10_fill_0 11 rfl rfl)
theorem dX10_fill_14 : decode cX10_fill 14 = .ok (.istore_n 2, 1) := dk_61 (dk_at dksX10_fill_0 14 rfl rfl)
theorem dX10_fill_15 : decode cX10_fill 15 = .ok (.aload_n 0, 1) := dk_42 (dk_at dksX10_fill_0 15 rfl rfl)
theorem dX10_fill_16 : decode cX10_fill 16 = .ok (.dup, 1) := dk_89 (dk_at dksX10_fill_0 16 rfl rfl)
theorem dX10_fill_17 : decode cX10_fill 17 = .ok (.getfield 27, 3) := dk_180 0 27 (dk_at dksX10_fill_0 17 rfl rfl)
theorem dX10_fill_20 : decode cX10_fill 20 = .ok (.iload_n 2, 1) := dk_28 (dk_at dksX10_fill_0 20 rfl rfl)
theorem dX10_fill_21 : decode cX10_fill 21 = .ok (.iadd, 1) := dk_96 (dk_at dksX10_fill_0 21 rfl rfl)
theorem dX10_fill_22 : decode cX10_fill 22 = .ok (.putfield 27, 3) := dk_181 0 27 (dk_at dksX10_fill_1 0 rfl rfl)
theorem dX10_fill_25 : decode cX10_fill 25 = .ok (.iload_n 2, 1) := dk_28 (dk_at dksX10_fill_1 3 rfl rfl)
theorem dX10_fill_26 : decode cX10_fill 26 = .ok (.ireturn, 1) := dk_172 (dk_at dksX10_fill_1 4 rfl rfl)
abbrev cX10_taken : ByteArray := prog_5_method_5_code
def yX10_taken : MethodName := ⟨RX10, "taken", "(II)I"⟩
def dkwX10_taken_0 : List UInt8 := [42, 180, 0, 9, 154, 0, 12, 42, 27, 28, 183, 0, 36, 167, 0, 4, 3, 172]
abbrev dktX10_taken_0 : List UInt8 := dkwX10_taken_0 ++ []
theorem dksX10_taken_0 : cX10_taken.data.toList.drop 0 = dktX10_taken_0 := by decide +kernel
theorem dX10_taken_0 : decode cX10_taken 0 = .ok (.aload_n 0, 1) := dk_42 (dk_at dksX10_taken_0 0 rfl rfl)
theorem dX10_taken_1 : decode cX10_taken 1 = .ok (.getfield 9, 3) := dk_180 0 9 (dk_at dksX10_taken_0 1 rfl rfl)
theorem dX10_taken_4 : decode cX10_taken 4 = .ok (.ifCond .ne 12, 3) := dk_154 0 12 (dk_at dksX10_taken_0 4 rfl rfl)
theorem dX10_taken_7 : decode cX10_taken 7 = .ok (.aload_n 0, 1) := dk_42 (dk_at dksX10_taken_0 7 rfl rfl)
theorem dX10_taken_8 : decode cX10_taken 8 = .ok (.iload_n 1, 1) := dk_27 (dk_at dksX10_taken_0 8 rfl rfl)
theorem dX10_taken_9 : decode cX10_taken 9 = .ok (.iload_n 2, 1) := dk_28 (dk_at dksX10_taken_0 9 rfl rfl)
theorem dX10_taken_10 : decode cX10_taken 10 = .ok (.invokespecial 36, 3) := dk_183 0 36 (dk_at dksX10_taken_0 10 rfl rfl)
theorem dX10_taken_13 : decode cX10_taken 13 = .ok (.goto 4, 3) := dk_167 0 4 (dk_at dksX10_taken_0 13 rfl rfl)
theorem dX10_taken_16 : decode cX10_taken 16 = .ok (.iconst 0, 1) := dk_3 (dk_at dksX10_taken_0 16 rfl rfl)
theorem dX10_taken_17 : decode cX10_taken 17 = .ok (.ireturn, 1) := dk_172 (dk_at dksX10_taken_0 17 rfl rfl)
theorem q105 : (Jvm.Cond.initialized "SpoilMeadows$Barge") ∈ lw_all := lw_g (lw_at lw_m1 32 rfl) rfl
theorem q585 : (Jvm.Cond.selects "SpoilMeadows$Barge" ({ cls := "java/lang/Object", name := "getClass", desc := "()Ljava/lang/Class;" } : Jvm.MethodName) ({ cls := "java/lang/Object", name := "getClass", desc := "()Ljava/lang/Class;" } : Jvm.MethodName)) ∈ lw_all := lw_g (lw_at lw_m3 32 rfl) rfl
theorem q959 : (Jvm.Cond.instanceMethod ({ cls := "SpoilMeadows$Barge", name := "isBoundFor", desc := "(I)Z" } : Jvm.MethodName)) ∈ lw_all := lw_g (lw_at lw_m4 166 rfl) rfl
theorem q960 : (Jvm.Cond.selects "SpoilMeadows$Barge" ({ cls := "SpoilMeadows$Barge", name := "isBoundFor", desc := "(I)Z" } : Jvm.MethodName) ({ cls := "SpoilMeadows$Barge", name := "isBoundFor", desc := "(I)Z" } : Jvm.MethodName)) ∈ lw_all := lw_g (lw_at lw_m4 167 rfl) rfl
theorem q961 : (Jvm.Cond.code ({ cls := "SpoilMeadows$Barge", name := "isBoundFor", desc := "(I)Z" } : Jvm.MethodName) prog_5_method_4_code (2 : Nat) (Option.some Jvm.ClassFile.FieldType.boolean)) ∈ lw_all := lw_g (lw_at lw_m4 168 rfl) rfl
theorem q989 : (Jvm.Cond.instanceMethod ({ cls := "SpoilMeadows$Barge", name := "twin", desc := "()LSpoilMeadows$Barge;" } : Jvm.MethodName)) ∈ lw_all := lw_g (lw_at lw_m4 196 rfl) rfl
theorem q990 : (Jvm.Cond.selects "SpoilMeadows$Barge" ({ cls := "SpoilMeadows$Barge", name := "twin", desc := "()LSpoilMeadows$Barge;" } : Jvm.MethodName) ({ cls := "SpoilMeadows$Barge", name := "twin", desc := "()LSpoilMeadows$Barge;" } : Jvm.MethodName)) ∈ lw_all := lw_g (lw_at lw_m4 197 rfl) rfl
theorem q991 : (Jvm.Cond.code ({ cls := "SpoilMeadows$Barge", name := "twin", desc := "()LSpoilMeadows$Barge;" } : Jvm.MethodName) prog_5_method_2_code (2 : Nat) (Option.some (Jvm.ClassFile.FieldType.object "SpoilMeadows$Barge"))) ∈ lw_all := lw_g (lw_at lw_m4 198 rfl) rfl
theorem q992 : (Jvm.Cond.classLink "SpoilMeadows$Barge" (10 : Nat) "SpoilMeadows$Barge") ∈ lw_all := lw_g (lw_at lw_m4 199 rfl) rfl
theorem q993 : (Jvm.Cond.instantiable "SpoilMeadows$Barge" (7 : Nat)) ∈ lw_all := lw_g (lw_at lw_m4 200 rfl) rfl
theorem q994 : (Jvm.Cond.methodLink "SpoilMeadows$Barge" (24 : Nat) ({ cls := "SpoilMeadows$Barge", name := "<init>", desc := "(I)V" } : Jvm.MethodName)) ∈ lw_all := lw_g (lw_at lw_m4 201 rfl) rfl
theorem q995 : (Jvm.Cond.instanceMethod ({ cls := "SpoilMeadows$Barge", name := "<init>", desc := "(I)V" } : Jvm.MethodName)) ∈ lw_all := lw_g (lw_at lw_m4 202 rfl) rfl
theorem q996 : (Jvm.Cond.code ({ cls := "SpoilMeadows$Barge", name := "<init>", desc := "(I)V" } : Jvm.MethodName) prog_5_method_1_code (2 : Nat) (Option.none : Option Jvm.ClassFile.FieldType)) ∈ lw_all := lw_g (lw_at lw_m4 203 rfl) rfl
theorem q997 : (Jvm.Cond.methodLinkNest "SpoilMeadows$Barge" (3 : Nat) ({ cls := "SpoilMeadows$Hold", name := "<init>", desc := "()V" } : Jvm.MethodName) "SpoilMeadows") ∈ lw_tbl := lw_at lw_m4 204 rfl
theorem q998 : (Jvm.Cond.fieldLink "SpoilMeadows$Barge" (21 : Nat) "SpoilMeadows$Barge" "size" "I") ∈ lw_all := lw_g (lw_at lw_m4 205 rfl) rfl
theorem q1001 : (Jvm.Cond.fieldLink "SpoilMeadows$Barge" (9 : Nat) "SpoilMeadows$Barge" "mode" "I") ∈ lw_all := lw_g (lw_at lw_m4 208 rfl) rfl
theorem q1006 : (Jvm.Cond.fieldLink "SpoilMeadows$Barge" (27 : Nat) "SpoilMeadows$Barge" "load" "I") ∈ lw_all := lw_g (lw_at lw_m4 213 rfl) rfl
theorem q1009 : (Jvm.Cond.fieldLink "SpoilMeadows$Barge" (15 : Nat) "SpoilMeadows$Barge" "goal" "I") ∈ lw_all := lw_g (lw_at lw_m4 216 rfl) rfl
theorem q1012 : (Jvm.Cond.fieldLink "SpoilMeadows$Barge" (30 : Nat) "SpoilMeadows$Barge" "left" "I") ∈ lw_all := lw_g (lw_at lw_m4 219 rfl) rfl
theorem q1014 : (Jvm.Cond.fieldLink "SpoilMeadows$Barge" (18 : Nat) "SpoilMeadows$Barge" "order" "I") ∈ lw_all := lw_g (lw_at lw_m4 221 rfl) rfl
theorem q1018 : (Jvm.Cond.fieldLink "SpoilMeadows$Barge" (33 : Nat) "SpoilMeadows$Barge" "laid" "I") ∈ lw_all := lw_g (lw_at lw_m4 225 rfl) rfl
theorem q1021 : (Jvm.Cond.laysFinal "SpoilMeadows$Barge" "SpoilMeadows$Barge" "size" "I") ∈ lw_all := lw_g (lw_at lw_m4 228 rfl) rfl
theorem q1022 : (Jvm.Cond.soleField "SpoilMeadows$Barge" "size") ∈ lw_all := lw_g (lw_at lw_m4 229 rfl) rfl
theorem q1023 : (Jvm.Cond.lays "SpoilMeadows$Barge" "SpoilMeadows$Barge" "mode" "I") ∈ lw_all := lw_g (lw_at lw_m4 230 rfl) rfl
theorem q1024 : (Jvm.Cond.soleField "SpoilMeadows$Barge" "mode") ∈ lw_all := lw_g (lw_at lw_m4 231 rfl) rfl
theorem q1025 : (Jvm.Cond.lays "SpoilMeadows$Barge" "SpoilMeadows$Barge" "load" "I") ∈ lw_all := lw_g (lw_at lw_m4 232 rfl) rfl
theorem q1026 : (Jvm.Cond.soleField "SpoilMeadows$Barge" "load") ∈ lw_all := lw_g (lw_at lw_m4 233 rfl) rfl
theorem q1027 : (Jvm.Cond.lays "SpoilMeadows$Barge" "SpoilMeadows$Barge" "goal" "I") ∈ lw_all := lw_g (lw_at lw_m4 234 rfl) rfl
theorem q1028 : (Jvm.Cond.soleField "SpoilMeadows$Barge" "goal") ∈ lw_all := lw_g (lw_at lw_m4 235 rfl) rfl
theorem q1029 : (Jvm.Cond.lays "SpoilMeadows$Barge" "SpoilMeadows$Barge" "left" "I") ∈ lw_all := lw_g (lw_at lw_m4 236 rfl) rfl
theorem q1030 : (Jvm.Cond.soleField "SpoilMeadows$Barge" "left") ∈ lw_all := lw_g (lw_at lw_m4 237 rfl) rfl
theorem q1031 : (Jvm.Cond.lays "SpoilMeadows$Barge" "SpoilMeadows$Barge" "order" "I") ∈ lw_all := lw_g (lw_at lw_m4 238 rfl) rfl
theorem q1032 : (Jvm.Cond.soleField "SpoilMeadows$Barge" "order") ∈ lw_all := lw_g (lw_at lw_m4 239 rfl) rfl
theorem q1033 : (Jvm.Cond.lays "SpoilMeadows$Barge" "SpoilMeadows$Barge" "laid" "I") ∈ lw_all := lw_g (lw_at lw_m5 0 rfl) rfl
theorem q1034 : (Jvm.Cond.soleField "SpoilMeadows$Barge" "laid") ∈ lw_all := lw_g (lw_at lw_m5 1 rfl) rfl
theorem q1035 : (Jvm.Cond.superclass "SpoilMeadows$Barge" "SpoilMeadows$Hold") ∈ lw_all := lw_g (lw_at lw_m5 2 rfl) rfl
theorem q1061 : (Jvm.Cond.instanceMethod ({ cls := "SpoilMeadows$Barge", name := "comeNearer", desc := "()V" } : Jvm.MethodName)) ∈ lw_all := lw_g (lw_at lw_m5 28 rfl) rfl
theorem q1062 : (Jvm.Cond.selects "SpoilMeadows$Barge" ({ cls := "SpoilMeadows$Barge", name := "comeNearer", desc := "()V" } : Jvm.MethodName) ({ cls := "SpoilMeadows$Barge", name := "comeNearer", desc := "()V" } : Jvm.MethodName)) ∈ lw_all := lw_g (lw_at lw_m5 29 rfl) rfl
theorem q1063 : (Jvm.Cond.code ({ cls := "SpoilMeadows$Barge", name := "comeNearer", desc := "()V" } : Jvm.MethodName) prog_5_method_8_code (2 : Nat) (Option.none : Option Jvm.ClassFile.FieldType)) ∈ lw_all := lw_g (lw_at lw_m5 30 rfl) rfl
theorem q1064 : (Jvm.Cond.methodLink "SpoilMeadows$Barge" (41 : Nat) ({ cls := "SpoilMeadows$Barge", name := "isUnderWay", desc := "()Z" } : Jvm.MethodName)) ∈ lw_all := lw_g (lw_at lw_m5 31 rfl) rfl
theorem q1065 : (Jvm.Cond.instanceMethod ({ cls := "SpoilMeadows$Barge", name := "isUnderWay", desc := "()Z" } : Jvm.MethodName)) ∈ lw_all := lw_g (lw_at lw_m5 32 rfl) rfl
theorem q1066 : (Jvm.Cond.selects "SpoilMeadows$Barge" ({ cls := "SpoilMeadows$Barge", name := "isUnderWay", desc := "()Z" } : Jvm.MethodName) ({ cls := "SpoilMeadows$Barge", name := "isUnderWay", desc := "()Z" } : Jvm.MethodName)) ∈ lw_all := lw_g (lw_at lw_m5 33 rfl) rfl
theorem q1067 : (Jvm.Cond.code ({ cls := "SpoilMeadows$Barge", name := "isUnderWay", desc := "()Z" } : Jvm.MethodName) prog_5_method_3_code (1 : Nat) (Option.some Jvm.ClassFile.FieldType.boolean)) ∈ lw_all := lw_g (lw_at lw_m5 34 rfl) rfl
theorem q1095 : (Jvm.Cond.instanceMethod ({ cls := "SpoilMeadows$Barge", name := "go", desc := "(III)V" } : Jvm.MethodName)) ∈ lw_all := lw_g (lw_at lw_m5 62 rfl) rfl
theorem q1096 : (Jvm.Cond.selects "SpoilMeadows$Barge" ({ cls := "SpoilMeadows$Barge", name := "go", desc := "(III)V" } : Jvm.MethodName) ({ cls := "SpoilMeadows$Barge", name := "go", desc := "(III)V" } : Jvm.MethodName)) ∈ lw_all := lw_g (lw_at lw_m5 63 rfl) rfl
theorem q1097 : (Jvm.Cond.code ({ cls := "SpoilMeadows$Barge", name := "go", desc := "(III)V" } : Jvm.MethodName) prog_5_method_7_code (4 : Nat) (Option.none : Option Jvm.ClassFile.FieldType)) ∈ lw_all := lw_g (lw_at lw_m5 64 rfl) rfl
theorem q1104 : (Jvm.Cond.instanceMethod ({ cls := "SpoilMeadows$Barge", name := "fill", desc := "(I)I" } : Jvm.MethodName)) ∈ lw_all := lw_g (lw_at lw_m5 71 rfl) rfl
theorem q1105 : (Jvm.Cond.selects "SpoilMeadows$Barge" ({ cls := "SpoilMeadows$Barge", name := "fill", desc := "(I)I" } : Jvm.MethodName) ({ cls := "SpoilMeadows$Barge", name := "fill", desc := "(I)I" } : Jvm.MethodName)) ∈ lw_all := lw_g (lw_at lw_m5 72 rfl) rfl
theorem q1106 : (Jvm.Cond.code ({ cls := "SpoilMeadows$Barge", name := "fill", desc := "(I)I" } : Jvm.MethodName) prog_5_method_6_code (3 : Nat) (Option.some Jvm.ClassFile.FieldType.int)) ∈ lw_all := lw_g (lw_at lw_m5 73 rfl) rfl
theorem q1107 : (Jvm.Cond.methodLink "SpoilMeadows$Barge" (40 : Nat) ({ cls := "SpoilMeadows$Barge", name := "taken", desc := "(II)I" } : Jvm.MethodName)) ∈ lw_all := lw_g (lw_at lw_m5 74 rfl) rfl
theorem q1108 : (Jvm.Cond.instanceMethod ({ cls := "SpoilMeadows$Barge", name := "taken", desc := "(II)I" } : Jvm.MethodName)) ∈ lw_all := lw_g (lw_at lw_m5 75 rfl) rfl
theorem q1109 : (Jvm.Cond.selects "SpoilMeadows$Barge" ({ cls := "SpoilMeadows$Barge", name := "taken", desc := "(II)I" } : Jvm.MethodName) ({ cls := "SpoilMeadows$Barge", name := "taken", desc := "(II)I" } : Jvm.MethodName)) ∈ lw_all := lw_g (lw_at lw_m5 76 rfl) rfl
theorem q1110 : (Jvm.Cond.code ({ cls := "SpoilMeadows$Barge", name := "taken", desc := "(II)I" } : Jvm.MethodName) prog_5_method_5_code (3 : Nat) (Option.some Jvm.ClassFile.FieldType.int)) ∈ lw_all := lw_g (lw_at lw_m5 77 rfl) rfl
theorem q1985 : (Jvm.Cond.castable "SpoilMeadows$Barge" "java/lang/Object") ∈ lw_tbl := lw_at lw_m8 232 rfl
theorem in_X10 : ∀ w ∈ wsX100, w ∈ lw_all := lw_in wsX100 [1021, 1023, 1025, 1027, 1029, 1031, 1033] (by decide +kernel) (by decide +kernel)

/-! SpoilMeadows$Reader -/
set_option maxRecDepth 100000
def RX11 : String := "SpoilMeadows$Reader"
def TX11 : u_T := fun k => match k with
  | 0 => ("SpoilMeadows$Reader", "at", "I", false)
  | 1 => ("SpoilMeadows$Reader", "word", "C", false)
  | 2 => ("SpoilMeadows$Reader", "first", "I", false)
  | 3 => ("SpoilMeadows$Reader", "second", "I", false)
  | _ => ("SpoilMeadows$Reader", "this$0", "LSpoilMeadows;", true)
def tyX11 : Nat → FieldType := fun k => match k with
  | 0 => .int
  | 1 => .char
  | 2 => .int
  | 3 => .int
  | _ => .object "SpoilMeadows"
abbrev wsX110 : List Cond := u_ws RX11 TX11 5
theorem nmX11 : ∀ a, a < 5 → ∀ b, b < 5 → a ≠ b → (TX11 a).2.1 ≠ (TX11 b).2.1 := by decide +kernel
theorem tyX11_ok : ∀ k, k < 5 → parseFieldDescriptor (TX11 k).2.2.1 = some (tyX11 k) := by decide +kernel
abbrev cX11_init : ByteArray := prog_11_method_1_code
def yX11_init : MethodName := ⟨RX11, "<init>", "(LSpoilMeadows;)V"⟩
def dkwX11_init_0 : List UInt8 := [42, 43, 181, 0, 3, 42, 183, 0, 9, 177]
abbrev dktX11_init_0 : List UInt8 := dkwX11_init_0 ++ []
theorem dksX11_init_0 : cX11_init.data.toList.drop 0 = dktX11_init_0 := by decide +kernel
theorem dX11_init_0 : decode cX11_init 0 = .ok (.aload_n 0, 1) := dk_42 (dk_at dksX11_init_0 0 rfl rfl)
theorem dX11_init_1 : decode cX11_init 1 = .ok (.aload_n 1, 1) := dk_43 (dk_at dksX11_init_0 1 rfl rfl)
theorem dX11_init_2 : decode cX11_init 2 = .ok (.putfield 3, 3) := dk_181 0 3 (dk_at dksX11_init_0 2 rfl rfl)
theorem dX11_init_5 : decode cX11_init 5 = .ok (.aload_n 0, 1) := dk_42 (dk_at dksX11_init_0 5 rfl rfl)
theorem dX11_init_6 : decode cX11_init 6 = .ok (.invokespecial 9, 3) := dk_183 0 9 (dk_at dksX11_init_0 6 rfl rfl)
theorem dX11_init_9 : decode cX11_init 9 = .ok (.return_, 1) := dk_177 (dk_at dksX11_init_0 9 rfl rfl)
abbrev cX11_isWhole : ByteArray := prog_11_method_9_code
def yX11_isWhole : MethodName := ⟨RX11, "isWhole", "()Z"⟩
def dkwX11_isWhole_2 : List UInt8 := [4, 167, 0, 4, 3, 172]
abbrev dktX11_isWhole_2 : List UInt8 := dkwX11_isWhole_2 ++ []
def dkwX11_isWhole_1 : List UInt8 := [167, 255, 238, 27, 153, 0, 24, 42, 180, 0, 15, 42, 180, 0, 3, 180, 0, 19, 182, 0, 23, 160, 0, 7]
abbrev dktX11_isWhole_1 : List UInt8 := dkwX11_isWhole_1 ++ dktX11_isWhole_2
def dkwX11_isWhole_0 : List UInt8 := [42, 182, 0, 78, 60, 27, 153, 0, 20, 42, 16, 59, 182, 0, 59, 153, 0, 11, 42, 182, 0, 78, 60]
abbrev dktX11_isWhole_0 : List UInt8 := dkwX11_isWhole_0 ++ dktX11_isWhole_1
theorem dksX11_isWhole_0 : cX11_isWhole.data.toList.drop 0 = dktX11_isWhole_0 := by decide +kernel
theorem dksX11_isWhole_1 : cX11_isWhole.data.toList.drop 23 = dktX11_isWhole_1 := dk_seg dksX11_isWhole_0 23 rfl rfl
theorem dksX11_isWhole_2 : cX11_isWhole.data.toList.drop 47 = dktX11_isWhole_2 := dk_seg dksX11_isWhole_1 24 rfl rfl
theorem dX11_isWhole_0 : decode cX11_isWhole 0 = .ok (.aload_n 0, 1) := dk_42 (dk_at dksX11_isWhole_0 0 rfl rfl)
theorem dX11_isWhole_1 : decode cX11_isWhole 1 = .ok (.invokevirtual 78, 3) := dk_182 0 78 (dk_at dksX11_isWhole_0 1 rfl rfl)
theorem dX11_isWhole_4 : decode cX11_isWhole 4 = .ok (.istore_n 1, 1) := dk_60 (dk_at dksX11_isWhole_0 4 rfl rfl)
theorem dX11_isWhole_5 : decode cX11_isWhole 5 = .ok (.iload_n 1, 1) := dk_27 (dk_at dksX11_isWhole_0 5 rfl rfl)
theorem dX11_isWhole_6 : decode cX11_isWhole 6 = .ok (.ifCond .eq 20, 3) := dk_153 0 20 (dk_at dksX11_isWhole_0 6 rfl rfl)
theorem dX11_isWhole_9 : decode cX11_isWhole 9 = .ok (.aload_n 0, 1) := dk_42 (dk_at dksX11_isWhole_0 9 rfl rfl)
theorem dX11_isWhole_10 : decode cX11_isWhole 10 = .ok (.bipush 59, 2) := dk_16 59 (dk_at dksX11_isWhole_0 10 rfl rfl)
theorem dX11_isWhole_12 : decode cX11_isWhole 12 = .ok (.invokevirtual 59, 3) := dk_182 0 59 (dk_at dksX11_isWhole_0 12 rfl rfl)
theorem dX11_isWhole_15 : decode cX11_isWhole 15 = .ok (.ifCond .eq 11, 3) := dk_153 0 11 (dk_at dksX11_isWhole_0 15 rfl rfl)
theorem dX11_isWhole_18 : decode cX11_isWhole 18 = .ok (.aload_n 0, 1) := dk_42 (dk_at dksX11_isWhole_0 18 rfl rfl)
theorem dX11_isWhole_19 : decode cX11_isWhole 19 = .ok (.invokevirtual 78, 3) := dk_182 0 78 (dk_at dksX11_isWhole_0 19 rfl rfl)
theorem dX11_isWhole_22 : decode cX11_isWhole 22 = .ok (.istore_n 1, 1) := dk_60 (dk_at dksX11_isWhole_0 22 rfl rfl)
theorem dX11_isWhole_23 : decode cX11_isWhole 23 = .ok (.goto (-18), 3) := dk_167 255 238 (dk_at dksX11_isWhole_1 0 rfl rfl)
theorem dX11_isWhole_26 : decode cX11_isWhole 26 = .ok (.iload_n 1, 1) := dk_27 (dk_at dksX11_isWhole_1 3 rfl rfl)
theorem dX11_isWhole_27 : decode cX11_isWhole 27 = .ok (.ifCond .eq 24, 3) := dk_153 0 24 (dk_at dksX11_isWhole_1 4 rfl rfl)
theorem dX11_isWhole_30 : decode cX11_isWhole 30 = .ok (.aload_n 0, 1) := dk_42 (dk_at dksX11_isWhole_1 7 rfl rfl)
theorem dX11_isWhole_31 : decode cX11_isWhole 31 = .ok (.getfield 15, 3) := dk_180 0 15 (dk_at dksX11_isWhole_1 8 rfl rfl)
theorem dX11_isWhole_34 : decode cX11_isWhole 34 = .ok (.aload_n 0, 1) := dk_42 (dk_at dksX11_isWhole_1 11 rfl rfl)
theorem dX11_isWhole_35 : decode cX11_isWhole 35 = .ok (.getfield 3, 3) := dk_180 0 3 (dk_at dksX11_isWhole_1 12 rfl rfl)
theorem dX11_isWhole_38 : decode cX11_isWhole 38 = .ok (.getfield 19, 3) := dk_180 0 19 (dk_at dksX11_isWhole_1 15 rfl rfl)
theorem dX11_isWhole_41 : decode cX11_isWhole 41 = .ok (.invokevirtual 23, 3) := dk_182 0 23 (dk_at dksX11_isWhole_1 18 rfl rfl)
theorem dX11_isWhole_44 : decode cX11_isWhole 44 = .ok (.if_icmp .ne 7, 3) := dk_160 0 7 (dk_at dksX11_isWhole_1 21 rfl rfl)
theorem dX11_isWhole_47 : decode cX11_isWhole 47 = .ok (.iconst 1, 1) := dk_4 (dk_at dksX11_isWhole_2 0 rfl rfl)
theorem dX11_isWhole_48 : decode cX11_isWhole 48 = .ok (.goto 4, 3) := dk_167 0 4 (dk_at dksX11_isWhole_2 1 rfl rfl)
theorem dX11_isWhole_51 : decode cX11_isWhole 51 = .ok (.iconst 0, 1) := dk_3 (dk_at dksX11_isWhole_2 4 rfl rfl)
theorem dX11_isWhole_52 : decode cX11_isWhole 52 = .ok (.ireturn, 1) := dk_172 (dk_at dksX11_isWhole_2 5 rfl rfl)
abbrev cX11_next : ByteArray := prog_11_method_8_code
def yX11_next : MethodName := ⟨RX11, "next", "()Z"⟩
def dkwX11_next_4 : List UInt8 := [153, 0, 17, 42, 4, 16, 60, 182, 0, 71, 153, 0, 7, 4, 167, 0, 4, 3, 172]
abbrev dktX11_next_4 : List UInt8 := dkwX11_next_4 ++ []
def dkwX11_next_3 : List UInt8 := [42, 16, 120, 182, 0, 59, 153, 0, 10, 42, 182, 0, 75, 167, 0, 27, 42, 16, 110, 182, 0, 59]
abbrev dktX11_next_3 : List UInt8 := dkwX11_next_3 ++ dktX11_next_4
def dkwX11_next_2 : List UInt8 := [153, 0, 8, 42, 182, 0, 67, 172, 42, 16, 109, 182, 0, 59, 153, 0, 10, 42, 3, 8, 182, 0, 71, 172]
abbrev dktX11_next_2 : List UInt8 := dkwX11_next_2 ++ dktX11_next_3
def dkwX11_next_1 : List UInt8 := [180, 0, 19, 42, 180, 0, 15, 182, 0, 29, 167, 0, 5, 16, 32, 181, 0, 63, 42, 16, 98, 182, 0, 59]
abbrev dktX11_next_1 : List UInt8 := dkwX11_next_1 ++ dktX11_next_2
def dkwX11_next_0 : List UInt8 := [42, 42, 180, 0, 15, 42, 180, 0, 3, 180, 0, 19, 182, 0, 23, 162, 0, 20, 42, 180, 0, 3]
abbrev dktX11_next_0 : List UInt8 := dkwX11_next_0 ++ dktX11_next_1
theorem dksX11_next_0 : cX11_next.data.toList.drop 0 = dktX11_next_0 := by decide +kernel
theorem dksX11_next_1 : cX11_next.data.toList.drop 22 = dktX11_next_1 := dk_seg dksX11_next_0 22 rfl rfl
theorem dksX11_next_2 : cX11_next.data.toList.drop 46 = dktX11_next_2 := dk_seg dksX11_next_1 24 rfl rfl
theorem dksX11_next_3 : cX11_next.data.toList.drop 70 = dktX11_next_3 := dk_seg dksX11_next_2 24 rfl rfl
theorem dksX11_next_4 : cX11_next.data.toList.drop 92 = dktX11_next_4 := dk_seg dksX11_next_3 22 rfl rfl
theorem dX11_next_0 : decode cX11_next 0 = .ok (.aload_n 0, 1) := dk_42 (dk_at dksX11_next_0 0 rfl rfl)
theorem dX11_next_1 : decode cX11_next 1 = .ok (.aload_n 0, 1) := dk_42 (dk_at dksX11_next_0 1 rfl rfl)
theorem dX11_next_2 : decode cX11_next 2 = .ok (.getfield 15, 3) := dk_180 0 15 (dk_at dksX11_next_0 2 rfl rfl)
theorem dX11_next_5 : decode cX11_next 5 = .ok (.aload_n 0, 1) := dk_42 (dk_at dksX11_next_0 5 rfl rfl)
theorem dX11_next_6 : decode cX11_next 6 = .ok (.getfield 3, 3) := dk_180 0 3 (dk_at dksX11_next_0 6 rfl rfl)
theorem dX11_next_9 : decode cX11_next 9 = .ok (.getfield 19, 3) := dk_180 0 19 (dk_at dksX11_next_0 9 rfl rfl)
theorem dX11_next_12 : decode cX11_next 12 = .ok (.invokevirtual 23, 3) := dk_182 0 23 (dk_at dksX11_next_0 12 rfl rfl)
theorem dX11_next_15 : decode cX11_next 15 = .ok (.if_icmp .ge 20, 3) := dk_162 0 20 (dk_at dksX11_next_0 15 rfl rfl)
theorem dX11_next_18 : decode cX11_next 18 = .ok (.aload_n 0, 1) := dk_42 (dk_at dksX11_next_0 18 rfl rfl)
theorem dX11_next_19 : decode cX11_next 19 = .ok (.getfield 3, 3) := dk_180 0 3 (dk_at dksX11_next_0 19 rfl rfl)
theorem dX11_next_22 : decode cX11_next 22 = .ok (.getfield 19, 3) := dk_180 0 19 (dk_at dksX11_next_1 0 rfl rfl)
theorem dX11_next_25 : decode cX11_next 25 = .ok (.aload_n 0, 1) := dk_42 (dk_at dksX11_next_1 3 rfl rfl)
theorem dX11_next_26 : decode cX11_next 26 = .ok (.getfield 15, 3) := dk_180 0 15 (dk_at dksX11_next_1 4 rfl rfl)
theorem dX11_next_29 : decode cX11_next 29 = .ok (.invokevirtual 29, 3) := dk_182 0 29 (dk_at dksX11_next_1 7 rfl rfl)
theorem dX11_next_32 : decode cX11_next 32 = .ok (.goto 5, 3) := dk_167 0 5 (dk_at dksX11_next_1 10 rfl rfl)
theorem dX11_next_35 : decode cX11_next 35 = .ok (.bipush 32, 2) := dk_16 32 (dk_at dksX11_next_1 13 rfl rfl)
theorem dX11_next_37 : decode cX11_next 37 = .ok (.putfield 63, 3) := dk_181 0 63 (dk_at dksX11_next_1 15 rfl rfl)
theorem dX11_next_40 : decode cX11_next 40 = .ok (.aload_n 0, 1) := dk_42 (dk_at dksX11_next_1 18 rfl rfl)
theorem dX11_next_41 : decode cX11_next 41 = .ok (.bipush 98, 2) := dk_16 98 (dk_at dksX11_next_1 19 rfl rfl)
theorem dX11_next_43 : decode cX11_next 43 = .ok (.invokevirtual 59, 3) := dk_182 0 59 (dk_at dksX11_next_1 21 rfl rfl)
theorem dX11_next_46 : decode cX11_next 46 = .ok (.ifCond .eq 8, 3) := dk_153 0 8 (dk_at dksX11_next_2 0 rfl rfl)
theorem dX11_next_49 : decode cX11_next 49 = .ok (.aload_n 0, 1) := dk_42 (dk_at dksX11_next_2 3 rfl rfl)
theorem dX11_next_50 : decode cX11_next 50 = .ok (.invokevirtual 67, 3) := dk_182 0 67 (dk_at dksX11_next_2 4 rfl rfl)
theorem dX11_next_53 : decode cX11_next 53 = .ok (.ireturn, 1) := dk_172 (dk_at dksX11_next_2 7 rfl rfl)
theorem dX11_next_54 : decode cX11_next 54 = .ok (.aload_n 0, 1) := dk_42 (dk_at dksX11_next_2 8 rfl rfl)
theorem dX11_next_55 : decode cX11_next 55 = .ok (.bipush 109, 2) := dk_16 109 (dk_at dksX11_next_2 9 rfl rfl)
theorem dX11_next_57 : decode cX11_next 57 = .ok (.invokevirtual 59, 3) := dk_182 0 59 (dk_at dksX11_next_2 11 rfl rfl)
theorem dX11_next_60 : decode cX11_next 60 = .ok (.ifCond .eq 10, 3) := dk_153 0 10 (dk_at dksX11_next_2 14 rfl rfl)
theorem dX11_next_63 : decode cX11_next 63 = .ok (.aload_n 0, 1) := dk_42 (dk_at dksX11_next_2 17 rfl rfl)
theorem dX11_next_64 : decode cX11_next 64 = .ok (.iconst 0, 1) := dk_3 (dk_at dksX11_next_2 18 rfl rfl)
theorem dX11_next_65 : decode cX11_next 65 = .ok (.iconst 5, 1) := dk_8 (dk_at dksX11_next_2 19 rfl rfl)
theorem dX11_next_66 : decode cX11_next 66 = .ok (.invokevirtual 71, 3) := dk_182 0 71 (dk_at dksX11_next_2 20 rfl rfl)
theorem dX11_next_69 : decode cX11_next 69 = .ok (.ireturn, 1) := dk_172 (dk_at dksX11_next_2 23 rfl rfl)
theorem dX11_next_70 : decode cX11_next 70 = .ok (.aload_n 0, 1) := dk_42 (dk_at dksX11_next_3 0 rfl rfl)
theorem dX11_next_71 : decode cX11_next 71 = .ok (.bipush 120, 2) := dk_16 120 (dk_at dksX11_next_3 1 rfl rfl)
theorem dX11_next_73 : decode cX11_next 73 = .ok (.invokevirtual 59, 3) := dk_182 0 59 (dk_at dksX11_next_3 3 rfl rfl)
theorem dX11_next_76 : decode cX11_next 76 = .ok (.ifCond .eq 10, 3) := dk_153 0 10 (dk_at dksX11_next_3 6 rfl rfl)
theorem dX11_next_79 : decode cX11_next 79 = .ok (.aload_n 0, 1) := dk_42 (dk_at dksX11_next_3 9 rfl rfl)
theorem dX11_next_80 : decode cX11_next 80 = .ok (.invokevirtual 75, 3) := dk_182 0 75 (dk_at dksX11_next_3 10 rfl rfl)
theorem dX11_next_83 : decode cX11_next 83 = .ok (.goto 27, 3) := dk_167 0 27 (dk_at dksX11_next_3 13 rfl rfl)
theorem dX11_next_86 : decode cX11_next 86 = .ok (.aload_n 0, 1) := dk_42 (dk_at dksX11_next_3 16 rfl rfl)
theorem dX11_next_87 : decode cX11_next 87 = .ok (.bipush 110, 2) := dk_16 110 (dk_at dksX11_next_3 17 rfl rfl)
theorem dX11_next_89 : decode cX11_next 89 = .ok (.invokevirtual 59, 3) := dk_182 0 59 (dk_at dksX11_next_3 19 rfl rfl)
theorem dX11_next_92 : decode cX11_next 92 = .ok (.ifCond .eq 17, 3) := dk_153 0 17 (dk_at dksX11_next_4 0 rfl rfl)
theorem dX11_next_95 : decode cX11_next 95 = .ok (.aload_n 0, 1) := dk_42 (dk_at dksX11_next_4 3 rfl rfl)
theorem dX11_next_96 : decode cX11_next 96 = .ok (.iconst 1, 1) := dk_4 (dk_at dksX11_next_4 4 rfl rfl)
theorem dX11_next_97 : decode cX11_next 97 = .ok (.bipush 60, 2) := dk_16 60 (dk_at dksX11_next_4 5 rfl rfl)
theorem dX11_next_99 : decode cX11_next 99 = .ok (.invokevirtual 71, 3) := dk_182 0 71 (dk_at dksX11_next_4 7 rfl rfl)
theorem dX11_next_102 : decode cX11_next 102 = .ok (.ifCond .eq 7, 3) := dk_153 0 7 (dk_at dksX11_next_4 10 rfl rfl)
theorem dX11_next_105 : decode cX11_next 105 = .ok (.iconst 1, 1) := dk_4 (dk_at dksX11_next_4 13 rfl rfl)
theorem dX11_next_106 : decode cX11_next 106 = .ok (.goto 4, 3) := dk_167 0 4 (dk_at dksX11_next_4 14 rfl rfl)
theorem dX11_next_109 : decode cX11_next 109 = .ok (.iconst 0, 1) := dk_3 (dk_at dksX11_next_4 17 rfl rfl)
theorem dX11_next_110 : decode cX11_next 110 = .ok (.ireturn, 1) := dk_172 (dk_at dksX11_next_4 18 rfl rfl)
abbrev cX11_isNext : ByteArray := prog_11_method_2_code
def yX11_isNext : MethodName := ⟨RX11, "isNext", "(C)Z"⟩
def dkwX11_isNext_2 : List UInt8 := [184, 0, 33, 96, 181, 0, 15, 28, 172]
abbrev dktX11_isNext_2 : List UInt8 := dkwX11_isNext_2 ++ []
def dkwX11_isNext_1 : List UInt8 := [42, 180, 0, 15, 182, 0, 29, 27, 160, 0, 7, 4, 167, 0, 4, 3, 61, 42, 89, 180, 0, 15, 28]
abbrev dktX11_isNext_1 : List UInt8 := dkwX11_isNext_1 ++ dktX11_isNext_2
def dkwX11_isNext_0 : List UInt8 := [42, 180, 0, 15, 42, 180, 0, 3, 180, 0, 19, 182, 0, 23, 162, 0, 25, 42, 180, 0, 3, 180, 0, 19]
abbrev dktX11_isNext_0 : List UInt8 := dkwX11_isNext_0 ++ dktX11_isNext_1
theorem dksX11_isNext_0 : cX11_isNext.data.toList.drop 0 = dktX11_isNext_0 := by decide +kernel
theorem dksX11_isNext_1 : cX11_isNext.data.toList.drop 24 = dktX11_isNext_1 := dk_seg dksX11_isNext_0 24 rfl rfl
theorem dksX11_isNext_2 : cX11_isNext.data.toList.drop 47 = dktX11_isNext_2 := dk_seg dksX11_isNext_1 23 rfl rfl
theorem dX11_isNext_0 : decode cX11_isNext 0 = .ok (.aload_n 0, 1) := dk_42 (dk_at dksX11_isNext_0 0 rfl rfl)
theorem dX11_isNext_1 : decode cX11_isNext 1 = .ok (.getfield 15, 3) := dk_180 0 15 (dk_at dksX11_isNext_0 1 rfl rfl)
theorem dX11_isNext_4 : decode cX11_isNext 4 = .ok (.aload_n 0, 1) := dk_42 (dk_at dksX11_isNext_0 4 rfl rfl)
theorem dX11_isNext_5 : decode cX11_isNext 5 = .ok (.getfield 3, 3) := dk_180 0 3 (dk_at dksX11_isNext_0 5 rfl rfl)
theorem dX11_isNext_8 : decode cX11_isNext 8 = .ok (.getfield 19, 3) := dk_180 0 19 (dk_at dksX11_isNext_0 8 rfl rfl)
theorem dX11_isNext_11 : decode cX11_isNext 11 = .ok (.invokevirtual 23, 3) := dk_182 0 23 (dk_at dksX11_isNext_0 11 rfl rfl)
theorem dX11_isNext_14 : decode cX11_isNext 14 = .ok (.if_icmp .ge 25, 3) := dk_162 0 25 (dk_at dksX11_isNext_0 14 rfl rfl)
theorem dX11_isNext_17 : decode cX11_isNext 17 = .ok (.aload_n 0, 1) := dk_42 (dk_at dksX11_isNext_0 17 rfl rfl)
theorem dX11_isNext_18 : decode cX11_isNext 18 = .ok (.getfield 3, 3) := dk_180 0 3 (dk_at dksX11_isNext_0 18 rfl rfl)
theorem dX11_isNext_21 : decode cX11_isNext 21 = .ok (.getfield 19, 3) := dk_180 0 19 (dk_at dksX11_isNext_0 21 rfl rfl)
theorem dX11_isNext_24 : decode cX11_isNext 24 = .ok (.aload_n 0, 1) := dk_42 (dk_at dksX11_isNext_1 0 rfl rfl)
theorem dX11_isNext_25 : decode cX11_isNext 25 = .ok (.getfield 15, 3) := dk_180 0 15 (dk_at dksX11_isNext_1 1 rfl rfl)
theorem dX11_isNext_28 : decode cX11_isNext 28 = .ok (.invokevirtual 29, 3) := dk_182 0 29 (dk_at dksX11_isNext_1 4 rfl rfl)
theorem dX11_isNext_31 : decode cX11_isNext 31 = .ok (.iload_n 1, 1) := dk_27 (dk_at dksX11_isNext_1 7 rfl rfl)
theorem dX11_isNext_32 : decode cX11_isNext 32 = .ok (.if_icmp .ne 7, 3) := dk_160 0 7 (dk_at dksX11_isNext_1 8 rfl rfl)
theorem dX11_isNext_35 : decode cX11_isNext 35 = .ok (.iconst 1, 1) := dk_4 (dk_at dksX11_isNext_1 11 rfl rfl)
theorem dX11_isNext_36 : decode cX11_isNext 36 = .ok (.goto 4, 3) := dk_167 0 4 (dk_at dksX11_isNext_1 12 rfl rfl)
theorem dX11_isNext_39 : decode cX11_isNext 39 = .ok (.iconst 0, 1) := dk_3 (dk_at dksX11_isNext_1 15 rfl rfl)
theorem dX11_isNext_40 : decode cX11_isNext 40 = .ok (.istore_n 2, 1) := dk_61 (dk_at dksX11_isNext_1 16 rfl rfl)
theorem dX11_isNext_41 : decode cX11_isNext 41 = .ok (.aload_n 0, 1) := dk_42 (dk_at dksX11_isNext_1 17 rfl rfl)
theorem dX11_isNext_42 : decode cX11_isNext 42 = .ok (.dup, 1) := dk_89 (dk_at dksX11_isNext_1 18 rfl rfl)
theorem dX11_isNext_43 : decode cX11_isNext 43 = .ok (.getfield 15, 3) := dk_180 0 15 (dk_at dksX11_isNext_1 19 rfl rfl)
theorem dX11_isNext_46 : decode cX11_isNext 46 = .ok (.iload_n 2, 1) := dk_28 (dk_at dksX11_isNext_1 22 rfl rfl)
theorem dX11_isNext_47 : decode cX11_isNext 47 = .ok (.invokestatic 33, 3) := dk_184 0 33 (dk_at dksX11_isNext_2 0 rfl rfl)
theorem dX11_isNext_50 : decode cX11_isNext 50 = .ok (.iadd, 1) := dk_96 (dk_at dksX11_isNext_2 3 rfl rfl)
theorem dX11_isNext_51 : decode cX11_isNext 51 = .ok (.putfield 15, 3) := dk_181 0 15 (dk_at dksX11_isNext_2 4 rfl rfl)
theorem dX11_isNext_54 : decode cX11_isNext 54 = .ok (.iload_n 2, 1) := dk_28 (dk_at dksX11_isNext_2 7 rfl rfl)
theorem dX11_isNext_55 : decode cX11_isNext 55 = .ok (.ireturn, 1) := dk_172 (dk_at dksX11_isNext_2 8 rfl rfl)
abbrev cX11_ordered : ByteArray := prog_11_method_5_code
def yX11_ordered : MethodName := ⟨RX11, "ordered", "()Z"⟩
def dkwX11_ordered_2 : List UInt8 := [3, 7, 182, 0, 50, 181, 0, 56, 42, 180, 0, 56, 2, 159, 0, 7, 4, 167, 0, 4, 3, 172]
abbrev dktX11_ordered_2 : List UInt8 := dkwX11_ordered_2 ++ []
def dkwX11_ordered_1 : List UInt8 := [16, 62, 182, 0, 59, 154, 0, 17, 42, 180, 0, 53, 2, 159, 0, 7, 4, 167, 0, 4, 3, 172, 42, 42]
abbrev dktX11_ordered_1 : List UInt8 := dkwX11_ordered_1 ++ dktX11_ordered_2
def dkwX11_ordered_0 : List UInt8 := [42, 42, 3, 6, 182, 0, 50, 181, 0, 53, 42, 2, 181, 0, 56, 42, 180, 0, 53, 2, 159, 0, 12, 42]
abbrev dktX11_ordered_0 : List UInt8 := dkwX11_ordered_0 ++ dktX11_ordered_1
theorem dksX11_ordered_0 : cX11_ordered.data.toList.drop 0 = dktX11_ordered_0 := by decide +kernel
theorem dksX11_ordered_1 : cX11_ordered.data.toList.drop 24 = dktX11_ordered_1 := dk_seg dksX11_ordered_0 24 rfl rfl
theorem dksX11_ordered_2 : cX11_ordered.data.toList.drop 48 = dktX11_ordered_2 := dk_seg dksX11_ordered_1 24 rfl rfl
theorem dX11_ordered_0 : decode cX11_ordered 0 = .ok (.aload_n 0, 1) := dk_42 (dk_at dksX11_ordered_0 0 rfl rfl)
theorem dX11_ordered_1 : decode cX11_ordered 1 = .ok (.aload_n 0, 1) := dk_42 (dk_at dksX11_ordered_0 1 rfl rfl)
theorem dX11_ordered_2 : decode cX11_ordered 2 = .ok (.iconst 0, 1) := dk_3 (dk_at dksX11_ordered_0 2 rfl rfl)
theorem dX11_ordered_3 : decode cX11_ordered 3 = .ok (.iconst 3, 1) := dk_6 (dk_at dksX11_ordered_0 3 rfl rfl)
theorem dX11_ordered_4 : decode cX11_ordered 4 = .ok (.invokevirtual 50, 3) := dk_182 0 50 (dk_at dksX11_ordered_0 4 rfl rfl)
theorem dX11_ordered_7 : decode cX11_ordered 7 = .ok (.putfield 53, 3) := dk_181 0 53 (dk_at dksX11_ordered_0 7 rfl rfl)
theorem dX11_ordered_10 : decode cX11_ordered 10 = .ok (.aload_n 0, 1) := dk_42 (dk_at dksX11_ordered_0 10 rfl rfl)
theorem dX11_ordered_11 : decode cX11_ordered 11 = .ok (.iconst (-1), 1) := dk_2 (dk_at dksX11_ordered_0 11 rfl rfl)
theorem dX11_ordered_12 : decode cX11_ordered 12 = .ok (.putfield 56, 3) := dk_181 0 56 (dk_at dksX11_ordered_0 12 rfl rfl)
theorem dX11_ordered_15 : decode cX11_ordered 15 = .ok (.aload_n 0, 1) := dk_42 (dk_at dksX11_ordered_0 15 rfl rfl)
theorem dX11_ordered_16 : decode cX11_ordered 16 = .ok (.getfield 53, 3) := dk_180 0 53 (dk_at dksX11_ordered_0 16 rfl rfl)
theorem dX11_ordered_19 : decode cX11_ordered 19 = .ok (.iconst (-1), 1) := dk_2 (dk_at dksX11_ordered_0 19 rfl rfl)
theorem dX11_ordered_20 : decode cX11_ordered 20 = .ok (.if_icmp .eq 12, 3) := dk_159 0 12 (dk_at dksX11_ordered_0 20 rfl rfl)
theorem dX11_ordered_23 : decode cX11_ordered 23 = .ok (.aload_n 0, 1) := dk_42 (dk_at dksX11_ordered_0 23 rfl rfl)
theorem dX11_ordered_24 : decode cX11_ordered 24 = .ok (.bipush 62, 2) := dk_16 62 (dk_at dksX11_ordered_1 0 rfl rfl)
theorem dX11_ordered_26 : decode cX11_ordered 26 = .ok (.invokevirtual 59, 3) := dk_182 0 59 (dk_at dksX11_ordered_1 2 rfl rfl)
theorem dX11_ordered_29 : decode cX11_ordered 29 = .ok (.ifCond .ne 17, 3) := dk_154 0 17 (dk_at dksX11_ordered_1 5 rfl rfl)
theorem dX11_ordered_32 : decode cX11_ordered 32 = .ok (.aload_n 0, 1) := dk_42 (dk_at dksX11_ordered_1 8 rfl rfl)
theorem dX11_ordered_33 : decode cX11_ordered 33 = .ok (.getfield 53, 3) := dk_180 0 53 (dk_at dksX11_ordered_1 9 rfl rfl)
theorem dX11_ordered_36 : decode cX11_ordered 36 = .ok (.iconst (-1), 1) := dk_2 (dk_at dksX11_ordered_1 12 rfl rfl)
theorem dX11_ordered_37 : decode cX11_ordered 37 = .ok (.if_icmp .eq 7, 3) := dk_159 0 7 (dk_at dksX11_ordered_1 13 rfl rfl)
theorem dX11_ordered_40 : decode cX11_ordered 40 = .ok (.iconst 1, 1) := dk_4 (dk_at dksX11_ordered_1 16 rfl rfl)
theorem dX11_ordered_41 : decode cX11_ordered 41 = .ok (.goto 4, 3) := dk_167 0 4 (dk_at dksX11_ordered_1 17 rfl rfl)
theorem dX11_ordered_44 : decode cX11_ordered 44 = .ok (.iconst 0, 1) := dk_3 (dk_at dksX11_ordered_1 20 rfl rfl)
theorem dX11_ordered_45 : decode cX11_ordered 45 = .ok (.ireturn, 1) := dk_172 (dk_at dksX11_ordered_1 21 rfl rfl)
theorem dX11_ordered_46 : decode cX11_ordered 46 = .ok (.aload_n 0, 1) := dk_42 (dk_at dksX11_ordered_1 22 rfl rfl)
theorem dX11_ordered_47 : decode cX11_ordered 47 = .ok (.aload_n 0, 1) := dk_42 (dk_at dksX11_ordered_1 23 rfl rfl)
theorem dX11_ordered_48 : decode cX11_ordered 48 = .ok (.iconst 0, 1) := dk_3 (dk_at dksX11_ordered_2 0 rfl rfl)
theorem dX11_ordered_49 : decode cX11_ordered 49 = .ok (.iconst 4, 1) := dk_7 (dk_at dksX11_ordered_2 1 rfl rfl)
theorem dX11_ordered_50 : decode cX11_ordered 50 = .ok (.invokevirtual 50, 3) := dk_182 0 50 (dk_at dksX11_ordered_2 2 rfl rfl)
theorem dX11_ordered_53 : decode cX11_ordered 53 = .ok (.putfield 56, 3) := dk_181 0 56 (dk_at dksX11_ordered_2 5 rfl rfl)
theorem dX11_ordered_56 : decode cX11_ordered 56 = .ok (.aload_n 0, 1) := dk_42 (dk_at dksX11_ordered_2 8 rfl rfl)
theorem dX11_ordered_57 : decode cX11_ordered 57 = .ok (.getfield 56, 3) := dk_180 0 56 (dk_at dksX11_ordered_2 9 rfl rfl)
theorem dX11_ordered_60 : decode cX11_ordered 60 = .ok (.iconst (-1), 1) := dk_2 (dk_at dksX11_ordered_2 12 rfl rfl)
theorem dX11_ordered_61 : decode cX11_ordered 61 = .ok (.if_icmp .eq 7, 3) := dk_159 0 7 (dk_at dksX11_ordered_2 13 rfl rfl)
theorem dX11_ordered_64 : decode cX11_ordered 64 = .ok (.iconst 1, 1) := dk_4 (dk_at dksX11_ordered_2 16 rfl rfl)
theorem dX11_ordered_65 : decode cX11_ordered 65 = .ok (.goto 4, 3) := dk_167 0 4 (dk_at dksX11_ordered_2 17 rfl rfl)
theorem dX11_ordered_68 : decode cX11_ordered 68 = .ok (.iconst 0, 1) := dk_3 (dk_at dksX11_ordered_2 20 rfl rfl)
theorem dX11_ordered_69 : decode cX11_ordered 69 = .ok (.ireturn, 1) := dk_172 (dk_at dksX11_ordered_2 21 rfl rfl)
abbrev cX11_number : ByteArray := prog_11_method_4_code
def yX11_number : MethodName := ⟨RX11, "number", "(II)I"⟩
def dkwX11_number_2 : List UInt8 := [181, 0, 15, 167, 255, 209, 29, 172]
abbrev dktX11_number_2 : List UInt8 := dkwX11_number_2 ++ []
def dkwX11_number_1 : List UInt8 := [180, 0, 19, 42, 180, 0, 15, 182, 0, 29, 96, 16, 48, 100, 62, 42, 89, 180, 0, 15, 4, 96]
abbrev dktX11_number_1 : List UInt8 := dkwX11_number_1 ++ dktX11_number_2
def dkwX11_number_0 : List UInt8 := [2, 62, 42, 29, 27, 28, 182, 0, 47, 153, 0, 43, 3, 29, 184, 0, 41, 16, 10, 104, 42, 180, 0, 3]
abbrev dktX11_number_0 : List UInt8 := dkwX11_number_0 ++ dktX11_number_1
theorem dksX11_number_0 : cX11_number.data.toList.drop 0 = dktX11_number_0 := by decide +kernel
theorem dksX11_number_1 : cX11_number.data.toList.drop 24 = dktX11_number_1 := dk_seg dksX11_number_0 24 rfl rfl
theorem dksX11_number_2 : cX11_number.data.toList.drop 46 = dktX11_number_2 := dk_seg dksX11_number_1 22 rfl rfl
theorem dX11_number_0 : decode cX11_number 0 = .ok (.iconst (-1), 1) := dk_2 (dk_at dksX11_number_0 0 rfl rfl)
theorem dX11_number_1 : decode cX11_number 1 = .ok (.istore_n 3, 1) := dk_62 (dk_at dksX11_number_0 1 rfl rfl)
theorem dX11_number_2 : decode cX11_number 2 = .ok (.aload_n 0, 1) := dk_42 (dk_at dksX11_number_0 2 rfl rfl)
theorem dX11_number_3 : decode cX11_number 3 = .ok (.iload_n 3, 1) := dk_29 (dk_at dksX11_number_0 3 rfl rfl)
theorem dX11_number_4 : decode cX11_number 4 = .ok (.iload_n 1, 1) := dk_27 (dk_at dksX11_number_0 4 rfl rfl)
theorem dX11_number_5 : decode cX11_number 5 = .ok (.iload_n 2, 1) := dk_28 (dk_at dksX11_number_0 5 rfl rfl)
theorem dX11_number_6 : decode cX11_number 6 = .ok (.invokevirtual 47, 3) := dk_182 0 47 (dk_at dksX11_number_0 6 rfl rfl)
theorem dX11_number_9 : decode cX11_number 9 = .ok (.ifCond .eq 43, 3) := dk_153 0 43 (dk_at dksX11_number_0 9 rfl rfl)
theorem dX11_number_12 : decode cX11_number 12 = .ok (.iconst 0, 1) := dk_3 (dk_at dksX11_number_0 12 rfl rfl)
theorem dX11_number_13 : decode cX11_number 13 = .ok (.iload_n 3, 1) := dk_29 (dk_at dksX11_number_0 13 rfl rfl)
theorem dX11_number_14 : decode cX11_number 14 = .ok (.invokestatic 41, 3) := dk_184 0 41 (dk_at dksX11_number_0 14 rfl rfl)
theorem dX11_number_17 : decode cX11_number 17 = .ok (.bipush 10, 2) := dk_16 10 (dk_at dksX11_number_0 17 rfl rfl)
theorem dX11_number_19 : decode cX11_number 19 = .ok (.imul, 1) := dk_104 (dk_at dksX11_number_0 19 rfl rfl)
theorem dX11_number_20 : decode cX11_number 20 = .ok (.aload_n 0, 1) := dk_42 (dk_at dksX11_number_0 20 rfl rfl)
theorem dX11_number_21 : decode cX11_number 21 = .ok (.getfield 3, 3) := dk_180 0 3 (dk_at dksX11_number_0 21 rfl rfl)
theorem dX11_number_24 : decode cX11_number 24 = .ok (.getfield 19, 3) := dk_180 0 19 (dk_at dksX11_number_1 0 rfl rfl)
theorem dX11_number_27 : decode cX11_number 27 = .ok (.aload_n 0, 1) := dk_42 (dk_at dksX11_number_1 3 rfl rfl)
theorem dX11_number_28 : decode cX11_number 28 = .ok (.getfield 15, 3) := dk_180 0 15 (dk_at dksX11_number_1 4 rfl rfl)
theorem dX11_number_31 : decode cX11_number 31 = .ok (.invokevirtual 29, 3) := dk_182 0 29 (dk_at dksX11_number_1 7 rfl rfl)
theorem dX11_number_34 : decode cX11_number 34 = .ok (.iadd, 1) := dk_96 (dk_at dksX11_number_1 10 rfl rfl)
theorem dX11_number_35 : decode cX11_number 35 = .ok (.bipush 48, 2) := dk_16 48 (dk_at dksX11_number_1 11 rfl rfl)
theorem dX11_number_37 : decode cX11_number 37 = .ok (.isub, 1) := dk_100 (dk_at dksX11_number_1 13 rfl rfl)
theorem dX11_number_38 : decode cX11_number 38 = .ok (.istore_n 3, 1) := dk_62 (dk_at dksX11_number_1 14 rfl rfl)
theorem dX11_number_39 : decode cX11_number 39 = .ok (.aload_n 0, 1) := dk_42 (dk_at dksX11_number_1 15 rfl rfl)
theorem dX11_number_40 : decode cX11_number 40 = .ok (.dup, 1) := dk_89 (dk_at dksX11_number_1 16 rfl rfl)
theorem dX11_number_41 : decode cX11_number 41 = .ok (.getfield 15, 3) := dk_180 0 15 (dk_at dksX11_number_1 17 rfl rfl)
theorem dX11_number_44 : decode cX11_number 44 = .ok (.iconst 1, 1) := dk_4 (dk_at dksX11_number_1 20 rfl rfl)
theorem dX11_number_45 : decode cX11_number 45 = .ok (.iadd, 1) := dk_96 (dk_at dksX11_number_1 21 rfl rfl)
theorem dX11_number_46 : decode cX11_number 46 = .ok (.putfield 15, 3) := dk_181 0 15 (dk_at dksX11_number_2 0 rfl rfl)
theorem dX11_number_49 : decode cX11_number 49 = .ok (.goto (-47), 3) := dk_167 255 209 (dk_at dksX11_number_2 3 rfl rfl)
theorem dX11_number_52 : decode cX11_number 52 = .ok (.iload_n 3, 1) := dk_29 (dk_at dksX11_number_2 6 rfl rfl)
theorem dX11_number_53 : decode cX11_number 53 = .ok (.ireturn, 1) := dk_172 (dk_at dksX11_number_2 7 rfl rfl)
abbrev cX11_goesOn : ByteArray := prog_11_method_3_code
def yX11_goesOn : MethodName := ⟨RX11, "goesOn", "(III)Z"⟩
def dkwX11_goesOn_3 : List UInt8 := [153, 0, 7, 4, 167, 0, 4, 3, 172]
abbrev dktX11_goesOn_3 : List UInt8 := dkwX11_goesOn_3 ++ []
def dkwX11_goesOn_2 : List UInt8 := [153, 0, 30, 27, 153, 0, 26, 3, 27, 184, 0, 41, 16, 10, 104, 21, 4, 96, 28, 29, 184, 0, 37]
abbrev dktX11_goesOn_2 : List UInt8 := dkwX11_goesOn_2 ++ dktX11_goesOn_3
def dkwX11_goesOn_1 : List UInt8 := [42, 180, 0, 15, 182, 0, 29, 16, 48, 100, 167, 0, 4, 2, 54, 4, 21, 4, 3, 16, 9, 184, 0, 37]
abbrev dktX11_goesOn_1 : List UInt8 := dkwX11_goesOn_1 ++ dktX11_goesOn_2
def dkwX11_goesOn_0 : List UInt8 := [42, 180, 0, 15, 42, 180, 0, 3, 180, 0, 19, 182, 0, 23, 162, 0, 23, 42, 180, 0, 3, 180, 0, 19]
abbrev dktX11_goesOn_0 : List UInt8 := dkwX11_goesOn_0 ++ dktX11_goesOn_1
theorem dksX11_goesOn_0 : cX11_goesOn.data.toList.drop 0 = dktX11_goesOn_0 := by decide +kernel
theorem dksX11_goesOn_1 : cX11_goesOn.data.toList.drop 24 = dktX11_goesOn_1 := dk_seg dksX11_goesOn_0 24 rfl rfl
theorem dksX11_goesOn_2 : cX11_goesOn.data.toList.drop 48 = dktX11_goesOn_2 := dk_seg dksX11_goesOn_1 24 rfl rfl
theorem dksX11_goesOn_3 : cX11_goesOn.data.toList.drop 71 = dktX11_goesOn_3 := dk_seg dksX11_goesOn_2 23 rfl rfl
theorem dX11_goesOn_0 : decode cX11_goesOn 0 = .ok (.aload_n 0, 1) := dk_42 (dk_at dksX11_goesOn_0 0 rfl rfl)
theorem dX11_goesOn_1 : decode cX11_goesOn 1 = .ok (.getfield 15, 3) := dk_180 0 15 (dk_at dksX11_goesOn_0 1 rfl rfl)
theorem dX11_goesOn_4 : decode cX11_goesOn 4 = .ok (.aload_n 0, 1) := dk_42 (dk_at dksX11_goesOn_0 4 rfl rfl)
theorem dX11_goesOn_5 : decode cX11_goesOn 5 = .ok (.getfield 3, 3) := dk_180 0 3 (dk_at dksX11_goesOn_0 5 rfl rfl)
theorem dX11_goesOn_8 : decode cX11_goesOn 8 = .ok (.getfield 19, 3) := dk_180 0 19 (dk_at dksX11_goesOn_0 8 rfl rfl)
theorem dX11_goesOn_11 : decode cX11_goesOn 11 = .ok (.invokevirtual 23, 3) := dk_182 0 23 (dk_at dksX11_goesOn_0 11 rfl rfl)
theorem dX11_goesOn_14 : decode cX11_goesOn 14 = .ok (.if_icmp .ge 23, 3) := dk_162 0 23 (dk_at dksX11_goesOn_0 14 rfl rfl)
theorem dX11_goesOn_17 : decode cX11_goesOn 17 = .ok (.aload_n 0, 1) := dk_42 (dk_at dksX11_goesOn_0 17 rfl rfl)
theorem dX11_goesOn_18 : decode cX11_goesOn 18 = .ok (.getfield 3, 3) := dk_180 0 3 (dk_at dksX11_goesOn_0 18 rfl rfl)
theorem dX11_goesOn_21 : decode cX11_goesOn 21 = .ok (.getfield 19, 3) := dk_180 0 19 (dk_at dksX11_goesOn_0 21 rfl rfl)
theorem dX11_goesOn_24 : decode cX11_goesOn 24 = .ok (.aload_n 0, 1) := dk_42 (dk_at dksX11_goesOn_1 0 rfl rfl)
theorem dX11_goesOn_25 : decode cX11_goesOn 25 = .ok (.getfield 15, 3) := dk_180 0 15 (dk_at dksX11_goesOn_1 1 rfl rfl)
theorem dX11_goesOn_28 : decode cX11_goesOn 28 = .ok (.invokevirtual 29, 3) := dk_182 0 29 (dk_at dksX11_goesOn_1 4 rfl rfl)
theorem dX11_goesOn_31 : decode cX11_goesOn 31 = .ok (.bipush 48, 2) := dk_16 48 (dk_at dksX11_goesOn_1 7 rfl rfl)
theorem dX11_goesOn_33 : decode cX11_goesOn 33 = .ok (.isub, 1) := dk_100 (dk_at dksX11_goesOn_1 9 rfl rfl)
theorem dX11_goesOn_34 : decode cX11_goesOn 34 = .ok (.goto 4, 3) := dk_167 0 4 (dk_at dksX11_goesOn_1 10 rfl rfl)
theorem dX11_goesOn_37 : decode cX11_goesOn 37 = .ok (.iconst (-1), 1) := dk_2 (dk_at dksX11_goesOn_1 13 rfl rfl)
theorem dX11_goesOn_38 : decode cX11_goesOn 38 = .ok (.istore 4, 2) := dk_54 4 (dk_at dksX11_goesOn_1 14 rfl rfl)
theorem dX11_goesOn_40 : decode cX11_goesOn 40 = .ok (.iload 4, 2) := dk_21 4 (dk_at dksX11_goesOn_1 16 rfl rfl)
theorem dX11_goesOn_42 : decode cX11_goesOn 42 = .ok (.iconst 0, 1) := dk_3 (dk_at dksX11_goesOn_1 18 rfl rfl)
theorem dX11_goesOn_43 : decode cX11_goesOn 43 = .ok (.bipush 9, 2) := dk_16 9 (dk_at dksX11_goesOn_1 19 rfl rfl)
theorem dX11_goesOn_45 : decode cX11_goesOn 45 = .ok (.invokestatic 37, 3) := dk_184 0 37 (dk_at dksX11_goesOn_1 21 rfl rfl)
theorem dX11_goesOn_48 : decode cX11_goesOn 48 = .ok (.ifCond .eq 30, 3) := dk_153 0 30 (dk_at dksX11_goesOn_2 0 rfl rfl)
theorem dX11_goesOn_51 : decode cX11_goesOn 51 = .ok (.iload_n 1, 1) := dk_27 (dk_at dksX11_goesOn_2 3 rfl rfl)
theorem dX11_goesOn_52 : decode cX11_goesOn 52 = .ok (.ifCond .eq 26, 3) := dk_153 0 26 (dk_at dksX11_goesOn_2 4 rfl rfl)
theorem dX11_goesOn_55 : decode cX11_goesOn 55 = .ok (.iconst 0, 1) := dk_3 (dk_at dksX11_goesOn_2 7 rfl rfl)
theorem dX11_goesOn_56 : decode cX11_goesOn 56 = .ok (.iload_n 1, 1) := dk_27 (dk_at dksX11_goesOn_2 8 rfl rfl)
theorem dX11_goesOn_57 : decode cX11_goesOn 57 = .ok (.invokestatic 41, 3) := dk_184 0 41 (dk_at dksX11_goesOn_2 9 rfl rfl)
theorem dX11_goesOn_60 : decode cX11_goesOn 60 = .ok (.bipush 10, 2) := dk_16 10 (dk_at dksX11_goesOn_2 12 rfl rfl)
theorem dX11_goesOn_62 : decode cX11_goesOn 62 = .ok (.imul, 1) := dk_104 (dk_at dksX11_goesOn_2 14 rfl rfl)
theorem dX11_goesOn_63 : decode cX11_goesOn 63 = .ok (.iload 4, 2) := dk_21 4 (dk_at dksX11_goesOn_2 15 rfl rfl)
theorem dX11_goesOn_65 : decode cX11_goesOn 65 = .ok (.iadd, 1) := dk_96 (dk_at dksX11_goesOn_2 17 rfl rfl)
theorem dX11_goesOn_66 : decode cX11_goesOn 66 = .ok (.iload_n 2, 1) := dk_28 (dk_at dksX11_goesOn_2 18 rfl rfl)
theorem dX11_goesOn_67 : decode cX11_goesOn 67 = .ok (.iload_n 3, 1) := dk_29 (dk_at dksX11_goesOn_2 19 rfl rfl)
theorem dX11_goesOn_68 : decode cX11_goesOn 68 = .ok (.invokestatic 37, 3) := dk_184 0 37 (dk_at dksX11_goesOn_2 20 rfl rfl)
theorem dX11_goesOn_71 : decode cX11_goesOn 71 = .ok (.ifCond .eq 7, 3) := dk_153 0 7 (dk_at dksX11_goesOn_3 0 rfl rfl)
theorem dX11_goesOn_74 : decode cX11_goesOn 74 = .ok (.iconst 1, 1) := dk_4 (dk_at dksX11_goesOn_3 3 rfl rfl)
theorem dX11_goesOn_75 : decode cX11_goesOn 75 = .ok (.goto 4, 3) := dk_167 0 4 (dk_at dksX11_goesOn_3 4 rfl rfl)
theorem dX11_goesOn_78 : decode cX11_goesOn 78 = .ok (.iconst 0, 1) := dk_3 (dk_at dksX11_goesOn_3 7 rfl rfl)
theorem dX11_goesOn_79 : decode cX11_goesOn 79 = .ok (.ireturn, 1) := dk_172 (dk_at dksX11_goesOn_3 8 rfl rfl)
abbrev cX11_single : ByteArray := prog_11_method_7_code
def yX11_single : MethodName := ⟨RX11, "single", "(II)Z"⟩
def dkwX11_single_0 : List UInt8 := [42, 42, 27, 28, 182, 0, 50, 181, 0, 53, 42, 180, 0, 53, 2, 159, 0, 7, 4, 167, 0, 4, 3, 172]
abbrev dktX11_single_0 : List UInt8 := dkwX11_single_0 ++ []
theorem dksX11_single_0 : cX11_single.data.toList.drop 0 = dktX11_single_0 := by decide +kernel
theorem dX11_single_0 : decode cX11_single 0 = .ok (.aload_n 0, 1) := dk_42 (dk_at dksX11_single_0 0 rfl rfl)
theorem dX11_single_1 : decode cX11_single 1 = .ok (.aload_n 0, 1) := dk_42 (dk_at dksX11_single_0 1 rfl rfl)
theorem dX11_single_2 : decode cX11_single 2 = .ok (.iload_n 1, 1) := dk_27 (dk_at dksX11_single_0 2 rfl rfl)
theorem dX11_single_3 : decode cX11_single 3 = .ok (.iload_n 2, 1) := dk_28 (dk_at dksX11_single_0 3 rfl rfl)
theorem dX11_single_4 : decode cX11_single 4 = .ok (.invokevirtual 50, 3) := dk_182 0 50 (dk_at dksX11_single_0 4 rfl rfl)
theorem dX11_single_7 : decode cX11_single 7 = .ok (.putfield 53, 3) := dk_181 0 53 (dk_at dksX11_single_0 7 rfl rfl)
theorem dX11_single_10 : decode cX11_single 10 = .ok (.aload_n 0, 1) := dk_42 (dk_at dksX11_single_0 10 rfl rfl)
theorem dX11_single_11 : decode cX11_single 11 = .ok (.getfield 53, 3) := dk_180 0 53 (dk_at dksX11_single_0 11 rfl rfl)
theorem dX11_single_14 : decode cX11_single 14 = .ok (.iconst (-1), 1) := dk_2 (dk_at dksX11_single_0 14 rfl rfl)
theorem dX11_single_15 : decode cX11_single 15 = .ok (.if_icmp .eq 7, 3) := dk_159 0 7 (dk_at dksX11_single_0 15 rfl rfl)
theorem dX11_single_18 : decode cX11_single 18 = .ok (.iconst 1, 1) := dk_4 (dk_at dksX11_single_0 18 rfl rfl)
theorem dX11_single_19 : decode cX11_single 19 = .ok (.goto 4, 3) := dk_167 0 4 (dk_at dksX11_single_0 19 rfl rfl)
theorem dX11_single_22 : decode cX11_single 22 = .ok (.iconst 0, 1) := dk_3 (dk_at dksX11_single_0 22 rfl rfl)
theorem dX11_single_23 : decode cX11_single 23 = .ok (.ireturn, 1) := dk_172 (dk_at dksX11_single_0 23 rfl rfl)
abbrev cX11_stopped : ByteArray := prog_11_method_6_code
def yX11_stopped : MethodName := ⟨RX11, "stopped", "()Z"⟩
def dkwX11_stopped_2 : List UInt8 := [2, 159, 0, 7, 4, 167, 0, 4, 3, 172]
abbrev dktX11_stopped_2 : List UInt8 := dkwX11_stopped_2 ++ []
def dkwX11_stopped_1 : List UInt8 := [182, 0, 59, 153, 0, 13, 42, 4, 16, 60, 182, 0, 50, 167, 0, 4, 2, 181, 0, 56, 42, 180, 0, 56]
abbrev dktX11_stopped_1 : List UInt8 := dkwX11_stopped_1 ++ dktX11_stopped_2
def dkwX11_stopped_0 : List UInt8 := [42, 42, 3, 7, 182, 0, 50, 181, 0, 53, 42, 42, 180, 0, 53, 2, 159, 0, 22, 42, 16, 58]
abbrev dktX11_stopped_0 : List UInt8 := dkwX11_stopped_0 ++ dktX11_stopped_1
theorem dksX11_stopped_0 : cX11_stopped.data.toList.drop 0 = dktX11_stopped_0 := by decide +kernel
theorem dksX11_stopped_1 : cX11_stopped.data.toList.drop 22 = dktX11_stopped_1 := dk_seg dksX11_stopped_0 22 rfl rfl
theorem dksX11_stopped_2 : cX11_stopped.data.toList.drop 46 = dktX11_stopped_2 := dk_seg dksX11_stopped_1 24 rfl rfl
theorem dX11_stopped_0 : decode cX11_stopped 0 = .ok (.aload_n 0, 1) := dk_42 (dk_at dksX11_stopped_0 0 rfl rfl)
theorem dX11_stopped_1 : decode cX11_stopped 1 = .ok (.aload_n 0, 1) := dk_42 (dk_at dksX11_stopped_0 1 rfl rfl)
theorem dX11_stopped_2 : decode cX11_stopped 2 = .ok (.iconst 0, 1) := dk_3 (dk_at dksX11_stopped_0 2 rfl rfl)
theorem dX11_stopped_3 : decode cX11_stopped 3 = .ok (.iconst 4, 1) := dk_7 (dk_at dksX11_stopped_0 3 rfl rfl)
theorem dX11_stopped_4 : decode cX11_stopped 4 = .ok (.invokevirtual 50, 3) := dk_182 0 50 (dk_at dksX11_stopped_0 4 rfl rfl)
theorem dX11_stopped_7 : decode cX11_stopped 7 = .ok (.putfield 53, 3) := dk_181 0 53 (dk_at dksX11_stopped_0 7 rfl rfl)
theorem dX11_stopped_10 : decode cX11_stopped 10 = .ok (.aload_n 0, 1) := dk_42 (dk_at dksX11_stopped_0 10 rfl rfl)
theorem dX11_stopped_11 : decode cX11_stopped 11 = .ok (.aload_n 0, 1) := dk_42 (dk_at dksX11_stopped_0 11 rfl rfl)
theorem dX11_stopped_12 : decode cX11_stopped 12 = .ok (.getfield 53, 3) := dk_180 0 53 (dk_at dksX11_stopped_0 12 rfl rfl)
theorem dX11_stopped_15 : decode cX11_stopped 15 = .ok (.iconst (-1), 1) := dk_2 (dk_at dksX11_stopped_0 15 rfl rfl)
theorem dX11_stopped_16 : decode cX11_stopped 16 = .ok (.if_icmp .eq 22, 3) := dk_159 0 22 (dk_at dksX11_stopped_0 16 rfl rfl)
theorem dX11_stopped_19 : decode cX11_stopped 19 = .ok (.aload_n 0, 1) := dk_42 (dk_at dksX11_stopped_0 19 rfl rfl)
theorem dX11_stopped_20 : decode cX11_stopped 20 = .ok (.bipush 58, 2) := dk_16 58 (dk_at dksX11_stopped_0 20 rfl rfl)
theorem dX11_stopped_22 : decode cX11_stopped 22 = .ok (.invokevirtual 59, 3) := dk_182 0 59 (dk_at dksX11_stopped_1 0 rfl rfl)
theorem dX11_stopped_25 : decode cX11_stopped 25 = .ok (.ifCond .eq 13, 3) := dk_153 0 13 (dk_at dksX11_stopped_1 3 rfl rfl)
theorem dX11_stopped_28 : decode cX11_stopped 28 = .ok (.aload_n 0, 1) := dk_42 (dk_at dksX11_stopped_1 6 rfl rfl)
theorem dX11_stopped_29 : decode cX11_stopped 29 = .ok (.iconst 1, 1) := dk_4 (dk_at dksX11_stopped_1 7 rfl rfl)
theorem dX11_stopped_30 : decode cX11_stopped 30 = .ok (.bipush 60, 2) := dk_16 60 (dk_at dksX11_stopped_1 8 rfl rfl)
theorem dX11_stopped_32 : decode cX11_stopped 32 = .ok (.invokevirtual 50, 3) := dk_182 0 50 (dk_at dksX11_stopped_1 10 rfl rfl)
theorem dX11_stopped_35 : decode cX11_stopped 35 = .ok (.goto 4, 3) := dk_167 0 4 (dk_at dksX11_stopped_1 13 rfl rfl)
theorem dX11_stopped_38 : decode cX11_stopped 38 = .ok (.iconst (-1), 1) := dk_2 (dk_at dksX11_stopped_1 16 rfl rfl)
theorem dX11_stopped_39 : decode cX11_stopped 39 = .ok (.putfield 56, 3) := dk_181 0 56 (dk_at dksX11_stopped_1 17 rfl rfl)
theorem dX11_stopped_42 : decode cX11_stopped 42 = .ok (.aload_n 0, 1) := dk_42 (dk_at dksX11_stopped_1 20 rfl rfl)
theorem dX11_stopped_43 : decode cX11_stopped 43 = .ok (.getfield 56, 3) := dk_180 0 56 (dk_at dksX11_stopped_1 21 rfl rfl)
theorem dX11_stopped_46 : decode cX11_stopped 46 = .ok (.iconst (-1), 1) := dk_2 (dk_at dksX11_stopped_2 0 rfl rfl)
theorem dX11_stopped_47 : decode cX11_stopped 47 = .ok (.if_icmp .eq 7, 3) := dk_159 0 7 (dk_at dksX11_stopped_2 1 rfl rfl)
theorem dX11_stopped_50 : decode cX11_stopped 50 = .ok (.iconst 1, 1) := dk_4 (dk_at dksX11_stopped_2 4 rfl rfl)
theorem dX11_stopped_51 : decode cX11_stopped 51 = .ok (.goto 4, 3) := dk_167 0 4 (dk_at dksX11_stopped_2 5 rfl rfl)
theorem dX11_stopped_54 : decode cX11_stopped 54 = .ok (.iconst 0, 1) := dk_3 (dk_at dksX11_stopped_2 8 rfl rfl)
theorem dX11_stopped_55 : decode cX11_stopped 55 = .ok (.ireturn, 1) := dk_172 (dk_at dksX11_stopped_2 9 rfl rfl)
abbrev cX11_isDone : ByteArray := prog_11_method_10_code
def yX11_isDone : MethodName := ⟨RX11, "isDone", "()Z"⟩
def dkwX11_isDone_6 : List UInt8 := [153, 0, 21, 42, 180, 0, 3, 42, 180, 0, 53, 182, 0, 98, 155, 0, 7, 4, 167, 0, 4, 3, 172]
abbrev dktX11_isDone_6 : List UInt8 := dkwX11_isDone_6 ++ []
def dkwX11_isDone_5 : List UInt8 := [182, 0, 92, 155, 0, 7, 4, 167, 0, 4, 3, 172, 42, 180, 0, 3, 42, 180, 0, 53, 182, 0, 95]
abbrev dktX11_isDone_5 : List UInt8 := dkwX11_isDone_5 ++ dktX11_isDone_6
def dkwX11_isDone_4 : List UInt8 := [182, 0, 88, 155, 0, 7, 4, 167, 0, 4, 3, 172, 42, 180, 0, 3, 42, 180, 0, 53, 42, 180, 0, 56]
abbrev dktX11_isDone_4 : List UInt8 := dkwX11_isDone_4 ++ dktX11_isDone_5
def dkwX11_isDone_3 : List UInt8 := [180, 0, 56, 182, 0, 85, 2, 161, 0, 7, 4, 167, 0, 4, 3, 172, 42, 180, 0, 3, 42, 180, 0, 53]
abbrev dktX11_isDone_3 : List UInt8 := dkwX11_isDone_3 ++ dktX11_isDone_4
def dkwX11_isDone_2 : List UInt8 := [42, 180, 0, 3, 42, 180, 0, 53, 182, 0, 81, 153, 0, 26, 42, 180, 0, 3, 42, 180, 0, 53, 42]
abbrev dktX11_isDone_2 : List UInt8 := dkwX11_isDone_2 ++ dktX11_isDone_3
def dkwX11_isDone_1 : List UInt8 := [171, 0, 0, 0, 0, 0, 0, 119, 0, 0, 0, 3, 0, 0, 0, 98, 0, 0, 0, 36, 0, 0, 0, 109, 0, 0, 0, 75, 0, 0, 0, 120, 0, 0, 0, 95]
abbrev dktX11_isDone_1 : List UInt8 := dkwX11_isDone_1 ++ dktX11_isDone_2
def dkwX11_isDone_0 : List UInt8 := [42, 180, 0, 63]
abbrev dktX11_isDone_0 : List UInt8 := dkwX11_isDone_0 ++ dktX11_isDone_1
theorem dksX11_isDone_0 : cX11_isDone.data.toList.drop 0 = dktX11_isDone_0 := by decide +kernel
theorem dksX11_isDone_1 : cX11_isDone.data.toList.drop 4 = dktX11_isDone_1 := dk_seg dksX11_isDone_0 4 rfl rfl
theorem dksX11_isDone_2 : cX11_isDone.data.toList.drop 40 = dktX11_isDone_2 := dk_seg dksX11_isDone_1 36 rfl rfl
theorem dksX11_isDone_3 : cX11_isDone.data.toList.drop 63 = dktX11_isDone_3 := dk_seg dksX11_isDone_2 23 rfl rfl
theorem dksX11_isDone_4 : cX11_isDone.data.toList.drop 87 = dktX11_isDone_4 := dk_seg dksX11_isDone_3 24 rfl rfl
theorem dksX11_isDone_5 : cX11_isDone.data.toList.drop 111 = dktX11_isDone_5 := dk_seg dksX11_isDone_4 24 rfl rfl
theorem dksX11_isDone_6 : cX11_isDone.data.toList.drop 134 = dktX11_isDone_6 := dk_seg dksX11_isDone_5 23 rfl rfl
theorem dX11_isDone_0 : decode cX11_isDone 0 = .ok (.aload_n 0, 1) := dk_42 (dk_at dksX11_isDone_0 0 rfl rfl)
theorem dX11_isDone_1 : decode cX11_isDone 1 = .ok (.getfield 63, 3) := dk_180 0 63 (dk_at dksX11_isDone_0 1 rfl rfl)
theorem dX11_isDone_4 : decode cX11_isDone 4 = .ok (.lookupswitch 119 #[(98, 36), (109, 75), (120, 95)], 36) := by decide +kernel
theorem dX11_isDone_40 : decode cX11_isDone 40 = .ok (.aload_n 0, 1) := dk_42 (dk_at dksX11_isDone_2 0 rfl rfl)
theorem dX11_isDone_41 : decode cX11_isDone 41 = .ok (.getfield 3, 3) := dk_180 0 3 (dk_at dksX11_isDone_2 1 rfl rfl)
theorem dX11_isDone_44 : decode cX11_isDone 44 = .ok (.aload_n 0, 1) := dk_42 (dk_at dksX11_isDone_2 4 rfl rfl)
theorem dX11_isDone_45 : decode cX11_isDone 45 = .ok (.getfield 53, 3) := dk_180 0 53 (dk_at dksX11_isDone_2 5 rfl rfl)
theorem dX11_isDone_48 : decode cX11_isDone 48 = .ok (.invokevirtual 81, 3) := dk_182 0 81 (dk_at dksX11_isDone_2 8 rfl rfl)
theorem dX11_isDone_51 : decode cX11_isDone 51 = .ok (.ifCond .eq 26, 3) := dk_153 0 26 (dk_at dksX11_isDone_2 11 rfl rfl)
theorem dX11_isDone_54 : decode cX11_isDone 54 = .ok (.aload_n 0, 1) := dk_42 (dk_at dksX11_isDone_2 14 rfl rfl)
theorem dX11_isDone_55 : decode cX11_isDone 55 = .ok (.getfield 3, 3) := dk_180 0 3 (dk_at dksX11_isDone_2 15 rfl rfl)
theorem dX11_isDone_58 : decode cX11_isDone 58 = .ok (.aload_n 0, 1) := dk_42 (dk_at dksX11_isDone_2 18 rfl rfl)
theorem dX11_isDone_59 : decode cX11_isDone 59 = .ok (.getfield 53, 3) := dk_180 0 53 (dk_at dksX11_isDone_2 19 rfl rfl)
theorem dX11_isDone_62 : decode cX11_isDone 62 = .ok (.aload_n 0, 1) := dk_42 (dk_at dksX11_isDone_2 22 rfl rfl)
theorem dX11_isDone_63 : decode cX11_isDone 63 = .ok (.getfield 56, 3) := dk_180 0 56 (dk_at dksX11_isDone_3 0 rfl rfl)
theorem dX11_isDone_66 : decode cX11_isDone 66 = .ok (.invokevirtual 85, 3) := dk_182 0 85 (dk_at dksX11_isDone_3 3 rfl rfl)
theorem dX11_isDone_69 : decode cX11_isDone 69 = .ok (.iconst (-1), 1) := dk_2 (dk_at dksX11_isDone_3 6 rfl rfl)
theorem dX11_isDone_70 : decode cX11_isDone 70 = .ok (.if_icmp .lt 7, 3) := dk_161 0 7 (dk_at dksX11_isDone_3 7 rfl rfl)
theorem dX11_isDone_73 : decode cX11_isDone 73 = .ok (.iconst 1, 1) := dk_4 (dk_at dksX11_isDone_3 10 rfl rfl)
theorem dX11_isDone_74 : decode cX11_isDone 74 = .ok (.goto 4, 3) := dk_167 0 4 (dk_at dksX11_isDone_3 11 rfl rfl)
theorem dX11_isDone_77 : decode cX11_isDone 77 = .ok (.iconst 0, 1) := dk_3 (dk_at dksX11_isDone_3 14 rfl rfl)
theorem dX11_isDone_78 : decode cX11_isDone 78 = .ok (.ireturn, 1) := dk_172 (dk_at dksX11_isDone_3 15 rfl rfl)
theorem dX11_isDone_79 : decode cX11_isDone 79 = .ok (.aload_n 0, 1) := dk_42 (dk_at dksX11_isDone_3 16 rfl rfl)
theorem dX11_isDone_80 : decode cX11_isDone 80 = .ok (.getfield 3, 3) := dk_180 0 3 (dk_at dksX11_isDone_3 17 rfl rfl)
theorem dX11_isDone_83 : decode cX11_isDone 83 = .ok (.aload_n 0, 1) := dk_42 (dk_at dksX11_isDone_3 20 rfl rfl)
theorem dX11_isDone_84 : decode cX11_isDone 84 = .ok (.getfield 53, 3) := dk_180 0 53 (dk_at dksX11_isDone_3 21 rfl rfl)
theorem dX11_isDone_87 : decode cX11_isDone 87 = .ok (.invokevirtual 88, 3) := dk_182 0 88 (dk_at dksX11_isDone_4 0 rfl rfl)
theorem dX11_isDone_90 : decode cX11_isDone 90 = .ok (.ifCond .lt 7, 3) := dk_155 0 7 (dk_at dksX11_isDone_4 3 rfl rfl)
theorem dX11_isDone_93 : decode cX11_isDone 93 = .ok (.iconst 1, 1) := dk_4 (dk_at dksX11_isDone_4 6 rfl rfl)
theorem dX11_isDone_94 : decode cX11_isDone 94 = .ok (.goto 4, 3) := dk_167 0 4 (dk_at dksX11_isDone_4 7 rfl rfl)
theorem dX11_isDone_97 : decode cX11_isDone 97 = .ok (.iconst 0, 1) := dk_3 (dk_at dksX11_isDone_4 10 rfl rfl)
theorem dX11_isDone_98 : decode cX11_isDone 98 = .ok (.ireturn, 1) := dk_172 (dk_at dksX11_isDone_4 11 rfl rfl)
theorem dX11_isDone_99 : decode cX11_isDone 99 = .ok (.aload_n 0, 1) := dk_42 (dk_at dksX11_isDone_4 12 rfl rfl)
theorem dX11_isDone_100 : decode cX11_isDone 100 = .ok (.getfield 3, 3) := dk_180 0 3 (dk_at dksX11_isDone_4 13 rfl rfl)
theorem dX11_isDone_103 : decode cX11_isDone 103 = .ok (.aload_n 0, 1) := dk_42 (dk_at dksX11_isDone_4 16 rfl rfl)
theorem dX11_isDone_104 : decode cX11_isDone 104 = .ok (.getfield 53, 3) := dk_180 0 53 (dk_at dksX11_isDone_4 17 rfl rfl)
theorem dX11_isDone_107 : decode cX11_isDone 107 = .ok (.aload_n 0, 1) := dk_42 (dk_at dksX11_isDone_4 20 rfl rfl)
theorem dX11_isDone_108 : decode cX11_isDone 108 = .ok (.getfield 56, 3) := dk_180 0 56 (dk_at dksX11_isDone_4 21 rfl rfl)
theorem dX11_isDone_111 : decode cX11_isDone 111 = .ok (.invokevirtual 92, 3) := dk_182 0 92 (dk_at dksX11_isDone_5 0 rfl rfl)
theorem dX11_isDone_114 : decode cX11_isDone 114 = .ok (.ifCond .lt 7, 3) := dk_155 0 7 (dk_at dksX11_isDone_5 3 rfl rfl)
theorem dX11_isDone_117 : decode cX11_isDone 117 = .ok (.iconst 1, 1) := dk_4 (dk_at dksX11_isDone_5 6 rfl rfl)
theorem dX11_isDone_118 : decode cX11_isDone 118 = .ok (.goto 4, 3) := dk_167 0 4 (dk_at dksX11_isDone_5 7 rfl rfl)
theorem dX11_isDone_121 : decode cX11_isDone 121 = .ok (.iconst 0, 1) := dk_3 (dk_at dksX11_isDone_5 10 rfl rfl)
theorem dX11_isDone_122 : decode cX11_isDone 122 = .ok (.ireturn, 1) := dk_172 (dk_at dksX11_isDone_5 11 rfl rfl)
theorem dX11_isDone_123 : decode cX11_isDone 123 = .ok (.aload_n 0, 1) := dk_42 (dk_at dksX11_isDone_5 12 rfl rfl)
theorem dX11_isDone_124 : decode cX11_isDone 124 = .ok (.getfield 3, 3) := dk_180 0 3 (dk_at dksX11_isDone_5 13 rfl rfl)
theorem dX11_isDone_127 : decode cX11_isDone 127 = .ok (.aload_n 0, 1) := dk_42 (dk_at dksX11_isDone_5 16 rfl rfl)
theorem dX11_isDone_128 : decode cX11_isDone 128 = .ok (.getfield 53, 3) := dk_180 0 53 (dk_at dksX11_isDone_5 17 rfl rfl)
theorem dX11_isDone_131 : decode cX11_isDone 131 = .ok (.invokevirtual 95, 3) := dk_182 0 95 (dk_at dksX11_isDone_5 20 rfl rfl)
theorem dX11_isDone_134 : decode cX11_isDone 134 = .ok (.ifCond .eq 21, 3) := dk_153 0 21 (dk_at dksX11_isDone_6 0 rfl rfl)
theorem dX11_isDone_137 : decode cX11_isDone 137 = .ok (.aload_n 0, 1) := dk_42 (dk_at dksX11_isDone_6 3 rfl rfl)
theorem dX11_isDone_138 : decode cX11_isDone 138 = .ok (.getfield 3, 3) := dk_180 0 3 (dk_at dksX11_isDone_6 4 rfl rfl)
theorem dX11_isDone_141 : decode cX11_isDone 141 = .ok (.aload_n 0, 1) := dk_42 (dk_at dksX11_isDone_6 7 rfl rfl)
theorem dX11_isDone_142 : decode cX11_isDone 142 = .ok (.getfield 53, 3) := dk_180 0 53 (dk_at dksX11_isDone_6 8 rfl rfl)
theorem dX11_isDone_145 : decode cX11_isDone 145 = .ok (.invokevirtual 98, 3) := dk_182 0 98 (dk_at dksX11_isDone_6 11 rfl rfl)
theorem dX11_isDone_148 : decode cX11_isDone 148 = .ok (.ifCond .lt 7, 3) := dk_155 0 7 (dk_at dksX11_isDone_6 14 rfl rfl)
theorem dX11_isDone_151 : decode cX11_isDone 151 = .ok (.iconst 1, 1) := dk_4 (dk_at dksX11_isDone_6 17 rfl rfl)
theorem dX11_isDone_152 : decode cX11_isDone 152 = .ok (.goto 4, 3) := dk_167 0 4 (dk_at dksX11_isDone_6 18 rfl rfl)
theorem dX11_isDone_155 : decode cX11_isDone 155 = .ok (.iconst 0, 1) := dk_3 (dk_at dksX11_isDone_6 21 rfl rfl)
theorem dX11_isDone_156 : decode cX11_isDone 156 = .ok (.ireturn, 1) := dk_172 (dk_at dksX11_isDone_6 22 rfl rfl)
theorem q109 : (Jvm.Cond.initialized "SpoilMeadows$Reader") ∈ lw_all := lw_g (lw_at lw_m1 36 rfl) rfl
theorem q588 : (Jvm.Cond.selects "SpoilMeadows$Reader" ({ cls := "java/lang/Object", name := "getClass", desc := "()Ljava/lang/Class;" } : Jvm.MethodName) ({ cls := "java/lang/Object", name := "getClass", desc := "()Ljava/lang/Class;" } : Jvm.MethodName)) ∈ lw_all := lw_g (lw_at lw_m3 35 rfl) rfl
theorem q743 : (Jvm.Cond.fieldLinkNest "SpoilMeadows$Reader" (19 : Nat) "SpoilMeadows" "buffer" "Ljava/lang/StringBuilder;" "SpoilMeadows") ∈ lw_tbl := lw_at lw_m3 190 rfl
theorem q856 : (Jvm.Cond.instantiable "SpoilMeadows$Reader" (5 : Nat)) ∈ lw_all := lw_g (lw_at lw_m4 63 rfl) rfl
theorem q858 : (Jvm.Cond.instanceMethod ({ cls := "SpoilMeadows$Reader", name := "<init>", desc := "(LSpoilMeadows;)V" } : Jvm.MethodName)) ∈ lw_all := lw_g (lw_at lw_m4 65 rfl) rfl
theorem q859 : (Jvm.Cond.code ({ cls := "SpoilMeadows$Reader", name := "<init>", desc := "(LSpoilMeadows;)V" } : Jvm.MethodName) prog_11_method_1_code (2 : Nat) (Option.none : Option Jvm.ClassFile.FieldType)) ∈ lw_all := lw_g (lw_at lw_m4 66 rfl) rfl
theorem q860 : (Jvm.Cond.methodLink "SpoilMeadows$Reader" (9 : Nat) ({ cls := "java/lang/Object", name := "<init>", desc := "()V" } : Jvm.MethodName)) ∈ lw_all := lw_g (lw_at lw_m4 67 rfl) rfl
theorem q861 : (Jvm.Cond.fieldLink "SpoilMeadows$Reader" (15 : Nat) "SpoilMeadows$Reader" "at" "I") ∈ lw_all := lw_g (lw_at lw_m4 68 rfl) rfl
theorem q863 : (Jvm.Cond.fieldLink "SpoilMeadows$Reader" (63 : Nat) "SpoilMeadows$Reader" "word" "C") ∈ lw_all := lw_g (lw_at lw_m4 70 rfl) rfl
theorem q864 : (Jvm.Cond.fieldLink "SpoilMeadows$Reader" (53 : Nat) "SpoilMeadows$Reader" "first" "I") ∈ lw_all := lw_g (lw_at lw_m4 71 rfl) rfl
theorem q865 : (Jvm.Cond.fieldLink "SpoilMeadows$Reader" (56 : Nat) "SpoilMeadows$Reader" "second" "I") ∈ lw_all := lw_g (lw_at lw_m4 72 rfl) rfl
theorem q866 : (Jvm.Cond.fieldLink "SpoilMeadows$Reader" (3 : Nat) "SpoilMeadows$Reader" "this$0" "LSpoilMeadows;") ∈ lw_all := lw_g (lw_at lw_m4 73 rfl) rfl
theorem q867 : (Jvm.Cond.lays "SpoilMeadows$Reader" "SpoilMeadows$Reader" "at" "I") ∈ lw_all := lw_g (lw_at lw_m4 74 rfl) rfl
theorem q868 : (Jvm.Cond.soleField "SpoilMeadows$Reader" "at") ∈ lw_all := lw_g (lw_at lw_m4 75 rfl) rfl
theorem q869 : (Jvm.Cond.lays "SpoilMeadows$Reader" "SpoilMeadows$Reader" "word" "C") ∈ lw_all := lw_g (lw_at lw_m4 76 rfl) rfl
theorem q870 : (Jvm.Cond.soleField "SpoilMeadows$Reader" "word") ∈ lw_all := lw_g (lw_at lw_m4 77 rfl) rfl
theorem q871 : (Jvm.Cond.lays "SpoilMeadows$Reader" "SpoilMeadows$Reader" "first" "I") ∈ lw_all := lw_g (lw_at lw_m4 78 rfl) rfl
theorem q872 : (Jvm.Cond.soleField "SpoilMeadows$Reader" "first") ∈ lw_all := lw_g (lw_at lw_m4 79 rfl) rfl
theorem q873 : (Jvm.Cond.lays "SpoilMeadows$Reader" "SpoilMeadows$Reader" "second" "I") ∈ lw_all := lw_g (lw_at lw_m4 80 rfl) rfl
theorem q874 : (Jvm.Cond.soleField "SpoilMeadows$Reader" "second") ∈ lw_all := lw_g (lw_at lw_m4 81 rfl) rfl
theorem q875 : (Jvm.Cond.laysFinal "SpoilMeadows$Reader" "SpoilMeadows$Reader" "this$0" "LSpoilMeadows;") ∈ lw_all := lw_g (lw_at lw_m4 82 rfl) rfl
theorem q876 : (Jvm.Cond.soleField "SpoilMeadows$Reader" "this$0") ∈ lw_all := lw_g (lw_at lw_m4 83 rfl) rfl
theorem q877 : (Jvm.Cond.superclass "SpoilMeadows$Reader" "java/lang/Object") ∈ lw_all := lw_g (lw_at lw_m4 84 rfl) rfl
theorem q879 : (Jvm.Cond.instanceMethod ({ cls := "SpoilMeadows$Reader", name := "isWhole", desc := "()Z" } : Jvm.MethodName)) ∈ lw_all := lw_g (lw_at lw_m4 86 rfl) rfl
theorem q880 : (Jvm.Cond.selects "SpoilMeadows$Reader" ({ cls := "SpoilMeadows$Reader", name := "isWhole", desc := "()Z" } : Jvm.MethodName) ({ cls := "SpoilMeadows$Reader", name := "isWhole", desc := "()Z" } : Jvm.MethodName)) ∈ lw_all := lw_g (lw_at lw_m4 87 rfl) rfl
theorem q881 : (Jvm.Cond.code ({ cls := "SpoilMeadows$Reader", name := "isWhole", desc := "()Z" } : Jvm.MethodName) prog_11_method_9_code (2 : Nat) (Option.some Jvm.ClassFile.FieldType.boolean)) ∈ lw_all := lw_g (lw_at lw_m4 88 rfl) rfl
theorem q882 : (Jvm.Cond.methodLink "SpoilMeadows$Reader" (78 : Nat) ({ cls := "SpoilMeadows$Reader", name := "next", desc := "()Z" } : Jvm.MethodName)) ∈ lw_all := lw_g (lw_at lw_m4 89 rfl) rfl
theorem q883 : (Jvm.Cond.instanceMethod ({ cls := "SpoilMeadows$Reader", name := "next", desc := "()Z" } : Jvm.MethodName)) ∈ lw_all := lw_g (lw_at lw_m4 90 rfl) rfl
theorem q884 : (Jvm.Cond.selects "SpoilMeadows$Reader" ({ cls := "SpoilMeadows$Reader", name := "next", desc := "()Z" } : Jvm.MethodName) ({ cls := "SpoilMeadows$Reader", name := "next", desc := "()Z" } : Jvm.MethodName)) ∈ lw_all := lw_g (lw_at lw_m4 91 rfl) rfl
theorem q885 : (Jvm.Cond.code ({ cls := "SpoilMeadows$Reader", name := "next", desc := "()Z" } : Jvm.MethodName) prog_11_method_8_code (1 : Nat) (Option.some Jvm.ClassFile.FieldType.boolean)) ∈ lw_all := lw_g (lw_at lw_m4 92 rfl) rfl
theorem q886 : (Jvm.Cond.methodLink "SpoilMeadows$Reader" (23 : Nat) ({ cls := "java/lang/StringBuilder", name := "length", desc := "()I" } : Jvm.MethodName)) ∈ lw_all := lw_g (lw_at lw_m4 93 rfl) rfl
theorem q887 : (Jvm.Cond.methodLink "SpoilMeadows$Reader" (29 : Nat) ({ cls := "java/lang/StringBuilder", name := "charAt", desc := "(I)C" } : Jvm.MethodName)) ∈ lw_all := lw_g (lw_at lw_m4 94 rfl) rfl
theorem q900 : (Jvm.Cond.methodLink "SpoilMeadows$Reader" (59 : Nat) ({ cls := "SpoilMeadows$Reader", name := "isNext", desc := "(C)Z" } : Jvm.MethodName)) ∈ lw_all := lw_g (lw_at lw_m4 107 rfl) rfl
theorem q901 : (Jvm.Cond.privateMethod ({ cls := "SpoilMeadows$Reader", name := "isNext", desc := "(C)Z" } : Jvm.MethodName)) ∈ lw_tbl := lw_at lw_m4 108 rfl
theorem q902 : (Jvm.Cond.instanceMethod ({ cls := "SpoilMeadows$Reader", name := "isNext", desc := "(C)Z" } : Jvm.MethodName)) ∈ lw_all := lw_g (lw_at lw_m4 109 rfl) rfl
theorem q903 : (Jvm.Cond.code ({ cls := "SpoilMeadows$Reader", name := "isNext", desc := "(C)Z" } : Jvm.MethodName) prog_11_method_2_code (3 : Nat) (Option.some Jvm.ClassFile.FieldType.boolean)) ∈ lw_all := lw_g (lw_at lw_m4 110 rfl) rfl
theorem q904 : (Jvm.Cond.methodLinkNest "SpoilMeadows$Reader" (33 : Nat) ({ cls := "SpoilMeadows", name := "flag", desc := "(Z)I" } : Jvm.MethodName) "SpoilMeadows") ∈ lw_tbl := lw_at lw_m4 111 rfl
theorem q905 : (Jvm.Cond.methodLink "SpoilMeadows$Reader" (67 : Nat) ({ cls := "SpoilMeadows$Reader", name := "ordered", desc := "()Z" } : Jvm.MethodName)) ∈ lw_all := lw_g (lw_at lw_m4 112 rfl) rfl
theorem q906 : (Jvm.Cond.privateMethod ({ cls := "SpoilMeadows$Reader", name := "ordered", desc := "()Z" } : Jvm.MethodName)) ∈ lw_tbl := lw_at lw_m4 113 rfl
theorem q907 : (Jvm.Cond.instanceMethod ({ cls := "SpoilMeadows$Reader", name := "ordered", desc := "()Z" } : Jvm.MethodName)) ∈ lw_all := lw_g (lw_at lw_m4 114 rfl) rfl
theorem q908 : (Jvm.Cond.code ({ cls := "SpoilMeadows$Reader", name := "ordered", desc := "()Z" } : Jvm.MethodName) prog_11_method_5_code (1 : Nat) (Option.some Jvm.ClassFile.FieldType.boolean)) ∈ lw_all := lw_g (lw_at lw_m4 115 rfl) rfl
theorem q909 : (Jvm.Cond.methodLink "SpoilMeadows$Reader" (50 : Nat) ({ cls := "SpoilMeadows$Reader", name := "number", desc := "(II)I" } : Jvm.MethodName)) ∈ lw_all := lw_g (lw_at lw_m4 116 rfl) rfl
theorem q910 : (Jvm.Cond.privateMethod ({ cls := "SpoilMeadows$Reader", name := "number", desc := "(II)I" } : Jvm.MethodName)) ∈ lw_tbl := lw_at lw_m4 117 rfl
theorem q911 : (Jvm.Cond.instanceMethod ({ cls := "SpoilMeadows$Reader", name := "number", desc := "(II)I" } : Jvm.MethodName)) ∈ lw_all := lw_g (lw_at lw_m4 118 rfl) rfl
theorem q912 : (Jvm.Cond.code ({ cls := "SpoilMeadows$Reader", name := "number", desc := "(II)I" } : Jvm.MethodName) prog_11_method_4_code (4 : Nat) (Option.some Jvm.ClassFile.FieldType.int)) ∈ lw_all := lw_g (lw_at lw_m4 119 rfl) rfl
theorem q913 : (Jvm.Cond.methodLink "SpoilMeadows$Reader" (47 : Nat) ({ cls := "SpoilMeadows$Reader", name := "goesOn", desc := "(III)Z" } : Jvm.MethodName)) ∈ lw_all := lw_g (lw_at lw_m4 120 rfl) rfl
theorem q914 : (Jvm.Cond.privateMethod ({ cls := "SpoilMeadows$Reader", name := "goesOn", desc := "(III)Z" } : Jvm.MethodName)) ∈ lw_tbl := lw_at lw_m4 121 rfl
theorem q915 : (Jvm.Cond.instanceMethod ({ cls := "SpoilMeadows$Reader", name := "goesOn", desc := "(III)Z" } : Jvm.MethodName)) ∈ lw_all := lw_g (lw_at lw_m4 122 rfl) rfl
theorem q916 : (Jvm.Cond.code ({ cls := "SpoilMeadows$Reader", name := "goesOn", desc := "(III)Z" } : Jvm.MethodName) prog_11_method_3_code (5 : Nat) (Option.some Jvm.ClassFile.FieldType.boolean)) ∈ lw_all := lw_g (lw_at lw_m4 123 rfl) rfl
theorem q917 : (Jvm.Cond.methodLinkNest "SpoilMeadows$Reader" (37 : Nat) ({ cls := "SpoilMeadows", name := "inRange", desc := "(III)Z" } : Jvm.MethodName) "SpoilMeadows") ∈ lw_tbl := lw_at lw_m4 124 rfl
theorem q920 : (Jvm.Cond.methodLink "SpoilMeadows$Reader" (41 : Nat) ({ cls := "java/lang/Math", name := "max", desc := "(II)I" } : Jvm.MethodName)) ∈ lw_all := lw_g (lw_at lw_m4 127 rfl) rfl
theorem q921 : (Jvm.Cond.methodLink "SpoilMeadows$Reader" (71 : Nat) ({ cls := "SpoilMeadows$Reader", name := "single", desc := "(II)Z" } : Jvm.MethodName)) ∈ lw_all := lw_g (lw_at lw_m4 128 rfl) rfl
theorem q922 : (Jvm.Cond.privateMethod ({ cls := "SpoilMeadows$Reader", name := "single", desc := "(II)Z" } : Jvm.MethodName)) ∈ lw_tbl := lw_at lw_m4 129 rfl
theorem q923 : (Jvm.Cond.instanceMethod ({ cls := "SpoilMeadows$Reader", name := "single", desc := "(II)Z" } : Jvm.MethodName)) ∈ lw_all := lw_g (lw_at lw_m4 130 rfl) rfl
theorem q924 : (Jvm.Cond.code ({ cls := "SpoilMeadows$Reader", name := "single", desc := "(II)Z" } : Jvm.MethodName) prog_11_method_7_code (3 : Nat) (Option.some Jvm.ClassFile.FieldType.boolean)) ∈ lw_all := lw_g (lw_at lw_m4 131 rfl) rfl
theorem q925 : (Jvm.Cond.methodLink "SpoilMeadows$Reader" (75 : Nat) ({ cls := "SpoilMeadows$Reader", name := "stopped", desc := "()Z" } : Jvm.MethodName)) ∈ lw_all := lw_g (lw_at lw_m4 132 rfl) rfl
theorem q926 : (Jvm.Cond.privateMethod ({ cls := "SpoilMeadows$Reader", name := "stopped", desc := "()Z" } : Jvm.MethodName)) ∈ lw_tbl := lw_at lw_m4 133 rfl
theorem q927 : (Jvm.Cond.instanceMethod ({ cls := "SpoilMeadows$Reader", name := "stopped", desc := "()Z" } : Jvm.MethodName)) ∈ lw_all := lw_g (lw_at lw_m4 134 rfl) rfl
theorem q928 : (Jvm.Cond.code ({ cls := "SpoilMeadows$Reader", name := "stopped", desc := "()Z" } : Jvm.MethodName) prog_11_method_6_code (1 : Nat) (Option.some Jvm.ClassFile.FieldType.boolean)) ∈ lw_all := lw_g (lw_at lw_m4 135 rfl) rfl
theorem q1494 : (Jvm.Cond.instanceMethod ({ cls := "SpoilMeadows$Reader", name := "isDone", desc := "()Z" } : Jvm.MethodName)) ∈ lw_all := lw_g (lw_at lw_m6 221 rfl) rfl
theorem q1495 : (Jvm.Cond.selects "SpoilMeadows$Reader" ({ cls := "SpoilMeadows$Reader", name := "isDone", desc := "()Z" } : Jvm.MethodName) ({ cls := "SpoilMeadows$Reader", name := "isDone", desc := "()Z" } : Jvm.MethodName)) ∈ lw_all := lw_g (lw_at lw_m6 222 rfl) rfl
theorem q1496 : (Jvm.Cond.code ({ cls := "SpoilMeadows$Reader", name := "isDone", desc := "()Z" } : Jvm.MethodName) prog_11_method_10_code (1 : Nat) (Option.some Jvm.ClassFile.FieldType.boolean)) ∈ lw_all := lw_g (lw_at lw_m6 223 rfl) rfl
theorem q1497 : (Jvm.Cond.methodLinkNest "SpoilMeadows$Reader" (81 : Nat) ({ cls := "SpoilMeadows", name := "isBarge", desc := "(I)Z" } : Jvm.MethodName) "SpoilMeadows") ∈ lw_tbl := lw_at lw_m6 224 rfl
theorem q1498 : (Jvm.Cond.methodLinkNest "SpoilMeadows$Reader" (85 : Nat) ({ cls := "SpoilMeadows", name := "orders", desc := "(II)I" } : Jvm.MethodName) "SpoilMeadows") ∈ lw_tbl := lw_at lw_m6 225 rfl
theorem q1499 : (Jvm.Cond.methodLinkNest "SpoilMeadows$Reader" (88 : Nat) ({ cls := "SpoilMeadows", name := "moves", desc := "(I)I" } : Jvm.MethodName) "SpoilMeadows") ∈ lw_tbl := lw_at lw_m6 226 rfl
theorem q1500 : (Jvm.Cond.methodLinkNest "SpoilMeadows$Reader" (92 : Nat) ({ cls := "SpoilMeadows", name := "stops", desc := "(II)I" } : Jvm.MethodName) "SpoilMeadows") ∈ lw_tbl := lw_at lw_m6 227 rfl
theorem q1501 : (Jvm.Cond.methodLinkNest "SpoilMeadows$Reader" (95 : Nat) ({ cls := "SpoilMeadows", name := "canPass", desc := "(I)Z" } : Jvm.MethodName) "SpoilMeadows") ∈ lw_tbl := lw_at lw_m6 228 rfl
theorem q1502 : (Jvm.Cond.methodLinkNest "SpoilMeadows$Reader" (98 : Nat) ({ cls := "SpoilMeadows", name := "passes", desc := "(I)I" } : Jvm.MethodName) "SpoilMeadows") ∈ lw_tbl := lw_at lw_m6 229 rfl
theorem q1989 : (Jvm.Cond.castable "SpoilMeadows$Reader" "java/lang/Object") ∈ lw_tbl := lw_at lw_m8 236 rfl
theorem in_X11 : ∀ w ∈ wsX110, w ∈ lw_all := lw_in wsX110 [867, 869, 871, 873, 875] (by decide +kernel) (by decide +kernel)

/-! SpoilMeadows$1In -/
set_option maxRecDepth 100000
def RX12 : String := "SpoilMeadows$1In"
def TX12 : u_T := fun k => match k with
  | 0 => ("SpoilMeadows$1In", "val$mode", "I", true)
  | _ => ("SpoilMeadows$1In", "this$0", "LSpoilMeadows;", true)
def tyX12 : Nat → FieldType := fun k => match k with
  | 0 => .int
  | _ => .object "SpoilMeadows"
abbrev wsX120 : List Cond := u_ws RX12 TX12 2
theorem nmX12 : ∀ a, a < 2 → ∀ b, b < 2 → a ≠ b → (TX12 a).2.1 ≠ (TX12 b).2.1 := by decide +kernel
theorem tyX12_ok : ∀ k, k < 2 → parseFieldDescriptor (TX12 k).2.2.1 = some (tyX12 k) := by decide +kernel
abbrev cX12_of : ByteArray := prog_3_method_2_code
def yX12_of : MethodName := ⟨RX12, "of", "(LSpoilMeadows$Barge;)I"⟩
def dkwX12_of_0 : List UInt8 := [43, 180, 0, 17, 42, 180, 0, 7, 160, 0, 7, 4, 167, 0, 4, 3, 184, 0, 22, 172]
abbrev dktX12_of_0 : List UInt8 := dkwX12_of_0 ++ []
theorem dksX12_of_0 : cX12_of.data.toList.drop 0 = dktX12_of_0 := by decide +kernel
theorem dX12_of_0 : decode cX12_of 0 = .ok (.aload_n 1, 1) := dk_43 (dk_at dksX12_of_0 0 rfl rfl)
theorem dX12_of_1 : decode cX12_of 1 = .ok (.getfield 17, 3) := dk_180 0 17 (dk_at dksX12_of_0 1 rfl rfl)
theorem dX12_of_4 : decode cX12_of 4 = .ok (.aload_n 0, 1) := dk_42 (dk_at dksX12_of_0 4 rfl rfl)
theorem dX12_of_5 : decode cX12_of 5 = .ok (.getfield 7, 3) := dk_180 0 7 (dk_at dksX12_of_0 5 rfl rfl)
theorem dX12_of_8 : decode cX12_of 8 = .ok (.if_icmp .ne 7, 3) := dk_160 0 7 (dk_at dksX12_of_0 8 rfl rfl)
theorem dX12_of_11 : decode cX12_of 11 = .ok (.iconst 1, 1) := dk_4 (dk_at dksX12_of_0 11 rfl rfl)
theorem dX12_of_12 : decode cX12_of 12 = .ok (.goto 4, 3) := dk_167 0 4 (dk_at dksX12_of_0 12 rfl rfl)
theorem dX12_of_15 : decode cX12_of 15 = .ok (.iconst 0, 1) := dk_3 (dk_at dksX12_of_0 15 rfl rfl)
theorem dX12_of_16 : decode cX12_of 16 = .ok (.invokestatic 22, 3) := dk_184 0 22 (dk_at dksX12_of_0 16 rfl rfl)
theorem dX12_of_19 : decode cX12_of 19 = .ok (.ireturn, 1) := dk_172 (dk_at dksX12_of_0 19 rfl rfl)
abbrev cX12_init : ByteArray := prog_3_method_1_code
def yX12_init : MethodName := ⟨RX12, "<init>", "(LSpoilMeadows;I)V"⟩
def dkwX12_init_0 : List UInt8 := [42, 43, 181, 0, 1, 42, 28, 181, 0, 7, 42, 183, 0, 11, 177]
abbrev dktX12_init_0 : List UInt8 := dkwX12_init_0 ++ []
theorem dksX12_init_0 : cX12_init.data.toList.drop 0 = dktX12_init_0 := by decide +kernel
theorem dX12_init_0 : decode cX12_init 0 = .ok (.aload_n 0, 1) := dk_42 (dk_at dksX12_init_0 0 rfl rfl)
theorem dX12_init_1 : decode cX12_init 1 = .ok (.aload_n 1, 1) := dk_43 (dk_at dksX12_init_0 1 rfl rfl)
theorem dX12_init_2 : decode cX12_init 2 = .ok (.putfield 1, 3) := dk_181 0 1 (dk_at dksX12_init_0 2 rfl rfl)
theorem dX12_init_5 : decode cX12_init 5 = .ok (.aload_n 0, 1) := dk_42 (dk_at dksX12_init_0 5 rfl rfl)
theorem dX12_init_6 : decode cX12_init 6 = .ok (.iload_n 2, 1) := dk_28 (dk_at dksX12_init_0 6 rfl rfl)
theorem dX12_init_7 : decode cX12_init 7 = .ok (.putfield 7, 3) := dk_181 0 7 (dk_at dksX12_init_0 7 rfl rfl)
theorem dX12_init_10 : decode cX12_init 10 = .ok (.aload_n 0, 1) := dk_42 (dk_at dksX12_init_0 10 rfl rfl)
theorem dX12_init_11 : decode cX12_init 11 = .ok (.invokespecial 11, 3) := dk_183 0 11 (dk_at dksX12_init_0 11 rfl rfl)
theorem dX12_init_14 : decode cX12_init 14 = .ok (.return_, 1) := dk_177 (dk_at dksX12_init_0 14 rfl rfl)
theorem q110 : (Jvm.Cond.initialized "SpoilMeadows$1In") ∈ lw_all := lw_g (lw_at lw_m1 37 rfl) rfl
theorem q583 : (Jvm.Cond.selects "SpoilMeadows$1In" ({ cls := "java/lang/Object", name := "getClass", desc := "()Ljava/lang/Class;" } : Jvm.MethodName) ({ cls := "java/lang/Object", name := "getClass", desc := "()Ljava/lang/Class;" } : Jvm.MethodName)) ∈ lw_all := lw_g (lw_at lw_m3 30 rfl) rfl
theorem q686 : (Jvm.Cond.selects "SpoilMeadows$1In" ({ cls := "SpoilMeadows$Sum", name := "over", desc := "(LSpoilMeadows$State;)I" } : Jvm.MethodName) ({ cls := "SpoilMeadows$Sum", name := "over", desc := "(LSpoilMeadows$State;)I" } : Jvm.MethodName)) ∈ lw_all := lw_g (lw_at lw_m3 133 rfl) rfl
theorem q726 : (Jvm.Cond.selects "SpoilMeadows$1In" ({ cls := "SpoilMeadows$Sum", name := "of", desc := "(LSpoilMeadows$Barge;)I" } : Jvm.MethodName) ({ cls := "SpoilMeadows$1In", name := "of", desc := "(LSpoilMeadows$Barge;)I" } : Jvm.MethodName)) ∈ lw_all := lw_g (lw_at lw_m3 173 rfl) rfl
theorem q727 : (Jvm.Cond.instanceMethod ({ cls := "SpoilMeadows$1In", name := "of", desc := "(LSpoilMeadows$Barge;)I" } : Jvm.MethodName)) ∈ lw_all := lw_g (lw_at lw_m3 174 rfl) rfl
theorem q728 : (Jvm.Cond.code ({ cls := "SpoilMeadows$1In", name := "of", desc := "(LSpoilMeadows$Barge;)I" } : Jvm.MethodName) prog_3_method_2_code (2 : Nat) (Option.some Jvm.ClassFile.FieldType.int)) ∈ lw_all := lw_g (lw_at lw_m3 175 rfl) rfl
theorem q729 : (Jvm.Cond.methodLinkNest "SpoilMeadows$1In" (22 : Nat) ({ cls := "SpoilMeadows", name := "flag", desc := "(Z)I" } : Jvm.MethodName) "SpoilMeadows") ∈ lw_tbl := lw_at lw_m3 176 rfl
theorem q1002 : (Jvm.Cond.fieldLinkNest "SpoilMeadows$1In" (17 : Nat) "SpoilMeadows$Barge" "mode" "I" "SpoilMeadows") ∈ lw_tbl := lw_at lw_m4 209 rfl
theorem q1151 : (Jvm.Cond.instantiable "SpoilMeadows$1In" (2 : Nat)) ∈ lw_all := lw_g (lw_at lw_m5 118 rfl) rfl
theorem q1153 : (Jvm.Cond.instanceMethod ({ cls := "SpoilMeadows$1In", name := "<init>", desc := "(LSpoilMeadows;I)V" } : Jvm.MethodName)) ∈ lw_all := lw_g (lw_at lw_m5 120 rfl) rfl
theorem q1154 : (Jvm.Cond.code ({ cls := "SpoilMeadows$1In", name := "<init>", desc := "(LSpoilMeadows;I)V" } : Jvm.MethodName) prog_3_method_1_code (3 : Nat) (Option.none : Option Jvm.ClassFile.FieldType)) ∈ lw_all := lw_g (lw_at lw_m5 121 rfl) rfl
theorem q1155 : (Jvm.Cond.methodLinkNest "SpoilMeadows$1In" (11 : Nat) ({ cls := "SpoilMeadows$Sum", name := "<init>", desc := "()V" } : Jvm.MethodName) "SpoilMeadows") ∈ lw_tbl := lw_at lw_m5 122 rfl
theorem q1156 : (Jvm.Cond.fieldLink "SpoilMeadows$1In" (7 : Nat) "SpoilMeadows$1In" "val$mode" "I") ∈ lw_all := lw_g (lw_at lw_m5 123 rfl) rfl
theorem q1157 : (Jvm.Cond.fieldLink "SpoilMeadows$1In" (1 : Nat) "SpoilMeadows$1In" "this$0" "LSpoilMeadows;") ∈ lw_all := lw_g (lw_at lw_m5 124 rfl) rfl
theorem q1158 : (Jvm.Cond.laysFinal "SpoilMeadows$1In" "SpoilMeadows$1In" "val$mode" "I") ∈ lw_all := lw_g (lw_at lw_m5 125 rfl) rfl
theorem q1159 : (Jvm.Cond.soleField "SpoilMeadows$1In" "val$mode") ∈ lw_all := lw_g (lw_at lw_m5 126 rfl) rfl
theorem q1160 : (Jvm.Cond.laysFinal "SpoilMeadows$1In" "SpoilMeadows$1In" "this$0" "LSpoilMeadows;") ∈ lw_all := lw_g (lw_at lw_m5 127 rfl) rfl
theorem q1161 : (Jvm.Cond.soleField "SpoilMeadows$1In" "this$0") ∈ lw_all := lw_g (lw_at lw_m5 128 rfl) rfl
theorem q1162 : (Jvm.Cond.superclass "SpoilMeadows$1In" "SpoilMeadows$Sum") ∈ lw_all := lw_g (lw_at lw_m5 129 rfl) rfl
theorem q1164 : (Jvm.Cond.sameMethod "SpoilMeadows$1In" "SpoilMeadows$Sum" "over" "(LSpoilMeadows$State;)I") ∈ lw_all := lw_g (lw_at lw_m5 131 rfl) rfl
theorem q1166 : (Jvm.Cond.selects "SpoilMeadows$1In" ({ cls := "SpoilMeadows$1In", name := "over", desc := "(LSpoilMeadows$State;)I" } : Jvm.MethodName) ({ cls := "SpoilMeadows$Sum", name := "over", desc := "(LSpoilMeadows$State;)I" } : Jvm.MethodName)) ∈ lw_all := lw_g (lw_at lw_m5 133 rfl) rfl
theorem q1990 : (Jvm.Cond.castable "SpoilMeadows$1In" "java/lang/Object") ∈ lw_tbl := lw_at lw_m8 237 rfl
theorem in_X12 : ∀ w ∈ wsX120, w ∈ lw_all := lw_in wsX120 [1158, 1160] (by decide +kernel) (by decide +kernel)

/-! SpoilMeadows$Holding -/
set_option maxRecDepth 100000
def RX13 : String := "SpoilMeadows$Holding"
abbrev cX13_taken : ByteArray := prog_8_method_1_code
def yX13_taken : MethodName := ⟨RX13, "taken", "(II)I"⟩
def dkwX13_taken_0 : List UInt8 := [27, 28, 184, 0, 1, 172]
abbrev dktX13_taken_0 : List UInt8 := dkwX13_taken_0 ++ []
theorem dksX13_taken_0 : cX13_taken.data.toList.drop 0 = dktX13_taken_0 := by decide +kernel
theorem dX13_taken_0 : decode cX13_taken 0 = .ok (.iload_n 1, 1) := dk_27 (dk_at dksX13_taken_0 0 rfl rfl)
theorem dX13_taken_1 : decode cX13_taken 1 = .ok (.iload_n 2, 1) := dk_28 (dk_at dksX13_taken_0 1 rfl rfl)
theorem dX13_taken_2 : decode cX13_taken 2 = .ok (.invokestatic 1, 3) := dk_184 0 1 (dk_at dksX13_taken_0 2 rfl rfl)
theorem dX13_taken_5 : decode cX13_taken 5 = .ok (.ireturn, 1) := dk_172 (dk_at dksX13_taken_0 5 rfl rfl)
theorem q1090 : (Jvm.Cond.declares ({ cls := "SpoilMeadows$Holding", name := "taken", desc := "(II)I" } : Jvm.MethodName)) ∈ lw_tbl := lw_at lw_m5 57 rfl
theorem q1091 : (Jvm.Cond.instanceMethod ({ cls := "SpoilMeadows$Holding", name := "taken", desc := "(II)I" } : Jvm.MethodName)) ∈ lw_all := lw_g (lw_at lw_m5 58 rfl) rfl
theorem q1092 : (Jvm.Cond.code ({ cls := "SpoilMeadows$Holding", name := "taken", desc := "(II)I" } : Jvm.MethodName) prog_8_method_1_code (3 : Nat) (Option.some Jvm.ClassFile.FieldType.int)) ∈ lw_all := lw_g (lw_at lw_m5 59 rfl) rfl
theorem q1093 : (Jvm.Cond.methodLink "SpoilMeadows$Holding" (1 : Nat) ({ cls := "java/lang/Math", name := "min", desc := "(II)I" } : Jvm.MethodName)) ∈ lw_all := lw_g (lw_at lw_m5 60 rfl) rfl
theorem q1969 : (Jvm.Cond.initialized "SpoilMeadows$Holding") ∈ lw_all := lw_g (lw_at lw_m8 216 rfl) rfl

/-! SpoilMeadows$State -/
set_option maxRecDepth 100000
def RX2 : String := "SpoilMeadows$State"
def TX2 : u_T := fun k => match k with
  | 0 => ("SpoilMeadows$State", "barges", "Ljava/util/ArrayList;", true)
  | 1 => ("SpoilMeadows$State", "meadows", "Ljava/util/ArrayList;", true)
  | 2 => ("SpoilMeadows$State", "settings", "[I", true)
  | 3 => ("SpoilMeadows$State", "silt", "[I", true)
  | 4 => ("SpoilMeadows$State", "raised", "[I", true)
  | 5 => ("SpoilMeadows$State", "lost", "[I", true)
  | 6 => ("SpoilMeadows$State", "day", "I", false)
  | 7 => ("SpoilMeadows$State", "reach", "I", false)
  | _ => ("SpoilMeadows$State", "waits", "I", false)
def tyX2 : Nat → FieldType := fun k => match k with
  | 0 => .object "java/util/ArrayList"
  | 1 => .object "java/util/ArrayList"
  | 2 => .array .int
  | 3 => .array .int
  | 4 => .array .int
  | 5 => .array .int
  | 6 => .int
  | 7 => .int
  | _ => .int
abbrev wsX20 : List Cond := u_ws RX2 TX2 9
theorem nmX2 : ∀ a, a < 9 → ∀ b, b < 9 → a ≠ b → (TX2 a).2.1 ≠ (TX2 b).2.1 := by decide +kernel
theorem tyX2_ok : ∀ k, k < 9 → parseFieldDescriptor (TX2 k).2.2.1 = some (tyX2 k) := by decide +kernel
abbrev cX2_init : ByteArray := prog_12_method_1_code
def yX2_init : MethodName := ⟨RX2, "<init>", "([I[I[I[I)V"⟩
def dkwX2_init_2 : List UInt8 := [181, 0, 33, 177]
abbrev dktX2_init_2 : List UInt8 := dkwX2_init_2 ++ []
def dkwX2_init_1 : List UInt8 := [183, 0, 11, 181, 0, 20, 42, 43, 181, 0, 23, 42, 44, 181, 0, 27, 42, 45, 181, 0, 30, 42, 25, 4]
abbrev dktX2_init_1 : List UInt8 := dkwX2_init_1 ++ dktX2_init_2
def dkwX2_init_0 : List UInt8 := [42, 183, 0, 3, 42, 187, 0, 9, 89, 7, 183, 0, 11, 181, 0, 14, 42, 187, 0, 9, 89, 8]
abbrev dktX2_init_0 : List UInt8 := dkwX2_init_0 ++ dktX2_init_1
theorem dksX2_init_0 : cX2_init.data.toList.drop 0 = dktX2_init_0 := by decide +kernel
theorem dksX2_init_1 : cX2_init.data.toList.drop 22 = dktX2_init_1 := dk_seg dksX2_init_0 22 rfl rfl
theorem dksX2_init_2 : cX2_init.data.toList.drop 46 = dktX2_init_2 := dk_seg dksX2_init_1 24 rfl rfl
theorem dX2_init_0 : decode cX2_init 0 = .ok (.aload_n 0, 1) := dk_42 (dk_at dksX2_init_0 0 rfl rfl)
theorem dX2_init_1 : decode cX2_init 1 = .ok (.invokespecial 3, 3) := dk_183 0 3 (dk_at dksX2_init_0 1 rfl rfl)
theorem dX2_init_4 : decode cX2_init 4 = .ok (.aload_n 0, 1) := dk_42 (dk_at dksX2_init_0 4 rfl rfl)
theorem dX2_init_5 : decode cX2_init 5 = .ok (.new 9, 3) := dk_187 0 9 (dk_at dksX2_init_0 5 rfl rfl)
theorem dX2_init_8 : decode cX2_init 8 = .ok (.dup, 1) := dk_89 (dk_at dksX2_init_0 8 rfl rfl)
theorem dX2_init_9 : decode cX2_init 9 = .ok (.iconst 4, 1) := dk_7 (dk_at dksX2_init_0 9 rfl rfl)
theorem dX2_init_10 : decode cX2_init 10 = .ok (.invokespecial 11, 3) := dk_183 0 11 (dk_at dksX2_init_0 10 rfl rfl)
theorem dX2_init_13 : decode cX2_init 13 = .ok (.putfield 14, 3) := dk_181 0 14 (dk_at dksX2_init_0 13 rfl rfl)
theorem dX2_init_16 : decode cX2_init 16 = .ok (.aload_n 0, 1) := dk_42 (dk_at dksX2_init_0 16 rfl rfl)
theorem dX2_init_17 : decode cX2_init 17 = .ok (.new 9, 3) := dk_187 0 9 (dk_at dksX2_init_0 17 rfl rfl)
theorem dX2_init_20 : decode cX2_init 20 = .ok (.dup, 1) := dk_89 (dk_at dksX2_init_0 20 rfl rfl)
theorem dX2_init_21 : decode cX2_init 21 = .ok (.iconst 5, 1) := dk_8 (dk_at dksX2_init_0 21 rfl rfl)
theorem dX2_init_22 : decode cX2_init 22 = .ok (.invokespecial 11, 3) := dk_183 0 11 (dk_at dksX2_init_1 0 rfl rfl)
theorem dX2_init_25 : decode cX2_init 25 = .ok (.putfield 20, 3) := dk_181 0 20 (dk_at dksX2_init_1 3 rfl rfl)
theorem dX2_init_28 : decode cX2_init 28 = .ok (.aload_n 0, 1) := dk_42 (dk_at dksX2_init_1 6 rfl rfl)
theorem dX2_init_29 : decode cX2_init 29 = .ok (.aload_n 1, 1) := dk_43 (dk_at dksX2_init_1 7 rfl rfl)
theorem dX2_init_30 : decode cX2_init 30 = .ok (.putfield 23, 3) := dk_181 0 23 (dk_at dksX2_init_1 8 rfl rfl)
theorem dX2_init_33 : decode cX2_init 33 = .ok (.aload_n 0, 1) := dk_42 (dk_at dksX2_init_1 11 rfl rfl)
theorem dX2_init_34 : decode cX2_init 34 = .ok (.aload_n 2, 1) := dk_44 (dk_at dksX2_init_1 12 rfl rfl)
theorem dX2_init_35 : decode cX2_init 35 = .ok (.putfield 27, 3) := dk_181 0 27 (dk_at dksX2_init_1 13 rfl rfl)
theorem dX2_init_38 : decode cX2_init 38 = .ok (.aload_n 0, 1) := dk_42 (dk_at dksX2_init_1 16 rfl rfl)
theorem dX2_init_39 : decode cX2_init 39 = .ok (.aload_n 3, 1) := dk_45 (dk_at dksX2_init_1 17 rfl rfl)
theorem dX2_init_40 : decode cX2_init 40 = .ok (.putfield 30, 3) := dk_181 0 30 (dk_at dksX2_init_1 18 rfl rfl)
theorem dX2_init_43 : decode cX2_init 43 = .ok (.aload_n 0, 1) := dk_42 (dk_at dksX2_init_1 21 rfl rfl)
theorem dX2_init_44 : decode cX2_init 44 = .ok (.aload 4, 2) := dk_25 4 (dk_at dksX2_init_1 22 rfl rfl)
theorem dX2_init_46 : decode cX2_init 46 = .ok (.putfield 33, 3) := dk_181 0 33 (dk_at dksX2_init_2 0 rfl rfl)
theorem dX2_init_49 : decode cX2_init 49 = .ok (.return_, 1) := dk_177 (dk_at dksX2_init_2 3 rfl rfl)
abbrev cX2_bestMeadow : ByteArray := prog_12_method_6_code
def yX2_bestMeadow : MethodName := ⟨RX2, "bestMeadow", "()I"⟩
def dkwX2_bestMeadow_2 : List UInt8 := [167, 0, 4, 27, 60, 132, 2, 1, 167, 255, 206, 27, 172]
abbrev dktX2_bestMeadow_2 : List UInt8 := dkwX2_bestMeadow_2 ++ []
def dkwX2_bestMeadow_1 : List UInt8 := [182, 0, 108, 42, 27, 182, 0, 108, 162, 0, 7, 4, 167, 0, 4, 3, 62, 29, 153, 0, 7, 28]
abbrev dktX2_bestMeadow_1 : List UInt8 := dkwX2_bestMeadow_1 ++ dktX2_bestMeadow_2
def dkwX2_bestMeadow_0 : List UInt8 := [2, 60, 3, 61, 28, 8, 162, 0, 51, 42, 28, 182, 0, 105, 153, 0, 25, 27, 2, 159, 0, 16, 42, 28]
abbrev dktX2_bestMeadow_0 : List UInt8 := dkwX2_bestMeadow_0 ++ dktX2_bestMeadow_1
theorem dksX2_bestMeadow_0 : cX2_bestMeadow.data.toList.drop 0 = dktX2_bestMeadow_0 := by decide +kernel
theorem dksX2_bestMeadow_1 : cX2_bestMeadow.data.toList.drop 24 = dktX2_bestMeadow_1 := dk_seg dksX2_bestMeadow_0 24 rfl rfl
theorem dksX2_bestMeadow_2 : cX2_bestMeadow.data.toList.drop 46 = dktX2_bestMeadow_2 := dk_seg dksX2_bestMeadow_1 22 rfl rfl
theorem dX2_bestMeadow_0 : decode cX2_bestMeadow 0 = .ok (.iconst (-1), 1) := dk_2 (dk_at dksX2_bestMeadow_0 0 rfl rfl)
theorem dX2_bestMeadow_1 : decode cX2_bestMeadow 1 = .ok (.istore_n 1, 1) := dk_60 (dk_at dksX2_bestMeadow_0 1 rfl rfl)
theorem dX2_bestMeadow_2 : decode cX2_bestMeadow 2 = .ok (.iconst 0, 1) := dk_3 (dk_at dksX2_bestMeadow_0 2 rfl rfl)
theorem dX2_bestMeadow_3 : decode cX2_bestMeadow 3 = .ok (.istore_n 2, 1) := dk_61 (dk_at dksX2_bestMeadow_0 3 rfl rfl)
theorem dX2_bestMeadow_4 : decode cX2_bestMeadow 4 = .ok (.iload_n 2, 1) := dk_28 (dk_at dksX2_bestMeadow_0 4 rfl rfl)
theorem dX2_bestMeadow_5 : decode cX2_bestMeadow 5 = .ok (.iconst 5, 1) := dk_8 (dk_at dksX2_bestMeadow_0 5 rfl rfl)
theorem dX2_bestMeadow_6 : decode cX2_bestMeadow 6 = .ok (.if_icmp .ge 51, 3) := dk_162 0 51 (dk_at dksX2_bestMeadow_0 6 rfl rfl)
theorem dX2_bestMeadow_9 : decode cX2_bestMeadow 9 = .ok (.aload_n 0, 1) := dk_42 (dk_at dksX2_bestMeadow_0 9 rfl rfl)
theorem dX2_bestMeadow_10 : decode cX2_bestMeadow 10 = .ok (.iload_n 2, 1) := dk_28 (dk_at dksX2_bestMeadow_0 10 rfl rfl)
theorem dX2_bestMeadow_11 : decode cX2_bestMeadow 11 = .ok (.invokevirtual 105, 3) := dk_182 0 105 (dk_at dksX2_bestMeadow_0 11 rfl rfl)
theorem dX2_bestMeadow_14 : decode cX2_bestMeadow 14 = .ok (.ifCond .eq 25, 3) := dk_153 0 25 (dk_at dksX2_bestMeadow_0 14 rfl rfl)
theorem dX2_bestMeadow_17 : decode cX2_bestMeadow 17 = .ok (.iload_n 1, 1) := dk_27 (dk_at dksX2_bestMeadow_0 17 rfl rfl)
theorem dX2_bestMeadow_18 : decode cX2_bestMeadow 18 = .ok (.iconst (-1), 1) := dk_2 (dk_at dksX2_bestMeadow_0 18 rfl rfl)
theorem dX2_bestMeadow_19 : decode cX2_bestMeadow 19 = .ok (.if_icmp .eq 16, 3) := dk_159 0 16 (dk_at dksX2_bestMeadow_0 19 rfl rfl)
theorem dX2_bestMeadow_22 : decode cX2_bestMeadow 22 = .ok (.aload_n 0, 1) := dk_42 (dk_at dksX2_bestMeadow_0 22 rfl rfl)
theorem dX2_bestMeadow_23 : decode cX2_bestMeadow 23 = .ok (.iload_n 2, 1) := dk_28 (dk_at dksX2_bestMeadow_0 23 rfl rfl)
theorem dX2_bestMeadow_24 : decode cX2_bestMeadow 24 = .ok (.invokevirtual 108, 3) := dk_182 0 108 (dk_at dksX2_bestMeadow_1 0 rfl rfl)
theorem dX2_bestMeadow_27 : decode cX2_bestMeadow 27 = .ok (.aload_n 0, 1) := dk_42 (dk_at dksX2_bestMeadow_1 3 rfl rfl)
theorem dX2_bestMeadow_28 : decode cX2_bestMeadow 28 = .ok (.iload_n 1, 1) := dk_27 (dk_at dksX2_bestMeadow_1 4 rfl rfl)
theorem dX2_bestMeadow_29 : decode cX2_bestMeadow 29 = .ok (.invokevirtual 108, 3) := dk_182 0 108 (dk_at dksX2_bestMeadow_1 5 rfl rfl)
theorem dX2_bestMeadow_32 : decode cX2_bestMeadow 32 = .ok (.if_icmp .ge 7, 3) := dk_162 0 7 (dk_at dksX2_bestMeadow_1 8 rfl rfl)
theorem dX2_bestMeadow_35 : decode cX2_bestMeadow 35 = .ok (.iconst 1, 1) := dk_4 (dk_at dksX2_bestMeadow_1 11 rfl rfl)
theorem dX2_bestMeadow_36 : decode cX2_bestMeadow 36 = .ok (.goto 4, 3) := dk_167 0 4 (dk_at dksX2_bestMeadow_1 12 rfl rfl)
theorem dX2_bestMeadow_39 : decode cX2_bestMeadow 39 = .ok (.iconst 0, 1) := dk_3 (dk_at dksX2_bestMeadow_1 15 rfl rfl)
theorem dX2_bestMeadow_40 : decode cX2_bestMeadow 40 = .ok (.istore_n 3, 1) := dk_62 (dk_at dksX2_bestMeadow_1 16 rfl rfl)
theorem dX2_bestMeadow_41 : decode cX2_bestMeadow 41 = .ok (.iload_n 3, 1) := dk_29 (dk_at dksX2_bestMeadow_1 17 rfl rfl)
theorem dX2_bestMeadow_42 : decode cX2_bestMeadow 42 = .ok (.ifCond .eq 7, 3) := dk_153 0 7 (dk_at dksX2_bestMeadow_1 18 rfl rfl)
theorem dX2_bestMeadow_45 : decode cX2_bestMeadow 45 = .ok (.iload_n 2, 1) := dk_28 (dk_at dksX2_bestMeadow_1 21 rfl rfl)
theorem dX2_bestMeadow_46 : decode cX2_bestMeadow 46 = .ok (.goto 4, 3) := dk_167 0 4 (dk_at dksX2_bestMeadow_2 0 rfl rfl)
theorem dX2_bestMeadow_49 : decode cX2_bestMeadow 49 = .ok (.iload_n 1, 1) := dk_27 (dk_at dksX2_bestMeadow_2 3 rfl rfl)
theorem dX2_bestMeadow_50 : decode cX2_bestMeadow 50 = .ok (.istore_n 1, 1) := dk_60 (dk_at dksX2_bestMeadow_2 4 rfl rfl)
theorem dX2_bestMeadow_51 : decode cX2_bestMeadow 51 = .ok (.iinc 2 1, 3) := dk_132 2 1 (dk_at dksX2_bestMeadow_2 5 rfl rfl)
theorem dX2_bestMeadow_54 : decode cX2_bestMeadow 54 = .ok (.goto (-50), 3) := dk_167 255 206 (dk_at dksX2_bestMeadow_2 8 rfl rfl)
theorem dX2_bestMeadow_57 : decode cX2_bestMeadow 57 = .ok (.iload_n 1, 1) := dk_27 (dk_at dksX2_bestMeadow_2 11 rfl rfl)
theorem dX2_bestMeadow_58 : decode cX2_bestMeadow 58 = .ok (.ireturn, 1) := dk_172 (dk_at dksX2_bestMeadow_2 12 rfl rfl)
abbrev cX2_isFit : ByteArray := prog_12_method_5_code
def yX2_isFit : MethodName := ⟨RX2, "isFit", "(I)Z"⟩
def dkwX2_isFit_1 : List UInt8 := [42, 180, 0, 67, 182, 0, 99, 154, 0, 15, 42, 27, 182, 0, 102, 158, 0, 7, 4, 167, 0, 4, 3, 172]
abbrev dktX2_isFit_1 : List UInt8 := dkwX2_isFit_1 ++ []
def dkwX2_isFit_0 : List UInt8 := [42, 180, 0, 20, 27, 182, 0, 48, 192, 0, 62, 77, 44, 42, 180, 0, 67, 182, 0, 96, 153, 0, 26, 44]
abbrev dktX2_isFit_0 : List UInt8 := dkwX2_isFit_0 ++ dktX2_isFit_1
theorem dksX2_isFit_0 : cX2_isFit.data.toList.drop 0 = dktX2_isFit_0 := by decide +kernel
theorem dksX2_isFit_1 : cX2_isFit.data.toList.drop 24 = dktX2_isFit_1 := dk_seg dksX2_isFit_0 24 rfl rfl
theorem dX2_isFit_0 : decode cX2_isFit 0 = .ok (.aload_n 0, 1) := dk_42 (dk_at dksX2_isFit_0 0 rfl rfl)
theorem dX2_isFit_1 : decode cX2_isFit 1 = .ok (.getfield 20, 3) := dk_180 0 20 (dk_at dksX2_isFit_0 1 rfl rfl)
theorem dX2_isFit_4 : decode cX2_isFit 4 = .ok (.iload_n 1, 1) := dk_27 (dk_at dksX2_isFit_0 4 rfl rfl)
theorem dX2_isFit_5 : decode cX2_isFit 5 = .ok (.invokevirtual 48, 3) := dk_182 0 48 (dk_at dksX2_isFit_0 5 rfl rfl)
theorem dX2_isFit_8 : decode cX2_isFit 8 = .ok (.checkcast 62, 3) := dk_192 0 62 (dk_at dksX2_isFit_0 8 rfl rfl)
theorem dX2_isFit_11 : decode cX2_isFit 11 = .ok (.astore_n 2, 1) := dk_77 (dk_at dksX2_isFit_0 11 rfl rfl)
theorem dX2_isFit_12 : decode cX2_isFit 12 = .ok (.aload_n 2, 1) := dk_44 (dk_at dksX2_isFit_0 12 rfl rfl)
theorem dX2_isFit_13 : decode cX2_isFit 13 = .ok (.aload_n 0, 1) := dk_42 (dk_at dksX2_isFit_0 13 rfl rfl)
theorem dX2_isFit_14 : decode cX2_isFit 14 = .ok (.getfield 67, 3) := dk_180 0 67 (dk_at dksX2_isFit_0 14 rfl rfl)
theorem dX2_isFit_17 : decode cX2_isFit 17 = .ok (.invokevirtual 96, 3) := dk_182 0 96 (dk_at dksX2_isFit_0 17 rfl rfl)
theorem dX2_isFit_20 : decode cX2_isFit 20 = .ok (.ifCond .eq 26, 3) := dk_153 0 26 (dk_at dksX2_isFit_0 20 rfl rfl)
theorem dX2_isFit_23 : decode cX2_isFit 23 = .ok (.aload_n 2, 1) := dk_44 (dk_at dksX2_isFit_0 23 rfl rfl)
theorem dX2_isFit_24 : decode cX2_isFit 24 = .ok (.aload_n 0, 1) := dk_42 (dk_at dksX2_isFit_1 0 rfl rfl)
theorem dX2_isFit_25 : decode cX2_isFit 25 = .ok (.getfield 67, 3) := dk_180 0 67 (dk_at dksX2_isFit_1 1 rfl rfl)
theorem dX2_isFit_28 : decode cX2_isFit 28 = .ok (.invokevirtual 99, 3) := dk_182 0 99 (dk_at dksX2_isFit_1 4 rfl rfl)
theorem dX2_isFit_31 : decode cX2_isFit 31 = .ok (.ifCond .ne 15, 3) := dk_154 0 15 (dk_at dksX2_isFit_1 7 rfl rfl)
theorem dX2_isFit_34 : decode cX2_isFit 34 = .ok (.aload_n 0, 1) := dk_42 (dk_at dksX2_isFit_1 10 rfl rfl)
theorem dX2_isFit_35 : decode cX2_isFit 35 = .ok (.iload_n 1, 1) := dk_27 (dk_at dksX2_isFit_1 11 rfl rfl)
theorem dX2_isFit_36 : decode cX2_isFit 36 = .ok (.invokevirtual 102, 3) := dk_182 0 102 (dk_at dksX2_isFit_1 12 rfl rfl)
theorem dX2_isFit_39 : decode cX2_isFit 39 = .ok (.ifCond .le 7, 3) := dk_158 0 7 (dk_at dksX2_isFit_1 15 rfl rfl)
theorem dX2_isFit_42 : decode cX2_isFit 42 = .ok (.iconst 1, 1) := dk_4 (dk_at dksX2_isFit_1 18 rfl rfl)
theorem dX2_isFit_43 : decode cX2_isFit 43 = .ok (.goto 4, 3) := dk_167 0 4 (dk_at dksX2_isFit_1 19 rfl rfl)
theorem dX2_isFit_46 : decode cX2_isFit 46 = .ok (.iconst 0, 1) := dk_3 (dk_at dksX2_isFit_1 22 rfl rfl)
theorem dX2_isFit_47 : decode cX2_isFit 47 = .ok (.ireturn, 1) := dk_172 (dk_at dksX2_isFit_1 23 rfl rfl)
abbrev cX2_room : ByteArray := prog_12_method_4_code
def yX2_room : MethodName := ⟨RX2, "room", "(I)I"⟩
def dkwX2_room_3 : List UInt8 := [180, 0, 93, 167, 0, 4, 3, 100, 62, 132, 4, 1, 167, 255, 200, 29, 172]
abbrev dktX2_room_3 : List UInt8 := dkwX2_room_3 ++ []
def dkwX2_room_2 : List UInt8 := [192, 0, 52, 27, 182, 0, 89, 153, 0, 21, 42, 180, 0, 14, 21, 4, 182, 0, 48, 192, 0, 52]
abbrev dktX2_room_2 : List UInt8 := dkwX2_room_2 ++ dktX2_room_3
def dkwX2_room_1 : List UInt8 := [54, 4, 21, 4, 42, 180, 0, 14, 182, 0, 44, 162, 0, 50, 29, 42, 180, 0, 14, 21, 4, 182, 0, 48]
abbrev dktX2_room_1 : List UInt8 := dkwX2_room_1 ++ dktX2_room_2
def dkwX2_room_0 : List UInt8 := [42, 180, 0, 20, 27, 182, 0, 48, 192, 0, 62, 77, 44, 180, 0, 83, 44, 180, 0, 86, 100, 62, 3]
abbrev dktX2_room_0 : List UInt8 := dkwX2_room_0 ++ dktX2_room_1
theorem dksX2_room_0 : cX2_room.data.toList.drop 0 = dktX2_room_0 := by decide +kernel
theorem dksX2_room_1 : cX2_room.data.toList.drop 23 = dktX2_room_1 := dk_seg dksX2_room_0 23 rfl rfl
theorem dksX2_room_2 : cX2_room.data.toList.drop 47 = dktX2_room_2 := dk_seg dksX2_room_1 24 rfl rfl
theorem dksX2_room_3 : cX2_room.data.toList.drop 69 = dktX2_room_3 := dk_seg dksX2_room_2 22 rfl rfl
theorem dX2_room_0 : decode cX2_room 0 = .ok (.aload_n 0, 1) := dk_42 (dk_at dksX2_room_0 0 rfl rfl)
theorem dX2_room_1 : decode cX2_room 1 = .ok (.getfield 20, 3) := dk_180 0 20 (dk_at dksX2_room_0 1 rfl rfl)
theorem dX2_room_4 : decode cX2_room 4 = .ok (.iload_n 1, 1) := dk_27 (dk_at dksX2_room_0 4 rfl rfl)
theorem dX2_room_5 : decode cX2_room 5 = .ok (.invokevirtual 48, 3) := dk_182 0 48 (dk_at dksX2_room_0 5 rfl rfl)
theorem dX2_room_8 : decode cX2_room 8 = .ok (.checkcast 62, 3) := dk_192 0 62 (dk_at dksX2_room_0 8 rfl rfl)
theorem dX2_room_11 : decode cX2_room 11 = .ok (.astore_n 2, 1) := dk_77 (dk_at dksX2_room_0 11 rfl rfl)
theorem dX2_room_12 : decode cX2_room 12 = .ok (.aload_n 2, 1) := dk_44 (dk_at dksX2_room_0 12 rfl rfl)
theorem dX2_room_13 : decode cX2_room 13 = .ok (.getfield 83, 3) := dk_180 0 83 (dk_at dksX2_room_0 13 rfl rfl)
theorem dX2_room_16 : decode cX2_room 16 = .ok (.aload_n 2, 1) := dk_44 (dk_at dksX2_room_0 16 rfl rfl)
theorem dX2_room_17 : decode cX2_room 17 = .ok (.getfield 86, 3) := dk_180 0 86 (dk_at dksX2_room_0 17 rfl rfl)
theorem dX2_room_20 : decode cX2_room 20 = .ok (.isub, 1) := dk_100 (dk_at dksX2_room_0 20 rfl rfl)
theorem dX2_room_21 : decode cX2_room 21 = .ok (.istore_n 3, 1) := dk_62 (dk_at dksX2_room_0 21 rfl rfl)
theorem dX2_room_22 : decode cX2_room 22 = .ok (.iconst 0, 1) := dk_3 (dk_at dksX2_room_0 22 rfl rfl)
theorem dX2_room_23 : decode cX2_room 23 = .ok (.istore 4, 2) := dk_54 4 (dk_at dksX2_room_1 0 rfl rfl)
theorem dX2_room_25 : decode cX2_room 25 = .ok (.iload 4, 2) := dk_21 4 (dk_at dksX2_room_1 2 rfl rfl)
theorem dX2_room_27 : decode cX2_room 27 = .ok (.aload_n 0, 1) := dk_42 (dk_at dksX2_room_1 4 rfl rfl)
theorem dX2_room_28 : decode cX2_room 28 = .ok (.getfield 14, 3) := dk_180 0 14 (dk_at dksX2_room_1 5 rfl rfl)
theorem dX2_room_31 : decode cX2_room 31 = .ok (.invokevirtual 44, 3) := dk_182 0 44 (dk_at dksX2_room_1 8 rfl rfl)
theorem dX2_room_34 : decode cX2_room 34 = .ok (.if_icmp .ge 50, 3) := dk_162 0 50 (dk_at dksX2_room_1 11 rfl rfl)
theorem dX2_room_37 : decode cX2_room 37 = .ok (.iload_n 3, 1) := dk_29 (dk_at dksX2_room_1 14 rfl rfl)
theorem dX2_room_38 : decode cX2_room 38 = .ok (.aload_n 0, 1) := dk_42 (dk_at dksX2_room_1 15 rfl rfl)
theorem dX2_room_39 : decode cX2_room 39 = .ok (.getfield 14, 3) := dk_180 0 14 (dk_at dksX2_room_1 16 rfl rfl)
theorem dX2_room_42 : decode cX2_room 42 = .ok (.iload 4, 2) := dk_21 4 (dk_at dksX2_room_1 19 rfl rfl)
theorem dX2_room_44 : decode cX2_room 44 = .ok (.invokevirtual 48, 3) := dk_182 0 48 (dk_at dksX2_room_1 21 rfl rfl)
theorem dX2_room_47 : decode cX2_room 47 = .ok (.checkcast 52, 3) := dk_192 0 52 (dk_at dksX2_room_2 0 rfl rfl)
theorem dX2_room_50 : decode cX2_room 50 = .ok (.iload_n 1, 1) := dk_27 (dk_at dksX2_room_2 3 rfl rfl)
theorem dX2_room_51 : decode cX2_room 51 = .ok (.invokevirtual 89, 3) := dk_182 0 89 (dk_at dksX2_room_2 4 rfl rfl)
theorem dX2_room_54 : decode cX2_room 54 = .ok (.ifCond .eq 21, 3) := dk_153 0 21 (dk_at dksX2_room_2 7 rfl rfl)
theorem dX2_room_57 : decode cX2_room 57 = .ok (.aload_n 0, 1) := dk_42 (dk_at dksX2_room_2 10 rfl rfl)
theorem dX2_room_58 : decode cX2_room 58 = .ok (.getfield 14, 3) := dk_180 0 14 (dk_at dksX2_room_2 11 rfl rfl)
theorem dX2_room_61 : decode cX2_room 61 = .ok (.iload 4, 2) := dk_21 4 (dk_at dksX2_room_2 14 rfl rfl)
theorem dX2_room_63 : decode cX2_room 63 = .ok (.invokevirtual 48, 3) := dk_182 0 48 (dk_at dksX2_room_2 16 rfl rfl)
theorem dX2_room_66 : decode cX2_room 66 = .ok (.checkcast 52, 3) := dk_192 0 52 (dk_at dksX2_room_2 19 rfl rfl)
theorem dX2_room_69 : decode cX2_room 69 = .ok (.getfield 93, 3) := dk_180 0 93 (dk_at dksX2_room_3 0 rfl rfl)
theorem dX2_room_72 : decode cX2_room 72 = .ok (.goto 4, 3) := dk_167 0 4 (dk_at dksX2_room_3 3 rfl rfl)
theorem dX2_room_75 : decode cX2_room 75 = .ok (.iconst 0, 1) := dk_3 (dk_at dksX2_room_3 6 rfl rfl)
theorem dX2_room_76 : decode cX2_room 76 = .ok (.isub, 1) := dk_100 (dk_at dksX2_room_3 7 rfl rfl)
theorem dX2_room_77 : decode cX2_room 77 = .ok (.istore_n 3, 1) := dk_62 (dk_at dksX2_room_3 8 rfl rfl)
theorem dX2_room_78 : decode cX2_room 78 = .ok (.iinc 4 1, 3) := dk_132 4 1 (dk_at dksX2_room_3 9 rfl rfl)
theorem dX2_room_81 : decode cX2_room 81 = .ok (.goto (-56), 3) := dk_167 255 200 (dk_at dksX2_room_3 12 rfl rfl)
theorem dX2_room_84 : decode cX2_room 84 = .ok (.iload_n 3, 1) := dk_29 (dk_at dksX2_room_3 15 rfl rfl)
theorem dX2_room_85 : decode cX2_room 85 = .ok (.ireturn, 1) := dk_172 (dk_at dksX2_room_3 16 rfl rfl)
abbrev cX2_wayTo : ByteArray := prog_12_method_3_code
def yX2_wayTo : MethodName := ⟨RX2, "wayTo", "(I)I"⟩
def dkwX2_wayTo_0 : List UInt8 := [4, 42, 180, 0, 71, 27, 100, 184, 0, 77, 96, 172]
abbrev dktX2_wayTo_0 : List UInt8 := dkwX2_wayTo_0 ++ []
theorem dksX2_wayTo_0 : cX2_wayTo.data.toList.drop 0 = dktX2_wayTo_0 := by decide +kernel
theorem dX2_wayTo_0 : decode cX2_wayTo 0 = .ok (.iconst 1, 1) := dk_4 (dk_at dksX2_wayTo_0 0 rfl rfl)
theorem dX2_wayTo_1 : decode cX2_wayTo 1 = .ok (.aload_n 0, 1) := dk_42 (dk_at dksX2_wayTo_0 1 rfl rfl)
theorem dX2_wayTo_2 : decode cX2_wayTo 2 = .ok (.getfield 71, 3) := dk_180 0 71 (dk_at dksX2_wayTo_0 2 rfl rfl)
theorem dX2_wayTo_5 : decode cX2_wayTo 5 = .ok (.iload_n 1, 1) := dk_27 (dk_at dksX2_wayTo_0 5 rfl rfl)
theorem dX2_wayTo_6 : decode cX2_wayTo 6 = .ok (.isub, 1) := dk_100 (dk_at dksX2_wayTo_0 6 rfl rfl)
theorem dX2_wayTo_7 : decode cX2_wayTo 7 = .ok (.invokestatic 77, 3) := dk_184 0 77 (dk_at dksX2_wayTo_0 7 rfl rfl)
theorem dX2_wayTo_10 : decode cX2_wayTo 10 = .ok (.iadd, 1) := dk_96 (dk_at dksX2_wayTo_0 10 rfl rfl)
theorem dX2_wayTo_11 : decode cX2_wayTo 11 = .ok (.ireturn, 1) := dk_172 (dk_at dksX2_wayTo_0 11 rfl rfl)
abbrev cX2_twin : ByteArray := prog_12_method_2_code
def yX2_twin : MethodName := ⟨RX2, "twin", "()LSpoilMeadows$State;"⟩
def dkwX2_twin_6 : List UInt8 := [42, 180, 0, 74, 181, 0, 74, 43, 176]
abbrev dktX2_twin_6 : List UInt8 := dkwX2_twin_6 ++ []
def dkwX2_twin_5 : List UInt8 := [87, 132, 2, 1, 167, 255, 226, 43, 42, 180, 0, 67, 181, 0, 67, 43, 42, 180, 0, 71, 181, 0, 71, 43]
abbrev dktX2_twin_5 : List UInt8 := dkwX2_twin_5 ++ dktX2_twin_6
def dkwX2_twin_4 : List UInt8 := [162, 0, 31, 43, 180, 0, 20, 42, 180, 0, 20, 28, 182, 0, 48, 192, 0, 62, 182, 0, 64, 182, 0, 58]
abbrev dktX2_twin_4 : List UInt8 := dkwX2_twin_4 ++ dktX2_twin_5
def dkwX2_twin_3 : List UInt8 := [182, 0, 48, 192, 0, 52, 182, 0, 54, 182, 0, 58, 87, 132, 2, 1, 167, 255, 220, 3, 61, 28, 8]
abbrev dktX2_twin_3 : List UInt8 := dkwX2_twin_3 ++ dktX2_twin_4
def dkwX2_twin_2 : List UInt8 := [3, 61, 28, 42, 180, 0, 14, 182, 0, 44, 162, 0, 31, 43, 180, 0, 14, 42, 180, 0, 14, 28]
abbrev dktX2_twin_2 : List UInt8 := dkwX2_twin_2 ++ dktX2_twin_3
def dkwX2_twin_1 : List UInt8 := [42, 180, 0, 30, 182, 0, 36, 192, 0, 37, 42, 180, 0, 33, 182, 0, 36, 192, 0, 37, 183, 0, 41, 76]
abbrev dktX2_twin_1 : List UInt8 := dkwX2_twin_1 ++ dktX2_twin_2
def dkwX2_twin_0 : List UInt8 := [187, 0, 15, 89, 42, 180, 0, 23, 182, 0, 36, 192, 0, 37, 42, 180, 0, 27, 182, 0, 36, 192, 0, 37]
abbrev dktX2_twin_0 : List UInt8 := dkwX2_twin_0 ++ dktX2_twin_1
theorem dksX2_twin_0 : cX2_twin.data.toList.drop 0 = dktX2_twin_0 := by decide +kernel
theorem dksX2_twin_1 : cX2_twin.data.toList.drop 24 = dktX2_twin_1 := dk_seg dksX2_twin_0 24 rfl rfl
theorem dksX2_twin_2 : cX2_twin.data.toList.drop 48 = dktX2_twin_2 := dk_seg dksX2_twin_1 24 rfl rfl
theorem dksX2_twin_3 : cX2_twin.data.toList.drop 70 = dktX2_twin_3 := dk_seg dksX2_twin_2 22 rfl rfl
theorem dksX2_twin_4 : cX2_twin.data.toList.drop 93 = dktX2_twin_4 := dk_seg dksX2_twin_3 23 rfl rfl
theorem dksX2_twin_5 : cX2_twin.data.toList.drop 117 = dktX2_twin_5 := dk_seg dksX2_twin_4 24 rfl rfl
theorem dksX2_twin_6 : cX2_twin.data.toList.drop 141 = dktX2_twin_6 := dk_seg dksX2_twin_5 24 rfl rfl
theorem dX2_twin_0 : decode cX2_twin 0 = .ok (.new 15, 3) := dk_187 0 15 (dk_at dksX2_twin_0 0 rfl rfl)
theorem dX2_twin_3 : decode cX2_twin 3 = .ok (.dup, 1) := dk_89 (dk_at dksX2_twin_0 3 rfl rfl)
theorem dX2_twin_4 : decode cX2_twin 4 = .ok (.aload_n 0, 1) := dk_42 (dk_at dksX2_twin_0 4 rfl rfl)
theorem dX2_twin_5 : decode cX2_twin 5 = .ok (.getfield 23, 3) := dk_180 0 23 (dk_at dksX2_twin_0 5 rfl rfl)
theorem dX2_twin_8 : decode cX2_twin 8 = .ok (.invokevirtual 36, 3) := dk_182 0 36 (dk_at dksX2_twin_0 8 rfl rfl)
theorem dX2_twin_11 : decode cX2_twin 11 = .ok (.checkcast 37, 3) := dk_192 0 37 (dk_at dksX2_twin_0 11 rfl rfl)
theorem dX2_twin_14 : decode cX2_twin 14 = .ok (.aload_n 0, 1) := dk_42 (dk_at dksX2_twin_0 14 rfl rfl)
theorem dX2_twin_15 : decode cX2_twin 15 = .ok (.getfield 27, 3) := dk_180 0 27 (dk_at dksX2_twin_0 15 rfl rfl)
theorem dX2_twin_18 : decode cX2_twin 18 = .ok (.invokevirtual 36, 3) := dk_182 0 36 (dk_at dksX2_twin_0 18 rfl rfl)
theorem dX2_twin_21 : decode cX2_twin 21 = .ok (.checkcast 37, 3) := dk_192 0 37 (dk_at dksX2_twin_0 21 rfl rfl)
theorem dX2_twin_24 : decode cX2_twin 24 = .ok (.aload_n 0, 1) := dk_42 (dk_at dksX2_twin_1 0 rfl rfl)
theorem dX2_twin_25 : decode cX2_twin 25 = .ok (.getfield 30, 3) := dk_180 0 30 (dk_at dksX2_twin_1 1 rfl rfl)
theorem dX2_twin_28 : decode cX2_twin 28 = .ok (.invokevirtual 36, 3) := dk_182 0 36 (dk_at dksX2_twin_1 4 rfl rfl)
theorem dX2_twin_31 : decode cX2_twin 31 = .ok (.checkcast 37, 3) := dk_192 0 37 (dk_at dksX2_twin_1 7 rfl rfl)
theorem dX2_twin_34 : decode cX2_twin 34 = .ok (.aload_n 0, 1) := dk_42 (dk_at dksX2_twin_1 10 rfl rfl)
theorem dX2_twin_35 : decode cX2_twin 35 = .ok (.getfield 33, 3) := dk_180 0 33 (dk_at dksX2_twin_1 11 rfl rfl)
theorem dX2_twin_38 : decode cX2_twin 38 = .ok (.invokevirtual 36, 3) := dk_182 0 36 (dk_at dksX2_twin_1 14 rfl rfl)
theorem dX2_twin_41 : decode cX2_twin 41 = .ok (.checkcast 37, 3) := dk_192 0 37 (dk_at dksX2_twin_1 17 rfl rfl)
theorem dX2_twin_44 : decode cX2_twin 44 = .ok (.invokespecial 41, 3) := dk_183 0 41 (dk_at dksX2_twin_1 20 rfl rfl)
theorem dX2_twin_47 : decode cX2_twin 47 = .ok (.astore_n 1, 1) := dk_76 (dk_at dksX2_twin_1 23 rfl rfl)
theorem dX2_twin_48 : decode cX2_twin 48 = .ok (.iconst 0, 1) := dk_3 (dk_at dksX2_twin_2 0 rfl rfl)
theorem dX2_twin_49 : decode cX2_twin 49 = .ok (.istore_n 2, 1) := dk_61 (dk_at dksX2_twin_2 1 rfl rfl)
theorem dX2_twin_50 : decode cX2_twin 50 = .ok (.iload_n 2, 1) := dk_28 (dk_at dksX2_twin_2 2 rfl rfl)
theorem dX2_twin_51 : decode cX2_twin 51 = .ok (.aload_n 0, 1) := dk_42 (dk_at dksX2_twin_2 3 rfl rfl)
theorem dX2_twin_52 : decode cX2_twin 52 = .ok (.getfield 14, 3) := dk_180 0 14 (dk_at dksX2_twin_2 4 rfl rfl)
theorem dX2_twin_55 : decode cX2_twin 55 = .ok (.invokevirtual 44, 3) := dk_182 0 44 (dk_at dksX2_twin_2 7 rfl rfl)
theorem dX2_twin_58 : decode cX2_twin 58 = .ok (.if_icmp .ge 31, 3) := dk_162 0 31 (dk_at dksX2_twin_2 10 rfl rfl)
theorem dX2_twin_61 : decode cX2_twin 61 = .ok (.aload_n 1, 1) := dk_43 (dk_at dksX2_twin_2 13 rfl rfl)
theorem dX2_twin_62 : decode cX2_twin 62 = .ok (.getfield 14, 3) := dk_180 0 14 (dk_at dksX2_twin_2 14 rfl rfl)
theorem dX2_twin_65 : decode cX2_twin 65 = .ok (.aload_n 0, 1) := dk_42 (dk_at dksX2_twin_2 17 rfl rfl)
theorem dX2_twin_66 : decode cX2_twin 66 = .ok (.getfield 14, 3) := dk_180 0 14 (dk_at dksX2_twin_2 18 rfl rfl)
theorem dX2_twin_69 : decode cX2_twin 69 = .ok (.iload_n 2, 1) := dk_28 (dk_at dksX2_twin_2 21 rfl rfl)
theorem dX2_twin_70 : decode cX2_twin 70 = .ok (.invokevirtual 48, 3) := dk_182 0 48 (dk_at dksX2_twin_3 0 rfl rfl)
theorem dX2_twin_73 : decode cX2_twin 73 = .ok (.checkcast 52, 3) := dk_192 0 52 (dk_at dksX2_twin_3 3 rfl rfl)
theorem dX2_twin_76 : decode cX2_twin 76 = .ok (.invokevirtual 54, 3) := dk_182 0 54 (dk_at dksX2_twin_3 6 rfl rfl)
theorem dX2_twin_79 : decode cX2_twin 79 = .ok (.invokevirtual 58, 3) := dk_182 0 58 (dk_at dksX2_twin_3 9 rfl rfl)
theorem dX2_twin_82 : decode cX2_twin 82 = .ok (.pop, 1) := dk_87 (dk_at dksX2_twin_3 12 rfl rfl)
theorem dX2_twin_83 : decode cX2_twin 83 = .ok (.iinc 2 1, 3) := dk_132 2 1 (dk_at dksX2_twin_3 13 rfl rfl)
theorem dX2_twin_86 : decode cX2_twin 86 = .ok (.goto (-36), 3) := dk_167 255 220 (dk_at dksX2_twin_3 16 rfl rfl)
theorem dX2_twin_89 : decode cX2_twin 89 = .ok (.iconst 0, 1) := dk_3 (dk_at dksX2_twin_3 19 rfl rfl)
theorem dX2_twin_90 : decode cX2_twin 90 = .ok (.istore_n 2, 1) := dk_61 (dk_at dksX2_twin_3 20 rfl rfl)
theorem dX2_twin_91 : decode cX2_twin 91 = .ok (.iload_n 2, 1) := dk_28 (dk_at dksX2_twin_3 21 rfl rfl)
theorem dX2_twin_92 : decode cX2_twin 92 = .ok (.iconst 5, 1) := dk_8 (dk_at dksX2_twin_3 22 rfl rfl)
theorem dX2_twin_93 : decode cX2_twin 93 = .ok (.if_icmp .ge 31, 3) := dk_162 0 31 (dk_at dksX2_twin_4 0 rfl rfl)
theorem dX2_twin_96 : decode cX2_twin 96 = .ok (.aload_n 1, 1) := dk_43 (dk_at dksX2_twin_4 3 rfl rfl)
theorem dX2_twin_97 : decode cX2_twin 97 = .ok (.getfield 20, 3) := dk_180 0 20 (dk_at dksX2_twin_4 4 rfl rfl)
theorem dX2_twin_100 : decode cX2_twin 100 = .ok (.aload_n 0, 1) := dk_42 (dk_at dksX2_twin_4 7 rfl rfl)
theorem dX2_twin_101 : decode cX2_twin 101 = .ok (.getfield 20, 3) := dk_180 0 20 (dk_at dksX2_twin_4 8 rfl rfl)
theorem dX2_twin_104 : decode cX2_twin 104 = .ok (.iload_n 2, 1) := dk_28 (dk_at dksX2_twin_4 11 rfl rfl)
theorem dX2_twin_105 : decode cX2_twin 105 = .ok (.invokevirtual 48, 3) := dk_182 0 48 (dk_at dksX2_twin_4 12 rfl rfl)
theorem dX2_twin_108 : decode cX2_twin 108 = .ok (.checkcast 62, 3) := dk_192 0 62 (dk_at dksX2_twin_4 15 rfl rfl)
theorem dX2_twin_111 : decode cX2_twin 111 = .ok (.invokevirtual 64, 3) := dk_182 0 64 (dk_at dksX2_twin_4 18 rfl rfl)
theorem dX2_twin_114 : decode cX2_twin 114 = .ok (.invokevirtual 58, 3) := dk_182 0 58 (dk_at dksX2_twin_4 21 rfl rfl)
theorem dX2_twin_117 : decode cX2_twin 117 = .ok (.pop, 1) := dk_87 (dk_at dksX2_twin_5 0 rfl rfl)
theorem dX2_twin_118 : decode cX2_twin 118 = .ok (.iinc 2 1, 3) := dk_132 2 1 (dk_at dksX2_twin_5 1 rfl rfl)
theorem dX2_twin_121 : decode cX2_twin 121 = .ok (.goto (-30), 3) := dk_167 255 226 (dk_at dksX2_twin_5 4 rfl rfl)
theorem dX2_twin_124 : decode cX2_twin 124 = .ok (.aload_n 1, 1) := dk_43 (dk_at dksX2_twin_5 7 rfl rfl)
theorem dX2_twin_125 : decode cX2_twin 125 = .ok (.aload_n 0, 1) := dk_42 (dk_at dksX2_twin_5 8 rfl rfl)
theorem dX2_twin_126 : decode cX2_twin 126 = .ok (.getfield 67, 3) := dk_180 0 67 (dk_at dksX2_twin_5 9 rfl rfl)
theorem dX2_twin_129 : decode cX2_twin 129 = .ok (.putfield 67, 3) := dk_181 0 67 (dk_at dksX2_twin_5 12 rfl rfl)
theorem dX2_twin_132 : decode cX2_twin 132 = .ok (.aload_n 1, 1) := dk_43 (dk_at dksX2_twin_5 15 rfl rfl)
theorem dX2_twin_133 : decode cX2_twin 133 = .ok (.aload_n 0, 1) := dk_42 (dk_at dksX2_twin_5 16 rfl rfl)
theorem dX2_twin_134 : decode cX2_twin 134 = .ok (.getfield 71, 3) := dk_180 0 71 (dk_at dksX2_twin_5 17 rfl rfl)
theorem dX2_twin_137 : decode cX2_twin 137 = .ok (.putfield 71, 3) := dk_181 0 71 (dk_at dksX2_twin_5 20 rfl rfl)
theorem dX2_twin_140 : decode cX2_twin 140 = .ok (.aload_n 1, 1) := dk_43 (dk_at dksX2_twin_5 23 rfl rfl)
theorem dX2_twin_141 : decode cX2_twin 141 = .ok (.aload_n 0, 1) := dk_42 (dk_at dksX2_twin_6 0 rfl rfl)
theorem dX2_twin_142 : decode cX2_twin 142 = .ok (.getfield 74, 3) := dk_180 0 74 (dk_at dksX2_twin_6 1 rfl rfl)
theorem dX2_twin_145 : decode cX2_twin 145 = .ok (.putfield 74, 3) := dk_181 0 74 (dk_at dksX2_twin_6 4 rfl rfl)
theorem dX2_twin_148 : decode cX2_twin 148 = .ok (.aload_n 1, 1) := dk_43 (dk_at dksX2_twin_6 7 rfl rfl)
theorem dX2_twin_149 : decode cX2_twin 149 = .ok (.areturn, 1) := dk_176 (dk_at dksX2_twin_6 8 rfl rfl)
abbrev cX2_goOn : ByteArray := prog_12_method_18_code
def yX2_goOn : MethodName := ⟨RX2, "goOn", "()Z"⟩
def dkwX2_goOn_0 : List UInt8 := [42, 182, 0, 189, 60, 42, 182, 0, 192, 42, 89, 180, 0, 67, 4, 96, 181, 0, 67, 27, 172]
abbrev dktX2_goOn_0 : List UInt8 := dkwX2_goOn_0 ++ []
theorem dksX2_goOn_0 : cX2_goOn.data.toList.drop 0 = dktX2_goOn_0 := by decide +kernel
theorem dX2_goOn_0 : decode cX2_goOn 0 = .ok (.aload_n 0, 1) := dk_42 (dk_at dksX2_goOn_0 0 rfl rfl)
theorem dX2_goOn_1 : decode cX2_goOn 1 = .ok (.invokevirtual 189, 3) := dk_182 0 189 (dk_at dksX2_goOn_0 1 rfl rfl)
theorem dX2_goOn_4 : decode cX2_goOn 4 = .ok (.istore_n 1, 1) := dk_60 (dk_at dksX2_goOn_0 4 rfl rfl)
theorem dX2_goOn_5 : decode cX2_goOn 5 = .ok (.aload_n 0, 1) := dk_42 (dk_at dksX2_goOn_0 5 rfl rfl)
theorem dX2_goOn_6 : decode cX2_goOn 6 = .ok (.invokevirtual 192, 3) := dk_182 0 192 (dk_at dksX2_goOn_0 6 rfl rfl)
theorem dX2_goOn_9 : decode cX2_goOn 9 = .ok (.aload_n 0, 1) := dk_42 (dk_at dksX2_goOn_0 9 rfl rfl)
theorem dX2_goOn_10 : decode cX2_goOn 10 = .ok (.dup, 1) := dk_89 (dk_at dksX2_goOn_0 10 rfl rfl)
theorem dX2_goOn_11 : decode cX2_goOn 11 = .ok (.getfield 67, 3) := dk_180 0 67 (dk_at dksX2_goOn_0 11 rfl rfl)
theorem dX2_goOn_14 : decode cX2_goOn 14 = .ok (.iconst 1, 1) := dk_4 (dk_at dksX2_goOn_0 14 rfl rfl)
theorem dX2_goOn_15 : decode cX2_goOn 15 = .ok (.iadd, 1) := dk_96 (dk_at dksX2_goOn_0 15 rfl rfl)
theorem dX2_goOn_16 : decode cX2_goOn 16 = .ok (.putfield 67, 3) := dk_181 0 67 (dk_at dksX2_goOn_0 16 rfl rfl)
theorem dX2_goOn_19 : decode cX2_goOn 19 = .ok (.iload_n 1, 1) := dk_27 (dk_at dksX2_goOn_0 19 rfl rfl)
theorem dX2_goOn_20 : decode cX2_goOn 20 = .ok (.ireturn, 1) := dk_172 (dk_at dksX2_goOn_0 20 rfl rfl)
abbrev cX2_labour : ByteArray := prog_12_method_17_code
def yX2_labour : MethodName := ⟨RX2, "labour", "()Z"⟩
def dkwX2_labour_5 : List UInt8 := [182, 0, 186, 27, 172]
abbrev dktX2_labour_5 : List UInt8 := dkwX2_labour_5 ++ []
def dkwX2_labour_4 : List UInt8 := [182, 0, 183, 42, 180, 0, 27, 42, 180, 0, 71, 46, 154, 0, 7, 4, 167, 0, 4, 3, 60, 42]
abbrev dktX2_labour_4 : List UInt8 := dkwX2_labour_4 ++ dktX2_labour_5
def dkwX2_labour_3 : List UInt8 := [42, 42, 180, 0, 14, 27, 182, 0, 48, 192, 0, 52, 182, 0, 179, 132, 1, 1, 167, 255, 209, 42]
abbrev dktX2_labour_3 : List UInt8 := dkwX2_labour_3 ++ dktX2_labour_4
def dkwX2_labour_2 : List UInt8 := [182, 0, 44, 162, 0, 42, 42, 180, 0, 14, 27, 182, 0, 48, 192, 0, 52, 180, 0, 117, 5, 160, 0, 18]
abbrev dktX2_labour_2 : List UInt8 := dkwX2_labour_2 ++ dktX2_labour_3
def dkwX2_labour_1 : List UInt8 := [182, 0, 48, 192, 0, 52, 182, 0, 176, 132, 1, 1, 167, 255, 228, 3, 60, 27, 42, 180, 0, 14]
abbrev dktX2_labour_1 : List UInt8 := dkwX2_labour_1 ++ dktX2_labour_2
def dkwX2_labour_0 : List UInt8 := [42, 182, 0, 173, 3, 60, 27, 42, 180, 0, 14, 182, 0, 44, 162, 0, 23, 42, 180, 0, 14, 27]
abbrev dktX2_labour_0 : List UInt8 := dkwX2_labour_0 ++ dktX2_labour_1
theorem dksX2_labour_0 : cX2_labour.data.toList.drop 0 = dktX2_labour_0 := by decide +kernel
theorem dksX2_labour_1 : cX2_labour.data.toList.drop 22 = dktX2_labour_1 := dk_seg dksX2_labour_0 22 rfl rfl
theorem dksX2_labour_2 : cX2_labour.data.toList.drop 44 = dktX2_labour_2 := dk_seg dksX2_labour_1 22 rfl rfl
theorem dksX2_labour_3 : cX2_labour.data.toList.drop 68 = dktX2_labour_3 := dk_seg dksX2_labour_2 24 rfl rfl
theorem dksX2_labour_4 : cX2_labour.data.toList.drop 90 = dktX2_labour_4 := dk_seg dksX2_labour_3 22 rfl rfl
theorem dksX2_labour_5 : cX2_labour.data.toList.drop 112 = dktX2_labour_5 := dk_seg dksX2_labour_4 22 rfl rfl
theorem dX2_labour_0 : decode cX2_labour 0 = .ok (.aload_n 0, 1) := dk_42 (dk_at dksX2_labour_0 0 rfl rfl)
theorem dX2_labour_1 : decode cX2_labour 1 = .ok (.invokevirtual 173, 3) := dk_182 0 173 (dk_at dksX2_labour_0 1 rfl rfl)
theorem dX2_labour_4 : decode cX2_labour 4 = .ok (.iconst 0, 1) := dk_3 (dk_at dksX2_labour_0 4 rfl rfl)
theorem dX2_labour_5 : decode cX2_labour 5 = .ok (.istore_n 1, 1) := dk_60 (dk_at dksX2_labour_0 5 rfl rfl)
theorem dX2_labour_6 : decode cX2_labour 6 = .ok (.iload_n 1, 1) := dk_27 (dk_at dksX2_labour_0 6 rfl rfl)
theorem dX2_labour_7 : decode cX2_labour 7 = .ok (.aload_n 0, 1) := dk_42 (dk_at dksX2_labour_0 7 rfl rfl)
theorem dX2_labour_8 : decode cX2_labour 8 = .ok (.getfield 14, 3) := dk_180 0 14 (dk_at dksX2_labour_0 8 rfl rfl)
theorem dX2_labour_11 : decode cX2_labour 11 = .ok (.invokevirtual 44, 3) := dk_182 0 44 (dk_at dksX2_labour_0 11 rfl rfl)
theorem dX2_labour_14 : decode cX2_labour 14 = .ok (.if_icmp .ge 23, 3) := dk_162 0 23 (dk_at dksX2_labour_0 14 rfl rfl)
theorem dX2_labour_17 : decode cX2_labour 17 = .ok (.aload_n 0, 1) := dk_42 (dk_at dksX2_labour_0 17 rfl rfl)
theorem dX2_labour_18 : decode cX2_labour 18 = .ok (.getfield 14, 3) := dk_180 0 14 (dk_at dksX2_labour_0 18 rfl rfl)
theorem dX2_labour_21 : decode cX2_labour 21 = .ok (.iload_n 1, 1) := dk_27 (dk_at dksX2_labour_0 21 rfl rfl)
theorem dX2_labour_22 : decode cX2_labour 22 = .ok (.invokevirtual 48, 3) := dk_182 0 48 (dk_at dksX2_labour_1 0 rfl rfl)
theorem dX2_labour_25 : decode cX2_labour 25 = .ok (.checkcast 52, 3) := dk_192 0 52 (dk_at dksX2_labour_1 3 rfl rfl)
theorem dX2_labour_28 : decode cX2_labour 28 = .ok (.invokevirtual 176, 3) := dk_182 0 176 (dk_at dksX2_labour_1 6 rfl rfl)
theorem dX2_labour_31 : decode cX2_labour 31 = .ok (.iinc 1 1, 3) := dk_132 1 1 (dk_at dksX2_labour_1 9 rfl rfl)
theorem dX2_labour_34 : decode cX2_labour 34 = .ok (.goto (-28), 3) := dk_167 255 228 (dk_at dksX2_labour_1 12 rfl rfl)
theorem dX2_labour_37 : decode cX2_labour 37 = .ok (.iconst 0, 1) := dk_3 (dk_at dksX2_labour_1 15 rfl rfl)
theorem dX2_labour_38 : decode cX2_labour 38 = .ok (.istore_n 1, 1) := dk_60 (dk_at dksX2_labour_1 16 rfl rfl)
theorem dX2_labour_39 : decode cX2_labour 39 = .ok (.iload_n 1, 1) := dk_27 (dk_at dksX2_labour_1 17 rfl rfl)
theorem dX2_labour_40 : decode cX2_labour 40 = .ok (.aload_n 0, 1) := dk_42 (dk_at dksX2_labour_1 18 rfl rfl)
theorem dX2_labour_41 : decode cX2_labour 41 = .ok (.getfield 14, 3) := dk_180 0 14 (dk_at dksX2_labour_1 19 rfl rfl)
theorem dX2_labour_44 : decode cX2_labour 44 = .ok (.invokevirtual 44, 3) := dk_182 0 44 (dk_at dksX2_labour_2 0 rfl rfl)
theorem dX2_labour_47 : decode cX2_labour 47 = .ok (.if_icmp .ge 42, 3) := dk_162 0 42 (dk_at dksX2_labour_2 3 rfl rfl)
theorem dX2_labour_50 : decode cX2_labour 50 = .ok (.aload_n 0, 1) := dk_42 (dk_at dksX2_labour_2 6 rfl rfl)
theorem dX2_labour_51 : decode cX2_labour 51 = .ok (.getfield 14, 3) := dk_180 0 14 (dk_at dksX2_labour_2 7 rfl rfl)
theorem dX2_labour_54 : decode cX2_labour 54 = .ok (.iload_n 1, 1) := dk_27 (dk_at dksX2_labour_2 10 rfl rfl)
theorem dX2_labour_55 : decode cX2_labour 55 = .ok (.invokevirtual 48, 3) := dk_182 0 48 (dk_at dksX2_labour_2 11 rfl rfl)
theorem dX2_labour_58 : decode cX2_labour 58 = .ok (.checkcast 52, 3) := dk_192 0 52 (dk_at dksX2_labour_2 14 rfl rfl)
theorem dX2_labour_61 : decode cX2_labour 61 = .ok (.getfield 117, 3) := dk_180 0 117 (dk_at dksX2_labour_2 17 rfl rfl)
theorem dX2_labour_64 : decode cX2_labour 64 = .ok (.iconst 2, 1) := dk_5 (dk_at dksX2_labour_2 20 rfl rfl)
theorem dX2_labour_65 : decode cX2_labour 65 = .ok (.if_icmp .ne 18, 3) := dk_160 0 18 (dk_at dksX2_labour_2 21 rfl rfl)
theorem dX2_labour_68 : decode cX2_labour 68 = .ok (.aload_n 0, 1) := dk_42 (dk_at dksX2_labour_3 0 rfl rfl)
theorem dX2_labour_69 : decode cX2_labour 69 = .ok (.aload_n 0, 1) := dk_42 (dk_at dksX2_labour_3 1 rfl rfl)
theorem dX2_labour_70 : decode cX2_labour 70 = .ok (.getfield 14, 3) := dk_180 0 14 (dk_at dksX2_labour_3 2 rfl rfl)
theorem dX2_labour_73 : decode cX2_labour 73 = .ok (.iload_n 1, 1) := dk_27 (dk_at dksX2_labour_3 5 rfl rfl)
theorem dX2_labour_74 : decode cX2_labour 74 = .ok (.invokevirtual 48, 3) := dk_182 0 48 (dk_at dksX2_labour_3 6 rfl rfl)
theorem dX2_labour_77 : decode cX2_labour 77 = .ok (.checkcast 52, 3) := dk_192 0 52 (dk_at dksX2_labour_3 9 rfl rfl)
theorem dX2_labour_80 : decode cX2_labour 80 = .ok (.invokevirtual 179, 3) := dk_182 0 179 (dk_at dksX2_labour_3 12 rfl rfl)
theorem dX2_labour_83 : decode cX2_labour 83 = .ok (.iinc 1 1, 3) := dk_132 1 1 (dk_at dksX2_labour_3 15 rfl rfl)
theorem dX2_labour_86 : decode cX2_labour 86 = .ok (.goto (-47), 3) := dk_167 255 209 (dk_at dksX2_labour_3 18 rfl rfl)
theorem dX2_labour_89 : decode cX2_labour 89 = .ok (.aload_n 0, 1) := dk_42 (dk_at dksX2_labour_3 21 rfl rfl)
theorem dX2_labour_90 : decode cX2_labour 90 = .ok (.invokevirtual 183, 3) := dk_182 0 183 (dk_at dksX2_labour_4 0 rfl rfl)
theorem dX2_labour_93 : decode cX2_labour 93 = .ok (.aload_n 0, 1) := dk_42 (dk_at dksX2_labour_4 3 rfl rfl)
theorem dX2_labour_94 : decode cX2_labour 94 = .ok (.getfield 27, 3) := dk_180 0 27 (dk_at dksX2_labour_4 4 rfl rfl)
theorem dX2_labour_97 : decode cX2_labour 97 = .ok (.aload_n 0, 1) := dk_42 (dk_at dksX2_labour_4 7 rfl rfl)
theorem dX2_labour_98 : decode cX2_labour 98 = .ok (.getfield 71, 3) := dk_180 0 71 (dk_at dksX2_labour_4 8 rfl rfl)
theorem dX2_labour_101 : decode cX2_labour 101 = .ok (.iaload, 1) := dk_46 (dk_at dksX2_labour_4 11 rfl rfl)
theorem dX2_labour_102 : decode cX2_labour 102 = .ok (.ifCond .ne 7, 3) := dk_154 0 7 (dk_at dksX2_labour_4 12 rfl rfl)
theorem dX2_labour_105 : decode cX2_labour 105 = .ok (.iconst 1, 1) := dk_4 (dk_at dksX2_labour_4 15 rfl rfl)
theorem dX2_labour_106 : decode cX2_labour 106 = .ok (.goto 4, 3) := dk_167 0 4 (dk_at dksX2_labour_4 16 rfl rfl)
theorem dX2_labour_109 : decode cX2_labour 109 = .ok (.iconst 0, 1) := dk_3 (dk_at dksX2_labour_4 19 rfl rfl)
theorem dX2_labour_110 : decode cX2_labour 110 = .ok (.istore_n 1, 1) := dk_60 (dk_at dksX2_labour_4 20 rfl rfl)
theorem dX2_labour_111 : decode cX2_labour 111 = .ok (.aload_n 0, 1) := dk_42 (dk_at dksX2_labour_4 21 rfl rfl)
theorem dX2_labour_112 : decode cX2_labour 112 = .ok (.invokevirtual 186, 3) := dk_182 0 186 (dk_at dksX2_labour_5 0 rfl rfl)
theorem dX2_labour_115 : decode cX2_labour 115 = .ok (.iload_n 1, 1) := dk_27 (dk_at dksX2_labour_5 3 rfl rfl)
theorem dX2_labour_116 : decode cX2_labour 116 = .ok (.ireturn, 1) := dk_172 (dk_at dksX2_labour_5 4 rfl rfl)
abbrev cX2_shifts : ByteArray := prog_12_method_12_code
def yX2_shifts : MethodName := ⟨RX2, "shifts", "()V"⟩
def dkwX2_shifts_2 : List UInt8 := [167, 0, 7, 44, 180, 0, 122, 181, 0, 122, 132, 1, 1, 167, 255, 199, 177]
abbrev dktX2_shifts_2 : List UInt8 := dkwX2_shifts_2 ++ []
def dkwX2_shifts_1 : List UInt8 := [180, 0, 67, 182, 0, 144, 153, 0, 21, 3, 44, 180, 0, 122, 42, 180, 0, 23, 6, 46, 100, 184, 0, 147]
abbrev dktX2_shifts_1 : List UInt8 := dkwX2_shifts_1 ++ dktX2_shifts_2
def dkwX2_shifts_0 : List UInt8 := [3, 60, 27, 8, 162, 0, 58, 42, 180, 0, 20, 27, 182, 0, 48, 192, 0, 62, 77, 44, 44, 42]
abbrev dktX2_shifts_0 : List UInt8 := dkwX2_shifts_0 ++ dktX2_shifts_1
theorem dksX2_shifts_0 : cX2_shifts.data.toList.drop 0 = dktX2_shifts_0 := by decide +kernel
theorem dksX2_shifts_1 : cX2_shifts.data.toList.drop 22 = dktX2_shifts_1 := dk_seg dksX2_shifts_0 22 rfl rfl
theorem dksX2_shifts_2 : cX2_shifts.data.toList.drop 46 = dktX2_shifts_2 := dk_seg dksX2_shifts_1 24 rfl rfl
theorem dX2_shifts_0 : decode cX2_shifts 0 = .ok (.iconst 0, 1) := dk_3 (dk_at dksX2_shifts_0 0 rfl rfl)
theorem dX2_shifts_1 : decode cX2_shifts 1 = .ok (.istore_n 1, 1) := dk_60 (dk_at dksX2_shifts_0 1 rfl rfl)
theorem dX2_shifts_2 : decode cX2_shifts 2 = .ok (.iload_n 1, 1) := dk_27 (dk_at dksX2_shifts_0 2 rfl rfl)
theorem dX2_shifts_3 : decode cX2_shifts 3 = .ok (.iconst 5, 1) := dk_8 (dk_at dksX2_shifts_0 3 rfl rfl)
theorem dX2_shifts_4 : decode cX2_shifts 4 = .ok (.if_icmp .ge 58, 3) := dk_162 0 58 (dk_at dksX2_shifts_0 4 rfl rfl)
theorem dX2_shifts_7 : decode cX2_shifts 7 = .ok (.aload_n 0, 1) := dk_42 (dk_at dksX2_shifts_0 7 rfl rfl)
theorem dX2_shifts_8 : decode cX2_shifts 8 = .ok (.getfield 20, 3) := dk_180 0 20 (dk_at dksX2_shifts_0 8 rfl rfl)
theorem dX2_shifts_11 : decode cX2_shifts 11 = .ok (.iload_n 1, 1) := dk_27 (dk_at dksX2_shifts_0 11 rfl rfl)
theorem dX2_shifts_12 : decode cX2_shifts 12 = .ok (.invokevirtual 48, 3) := dk_182 0 48 (dk_at dksX2_shifts_0 12 rfl rfl)
theorem dX2_shifts_15 : decode cX2_shifts 15 = .ok (.checkcast 62, 3) := dk_192 0 62 (dk_at dksX2_shifts_0 15 rfl rfl)
theorem dX2_shifts_18 : decode cX2_shifts 18 = .ok (.astore_n 2, 1) := dk_77 (dk_at dksX2_shifts_0 18 rfl rfl)
theorem dX2_shifts_19 : decode cX2_shifts 19 = .ok (.aload_n 2, 1) := dk_44 (dk_at dksX2_shifts_0 19 rfl rfl)
theorem dX2_shifts_20 : decode cX2_shifts 20 = .ok (.aload_n 2, 1) := dk_44 (dk_at dksX2_shifts_0 20 rfl rfl)
theorem dX2_shifts_21 : decode cX2_shifts 21 = .ok (.aload_n 0, 1) := dk_42 (dk_at dksX2_shifts_0 21 rfl rfl)
theorem dX2_shifts_22 : decode cX2_shifts 22 = .ok (.getfield 67, 3) := dk_180 0 67 (dk_at dksX2_shifts_1 0 rfl rfl)
theorem dX2_shifts_25 : decode cX2_shifts 25 = .ok (.invokevirtual 144, 3) := dk_182 0 144 (dk_at dksX2_shifts_1 3 rfl rfl)
theorem dX2_shifts_28 : decode cX2_shifts 28 = .ok (.ifCond .eq 21, 3) := dk_153 0 21 (dk_at dksX2_shifts_1 6 rfl rfl)
theorem dX2_shifts_31 : decode cX2_shifts 31 = .ok (.iconst 0, 1) := dk_3 (dk_at dksX2_shifts_1 9 rfl rfl)
theorem dX2_shifts_32 : decode cX2_shifts 32 = .ok (.aload_n 2, 1) := dk_44 (dk_at dksX2_shifts_1 10 rfl rfl)
theorem dX2_shifts_33 : decode cX2_shifts 33 = .ok (.getfield 122, 3) := dk_180 0 122 (dk_at dksX2_shifts_1 11 rfl rfl)
theorem dX2_shifts_36 : decode cX2_shifts 36 = .ok (.aload_n 0, 1) := dk_42 (dk_at dksX2_shifts_1 14 rfl rfl)
theorem dX2_shifts_37 : decode cX2_shifts 37 = .ok (.getfield 23, 3) := dk_180 0 23 (dk_at dksX2_shifts_1 15 rfl rfl)
theorem dX2_shifts_40 : decode cX2_shifts 40 = .ok (.iconst 3, 1) := dk_6 (dk_at dksX2_shifts_1 18 rfl rfl)
theorem dX2_shifts_41 : decode cX2_shifts 41 = .ok (.iaload, 1) := dk_46 (dk_at dksX2_shifts_1 19 rfl rfl)
theorem dX2_shifts_42 : decode cX2_shifts 42 = .ok (.isub, 1) := dk_100 (dk_at dksX2_shifts_1 20 rfl rfl)
theorem dX2_shifts_43 : decode cX2_shifts 43 = .ok (.invokestatic 147, 3) := dk_184 0 147 (dk_at dksX2_shifts_1 21 rfl rfl)
theorem dX2_shifts_46 : decode cX2_shifts 46 = .ok (.goto 7, 3) := dk_167 0 7 (dk_at dksX2_shifts_2 0 rfl rfl)
theorem dX2_shifts_49 : decode cX2_shifts 49 = .ok (.aload_n 2, 1) := dk_44 (dk_at dksX2_shifts_2 3 rfl rfl)
theorem dX2_shifts_50 : decode cX2_shifts 50 = .ok (.getfield 122, 3) := dk_180 0 122 (dk_at dksX2_shifts_2 4 rfl rfl)
theorem dX2_shifts_53 : decode cX2_shifts 53 = .ok (.putfield 122, 3) := dk_181 0 122 (dk_at dksX2_shifts_2 7 rfl rfl)
theorem dX2_shifts_56 : decode cX2_shifts 56 = .ok (.iinc 1 1, 3) := dk_132 1 1 (dk_at dksX2_shifts_2 10 rfl rfl)
theorem dX2_shifts_59 : decode cX2_shifts 59 = .ok (.goto (-57), 3) := dk_167 255 199 (dk_at dksX2_shifts_2 13 rfl rfl)
theorem dX2_shifts_62 : decode cX2_shifts 62 = .ok (.return_, 1) := dk_177 (dk_at dksX2_shifts_2 16 rfl rfl)
abbrev cX2_lay : ByteArray := prog_12_method_13_code
def yX2_lay : MethodName := ⟨RX2, "lay", "(LSpoilMeadows$Barge;)V"⟩
def dkwX2_lay_5 : List UInt8 := [180, 0, 74, 4, 96, 181, 0, 74, 177]
abbrev dktX2_lay_5 : List UInt8 := dkwX2_lay_5 ++ []
def dkwX2_lay_4 : List UInt8 := [43, 6, 43, 180, 0, 137, 42, 43, 180, 0, 137, 182, 0, 108, 182, 0, 163, 167, 0, 13, 42, 89]
abbrev dktX2_lay_4 : List UInt8 := dkwX2_lay_4 ++ dktX2_lay_5
def dkwX2_lay_3 : List UInt8 := [21, 4, 100, 181, 0, 93, 43, 89, 180, 0, 160, 21, 4, 96, 181, 0, 160, 43, 180, 0, 93, 154, 0, 23]
abbrev dktX2_lay_3 : List UInt8 := dkwX2_lay_3 ++ dktX2_lay_4
def dkwX2_lay_2 : List UInt8 := [44, 43, 180, 0, 93, 42, 180, 0, 67, 182, 0, 157, 167, 0, 4, 3, 54, 4, 43, 89, 180, 0, 93]
abbrev dktX2_lay_2 : List UInt8 := dkwX2_lay_2 ++ dktX2_lay_3
def dkwX2_lay_1 : List UInt8 := [153, 0, 18, 44, 180, 0, 154, 42, 180, 0, 67, 159, 0, 7, 4, 167, 0, 4, 3, 62, 29, 153, 0, 18]
abbrev dktX2_lay_1 : List UInt8 := dkwX2_lay_1 ++ dktX2_lay_2
def dkwX2_lay_0 : List UInt8 := [42, 180, 0, 20, 43, 180, 0, 137, 182, 0, 48, 192, 0, 62, 77, 42, 43, 180, 0, 137, 182, 0, 151]
abbrev dktX2_lay_0 : List UInt8 := dkwX2_lay_0 ++ dktX2_lay_1
theorem dksX2_lay_0 : cX2_lay.data.toList.drop 0 = dktX2_lay_0 := by decide +kernel
theorem dksX2_lay_1 : cX2_lay.data.toList.drop 23 = dktX2_lay_1 := dk_seg dksX2_lay_0 23 rfl rfl
theorem dksX2_lay_2 : cX2_lay.data.toList.drop 47 = dktX2_lay_2 := dk_seg dksX2_lay_1 24 rfl rfl
theorem dksX2_lay_3 : cX2_lay.data.toList.drop 70 = dktX2_lay_3 := dk_seg dksX2_lay_2 23 rfl rfl
theorem dksX2_lay_4 : cX2_lay.data.toList.drop 94 = dktX2_lay_4 := dk_seg dksX2_lay_3 24 rfl rfl
theorem dksX2_lay_5 : cX2_lay.data.toList.drop 116 = dktX2_lay_5 := dk_seg dksX2_lay_4 22 rfl rfl
theorem dX2_lay_0 : decode cX2_lay 0 = .ok (.aload_n 0, 1) := dk_42 (dk_at dksX2_lay_0 0 rfl rfl)
theorem dX2_lay_1 : decode cX2_lay 1 = .ok (.getfield 20, 3) := dk_180 0 20 (dk_at dksX2_lay_0 1 rfl rfl)
theorem dX2_lay_4 : decode cX2_lay 4 = .ok (.aload_n 1, 1) := dk_43 (dk_at dksX2_lay_0 4 rfl rfl)
theorem dX2_lay_5 : decode cX2_lay 5 = .ok (.getfield 137, 3) := dk_180 0 137 (dk_at dksX2_lay_0 5 rfl rfl)
theorem dX2_lay_8 : decode cX2_lay 8 = .ok (.invokevirtual 48, 3) := dk_182 0 48 (dk_at dksX2_lay_0 8 rfl rfl)
theorem dX2_lay_11 : decode cX2_lay 11 = .ok (.checkcast 62, 3) := dk_192 0 62 (dk_at dksX2_lay_0 11 rfl rfl)
theorem dX2_lay_14 : decode cX2_lay 14 = .ok (.astore_n 2, 1) := dk_77 (dk_at dksX2_lay_0 14 rfl rfl)
theorem dX2_lay_15 : decode cX2_lay 15 = .ok (.aload_n 0, 1) := dk_42 (dk_at dksX2_lay_0 15 rfl rfl)
theorem dX2_lay_16 : decode cX2_lay 16 = .ok (.aload_n 1, 1) := dk_43 (dk_at dksX2_lay_0 16 rfl rfl)
theorem dX2_lay_17 : decode cX2_lay 17 = .ok (.getfield 137, 3) := dk_180 0 137 (dk_at dksX2_lay_0 17 rfl rfl)
theorem dX2_lay_20 : decode cX2_lay 20 = .ok (.invokevirtual 151, 3) := dk_182 0 151 (dk_at dksX2_lay_0 20 rfl rfl)
theorem dX2_lay_23 : decode cX2_lay 23 = .ok (.ifCond .eq 18, 3) := dk_153 0 18 (dk_at dksX2_lay_1 0 rfl rfl)
theorem dX2_lay_26 : decode cX2_lay 26 = .ok (.aload_n 2, 1) := dk_44 (dk_at dksX2_lay_1 3 rfl rfl)
theorem dX2_lay_27 : decode cX2_lay 27 = .ok (.getfield 154, 3) := dk_180 0 154 (dk_at dksX2_lay_1 4 rfl rfl)
theorem dX2_lay_30 : decode cX2_lay 30 = .ok (.aload_n 0, 1) := dk_42 (dk_at dksX2_lay_1 7 rfl rfl)
theorem dX2_lay_31 : decode cX2_lay 31 = .ok (.getfield 67, 3) := dk_180 0 67 (dk_at dksX2_lay_1 8 rfl rfl)
theorem dX2_lay_34 : decode cX2_lay 34 = .ok (.if_icmp .eq 7, 3) := dk_159 0 7 (dk_at dksX2_lay_1 11 rfl rfl)
theorem dX2_lay_37 : decode cX2_lay 37 = .ok (.iconst 1, 1) := dk_4 (dk_at dksX2_lay_1 14 rfl rfl)
theorem dX2_lay_38 : decode cX2_lay 38 = .ok (.goto 4, 3) := dk_167 0 4 (dk_at dksX2_lay_1 15 rfl rfl)
theorem dX2_lay_41 : decode cX2_lay 41 = .ok (.iconst 0, 1) := dk_3 (dk_at dksX2_lay_1 18 rfl rfl)
theorem dX2_lay_42 : decode cX2_lay 42 = .ok (.istore_n 3, 1) := dk_62 (dk_at dksX2_lay_1 19 rfl rfl)
theorem dX2_lay_43 : decode cX2_lay 43 = .ok (.iload_n 3, 1) := dk_29 (dk_at dksX2_lay_1 20 rfl rfl)
theorem dX2_lay_44 : decode cX2_lay 44 = .ok (.ifCond .eq 18, 3) := dk_153 0 18 (dk_at dksX2_lay_1 21 rfl rfl)
theorem dX2_lay_47 : decode cX2_lay 47 = .ok (.aload_n 2, 1) := dk_44 (dk_at dksX2_lay_2 0 rfl rfl)
theorem dX2_lay_48 : decode cX2_lay 48 = .ok (.aload_n 1, 1) := dk_43 (dk_at dksX2_lay_2 1 rfl rfl)
theorem dX2_lay_49 : decode cX2_lay 49 = .ok (.getfield 93, 3) := dk_180 0 93 (dk_at dksX2_lay_2 2 rfl rfl)
theorem dX2_lay_52 : decode cX2_lay 52 = .ok (.aload_n 0, 1) := dk_42 (dk_at dksX2_lay_2 5 rfl rfl)
theorem dX2_lay_53 : decode cX2_lay 53 = .ok (.getfield 67, 3) := dk_180 0 67 (dk_at dksX2_lay_2 6 rfl rfl)
theorem dX2_lay_56 : decode cX2_lay 56 = .ok (.invokevirtual 157, 3) := dk_182 0 157 (dk_at dksX2_lay_2 9 rfl rfl)
theorem dX2_lay_59 : decode cX2_lay 59 = .ok (.goto 4, 3) := dk_167 0 4 (dk_at dksX2_lay_2 12 rfl rfl)
theorem dX2_lay_62 : decode cX2_lay 62 = .ok (.iconst 0, 1) := dk_3 (dk_at dksX2_lay_2 15 rfl rfl)
theorem dX2_lay_63 : decode cX2_lay 63 = .ok (.istore 4, 2) := dk_54 4 (dk_at dksX2_lay_2 16 rfl rfl)
theorem dX2_lay_65 : decode cX2_lay 65 = .ok (.aload_n 1, 1) := dk_43 (dk_at dksX2_lay_2 18 rfl rfl)
theorem dX2_lay_66 : decode cX2_lay 66 = .ok (.dup, 1) := dk_89 (dk_at dksX2_lay_2 19 rfl rfl)
theorem dX2_lay_67 : decode cX2_lay 67 = .ok (.getfield 93, 3) := dk_180 0 93 (dk_at dksX2_lay_2 20 rfl rfl)
theorem dX2_lay_70 : decode cX2_lay 70 = .ok (.iload 4, 2) := dk_21 4 (dk_at dksX2_lay_3 0 rfl rfl)
theorem dX2_lay_72 : decode cX2_lay 72 = .ok (.isub, 1) := dk_100 (dk_at dksX2_lay_3 2 rfl rfl)
theorem dX2_lay_73 : decode cX2_lay 73 = .ok (.putfield 93, 3) := dk_181 0 93 (dk_at dksX2_lay_3 3 rfl rfl)
theorem dX2_lay_76 : decode cX2_lay 76 = .ok (.aload_n 1, 1) := dk_43 (dk_at dksX2_lay_3 6 rfl rfl)
theorem dX2_lay_77 : decode cX2_lay 77 = .ok (.dup, 1) := dk_89 (dk_at dksX2_lay_3 7 rfl rfl)
theorem dX2_lay_78 : decode cX2_lay 78 = .ok (.getfield 160, 3) := dk_180 0 160 (dk_at dksX2_lay_3 8 rfl rfl)
theorem dX2_lay_81 : decode cX2_lay 81 = .ok (.iload 4, 2) := dk_21 4 (dk_at dksX2_lay_3 11 rfl rfl)
theorem dX2_lay_83 : decode cX2_lay 83 = .ok (.iadd, 1) := dk_96 (dk_at dksX2_lay_3 13 rfl rfl)
theorem dX2_lay_84 : decode cX2_lay 84 = .ok (.putfield 160, 3) := dk_181 0 160 (dk_at dksX2_lay_3 14 rfl rfl)
theorem dX2_lay_87 : decode cX2_lay 87 = .ok (.aload_n 1, 1) := dk_43 (dk_at dksX2_lay_3 17 rfl rfl)
theorem dX2_lay_88 : decode cX2_lay 88 = .ok (.getfield 93, 3) := dk_180 0 93 (dk_at dksX2_lay_3 18 rfl rfl)
theorem dX2_lay_91 : decode cX2_lay 91 = .ok (.ifCond .ne 23, 3) := dk_154 0 23 (dk_at dksX2_lay_3 21 rfl rfl)
theorem dX2_lay_94 : decode cX2_lay 94 = .ok (.aload_n 1, 1) := dk_43 (dk_at dksX2_lay_4 0 rfl rfl)
theorem dX2_lay_95 : decode cX2_lay 95 = .ok (.iconst 3, 1) := dk_6 (dk_at dksX2_lay_4 1 rfl rfl)
theorem dX2_lay_96 : decode cX2_lay 96 = .ok (.aload_n 1, 1) := dk_43 (dk_at dksX2_lay_4 2 rfl rfl)
theorem dX2_lay_97 : decode cX2_lay 97 = .ok (.getfield 137, 3) := dk_180 0 137 (dk_at dksX2_lay_4 3 rfl rfl)
theorem dX2_lay_100 : decode cX2_lay 100 = .ok (.aload_n 0, 1) := dk_42 (dk_at dksX2_lay_4 6 rfl rfl)
theorem dX2_lay_101 : decode cX2_lay 101 = .ok (.aload_n 1, 1) := dk_43 (dk_at dksX2_lay_4 7 rfl rfl)
theorem dX2_lay_102 : decode cX2_lay 102 = .ok (.getfield 137, 3) := dk_180 0 137 (dk_at dksX2_lay_4 8 rfl rfl)
theorem dX2_lay_105 : decode cX2_lay 105 = .ok (.invokevirtual 108, 3) := dk_182 0 108 (dk_at dksX2_lay_4 11 rfl rfl)
theorem dX2_lay_108 : decode cX2_lay 108 = .ok (.invokevirtual 163, 3) := dk_182 0 163 (dk_at dksX2_lay_4 14 rfl rfl)
theorem dX2_lay_111 : decode cX2_lay 111 = .ok (.goto 13, 3) := dk_167 0 13 (dk_at dksX2_lay_4 17 rfl rfl)
theorem dX2_lay_114 : decode cX2_lay 114 = .ok (.aload_n 0, 1) := dk_42 (dk_at dksX2_lay_4 20 rfl rfl)
theorem dX2_lay_115 : decode cX2_lay 115 = .ok (.dup, 1) := dk_89 (dk_at dksX2_lay_4 21 rfl rfl)
theorem dX2_lay_116 : decode cX2_lay 116 = .ok (.getfield 74, 3) := dk_180 0 74 (dk_at dksX2_lay_5 0 rfl rfl)
theorem dX2_lay_119 : decode cX2_lay 119 = .ok (.iconst 1, 1) := dk_4 (dk_at dksX2_lay_5 3 rfl rfl)
theorem dX2_lay_120 : decode cX2_lay 120 = .ok (.iadd, 1) := dk_96 (dk_at dksX2_lay_5 4 rfl rfl)
theorem dX2_lay_121 : decode cX2_lay 121 = .ok (.putfield 74, 3) := dk_181 0 74 (dk_at dksX2_lay_5 5 rfl rfl)
theorem dX2_lay_124 : decode cX2_lay 124 = .ok (.return_, 1) := dk_177 (dk_at dksX2_lay_5 8 rfl rfl)
abbrev cX2_isOpen : ByteArray := prog_12_method_11_code
def yX2_isOpen : MethodName := ⟨RX2, "isOpen", "(I)Z"⟩
def dkwX2_isOpen_1 : List UInt8 := [3, 172]
abbrev dktX2_isOpen_1 : List UInt8 := dkwX2_isOpen_1 ++ []
def dkwX2_isOpen_0 : List UInt8 := [42, 42, 180, 0, 20, 27, 182, 0, 48, 192, 0, 62, 182, 0, 140, 16, 8, 160, 0, 7, 4, 167, 0, 4]
abbrev dktX2_isOpen_0 : List UInt8 := dkwX2_isOpen_0 ++ dktX2_isOpen_1
theorem dksX2_isOpen_0 : cX2_isOpen.data.toList.drop 0 = dktX2_isOpen_0 := by decide +kernel
theorem dksX2_isOpen_1 : cX2_isOpen.data.toList.drop 24 = dktX2_isOpen_1 := dk_seg dksX2_isOpen_0 24 rfl rfl
theorem dX2_isOpen_0 : decode cX2_isOpen 0 = .ok (.aload_n 0, 1) := dk_42 (dk_at dksX2_isOpen_0 0 rfl rfl)
theorem dX2_isOpen_1 : decode cX2_isOpen 1 = .ok (.aload_n 0, 1) := dk_42 (dk_at dksX2_isOpen_0 1 rfl rfl)
theorem dX2_isOpen_2 : decode cX2_isOpen 2 = .ok (.getfield 20, 3) := dk_180 0 20 (dk_at dksX2_isOpen_0 2 rfl rfl)
theorem dX2_isOpen_5 : decode cX2_isOpen 5 = .ok (.iload_n 1, 1) := dk_27 (dk_at dksX2_isOpen_0 5 rfl rfl)
theorem dX2_isOpen_6 : decode cX2_isOpen 6 = .ok (.invokevirtual 48, 3) := dk_182 0 48 (dk_at dksX2_isOpen_0 6 rfl rfl)
theorem dX2_isOpen_9 : decode cX2_isOpen 9 = .ok (.checkcast 62, 3) := dk_192 0 62 (dk_at dksX2_isOpen_0 9 rfl rfl)
theorem dX2_isOpen_12 : decode cX2_isOpen 12 = .ok (.invokevirtual 140, 3) := dk_182 0 140 (dk_at dksX2_isOpen_0 12 rfl rfl)
theorem dX2_isOpen_15 : decode cX2_isOpen 15 = .ok (.bipush 8, 2) := dk_16 8 (dk_at dksX2_isOpen_0 15 rfl rfl)
theorem dX2_isOpen_17 : decode cX2_isOpen 17 = .ok (.if_icmp .ne 7, 3) := dk_160 0 7 (dk_at dksX2_isOpen_0 17 rfl rfl)
theorem dX2_isOpen_20 : decode cX2_isOpen 20 = .ok (.iconst 1, 1) := dk_4 (dk_at dksX2_isOpen_0 20 rfl rfl)
theorem dX2_isOpen_21 : decode cX2_isOpen 21 = .ok (.goto 4, 3) := dk_167 0 4 (dk_at dksX2_isOpen_0 21 rfl rfl)
theorem dX2_isOpen_24 : decode cX2_isOpen 24 = .ok (.iconst 0, 1) := dk_3 (dk_at dksX2_isOpen_1 0 rfl rfl)
theorem dX2_isOpen_25 : decode cX2_isOpen 25 = .ok (.ireturn, 1) := dk_172 (dk_at dksX2_isOpen_1 1 rfl rfl)
abbrev cX2_reasonAt : ByteArray := prog_12_method_9_code
def yX2_reasonAt : MethodName := ⟨RX2, "reasonAt", "(LSpoilMeadows$Meadow;)I"⟩
def dkwX2_reasonAt_3 : List UInt8 := [167, 0, 5, 16, 8, 172]
abbrev dktX2_reasonAt_3 : List UInt8 := dkwX2_reasonAt_3 ++ []
def dkwX2_reasonAt_2 : List UInt8 := [163, 0, 7, 8, 167, 0, 23, 43, 180, 0, 122, 42, 180, 0, 23, 5, 46, 161, 0, 8, 16, 6]
abbrev dktX2_reasonAt_2 : List UInt8 := dkwX2_reasonAt_2 ++ dktX2_reasonAt_3
def dkwX2_reasonAt_1 : List UInt8 := [180, 0, 67, 182, 0, 96, 153, 0, 7, 7, 167, 0, 4, 6, 172, 43, 180, 0, 83, 43, 180, 0, 86]
abbrev dktX2_reasonAt_1 : List UInt8 := dkwX2_reasonAt_1 ++ dktX2_reasonAt_2
def dkwX2_reasonAt_0 : List UInt8 := [43, 42, 180, 0, 67, 182, 0, 96, 153, 0, 14, 43, 42, 180, 0, 67, 182, 0, 99, 153, 0, 20, 43, 42]
abbrev dktX2_reasonAt_0 : List UInt8 := dkwX2_reasonAt_0 ++ dktX2_reasonAt_1
theorem dksX2_reasonAt_0 : cX2_reasonAt.data.toList.drop 0 = dktX2_reasonAt_0 := by decide +kernel
theorem dksX2_reasonAt_1 : cX2_reasonAt.data.toList.drop 24 = dktX2_reasonAt_1 := dk_seg dksX2_reasonAt_0 24 rfl rfl
theorem dksX2_reasonAt_2 : cX2_reasonAt.data.toList.drop 47 = dktX2_reasonAt_2 := dk_seg dksX2_reasonAt_1 23 rfl rfl
theorem dksX2_reasonAt_3 : cX2_reasonAt.data.toList.drop 69 = dktX2_reasonAt_3 := dk_seg dksX2_reasonAt_2 22 rfl rfl
theorem dX2_reasonAt_0 : decode cX2_reasonAt 0 = .ok (.aload_n 1, 1) := dk_43 (dk_at dksX2_reasonAt_0 0 rfl rfl)
theorem dX2_reasonAt_1 : decode cX2_reasonAt 1 = .ok (.aload_n 0, 1) := dk_42 (dk_at dksX2_reasonAt_0 1 rfl rfl)
theorem dX2_reasonAt_2 : decode cX2_reasonAt 2 = .ok (.getfield 67, 3) := dk_180 0 67 (dk_at dksX2_reasonAt_0 2 rfl rfl)
theorem dX2_reasonAt_5 : decode cX2_reasonAt 5 = .ok (.invokevirtual 96, 3) := dk_182 0 96 (dk_at dksX2_reasonAt_0 5 rfl rfl)
theorem dX2_reasonAt_8 : decode cX2_reasonAt 8 = .ok (.ifCond .eq 14, 3) := dk_153 0 14 (dk_at dksX2_reasonAt_0 8 rfl rfl)
theorem dX2_reasonAt_11 : decode cX2_reasonAt 11 = .ok (.aload_n 1, 1) := dk_43 (dk_at dksX2_reasonAt_0 11 rfl rfl)
theorem dX2_reasonAt_12 : decode cX2_reasonAt 12 = .ok (.aload_n 0, 1) := dk_42 (dk_at dksX2_reasonAt_0 12 rfl rfl)
theorem dX2_reasonAt_13 : decode cX2_reasonAt 13 = .ok (.getfield 67, 3) := dk_180 0 67 (dk_at dksX2_reasonAt_0 13 rfl rfl)
theorem dX2_reasonAt_16 : decode cX2_reasonAt 16 = .ok (.invokevirtual 99, 3) := dk_182 0 99 (dk_at dksX2_reasonAt_0 16 rfl rfl)
theorem dX2_reasonAt_19 : decode cX2_reasonAt 19 = .ok (.ifCond .eq 20, 3) := dk_153 0 20 (dk_at dksX2_reasonAt_0 19 rfl rfl)
theorem dX2_reasonAt_22 : decode cX2_reasonAt 22 = .ok (.aload_n 1, 1) := dk_43 (dk_at dksX2_reasonAt_0 22 rfl rfl)
theorem dX2_reasonAt_23 : decode cX2_reasonAt 23 = .ok (.aload_n 0, 1) := dk_42 (dk_at dksX2_reasonAt_0 23 rfl rfl)
theorem dX2_reasonAt_24 : decode cX2_reasonAt 24 = .ok (.getfield 67, 3) := dk_180 0 67 (dk_at dksX2_reasonAt_1 0 rfl rfl)
theorem dX2_reasonAt_27 : decode cX2_reasonAt 27 = .ok (.invokevirtual 96, 3) := dk_182 0 96 (dk_at dksX2_reasonAt_1 3 rfl rfl)
theorem dX2_reasonAt_30 : decode cX2_reasonAt 30 = .ok (.ifCond .eq 7, 3) := dk_153 0 7 (dk_at dksX2_reasonAt_1 6 rfl rfl)
theorem dX2_reasonAt_33 : decode cX2_reasonAt 33 = .ok (.iconst 4, 1) := dk_7 (dk_at dksX2_reasonAt_1 9 rfl rfl)
theorem dX2_reasonAt_34 : decode cX2_reasonAt 34 = .ok (.goto 4, 3) := dk_167 0 4 (dk_at dksX2_reasonAt_1 10 rfl rfl)
theorem dX2_reasonAt_37 : decode cX2_reasonAt 37 = .ok (.iconst 3, 1) := dk_6 (dk_at dksX2_reasonAt_1 13 rfl rfl)
theorem dX2_reasonAt_38 : decode cX2_reasonAt 38 = .ok (.ireturn, 1) := dk_172 (dk_at dksX2_reasonAt_1 14 rfl rfl)
theorem dX2_reasonAt_39 : decode cX2_reasonAt 39 = .ok (.aload_n 1, 1) := dk_43 (dk_at dksX2_reasonAt_1 15 rfl rfl)
theorem dX2_reasonAt_40 : decode cX2_reasonAt 40 = .ok (.getfield 83, 3) := dk_180 0 83 (dk_at dksX2_reasonAt_1 16 rfl rfl)
theorem dX2_reasonAt_43 : decode cX2_reasonAt 43 = .ok (.aload_n 1, 1) := dk_43 (dk_at dksX2_reasonAt_1 19 rfl rfl)
theorem dX2_reasonAt_44 : decode cX2_reasonAt 44 = .ok (.getfield 86, 3) := dk_180 0 86 (dk_at dksX2_reasonAt_1 20 rfl rfl)
theorem dX2_reasonAt_47 : decode cX2_reasonAt 47 = .ok (.if_icmp .gt 7, 3) := dk_163 0 7 (dk_at dksX2_reasonAt_2 0 rfl rfl)
theorem dX2_reasonAt_50 : decode cX2_reasonAt 50 = .ok (.iconst 5, 1) := dk_8 (dk_at dksX2_reasonAt_2 3 rfl rfl)
theorem dX2_reasonAt_51 : decode cX2_reasonAt 51 = .ok (.goto 23, 3) := dk_167 0 23 (dk_at dksX2_reasonAt_2 4 rfl rfl)
theorem dX2_reasonAt_54 : decode cX2_reasonAt 54 = .ok (.aload_n 1, 1) := dk_43 (dk_at dksX2_reasonAt_2 7 rfl rfl)
theorem dX2_reasonAt_55 : decode cX2_reasonAt 55 = .ok (.getfield 122, 3) := dk_180 0 122 (dk_at dksX2_reasonAt_2 8 rfl rfl)
theorem dX2_reasonAt_58 : decode cX2_reasonAt 58 = .ok (.aload_n 0, 1) := dk_42 (dk_at dksX2_reasonAt_2 11 rfl rfl)
theorem dX2_reasonAt_59 : decode cX2_reasonAt 59 = .ok (.getfield 23, 3) := dk_180 0 23 (dk_at dksX2_reasonAt_2 12 rfl rfl)
theorem dX2_reasonAt_62 : decode cX2_reasonAt 62 = .ok (.iconst 2, 1) := dk_5 (dk_at dksX2_reasonAt_2 15 rfl rfl)
theorem dX2_reasonAt_63 : decode cX2_reasonAt 63 = .ok (.iaload, 1) := dk_46 (dk_at dksX2_reasonAt_2 16 rfl rfl)
theorem dX2_reasonAt_64 : decode cX2_reasonAt 64 = .ok (.if_icmp .lt 8, 3) := dk_161 0 8 (dk_at dksX2_reasonAt_2 17 rfl rfl)
theorem dX2_reasonAt_67 : decode cX2_reasonAt 67 = .ok (.bipush 6, 2) := dk_16 6 (dk_at dksX2_reasonAt_2 20 rfl rfl)
theorem dX2_reasonAt_69 : decode cX2_reasonAt 69 = .ok (.goto 5, 3) := dk_167 0 5 (dk_at dksX2_reasonAt_3 0 rfl rfl)
theorem dX2_reasonAt_72 : decode cX2_reasonAt 72 = .ok (.bipush 8, 2) := dk_16 8 (dk_at dksX2_reasonAt_3 3 rfl rfl)
theorem dX2_reasonAt_74 : decode cX2_reasonAt 74 = .ok (.ireturn, 1) := dk_172 (dk_at dksX2_reasonAt_3 5 rfl rfl)
abbrev cX2_raise : ByteArray := prog_12_method_14_code
def yX2_raise : MethodName := ⟨RX2, "raise", "()V"⟩
def dkwX2_raise_3 : List UInt8 := [180, 0, 71, 92, 46, 29, 96, 79, 132, 2, 1, 167, 255, 184, 177]
abbrev dktX2_raise_3 : List UInt8 := dkwX2_raise_3 ++ []
def dkwX2_raise_2 : List UInt8 := [27, 29, 100, 60, 42, 180, 0, 27, 42, 180, 0, 71, 92, 46, 29, 100, 79, 42, 180, 0, 30, 42]
abbrev dktX2_raise_2 : List UInt8 := dkwX2_raise_2 ++ dktX2_raise_3
def dkwX2_raise_1 : List UInt8 := [28, 182, 0, 48, 192, 0, 52, 27, 42, 180, 0, 27, 42, 180, 0, 71, 46, 184, 0, 167, 182, 0, 170, 62]
abbrev dktX2_raise_1 : List UInt8 := dkwX2_raise_1 ++ dktX2_raise_2
def dkwX2_raise_0 : List UInt8 := [42, 180, 0, 23, 3, 46, 60, 3, 61, 28, 42, 180, 0, 14, 182, 0, 44, 162, 0, 67, 42, 180, 0, 14]
abbrev dktX2_raise_0 : List UInt8 := dkwX2_raise_0 ++ dktX2_raise_1
theorem dksX2_raise_0 : cX2_raise.data.toList.drop 0 = dktX2_raise_0 := by decide +kernel
theorem dksX2_raise_1 : cX2_raise.data.toList.drop 24 = dktX2_raise_1 := dk_seg dksX2_raise_0 24 rfl rfl
theorem dksX2_raise_2 : cX2_raise.data.toList.drop 48 = dktX2_raise_2 := dk_seg dksX2_raise_1 24 rfl rfl
theorem dksX2_raise_3 : cX2_raise.data.toList.drop 70 = dktX2_raise_3 := dk_seg dksX2_raise_2 22 rfl rfl
theorem dX2_raise_0 : decode cX2_raise 0 = .ok (.aload_n 0, 1) := dk_42 (dk_at dksX2_raise_0 0 rfl rfl)
theorem dX2_raise_1 : decode cX2_raise 1 = .ok (.getfield 23, 3) := dk_180 0 23 (dk_at dksX2_raise_0 1 rfl rfl)
theorem dX2_raise_4 : decode cX2_raise 4 = .ok (.iconst 0, 1) := dk_3 (dk_at dksX2_raise_0 4 rfl rfl)
theorem dX2_raise_5 : decode cX2_raise 5 = .ok (.iaload, 1) := dk_46 (dk_at dksX2_raise_0 5 rfl rfl)
theorem dX2_raise_6 : decode cX2_raise 6 = .ok (.istore_n 1, 1) := dk_60 (dk_at dksX2_raise_0 6 rfl rfl)
theorem dX2_raise_7 : decode cX2_raise 7 = .ok (.iconst 0, 1) := dk_3 (dk_at dksX2_raise_0 7 rfl rfl)
theorem dX2_raise_8 : decode cX2_raise 8 = .ok (.istore_n 2, 1) := dk_61 (dk_at dksX2_raise_0 8 rfl rfl)
theorem dX2_raise_9 : decode cX2_raise 9 = .ok (.iload_n 2, 1) := dk_28 (dk_at dksX2_raise_0 9 rfl rfl)
theorem dX2_raise_10 : decode cX2_raise 10 = .ok (.aload_n 0, 1) := dk_42 (dk_at dksX2_raise_0 10 rfl rfl)
theorem dX2_raise_11 : decode cX2_raise 11 = .ok (.getfield 14, 3) := dk_180 0 14 (dk_at dksX2_raise_0 11 rfl rfl)
theorem dX2_raise_14 : decode cX2_raise 14 = .ok (.invokevirtual 44, 3) := dk_182 0 44 (dk_at dksX2_raise_0 14 rfl rfl)
theorem dX2_raise_17 : decode cX2_raise 17 = .ok (.if_icmp .ge 67, 3) := dk_162 0 67 (dk_at dksX2_raise_0 17 rfl rfl)
theorem dX2_raise_20 : decode cX2_raise 20 = .ok (.aload_n 0, 1) := dk_42 (dk_at dksX2_raise_0 20 rfl rfl)
theorem dX2_raise_21 : decode cX2_raise 21 = .ok (.getfield 14, 3) := dk_180 0 14 (dk_at dksX2_raise_0 21 rfl rfl)
theorem dX2_raise_24 : decode cX2_raise 24 = .ok (.iload_n 2, 1) := dk_28 (dk_at dksX2_raise_1 0 rfl rfl)
theorem dX2_raise_25 : decode cX2_raise 25 = .ok (.invokevirtual 48, 3) := dk_182 0 48 (dk_at dksX2_raise_1 1 rfl rfl)
theorem dX2_raise_28 : decode cX2_raise 28 = .ok (.checkcast 52, 3) := dk_192 0 52 (dk_at dksX2_raise_1 4 rfl rfl)
theorem dX2_raise_31 : decode cX2_raise 31 = .ok (.iload_n 1, 1) := dk_27 (dk_at dksX2_raise_1 7 rfl rfl)
theorem dX2_raise_32 : decode cX2_raise 32 = .ok (.aload_n 0, 1) := dk_42 (dk_at dksX2_raise_1 8 rfl rfl)
theorem dX2_raise_33 : decode cX2_raise 33 = .ok (.getfield 27, 3) := dk_180 0 27 (dk_at dksX2_raise_1 9 rfl rfl)
theorem dX2_raise_36 : decode cX2_raise 36 = .ok (.aload_n 0, 1) := dk_42 (dk_at dksX2_raise_1 12 rfl rfl)
theorem dX2_raise_37 : decode cX2_raise 37 = .ok (.getfield 71, 3) := dk_180 0 71 (dk_at dksX2_raise_1 13 rfl rfl)
theorem dX2_raise_40 : decode cX2_raise 40 = .ok (.iaload, 1) := dk_46 (dk_at dksX2_raise_1 16 rfl rfl)
theorem dX2_raise_41 : decode cX2_raise 41 = .ok (.invokestatic 167, 3) := dk_184 0 167 (dk_at dksX2_raise_1 17 rfl rfl)
theorem dX2_raise_44 : decode cX2_raise 44 = .ok (.invokevirtual 170, 3) := dk_182 0 170 (dk_at dksX2_raise_1 20 rfl rfl)
theorem dX2_raise_47 : decode cX2_raise 47 = .ok (.istore_n 3, 1) := dk_62 (dk_at dksX2_raise_1 23 rfl rfl)
theorem dX2_raise_48 : decode cX2_raise 48 = .ok (.iload_n 1, 1) := dk_27 (dk_at dksX2_raise_2 0 rfl rfl)
theorem dX2_raise_49 : decode cX2_raise 49 = .ok (.iload_n 3, 1) := dk_29 (dk_at dksX2_raise_2 1 rfl rfl)
theorem dX2_raise_50 : decode cX2_raise 50 = .ok (.isub, 1) := dk_100 (dk_at dksX2_raise_2 2 rfl rfl)
theorem dX2_raise_51 : decode cX2_raise 51 = .ok (.istore_n 1, 1) := dk_60 (dk_at dksX2_raise_2 3 rfl rfl)
theorem dX2_raise_52 : decode cX2_raise 52 = .ok (.aload_n 0, 1) := dk_42 (dk_at dksX2_raise_2 4 rfl rfl)
theorem dX2_raise_53 : decode cX2_raise 53 = .ok (.getfield 27, 3) := dk_180 0 27 (dk_at dksX2_raise_2 5 rfl rfl)
theorem dX2_raise_56 : decode cX2_raise 56 = .ok (.aload_n 0, 1) := dk_42 (dk_at dksX2_raise_2 8 rfl rfl)
theorem dX2_raise_57 : decode cX2_raise 57 = .ok (.getfield 71, 3) := dk_180 0 71 (dk_at dksX2_raise_2 9 rfl rfl)
theorem dX2_raise_60 : decode cX2_raise 60 = .ok (.dup2, 1) := dk_92 (dk_at dksX2_raise_2 12 rfl rfl)
theorem dX2_raise_61 : decode cX2_raise 61 = .ok (.iaload, 1) := dk_46 (dk_at dksX2_raise_2 13 rfl rfl)
theorem dX2_raise_62 : decode cX2_raise 62 = .ok (.iload_n 3, 1) := dk_29 (dk_at dksX2_raise_2 14 rfl rfl)
theorem dX2_raise_63 : decode cX2_raise 63 = .ok (.isub, 1) := dk_100 (dk_at dksX2_raise_2 15 rfl rfl)
theorem dX2_raise_64 : decode cX2_raise 64 = .ok (.iastore, 1) := dk_79 (dk_at dksX2_raise_2 16 rfl rfl)
theorem dX2_raise_65 : decode cX2_raise 65 = .ok (.aload_n 0, 1) := dk_42 (dk_at dksX2_raise_2 17 rfl rfl)
theorem dX2_raise_66 : decode cX2_raise 66 = .ok (.getfield 30, 3) := dk_180 0 30 (dk_at dksX2_raise_2 18 rfl rfl)
theorem dX2_raise_69 : decode cX2_raise 69 = .ok (.aload_n 0, 1) := dk_42 (dk_at dksX2_raise_2 21 rfl rfl)
theorem dX2_raise_70 : decode cX2_raise 70 = .ok (.getfield 71, 3) := dk_180 0 71 (dk_at dksX2_raise_3 0 rfl rfl)
theorem dX2_raise_73 : decode cX2_raise 73 = .ok (.dup2, 1) := dk_92 (dk_at dksX2_raise_3 3 rfl rfl)
theorem dX2_raise_74 : decode cX2_raise 74 = .ok (.iaload, 1) := dk_46 (dk_at dksX2_raise_3 4 rfl rfl)
theorem dX2_raise_75 : decode cX2_raise 75 = .ok (.iload_n 3, 1) := dk_29 (dk_at dksX2_raise_3 5 rfl rfl)
theorem dX2_raise_76 : decode cX2_raise 76 = .ok (.iadd, 1) := dk_96 (dk_at dksX2_raise_3 6 rfl rfl)
theorem dX2_raise_77 : decode cX2_raise 77 = .ok (.iastore, 1) := dk_79 (dk_at dksX2_raise_3 7 rfl rfl)
theorem dX2_raise_78 : decode cX2_raise 78 = .ok (.iinc 2 1, 3) := dk_132 2 1 (dk_at dksX2_raise_3 8 rfl rfl)
theorem dX2_raise_81 : decode cX2_raise 81 = .ok (.goto (-72), 3) := dk_167 255 184 (dk_at dksX2_raise_3 11 rfl rfl)
theorem dX2_raise_84 : decode cX2_raise 84 = .ok (.return_, 1) := dk_177 (dk_at dksX2_raise_3 14 rfl rfl)
abbrev cX2_send : ByteArray := prog_12_method_15_code
def yX2_send : MethodName := ⟨RX2, "send", "()V"⟩
def dkwX2_send_2 : List UInt8 := [44, 4, 29, 42, 29, 182, 0, 108, 182, 0, 163, 132, 1, 1, 167, 255, 196, 177]
abbrev dktX2_send_2 : List UInt8 := dkwX2_send_2 ++ []
def dkwX2_send_1 : List UInt8 := [77, 42, 44, 182, 0, 129, 153, 0, 11, 42, 44, 182, 0, 133, 167, 0, 4, 2, 62, 29, 2, 159, 0, 14]
abbrev dktX2_send_1 : List UInt8 := dkwX2_send_1 ++ dktX2_send_2
def dkwX2_send_0 : List UInt8 := [3, 60, 27, 42, 180, 0, 14, 182, 0, 44, 162, 0, 55, 42, 180, 0, 14, 27, 182, 0, 48, 192, 0, 52]
abbrev dktX2_send_0 : List UInt8 := dkwX2_send_0 ++ dktX2_send_1
theorem dksX2_send_0 : cX2_send.data.toList.drop 0 = dktX2_send_0 := by decide +kernel
theorem dksX2_send_1 : cX2_send.data.toList.drop 24 = dktX2_send_1 := dk_seg dksX2_send_0 24 rfl rfl
theorem dksX2_send_2 : cX2_send.data.toList.drop 48 = dktX2_send_2 := dk_seg dksX2_send_1 24 rfl rfl
theorem dX2_send_0 : decode cX2_send 0 = .ok (.iconst 0, 1) := dk_3 (dk_at dksX2_send_0 0 rfl rfl)
theorem dX2_send_1 : decode cX2_send 1 = .ok (.istore_n 1, 1) := dk_60 (dk_at dksX2_send_0 1 rfl rfl)
theorem dX2_send_2 : decode cX2_send 2 = .ok (.iload_n 1, 1) := dk_27 (dk_at dksX2_send_0 2 rfl rfl)
theorem dX2_send_3 : decode cX2_send 3 = .ok (.aload_n 0, 1) := dk_42 (dk_at dksX2_send_0 3 rfl rfl)
theorem dX2_send_4 : decode cX2_send 4 = .ok (.getfield 14, 3) := dk_180 0 14 (dk_at dksX2_send_0 4 rfl rfl)
theorem dX2_send_7 : decode cX2_send 7 = .ok (.invokevirtual 44, 3) := dk_182 0 44 (dk_at dksX2_send_0 7 rfl rfl)
theorem dX2_send_10 : decode cX2_send 10 = .ok (.if_icmp .ge 55, 3) := dk_162 0 55 (dk_at dksX2_send_0 10 rfl rfl)
theorem dX2_send_13 : decode cX2_send 13 = .ok (.aload_n 0, 1) := dk_42 (dk_at dksX2_send_0 13 rfl rfl)
theorem dX2_send_14 : decode cX2_send 14 = .ok (.getfield 14, 3) := dk_180 0 14 (dk_at dksX2_send_0 14 rfl rfl)
theorem dX2_send_17 : decode cX2_send 17 = .ok (.iload_n 1, 1) := dk_27 (dk_at dksX2_send_0 17 rfl rfl)
theorem dX2_send_18 : decode cX2_send 18 = .ok (.invokevirtual 48, 3) := dk_182 0 48 (dk_at dksX2_send_0 18 rfl rfl)
theorem dX2_send_21 : decode cX2_send 21 = .ok (.checkcast 52, 3) := dk_192 0 52 (dk_at dksX2_send_0 21 rfl rfl)
theorem dX2_send_24 : decode cX2_send 24 = .ok (.astore_n 2, 1) := dk_77 (dk_at dksX2_send_1 0 rfl rfl)
theorem dX2_send_25 : decode cX2_send 25 = .ok (.aload_n 0, 1) := dk_42 (dk_at dksX2_send_1 1 rfl rfl)
theorem dX2_send_26 : decode cX2_send 26 = .ok (.aload_n 2, 1) := dk_44 (dk_at dksX2_send_1 2 rfl rfl)
theorem dX2_send_27 : decode cX2_send 27 = .ok (.invokevirtual 129, 3) := dk_182 0 129 (dk_at dksX2_send_1 3 rfl rfl)
theorem dX2_send_30 : decode cX2_send 30 = .ok (.ifCond .eq 11, 3) := dk_153 0 11 (dk_at dksX2_send_1 6 rfl rfl)
theorem dX2_send_33 : decode cX2_send 33 = .ok (.aload_n 0, 1) := dk_42 (dk_at dksX2_send_1 9 rfl rfl)
theorem dX2_send_34 : decode cX2_send 34 = .ok (.aload_n 2, 1) := dk_44 (dk_at dksX2_send_1 10 rfl rfl)
theorem dX2_send_35 : decode cX2_send 35 = .ok (.invokevirtual 133, 3) := dk_182 0 133 (dk_at dksX2_send_1 11 rfl rfl)
theorem dX2_send_38 : decode cX2_send 38 = .ok (.goto 4, 3) := dk_167 0 4 (dk_at dksX2_send_1 14 rfl rfl)
theorem dX2_send_41 : decode cX2_send 41 = .ok (.iconst (-1), 1) := dk_2 (dk_at dksX2_send_1 17 rfl rfl)
theorem dX2_send_42 : decode cX2_send 42 = .ok (.istore_n 3, 1) := dk_62 (dk_at dksX2_send_1 18 rfl rfl)
theorem dX2_send_43 : decode cX2_send 43 = .ok (.iload_n 3, 1) := dk_29 (dk_at dksX2_send_1 19 rfl rfl)
theorem dX2_send_44 : decode cX2_send 44 = .ok (.iconst (-1), 1) := dk_2 (dk_at dksX2_send_1 20 rfl rfl)
theorem dX2_send_45 : decode cX2_send 45 = .ok (.if_icmp .eq 14, 3) := dk_159 0 14 (dk_at dksX2_send_1 21 rfl rfl)
theorem dX2_send_48 : decode cX2_send 48 = .ok (.aload_n 2, 1) := dk_44 (dk_at dksX2_send_2 0 rfl rfl)
theorem dX2_send_49 : decode cX2_send 49 = .ok (.iconst 1, 1) := dk_4 (dk_at dksX2_send_2 1 rfl rfl)
theorem dX2_send_50 : decode cX2_send 50 = .ok (.iload_n 3, 1) := dk_29 (dk_at dksX2_send_2 2 rfl rfl)
theorem dX2_send_51 : decode cX2_send 51 = .ok (.aload_n 0, 1) := dk_42 (dk_at dksX2_send_2 3 rfl rfl)
theorem dX2_send_52 : decode cX2_send 52 = .ok (.iload_n 3, 1) := dk_29 (dk_at dksX2_send_2 4 rfl rfl)
theorem dX2_send_53 : decode cX2_send 53 = .ok (.invokevirtual 108, 3) := dk_182 0 108 (dk_at dksX2_send_2 5 rfl rfl)
theorem dX2_send_56 : decode cX2_send 56 = .ok (.invokevirtual 163, 3) := dk_182 0 163 (dk_at dksX2_send_2 8 rfl rfl)
theorem dX2_send_59 : decode cX2_send 59 = .ok (.iinc 1 1, 3) := dk_132 1 1 (dk_at dksX2_send_2 11 rfl rfl)
theorem dX2_send_62 : decode cX2_send 62 = .ok (.goto (-60), 3) := dk_167 255 196 (dk_at dksX2_send_2 14 rfl rfl)
theorem dX2_send_65 : decode cX2_send 65 = .ok (.return_, 1) := dk_177 (dk_at dksX2_send_2 17 rfl rfl)
abbrev cX2_isReady : ByteArray := prog_12_method_8_code
def yX2_isReady : MethodName := ⟨RX2, "isReady", "(LSpoilMeadows$Barge;)Z"⟩
def dkwX2_isReady_1 : List UInt8 := [159, 0, 15, 42, 180, 0, 27, 42, 180, 0, 71, 46, 154, 0, 7, 4, 167, 0, 4, 3, 172]
abbrev dktX2_isReady_1 : List UInt8 := dkwX2_isReady_1 ++ []
def dkwX2_isReady_0 : List UInt8 := [43, 180, 0, 117, 154, 0, 37, 43, 180, 0, 93, 158, 0, 30, 43, 180, 0, 93, 43, 180, 0, 120]
abbrev dktX2_isReady_0 : List UInt8 := dkwX2_isReady_0 ++ dktX2_isReady_1
theorem dksX2_isReady_0 : cX2_isReady.data.toList.drop 0 = dktX2_isReady_0 := by decide +kernel
theorem dksX2_isReady_1 : cX2_isReady.data.toList.drop 22 = dktX2_isReady_1 := dk_seg dksX2_isReady_0 22 rfl rfl
theorem dX2_isReady_0 : decode cX2_isReady 0 = .ok (.aload_n 1, 1) := dk_43 (dk_at dksX2_isReady_0 0 rfl rfl)
theorem dX2_isReady_1 : decode cX2_isReady 1 = .ok (.getfield 117, 3) := dk_180 0 117 (dk_at dksX2_isReady_0 1 rfl rfl)
theorem dX2_isReady_4 : decode cX2_isReady 4 = .ok (.ifCond .ne 37, 3) := dk_154 0 37 (dk_at dksX2_isReady_0 4 rfl rfl)
theorem dX2_isReady_7 : decode cX2_isReady 7 = .ok (.aload_n 1, 1) := dk_43 (dk_at dksX2_isReady_0 7 rfl rfl)
theorem dX2_isReady_8 : decode cX2_isReady 8 = .ok (.getfield 93, 3) := dk_180 0 93 (dk_at dksX2_isReady_0 8 rfl rfl)
theorem dX2_isReady_11 : decode cX2_isReady 11 = .ok (.ifCond .le 30, 3) := dk_158 0 30 (dk_at dksX2_isReady_0 11 rfl rfl)
theorem dX2_isReady_14 : decode cX2_isReady 14 = .ok (.aload_n 1, 1) := dk_43 (dk_at dksX2_isReady_0 14 rfl rfl)
theorem dX2_isReady_15 : decode cX2_isReady 15 = .ok (.getfield 93, 3) := dk_180 0 93 (dk_at dksX2_isReady_0 15 rfl rfl)
theorem dX2_isReady_18 : decode cX2_isReady 18 = .ok (.aload_n 1, 1) := dk_43 (dk_at dksX2_isReady_0 18 rfl rfl)
theorem dX2_isReady_19 : decode cX2_isReady 19 = .ok (.getfield 120, 3) := dk_180 0 120 (dk_at dksX2_isReady_0 19 rfl rfl)
theorem dX2_isReady_22 : decode cX2_isReady 22 = .ok (.if_icmp .eq 15, 3) := dk_159 0 15 (dk_at dksX2_isReady_1 0 rfl rfl)
theorem dX2_isReady_25 : decode cX2_isReady 25 = .ok (.aload_n 0, 1) := dk_42 (dk_at dksX2_isReady_1 3 rfl rfl)
theorem dX2_isReady_26 : decode cX2_isReady 26 = .ok (.getfield 27, 3) := dk_180 0 27 (dk_at dksX2_isReady_1 4 rfl rfl)
theorem dX2_isReady_29 : decode cX2_isReady 29 = .ok (.aload_n 0, 1) := dk_42 (dk_at dksX2_isReady_1 7 rfl rfl)
theorem dX2_isReady_30 : decode cX2_isReady 30 = .ok (.getfield 71, 3) := dk_180 0 71 (dk_at dksX2_isReady_1 8 rfl rfl)
theorem dX2_isReady_33 : decode cX2_isReady 33 = .ok (.iaload, 1) := dk_46 (dk_at dksX2_isReady_1 11 rfl rfl)
theorem dX2_isReady_34 : decode cX2_isReady 34 = .ok (.ifCond .ne 7, 3) := dk_154 0 7 (dk_at dksX2_isReady_1 12 rfl rfl)
theorem dX2_isReady_37 : decode cX2_isReady 37 = .ok (.iconst 1, 1) := dk_4 (dk_at dksX2_isReady_1 15 rfl rfl)
theorem dX2_isReady_38 : decode cX2_isReady 38 = .ok (.goto 4, 3) := dk_167 0 4 (dk_at dksX2_isReady_1 16 rfl rfl)
theorem dX2_isReady_41 : decode cX2_isReady 41 = .ok (.iconst 0, 1) := dk_3 (dk_at dksX2_isReady_1 19 rfl rfl)
theorem dX2_isReady_42 : decode cX2_isReady 42 = .ok (.ireturn, 1) := dk_172 (dk_at dksX2_isReady_1 20 rfl rfl)
abbrev cX2_goalOf : ByteArray := prog_12_method_7_code
def yX2_goalOf : MethodName := ⟨RX2, "goalOf", "(LSpoilMeadows$Barge;)I"⟩
def dkwX2_goalOf_0 : List UInt8 := [43, 180, 0, 111, 2, 159, 0, 10, 43, 180, 0, 111, 167, 0, 7, 42, 182, 0, 114, 172]
abbrev dktX2_goalOf_0 : List UInt8 := dkwX2_goalOf_0 ++ []
theorem dksX2_goalOf_0 : cX2_goalOf.data.toList.drop 0 = dktX2_goalOf_0 := by decide +kernel
theorem dX2_goalOf_0 : decode cX2_goalOf 0 = .ok (.aload_n 1, 1) := dk_43 (dk_at dksX2_goalOf_0 0 rfl rfl)
theorem dX2_goalOf_1 : decode cX2_goalOf 1 = .ok (.getfield 111, 3) := dk_180 0 111 (dk_at dksX2_goalOf_0 1 rfl rfl)
theorem dX2_goalOf_4 : decode cX2_goalOf 4 = .ok (.iconst (-1), 1) := dk_2 (dk_at dksX2_goalOf_0 4 rfl rfl)
theorem dX2_goalOf_5 : decode cX2_goalOf 5 = .ok (.if_icmp .eq 10, 3) := dk_159 0 10 (dk_at dksX2_goalOf_0 5 rfl rfl)
theorem dX2_goalOf_8 : decode cX2_goalOf 8 = .ok (.aload_n 1, 1) := dk_43 (dk_at dksX2_goalOf_0 8 rfl rfl)
theorem dX2_goalOf_9 : decode cX2_goalOf 9 = .ok (.getfield 111, 3) := dk_180 0 111 (dk_at dksX2_goalOf_0 9 rfl rfl)
theorem dX2_goalOf_12 : decode cX2_goalOf 12 = .ok (.goto 7, 3) := dk_167 0 7 (dk_at dksX2_goalOf_0 12 rfl rfl)
theorem dX2_goalOf_15 : decode cX2_goalOf 15 = .ok (.aload_n 0, 1) := dk_42 (dk_at dksX2_goalOf_0 15 rfl rfl)
theorem dX2_goalOf_16 : decode cX2_goalOf 16 = .ok (.invokevirtual 114, 3) := dk_182 0 114 (dk_at dksX2_goalOf_0 16 rfl rfl)
theorem dX2_goalOf_19 : decode cX2_goalOf 19 = .ok (.ireturn, 1) := dk_172 (dk_at dksX2_goalOf_0 19 rfl rfl)
abbrev cX2_siltUp : ByteArray := prog_12_method_16_code
def yX2_siltUp : MethodName := ⟨RX2, "siltUp", "()V"⟩
def dkwX2_siltUp_2 : List UInt8 := [17, 3, 231, 28, 184, 0, 167, 79, 132, 1, 1, 167, 255, 202, 177]
abbrev dktX2_siltUp_2 : List UInt8 := dkwX2_siltUp_2 ++ []
def dkwX2_siltUp_1 : List UInt8 := [180, 0, 33, 27, 92, 46, 3, 28, 17, 3, 231, 100, 184, 0, 147, 96, 79, 42, 180, 0, 27, 27]
abbrev dktX2_siltUp_1 : List UInt8 := dkwX2_siltUp_1 ++ dktX2_siltUp_2
def dkwX2_siltUp_0 : List UInt8 := [3, 60, 27, 16, 6, 162, 0, 54, 42, 180, 0, 27, 27, 46, 42, 180, 0, 23, 4, 46, 96, 61, 42]
abbrev dktX2_siltUp_0 : List UInt8 := dkwX2_siltUp_0 ++ dktX2_siltUp_1
theorem dksX2_siltUp_0 : cX2_siltUp.data.toList.drop 0 = dktX2_siltUp_0 := by decide +kernel
theorem dksX2_siltUp_1 : cX2_siltUp.data.toList.drop 23 = dktX2_siltUp_1 := dk_seg dksX2_siltUp_0 23 rfl rfl
theorem dksX2_siltUp_2 : cX2_siltUp.data.toList.drop 45 = dktX2_siltUp_2 := dk_seg dksX2_siltUp_1 22 rfl rfl
theorem dX2_siltUp_0 : decode cX2_siltUp 0 = .ok (.iconst 0, 1) := dk_3 (dk_at dksX2_siltUp_0 0 rfl rfl)
theorem dX2_siltUp_1 : decode cX2_siltUp 1 = .ok (.istore_n 1, 1) := dk_60 (dk_at dksX2_siltUp_0 1 rfl rfl)
theorem dX2_siltUp_2 : decode cX2_siltUp 2 = .ok (.iload_n 1, 1) := dk_27 (dk_at dksX2_siltUp_0 2 rfl rfl)
theorem dX2_siltUp_3 : decode cX2_siltUp 3 = .ok (.bipush 6, 2) := dk_16 6 (dk_at dksX2_siltUp_0 3 rfl rfl)
theorem dX2_siltUp_5 : decode cX2_siltUp 5 = .ok (.if_icmp .ge 54, 3) := dk_162 0 54 (dk_at dksX2_siltUp_0 5 rfl rfl)
theorem dX2_siltUp_8 : decode cX2_siltUp 8 = .ok (.aload_n 0, 1) := dk_42 (dk_at dksX2_siltUp_0 8 rfl rfl)
theorem dX2_siltUp_9 : decode cX2_siltUp 9 = .ok (.getfield 27, 3) := dk_180 0 27 (dk_at dksX2_siltUp_0 9 rfl rfl)
theorem dX2_siltUp_12 : decode cX2_siltUp 12 = .ok (.iload_n 1, 1) := dk_27 (dk_at dksX2_siltUp_0 12 rfl rfl)
theorem dX2_siltUp_13 : decode cX2_siltUp 13 = .ok (.iaload, 1) := dk_46 (dk_at dksX2_siltUp_0 13 rfl rfl)
theorem dX2_siltUp_14 : decode cX2_siltUp 14 = .ok (.aload_n 0, 1) := dk_42 (dk_at dksX2_siltUp_0 14 rfl rfl)
theorem dX2_siltUp_15 : decode cX2_siltUp 15 = .ok (.getfield 23, 3) := dk_180 0 23 (dk_at dksX2_siltUp_0 15 rfl rfl)
theorem dX2_siltUp_18 : decode cX2_siltUp 18 = .ok (.iconst 1, 1) := dk_4 (dk_at dksX2_siltUp_0 18 rfl rfl)
theorem dX2_siltUp_19 : decode cX2_siltUp 19 = .ok (.iaload, 1) := dk_46 (dk_at dksX2_siltUp_0 19 rfl rfl)
theorem dX2_siltUp_20 : decode cX2_siltUp 20 = .ok (.iadd, 1) := dk_96 (dk_at dksX2_siltUp_0 20 rfl rfl)
theorem dX2_siltUp_21 : decode cX2_siltUp 21 = .ok (.istore_n 2, 1) := dk_61 (dk_at dksX2_siltUp_0 21 rfl rfl)
theorem dX2_siltUp_22 : decode cX2_siltUp 22 = .ok (.aload_n 0, 1) := dk_42 (dk_at dksX2_siltUp_0 22 rfl rfl)
theorem dX2_siltUp_23 : decode cX2_siltUp 23 = .ok (.getfield 33, 3) := dk_180 0 33 (dk_at dksX2_siltUp_1 0 rfl rfl)
theorem dX2_siltUp_26 : decode cX2_siltUp 26 = .ok (.iload_n 1, 1) := dk_27 (dk_at dksX2_siltUp_1 3 rfl rfl)
theorem dX2_siltUp_27 : decode cX2_siltUp 27 = .ok (.dup2, 1) := dk_92 (dk_at dksX2_siltUp_1 4 rfl rfl)
theorem dX2_siltUp_28 : decode cX2_siltUp 28 = .ok (.iaload, 1) := dk_46 (dk_at dksX2_siltUp_1 5 rfl rfl)
theorem dX2_siltUp_29 : decode cX2_siltUp 29 = .ok (.iconst 0, 1) := dk_3 (dk_at dksX2_siltUp_1 6 rfl rfl)
theorem dX2_siltUp_30 : decode cX2_siltUp 30 = .ok (.iload_n 2, 1) := dk_28 (dk_at dksX2_siltUp_1 7 rfl rfl)
theorem dX2_siltUp_31 : decode cX2_siltUp 31 = .ok (.sipush 999, 3) := dk_17 3 231 (dk_at dksX2_siltUp_1 8 rfl rfl)
theorem dX2_siltUp_34 : decode cX2_siltUp 34 = .ok (.isub, 1) := dk_100 (dk_at dksX2_siltUp_1 11 rfl rfl)
theorem dX2_siltUp_35 : decode cX2_siltUp 35 = .ok (.invokestatic 147, 3) := dk_184 0 147 (dk_at dksX2_siltUp_1 12 rfl rfl)
theorem dX2_siltUp_38 : decode cX2_siltUp 38 = .ok (.iadd, 1) := dk_96 (dk_at dksX2_siltUp_1 15 rfl rfl)
theorem dX2_siltUp_39 : decode cX2_siltUp 39 = .ok (.iastore, 1) := dk_79 (dk_at dksX2_siltUp_1 16 rfl rfl)
theorem dX2_siltUp_40 : decode cX2_siltUp 40 = .ok (.aload_n 0, 1) := dk_42 (dk_at dksX2_siltUp_1 17 rfl rfl)
theorem dX2_siltUp_41 : decode cX2_siltUp 41 = .ok (.getfield 27, 3) := dk_180 0 27 (dk_at dksX2_siltUp_1 18 rfl rfl)
theorem dX2_siltUp_44 : decode cX2_siltUp 44 = .ok (.iload_n 1, 1) := dk_27 (dk_at dksX2_siltUp_1 21 rfl rfl)
theorem dX2_siltUp_45 : decode cX2_siltUp 45 = .ok (.sipush 999, 3) := dk_17 3 231 (dk_at dksX2_siltUp_2 0 rfl rfl)
theorem dX2_siltUp_48 : decode cX2_siltUp 48 = .ok (.iload_n 2, 1) := dk_28 (dk_at dksX2_siltUp_2 3 rfl rfl)
theorem dX2_siltUp_49 : decode cX2_siltUp 49 = .ok (.invokestatic 167, 3) := dk_184 0 167 (dk_at dksX2_siltUp_2 4 rfl rfl)
theorem dX2_siltUp_52 : decode cX2_siltUp 52 = .ok (.iastore, 1) := dk_79 (dk_at dksX2_siltUp_2 7 rfl rfl)
theorem dX2_siltUp_53 : decode cX2_siltUp 53 = .ok (.iinc 1 1, 3) := dk_132 1 1 (dk_at dksX2_siltUp_2 8 rfl rfl)
theorem dX2_siltUp_56 : decode cX2_siltUp 56 = .ok (.goto (-54), 3) := dk_167 255 202 (dk_at dksX2_siltUp_2 11 rfl rfl)
theorem dX2_siltUp_59 : decode cX2_siltUp 59 = .ok (.return_, 1) := dk_177 (dk_at dksX2_siltUp_2 14 rfl rfl)
abbrev cX2_reason : ByteArray := prog_12_method_10_code
def yX2_reason : MethodName := ⟨RX2, "reason", "(LSpoilMeadows$Barge;)I"⟩
def dkwX2_reason_2 : List UInt8 := [180, 0, 20, 43, 180, 0, 137, 182, 0, 48, 192, 0, 62, 182, 0, 140, 172]
abbrev dktX2_reason_2 : List UInt8 := dkwX2_reason_2 ++ []
def dkwX2_reason_1 : List UInt8 := [4, 167, 0, 18, 42, 43, 182, 0, 133, 2, 160, 0, 7, 5, 167, 0, 5, 16, 7, 172, 42, 42]
abbrev dktX2_reason_1 : List UInt8 := dkwX2_reason_1 ++ dktX2_reason_2
def dkwX2_reason_0 : List UInt8 := [43, 182, 0, 125, 153, 0, 5, 3, 172, 43, 180, 0, 117, 154, 0, 31, 42, 43, 182, 0, 129, 154, 0, 7]
abbrev dktX2_reason_0 : List UInt8 := dkwX2_reason_0 ++ dktX2_reason_1
theorem dksX2_reason_0 : cX2_reason.data.toList.drop 0 = dktX2_reason_0 := by decide +kernel
theorem dksX2_reason_1 : cX2_reason.data.toList.drop 24 = dktX2_reason_1 := dk_seg dksX2_reason_0 24 rfl rfl
theorem dksX2_reason_2 : cX2_reason.data.toList.drop 46 = dktX2_reason_2 := dk_seg dksX2_reason_1 22 rfl rfl
theorem dX2_reason_0 : decode cX2_reason 0 = .ok (.aload_n 1, 1) := dk_43 (dk_at dksX2_reason_0 0 rfl rfl)
theorem dX2_reason_1 : decode cX2_reason 1 = .ok (.invokevirtual 125, 3) := dk_182 0 125 (dk_at dksX2_reason_0 1 rfl rfl)
theorem dX2_reason_4 : decode cX2_reason 4 = .ok (.ifCond .eq 5, 3) := dk_153 0 5 (dk_at dksX2_reason_0 4 rfl rfl)
theorem dX2_reason_7 : decode cX2_reason 7 = .ok (.iconst 0, 1) := dk_3 (dk_at dksX2_reason_0 7 rfl rfl)
theorem dX2_reason_8 : decode cX2_reason 8 = .ok (.ireturn, 1) := dk_172 (dk_at dksX2_reason_0 8 rfl rfl)
theorem dX2_reason_9 : decode cX2_reason 9 = .ok (.aload_n 1, 1) := dk_43 (dk_at dksX2_reason_0 9 rfl rfl)
theorem dX2_reason_10 : decode cX2_reason 10 = .ok (.getfield 117, 3) := dk_180 0 117 (dk_at dksX2_reason_0 10 rfl rfl)
theorem dX2_reason_13 : decode cX2_reason 13 = .ok (.ifCond .ne 31, 3) := dk_154 0 31 (dk_at dksX2_reason_0 13 rfl rfl)
theorem dX2_reason_16 : decode cX2_reason 16 = .ok (.aload_n 0, 1) := dk_42 (dk_at dksX2_reason_0 16 rfl rfl)
theorem dX2_reason_17 : decode cX2_reason 17 = .ok (.aload_n 1, 1) := dk_43 (dk_at dksX2_reason_0 17 rfl rfl)
theorem dX2_reason_18 : decode cX2_reason 18 = .ok (.invokevirtual 129, 3) := dk_182 0 129 (dk_at dksX2_reason_0 18 rfl rfl)
theorem dX2_reason_21 : decode cX2_reason 21 = .ok (.ifCond .ne 7, 3) := dk_154 0 7 (dk_at dksX2_reason_0 21 rfl rfl)
theorem dX2_reason_24 : decode cX2_reason 24 = .ok (.iconst 1, 1) := dk_4 (dk_at dksX2_reason_1 0 rfl rfl)
theorem dX2_reason_25 : decode cX2_reason 25 = .ok (.goto 18, 3) := dk_167 0 18 (dk_at dksX2_reason_1 1 rfl rfl)
theorem dX2_reason_28 : decode cX2_reason 28 = .ok (.aload_n 0, 1) := dk_42 (dk_at dksX2_reason_1 4 rfl rfl)
theorem dX2_reason_29 : decode cX2_reason 29 = .ok (.aload_n 1, 1) := dk_43 (dk_at dksX2_reason_1 5 rfl rfl)
theorem dX2_reason_30 : decode cX2_reason 30 = .ok (.invokevirtual 133, 3) := dk_182 0 133 (dk_at dksX2_reason_1 6 rfl rfl)
theorem dX2_reason_33 : decode cX2_reason 33 = .ok (.iconst (-1), 1) := dk_2 (dk_at dksX2_reason_1 9 rfl rfl)
theorem dX2_reason_34 : decode cX2_reason 34 = .ok (.if_icmp .ne 7, 3) := dk_160 0 7 (dk_at dksX2_reason_1 10 rfl rfl)
theorem dX2_reason_37 : decode cX2_reason 37 = .ok (.iconst 2, 1) := dk_5 (dk_at dksX2_reason_1 13 rfl rfl)
theorem dX2_reason_38 : decode cX2_reason 38 = .ok (.goto 5, 3) := dk_167 0 5 (dk_at dksX2_reason_1 14 rfl rfl)
theorem dX2_reason_41 : decode cX2_reason 41 = .ok (.bipush 7, 2) := dk_16 7 (dk_at dksX2_reason_1 17 rfl rfl)
theorem dX2_reason_43 : decode cX2_reason 43 = .ok (.ireturn, 1) := dk_172 (dk_at dksX2_reason_1 19 rfl rfl)
theorem dX2_reason_44 : decode cX2_reason 44 = .ok (.aload_n 0, 1) := dk_42 (dk_at dksX2_reason_1 20 rfl rfl)
theorem dX2_reason_45 : decode cX2_reason 45 = .ok (.aload_n 0, 1) := dk_42 (dk_at dksX2_reason_1 21 rfl rfl)
theorem dX2_reason_46 : decode cX2_reason 46 = .ok (.getfield 20, 3) := dk_180 0 20 (dk_at dksX2_reason_2 0 rfl rfl)
theorem dX2_reason_49 : decode cX2_reason 49 = .ok (.aload_n 1, 1) := dk_43 (dk_at dksX2_reason_2 3 rfl rfl)
theorem dX2_reason_50 : decode cX2_reason 50 = .ok (.getfield 137, 3) := dk_180 0 137 (dk_at dksX2_reason_2 4 rfl rfl)
theorem dX2_reason_53 : decode cX2_reason 53 = .ok (.invokevirtual 48, 3) := dk_182 0 48 (dk_at dksX2_reason_2 7 rfl rfl)
theorem dX2_reason_56 : decode cX2_reason 56 = .ok (.checkcast 62, 3) := dk_192 0 62 (dk_at dksX2_reason_2 10 rfl rfl)
theorem dX2_reason_59 : decode cX2_reason 59 = .ok (.invokevirtual 140, 3) := dk_182 0 140 (dk_at dksX2_reason_2 13 rfl rfl)
theorem dX2_reason_62 : decode cX2_reason 62 = .ok (.ireturn, 1) := dk_172 (dk_at dksX2_reason_2 16 rfl rfl)
abbrev cX2_behind : ByteArray := prog_12_method_19_code
def yX2_behind : MethodName := ⟨RX2, "behind", "(I)LSpoilMeadows$State;"⟩
def dkwX2_behind_0 : List UInt8 := [3, 61, 28, 27, 162, 0, 14, 42, 182, 0, 195, 62, 132, 2, 1, 167, 255, 243, 42, 176]
abbrev dktX2_behind_0 : List UInt8 := dkwX2_behind_0 ++ []
theorem dksX2_behind_0 : cX2_behind.data.toList.drop 0 = dktX2_behind_0 := by decide +kernel
theorem dX2_behind_0 : decode cX2_behind 0 = .ok (.iconst 0, 1) := dk_3 (dk_at dksX2_behind_0 0 rfl rfl)
theorem dX2_behind_1 : decode cX2_behind 1 = .ok (.istore_n 2, 1) := dk_61 (dk_at dksX2_behind_0 1 rfl rfl)
theorem dX2_behind_2 : decode cX2_behind 2 = .ok (.iload_n 2, 1) := dk_28 (dk_at dksX2_behind_0 2 rfl rfl)
theorem dX2_behind_3 : decode cX2_behind 3 = .ok (.iload_n 1, 1) := dk_27 (dk_at dksX2_behind_0 3 rfl rfl)
theorem dX2_behind_4 : decode cX2_behind 4 = .ok (.if_icmp .ge 14, 3) := dk_162 0 14 (dk_at dksX2_behind_0 4 rfl rfl)
theorem dX2_behind_7 : decode cX2_behind 7 = .ok (.aload_n 0, 1) := dk_42 (dk_at dksX2_behind_0 7 rfl rfl)
theorem dX2_behind_8 : decode cX2_behind 8 = .ok (.invokevirtual 195, 3) := dk_182 0 195 (dk_at dksX2_behind_0 8 rfl rfl)
theorem dX2_behind_11 : decode cX2_behind 11 = .ok (.istore_n 3, 1) := dk_62 (dk_at dksX2_behind_0 11 rfl rfl)
theorem dX2_behind_12 : decode cX2_behind 12 = .ok (.iinc 2 1, 3) := dk_132 2 1 (dk_at dksX2_behind_0 12 rfl rfl)
theorem dX2_behind_15 : decode cX2_behind 15 = .ok (.goto (-13), 3) := dk_167 255 243 (dk_at dksX2_behind_0 15 rfl rfl)
theorem dX2_behind_18 : decode cX2_behind 18 = .ok (.aload_n 0, 1) := dk_42 (dk_at dksX2_behind_0 18 rfl rfl)
theorem dX2_behind_19 : decode cX2_behind 19 = .ok (.areturn, 1) := dk_176 (dk_at dksX2_behind_0 19 rfl rfl)
theorem q75 : (Jvm.Cond.initialized "SpoilMeadows$State") ∈ lw_all := lw_g (lw_at lw_m1 2 rfl) rfl
theorem q124 : (Jvm.Cond.instantiable "SpoilMeadows$State" (9 : Nat)) ∈ lw_all := lw_g (lw_at lw_m1 51 rfl) rfl
theorem q126 : (Jvm.Cond.instanceMethod ({ cls := "SpoilMeadows$State", name := "<init>", desc := "([I[I[I[I)V" } : Jvm.MethodName)) ∈ lw_all := lw_g (lw_at lw_m1 53 rfl) rfl
theorem q127 : (Jvm.Cond.code ({ cls := "SpoilMeadows$State", name := "<init>", desc := "([I[I[I[I)V" } : Jvm.MethodName) prog_12_method_1_code (5 : Nat) (Option.none : Option Jvm.ClassFile.FieldType)) ∈ lw_all := lw_g (lw_at lw_m1 54 rfl) rfl
theorem q128 : (Jvm.Cond.methodLink "SpoilMeadows$State" (3 : Nat) ({ cls := "java/lang/Object", name := "<init>", desc := "()V" } : Jvm.MethodName)) ∈ lw_all := lw_g (lw_at lw_m1 55 rfl) rfl
theorem q129 : (Jvm.Cond.classLink "SpoilMeadows$State" (9 : Nat) "java/util/ArrayList") ∈ lw_all := lw_g (lw_at lw_m1 56 rfl) rfl
theorem q131 : (Jvm.Cond.methodLink "SpoilMeadows$State" (11 : Nat) ({ cls := "java/util/ArrayList", name := "<init>", desc := "(I)V" } : Jvm.MethodName)) ∈ lw_all := lw_g (lw_at lw_m1 58 rfl) rfl
theorem q473 : (Jvm.Cond.fieldLink "SpoilMeadows$State" (14 : Nat) "SpoilMeadows$State" "barges" "Ljava/util/ArrayList;") ∈ lw_all := lw_g (lw_at lw_m2 160 rfl) rfl
theorem q476 : (Jvm.Cond.fieldLink "SpoilMeadows$State" (20 : Nat) "SpoilMeadows$State" "meadows" "Ljava/util/ArrayList;") ∈ lw_all := lw_g (lw_at lw_m2 163 rfl) rfl
theorem q478 : (Jvm.Cond.fieldLink "SpoilMeadows$State" (23 : Nat) "SpoilMeadows$State" "settings" "[I") ∈ lw_all := lw_g (lw_at lw_m2 165 rfl) rfl
theorem q480 : (Jvm.Cond.fieldLink "SpoilMeadows$State" (27 : Nat) "SpoilMeadows$State" "silt" "[I") ∈ lw_all := lw_g (lw_at lw_m2 167 rfl) rfl
theorem q482 : (Jvm.Cond.fieldLink "SpoilMeadows$State" (30 : Nat) "SpoilMeadows$State" "raised" "[I") ∈ lw_all := lw_g (lw_at lw_m2 169 rfl) rfl
theorem q484 : (Jvm.Cond.fieldLink "SpoilMeadows$State" (33 : Nat) "SpoilMeadows$State" "lost" "[I") ∈ lw_all := lw_g (lw_at lw_m2 171 rfl) rfl
theorem q486 : (Jvm.Cond.fieldLink "SpoilMeadows$State" (67 : Nat) "SpoilMeadows$State" "day" "I") ∈ lw_all := lw_g (lw_at lw_m2 173 rfl) rfl
theorem q488 : (Jvm.Cond.fieldLink "SpoilMeadows$State" (71 : Nat) "SpoilMeadows$State" "reach" "I") ∈ lw_all := lw_g (lw_at lw_m2 175 rfl) rfl
theorem q490 : (Jvm.Cond.fieldLink "SpoilMeadows$State" (74 : Nat) "SpoilMeadows$State" "waits" "I") ∈ lw_all := lw_g (lw_at lw_m2 177 rfl) rfl
theorem q492 : (Jvm.Cond.laysFinal "SpoilMeadows$State" "SpoilMeadows$State" "barges" "Ljava/util/ArrayList;") ∈ lw_all := lw_g (lw_at lw_m2 179 rfl) rfl
theorem q493 : (Jvm.Cond.soleField "SpoilMeadows$State" "barges") ∈ lw_all := lw_g (lw_at lw_m2 180 rfl) rfl
theorem q494 : (Jvm.Cond.laysFinal "SpoilMeadows$State" "SpoilMeadows$State" "meadows" "Ljava/util/ArrayList;") ∈ lw_all := lw_g (lw_at lw_m2 181 rfl) rfl
theorem q495 : (Jvm.Cond.soleField "SpoilMeadows$State" "meadows") ∈ lw_all := lw_g (lw_at lw_m2 182 rfl) rfl
theorem q496 : (Jvm.Cond.laysFinal "SpoilMeadows$State" "SpoilMeadows$State" "settings" "[I") ∈ lw_all := lw_g (lw_at lw_m2 183 rfl) rfl
theorem q497 : (Jvm.Cond.soleField "SpoilMeadows$State" "settings") ∈ lw_all := lw_g (lw_at lw_m2 184 rfl) rfl
theorem q498 : (Jvm.Cond.laysFinal "SpoilMeadows$State" "SpoilMeadows$State" "silt" "[I") ∈ lw_all := lw_g (lw_at lw_m2 185 rfl) rfl
theorem q499 : (Jvm.Cond.soleField "SpoilMeadows$State" "silt") ∈ lw_all := lw_g (lw_at lw_m2 186 rfl) rfl
theorem q500 : (Jvm.Cond.laysFinal "SpoilMeadows$State" "SpoilMeadows$State" "raised" "[I") ∈ lw_all := lw_g (lw_at lw_m2 187 rfl) rfl
theorem q501 : (Jvm.Cond.soleField "SpoilMeadows$State" "raised") ∈ lw_all := lw_g (lw_at lw_m2 188 rfl) rfl
theorem q502 : (Jvm.Cond.laysFinal "SpoilMeadows$State" "SpoilMeadows$State" "lost" "[I") ∈ lw_all := lw_g (lw_at lw_m2 189 rfl) rfl
theorem q503 : (Jvm.Cond.soleField "SpoilMeadows$State" "lost") ∈ lw_all := lw_g (lw_at lw_m2 190 rfl) rfl
theorem q504 : (Jvm.Cond.lays "SpoilMeadows$State" "SpoilMeadows$State" "day" "I") ∈ lw_all := lw_g (lw_at lw_m2 191 rfl) rfl
theorem q505 : (Jvm.Cond.soleField "SpoilMeadows$State" "day") ∈ lw_all := lw_g (lw_at lw_m2 192 rfl) rfl
theorem q506 : (Jvm.Cond.lays "SpoilMeadows$State" "SpoilMeadows$State" "reach" "I") ∈ lw_all := lw_g (lw_at lw_m2 193 rfl) rfl
theorem q507 : (Jvm.Cond.soleField "SpoilMeadows$State" "reach") ∈ lw_all := lw_g (lw_at lw_m2 194 rfl) rfl
theorem q508 : (Jvm.Cond.lays "SpoilMeadows$State" "SpoilMeadows$State" "waits" "I") ∈ lw_all := lw_g (lw_at lw_m2 195 rfl) rfl
theorem q509 : (Jvm.Cond.soleField "SpoilMeadows$State" "waits") ∈ lw_all := lw_g (lw_at lw_m2 196 rfl) rfl
theorem q510 : (Jvm.Cond.superclass "SpoilMeadows$State" "java/lang/Object") ∈ lw_all := lw_g (lw_at lw_m2 197 rfl) rfl
theorem q521 : (Jvm.Cond.fieldLinkNest "SpoilMeadows$State" (83 : Nat) "SpoilMeadows$Meadow" "bound" "I" "SpoilMeadows") ∈ lw_tbl := lw_at lw_m2 208 rfl
theorem q524 : (Jvm.Cond.fieldLinkNest "SpoilMeadows$State" (86 : Nat) "SpoilMeadows$Meadow" "spoil" "I" "SpoilMeadows") ∈ lw_tbl := lw_at lw_m2 211 rfl
theorem q527 : (Jvm.Cond.fieldLinkNest "SpoilMeadows$State" (122 : Nat) "SpoilMeadows$Meadow" "wet" "I" "SpoilMeadows") ∈ lw_tbl := lw_at lw_m2 214 rfl
theorem q538 : (Jvm.Cond.fieldLinkNest "SpoilMeadows$State" (154 : Nat) "SpoilMeadows$Meadow" "laidOn" "I" "SpoilMeadows") ∈ lw_tbl := lw_at lw_m2 225 rfl
theorem q589 : (Jvm.Cond.selects "SpoilMeadows$State" ({ cls := "java/lang/Object", name := "getClass", desc := "()Ljava/lang/Class;" } : Jvm.MethodName) ({ cls := "java/lang/Object", name := "getClass", desc := "()Ljava/lang/Class;" } : Jvm.MethodName)) ∈ lw_all := lw_g (lw_at lw_m3 36 rfl) rfl
theorem q934 : (Jvm.Cond.instanceMethod ({ cls := "SpoilMeadows$State", name := "bestMeadow", desc := "()I" } : Jvm.MethodName)) ∈ lw_all := lw_g (lw_at lw_m4 141 rfl) rfl
theorem q935 : (Jvm.Cond.selects "SpoilMeadows$State" ({ cls := "SpoilMeadows$State", name := "bestMeadow", desc := "()I" } : Jvm.MethodName) ({ cls := "SpoilMeadows$State", name := "bestMeadow", desc := "()I" } : Jvm.MethodName)) ∈ lw_all := lw_g (lw_at lw_m4 142 rfl) rfl
theorem q936 : (Jvm.Cond.code ({ cls := "SpoilMeadows$State", name := "bestMeadow", desc := "()I" } : Jvm.MethodName) prog_12_method_6_code (4 : Nat) (Option.some Jvm.ClassFile.FieldType.int)) ∈ lw_all := lw_g (lw_at lw_m4 143 rfl) rfl
theorem q937 : (Jvm.Cond.methodLink "SpoilMeadows$State" (105 : Nat) ({ cls := "SpoilMeadows$State", name := "isFit", desc := "(I)Z" } : Jvm.MethodName)) ∈ lw_all := lw_g (lw_at lw_m4 144 rfl) rfl
theorem q938 : (Jvm.Cond.privateMethod ({ cls := "SpoilMeadows$State", name := "isFit", desc := "(I)Z" } : Jvm.MethodName)) ∈ lw_tbl := lw_at lw_m4 145 rfl
theorem q939 : (Jvm.Cond.instanceMethod ({ cls := "SpoilMeadows$State", name := "isFit", desc := "(I)Z" } : Jvm.MethodName)) ∈ lw_all := lw_g (lw_at lw_m4 146 rfl) rfl
theorem q940 : (Jvm.Cond.code ({ cls := "SpoilMeadows$State", name := "isFit", desc := "(I)Z" } : Jvm.MethodName) prog_12_method_5_code (3 : Nat) (Option.some Jvm.ClassFile.FieldType.boolean)) ∈ lw_all := lw_g (lw_at lw_m4 147 rfl) rfl
theorem q941 : (Jvm.Cond.methodLink "SpoilMeadows$State" (48 : Nat) ({ cls := "java/util/ArrayList", name := "get", desc := "(I)Ljava/lang/Object;" } : Jvm.MethodName)) ∈ lw_all := lw_g (lw_at lw_m4 148 rfl) rfl
theorem q942 : (Jvm.Cond.classLink "SpoilMeadows$State" (62 : Nat) "SpoilMeadows$Meadow") ∈ lw_all := lw_g (lw_at lw_m4 149 rfl) rfl
theorem q943 : (Jvm.Cond.methodLink "SpoilMeadows$State" (96 : Nat) ({ cls := "SpoilMeadows$Meadow", name := "hasConsent", desc := "(I)Z" } : Jvm.MethodName)) ∈ lw_all := lw_g (lw_at lw_m4 150 rfl) rfl
theorem q948 : (Jvm.Cond.methodLink "SpoilMeadows$State" (99 : Nat) ({ cls := "SpoilMeadows$Meadow", name := "isStopped", desc := "(I)Z" } : Jvm.MethodName)) ∈ lw_all := lw_g (lw_at lw_m4 155 rfl) rfl
theorem q952 : (Jvm.Cond.methodLink "SpoilMeadows$State" (102 : Nat) ({ cls := "SpoilMeadows$State", name := "room", desc := "(I)I" } : Jvm.MethodName)) ∈ lw_all := lw_g (lw_at lw_m4 159 rfl) rfl
theorem q953 : (Jvm.Cond.instanceMethod ({ cls := "SpoilMeadows$State", name := "room", desc := "(I)I" } : Jvm.MethodName)) ∈ lw_all := lw_g (lw_at lw_m4 160 rfl) rfl
theorem q954 : (Jvm.Cond.selects "SpoilMeadows$State" ({ cls := "SpoilMeadows$State", name := "room", desc := "(I)I" } : Jvm.MethodName) ({ cls := "SpoilMeadows$State", name := "room", desc := "(I)I" } : Jvm.MethodName)) ∈ lw_all := lw_g (lw_at lw_m4 161 rfl) rfl
theorem q955 : (Jvm.Cond.code ({ cls := "SpoilMeadows$State", name := "room", desc := "(I)I" } : Jvm.MethodName) prog_12_method_4_code (5 : Nat) (Option.some Jvm.ClassFile.FieldType.int)) ∈ lw_all := lw_g (lw_at lw_m4 162 rfl) rfl
theorem q956 : (Jvm.Cond.methodLink "SpoilMeadows$State" (44 : Nat) ({ cls := "java/util/ArrayList", name := "size", desc := "()I" } : Jvm.MethodName)) ∈ lw_all := lw_g (lw_at lw_m4 163 rfl) rfl
theorem q957 : (Jvm.Cond.classLink "SpoilMeadows$State" (52 : Nat) "SpoilMeadows$Barge") ∈ lw_all := lw_g (lw_at lw_m4 164 rfl) rfl
theorem q958 : (Jvm.Cond.methodLink "SpoilMeadows$State" (89 : Nat) ({ cls := "SpoilMeadows$Barge", name := "isBoundFor", desc := "(I)Z" } : Jvm.MethodName)) ∈ lw_all := lw_g (lw_at lw_m4 165 rfl) rfl
theorem q962 : (Jvm.Cond.methodLink "SpoilMeadows$State" (108 : Nat) ({ cls := "SpoilMeadows$State", name := "wayTo", desc := "(I)I" } : Jvm.MethodName)) ∈ lw_all := lw_g (lw_at lw_m4 169 rfl) rfl
theorem q963 : (Jvm.Cond.instanceMethod ({ cls := "SpoilMeadows$State", name := "wayTo", desc := "(I)I" } : Jvm.MethodName)) ∈ lw_all := lw_g (lw_at lw_m4 170 rfl) rfl
theorem q964 : (Jvm.Cond.selects "SpoilMeadows$State" ({ cls := "SpoilMeadows$State", name := "wayTo", desc := "(I)I" } : Jvm.MethodName) ({ cls := "SpoilMeadows$State", name := "wayTo", desc := "(I)I" } : Jvm.MethodName)) ∈ lw_all := lw_g (lw_at lw_m4 171 rfl) rfl
theorem q965 : (Jvm.Cond.code ({ cls := "SpoilMeadows$State", name := "wayTo", desc := "(I)I" } : Jvm.MethodName) prog_12_method_3_code (2 : Nat) (Option.some Jvm.ClassFile.FieldType.int)) ∈ lw_all := lw_g (lw_at lw_m4 172 rfl) rfl
theorem q966 : (Jvm.Cond.methodLink "SpoilMeadows$State" (77 : Nat) ({ cls := "java/lang/Math", name := "abs", desc := "(I)I" } : Jvm.MethodName)) ∈ lw_all := lw_g (lw_at lw_m4 173 rfl) rfl
theorem q978 : (Jvm.Cond.instanceMethod ({ cls := "SpoilMeadows$State", name := "twin", desc := "()LSpoilMeadows$State;" } : Jvm.MethodName)) ∈ lw_all := lw_g (lw_at lw_m4 185 rfl) rfl
theorem q979 : (Jvm.Cond.selects "SpoilMeadows$State" ({ cls := "SpoilMeadows$State", name := "twin", desc := "()LSpoilMeadows$State;" } : Jvm.MethodName) ({ cls := "SpoilMeadows$State", name := "twin", desc := "()LSpoilMeadows$State;" } : Jvm.MethodName)) ∈ lw_all := lw_g (lw_at lw_m4 186 rfl) rfl
theorem q980 : (Jvm.Cond.code ({ cls := "SpoilMeadows$State", name := "twin", desc := "()LSpoilMeadows$State;" } : Jvm.MethodName) prog_12_method_2_code (3 : Nat) (Option.some (Jvm.ClassFile.FieldType.object "SpoilMeadows$State"))) ∈ lw_all := lw_g (lw_at lw_m4 187 rfl) rfl
theorem q981 : (Jvm.Cond.classLink "SpoilMeadows$State" (15 : Nat) "SpoilMeadows$State") ∈ lw_all := lw_g (lw_at lw_m4 188 rfl) rfl
theorem q982 : (Jvm.Cond.methodLink "SpoilMeadows$State" (36 : Nat) ({ cls := "[I", name := "clone", desc := "()Ljava/lang/Object;" } : Jvm.MethodName)) ∈ lw_all := lw_g (lw_at lw_m4 189 rfl) rfl
theorem q986 : (Jvm.Cond.classLink "SpoilMeadows$State" (37 : Nat) "[I") ∈ lw_all := lw_g (lw_at lw_m4 193 rfl) rfl
theorem q987 : (Jvm.Cond.methodLink "SpoilMeadows$State" (41 : Nat) ({ cls := "SpoilMeadows$State", name := "<init>", desc := "([I[I[I[I)V" } : Jvm.MethodName)) ∈ lw_all := lw_g (lw_at lw_m4 194 rfl) rfl
theorem q988 : (Jvm.Cond.methodLink "SpoilMeadows$State" (54 : Nat) ({ cls := "SpoilMeadows$Barge", name := "twin", desc := "()LSpoilMeadows$Barge;" } : Jvm.MethodName)) ∈ lw_all := lw_g (lw_at lw_m4 195 rfl) rfl
theorem q999 : (Jvm.Cond.fieldLinkNest "SpoilMeadows$State" (120 : Nat) "SpoilMeadows$Barge" "size" "I" "SpoilMeadows") ∈ lw_tbl := lw_at lw_m4 206 rfl
theorem q1003 : (Jvm.Cond.fieldLinkNest "SpoilMeadows$State" (117 : Nat) "SpoilMeadows$Barge" "mode" "I" "SpoilMeadows") ∈ lw_tbl := lw_at lw_m4 210 rfl
theorem q1007 : (Jvm.Cond.fieldLinkNest "SpoilMeadows$State" (93 : Nat) "SpoilMeadows$Barge" "load" "I" "SpoilMeadows") ∈ lw_tbl := lw_at lw_m4 214 rfl
theorem q1010 : (Jvm.Cond.fieldLinkNest "SpoilMeadows$State" (137 : Nat) "SpoilMeadows$Barge" "goal" "I" "SpoilMeadows") ∈ lw_tbl := lw_at lw_m4 217 rfl
theorem q1015 : (Jvm.Cond.fieldLinkNest "SpoilMeadows$State" (111 : Nat) "SpoilMeadows$Barge" "order" "I" "SpoilMeadows") ∈ lw_tbl := lw_at lw_m4 222 rfl
theorem q1019 : (Jvm.Cond.fieldLinkNest "SpoilMeadows$State" (160 : Nat) "SpoilMeadows$Barge" "laid" "I" "SpoilMeadows") ∈ lw_tbl := lw_at lw_m4 226 rfl
theorem q1036 : (Jvm.Cond.methodLink "SpoilMeadows$State" (58 : Nat) ({ cls := "java/util/ArrayList", name := "add", desc := "(Ljava/lang/Object;)Z" } : Jvm.MethodName)) ∈ lw_all := lw_g (lw_at lw_m5 3 rfl) rfl
theorem q1037 : (Jvm.Cond.methodLink "SpoilMeadows$State" (64 : Nat) ({ cls := "SpoilMeadows$Meadow", name := "twin", desc := "()LSpoilMeadows$Meadow;" } : Jvm.MethodName)) ∈ lw_all := lw_g (lw_at lw_m5 4 rfl) rfl
theorem q1044 : (Jvm.Cond.instanceMethod ({ cls := "SpoilMeadows$State", name := "goOn", desc := "()Z" } : Jvm.MethodName)) ∈ lw_all := lw_g (lw_at lw_m5 11 rfl) rfl
theorem q1045 : (Jvm.Cond.selects "SpoilMeadows$State" ({ cls := "SpoilMeadows$State", name := "goOn", desc := "()Z" } : Jvm.MethodName) ({ cls := "SpoilMeadows$State", name := "goOn", desc := "()Z" } : Jvm.MethodName)) ∈ lw_all := lw_g (lw_at lw_m5 12 rfl) rfl
theorem q1046 : (Jvm.Cond.code ({ cls := "SpoilMeadows$State", name := "goOn", desc := "()Z" } : Jvm.MethodName) prog_12_method_18_code (2 : Nat) (Option.some Jvm.ClassFile.FieldType.boolean)) ∈ lw_all := lw_g (lw_at lw_m5 13 rfl) rfl
theorem q1047 : (Jvm.Cond.methodLink "SpoilMeadows$State" (189 : Nat) ({ cls := "SpoilMeadows$State", name := "labour", desc := "()Z" } : Jvm.MethodName)) ∈ lw_all := lw_g (lw_at lw_m5 14 rfl) rfl
theorem q1048 : (Jvm.Cond.privateMethod ({ cls := "SpoilMeadows$State", name := "labour", desc := "()Z" } : Jvm.MethodName)) ∈ lw_tbl := lw_at lw_m5 15 rfl
theorem q1049 : (Jvm.Cond.instanceMethod ({ cls := "SpoilMeadows$State", name := "labour", desc := "()Z" } : Jvm.MethodName)) ∈ lw_all := lw_g (lw_at lw_m5 16 rfl) rfl
theorem q1050 : (Jvm.Cond.code ({ cls := "SpoilMeadows$State", name := "labour", desc := "()Z" } : Jvm.MethodName) prog_12_method_17_code (2 : Nat) (Option.some Jvm.ClassFile.FieldType.boolean)) ∈ lw_all := lw_g (lw_at lw_m5 17 rfl) rfl
theorem q1051 : (Jvm.Cond.methodLink "SpoilMeadows$State" (173 : Nat) ({ cls := "SpoilMeadows$State", name := "shifts", desc := "()V" } : Jvm.MethodName)) ∈ lw_all := lw_g (lw_at lw_m5 18 rfl) rfl
theorem q1052 : (Jvm.Cond.privateMethod ({ cls := "SpoilMeadows$State", name := "shifts", desc := "()V" } : Jvm.MethodName)) ∈ lw_tbl := lw_at lw_m5 19 rfl
theorem q1053 : (Jvm.Cond.instanceMethod ({ cls := "SpoilMeadows$State", name := "shifts", desc := "()V" } : Jvm.MethodName)) ∈ lw_all := lw_g (lw_at lw_m5 20 rfl) rfl
theorem q1054 : (Jvm.Cond.code ({ cls := "SpoilMeadows$State", name := "shifts", desc := "()V" } : Jvm.MethodName) prog_12_method_12_code (3 : Nat) (Option.none : Option Jvm.ClassFile.FieldType)) ∈ lw_all := lw_g (lw_at lw_m5 21 rfl) rfl
theorem q1055 : (Jvm.Cond.methodLink "SpoilMeadows$State" (144 : Nat) ({ cls := "SpoilMeadows$Meadow", name := "hasShift", desc := "(I)Z" } : Jvm.MethodName)) ∈ lw_all := lw_g (lw_at lw_m5 22 rfl) rfl
theorem q1059 : (Jvm.Cond.methodLink "SpoilMeadows$State" (147 : Nat) ({ cls := "java/lang/Math", name := "max", desc := "(II)I" } : Jvm.MethodName)) ∈ lw_all := lw_g (lw_at lw_m5 26 rfl) rfl
theorem q1060 : (Jvm.Cond.methodLink "SpoilMeadows$State" (176 : Nat) ({ cls := "SpoilMeadows$Barge", name := "comeNearer", desc := "()V" } : Jvm.MethodName)) ∈ lw_all := lw_g (lw_at lw_m5 27 rfl) rfl
theorem q1068 : (Jvm.Cond.methodLink "SpoilMeadows$State" (179 : Nat) ({ cls := "SpoilMeadows$State", name := "lay", desc := "(LSpoilMeadows$Barge;)V" } : Jvm.MethodName)) ∈ lw_all := lw_g (lw_at lw_m5 35 rfl) rfl
theorem q1069 : (Jvm.Cond.privateMethod ({ cls := "SpoilMeadows$State", name := "lay", desc := "(LSpoilMeadows$Barge;)V" } : Jvm.MethodName)) ∈ lw_tbl := lw_at lw_m5 36 rfl
theorem q1070 : (Jvm.Cond.instanceMethod ({ cls := "SpoilMeadows$State", name := "lay", desc := "(LSpoilMeadows$Barge;)V" } : Jvm.MethodName)) ∈ lw_all := lw_g (lw_at lw_m5 37 rfl) rfl
theorem q1071 : (Jvm.Cond.code ({ cls := "SpoilMeadows$State", name := "lay", desc := "(LSpoilMeadows$Barge;)V" } : Jvm.MethodName) prog_12_method_13_code (5 : Nat) (Option.none : Option Jvm.ClassFile.FieldType)) ∈ lw_all := lw_g (lw_at lw_m5 38 rfl) rfl
theorem q1072 : (Jvm.Cond.methodLink "SpoilMeadows$State" (151 : Nat) ({ cls := "SpoilMeadows$State", name := "isOpen", desc := "(I)Z" } : Jvm.MethodName)) ∈ lw_all := lw_g (lw_at lw_m5 39 rfl) rfl
theorem q1073 : (Jvm.Cond.instanceMethod ({ cls := "SpoilMeadows$State", name := "isOpen", desc := "(I)Z" } : Jvm.MethodName)) ∈ lw_all := lw_g (lw_at lw_m5 40 rfl) rfl
theorem q1074 : (Jvm.Cond.selects "SpoilMeadows$State" ({ cls := "SpoilMeadows$State", name := "isOpen", desc := "(I)Z" } : Jvm.MethodName) ({ cls := "SpoilMeadows$State", name := "isOpen", desc := "(I)Z" } : Jvm.MethodName)) ∈ lw_all := lw_g (lw_at lw_m5 41 rfl) rfl
theorem q1075 : (Jvm.Cond.code ({ cls := "SpoilMeadows$State", name := "isOpen", desc := "(I)Z" } : Jvm.MethodName) prog_12_method_11_code (2 : Nat) (Option.some Jvm.ClassFile.FieldType.boolean)) ∈ lw_all := lw_g (lw_at lw_m5 42 rfl) rfl
theorem q1076 : (Jvm.Cond.methodLink "SpoilMeadows$State" (140 : Nat) ({ cls := "SpoilMeadows$State", name := "reasonAt", desc := "(LSpoilMeadows$Meadow;)I" } : Jvm.MethodName)) ∈ lw_all := lw_g (lw_at lw_m5 43 rfl) rfl
theorem q1077 : (Jvm.Cond.privateMethod ({ cls := "SpoilMeadows$State", name := "reasonAt", desc := "(LSpoilMeadows$Meadow;)I" } : Jvm.MethodName)) ∈ lw_tbl := lw_at lw_m5 44 rfl
theorem q1078 : (Jvm.Cond.instanceMethod ({ cls := "SpoilMeadows$State", name := "reasonAt", desc := "(LSpoilMeadows$Meadow;)I" } : Jvm.MethodName)) ∈ lw_all := lw_g (lw_at lw_m5 45 rfl) rfl
theorem q1079 : (Jvm.Cond.code ({ cls := "SpoilMeadows$State", name := "reasonAt", desc := "(LSpoilMeadows$Meadow;)I" } : Jvm.MethodName) prog_12_method_9_code (2 : Nat) (Option.some Jvm.ClassFile.FieldType.int)) ∈ lw_all := lw_g (lw_at lw_m5 46 rfl) rfl
theorem q1080 : (Jvm.Cond.methodLink "SpoilMeadows$State" (157 : Nat) ({ cls := "SpoilMeadows$Meadow", name := "take", desc := "(II)I" } : Jvm.MethodName)) ∈ lw_all := lw_g (lw_at lw_m5 47 rfl) rfl
theorem q1094 : (Jvm.Cond.methodLink "SpoilMeadows$State" (163 : Nat) ({ cls := "SpoilMeadows$Barge", name := "go", desc := "(III)V" } : Jvm.MethodName)) ∈ lw_all := lw_g (lw_at lw_m5 61 rfl) rfl
theorem q1098 : (Jvm.Cond.methodLink "SpoilMeadows$State" (183 : Nat) ({ cls := "SpoilMeadows$State", name := "raise", desc := "()V" } : Jvm.MethodName)) ∈ lw_all := lw_g (lw_at lw_m5 65 rfl) rfl
theorem q1099 : (Jvm.Cond.privateMethod ({ cls := "SpoilMeadows$State", name := "raise", desc := "()V" } : Jvm.MethodName)) ∈ lw_tbl := lw_at lw_m5 66 rfl
theorem q1100 : (Jvm.Cond.instanceMethod ({ cls := "SpoilMeadows$State", name := "raise", desc := "()V" } : Jvm.MethodName)) ∈ lw_all := lw_g (lw_at lw_m5 67 rfl) rfl
theorem q1101 : (Jvm.Cond.code ({ cls := "SpoilMeadows$State", name := "raise", desc := "()V" } : Jvm.MethodName) prog_12_method_14_code (4 : Nat) (Option.none : Option Jvm.ClassFile.FieldType)) ∈ lw_all := lw_g (lw_at lw_m5 68 rfl) rfl
theorem q1102 : (Jvm.Cond.methodLink "SpoilMeadows$State" (167 : Nat) ({ cls := "java/lang/Math", name := "min", desc := "(II)I" } : Jvm.MethodName)) ∈ lw_all := lw_g (lw_at lw_m5 69 rfl) rfl
theorem q1103 : (Jvm.Cond.methodLink "SpoilMeadows$State" (170 : Nat) ({ cls := "SpoilMeadows$Barge", name := "fill", desc := "(I)I" } : Jvm.MethodName)) ∈ lw_all := lw_g (lw_at lw_m5 70 rfl) rfl
theorem q1111 : (Jvm.Cond.methodLink "SpoilMeadows$State" (186 : Nat) ({ cls := "SpoilMeadows$State", name := "send", desc := "()V" } : Jvm.MethodName)) ∈ lw_all := lw_g (lw_at lw_m5 78 rfl) rfl
theorem q1112 : (Jvm.Cond.privateMethod ({ cls := "SpoilMeadows$State", name := "send", desc := "()V" } : Jvm.MethodName)) ∈ lw_tbl := lw_at lw_m5 79 rfl
theorem q1113 : (Jvm.Cond.instanceMethod ({ cls := "SpoilMeadows$State", name := "send", desc := "()V" } : Jvm.MethodName)) ∈ lw_all := lw_g (lw_at lw_m5 80 rfl) rfl
theorem q1114 : (Jvm.Cond.code ({ cls := "SpoilMeadows$State", name := "send", desc := "()V" } : Jvm.MethodName) prog_12_method_15_code (4 : Nat) (Option.none : Option Jvm.ClassFile.FieldType)) ∈ lw_all := lw_g (lw_at lw_m5 81 rfl) rfl
theorem q1115 : (Jvm.Cond.methodLink "SpoilMeadows$State" (129 : Nat) ({ cls := "SpoilMeadows$State", name := "isReady", desc := "(LSpoilMeadows$Barge;)Z" } : Jvm.MethodName)) ∈ lw_all := lw_g (lw_at lw_m5 82 rfl) rfl
theorem q1116 : (Jvm.Cond.instanceMethod ({ cls := "SpoilMeadows$State", name := "isReady", desc := "(LSpoilMeadows$Barge;)Z" } : Jvm.MethodName)) ∈ lw_all := lw_g (lw_at lw_m5 83 rfl) rfl
theorem q1117 : (Jvm.Cond.selects "SpoilMeadows$State" ({ cls := "SpoilMeadows$State", name := "isReady", desc := "(LSpoilMeadows$Barge;)Z" } : Jvm.MethodName) ({ cls := "SpoilMeadows$State", name := "isReady", desc := "(LSpoilMeadows$Barge;)Z" } : Jvm.MethodName)) ∈ lw_all := lw_g (lw_at lw_m5 84 rfl) rfl
theorem q1118 : (Jvm.Cond.code ({ cls := "SpoilMeadows$State", name := "isReady", desc := "(LSpoilMeadows$Barge;)Z" } : Jvm.MethodName) prog_12_method_8_code (2 : Nat) (Option.some Jvm.ClassFile.FieldType.boolean)) ∈ lw_all := lw_g (lw_at lw_m5 85 rfl) rfl
theorem q1119 : (Jvm.Cond.methodLink "SpoilMeadows$State" (133 : Nat) ({ cls := "SpoilMeadows$State", name := "goalOf", desc := "(LSpoilMeadows$Barge;)I" } : Jvm.MethodName)) ∈ lw_all := lw_g (lw_at lw_m5 86 rfl) rfl
theorem q1120 : (Jvm.Cond.instanceMethod ({ cls := "SpoilMeadows$State", name := "goalOf", desc := "(LSpoilMeadows$Barge;)I" } : Jvm.MethodName)) ∈ lw_all := lw_g (lw_at lw_m5 87 rfl) rfl
theorem q1121 : (Jvm.Cond.selects "SpoilMeadows$State" ({ cls := "SpoilMeadows$State", name := "goalOf", desc := "(LSpoilMeadows$Barge;)I" } : Jvm.MethodName) ({ cls := "SpoilMeadows$State", name := "goalOf", desc := "(LSpoilMeadows$Barge;)I" } : Jvm.MethodName)) ∈ lw_all := lw_g (lw_at lw_m5 88 rfl) rfl
theorem q1122 : (Jvm.Cond.code ({ cls := "SpoilMeadows$State", name := "goalOf", desc := "(LSpoilMeadows$Barge;)I" } : Jvm.MethodName) prog_12_method_7_code (2 : Nat) (Option.some Jvm.ClassFile.FieldType.int)) ∈ lw_all := lw_g (lw_at lw_m5 89 rfl) rfl
theorem q1123 : (Jvm.Cond.methodLink "SpoilMeadows$State" (114 : Nat) ({ cls := "SpoilMeadows$State", name := "bestMeadow", desc := "()I" } : Jvm.MethodName)) ∈ lw_all := lw_g (lw_at lw_m5 90 rfl) rfl
theorem q1124 : (Jvm.Cond.methodLink "SpoilMeadows$State" (192 : Nat) ({ cls := "SpoilMeadows$State", name := "siltUp", desc := "()V" } : Jvm.MethodName)) ∈ lw_all := lw_g (lw_at lw_m5 91 rfl) rfl
theorem q1125 : (Jvm.Cond.privateMethod ({ cls := "SpoilMeadows$State", name := "siltUp", desc := "()V" } : Jvm.MethodName)) ∈ lw_tbl := lw_at lw_m5 92 rfl
theorem q1126 : (Jvm.Cond.instanceMethod ({ cls := "SpoilMeadows$State", name := "siltUp", desc := "()V" } : Jvm.MethodName)) ∈ lw_all := lw_g (lw_at lw_m5 93 rfl) rfl
theorem q1127 : (Jvm.Cond.code ({ cls := "SpoilMeadows$State", name := "siltUp", desc := "()V" } : Jvm.MethodName) prog_12_method_16_code (3 : Nat) (Option.none : Option Jvm.ClassFile.FieldType)) ∈ lw_all := lw_g (lw_at lw_m5 94 rfl) rfl
theorem q1204 : (Jvm.Cond.instanceMethod ({ cls := "SpoilMeadows$State", name := "reason", desc := "(LSpoilMeadows$Barge;)I" } : Jvm.MethodName)) ∈ lw_all := lw_g (lw_at lw_m5 171 rfl) rfl
theorem q1205 : (Jvm.Cond.selects "SpoilMeadows$State" ({ cls := "SpoilMeadows$State", name := "reason", desc := "(LSpoilMeadows$Barge;)I" } : Jvm.MethodName) ({ cls := "SpoilMeadows$State", name := "reason", desc := "(LSpoilMeadows$Barge;)I" } : Jvm.MethodName)) ∈ lw_all := lw_g (lw_at lw_m5 172 rfl) rfl
theorem q1206 : (Jvm.Cond.code ({ cls := "SpoilMeadows$State", name := "reason", desc := "(LSpoilMeadows$Barge;)I" } : Jvm.MethodName) prog_12_method_10_code (2 : Nat) (Option.some Jvm.ClassFile.FieldType.int)) ∈ lw_all := lw_g (lw_at lw_m5 173 rfl) rfl
theorem q1207 : (Jvm.Cond.methodLink "SpoilMeadows$State" (125 : Nat) ({ cls := "SpoilMeadows$Barge", name := "isUnderWay", desc := "()Z" } : Jvm.MethodName)) ∈ lw_all := lw_g (lw_at lw_m5 174 rfl) rfl
theorem q1227 : (Jvm.Cond.instanceMethod ({ cls := "SpoilMeadows$State", name := "behind", desc := "(I)LSpoilMeadows$State;" } : Jvm.MethodName)) ∈ lw_all := lw_g (lw_at lw_m5 194 rfl) rfl
theorem q1228 : (Jvm.Cond.selects "SpoilMeadows$State" ({ cls := "SpoilMeadows$State", name := "behind", desc := "(I)LSpoilMeadows$State;" } : Jvm.MethodName) ({ cls := "SpoilMeadows$State", name := "behind", desc := "(I)LSpoilMeadows$State;" } : Jvm.MethodName)) ∈ lw_all := lw_g (lw_at lw_m5 195 rfl) rfl
theorem q1229 : (Jvm.Cond.code ({ cls := "SpoilMeadows$State", name := "behind", desc := "(I)LSpoilMeadows$State;" } : Jvm.MethodName) prog_12_method_19_code (4 : Nat) (Option.some (Jvm.ClassFile.FieldType.object "SpoilMeadows$State"))) ∈ lw_all := lw_g (lw_at lw_m5 196 rfl) rfl
theorem q1230 : (Jvm.Cond.methodLink "SpoilMeadows$State" (195 : Nat) ({ cls := "SpoilMeadows$State", name := "goOn", desc := "()Z" } : Jvm.MethodName)) ∈ lw_all := lw_g (lw_at lw_m5 197 rfl) rfl
theorem q1972 : (Jvm.Cond.castable "SpoilMeadows$State" "java/lang/Object") ∈ lw_tbl := lw_at lw_m8 219 rfl
theorem in_X2 : ∀ w ∈ wsX20, w ∈ lw_all := lw_in wsX20 [492, 494, 496, 498, 500, 502, 504, 506, 508] (by decide +kernel) (by decide +kernel)

/-! SpoilMeadows$Hold -/
set_option maxRecDepth 100000
def RX3 : String := "SpoilMeadows$Hold"
abbrev cX3_init : ByteArray := prog_7_method_1_code
def yX3_init : MethodName := ⟨RX3, "<init>", "()V"⟩
theorem dX3_init_0 : decode cX3_init 0 = .ok (.aload_n 0, 1) := by decide +kernel
theorem dX3_init_1 : decode cX3_init 1 = .ok (.invokespecial 1, 3) := by decide +kernel
theorem dX3_init_4 : decode cX3_init 4 = .ok (.return_, 1) := by decide +kernel
theorem q95 : (Jvm.Cond.initialized "SpoilMeadows$Hold") ∈ lw_all := lw_g (lw_at lw_m1 22 rfl) rfl
theorem q517 : (Jvm.Cond.instanceMethod ({ cls := "SpoilMeadows$Hold", name := "<init>", desc := "()V" } : Jvm.MethodName)) ∈ lw_all := lw_g (lw_at lw_m2 204 rfl) rfl
theorem q518 : (Jvm.Cond.code ({ cls := "SpoilMeadows$Hold", name := "<init>", desc := "()V" } : Jvm.MethodName) prog_7_method_1_code (1 : Nat) (Option.none : Option Jvm.ClassFile.FieldType)) ∈ lw_all := lw_g (lw_at lw_m2 205 rfl) rfl
theorem q519 : (Jvm.Cond.methodLink "SpoilMeadows$Hold" (1 : Nat) ({ cls := "java/lang/Object", name := "<init>", desc := "()V" } : Jvm.MethodName)) ∈ lw_all := lw_g (lw_at lw_m2 206 rfl) rfl
theorem q1089 : (Jvm.Cond.superclass "SpoilMeadows$Hold" "java/lang/Object") ∈ lw_all := lw_g (lw_at lw_m5 56 rfl) rfl

/-! SpoilMeadows$Meadow -/
set_option maxRecDepth 100000
def RX4 : String := "SpoilMeadows$Meadow"
def TX4 : u_T := fun k => match k with
  | 0 => ("SpoilMeadows$Meadow", "bound", "I", false)
  | 1 => ("SpoilMeadows$Meadow", "spoil", "I", false)
  | 2 => ("SpoilMeadows$Meadow", "wet", "I", false)
  | 3 => ("SpoilMeadows$Meadow", "from", "I", false)
  | 4 => ("SpoilMeadows$Meadow", "to", "I", false)
  | 5 => ("SpoilMeadows$Meadow", "stoppedTo", "I", false)
  | 6 => ("SpoilMeadows$Meadow", "period", "I", false)
  | _ => ("SpoilMeadows$Meadow", "laidOn", "I", false)
def tyX4 : Nat → FieldType := fun k => match k with
  | 0 => .int
  | 1 => .int
  | 2 => .int
  | 3 => .int
  | 4 => .int
  | 5 => .int
  | 6 => .int
  | _ => .int
abbrev wsX40 : List Cond := u_ws RX4 TX4 8
theorem nmX4 : ∀ a, a < 8 → ∀ b, b < 8 → a ≠ b → (TX4 a).2.1 ≠ (TX4 b).2.1 := by decide +kernel
theorem tyX4_ok : ∀ k, k < 8 → parseFieldDescriptor (TX4 k).2.2.1 = some (tyX4 k) := by decide +kernel
abbrev cX4_init : ByteArray := prog_9_method_1_code
def yX4_init : MethodName := ⟨RX4, "<init>", "()V"⟩
def dkwX4_init_0 : List UInt8 := [42, 183, 0, 3, 42, 16, 100, 181, 0, 9, 42, 17, 39, 15, 181, 0, 15, 42, 2, 181, 0, 18, 177]
abbrev dktX4_init_0 : List UInt8 := dkwX4_init_0 ++ []
theorem dksX4_init_0 : cX4_init.data.toList.drop 0 = dktX4_init_0 := by decide +kernel
theorem dX4_init_0 : decode cX4_init 0 = .ok (.aload_n 0, 1) := dk_42 (dk_at dksX4_init_0 0 rfl rfl)
theorem dX4_init_1 : decode cX4_init 1 = .ok (.invokespecial 3, 3) := dk_183 0 3 (dk_at dksX4_init_0 1 rfl rfl)
theorem dX4_init_4 : decode cX4_init 4 = .ok (.aload_n 0, 1) := dk_42 (dk_at dksX4_init_0 4 rfl rfl)
theorem dX4_init_5 : decode cX4_init 5 = .ok (.bipush 100, 2) := dk_16 100 (dk_at dksX4_init_0 5 rfl rfl)
theorem dX4_init_7 : decode cX4_init 7 = .ok (.putfield 9, 3) := dk_181 0 9 (dk_at dksX4_init_0 7 rfl rfl)
theorem dX4_init_10 : decode cX4_init 10 = .ok (.aload_n 0, 1) := dk_42 (dk_at dksX4_init_0 10 rfl rfl)
theorem dX4_init_11 : decode cX4_init 11 = .ok (.sipush 9999, 3) := dk_17 39 15 (dk_at dksX4_init_0 11 rfl rfl)
theorem dX4_init_14 : decode cX4_init 14 = .ok (.putfield 15, 3) := dk_181 0 15 (dk_at dksX4_init_0 14 rfl rfl)
theorem dX4_init_17 : decode cX4_init 17 = .ok (.aload_n 0, 1) := dk_42 (dk_at dksX4_init_0 17 rfl rfl)
theorem dX4_init_18 : decode cX4_init 18 = .ok (.iconst (-1), 1) := dk_2 (dk_at dksX4_init_0 18 rfl rfl)
theorem dX4_init_19 : decode cX4_init 19 = .ok (.putfield 18, 3) := dk_181 0 18 (dk_at dksX4_init_0 19 rfl rfl)
theorem dX4_init_22 : decode cX4_init 22 = .ok (.return_, 1) := dk_177 (dk_at dksX4_init_0 22 rfl rfl)
abbrev cX4_hasConsent : ByteArray := prog_9_method_3_code
def yX4_hasConsent : MethodName := ⟨RX4, "hasConsent", "(I)Z"⟩
def dkwX4_hasConsent_0 : List UInt8 := [27, 42, 180, 0, 28, 42, 180, 0, 15, 184, 0, 37, 172]
abbrev dktX4_hasConsent_0 : List UInt8 := dkwX4_hasConsent_0 ++ []
theorem dksX4_hasConsent_0 : cX4_hasConsent.data.toList.drop 0 = dktX4_hasConsent_0 := by decide +kernel
theorem dX4_hasConsent_0 : decode cX4_hasConsent 0 = .ok (.iload_n 1, 1) := dk_27 (dk_at dksX4_hasConsent_0 0 rfl rfl)
theorem dX4_hasConsent_1 : decode cX4_hasConsent 1 = .ok (.aload_n 0, 1) := dk_42 (dk_at dksX4_hasConsent_0 1 rfl rfl)
theorem dX4_hasConsent_2 : decode cX4_hasConsent 2 = .ok (.getfield 28, 3) := dk_180 0 28 (dk_at dksX4_hasConsent_0 2 rfl rfl)
theorem dX4_hasConsent_5 : decode cX4_hasConsent 5 = .ok (.aload_n 0, 1) := dk_42 (dk_at dksX4_hasConsent_0 5 rfl rfl)
theorem dX4_hasConsent_6 : decode cX4_hasConsent 6 = .ok (.getfield 15, 3) := dk_180 0 15 (dk_at dksX4_hasConsent_0 6 rfl rfl)
theorem dX4_hasConsent_9 : decode cX4_hasConsent 9 = .ok (.invokestatic 37, 3) := dk_184 0 37 (dk_at dksX4_hasConsent_0 9 rfl rfl)
theorem dX4_hasConsent_12 : decode cX4_hasConsent 12 = .ok (.ireturn, 1) := dk_172 (dk_at dksX4_hasConsent_0 12 rfl rfl)
abbrev cX4_isStopped : ByteArray := prog_9_method_4_code
def yX4_isStopped : MethodName := ⟨RX4, "isStopped", "(I)Z"⟩
def dkwX4_isStopped_0 : List UInt8 := [27, 42, 180, 0, 31, 162, 0, 7, 4, 167, 0, 4, 3, 172]
abbrev dktX4_isStopped_0 : List UInt8 := dkwX4_isStopped_0 ++ []
theorem dksX4_isStopped_0 : cX4_isStopped.data.toList.drop 0 = dktX4_isStopped_0 := by decide +kernel
theorem dX4_isStopped_0 : decode cX4_isStopped 0 = .ok (.iload_n 1, 1) := dk_27 (dk_at dksX4_isStopped_0 0 rfl rfl)
theorem dX4_isStopped_1 : decode cX4_isStopped 1 = .ok (.aload_n 0, 1) := dk_42 (dk_at dksX4_isStopped_0 1 rfl rfl)
theorem dX4_isStopped_2 : decode cX4_isStopped 2 = .ok (.getfield 31, 3) := dk_180 0 31 (dk_at dksX4_isStopped_0 2 rfl rfl)
theorem dX4_isStopped_5 : decode cX4_isStopped 5 = .ok (.if_icmp .ge 7, 3) := dk_162 0 7 (dk_at dksX4_isStopped_0 5 rfl rfl)
theorem dX4_isStopped_8 : decode cX4_isStopped 8 = .ok (.iconst 1, 1) := dk_4 (dk_at dksX4_isStopped_0 8 rfl rfl)
theorem dX4_isStopped_9 : decode cX4_isStopped 9 = .ok (.goto 4, 3) := dk_167 0 4 (dk_at dksX4_isStopped_0 9 rfl rfl)
theorem dX4_isStopped_12 : decode cX4_isStopped 12 = .ok (.iconst 0, 1) := dk_3 (dk_at dksX4_isStopped_0 12 rfl rfl)
theorem dX4_isStopped_13 : decode cX4_isStopped 13 = .ok (.ireturn, 1) := dk_172 (dk_at dksX4_isStopped_0 13 rfl rfl)
abbrev cX4_twin : ByteArray := prog_9_method_2_code
def yX4_twin : MethodName := ⟨RX4, "twin", "()LSpoilMeadows$Meadow;"⟩
def dkwX4_twin_3 : List UInt8 := [43, 176]
abbrev dktX4_twin_3 : List UInt8 := dkwX4_twin_3 ++ []
def dkwX4_twin_2 : List UInt8 := [43, 42, 180, 0, 31, 181, 0, 31, 43, 42, 180, 0, 34, 181, 0, 34, 43, 42, 180, 0, 18, 181, 0, 18]
abbrev dktX4_twin_2 : List UInt8 := dkwX4_twin_2 ++ dktX4_twin_3
def dkwX4_twin_1 : List UInt8 := [43, 42, 180, 0, 25, 181, 0, 25, 43, 42, 180, 0, 28, 181, 0, 28, 43, 42, 180, 0, 15, 181, 0, 15]
abbrev dktX4_twin_1 : List UInt8 := dkwX4_twin_1 ++ dktX4_twin_2
def dkwX4_twin_0 : List UInt8 := [187, 0, 10, 89, 183, 0, 21, 76, 43, 42, 180, 0, 9, 181, 0, 9, 43, 42, 180, 0, 22, 181, 0, 22]
abbrev dktX4_twin_0 : List UInt8 := dkwX4_twin_0 ++ dktX4_twin_1
theorem dksX4_twin_0 : cX4_twin.data.toList.drop 0 = dktX4_twin_0 := by decide +kernel
theorem dksX4_twin_1 : cX4_twin.data.toList.drop 24 = dktX4_twin_1 := dk_seg dksX4_twin_0 24 rfl rfl
theorem dksX4_twin_2 : cX4_twin.data.toList.drop 48 = dktX4_twin_2 := dk_seg dksX4_twin_1 24 rfl rfl
theorem dksX4_twin_3 : cX4_twin.data.toList.drop 72 = dktX4_twin_3 := dk_seg dksX4_twin_2 24 rfl rfl
theorem dX4_twin_0 : decode cX4_twin 0 = .ok (.new 10, 3) := dk_187 0 10 (dk_at dksX4_twin_0 0 rfl rfl)
theorem dX4_twin_3 : decode cX4_twin 3 = .ok (.dup, 1) := dk_89 (dk_at dksX4_twin_0 3 rfl rfl)
theorem dX4_twin_4 : decode cX4_twin 4 = .ok (.invokespecial 21, 3) := dk_183 0 21 (dk_at dksX4_twin_0 4 rfl rfl)
theorem dX4_twin_7 : decode cX4_twin 7 = .ok (.astore_n 1, 1) := dk_76 (dk_at dksX4_twin_0 7 rfl rfl)
theorem dX4_twin_8 : decode cX4_twin 8 = .ok (.aload_n 1, 1) := dk_43 (dk_at dksX4_twin_0 8 rfl rfl)
theorem dX4_twin_9 : decode cX4_twin 9 = .ok (.aload_n 0, 1) := dk_42 (dk_at dksX4_twin_0 9 rfl rfl)
theorem dX4_twin_10 : decode cX4_twin 10 = .ok (.getfield 9, 3) := dk_180 0 9 (dk_at dksX4_twin_0 10 rfl rfl)
theorem dX4_twin_13 : decode cX4_twin 13 = .ok (.putfield 9, 3) := dk_181 0 9 (dk_at dksX4_twin_0 13 rfl rfl)
theorem dX4_twin_16 : decode cX4_twin 16 = .ok (.aload_n 1, 1) := dk_43 (dk_at dksX4_twin_0 16 rfl rfl)
theorem dX4_twin_17 : decode cX4_twin 17 = .ok (.aload_n 0, 1) := dk_42 (dk_at dksX4_twin_0 17 rfl rfl)
theorem dX4_twin_18 : decode cX4_twin 18 = .ok (.getfield 22, 3) := dk_180 0 22 (dk_at dksX4_twin_0 18 rfl rfl)
theorem dX4_twin_21 : decode cX4_twin 21 = .ok (.putfield 22, 3) := dk_181 0 22 (dk_at dksX4_twin_0 21 rfl rfl)
theorem dX4_twin_24 : decode cX4_twin 24 = .ok (.aload_n 1, 1) := dk_43 (dk_at dksX4_twin_1 0 rfl rfl)
theorem dX4_twin_25 : decode cX4_twin 25 = .ok (.aload_n 0, 1) := dk_42 (dk_at dksX4_twin_1 1 rfl rfl)
theorem dX4_twin_26 : decode cX4_twin 26 = .ok (.getfield 25, 3) := dk_180 0 25 (dk_at dksX4_twin_1 2 rfl rfl)
theorem dX4_twin_29 : decode cX4_twin 29 = .ok (.putfield 25, 3) := dk_181 0 25 (dk_at dksX4_twin_1 5 rfl rfl)
theorem dX4_twin_32 : decode cX4_twin 32 = .ok (.aload_n 1, 1) := dk_43 (dk_at dksX4_twin_1 8 rfl rfl)
theorem dX4_twin_33 : decode cX4_twin 33 = .ok (.aload_n 0, 1) := dk_42 (dk_at dksX4_twin_1 9 rfl rfl)
theorem dX4_twin_34 : decode cX4_twin 34 = .ok (.getfield 28, 3) := dk_180 0 28 (dk_at dksX4_twin_1 10 rfl rfl)
theorem dX4_twin_37 : decode cX4_twin 37 = .ok (.putfield 28, 3) := dk_181 0 28 (dk_at dksX4_twin_1 13 rfl rfl)
theorem dX4_twin_40 : decode cX4_twin 40 = .ok (.aload_n 1, 1) := dk_43 (dk_at dksX4_twin_1 16 rfl rfl)
theorem dX4_twin_41 : decode cX4_twin 41 = .ok (.aload_n 0, 1) := dk_42 (dk_at dksX4_twin_1 17 rfl rfl)
theorem dX4_twin_42 : decode cX4_twin 42 = .ok (.getfield 15, 3) := dk_180 0 15 (dk_at dksX4_twin_1 18 rfl rfl)
theorem dX4_twin_45 : decode cX4_twin 45 = .ok (.putfield 15, 3) := dk_181 0 15 (dk_at dksX4_twin_1 21 rfl rfl)
theorem dX4_twin_48 : decode cX4_twin 48 = .ok (.aload_n 1, 1) := dk_43 (dk_at dksX4_twin_2 0 rfl rfl)
theorem dX4_twin_49 : decode cX4_twin 49 = .ok (.aload_n 0, 1) := dk_42 (dk_at dksX4_twin_2 1 rfl rfl)
theorem dX4_twin_50 : decode cX4_twin 50 = .ok (.getfield 31, 3) := dk_180 0 31 (dk_at dksX4_twin_2 2 rfl rfl)
theorem dX4_twin_53 : decode cX4_twin 53 = .ok (.putfield 31, 3) := dk_181 0 31 (dk_at dksX4_twin_2 5 rfl rfl)
theorem dX4_twin_56 : decode cX4_twin 56 = .ok (.aload_n 1, 1) := dk_43 (dk_at dksX4_twin_2 8 rfl rfl)
theorem dX4_twin_57 : decode cX4_twin 57 = .ok (.aload_n 0, 1) := dk_42 (dk_at dksX4_twin_2 9 rfl rfl)
theorem dX4_twin_58 : decode cX4_twin 58 = .ok (.getfield 34, 3) := dk_180 0 34 (dk_at dksX4_twin_2 10 rfl rfl)
theorem dX4_twin_61 : decode cX4_twin 61 = .ok (.putfield 34, 3) := dk_181 0 34 (dk_at dksX4_twin_2 13 rfl rfl)
theorem dX4_twin_64 : decode cX4_twin 64 = .ok (.aload_n 1, 1) := dk_43 (dk_at dksX4_twin_2 16 rfl rfl)
theorem dX4_twin_65 : decode cX4_twin 65 = .ok (.aload_n 0, 1) := dk_42 (dk_at dksX4_twin_2 17 rfl rfl)
theorem dX4_twin_66 : decode cX4_twin 66 = .ok (.getfield 18, 3) := dk_180 0 18 (dk_at dksX4_twin_2 18 rfl rfl)
theorem dX4_twin_69 : decode cX4_twin 69 = .ok (.putfield 18, 3) := dk_181 0 18 (dk_at dksX4_twin_2 21 rfl rfl)
theorem dX4_twin_72 : decode cX4_twin 72 = .ok (.aload_n 1, 1) := dk_43 (dk_at dksX4_twin_3 0 rfl rfl)
theorem dX4_twin_73 : decode cX4_twin 73 = .ok (.areturn, 1) := dk_176 (dk_at dksX4_twin_3 1 rfl rfl)
abbrev cX4_hasShift : ByteArray := prog_9_method_5_code
def yX4_hasShift : MethodName := ⟨RX4, "hasShift", "(I)Z"⟩
def dkwX4_hasShift_0 : List UInt8 := [42, 180, 0, 34, 158, 0, 16, 27, 42, 180, 0, 34, 112, 154, 0, 7, 4, 167, 0, 4, 3, 172]
abbrev dktX4_hasShift_0 : List UInt8 := dkwX4_hasShift_0 ++ []
theorem dksX4_hasShift_0 : cX4_hasShift.data.toList.drop 0 = dktX4_hasShift_0 := by decide +kernel
theorem dX4_hasShift_0 : decode cX4_hasShift 0 = .ok (.aload_n 0, 1) := dk_42 (dk_at dksX4_hasShift_0 0 rfl rfl)
theorem dX4_hasShift_1 : decode cX4_hasShift 1 = .ok (.getfield 34, 3) := dk_180 0 34 (dk_at dksX4_hasShift_0 1 rfl rfl)
theorem dX4_hasShift_4 : decode cX4_hasShift 4 = .ok (.ifCond .le 16, 3) := dk_158 0 16 (dk_at dksX4_hasShift_0 4 rfl rfl)
theorem dX4_hasShift_7 : decode cX4_hasShift 7 = .ok (.iload_n 1, 1) := dk_27 (dk_at dksX4_hasShift_0 7 rfl rfl)
theorem dX4_hasShift_8 : decode cX4_hasShift 8 = .ok (.aload_n 0, 1) := dk_42 (dk_at dksX4_hasShift_0 8 rfl rfl)
theorem dX4_hasShift_9 : decode cX4_hasShift 9 = .ok (.getfield 34, 3) := dk_180 0 34 (dk_at dksX4_hasShift_0 9 rfl rfl)
theorem dX4_hasShift_12 : decode cX4_hasShift 12 = .ok (.irem, 1) := dk_112 (dk_at dksX4_hasShift_0 12 rfl rfl)
theorem dX4_hasShift_13 : decode cX4_hasShift 13 = .ok (.ifCond .ne 7, 3) := dk_154 0 7 (dk_at dksX4_hasShift_0 13 rfl rfl)
theorem dX4_hasShift_16 : decode cX4_hasShift 16 = .ok (.iconst 1, 1) := dk_4 (dk_at dksX4_hasShift_0 16 rfl rfl)
theorem dX4_hasShift_17 : decode cX4_hasShift 17 = .ok (.goto 4, 3) := dk_167 0 4 (dk_at dksX4_hasShift_0 17 rfl rfl)
theorem dX4_hasShift_20 : decode cX4_hasShift 20 = .ok (.iconst 0, 1) := dk_3 (dk_at dksX4_hasShift_0 20 rfl rfl)
theorem dX4_hasShift_21 : decode cX4_hasShift 21 = .ok (.ireturn, 1) := dk_172 (dk_at dksX4_hasShift_0 21 rfl rfl)
abbrev cX4_take : ByteArray := prog_9_method_7_code
def yX4_take : MethodName := ⟨RX4, "take", "(II)I"⟩
def dkwX4_take_2 : List UInt8 := [180, 0, 18, 181, 0, 18, 29, 172]
abbrev dktX4_take_2 : List UInt8 := dkwX4_take_2 ++ []
def dkwX4_take_1 : List UInt8 := [181, 0, 22, 42, 89, 180, 0, 25, 29, 96, 181, 0, 25, 42, 29, 158, 0, 7, 28, 167, 0, 7, 42]
abbrev dktX4_take_1 : List UInt8 := dkwX4_take_1 ++ dktX4_take_2
def dkwX4_take_0 : List UInt8 := [42, 27, 42, 180, 0, 9, 42, 180, 0, 22, 100, 182, 0, 50, 62, 42, 89, 180, 0, 22, 29, 96]
abbrev dktX4_take_0 : List UInt8 := dkwX4_take_0 ++ dktX4_take_1
theorem dksX4_take_0 : cX4_take.data.toList.drop 0 = dktX4_take_0 := by decide +kernel
theorem dksX4_take_1 : cX4_take.data.toList.drop 22 = dktX4_take_1 := dk_seg dksX4_take_0 22 rfl rfl
theorem dksX4_take_2 : cX4_take.data.toList.drop 45 = dktX4_take_2 := dk_seg dksX4_take_1 23 rfl rfl
theorem dX4_take_0 : decode cX4_take 0 = .ok (.aload_n 0, 1) := dk_42 (dk_at dksX4_take_0 0 rfl rfl)
theorem dX4_take_1 : decode cX4_take 1 = .ok (.iload_n 1, 1) := dk_27 (dk_at dksX4_take_0 1 rfl rfl)
theorem dX4_take_2 : decode cX4_take 2 = .ok (.aload_n 0, 1) := dk_42 (dk_at dksX4_take_0 2 rfl rfl)
theorem dX4_take_3 : decode cX4_take 3 = .ok (.getfield 9, 3) := dk_180 0 9 (dk_at dksX4_take_0 3 rfl rfl)
theorem dX4_take_6 : decode cX4_take 6 = .ok (.aload_n 0, 1) := dk_42 (dk_at dksX4_take_0 6 rfl rfl)
theorem dX4_take_7 : decode cX4_take 7 = .ok (.getfield 22, 3) := dk_180 0 22 (dk_at dksX4_take_0 7 rfl rfl)
theorem dX4_take_10 : decode cX4_take 10 = .ok (.isub, 1) := dk_100 (dk_at dksX4_take_0 10 rfl rfl)
theorem dX4_take_11 : decode cX4_take 11 = .ok (.invokevirtual 50, 3) := dk_182 0 50 (dk_at dksX4_take_0 11 rfl rfl)
theorem dX4_take_14 : decode cX4_take 14 = .ok (.istore_n 3, 1) := dk_62 (dk_at dksX4_take_0 14 rfl rfl)
theorem dX4_take_15 : decode cX4_take 15 = .ok (.aload_n 0, 1) := dk_42 (dk_at dksX4_take_0 15 rfl rfl)
theorem dX4_take_16 : decode cX4_take 16 = .ok (.dup, 1) := dk_89 (dk_at dksX4_take_0 16 rfl rfl)
theorem dX4_take_17 : decode cX4_take 17 = .ok (.getfield 22, 3) := dk_180 0 22 (dk_at dksX4_take_0 17 rfl rfl)
theorem dX4_take_20 : decode cX4_take 20 = .ok (.iload_n 3, 1) := dk_29 (dk_at dksX4_take_0 20 rfl rfl)
theorem dX4_take_21 : decode cX4_take 21 = .ok (.iadd, 1) := dk_96 (dk_at dksX4_take_0 21 rfl rfl)
theorem dX4_take_22 : decode cX4_take 22 = .ok (.putfield 22, 3) := dk_181 0 22 (dk_at dksX4_take_1 0 rfl rfl)
theorem dX4_take_25 : decode cX4_take 25 = .ok (.aload_n 0, 1) := dk_42 (dk_at dksX4_take_1 3 rfl rfl)
theorem dX4_take_26 : decode cX4_take 26 = .ok (.dup, 1) := dk_89 (dk_at dksX4_take_1 4 rfl rfl)
theorem dX4_take_27 : decode cX4_take 27 = .ok (.getfield 25, 3) := dk_180 0 25 (dk_at dksX4_take_1 5 rfl rfl)
theorem dX4_take_30 : decode cX4_take 30 = .ok (.iload_n 3, 1) := dk_29 (dk_at dksX4_take_1 8 rfl rfl)
theorem dX4_take_31 : decode cX4_take 31 = .ok (.iadd, 1) := dk_96 (dk_at dksX4_take_1 9 rfl rfl)
theorem dX4_take_32 : decode cX4_take 32 = .ok (.putfield 25, 3) := dk_181 0 25 (dk_at dksX4_take_1 10 rfl rfl)
theorem dX4_take_35 : decode cX4_take 35 = .ok (.aload_n 0, 1) := dk_42 (dk_at dksX4_take_1 13 rfl rfl)
theorem dX4_take_36 : decode cX4_take 36 = .ok (.iload_n 3, 1) := dk_29 (dk_at dksX4_take_1 14 rfl rfl)
theorem dX4_take_37 : decode cX4_take 37 = .ok (.ifCond .le 7, 3) := dk_158 0 7 (dk_at dksX4_take_1 15 rfl rfl)
theorem dX4_take_40 : decode cX4_take 40 = .ok (.iload_n 2, 1) := dk_28 (dk_at dksX4_take_1 18 rfl rfl)
theorem dX4_take_41 : decode cX4_take 41 = .ok (.goto 7, 3) := dk_167 0 7 (dk_at dksX4_take_1 19 rfl rfl)
theorem dX4_take_44 : decode cX4_take 44 = .ok (.aload_n 0, 1) := dk_42 (dk_at dksX4_take_1 22 rfl rfl)
theorem dX4_take_45 : decode cX4_take 45 = .ok (.getfield 18, 3) := dk_180 0 18 (dk_at dksX4_take_2 0 rfl rfl)
theorem dX4_take_48 : decode cX4_take 48 = .ok (.putfield 18, 3) := dk_181 0 18 (dk_at dksX4_take_2 3 rfl rfl)
theorem dX4_take_51 : decode cX4_take 51 = .ok (.iload_n 3, 1) := dk_29 (dk_at dksX4_take_2 6 rfl rfl)
theorem dX4_take_52 : decode cX4_take 52 = .ok (.ireturn, 1) := dk_172 (dk_at dksX4_take_2 7 rfl rfl)
abbrev cX4_taken : ByteArray := prog_9_method_6_code
def yX4_taken : MethodName := ⟨RX4, "taken", "(II)I"⟩
def dkwX4_taken_0 : List UInt8 := [42, 27, 3, 28, 184, 0, 41, 183, 0, 47, 172]
abbrev dktX4_taken_0 : List UInt8 := dkwX4_taken_0 ++ []
theorem dksX4_taken_0 : cX4_taken.data.toList.drop 0 = dktX4_taken_0 := by decide +kernel
theorem dX4_taken_0 : decode cX4_taken 0 = .ok (.aload_n 0, 1) := dk_42 (dk_at dksX4_taken_0 0 rfl rfl)
theorem dX4_taken_1 : decode cX4_taken 1 = .ok (.iload_n 1, 1) := dk_27 (dk_at dksX4_taken_0 1 rfl rfl)
theorem dX4_taken_2 : decode cX4_taken 2 = .ok (.iconst 0, 1) := dk_3 (dk_at dksX4_taken_0 2 rfl rfl)
theorem dX4_taken_3 : decode cX4_taken 3 = .ok (.iload_n 2, 1) := dk_28 (dk_at dksX4_taken_0 3 rfl rfl)
theorem dX4_taken_4 : decode cX4_taken 4 = .ok (.invokestatic 41, 3) := dk_184 0 41 (dk_at dksX4_taken_0 4 rfl rfl)
theorem dX4_taken_7 : decode cX4_taken 7 = .ok (.invokespecial 47, 3) := dk_183 0 47 (dk_at dksX4_taken_0 7 rfl rfl)
theorem dX4_taken_10 : decode cX4_taken 10 = .ok (.ireturn, 1) := dk_172 (dk_at dksX4_taken_0 10 rfl rfl)
theorem q96 : (Jvm.Cond.initialized "SpoilMeadows$Meadow") ∈ lw_all := lw_g (lw_at lw_m1 23 rfl) rfl
theorem q512 : (Jvm.Cond.instantiable "SpoilMeadows$Meadow" (8 : Nat)) ∈ lw_all := lw_g (lw_at lw_m2 199 rfl) rfl
theorem q514 : (Jvm.Cond.instanceMethod ({ cls := "SpoilMeadows$Meadow", name := "<init>", desc := "()V" } : Jvm.MethodName)) ∈ lw_all := lw_g (lw_at lw_m2 201 rfl) rfl
theorem q515 : (Jvm.Cond.code ({ cls := "SpoilMeadows$Meadow", name := "<init>", desc := "()V" } : Jvm.MethodName) prog_9_method_1_code (1 : Nat) (Option.none : Option Jvm.ClassFile.FieldType)) ∈ lw_all := lw_g (lw_at lw_m2 202 rfl) rfl
theorem q516 : (Jvm.Cond.methodLinkNest "SpoilMeadows$Meadow" (3 : Nat) ({ cls := "SpoilMeadows$Hold", name := "<init>", desc := "()V" } : Jvm.MethodName) "SpoilMeadows") ∈ lw_tbl := lw_at lw_m2 203 rfl
theorem q520 : (Jvm.Cond.fieldLink "SpoilMeadows$Meadow" (9 : Nat) "SpoilMeadows$Meadow" "bound" "I") ∈ lw_all := lw_g (lw_at lw_m2 207 rfl) rfl
theorem q523 : (Jvm.Cond.fieldLink "SpoilMeadows$Meadow" (22 : Nat) "SpoilMeadows$Meadow" "spoil" "I") ∈ lw_all := lw_g (lw_at lw_m2 210 rfl) rfl
theorem q526 : (Jvm.Cond.fieldLink "SpoilMeadows$Meadow" (25 : Nat) "SpoilMeadows$Meadow" "wet" "I") ∈ lw_all := lw_g (lw_at lw_m2 213 rfl) rfl
theorem q529 : (Jvm.Cond.fieldLink "SpoilMeadows$Meadow" (28 : Nat) "SpoilMeadows$Meadow" "from" "I") ∈ lw_all := lw_g (lw_at lw_m2 216 rfl) rfl
theorem q531 : (Jvm.Cond.fieldLink "SpoilMeadows$Meadow" (15 : Nat) "SpoilMeadows$Meadow" "to" "I") ∈ lw_all := lw_g (lw_at lw_m2 218 rfl) rfl
theorem q533 : (Jvm.Cond.fieldLink "SpoilMeadows$Meadow" (31 : Nat) "SpoilMeadows$Meadow" "stoppedTo" "I") ∈ lw_all := lw_g (lw_at lw_m2 220 rfl) rfl
theorem q535 : (Jvm.Cond.fieldLink "SpoilMeadows$Meadow" (34 : Nat) "SpoilMeadows$Meadow" "period" "I") ∈ lw_all := lw_g (lw_at lw_m2 222 rfl) rfl
theorem q537 : (Jvm.Cond.fieldLink "SpoilMeadows$Meadow" (18 : Nat) "SpoilMeadows$Meadow" "laidOn" "I") ∈ lw_all := lw_g (lw_at lw_m2 224 rfl) rfl
theorem q539 : (Jvm.Cond.lays "SpoilMeadows$Meadow" "SpoilMeadows$Meadow" "bound" "I") ∈ lw_all := lw_g (lw_at lw_m2 226 rfl) rfl
theorem q540 : (Jvm.Cond.soleField "SpoilMeadows$Meadow" "bound") ∈ lw_all := lw_g (lw_at lw_m2 227 rfl) rfl
theorem q541 : (Jvm.Cond.lays "SpoilMeadows$Meadow" "SpoilMeadows$Meadow" "spoil" "I") ∈ lw_all := lw_g (lw_at lw_m2 228 rfl) rfl
theorem q542 : (Jvm.Cond.soleField "SpoilMeadows$Meadow" "spoil") ∈ lw_all := lw_g (lw_at lw_m2 229 rfl) rfl
theorem q543 : (Jvm.Cond.lays "SpoilMeadows$Meadow" "SpoilMeadows$Meadow" "wet" "I") ∈ lw_all := lw_g (lw_at lw_m2 230 rfl) rfl
theorem q544 : (Jvm.Cond.soleField "SpoilMeadows$Meadow" "wet") ∈ lw_all := lw_g (lw_at lw_m2 231 rfl) rfl
theorem q545 : (Jvm.Cond.lays "SpoilMeadows$Meadow" "SpoilMeadows$Meadow" "from" "I") ∈ lw_all := lw_g (lw_at lw_m2 232 rfl) rfl
theorem q546 : (Jvm.Cond.soleField "SpoilMeadows$Meadow" "from") ∈ lw_all := lw_g (lw_at lw_m2 233 rfl) rfl
theorem q547 : (Jvm.Cond.lays "SpoilMeadows$Meadow" "SpoilMeadows$Meadow" "to" "I") ∈ lw_all := lw_g (lw_at lw_m2 234 rfl) rfl
theorem q548 : (Jvm.Cond.soleField "SpoilMeadows$Meadow" "to") ∈ lw_all := lw_g (lw_at lw_m2 235 rfl) rfl
theorem q549 : (Jvm.Cond.lays "SpoilMeadows$Meadow" "SpoilMeadows$Meadow" "stoppedTo" "I") ∈ lw_all := lw_g (lw_at lw_m2 236 rfl) rfl
theorem q550 : (Jvm.Cond.soleField "SpoilMeadows$Meadow" "stoppedTo") ∈ lw_all := lw_g (lw_at lw_m2 237 rfl) rfl
theorem q551 : (Jvm.Cond.lays "SpoilMeadows$Meadow" "SpoilMeadows$Meadow" "period" "I") ∈ lw_all := lw_g (lw_at lw_m2 238 rfl) rfl
theorem q552 : (Jvm.Cond.soleField "SpoilMeadows$Meadow" "period") ∈ lw_all := lw_g (lw_at lw_m2 239 rfl) rfl
theorem q553 : (Jvm.Cond.lays "SpoilMeadows$Meadow" "SpoilMeadows$Meadow" "laidOn" "I") ∈ lw_all := lw_g (lw_at lw_m3 0 rfl) rfl
theorem q554 : (Jvm.Cond.soleField "SpoilMeadows$Meadow" "laidOn") ∈ lw_all := lw_g (lw_at lw_m3 1 rfl) rfl
theorem q555 : (Jvm.Cond.superclass "SpoilMeadows$Meadow" "SpoilMeadows$Hold") ∈ lw_all := lw_g (lw_at lw_m3 2 rfl) rfl
theorem q587 : (Jvm.Cond.selects "SpoilMeadows$Meadow" ({ cls := "java/lang/Object", name := "getClass", desc := "()Ljava/lang/Class;" } : Jvm.MethodName) ({ cls := "java/lang/Object", name := "getClass", desc := "()Ljava/lang/Class;" } : Jvm.MethodName)) ∈ lw_all := lw_g (lw_at lw_m3 34 rfl) rfl
theorem q944 : (Jvm.Cond.instanceMethod ({ cls := "SpoilMeadows$Meadow", name := "hasConsent", desc := "(I)Z" } : Jvm.MethodName)) ∈ lw_all := lw_g (lw_at lw_m4 151 rfl) rfl
theorem q945 : (Jvm.Cond.selects "SpoilMeadows$Meadow" ({ cls := "SpoilMeadows$Meadow", name := "hasConsent", desc := "(I)Z" } : Jvm.MethodName) ({ cls := "SpoilMeadows$Meadow", name := "hasConsent", desc := "(I)Z" } : Jvm.MethodName)) ∈ lw_all := lw_g (lw_at lw_m4 152 rfl) rfl
theorem q946 : (Jvm.Cond.code ({ cls := "SpoilMeadows$Meadow", name := "hasConsent", desc := "(I)Z" } : Jvm.MethodName) prog_9_method_3_code (2 : Nat) (Option.some Jvm.ClassFile.FieldType.boolean)) ∈ lw_all := lw_g (lw_at lw_m4 153 rfl) rfl
theorem q947 : (Jvm.Cond.methodLinkNest "SpoilMeadows$Meadow" (37 : Nat) ({ cls := "SpoilMeadows", name := "inRange", desc := "(III)Z" } : Jvm.MethodName) "SpoilMeadows") ∈ lw_tbl := lw_at lw_m4 154 rfl
theorem q949 : (Jvm.Cond.instanceMethod ({ cls := "SpoilMeadows$Meadow", name := "isStopped", desc := "(I)Z" } : Jvm.MethodName)) ∈ lw_all := lw_g (lw_at lw_m4 156 rfl) rfl
theorem q950 : (Jvm.Cond.selects "SpoilMeadows$Meadow" ({ cls := "SpoilMeadows$Meadow", name := "isStopped", desc := "(I)Z" } : Jvm.MethodName) ({ cls := "SpoilMeadows$Meadow", name := "isStopped", desc := "(I)Z" } : Jvm.MethodName)) ∈ lw_all := lw_g (lw_at lw_m4 157 rfl) rfl
theorem q951 : (Jvm.Cond.code ({ cls := "SpoilMeadows$Meadow", name := "isStopped", desc := "(I)Z" } : Jvm.MethodName) prog_9_method_4_code (2 : Nat) (Option.some Jvm.ClassFile.FieldType.boolean)) ∈ lw_all := lw_g (lw_at lw_m4 158 rfl) rfl
theorem q1038 : (Jvm.Cond.instanceMethod ({ cls := "SpoilMeadows$Meadow", name := "twin", desc := "()LSpoilMeadows$Meadow;" } : Jvm.MethodName)) ∈ lw_all := lw_g (lw_at lw_m5 5 rfl) rfl
theorem q1039 : (Jvm.Cond.selects "SpoilMeadows$Meadow" ({ cls := "SpoilMeadows$Meadow", name := "twin", desc := "()LSpoilMeadows$Meadow;" } : Jvm.MethodName) ({ cls := "SpoilMeadows$Meadow", name := "twin", desc := "()LSpoilMeadows$Meadow;" } : Jvm.MethodName)) ∈ lw_all := lw_g (lw_at lw_m5 6 rfl) rfl
theorem q1040 : (Jvm.Cond.code ({ cls := "SpoilMeadows$Meadow", name := "twin", desc := "()LSpoilMeadows$Meadow;" } : Jvm.MethodName) prog_9_method_2_code (2 : Nat) (Option.some (Jvm.ClassFile.FieldType.object "SpoilMeadows$Meadow"))) ∈ lw_all := lw_g (lw_at lw_m5 7 rfl) rfl
theorem q1041 : (Jvm.Cond.classLink "SpoilMeadows$Meadow" (10 : Nat) "SpoilMeadows$Meadow") ∈ lw_all := lw_g (lw_at lw_m5 8 rfl) rfl
theorem q1042 : (Jvm.Cond.methodLink "SpoilMeadows$Meadow" (21 : Nat) ({ cls := "SpoilMeadows$Meadow", name := "<init>", desc := "()V" } : Jvm.MethodName)) ∈ lw_all := lw_g (lw_at lw_m5 9 rfl) rfl
theorem q1056 : (Jvm.Cond.instanceMethod ({ cls := "SpoilMeadows$Meadow", name := "hasShift", desc := "(I)Z" } : Jvm.MethodName)) ∈ lw_all := lw_g (lw_at lw_m5 23 rfl) rfl
theorem q1057 : (Jvm.Cond.selects "SpoilMeadows$Meadow" ({ cls := "SpoilMeadows$Meadow", name := "hasShift", desc := "(I)Z" } : Jvm.MethodName) ({ cls := "SpoilMeadows$Meadow", name := "hasShift", desc := "(I)Z" } : Jvm.MethodName)) ∈ lw_all := lw_g (lw_at lw_m5 24 rfl) rfl
theorem q1058 : (Jvm.Cond.code ({ cls := "SpoilMeadows$Meadow", name := "hasShift", desc := "(I)Z" } : Jvm.MethodName) prog_9_method_5_code (2 : Nat) (Option.some Jvm.ClassFile.FieldType.boolean)) ∈ lw_all := lw_g (lw_at lw_m5 25 rfl) rfl
theorem q1081 : (Jvm.Cond.instanceMethod ({ cls := "SpoilMeadows$Meadow", name := "take", desc := "(II)I" } : Jvm.MethodName)) ∈ lw_all := lw_g (lw_at lw_m5 48 rfl) rfl
theorem q1082 : (Jvm.Cond.selects "SpoilMeadows$Meadow" ({ cls := "SpoilMeadows$Meadow", name := "take", desc := "(II)I" } : Jvm.MethodName) ({ cls := "SpoilMeadows$Meadow", name := "take", desc := "(II)I" } : Jvm.MethodName)) ∈ lw_all := lw_g (lw_at lw_m5 49 rfl) rfl
theorem q1083 : (Jvm.Cond.code ({ cls := "SpoilMeadows$Meadow", name := "take", desc := "(II)I" } : Jvm.MethodName) prog_9_method_7_code (4 : Nat) (Option.some Jvm.ClassFile.FieldType.int)) ∈ lw_all := lw_g (lw_at lw_m5 50 rfl) rfl
theorem q1084 : (Jvm.Cond.methodLink "SpoilMeadows$Meadow" (50 : Nat) ({ cls := "SpoilMeadows$Meadow", name := "taken", desc := "(II)I" } : Jvm.MethodName)) ∈ lw_all := lw_g (lw_at lw_m5 51 rfl) rfl
theorem q1085 : (Jvm.Cond.instanceMethod ({ cls := "SpoilMeadows$Meadow", name := "taken", desc := "(II)I" } : Jvm.MethodName)) ∈ lw_all := lw_g (lw_at lw_m5 52 rfl) rfl
theorem q1086 : (Jvm.Cond.selects "SpoilMeadows$Meadow" ({ cls := "SpoilMeadows$Meadow", name := "taken", desc := "(II)I" } : Jvm.MethodName) ({ cls := "SpoilMeadows$Meadow", name := "taken", desc := "(II)I" } : Jvm.MethodName)) ∈ lw_all := lw_g (lw_at lw_m5 53 rfl) rfl
theorem q1087 : (Jvm.Cond.code ({ cls := "SpoilMeadows$Meadow", name := "taken", desc := "(II)I" } : Jvm.MethodName) prog_9_method_6_code (3 : Nat) (Option.some Jvm.ClassFile.FieldType.int)) ∈ lw_all := lw_g (lw_at lw_m5 54 rfl) rfl
theorem q1088 : (Jvm.Cond.methodLink "SpoilMeadows$Meadow" (41 : Nat) ({ cls := "java/lang/Math", name := "max", desc := "(II)I" } : Jvm.MethodName)) ∈ lw_all := lw_g (lw_at lw_m5 55 rfl) rfl
theorem q1978 : (Jvm.Cond.castable "SpoilMeadows$Meadow" "java/lang/Object") ∈ lw_tbl := lw_at lw_m8 225 rfl
theorem in_X4 : ∀ w ∈ wsX40, w ∈ lw_all := lw_in wsX40 [539, 541, 543, 545, 547, 549, 551, 553] (by decide +kernel) (by decide +kernel)

/-! SpoilMeadows$Sum -/
set_option maxRecDepth 100000
def RX5 : String := "SpoilMeadows$Sum"
abbrev cX5_init : ByteArray := prog_13_method_1_code
def yX5_init : MethodName := ⟨RX5, "<init>", "()V"⟩
theorem dX5_init_0 : decode cX5_init 0 = .ok (.aload_n 0, 1) := by decide +kernel
theorem dX5_init_1 : decode cX5_init 1 = .ok (.invokespecial 1, 3) := by decide +kernel
theorem dX5_init_4 : decode cX5_init 4 = .ok (.return_, 1) := by decide +kernel
abbrev cX5_over : ByteArray := prog_13_method_3_code
def yX5_over : MethodName := ⟨RX5, "over", "(LSpoilMeadows$State;)I"⟩
def dkwX5_over_1 : List UInt8 := [182, 0, 20, 182, 0, 24, 96, 61, 167, 255, 235, 28, 172]
abbrev dktX5_over_1 : List UInt8 := dkwX5_over_1 ++ []
def dkwX5_over_0 : List UInt8 := [3, 61, 187, 0, 7, 89, 43, 183, 0, 9, 78, 45, 182, 0, 12, 153, 0, 20, 28, 42, 45, 182, 0, 16]
abbrev dktX5_over_0 : List UInt8 := dkwX5_over_0 ++ dktX5_over_1
theorem dksX5_over_0 : cX5_over.data.toList.drop 0 = dktX5_over_0 := by decide +kernel
theorem dksX5_over_1 : cX5_over.data.toList.drop 24 = dktX5_over_1 := dk_seg dksX5_over_0 24 rfl rfl
theorem dX5_over_0 : decode cX5_over 0 = .ok (.iconst 0, 1) := dk_3 (dk_at dksX5_over_0 0 rfl rfl)
theorem dX5_over_1 : decode cX5_over 1 = .ok (.istore_n 2, 1) := dk_61 (dk_at dksX5_over_0 1 rfl rfl)
theorem dX5_over_2 : decode cX5_over 2 = .ok (.new 7, 3) := dk_187 0 7 (dk_at dksX5_over_0 2 rfl rfl)
theorem dX5_over_5 : decode cX5_over 5 = .ok (.dup, 1) := dk_89 (dk_at dksX5_over_0 5 rfl rfl)
theorem dX5_over_6 : decode cX5_over 6 = .ok (.aload_n 1, 1) := dk_43 (dk_at dksX5_over_0 6 rfl rfl)
theorem dX5_over_7 : decode cX5_over 7 = .ok (.invokespecial 9, 3) := dk_183 0 9 (dk_at dksX5_over_0 7 rfl rfl)
theorem dX5_over_10 : decode cX5_over 10 = .ok (.astore_n 3, 1) := dk_78 (dk_at dksX5_over_0 10 rfl rfl)
theorem dX5_over_11 : decode cX5_over 11 = .ok (.aload_n 3, 1) := dk_45 (dk_at dksX5_over_0 11 rfl rfl)
theorem dX5_over_12 : decode cX5_over 12 = .ok (.invokevirtual 12, 3) := dk_182 0 12 (dk_at dksX5_over_0 12 rfl rfl)
theorem dX5_over_15 : decode cX5_over 15 = .ok (.ifCond .eq 20, 3) := dk_153 0 20 (dk_at dksX5_over_0 15 rfl rfl)
theorem dX5_over_18 : decode cX5_over 18 = .ok (.iload_n 2, 1) := dk_28 (dk_at dksX5_over_0 18 rfl rfl)
theorem dX5_over_19 : decode cX5_over 19 = .ok (.aload_n 0, 1) := dk_42 (dk_at dksX5_over_0 19 rfl rfl)
theorem dX5_over_20 : decode cX5_over 20 = .ok (.aload_n 3, 1) := dk_45 (dk_at dksX5_over_0 20 rfl rfl)
theorem dX5_over_21 : decode cX5_over 21 = .ok (.invokevirtual 16, 3) := dk_182 0 16 (dk_at dksX5_over_0 21 rfl rfl)
theorem dX5_over_24 : decode cX5_over 24 = .ok (.invokevirtual 20, 3) := dk_182 0 20 (dk_at dksX5_over_1 0 rfl rfl)
theorem dX5_over_27 : decode cX5_over 27 = .ok (.invokevirtual 24, 3) := dk_182 0 24 (dk_at dksX5_over_1 3 rfl rfl)
theorem dX5_over_30 : decode cX5_over 30 = .ok (.iadd, 1) := dk_96 (dk_at dksX5_over_1 6 rfl rfl)
theorem dX5_over_31 : decode cX5_over 31 = .ok (.istore_n 2, 1) := dk_61 (dk_at dksX5_over_1 7 rfl rfl)
theorem dX5_over_32 : decode cX5_over 32 = .ok (.goto (-21), 3) := dk_167 255 235 (dk_at dksX5_over_1 8 rfl rfl)
theorem dX5_over_35 : decode cX5_over 35 = .ok (.iload_n 2, 1) := dk_28 (dk_at dksX5_over_1 11 rfl rfl)
theorem dX5_over_36 : decode cX5_over 36 = .ok (.ireturn, 1) := dk_172 (dk_at dksX5_over_1 12 rfl rfl)
theorem q98 : (Jvm.Cond.initialized "SpoilMeadows$Sum") ∈ lw_all := lw_g (lw_at lw_m1 25 rfl) rfl
theorem q636 : (Jvm.Cond.instanceMethod ({ cls := "SpoilMeadows$Sum", name := "<init>", desc := "()V" } : Jvm.MethodName)) ∈ lw_all := lw_g (lw_at lw_m3 83 rfl) rfl
theorem q637 : (Jvm.Cond.code ({ cls := "SpoilMeadows$Sum", name := "<init>", desc := "()V" } : Jvm.MethodName) prog_13_method_1_code (1 : Nat) (Option.none : Option Jvm.ClassFile.FieldType)) ∈ lw_all := lw_g (lw_at lw_m3 84 rfl) rfl
theorem q638 : (Jvm.Cond.methodLink "SpoilMeadows$Sum" (1 : Nat) ({ cls := "java/lang/Object", name := "<init>", desc := "()V" } : Jvm.MethodName)) ∈ lw_all := lw_g (lw_at lw_m3 85 rfl) rfl
theorem q683 : (Jvm.Cond.instanceMethod ({ cls := "SpoilMeadows$Sum", name := "over", desc := "(LSpoilMeadows$State;)I" } : Jvm.MethodName)) ∈ lw_all := lw_g (lw_at lw_m3 130 rfl) rfl
theorem q684 : (Jvm.Cond.sameMethod "SpoilMeadows$Sum" "SpoilMeadows$Sum" "over" "(LSpoilMeadows$State;)I") ∈ lw_all := lw_g (lw_at lw_m3 131 rfl) rfl
theorem q688 : (Jvm.Cond.code ({ cls := "SpoilMeadows$Sum", name := "over", desc := "(LSpoilMeadows$State;)I" } : Jvm.MethodName) prog_13_method_3_code (4 : Nat) (Option.some Jvm.ClassFile.FieldType.int)) ∈ lw_all := lw_g (lw_at lw_m3 135 rfl) rfl
theorem q689 : (Jvm.Cond.classLink "SpoilMeadows$Sum" (7 : Nat) "SpoilMeadows$Each") ∈ lw_all := lw_g (lw_at lw_m3 136 rfl) rfl
theorem q691 : (Jvm.Cond.methodLink "SpoilMeadows$Sum" (9 : Nat) ({ cls := "SpoilMeadows$Each", name := "<init>", desc := "(LSpoilMeadows$State;)V" } : Jvm.MethodName)) ∈ lw_all := lw_g (lw_at lw_m3 138 rfl) rfl
theorem q702 : (Jvm.Cond.methodLink "SpoilMeadows$Sum" (12 : Nat) ({ cls := "SpoilMeadows$Each", name := "hasNext", desc := "()Z" } : Jvm.MethodName)) ∈ lw_all := lw_g (lw_at lw_m3 149 rfl) rfl
theorem q710 : (Jvm.Cond.methodLink "SpoilMeadows$Sum" (16 : Nat) ({ cls := "SpoilMeadows$Each", name := "next", desc := "()LSpoilMeadows$Each;" } : Jvm.MethodName)) ∈ lw_all := lw_g (lw_at lw_m3 157 rfl) rfl
theorem q714 : (Jvm.Cond.methodLink "SpoilMeadows$Sum" (20 : Nat) ({ cls := "SpoilMeadows$Each", name := "reached", desc := "()LSpoilMeadows$Barge;" } : Jvm.MethodName)) ∈ lw_all := lw_g (lw_at lw_m3 161 rfl) rfl
theorem q720 : (Jvm.Cond.methodLink "SpoilMeadows$Sum" (24 : Nat) ({ cls := "SpoilMeadows$Sum", name := "of", desc := "(LSpoilMeadows$Barge;)I" } : Jvm.MethodName)) ∈ lw_all := lw_g (lw_at lw_m3 167 rfl) rfl
theorem q721 : (Jvm.Cond.declares ({ cls := "SpoilMeadows$Sum", name := "of", desc := "(LSpoilMeadows$Barge;)I" } : Jvm.MethodName)) ∈ lw_tbl := lw_at lw_m3 168 rfl
theorem q722 : (Jvm.Cond.sameMethod "SpoilMeadows$Sum" "SpoilMeadows$Sum" "of" "(LSpoilMeadows$Barge;)I") ∈ lw_all := lw_g (lw_at lw_m3 169 rfl) rfl
theorem q1165 : (Jvm.Cond.declares ({ cls := "SpoilMeadows$Sum", name := "over", desc := "(LSpoilMeadows$State;)I" } : Jvm.MethodName)) ∈ lw_tbl := lw_at lw_m5 132 rfl

/-! SpoilMeadows$1 -/
set_option maxRecDepth 100000
def RX6 : String := "SpoilMeadows$1"
def TX6 : u_T := fun k => match k with
  | _ => ("SpoilMeadows$1", "this$0", "LSpoilMeadows;", true)
def tyX6 : Nat → FieldType := fun k => match k with
  | _ => .object "SpoilMeadows"
abbrev wsX60 : List Cond := u_ws RX6 TX6 1
theorem nmX6 : ∀ a, a < 1 → ∀ b, b < 1 → a ≠ b → (TX6 a).2.1 ≠ (TX6 b).2.1 := by decide +kernel
theorem tyX6_ok : ∀ k, k < 1 → parseFieldDescriptor (TX6 k).2.2.1 = some (tyX6 k) := by decide +kernel
abbrev cX6_init : ByteArray := prog_2_method_1_code
def yX6_init : MethodName := ⟨RX6, "<init>", "(LSpoilMeadows;)V"⟩
def dkwX6_init_0 : List UInt8 := [42, 43, 181, 0, 1, 42, 183, 0, 7, 177]
abbrev dktX6_init_0 : List UInt8 := dkwX6_init_0 ++ []
theorem dksX6_init_0 : cX6_init.data.toList.drop 0 = dktX6_init_0 := by decide +kernel
theorem dX6_init_0 : decode cX6_init 0 = .ok (.aload_n 0, 1) := dk_42 (dk_at dksX6_init_0 0 rfl rfl)
theorem dX6_init_1 : decode cX6_init 1 = .ok (.aload_n 1, 1) := dk_43 (dk_at dksX6_init_0 1 rfl rfl)
theorem dX6_init_2 : decode cX6_init 2 = .ok (.putfield 1, 3) := dk_181 0 1 (dk_at dksX6_init_0 2 rfl rfl)
theorem dX6_init_5 : decode cX6_init 5 = .ok (.aload_n 0, 1) := dk_42 (dk_at dksX6_init_0 5 rfl rfl)
theorem dX6_init_6 : decode cX6_init 6 = .ok (.invokespecial 7, 3) := dk_183 0 7 (dk_at dksX6_init_0 6 rfl rfl)
theorem dX6_init_9 : decode cX6_init 9 = .ok (.return_, 1) := dk_177 (dk_at dksX6_init_0 9 rfl rfl)
abbrev cX6_of : ByteArray := prog_2_method_2_code
def yX6_of : MethodName := ⟨RX6, "of", "(LSpoilMeadows$Barge;)I"⟩
theorem dX6_of_0 : decode cX6_of 0 = .ok (.aload_n 1, 1) := by decide +kernel
theorem dX6_of_1 : decode cX6_of 1 = .ok (.getfield 13, 3) := by decide +kernel
theorem dX6_of_4 : decode cX6_of 4 = .ok (.ireturn, 1) := by decide +kernel
theorem q99 : (Jvm.Cond.initialized "SpoilMeadows$1") ∈ lw_all := lw_g (lw_at lw_m1 26 rfl) rfl
theorem q582 : (Jvm.Cond.selects "SpoilMeadows$1" ({ cls := "java/lang/Object", name := "getClass", desc := "()Ljava/lang/Class;" } : Jvm.MethodName) ({ cls := "java/lang/Object", name := "getClass", desc := "()Ljava/lang/Class;" } : Jvm.MethodName)) ∈ lw_all := lw_g (lw_at lw_m3 29 rfl) rfl
theorem q631 : (Jvm.Cond.instantiable "SpoilMeadows$1" (1 : Nat)) ∈ lw_all := lw_g (lw_at lw_m3 78 rfl) rfl
theorem q633 : (Jvm.Cond.instanceMethod ({ cls := "SpoilMeadows$1", name := "<init>", desc := "(LSpoilMeadows;)V" } : Jvm.MethodName)) ∈ lw_all := lw_g (lw_at lw_m3 80 rfl) rfl
theorem q634 : (Jvm.Cond.code ({ cls := "SpoilMeadows$1", name := "<init>", desc := "(LSpoilMeadows;)V" } : Jvm.MethodName) prog_2_method_1_code (2 : Nat) (Option.none : Option Jvm.ClassFile.FieldType)) ∈ lw_all := lw_g (lw_at lw_m3 81 rfl) rfl
theorem q635 : (Jvm.Cond.methodLinkNest "SpoilMeadows$1" (7 : Nat) ({ cls := "SpoilMeadows$Sum", name := "<init>", desc := "()V" } : Jvm.MethodName) "SpoilMeadows") ∈ lw_tbl := lw_at lw_m3 82 rfl
theorem q639 : (Jvm.Cond.fieldLink "SpoilMeadows$1" (1 : Nat) "SpoilMeadows$1" "this$0" "LSpoilMeadows;") ∈ lw_all := lw_g (lw_at lw_m3 86 rfl) rfl
theorem q640 : (Jvm.Cond.laysFinal "SpoilMeadows$1" "SpoilMeadows$1" "this$0" "LSpoilMeadows;") ∈ lw_all := lw_g (lw_at lw_m3 87 rfl) rfl
theorem q641 : (Jvm.Cond.soleField "SpoilMeadows$1" "this$0") ∈ lw_all := lw_g (lw_at lw_m3 88 rfl) rfl
theorem q642 : (Jvm.Cond.superclass "SpoilMeadows$1" "SpoilMeadows$Sum") ∈ lw_all := lw_g (lw_at lw_m3 89 rfl) rfl
theorem q685 : (Jvm.Cond.selects "SpoilMeadows$1" ({ cls := "SpoilMeadows$Sum", name := "over", desc := "(LSpoilMeadows$State;)I" } : Jvm.MethodName) ({ cls := "SpoilMeadows$Sum", name := "over", desc := "(LSpoilMeadows$State;)I" } : Jvm.MethodName)) ∈ lw_all := lw_g (lw_at lw_m3 132 rfl) rfl
theorem q723 : (Jvm.Cond.selects "SpoilMeadows$1" ({ cls := "SpoilMeadows$Sum", name := "of", desc := "(LSpoilMeadows$Barge;)I" } : Jvm.MethodName) ({ cls := "SpoilMeadows$1", name := "of", desc := "(LSpoilMeadows$Barge;)I" } : Jvm.MethodName)) ∈ lw_all := lw_g (lw_at lw_m3 170 rfl) rfl
theorem q724 : (Jvm.Cond.instanceMethod ({ cls := "SpoilMeadows$1", name := "of", desc := "(LSpoilMeadows$Barge;)I" } : Jvm.MethodName)) ∈ lw_all := lw_g (lw_at lw_m3 171 rfl) rfl
theorem q725 : (Jvm.Cond.code ({ cls := "SpoilMeadows$1", name := "of", desc := "(LSpoilMeadows$Barge;)I" } : Jvm.MethodName) prog_2_method_2_code (2 : Nat) (Option.some Jvm.ClassFile.FieldType.int)) ∈ lw_all := lw_g (lw_at lw_m3 172 rfl) rfl
theorem q1005 : (Jvm.Cond.fieldLinkNest "SpoilMeadows$1" (13 : Nat) "SpoilMeadows$Barge" "load" "I" "SpoilMeadows") ∈ lw_tbl := lw_at lw_m4 212 rfl
theorem q1980 : (Jvm.Cond.castable "SpoilMeadows$1" "java/lang/Object") ∈ lw_tbl := lw_at lw_m8 227 rfl
theorem in_X6 : ∀ w ∈ wsX60, w ∈ lw_all := lw_in wsX60 [640] (by decide +kernel) (by decide +kernel)

/-! SpoilMeadows$2 -/
set_option maxRecDepth 100000
def RX7 : String := "SpoilMeadows$2"
def TX7 : u_T := fun k => match k with
  | _ => ("SpoilMeadows$2", "this$0", "LSpoilMeadows;", true)
def tyX7 : Nat → FieldType := fun k => match k with
  | _ => .object "SpoilMeadows"
abbrev wsX70 : List Cond := u_ws RX7 TX7 1
theorem nmX7 : ∀ a, a < 1 → ∀ b, b < 1 → a ≠ b → (TX7 a).2.1 ≠ (TX7 b).2.1 := by decide +kernel
theorem tyX7_ok : ∀ k, k < 1 → parseFieldDescriptor (TX7 k).2.2.1 = some (tyX7 k) := by decide +kernel
abbrev cX7_init : ByteArray := prog_4_method_1_code
def yX7_init : MethodName := ⟨RX7, "<init>", "(LSpoilMeadows;)V"⟩
def dkwX7_init_0 : List UInt8 := [42, 43, 181, 0, 1, 42, 183, 0, 7, 177]
abbrev dktX7_init_0 : List UInt8 := dkwX7_init_0 ++ []
theorem dksX7_init_0 : cX7_init.data.toList.drop 0 = dktX7_init_0 := by decide +kernel
theorem dX7_init_0 : decode cX7_init 0 = .ok (.aload_n 0, 1) := dk_42 (dk_at dksX7_init_0 0 rfl rfl)
theorem dX7_init_1 : decode cX7_init 1 = .ok (.aload_n 1, 1) := dk_43 (dk_at dksX7_init_0 1 rfl rfl)
theorem dX7_init_2 : decode cX7_init 2 = .ok (.putfield 1, 3) := dk_181 0 1 (dk_at dksX7_init_0 2 rfl rfl)
theorem dX7_init_5 : decode cX7_init 5 = .ok (.aload_n 0, 1) := dk_42 (dk_at dksX7_init_0 5 rfl rfl)
theorem dX7_init_6 : decode cX7_init 6 = .ok (.invokespecial 7, 3) := dk_183 0 7 (dk_at dksX7_init_0 6 rfl rfl)
theorem dX7_init_9 : decode cX7_init 9 = .ok (.return_, 1) := dk_177 (dk_at dksX7_init_0 9 rfl rfl)
abbrev cX7_of : ByteArray := prog_4_method_2_code
def yX7_of : MethodName := ⟨RX7, "of", "(LSpoilMeadows$Barge;)I"⟩
theorem dX7_of_0 : decode cX7_of 0 = .ok (.aload_n 1, 1) := by decide +kernel
theorem dX7_of_1 : decode cX7_of 1 = .ok (.getfield 13, 3) := by decide +kernel
theorem dX7_of_4 : decode cX7_of 4 = .ok (.ireturn, 1) := by decide +kernel
theorem q100 : (Jvm.Cond.initialized "SpoilMeadows$2") ∈ lw_all := lw_g (lw_at lw_m1 27 rfl) rfl
theorem q584 : (Jvm.Cond.selects "SpoilMeadows$2" ({ cls := "java/lang/Object", name := "getClass", desc := "()Ljava/lang/Class;" } : Jvm.MethodName) ({ cls := "java/lang/Object", name := "getClass", desc := "()Ljava/lang/Class;" } : Jvm.MethodName)) ∈ lw_all := lw_g (lw_at lw_m3 31 rfl) rfl
theorem q644 : (Jvm.Cond.instantiable "SpoilMeadows$2" (1 : Nat)) ∈ lw_all := lw_g (lw_at lw_m3 91 rfl) rfl
theorem q646 : (Jvm.Cond.instanceMethod ({ cls := "SpoilMeadows$2", name := "<init>", desc := "(LSpoilMeadows;)V" } : Jvm.MethodName)) ∈ lw_all := lw_g (lw_at lw_m3 93 rfl) rfl
theorem q647 : (Jvm.Cond.code ({ cls := "SpoilMeadows$2", name := "<init>", desc := "(LSpoilMeadows;)V" } : Jvm.MethodName) prog_4_method_1_code (2 : Nat) (Option.none : Option Jvm.ClassFile.FieldType)) ∈ lw_all := lw_g (lw_at lw_m3 94 rfl) rfl
theorem q648 : (Jvm.Cond.methodLinkNest "SpoilMeadows$2" (7 : Nat) ({ cls := "SpoilMeadows$Sum", name := "<init>", desc := "()V" } : Jvm.MethodName) "SpoilMeadows") ∈ lw_tbl := lw_at lw_m3 95 rfl
theorem q649 : (Jvm.Cond.fieldLink "SpoilMeadows$2" (1 : Nat) "SpoilMeadows$2" "this$0" "LSpoilMeadows;") ∈ lw_all := lw_g (lw_at lw_m3 96 rfl) rfl
theorem q650 : (Jvm.Cond.laysFinal "SpoilMeadows$2" "SpoilMeadows$2" "this$0" "LSpoilMeadows;") ∈ lw_all := lw_g (lw_at lw_m3 97 rfl) rfl
theorem q651 : (Jvm.Cond.soleField "SpoilMeadows$2" "this$0") ∈ lw_all := lw_g (lw_at lw_m3 98 rfl) rfl
theorem q652 : (Jvm.Cond.superclass "SpoilMeadows$2" "SpoilMeadows$Sum") ∈ lw_all := lw_g (lw_at lw_m3 99 rfl) rfl
theorem q687 : (Jvm.Cond.selects "SpoilMeadows$2" ({ cls := "SpoilMeadows$Sum", name := "over", desc := "(LSpoilMeadows$State;)I" } : Jvm.MethodName) ({ cls := "SpoilMeadows$Sum", name := "over", desc := "(LSpoilMeadows$State;)I" } : Jvm.MethodName)) ∈ lw_all := lw_g (lw_at lw_m3 134 rfl) rfl
theorem q732 : (Jvm.Cond.selects "SpoilMeadows$2" ({ cls := "SpoilMeadows$Sum", name := "of", desc := "(LSpoilMeadows$Barge;)I" } : Jvm.MethodName) ({ cls := "SpoilMeadows$2", name := "of", desc := "(LSpoilMeadows$Barge;)I" } : Jvm.MethodName)) ∈ lw_all := lw_g (lw_at lw_m3 179 rfl) rfl
theorem q733 : (Jvm.Cond.instanceMethod ({ cls := "SpoilMeadows$2", name := "of", desc := "(LSpoilMeadows$Barge;)I" } : Jvm.MethodName)) ∈ lw_all := lw_g (lw_at lw_m3 180 rfl) rfl
theorem q734 : (Jvm.Cond.code ({ cls := "SpoilMeadows$2", name := "of", desc := "(LSpoilMeadows$Barge;)I" } : Jvm.MethodName) prog_4_method_2_code (2 : Nat) (Option.some Jvm.ClassFile.FieldType.int)) ∈ lw_all := lw_g (lw_at lw_m3 181 rfl) rfl
theorem q1017 : (Jvm.Cond.fieldLinkNest "SpoilMeadows$2" (13 : Nat) "SpoilMeadows$Barge" "laid" "I" "SpoilMeadows") ∈ lw_tbl := lw_at lw_m4 224 rfl
theorem q1981 : (Jvm.Cond.castable "SpoilMeadows$2" "java/lang/Object") ∈ lw_tbl := lw_at lw_m8 228 rfl
theorem in_X7 : ∀ w ∈ wsX70, w ∈ lw_all := lw_in wsX70 [650] (by decide +kernel) (by decide +kernel)

/-! SpoilMeadows$Each -/
set_option maxRecDepth 100000
def RX8 : String := "SpoilMeadows$Each"
def TX8 : u_T := fun k => match k with
  | 0 => ("SpoilMeadows$Each", "of", "LSpoilMeadows$State;", true)
  | _ => ("SpoilMeadows$Each", "next", "I", false)
def tyX8 : Nat → FieldType := fun k => match k with
  | 0 => .object "SpoilMeadows$State"
  | _ => .int
abbrev wsX80 : List Cond := u_ws RX8 TX8 2
theorem nmX8 : ∀ a, a < 2 → ∀ b, b < 2 → a ≠ b → (TX8 a).2.1 ≠ (TX8 b).2.1 := by decide +kernel
theorem tyX8_ok : ∀ k, k < 2 → parseFieldDescriptor (TX8 k).2.2.1 = some (tyX8 k) := by decide +kernel
abbrev cX8_init : ByteArray := prog_6_method_1_code
def yX8_init : MethodName := ⟨RX8, "<init>", "(LSpoilMeadows$State;)V"⟩
def dkwX8_init_0 : List UInt8 := [42, 183, 0, 1, 42, 43, 181, 0, 7, 177]
abbrev dktX8_init_0 : List UInt8 := dkwX8_init_0 ++ []
theorem dksX8_init_0 : cX8_init.data.toList.drop 0 = dktX8_init_0 := by decide +kernel
theorem dX8_init_0 : decode cX8_init 0 = .ok (.aload_n 0, 1) := dk_42 (dk_at dksX8_init_0 0 rfl rfl)
theorem dX8_init_1 : decode cX8_init 1 = .ok (.invokespecial 1, 3) := dk_183 0 1 (dk_at dksX8_init_0 1 rfl rfl)
theorem dX8_init_4 : decode cX8_init 4 = .ok (.aload_n 0, 1) := dk_42 (dk_at dksX8_init_0 4 rfl rfl)
theorem dX8_init_5 : decode cX8_init 5 = .ok (.aload_n 1, 1) := dk_43 (dk_at dksX8_init_0 5 rfl rfl)
theorem dX8_init_6 : decode cX8_init 6 = .ok (.putfield 7, 3) := dk_181 0 7 (dk_at dksX8_init_0 6 rfl rfl)
theorem dX8_init_9 : decode cX8_init 9 = .ok (.return_, 1) := dk_177 (dk_at dksX8_init_0 9 rfl rfl)
abbrev cX8_hasNext : ByteArray := prog_6_method_2_code
def yX8_hasNext : MethodName := ⟨RX8, "hasNext", "()Z"⟩
def dkwX8_hasNext_0 : List UInt8 := [42, 180, 0, 13, 42, 180, 0, 7, 180, 0, 17, 182, 0, 23, 162, 0, 7, 4, 167, 0, 4, 3, 172]
abbrev dktX8_hasNext_0 : List UInt8 := dkwX8_hasNext_0 ++ []
theorem dksX8_hasNext_0 : cX8_hasNext.data.toList.drop 0 = dktX8_hasNext_0 := by decide +kernel
theorem dX8_hasNext_0 : decode cX8_hasNext 0 = .ok (.aload_n 0, 1) := dk_42 (dk_at dksX8_hasNext_0 0 rfl rfl)
theorem dX8_hasNext_1 : decode cX8_hasNext 1 = .ok (.getfield 13, 3) := dk_180 0 13 (dk_at dksX8_hasNext_0 1 rfl rfl)
theorem dX8_hasNext_4 : decode cX8_hasNext 4 = .ok (.aload_n 0, 1) := dk_42 (dk_at dksX8_hasNext_0 4 rfl rfl)
theorem dX8_hasNext_5 : decode cX8_hasNext 5 = .ok (.getfield 7, 3) := dk_180 0 7 (dk_at dksX8_hasNext_0 5 rfl rfl)
theorem dX8_hasNext_8 : decode cX8_hasNext 8 = .ok (.getfield 17, 3) := dk_180 0 17 (dk_at dksX8_hasNext_0 8 rfl rfl)
theorem dX8_hasNext_11 : decode cX8_hasNext 11 = .ok (.invokevirtual 23, 3) := dk_182 0 23 (dk_at dksX8_hasNext_0 11 rfl rfl)
theorem dX8_hasNext_14 : decode cX8_hasNext 14 = .ok (.if_icmp .ge 7, 3) := dk_162 0 7 (dk_at dksX8_hasNext_0 14 rfl rfl)
theorem dX8_hasNext_17 : decode cX8_hasNext 17 = .ok (.iconst 1, 1) := dk_4 (dk_at dksX8_hasNext_0 17 rfl rfl)
theorem dX8_hasNext_18 : decode cX8_hasNext 18 = .ok (.goto 4, 3) := dk_167 0 4 (dk_at dksX8_hasNext_0 18 rfl rfl)
theorem dX8_hasNext_21 : decode cX8_hasNext 21 = .ok (.iconst 0, 1) := dk_3 (dk_at dksX8_hasNext_0 21 rfl rfl)
theorem dX8_hasNext_22 : decode cX8_hasNext 22 = .ok (.ireturn, 1) := dk_172 (dk_at dksX8_hasNext_0 22 rfl rfl)
abbrev cX8_next : ByteArray := prog_6_method_3_code
def yX8_next : MethodName := ⟨RX8, "next", "()LSpoilMeadows$Each;"⟩
def dkwX8_next_0 : List UInt8 := [42, 89, 180, 0, 13, 4, 96, 181, 0, 13, 42, 176]
abbrev dktX8_next_0 : List UInt8 := dkwX8_next_0 ++ []
theorem dksX8_next_0 : cX8_next.data.toList.drop 0 = dktX8_next_0 := by decide +kernel
theorem dX8_next_0 : decode cX8_next 0 = .ok (.aload_n 0, 1) := dk_42 (dk_at dksX8_next_0 0 rfl rfl)
theorem dX8_next_1 : decode cX8_next 1 = .ok (.dup, 1) := dk_89 (dk_at dksX8_next_0 1 rfl rfl)
theorem dX8_next_2 : decode cX8_next 2 = .ok (.getfield 13, 3) := dk_180 0 13 (dk_at dksX8_next_0 2 rfl rfl)
theorem dX8_next_5 : decode cX8_next 5 = .ok (.iconst 1, 1) := dk_4 (dk_at dksX8_next_0 5 rfl rfl)
theorem dX8_next_6 : decode cX8_next 6 = .ok (.iadd, 1) := dk_96 (dk_at dksX8_next_0 6 rfl rfl)
theorem dX8_next_7 : decode cX8_next 7 = .ok (.putfield 13, 3) := dk_181 0 13 (dk_at dksX8_next_0 7 rfl rfl)
theorem dX8_next_10 : decode cX8_next 10 = .ok (.aload_n 0, 1) := dk_42 (dk_at dksX8_next_0 10 rfl rfl)
theorem dX8_next_11 : decode cX8_next 11 = .ok (.areturn, 1) := dk_176 (dk_at dksX8_next_0 11 rfl rfl)
abbrev cX8_reached : ByteArray := prog_6_method_4_code
def yX8_reached : MethodName := ⟨RX8, "reached", "()LSpoilMeadows$Barge;"⟩
def dkwX8_reached_0 : List UInt8 := [42, 180, 0, 7, 180, 0, 17, 42, 180, 0, 13, 4, 100, 182, 0, 29, 192, 0, 33, 176]
abbrev dktX8_reached_0 : List UInt8 := dkwX8_reached_0 ++ []
theorem dksX8_reached_0 : cX8_reached.data.toList.drop 0 = dktX8_reached_0 := by decide +kernel
theorem dX8_reached_0 : decode cX8_reached 0 = .ok (.aload_n 0, 1) := dk_42 (dk_at dksX8_reached_0 0 rfl rfl)
theorem dX8_reached_1 : decode cX8_reached 1 = .ok (.getfield 7, 3) := dk_180 0 7 (dk_at dksX8_reached_0 1 rfl rfl)
theorem dX8_reached_4 : decode cX8_reached 4 = .ok (.getfield 17, 3) := dk_180 0 17 (dk_at dksX8_reached_0 4 rfl rfl)
theorem dX8_reached_7 : decode cX8_reached 7 = .ok (.aload_n 0, 1) := dk_42 (dk_at dksX8_reached_0 7 rfl rfl)
theorem dX8_reached_8 : decode cX8_reached 8 = .ok (.getfield 13, 3) := dk_180 0 13 (dk_at dksX8_reached_0 8 rfl rfl)
theorem dX8_reached_11 : decode cX8_reached 11 = .ok (.iconst 1, 1) := dk_4 (dk_at dksX8_reached_0 11 rfl rfl)
theorem dX8_reached_12 : decode cX8_reached 12 = .ok (.isub, 1) := dk_100 (dk_at dksX8_reached_0 12 rfl rfl)
theorem dX8_reached_13 : decode cX8_reached 13 = .ok (.invokevirtual 29, 3) := dk_182 0 29 (dk_at dksX8_reached_0 13 rfl rfl)
theorem dX8_reached_16 : decode cX8_reached 16 = .ok (.checkcast 33, 3) := dk_192 0 33 (dk_at dksX8_reached_0 16 rfl rfl)
theorem dX8_reached_19 : decode cX8_reached 19 = .ok (.areturn, 1) := dk_176 (dk_at dksX8_reached_0 19 rfl rfl)
theorem q102 : (Jvm.Cond.initialized "SpoilMeadows$Each") ∈ lw_all := lw_g (lw_at lw_m1 29 rfl) rfl
theorem q474 : (Jvm.Cond.fieldLinkNest "SpoilMeadows$Each" (17 : Nat) "SpoilMeadows$State" "barges" "Ljava/util/ArrayList;" "SpoilMeadows") ∈ lw_tbl := lw_at lw_m2 161 rfl
theorem q586 : (Jvm.Cond.selects "SpoilMeadows$Each" ({ cls := "java/lang/Object", name := "getClass", desc := "()Ljava/lang/Class;" } : Jvm.MethodName) ({ cls := "java/lang/Object", name := "getClass", desc := "()Ljava/lang/Class;" } : Jvm.MethodName)) ∈ lw_all := lw_g (lw_at lw_m3 33 rfl) rfl
theorem q690 : (Jvm.Cond.instantiable "SpoilMeadows$Each" (2 : Nat)) ∈ lw_all := lw_g (lw_at lw_m3 137 rfl) rfl
theorem q692 : (Jvm.Cond.instanceMethod ({ cls := "SpoilMeadows$Each", name := "<init>", desc := "(LSpoilMeadows$State;)V" } : Jvm.MethodName)) ∈ lw_all := lw_g (lw_at lw_m3 139 rfl) rfl
theorem q693 : (Jvm.Cond.code ({ cls := "SpoilMeadows$Each", name := "<init>", desc := "(LSpoilMeadows$State;)V" } : Jvm.MethodName) prog_6_method_1_code (2 : Nat) (Option.none : Option Jvm.ClassFile.FieldType)) ∈ lw_all := lw_g (lw_at lw_m3 140 rfl) rfl
theorem q694 : (Jvm.Cond.methodLink "SpoilMeadows$Each" (1 : Nat) ({ cls := "java/lang/Object", name := "<init>", desc := "()V" } : Jvm.MethodName)) ∈ lw_all := lw_g (lw_at lw_m3 141 rfl) rfl
theorem q695 : (Jvm.Cond.fieldLink "SpoilMeadows$Each" (7 : Nat) "SpoilMeadows$Each" "of" "LSpoilMeadows$State;") ∈ lw_all := lw_g (lw_at lw_m3 142 rfl) rfl
theorem q696 : (Jvm.Cond.fieldLink "SpoilMeadows$Each" (13 : Nat) "SpoilMeadows$Each" "next" "I") ∈ lw_all := lw_g (lw_at lw_m3 143 rfl) rfl
theorem q697 : (Jvm.Cond.laysFinal "SpoilMeadows$Each" "SpoilMeadows$Each" "of" "LSpoilMeadows$State;") ∈ lw_all := lw_g (lw_at lw_m3 144 rfl) rfl
theorem q698 : (Jvm.Cond.soleField "SpoilMeadows$Each" "of") ∈ lw_all := lw_g (lw_at lw_m3 145 rfl) rfl
theorem q699 : (Jvm.Cond.lays "SpoilMeadows$Each" "SpoilMeadows$Each" "next" "I") ∈ lw_all := lw_g (lw_at lw_m3 146 rfl) rfl
theorem q700 : (Jvm.Cond.soleField "SpoilMeadows$Each" "next") ∈ lw_all := lw_g (lw_at lw_m3 147 rfl) rfl
theorem q701 : (Jvm.Cond.superclass "SpoilMeadows$Each" "java/lang/Object") ∈ lw_all := lw_g (lw_at lw_m3 148 rfl) rfl
theorem q703 : (Jvm.Cond.instanceMethod ({ cls := "SpoilMeadows$Each", name := "hasNext", desc := "()Z" } : Jvm.MethodName)) ∈ lw_all := lw_g (lw_at lw_m3 150 rfl) rfl
theorem q704 : (Jvm.Cond.selects "SpoilMeadows$Each" ({ cls := "SpoilMeadows$Each", name := "hasNext", desc := "()Z" } : Jvm.MethodName) ({ cls := "SpoilMeadows$Each", name := "hasNext", desc := "()Z" } : Jvm.MethodName)) ∈ lw_all := lw_g (lw_at lw_m3 151 rfl) rfl
theorem q705 : (Jvm.Cond.code ({ cls := "SpoilMeadows$Each", name := "hasNext", desc := "()Z" } : Jvm.MethodName) prog_6_method_2_code (1 : Nat) (Option.some Jvm.ClassFile.FieldType.boolean)) ∈ lw_all := lw_g (lw_at lw_m3 152 rfl) rfl
theorem q706 : (Jvm.Cond.methodLink "SpoilMeadows$Each" (23 : Nat) ({ cls := "java/util/ArrayList", name := "size", desc := "()I" } : Jvm.MethodName)) ∈ lw_all := lw_g (lw_at lw_m3 153 rfl) rfl
theorem q711 : (Jvm.Cond.instanceMethod ({ cls := "SpoilMeadows$Each", name := "next", desc := "()LSpoilMeadows$Each;" } : Jvm.MethodName)) ∈ lw_all := lw_g (lw_at lw_m3 158 rfl) rfl
theorem q712 : (Jvm.Cond.selects "SpoilMeadows$Each" ({ cls := "SpoilMeadows$Each", name := "next", desc := "()LSpoilMeadows$Each;" } : Jvm.MethodName) ({ cls := "SpoilMeadows$Each", name := "next", desc := "()LSpoilMeadows$Each;" } : Jvm.MethodName)) ∈ lw_all := lw_g (lw_at lw_m3 159 rfl) rfl
theorem q713 : (Jvm.Cond.code ({ cls := "SpoilMeadows$Each", name := "next", desc := "()LSpoilMeadows$Each;" } : Jvm.MethodName) prog_6_method_3_code (1 : Nat) (Option.some (Jvm.ClassFile.FieldType.object "SpoilMeadows$Each"))) ∈ lw_all := lw_g (lw_at lw_m3 160 rfl) rfl
theorem q715 : (Jvm.Cond.instanceMethod ({ cls := "SpoilMeadows$Each", name := "reached", desc := "()LSpoilMeadows$Barge;" } : Jvm.MethodName)) ∈ lw_all := lw_g (lw_at lw_m3 162 rfl) rfl
theorem q716 : (Jvm.Cond.selects "SpoilMeadows$Each" ({ cls := "SpoilMeadows$Each", name := "reached", desc := "()LSpoilMeadows$Barge;" } : Jvm.MethodName) ({ cls := "SpoilMeadows$Each", name := "reached", desc := "()LSpoilMeadows$Barge;" } : Jvm.MethodName)) ∈ lw_all := lw_g (lw_at lw_m3 163 rfl) rfl
theorem q717 : (Jvm.Cond.code ({ cls := "SpoilMeadows$Each", name := "reached", desc := "()LSpoilMeadows$Barge;" } : Jvm.MethodName) prog_6_method_4_code (1 : Nat) (Option.some (Jvm.ClassFile.FieldType.object "SpoilMeadows$Barge"))) ∈ lw_all := lw_g (lw_at lw_m3 164 rfl) rfl
theorem q718 : (Jvm.Cond.methodLink "SpoilMeadows$Each" (29 : Nat) ({ cls := "java/util/ArrayList", name := "get", desc := "(I)Ljava/lang/Object;" } : Jvm.MethodName)) ∈ lw_all := lw_g (lw_at lw_m3 165 rfl) rfl
theorem q719 : (Jvm.Cond.classLink "SpoilMeadows$Each" (33 : Nat) "SpoilMeadows$Barge") ∈ lw_all := lw_g (lw_at lw_m3 166 rfl) rfl
theorem q1982 : (Jvm.Cond.castable "SpoilMeadows$Each" "java/lang/Object") ∈ lw_tbl := lw_at lw_m8 229 rfl
theorem in_X8 : ∀ w ∈ wsX80, w ∈ lw_all := lw_in wsX80 [697, 699] (by decide +kernel) (by decide +kernel)
