/-! SpoilMeadowsModel -/
set_option maxRecDepth 100000
def RX9 : String := "SpoilMeadowsModel"
def TX9 : u_T := fun k => match k with
  | 0 => ("SpoilMeadowsModel", "now", "[I", true)
  | 1 => ("SpoilMeadowsModel", "then", "[I", true)
  | 2 => ("SpoilMeadowsModel", "past", "[I", true)
  | 3 => ("SpoilMeadowsModel", "kept", "I", false)
  | 4 => ("SpoilMeadowsModel", "slots", "[I", true)
  | 5 => ("SpoilMeadowsModel", "filled", "[Z", true)
  | 6 => ("SpoilMeadowsModel", "text", "[I", true)
  | 7 => ("SpoilMeadowsModel", "typed", "I", false)
  | 8 => ("SpoilMeadowsModel", "thrown", "I", false)
  | 9 => ("SpoilMeadowsModel", "at", "I", false)
  | 10 => ("SpoilMeadowsModel", "isFault", "Z", false)
  | 11 => ("SpoilMeadowsModel", "value", "I", false)
  | 12 => ("SpoilMeadowsModel", "told", "[I", true)
  | 13 => ("SpoilMeadowsModel", "tolds", "I", false)
  | _ => ("SpoilMeadowsModel", "isClear", "Z", false)
def tyX9 : Nat → FieldType := fun k => match k with
  | 0 => .array .int
  | 1 => .array .int
  | 2 => .array .int
  | 3 => .int
  | 4 => .array .int
  | 5 => .array .boolean
  | 6 => .array .int
  | 7 => .int
  | 8 => .int
  | 9 => .int
  | 10 => .boolean
  | 11 => .int
  | 12 => .array .int
  | 13 => .int
  | _ => .boolean
abbrev wsX90 : List Cond := u_ws RX9 TX9 15
set_option maxRecDepth 100000 in
theorem nmX9 : ∀ a, a < 15 → ∀ b, b < 15 → a ≠ b → (TX9 a).2.1 ≠ (TX9 b).2.1 := by decide +kernel
set_option maxRecDepth 100000 in
theorem tyX9_ok : ∀ k, k < 15 → parseFieldDescriptor (TX9 k).2.2.1 = some (tyX9 k) := by decide +kernel
abbrev cX9_init : ByteArray := prog_15_method_1_code
def yX9_init : MethodName := ⟨RX9, "<init>", "()V"⟩
def dkwX9_init_7 : List UInt8 := [16, 7, 27, 104, 96, 8, 96, 2, 79, 132, 1, 1, 167, 255, 202, 177]
abbrev dktX9_init_7 : List UInt8 := dkwX9_init_7 ++ []
def dkwX9_init_6 : List UInt8 := [42, 180, 0, 7, 16, 54, 16, 7, 27, 104, 96, 7, 96, 17, 39, 15, 79, 42, 180, 0, 7, 16, 54]
abbrev dktX9_init_6 : List UInt8 := dkwX9_init_6 ++ dktX9_init_7
def dkwX9_init_5 : List UInt8 := [167, 255, 234, 3, 60, 27, 8, 162, 0, 55, 42, 180, 0, 7, 16, 54, 16, 7, 27, 104, 96, 16, 100, 79]
abbrev dktX9_init_5 : List UInt8 := dkwX9_init_5 ++ dktX9_init_6
def dkwX9_init_4 : List UInt8 := [27, 16, 6, 162, 0, 22, 42, 180, 0, 7, 16, 8, 6, 27, 104, 96, 16, 100, 79, 132, 1, 1]
abbrev dktX9_init_4 : List UInt8 := dkwX9_init_4 ++ dktX9_init_5
def dkwX9_init_3 : List UInt8 := [180, 0, 7, 4, 4, 79, 42, 180, 0, 7, 5, 16, 30, 79, 42, 180, 0, 7, 6, 16, 8, 79, 3, 60]
abbrev dktX9_init_3 : List UInt8 := dkwX9_init_3 ++ dktX9_init_4
def dkwX9_init_2 : List UInt8 := [188, 10, 181, 0, 26, 42, 16, 93, 188, 10, 181, 0, 29, 42, 180, 0, 7, 3, 16, 10, 79, 42]
abbrev dktX9_init_2 : List UInt8 := dkwX9_init_2 ++ dktX9_init_3
def dkwX9_init_1 : List UInt8 := [188, 10, 181, 0, 16, 42, 17, 0, 178, 188, 10, 181, 0, 19, 42, 5, 188, 4, 181, 0, 22, 42, 16, 60]
abbrev dktX9_init_1 : List UInt8 := dkwX9_init_1 ++ dktX9_init_2
def dkwX9_init_0 : List UInt8 := [42, 183, 0, 1, 42, 16, 89, 188, 10, 181, 0, 7, 42, 16, 89, 188, 10, 181, 0, 13, 42, 17, 2, 22]
abbrev dktX9_init_0 : List UInt8 := dkwX9_init_0 ++ dktX9_init_1
theorem dksX9_init_0 : cX9_init.data.toList.drop 0 = dktX9_init_0 := by decide +kernel
theorem dksX9_init_1 : cX9_init.data.toList.drop 24 = dktX9_init_1 := dk_seg dksX9_init_0 24 rfl rfl
theorem dksX9_init_2 : cX9_init.data.toList.drop 48 = dktX9_init_2 := dk_seg dksX9_init_1 24 rfl rfl
theorem dksX9_init_3 : cX9_init.data.toList.drop 70 = dktX9_init_3 := dk_seg dksX9_init_2 22 rfl rfl
theorem dksX9_init_4 : cX9_init.data.toList.drop 94 = dktX9_init_4 := dk_seg dksX9_init_3 24 rfl rfl
theorem dksX9_init_5 : cX9_init.data.toList.drop 116 = dktX9_init_5 := dk_seg dksX9_init_4 22 rfl rfl
theorem dksX9_init_6 : cX9_init.data.toList.drop 140 = dktX9_init_6 := dk_seg dksX9_init_5 24 rfl rfl
theorem dksX9_init_7 : cX9_init.data.toList.drop 163 = dktX9_init_7 := dk_seg dksX9_init_6 23 rfl rfl
theorem dX9_init_0 : decode cX9_init 0 = .ok (.aload_n 0, 1) := dk_42 (dk_at dksX9_init_0 0 rfl rfl)
theorem dX9_init_1 : decode cX9_init 1 = .ok (.invokespecial 1, 3) := dk_183 0 1 (dk_at dksX9_init_0 1 rfl rfl)
theorem dX9_init_4 : decode cX9_init 4 = .ok (.aload_n 0, 1) := dk_42 (dk_at dksX9_init_0 4 rfl rfl)
theorem dX9_init_5 : decode cX9_init 5 = .ok (.bipush 89, 2) := dk_16 89 (dk_at dksX9_init_0 5 rfl rfl)
theorem dX9_init_7 : decode cX9_init 7 = .ok (.newarray .int, 2) := dk_188_10 (dk_at dksX9_init_0 7 rfl rfl)
theorem dX9_init_9 : decode cX9_init 9 = .ok (.putfield 7, 3) := dk_181 0 7 (dk_at dksX9_init_0 9 rfl rfl)
theorem dX9_init_12 : decode cX9_init 12 = .ok (.aload_n 0, 1) := dk_42 (dk_at dksX9_init_0 12 rfl rfl)
theorem dX9_init_13 : decode cX9_init 13 = .ok (.bipush 89, 2) := dk_16 89 (dk_at dksX9_init_0 13 rfl rfl)
theorem dX9_init_15 : decode cX9_init 15 = .ok (.newarray .int, 2) := dk_188_10 (dk_at dksX9_init_0 15 rfl rfl)
theorem dX9_init_17 : decode cX9_init 17 = .ok (.putfield 13, 3) := dk_181 0 13 (dk_at dksX9_init_0 17 rfl rfl)
theorem dX9_init_20 : decode cX9_init 20 = .ok (.aload_n 0, 1) := dk_42 (dk_at dksX9_init_0 20 rfl rfl)
theorem dX9_init_21 : decode cX9_init 21 = .ok (.sipush 534, 3) := dk_17 2 22 (dk_at dksX9_init_0 21 rfl rfl)
theorem dX9_init_24 : decode cX9_init 24 = .ok (.newarray .int, 2) := dk_188_10 (dk_at dksX9_init_1 0 rfl rfl)
theorem dX9_init_26 : decode cX9_init 26 = .ok (.putfield 16, 3) := dk_181 0 16 (dk_at dksX9_init_1 2 rfl rfl)
theorem dX9_init_29 : decode cX9_init 29 = .ok (.aload_n 0, 1) := dk_42 (dk_at dksX9_init_1 5 rfl rfl)
theorem dX9_init_30 : decode cX9_init 30 = .ok (.sipush 178, 3) := dk_17 0 178 (dk_at dksX9_init_1 6 rfl rfl)
theorem dX9_init_33 : decode cX9_init 33 = .ok (.newarray .int, 2) := dk_188_10 (dk_at dksX9_init_1 9 rfl rfl)
theorem dX9_init_35 : decode cX9_init 35 = .ok (.putfield 19, 3) := dk_181 0 19 (dk_at dksX9_init_1 11 rfl rfl)
theorem dX9_init_38 : decode cX9_init 38 = .ok (.aload_n 0, 1) := dk_42 (dk_at dksX9_init_1 14 rfl rfl)
theorem dX9_init_39 : decode cX9_init 39 = .ok (.iconst 2, 1) := dk_5 (dk_at dksX9_init_1 15 rfl rfl)
theorem dX9_init_40 : decode cX9_init 40 = .ok (.newarray .boolean, 2) := dk_188_4 (dk_at dksX9_init_1 16 rfl rfl)
theorem dX9_init_42 : decode cX9_init 42 = .ok (.putfield 22, 3) := dk_181 0 22 (dk_at dksX9_init_1 18 rfl rfl)
theorem dX9_init_45 : decode cX9_init 45 = .ok (.aload_n 0, 1) := dk_42 (dk_at dksX9_init_1 21 rfl rfl)
theorem dX9_init_46 : decode cX9_init 46 = .ok (.bipush 60, 2) := dk_16 60 (dk_at dksX9_init_1 22 rfl rfl)
theorem dX9_init_48 : decode cX9_init 48 = .ok (.newarray .int, 2) := dk_188_10 (dk_at dksX9_init_2 0 rfl rfl)
theorem dX9_init_50 : decode cX9_init 50 = .ok (.putfield 26, 3) := dk_181 0 26 (dk_at dksX9_init_2 2 rfl rfl)
theorem dX9_init_53 : decode cX9_init 53 = .ok (.aload_n 0, 1) := dk_42 (dk_at dksX9_init_2 5 rfl rfl)
theorem dX9_init_54 : decode cX9_init 54 = .ok (.bipush 93, 2) := dk_16 93 (dk_at dksX9_init_2 6 rfl rfl)
theorem dX9_init_56 : decode cX9_init 56 = .ok (.newarray .int, 2) := dk_188_10 (dk_at dksX9_init_2 8 rfl rfl)
theorem dX9_init_58 : decode cX9_init 58 = .ok (.putfield 29, 3) := dk_181 0 29 (dk_at dksX9_init_2 10 rfl rfl)
theorem dX9_init_61 : decode cX9_init 61 = .ok (.aload_n 0, 1) := dk_42 (dk_at dksX9_init_2 13 rfl rfl)
theorem dX9_init_62 : decode cX9_init 62 = .ok (.getfield 7, 3) := dk_180 0 7 (dk_at dksX9_init_2 14 rfl rfl)
theorem dX9_init_65 : decode cX9_init 65 = .ok (.iconst 0, 1) := dk_3 (dk_at dksX9_init_2 17 rfl rfl)
theorem dX9_init_66 : decode cX9_init 66 = .ok (.bipush 10, 2) := dk_16 10 (dk_at dksX9_init_2 18 rfl rfl)
theorem dX9_init_68 : decode cX9_init 68 = .ok (.iastore, 1) := dk_79 (dk_at dksX9_init_2 20 rfl rfl)
theorem dX9_init_69 : decode cX9_init 69 = .ok (.aload_n 0, 1) := dk_42 (dk_at dksX9_init_2 21 rfl rfl)
theorem dX9_init_70 : decode cX9_init 70 = .ok (.getfield 7, 3) := dk_180 0 7 (dk_at dksX9_init_3 0 rfl rfl)
theorem dX9_init_73 : decode cX9_init 73 = .ok (.iconst 1, 1) := dk_4 (dk_at dksX9_init_3 3 rfl rfl)
theorem dX9_init_74 : decode cX9_init 74 = .ok (.iconst 1, 1) := dk_4 (dk_at dksX9_init_3 4 rfl rfl)
theorem dX9_init_75 : decode cX9_init 75 = .ok (.iastore, 1) := dk_79 (dk_at dksX9_init_3 5 rfl rfl)
theorem dX9_init_76 : decode cX9_init 76 = .ok (.aload_n 0, 1) := dk_42 (dk_at dksX9_init_3 6 rfl rfl)
theorem dX9_init_77 : decode cX9_init 77 = .ok (.getfield 7, 3) := dk_180 0 7 (dk_at dksX9_init_3 7 rfl rfl)
theorem dX9_init_80 : decode cX9_init 80 = .ok (.iconst 2, 1) := dk_5 (dk_at dksX9_init_3 10 rfl rfl)
theorem dX9_init_81 : decode cX9_init 81 = .ok (.bipush 30, 2) := dk_16 30 (dk_at dksX9_init_3 11 rfl rfl)
theorem dX9_init_83 : decode cX9_init 83 = .ok (.iastore, 1) := dk_79 (dk_at dksX9_init_3 13 rfl rfl)
theorem dX9_init_84 : decode cX9_init 84 = .ok (.aload_n 0, 1) := dk_42 (dk_at dksX9_init_3 14 rfl rfl)
theorem dX9_init_85 : decode cX9_init 85 = .ok (.getfield 7, 3) := dk_180 0 7 (dk_at dksX9_init_3 15 rfl rfl)
theorem dX9_init_88 : decode cX9_init 88 = .ok (.iconst 3, 1) := dk_6 (dk_at dksX9_init_3 18 rfl rfl)
theorem dX9_init_89 : decode cX9_init 89 = .ok (.bipush 8, 2) := dk_16 8 (dk_at dksX9_init_3 19 rfl rfl)
theorem dX9_init_91 : decode cX9_init 91 = .ok (.iastore, 1) := dk_79 (dk_at dksX9_init_3 21 rfl rfl)
theorem dX9_init_92 : decode cX9_init 92 = .ok (.iconst 0, 1) := dk_3 (dk_at dksX9_init_3 22 rfl rfl)
theorem dX9_init_93 : decode cX9_init 93 = .ok (.istore_n 1, 1) := dk_60 (dk_at dksX9_init_3 23 rfl rfl)
theorem dX9_init_94 : decode cX9_init 94 = .ok (.iload_n 1, 1) := dk_27 (dk_at dksX9_init_4 0 rfl rfl)
theorem dX9_init_95 : decode cX9_init 95 = .ok (.bipush 6, 2) := dk_16 6 (dk_at dksX9_init_4 1 rfl rfl)
theorem dX9_init_97 : decode cX9_init 97 = .ok (.if_icmp .ge 22, 3) := dk_162 0 22 (dk_at dksX9_init_4 3 rfl rfl)
theorem dX9_init_100 : decode cX9_init 100 = .ok (.aload_n 0, 1) := dk_42 (dk_at dksX9_init_4 6 rfl rfl)
theorem dX9_init_101 : decode cX9_init 101 = .ok (.getfield 7, 3) := dk_180 0 7 (dk_at dksX9_init_4 7 rfl rfl)
theorem dX9_init_104 : decode cX9_init 104 = .ok (.bipush 8, 2) := dk_16 8 (dk_at dksX9_init_4 10 rfl rfl)
theorem dX9_init_106 : decode cX9_init 106 = .ok (.iconst 3, 1) := dk_6 (dk_at dksX9_init_4 12 rfl rfl)
theorem dX9_init_107 : decode cX9_init 107 = .ok (.iload_n 1, 1) := dk_27 (dk_at dksX9_init_4 13 rfl rfl)
theorem dX9_init_108 : decode cX9_init 108 = .ok (.imul, 1) := dk_104 (dk_at dksX9_init_4 14 rfl rfl)
theorem dX9_init_109 : decode cX9_init 109 = .ok (.iadd, 1) := dk_96 (dk_at dksX9_init_4 15 rfl rfl)
theorem dX9_init_110 : decode cX9_init 110 = .ok (.bipush 100, 2) := dk_16 100 (dk_at dksX9_init_4 16 rfl rfl)
theorem dX9_init_112 : decode cX9_init 112 = .ok (.iastore, 1) := dk_79 (dk_at dksX9_init_4 18 rfl rfl)
theorem dX9_init_113 : decode cX9_init 113 = .ok (.iinc 1 1, 3) := dk_132 1 1 (dk_at dksX9_init_4 19 rfl rfl)
theorem dX9_init_116 : decode cX9_init 116 = .ok (.goto (-22), 3) := dk_167 255 234 (dk_at dksX9_init_5 0 rfl rfl)
theorem dX9_init_119 : decode cX9_init 119 = .ok (.iconst 0, 1) := dk_3 (dk_at dksX9_init_5 3 rfl rfl)
theorem dX9_init_120 : decode cX9_init 120 = .ok (.istore_n 1, 1) := dk_60 (dk_at dksX9_init_5 4 rfl rfl)
theorem dX9_init_121 : decode cX9_init 121 = .ok (.iload_n 1, 1) := dk_27 (dk_at dksX9_init_5 5 rfl rfl)
theorem dX9_init_122 : decode cX9_init 122 = .ok (.iconst 5, 1) := dk_8 (dk_at dksX9_init_5 6 rfl rfl)
theorem dX9_init_123 : decode cX9_init 123 = .ok (.if_icmp .ge 55, 3) := dk_162 0 55 (dk_at dksX9_init_5 7 rfl rfl)
theorem dX9_init_126 : decode cX9_init 126 = .ok (.aload_n 0, 1) := dk_42 (dk_at dksX9_init_5 10 rfl rfl)
theorem dX9_init_127 : decode cX9_init 127 = .ok (.getfield 7, 3) := dk_180 0 7 (dk_at dksX9_init_5 11 rfl rfl)
theorem dX9_init_130 : decode cX9_init 130 = .ok (.bipush 54, 2) := dk_16 54 (dk_at dksX9_init_5 14 rfl rfl)
theorem dX9_init_132 : decode cX9_init 132 = .ok (.bipush 7, 2) := dk_16 7 (dk_at dksX9_init_5 16 rfl rfl)
theorem dX9_init_134 : decode cX9_init 134 = .ok (.iload_n 1, 1) := dk_27 (dk_at dksX9_init_5 18 rfl rfl)
theorem dX9_init_135 : decode cX9_init 135 = .ok (.imul, 1) := dk_104 (dk_at dksX9_init_5 19 rfl rfl)
theorem dX9_init_136 : decode cX9_init 136 = .ok (.iadd, 1) := dk_96 (dk_at dksX9_init_5 20 rfl rfl)
theorem dX9_init_137 : decode cX9_init 137 = .ok (.bipush 100, 2) := dk_16 100 (dk_at dksX9_init_5 21 rfl rfl)
theorem dX9_init_139 : decode cX9_init 139 = .ok (.iastore, 1) := dk_79 (dk_at dksX9_init_5 23 rfl rfl)
theorem dX9_init_140 : decode cX9_init 140 = .ok (.aload_n 0, 1) := dk_42 (dk_at dksX9_init_6 0 rfl rfl)
theorem dX9_init_141 : decode cX9_init 141 = .ok (.getfield 7, 3) := dk_180 0 7 (dk_at dksX9_init_6 1 rfl rfl)
theorem dX9_init_144 : decode cX9_init 144 = .ok (.bipush 54, 2) := dk_16 54 (dk_at dksX9_init_6 4 rfl rfl)
theorem dX9_init_146 : decode cX9_init 146 = .ok (.bipush 7, 2) := dk_16 7 (dk_at dksX9_init_6 6 rfl rfl)
theorem dX9_init_148 : decode cX9_init 148 = .ok (.iload_n 1, 1) := dk_27 (dk_at dksX9_init_6 8 rfl rfl)
theorem dX9_init_149 : decode cX9_init 149 = .ok (.imul, 1) := dk_104 (dk_at dksX9_init_6 9 rfl rfl)
theorem dX9_init_150 : decode cX9_init 150 = .ok (.iadd, 1) := dk_96 (dk_at dksX9_init_6 10 rfl rfl)
theorem dX9_init_151 : decode cX9_init 151 = .ok (.iconst 4, 1) := dk_7 (dk_at dksX9_init_6 11 rfl rfl)
theorem dX9_init_152 : decode cX9_init 152 = .ok (.iadd, 1) := dk_96 (dk_at dksX9_init_6 12 rfl rfl)
theorem dX9_init_153 : decode cX9_init 153 = .ok (.sipush 9999, 3) := dk_17 39 15 (dk_at dksX9_init_6 13 rfl rfl)
theorem dX9_init_156 : decode cX9_init 156 = .ok (.iastore, 1) := dk_79 (dk_at dksX9_init_6 16 rfl rfl)
theorem dX9_init_157 : decode cX9_init 157 = .ok (.aload_n 0, 1) := dk_42 (dk_at dksX9_init_6 17 rfl rfl)
theorem dX9_init_158 : decode cX9_init 158 = .ok (.getfield 7, 3) := dk_180 0 7 (dk_at dksX9_init_6 18 rfl rfl)
theorem dX9_init_161 : decode cX9_init 161 = .ok (.bipush 54, 2) := dk_16 54 (dk_at dksX9_init_6 21 rfl rfl)
theorem dX9_init_163 : decode cX9_init 163 = .ok (.bipush 7, 2) := dk_16 7 (dk_at dksX9_init_7 0 rfl rfl)
theorem dX9_init_165 : decode cX9_init 165 = .ok (.iload_n 1, 1) := dk_27 (dk_at dksX9_init_7 2 rfl rfl)
theorem dX9_init_166 : decode cX9_init 166 = .ok (.imul, 1) := dk_104 (dk_at dksX9_init_7 3 rfl rfl)
theorem dX9_init_167 : decode cX9_init 167 = .ok (.iadd, 1) := dk_96 (dk_at dksX9_init_7 4 rfl rfl)
theorem dX9_init_168 : decode cX9_init 168 = .ok (.iconst 5, 1) := dk_8 (dk_at dksX9_init_7 5 rfl rfl)
theorem dX9_init_169 : decode cX9_init 169 = .ok (.iadd, 1) := dk_96 (dk_at dksX9_init_7 6 rfl rfl)
theorem dX9_init_170 : decode cX9_init 170 = .ok (.iconst (-1), 1) := dk_2 (dk_at dksX9_init_7 7 rfl rfl)
theorem dX9_init_171 : decode cX9_init 171 = .ok (.iastore, 1) := dk_79 (dk_at dksX9_init_7 8 rfl rfl)
theorem dX9_init_172 : decode cX9_init 172 = .ok (.iinc 1 1, 3) := dk_132 1 1 (dk_at dksX9_init_7 9 rfl rfl)
theorem dX9_init_175 : decode cX9_init 175 = .ok (.goto (-54), 3) := dk_167 255 202 (dk_at dksX9_init_7 12 rfl rfl)
theorem dX9_init_178 : decode cX9_init 178 = .ok (.return_, 1) := dk_177 (dk_at dksX9_init_7 15 rfl rfl)
abbrev cX9_thrown : ByteArray := prog_15_method_2_code
def yX9_thrown : MethodName := ⟨RX9, "thrown", "()I"⟩
theorem dX9_thrown_0 : decode cX9_thrown 0 = .ok (.aload_n 0, 1) := by decide +kernel
theorem dX9_thrown_1 : decode cX9_thrown 1 = .ok (.getfield 32, 3) := by decide +kernel
theorem dX9_thrown_4 : decode cX9_thrown 4 = .ok (.ireturn, 1) := by decide +kernel
abbrev cX9_undo : ByteArray := prog_15_method_12_code
def yX9_undo : MethodName := ⟨RX9, "undo", "()I"⟩
def dkwX9_undo_2 : List UInt8 := [180, 0, 40, 172]
abbrev dktX9_undo_2 : List UInt8 := dkwX9_undo_2 ++ []
def dkwX9_undo_1 : List UInt8 := [100, 181, 0, 40, 42, 180, 0, 16, 16, 89, 42, 180, 0, 40, 104, 42, 180, 0, 7, 3, 184, 0, 43, 42]
abbrev dktX9_undo_1 : List UInt8 := dkwX9_undo_1 ++ dktX9_undo_2
def dkwX9_undo_0 : List UInt8 := [42, 3, 181, 0, 32, 42, 180, 0, 40, 154, 0, 9, 42, 4, 182, 0, 47, 172, 42, 89, 180, 0, 40, 4]
abbrev dktX9_undo_0 : List UInt8 := dkwX9_undo_0 ++ dktX9_undo_1
theorem dksX9_undo_0 : cX9_undo.data.toList.drop 0 = dktX9_undo_0 := by decide +kernel
theorem dksX9_undo_1 : cX9_undo.data.toList.drop 24 = dktX9_undo_1 := dk_seg dksX9_undo_0 24 rfl rfl
theorem dksX9_undo_2 : cX9_undo.data.toList.drop 48 = dktX9_undo_2 := dk_seg dksX9_undo_1 24 rfl rfl
theorem dX9_undo_0 : decode cX9_undo 0 = .ok (.aload_n 0, 1) := dk_42 (dk_at dksX9_undo_0 0 rfl rfl)
theorem dX9_undo_1 : decode cX9_undo 1 = .ok (.iconst 0, 1) := dk_3 (dk_at dksX9_undo_0 1 rfl rfl)
theorem dX9_undo_2 : decode cX9_undo 2 = .ok (.putfield 32, 3) := dk_181 0 32 (dk_at dksX9_undo_0 2 rfl rfl)
theorem dX9_undo_5 : decode cX9_undo 5 = .ok (.aload_n 0, 1) := dk_42 (dk_at dksX9_undo_0 5 rfl rfl)
theorem dX9_undo_6 : decode cX9_undo 6 = .ok (.getfield 40, 3) := dk_180 0 40 (dk_at dksX9_undo_0 6 rfl rfl)
theorem dX9_undo_9 : decode cX9_undo 9 = .ok (.ifCond .ne 9, 3) := dk_154 0 9 (dk_at dksX9_undo_0 9 rfl rfl)
theorem dX9_undo_12 : decode cX9_undo 12 = .ok (.aload_n 0, 1) := dk_42 (dk_at dksX9_undo_0 12 rfl rfl)
theorem dX9_undo_13 : decode cX9_undo 13 = .ok (.iconst 1, 1) := dk_4 (dk_at dksX9_undo_0 13 rfl rfl)
theorem dX9_undo_14 : decode cX9_undo 14 = .ok (.invokevirtual 47, 3) := dk_182 0 47 (dk_at dksX9_undo_0 14 rfl rfl)
theorem dX9_undo_17 : decode cX9_undo 17 = .ok (.ireturn, 1) := dk_172 (dk_at dksX9_undo_0 17 rfl rfl)
theorem dX9_undo_18 : decode cX9_undo 18 = .ok (.aload_n 0, 1) := dk_42 (dk_at dksX9_undo_0 18 rfl rfl)
theorem dX9_undo_19 : decode cX9_undo 19 = .ok (.dup, 1) := dk_89 (dk_at dksX9_undo_0 19 rfl rfl)
theorem dX9_undo_20 : decode cX9_undo 20 = .ok (.getfield 40, 3) := dk_180 0 40 (dk_at dksX9_undo_0 20 rfl rfl)
theorem dX9_undo_23 : decode cX9_undo 23 = .ok (.iconst 1, 1) := dk_4 (dk_at dksX9_undo_0 23 rfl rfl)
theorem dX9_undo_24 : decode cX9_undo 24 = .ok (.isub, 1) := dk_100 (dk_at dksX9_undo_1 0 rfl rfl)
theorem dX9_undo_25 : decode cX9_undo 25 = .ok (.putfield 40, 3) := dk_181 0 40 (dk_at dksX9_undo_1 1 rfl rfl)
theorem dX9_undo_28 : decode cX9_undo 28 = .ok (.aload_n 0, 1) := dk_42 (dk_at dksX9_undo_1 4 rfl rfl)
theorem dX9_undo_29 : decode cX9_undo 29 = .ok (.getfield 16, 3) := dk_180 0 16 (dk_at dksX9_undo_1 5 rfl rfl)
theorem dX9_undo_32 : decode cX9_undo 32 = .ok (.bipush 89, 2) := dk_16 89 (dk_at dksX9_undo_1 8 rfl rfl)
theorem dX9_undo_34 : decode cX9_undo 34 = .ok (.aload_n 0, 1) := dk_42 (dk_at dksX9_undo_1 10 rfl rfl)
theorem dX9_undo_35 : decode cX9_undo 35 = .ok (.getfield 40, 3) := dk_180 0 40 (dk_at dksX9_undo_1 11 rfl rfl)
theorem dX9_undo_38 : decode cX9_undo 38 = .ok (.imul, 1) := dk_104 (dk_at dksX9_undo_1 14 rfl rfl)
theorem dX9_undo_39 : decode cX9_undo 39 = .ok (.aload_n 0, 1) := dk_42 (dk_at dksX9_undo_1 15 rfl rfl)
theorem dX9_undo_40 : decode cX9_undo 40 = .ok (.getfield 7, 3) := dk_180 0 7 (dk_at dksX9_undo_1 16 rfl rfl)
theorem dX9_undo_43 : decode cX9_undo 43 = .ok (.iconst 0, 1) := dk_3 (dk_at dksX9_undo_1 19 rfl rfl)
theorem dX9_undo_44 : decode cX9_undo 44 = .ok (.invokestatic 43, 3) := dk_184 0 43 (dk_at dksX9_undo_1 20 rfl rfl)
theorem dX9_undo_47 : decode cX9_undo 47 = .ok (.aload_n 0, 1) := dk_42 (dk_at dksX9_undo_1 23 rfl rfl)
theorem dX9_undo_48 : decode cX9_undo 48 = .ok (.getfield 40, 3) := dk_180 0 40 (dk_at dksX9_undo_2 0 rfl rfl)
theorem dX9_undo_51 : decode cX9_undo 51 = .ok (.ireturn, 1) := dk_172 (dk_at dksX9_undo_2 3 rfl rfl)
abbrev cX9_fails : ByteArray := prog_15_method_3_code
def yX9_fails : MethodName := ⟨RX9, "fails", "(I)I"⟩
def dkwX9_fails_0 : List UInt8 := [42, 27, 181, 0, 32, 3, 172]
abbrev dktX9_fails_0 : List UInt8 := dkwX9_fails_0 ++ []
theorem dksX9_fails_0 : cX9_fails.data.toList.drop 0 = dktX9_fails_0 := by decide +kernel
theorem dX9_fails_0 : decode cX9_fails 0 = .ok (.aload_n 0, 1) := dk_42 (dk_at dksX9_fails_0 0 rfl rfl)
theorem dX9_fails_1 : decode cX9_fails 1 = .ok (.iload_n 1, 1) := dk_27 (dk_at dksX9_fails_0 1 rfl rfl)
theorem dX9_fails_2 : decode cX9_fails 2 = .ok (.putfield 32, 3) := dk_181 0 32 (dk_at dksX9_fails_0 2 rfl rfl)
theorem dX9_fails_5 : decode cX9_fails 5 = .ok (.iconst 0, 1) := dk_3 (dk_at dksX9_fails_0 5 rfl rfl)
theorem dX9_fails_6 : decode cX9_fails 6 = .ok (.ireturn, 1) := dk_172 (dk_at dksX9_fails_0 6 rfl rfl)
abbrev cX9_copies : ByteArray := prog_15_method_10_code
def yX9_copies : MethodName := ⟨RX9, "copies", "([II[II)V"⟩
def dkwX9_copies_1 : List UInt8 := [132, 4, 1, 167, 255, 234, 177]
abbrev dktX9_copies_1 : List UInt8 := dkwX9_copies_1 ++ []
def dkwX9_copies_0 : List UInt8 := [3, 54, 4, 21, 4, 16, 89, 162, 0, 21, 44, 29, 21, 4, 96, 42, 27, 21, 4, 96, 46, 79]
abbrev dktX9_copies_0 : List UInt8 := dkwX9_copies_0 ++ dktX9_copies_1
theorem dksX9_copies_0 : cX9_copies.data.toList.drop 0 = dktX9_copies_0 := by decide +kernel
theorem dksX9_copies_1 : cX9_copies.data.toList.drop 22 = dktX9_copies_1 := dk_seg dksX9_copies_0 22 rfl rfl
theorem dX9_copies_0 : decode cX9_copies 0 = .ok (.iconst 0, 1) := dk_3 (dk_at dksX9_copies_0 0 rfl rfl)
theorem dX9_copies_1 : decode cX9_copies 1 = .ok (.istore 4, 2) := dk_54 4 (dk_at dksX9_copies_0 1 rfl rfl)
theorem dX9_copies_3 : decode cX9_copies 3 = .ok (.iload 4, 2) := dk_21 4 (dk_at dksX9_copies_0 3 rfl rfl)
theorem dX9_copies_5 : decode cX9_copies 5 = .ok (.bipush 89, 2) := dk_16 89 (dk_at dksX9_copies_0 5 rfl rfl)
theorem dX9_copies_7 : decode cX9_copies 7 = .ok (.if_icmp .ge 21, 3) := dk_162 0 21 (dk_at dksX9_copies_0 7 rfl rfl)
theorem dX9_copies_10 : decode cX9_copies 10 = .ok (.aload_n 2, 1) := dk_44 (dk_at dksX9_copies_0 10 rfl rfl)
theorem dX9_copies_11 : decode cX9_copies 11 = .ok (.iload_n 3, 1) := dk_29 (dk_at dksX9_copies_0 11 rfl rfl)
theorem dX9_copies_12 : decode cX9_copies 12 = .ok (.iload 4, 2) := dk_21 4 (dk_at dksX9_copies_0 12 rfl rfl)
theorem dX9_copies_14 : decode cX9_copies 14 = .ok (.iadd, 1) := dk_96 (dk_at dksX9_copies_0 14 rfl rfl)
theorem dX9_copies_15 : decode cX9_copies 15 = .ok (.aload_n 0, 1) := dk_42 (dk_at dksX9_copies_0 15 rfl rfl)
theorem dX9_copies_16 : decode cX9_copies 16 = .ok (.iload_n 1, 1) := dk_27 (dk_at dksX9_copies_0 16 rfl rfl)
theorem dX9_copies_17 : decode cX9_copies 17 = .ok (.iload 4, 2) := dk_21 4 (dk_at dksX9_copies_0 17 rfl rfl)
theorem dX9_copies_19 : decode cX9_copies 19 = .ok (.iadd, 1) := dk_96 (dk_at dksX9_copies_0 19 rfl rfl)
theorem dX9_copies_20 : decode cX9_copies 20 = .ok (.iaload, 1) := dk_46 (dk_at dksX9_copies_0 20 rfl rfl)
theorem dX9_copies_21 : decode cX9_copies 21 = .ok (.iastore, 1) := dk_79 (dk_at dksX9_copies_0 21 rfl rfl)
theorem dX9_copies_22 : decode cX9_copies 22 = .ok (.iinc 4 1, 3) := dk_132 4 1 (dk_at dksX9_copies_1 0 rfl rfl)
theorem dX9_copies_25 : decode cX9_copies 25 = .ok (.goto (-22), 3) := dk_167 255 234 (dk_at dksX9_copies_1 3 rfl rfl)
theorem dX9_copies_28 : decode cX9_copies 28 = .ok (.return_, 1) := dk_177 (dk_at dksX9_copies_1 6 rfl rfl)
abbrev cX9_keep : ByteArray := prog_15_method_13_code
def yX9_keep : MethodName := ⟨RX9, "keep", "(I)I"⟩
def dkwX9_keep_2 : List UInt8 := [46, 172]
abbrev dktX9_keep_2 : List UInt8 := dkwX9_keep_2 ++ []
def dkwX9_keep_1 : List UInt8 := [3, 42, 180, 0, 19, 16, 89, 27, 104, 184, 0, 43, 42, 180, 0, 22, 27, 4, 84, 42, 180, 0, 7, 7]
abbrev dktX9_keep_1 : List UInt8 := dkwX9_keep_1 ++ dktX9_keep_2
def dkwX9_keep_0 : List UInt8 := [42, 3, 181, 0, 32, 27, 3, 4, 184, 0, 36, 154, 0, 9, 42, 4, 182, 0, 47, 172, 42, 180, 0, 7]
abbrev dktX9_keep_0 : List UInt8 := dkwX9_keep_0 ++ dktX9_keep_1
theorem dksX9_keep_0 : cX9_keep.data.toList.drop 0 = dktX9_keep_0 := by decide +kernel
theorem dksX9_keep_1 : cX9_keep.data.toList.drop 24 = dktX9_keep_1 := dk_seg dksX9_keep_0 24 rfl rfl
theorem dksX9_keep_2 : cX9_keep.data.toList.drop 48 = dktX9_keep_2 := dk_seg dksX9_keep_1 24 rfl rfl
theorem dX9_keep_0 : decode cX9_keep 0 = .ok (.aload_n 0, 1) := dk_42 (dk_at dksX9_keep_0 0 rfl rfl)
theorem dX9_keep_1 : decode cX9_keep 1 = .ok (.iconst 0, 1) := dk_3 (dk_at dksX9_keep_0 1 rfl rfl)
theorem dX9_keep_2 : decode cX9_keep 2 = .ok (.putfield 32, 3) := dk_181 0 32 (dk_at dksX9_keep_0 2 rfl rfl)
theorem dX9_keep_5 : decode cX9_keep 5 = .ok (.iload_n 1, 1) := dk_27 (dk_at dksX9_keep_0 5 rfl rfl)
theorem dX9_keep_6 : decode cX9_keep 6 = .ok (.iconst 0, 1) := dk_3 (dk_at dksX9_keep_0 6 rfl rfl)
theorem dX9_keep_7 : decode cX9_keep 7 = .ok (.iconst 1, 1) := dk_4 (dk_at dksX9_keep_0 7 rfl rfl)
theorem dX9_keep_8 : decode cX9_keep 8 = .ok (.invokestatic 36, 3) := dk_184 0 36 (dk_at dksX9_keep_0 8 rfl rfl)
theorem dX9_keep_11 : decode cX9_keep 11 = .ok (.ifCond .ne 9, 3) := dk_154 0 9 (dk_at dksX9_keep_0 11 rfl rfl)
theorem dX9_keep_14 : decode cX9_keep 14 = .ok (.aload_n 0, 1) := dk_42 (dk_at dksX9_keep_0 14 rfl rfl)
theorem dX9_keep_15 : decode cX9_keep 15 = .ok (.iconst 1, 1) := dk_4 (dk_at dksX9_keep_0 15 rfl rfl)
theorem dX9_keep_16 : decode cX9_keep 16 = .ok (.invokevirtual 47, 3) := dk_182 0 47 (dk_at dksX9_keep_0 16 rfl rfl)
theorem dX9_keep_19 : decode cX9_keep 19 = .ok (.ireturn, 1) := dk_172 (dk_at dksX9_keep_0 19 rfl rfl)
theorem dX9_keep_20 : decode cX9_keep 20 = .ok (.aload_n 0, 1) := dk_42 (dk_at dksX9_keep_0 20 rfl rfl)
theorem dX9_keep_21 : decode cX9_keep 21 = .ok (.getfield 7, 3) := dk_180 0 7 (dk_at dksX9_keep_0 21 rfl rfl)
theorem dX9_keep_24 : decode cX9_keep 24 = .ok (.iconst 0, 1) := dk_3 (dk_at dksX9_keep_1 0 rfl rfl)
theorem dX9_keep_25 : decode cX9_keep 25 = .ok (.aload_n 0, 1) := dk_42 (dk_at dksX9_keep_1 1 rfl rfl)
theorem dX9_keep_26 : decode cX9_keep 26 = .ok (.getfield 19, 3) := dk_180 0 19 (dk_at dksX9_keep_1 2 rfl rfl)
theorem dX9_keep_29 : decode cX9_keep 29 = .ok (.bipush 89, 2) := dk_16 89 (dk_at dksX9_keep_1 5 rfl rfl)
theorem dX9_keep_31 : decode cX9_keep 31 = .ok (.iload_n 1, 1) := dk_27 (dk_at dksX9_keep_1 7 rfl rfl)
theorem dX9_keep_32 : decode cX9_keep 32 = .ok (.imul, 1) := dk_104 (dk_at dksX9_keep_1 8 rfl rfl)
theorem dX9_keep_33 : decode cX9_keep 33 = .ok (.invokestatic 43, 3) := dk_184 0 43 (dk_at dksX9_keep_1 9 rfl rfl)
theorem dX9_keep_36 : decode cX9_keep 36 = .ok (.aload_n 0, 1) := dk_42 (dk_at dksX9_keep_1 12 rfl rfl)
theorem dX9_keep_37 : decode cX9_keep 37 = .ok (.getfield 22, 3) := dk_180 0 22 (dk_at dksX9_keep_1 13 rfl rfl)
theorem dX9_keep_40 : decode cX9_keep 40 = .ok (.iload_n 1, 1) := dk_27 (dk_at dksX9_keep_1 16 rfl rfl)
theorem dX9_keep_41 : decode cX9_keep 41 = .ok (.iconst 1, 1) := dk_4 (dk_at dksX9_keep_1 17 rfl rfl)
theorem dX9_keep_42 : decode cX9_keep 42 = .ok (.bastore, 1) := dk_84 (dk_at dksX9_keep_1 18 rfl rfl)
theorem dX9_keep_43 : decode cX9_keep 43 = .ok (.aload_n 0, 1) := dk_42 (dk_at dksX9_keep_1 19 rfl rfl)
theorem dX9_keep_44 : decode cX9_keep 44 = .ok (.getfield 7, 3) := dk_180 0 7 (dk_at dksX9_keep_1 20 rfl rfl)
theorem dX9_keep_47 : decode cX9_keep 47 = .ok (.iconst 4, 1) := dk_7 (dk_at dksX9_keep_1 23 rfl rfl)
theorem dX9_keep_48 : decode cX9_keep 48 = .ok (.iaload, 1) := dk_46 (dk_at dksX9_keep_2 0 rfl rfl)
theorem dX9_keep_49 : decode cX9_keep 49 = .ok (.ireturn, 1) := dk_172 (dk_at dksX9_keep_2 1 rfl rfl)
abbrev cX9_in : ByteArray := prog_15_method_4_code
def yX9_in : MethodName := ⟨RX9, "in", "(III)Z"⟩
def dkwX9_in_0 : List UInt8 := [26, 27, 161, 0, 12, 26, 28, 163, 0, 7, 4, 167, 0, 4, 3, 172]
abbrev dktX9_in_0 : List UInt8 := dkwX9_in_0 ++ []
theorem dksX9_in_0 : cX9_in.data.toList.drop 0 = dktX9_in_0 := by decide +kernel
theorem dX9_in_0 : decode cX9_in 0 = .ok (.iload_n 0, 1) := dk_26 (dk_at dksX9_in_0 0 rfl rfl)
theorem dX9_in_1 : decode cX9_in 1 = .ok (.iload_n 1, 1) := dk_27 (dk_at dksX9_in_0 1 rfl rfl)
theorem dX9_in_2 : decode cX9_in 2 = .ok (.if_icmp .lt 12, 3) := dk_161 0 12 (dk_at dksX9_in_0 2 rfl rfl)
theorem dX9_in_5 : decode cX9_in 5 = .ok (.iload_n 0, 1) := dk_26 (dk_at dksX9_in_0 5 rfl rfl)
theorem dX9_in_6 : decode cX9_in 6 = .ok (.iload_n 2, 1) := dk_28 (dk_at dksX9_in_0 6 rfl rfl)
theorem dX9_in_7 : decode cX9_in 7 = .ok (.if_icmp .gt 7, 3) := dk_163 0 7 (dk_at dksX9_in_0 7 rfl rfl)
theorem dX9_in_10 : decode cX9_in 10 = .ok (.iconst 1, 1) := dk_4 (dk_at dksX9_in_0 10 rfl rfl)
theorem dX9_in_11 : decode cX9_in 11 = .ok (.goto 4, 3) := dk_167 0 4 (dk_at dksX9_in_0 11 rfl rfl)
theorem dX9_in_14 : decode cX9_in 14 = .ok (.iconst 0, 1) := dk_3 (dk_at dksX9_in_0 14 rfl rfl)
theorem dX9_in_15 : decode cX9_in 15 = .ok (.ireturn, 1) := dk_172 (dk_at dksX9_in_0 15 rfl rfl)
abbrev cX9_goBack : ByteArray := prog_15_method_14_code
def yX9_goBack : MethodName := ⟨RX9, "goBack", "(I)I"⟩
def dkwX9_goBack_2 : List UInt8 := [180, 0, 7, 3, 184, 0, 43, 42, 180, 0, 7, 7, 46, 172]
abbrev dktX9_goBack_2 : List UInt8 := dkwX9_goBack_2 ++ []
def dkwX9_goBack_1 : List UInt8 := [27, 51, 154, 0, 9, 42, 5, 182, 0, 47, 172, 42, 182, 0, 51, 42, 180, 0, 19, 16, 89, 27, 104, 42]
abbrev dktX9_goBack_1 : List UInt8 := dkwX9_goBack_1 ++ dktX9_goBack_2
def dkwX9_goBack_0 : List UInt8 := [42, 3, 181, 0, 32, 27, 3, 4, 184, 0, 36, 154, 0, 9, 42, 4, 182, 0, 47, 172, 42, 180, 0, 22]
abbrev dktX9_goBack_0 : List UInt8 := dkwX9_goBack_0 ++ dktX9_goBack_1
theorem dksX9_goBack_0 : cX9_goBack.data.toList.drop 0 = dktX9_goBack_0 := by decide +kernel
theorem dksX9_goBack_1 : cX9_goBack.data.toList.drop 24 = dktX9_goBack_1 := dk_seg dksX9_goBack_0 24 rfl rfl
theorem dksX9_goBack_2 : cX9_goBack.data.toList.drop 48 = dktX9_goBack_2 := dk_seg dksX9_goBack_1 24 rfl rfl
theorem dX9_goBack_0 : decode cX9_goBack 0 = .ok (.aload_n 0, 1) := dk_42 (dk_at dksX9_goBack_0 0 rfl rfl)
theorem dX9_goBack_1 : decode cX9_goBack 1 = .ok (.iconst 0, 1) := dk_3 (dk_at dksX9_goBack_0 1 rfl rfl)
theorem dX9_goBack_2 : decode cX9_goBack 2 = .ok (.putfield 32, 3) := dk_181 0 32 (dk_at dksX9_goBack_0 2 rfl rfl)
theorem dX9_goBack_5 : decode cX9_goBack 5 = .ok (.iload_n 1, 1) := dk_27 (dk_at dksX9_goBack_0 5 rfl rfl)
theorem dX9_goBack_6 : decode cX9_goBack 6 = .ok (.iconst 0, 1) := dk_3 (dk_at dksX9_goBack_0 6 rfl rfl)
theorem dX9_goBack_7 : decode cX9_goBack 7 = .ok (.iconst 1, 1) := dk_4 (dk_at dksX9_goBack_0 7 rfl rfl)
theorem dX9_goBack_8 : decode cX9_goBack 8 = .ok (.invokestatic 36, 3) := dk_184 0 36 (dk_at dksX9_goBack_0 8 rfl rfl)
theorem dX9_goBack_11 : decode cX9_goBack 11 = .ok (.ifCond .ne 9, 3) := dk_154 0 9 (dk_at dksX9_goBack_0 11 rfl rfl)
theorem dX9_goBack_14 : decode cX9_goBack 14 = .ok (.aload_n 0, 1) := dk_42 (dk_at dksX9_goBack_0 14 rfl rfl)
theorem dX9_goBack_15 : decode cX9_goBack 15 = .ok (.iconst 1, 1) := dk_4 (dk_at dksX9_goBack_0 15 rfl rfl)
theorem dX9_goBack_16 : decode cX9_goBack 16 = .ok (.invokevirtual 47, 3) := dk_182 0 47 (dk_at dksX9_goBack_0 16 rfl rfl)
theorem dX9_goBack_19 : decode cX9_goBack 19 = .ok (.ireturn, 1) := dk_172 (dk_at dksX9_goBack_0 19 rfl rfl)
theorem dX9_goBack_20 : decode cX9_goBack 20 = .ok (.aload_n 0, 1) := dk_42 (dk_at dksX9_goBack_0 20 rfl rfl)
theorem dX9_goBack_21 : decode cX9_goBack 21 = .ok (.getfield 22, 3) := dk_180 0 22 (dk_at dksX9_goBack_0 21 rfl rfl)
theorem dX9_goBack_24 : decode cX9_goBack 24 = .ok (.iload_n 1, 1) := dk_27 (dk_at dksX9_goBack_1 0 rfl rfl)
theorem dX9_goBack_25 : decode cX9_goBack 25 = .ok (.baload, 1) := dk_51 (dk_at dksX9_goBack_1 1 rfl rfl)
theorem dX9_goBack_26 : decode cX9_goBack 26 = .ok (.ifCond .ne 9, 3) := dk_154 0 9 (dk_at dksX9_goBack_1 2 rfl rfl)
theorem dX9_goBack_29 : decode cX9_goBack 29 = .ok (.aload_n 0, 1) := dk_42 (dk_at dksX9_goBack_1 5 rfl rfl)
theorem dX9_goBack_30 : decode cX9_goBack 30 = .ok (.iconst 2, 1) := dk_5 (dk_at dksX9_goBack_1 6 rfl rfl)
theorem dX9_goBack_31 : decode cX9_goBack 31 = .ok (.invokevirtual 47, 3) := dk_182 0 47 (dk_at dksX9_goBack_1 7 rfl rfl)
theorem dX9_goBack_34 : decode cX9_goBack 34 = .ok (.ireturn, 1) := dk_172 (dk_at dksX9_goBack_1 10 rfl rfl)
theorem dX9_goBack_35 : decode cX9_goBack 35 = .ok (.aload_n 0, 1) := dk_42 (dk_at dksX9_goBack_1 11 rfl rfl)
theorem dX9_goBack_36 : decode cX9_goBack 36 = .ok (.invokevirtual 51, 3) := dk_182 0 51 (dk_at dksX9_goBack_1 12 rfl rfl)
theorem dX9_goBack_39 : decode cX9_goBack 39 = .ok (.aload_n 0, 1) := dk_42 (dk_at dksX9_goBack_1 15 rfl rfl)
theorem dX9_goBack_40 : decode cX9_goBack 40 = .ok (.getfield 19, 3) := dk_180 0 19 (dk_at dksX9_goBack_1 16 rfl rfl)
theorem dX9_goBack_43 : decode cX9_goBack 43 = .ok (.bipush 89, 2) := dk_16 89 (dk_at dksX9_goBack_1 19 rfl rfl)
theorem dX9_goBack_45 : decode cX9_goBack 45 = .ok (.iload_n 1, 1) := dk_27 (dk_at dksX9_goBack_1 21 rfl rfl)
theorem dX9_goBack_46 : decode cX9_goBack 46 = .ok (.imul, 1) := dk_104 (dk_at dksX9_goBack_1 22 rfl rfl)
theorem dX9_goBack_47 : decode cX9_goBack 47 = .ok (.aload_n 0, 1) := dk_42 (dk_at dksX9_goBack_1 23 rfl rfl)
theorem dX9_goBack_48 : decode cX9_goBack 48 = .ok (.getfield 7, 3) := dk_180 0 7 (dk_at dksX9_goBack_2 0 rfl rfl)
theorem dX9_goBack_51 : decode cX9_goBack 51 = .ok (.iconst 0, 1) := dk_3 (dk_at dksX9_goBack_2 3 rfl rfl)
theorem dX9_goBack_52 : decode cX9_goBack 52 = .ok (.invokestatic 43, 3) := dk_184 0 43 (dk_at dksX9_goBack_2 4 rfl rfl)
theorem dX9_goBack_55 : decode cX9_goBack 55 = .ok (.aload_n 0, 1) := dk_42 (dk_at dksX9_goBack_2 7 rfl rfl)
theorem dX9_goBack_56 : decode cX9_goBack 56 = .ok (.getfield 7, 3) := dk_180 0 7 (dk_at dksX9_goBack_2 8 rfl rfl)
theorem dX9_goBack_59 : decode cX9_goBack 59 = .ok (.iconst 4, 1) := dk_7 (dk_at dksX9_goBack_2 11 rfl rfl)
theorem dX9_goBack_60 : decode cX9_goBack 60 = .ok (.iaload, 1) := dk_46 (dk_at dksX9_goBack_2 12 rfl rfl)
theorem dX9_goBack_61 : decode cX9_goBack 61 = .ok (.ireturn, 1) := dk_172 (dk_at dksX9_goBack_2 13 rfl rfl)
abbrev cX9_saves : ByteArray := prog_15_method_11_code
def yX9_saves : MethodName := ⟨RX9, "saves", "()V"⟩
def dkwX9_saves_3 : List UInt8 := [180, 0, 40, 4, 96, 181, 0, 40, 177]
abbrev dktX9_saves_3 : List UInt8 := dkwX9_saves_3 ++ []
def dkwX9_saves_2 : List UInt8 := [181, 0, 40, 42, 180, 0, 7, 3, 42, 180, 0, 16, 16, 89, 42, 180, 0, 40, 104, 184, 0, 43, 42, 89]
abbrev dktX9_saves_2 : List UInt8 := dkwX9_saves_2 ++ dktX9_saves_3
def dkwX9_saves_1 : List UInt8 := [180, 0, 16, 27, 16, 89, 96, 46, 79, 132, 1, 1, 167, 255, 231, 42, 89, 180, 0, 40, 4, 100]
abbrev dktX9_saves_1 : List UInt8 := dkwX9_saves_1 ++ dktX9_saves_2
def dkwX9_saves_0 : List UInt8 := [42, 180, 0, 40, 16, 6, 160, 0, 43, 3, 60, 27, 17, 1, 189, 162, 0, 24, 42, 180, 0, 16, 27, 42]
abbrev dktX9_saves_0 : List UInt8 := dkwX9_saves_0 ++ dktX9_saves_1
theorem dksX9_saves_0 : cX9_saves.data.toList.drop 0 = dktX9_saves_0 := by decide +kernel
theorem dksX9_saves_1 : cX9_saves.data.toList.drop 24 = dktX9_saves_1 := dk_seg dksX9_saves_0 24 rfl rfl
theorem dksX9_saves_2 : cX9_saves.data.toList.drop 46 = dktX9_saves_2 := dk_seg dksX9_saves_1 22 rfl rfl
theorem dksX9_saves_3 : cX9_saves.data.toList.drop 70 = dktX9_saves_3 := dk_seg dksX9_saves_2 24 rfl rfl
theorem dX9_saves_0 : decode cX9_saves 0 = .ok (.aload_n 0, 1) := dk_42 (dk_at dksX9_saves_0 0 rfl rfl)
theorem dX9_saves_1 : decode cX9_saves 1 = .ok (.getfield 40, 3) := dk_180 0 40 (dk_at dksX9_saves_0 1 rfl rfl)
theorem dX9_saves_4 : decode cX9_saves 4 = .ok (.bipush 6, 2) := dk_16 6 (dk_at dksX9_saves_0 4 rfl rfl)
theorem dX9_saves_6 : decode cX9_saves 6 = .ok (.if_icmp .ne 43, 3) := dk_160 0 43 (dk_at dksX9_saves_0 6 rfl rfl)
theorem dX9_saves_9 : decode cX9_saves 9 = .ok (.iconst 0, 1) := dk_3 (dk_at dksX9_saves_0 9 rfl rfl)
theorem dX9_saves_10 : decode cX9_saves 10 = .ok (.istore_n 1, 1) := dk_60 (dk_at dksX9_saves_0 10 rfl rfl)
theorem dX9_saves_11 : decode cX9_saves 11 = .ok (.iload_n 1, 1) := dk_27 (dk_at dksX9_saves_0 11 rfl rfl)
theorem dX9_saves_12 : decode cX9_saves 12 = .ok (.sipush 445, 3) := dk_17 1 189 (dk_at dksX9_saves_0 12 rfl rfl)
theorem dX9_saves_15 : decode cX9_saves 15 = .ok (.if_icmp .ge 24, 3) := dk_162 0 24 (dk_at dksX9_saves_0 15 rfl rfl)
theorem dX9_saves_18 : decode cX9_saves 18 = .ok (.aload_n 0, 1) := dk_42 (dk_at dksX9_saves_0 18 rfl rfl)
theorem dX9_saves_19 : decode cX9_saves 19 = .ok (.getfield 16, 3) := dk_180 0 16 (dk_at dksX9_saves_0 19 rfl rfl)
theorem dX9_saves_22 : decode cX9_saves 22 = .ok (.iload_n 1, 1) := dk_27 (dk_at dksX9_saves_0 22 rfl rfl)
theorem dX9_saves_23 : decode cX9_saves 23 = .ok (.aload_n 0, 1) := dk_42 (dk_at dksX9_saves_0 23 rfl rfl)
theorem dX9_saves_24 : decode cX9_saves 24 = .ok (.getfield 16, 3) := dk_180 0 16 (dk_at dksX9_saves_1 0 rfl rfl)
theorem dX9_saves_27 : decode cX9_saves 27 = .ok (.iload_n 1, 1) := dk_27 (dk_at dksX9_saves_1 3 rfl rfl)
theorem dX9_saves_28 : decode cX9_saves 28 = .ok (.bipush 89, 2) := dk_16 89 (dk_at dksX9_saves_1 4 rfl rfl)
theorem dX9_saves_30 : decode cX9_saves 30 = .ok (.iadd, 1) := dk_96 (dk_at dksX9_saves_1 6 rfl rfl)
theorem dX9_saves_31 : decode cX9_saves 31 = .ok (.iaload, 1) := dk_46 (dk_at dksX9_saves_1 7 rfl rfl)
theorem dX9_saves_32 : decode cX9_saves 32 = .ok (.iastore, 1) := dk_79 (dk_at dksX9_saves_1 8 rfl rfl)
theorem dX9_saves_33 : decode cX9_saves 33 = .ok (.iinc 1 1, 3) := dk_132 1 1 (dk_at dksX9_saves_1 9 rfl rfl)
theorem dX9_saves_36 : decode cX9_saves 36 = .ok (.goto (-25), 3) := dk_167 255 231 (dk_at dksX9_saves_1 12 rfl rfl)
theorem dX9_saves_39 : decode cX9_saves 39 = .ok (.aload_n 0, 1) := dk_42 (dk_at dksX9_saves_1 15 rfl rfl)
theorem dX9_saves_40 : decode cX9_saves 40 = .ok (.dup, 1) := dk_89 (dk_at dksX9_saves_1 16 rfl rfl)
theorem dX9_saves_41 : decode cX9_saves 41 = .ok (.getfield 40, 3) := dk_180 0 40 (dk_at dksX9_saves_1 17 rfl rfl)
theorem dX9_saves_44 : decode cX9_saves 44 = .ok (.iconst 1, 1) := dk_4 (dk_at dksX9_saves_1 20 rfl rfl)
theorem dX9_saves_45 : decode cX9_saves 45 = .ok (.isub, 1) := dk_100 (dk_at dksX9_saves_1 21 rfl rfl)
theorem dX9_saves_46 : decode cX9_saves 46 = .ok (.putfield 40, 3) := dk_181 0 40 (dk_at dksX9_saves_2 0 rfl rfl)
theorem dX9_saves_49 : decode cX9_saves 49 = .ok (.aload_n 0, 1) := dk_42 (dk_at dksX9_saves_2 3 rfl rfl)
theorem dX9_saves_50 : decode cX9_saves 50 = .ok (.getfield 7, 3) := dk_180 0 7 (dk_at dksX9_saves_2 4 rfl rfl)
theorem dX9_saves_53 : decode cX9_saves 53 = .ok (.iconst 0, 1) := dk_3 (dk_at dksX9_saves_2 7 rfl rfl)
theorem dX9_saves_54 : decode cX9_saves 54 = .ok (.aload_n 0, 1) := dk_42 (dk_at dksX9_saves_2 8 rfl rfl)
theorem dX9_saves_55 : decode cX9_saves 55 = .ok (.getfield 16, 3) := dk_180 0 16 (dk_at dksX9_saves_2 9 rfl rfl)
theorem dX9_saves_58 : decode cX9_saves 58 = .ok (.bipush 89, 2) := dk_16 89 (dk_at dksX9_saves_2 12 rfl rfl)
theorem dX9_saves_60 : decode cX9_saves 60 = .ok (.aload_n 0, 1) := dk_42 (dk_at dksX9_saves_2 14 rfl rfl)
theorem dX9_saves_61 : decode cX9_saves 61 = .ok (.getfield 40, 3) := dk_180 0 40 (dk_at dksX9_saves_2 15 rfl rfl)
theorem dX9_saves_64 : decode cX9_saves 64 = .ok (.imul, 1) := dk_104 (dk_at dksX9_saves_2 18 rfl rfl)
theorem dX9_saves_65 : decode cX9_saves 65 = .ok (.invokestatic 43, 3) := dk_184 0 43 (dk_at dksX9_saves_2 19 rfl rfl)
theorem dX9_saves_68 : decode cX9_saves 68 = .ok (.aload_n 0, 1) := dk_42 (dk_at dksX9_saves_2 22 rfl rfl)
theorem dX9_saves_69 : decode cX9_saves 69 = .ok (.dup, 1) := dk_89 (dk_at dksX9_saves_2 23 rfl rfl)
theorem dX9_saves_70 : decode cX9_saves 70 = .ok (.getfield 40, 3) := dk_180 0 40 (dk_at dksX9_saves_3 0 rfl rfl)
theorem dX9_saves_73 : decode cX9_saves 73 = .ok (.iconst 1, 1) := dk_4 (dk_at dksX9_saves_3 3 rfl rfl)
theorem dX9_saves_74 : decode cX9_saves 74 = .ok (.iadd, 1) := dk_96 (dk_at dksX9_saves_3 4 rfl rfl)
theorem dX9_saves_75 : decode cX9_saves 75 = .ok (.putfield 40, 3) := dk_181 0 40 (dk_at dksX9_saves_3 5 rfl rfl)
theorem dX9_saves_78 : decode cX9_saves 78 = .ok (.return_, 1) := dk_177 (dk_at dksX9_saves_3 8 rfl rfl)
abbrev cX9_barge : ByteArray := prog_15_method_37_code
def yX9_barge : MethodName := ⟨RX9, "barge", "(I)I"⟩
def dkwX9_barge_5 : List UInt8 := [4, 100, 172]
abbrev dktX9_barge_5 : List UInt8 := dkwX9_barge_5 ++ []
def dkwX9_barge_4 : List UInt8 := [180, 0, 7, 28, 27, 79, 42, 180, 0, 7, 16, 6, 92, 46, 4, 96, 79, 42, 180, 0, 7, 16, 6, 46]
abbrev dktX9_barge_4 : List UInt8 := dkwX9_barge_4 ++ dktX9_barge_5
def dkwX9_barge_3 : List UInt8 := [96, 29, 6, 159, 0, 8, 29, 8, 160, 0, 7, 2, 167, 0, 4, 3, 79, 132, 3, 1, 167, 255, 224, 42]
abbrev dktX9_barge_3 : List UInt8 := dkwX9_barge_3 ++ dktX9_barge_4
def dkwX9_barge_2 : List UInt8 := [42, 180, 0, 7, 16, 6, 46, 104, 96, 61, 3, 62, 29, 16, 7, 162, 0, 32, 42, 180, 0, 7, 28, 29]
abbrev dktX9_barge_2 : List UInt8 := dkwX9_barge_2 ++ dktX9_barge_3
def dkwX9_barge_1 : List UInt8 := [180, 0, 7, 16, 6, 46, 7, 160, 0, 9, 42, 5, 182, 0, 47, 172, 42, 182, 0, 51, 16, 26, 16, 7]
abbrev dktX9_barge_1 : List UInt8 := dkwX9_barge_1 ++ dktX9_barge_2
def dkwX9_barge_0 : List UInt8 := [42, 3, 181, 0, 32, 27, 5, 16, 20, 184, 0, 36, 154, 0, 9, 42, 4, 182, 0, 47, 172, 42]
abbrev dktX9_barge_0 : List UInt8 := dkwX9_barge_0 ++ dktX9_barge_1
theorem dksX9_barge_0 : cX9_barge.data.toList.drop 0 = dktX9_barge_0 := by decide +kernel
theorem dksX9_barge_1 : cX9_barge.data.toList.drop 22 = dktX9_barge_1 := dk_seg dksX9_barge_0 22 rfl rfl
theorem dksX9_barge_2 : cX9_barge.data.toList.drop 46 = dktX9_barge_2 := dk_seg dksX9_barge_1 24 rfl rfl
theorem dksX9_barge_3 : cX9_barge.data.toList.drop 70 = dktX9_barge_3 := dk_seg dksX9_barge_2 24 rfl rfl
theorem dksX9_barge_4 : cX9_barge.data.toList.drop 94 = dktX9_barge_4 := dk_seg dksX9_barge_3 24 rfl rfl
theorem dksX9_barge_5 : cX9_barge.data.toList.drop 118 = dktX9_barge_5 := dk_seg dksX9_barge_4 24 rfl rfl
theorem dX9_barge_0 : decode cX9_barge 0 = .ok (.aload_n 0, 1) := dk_42 (dk_at dksX9_barge_0 0 rfl rfl)
theorem dX9_barge_1 : decode cX9_barge 1 = .ok (.iconst 0, 1) := dk_3 (dk_at dksX9_barge_0 1 rfl rfl)
theorem dX9_barge_2 : decode cX9_barge 2 = .ok (.putfield 32, 3) := dk_181 0 32 (dk_at dksX9_barge_0 2 rfl rfl)
theorem dX9_barge_5 : decode cX9_barge 5 = .ok (.iload_n 1, 1) := dk_27 (dk_at dksX9_barge_0 5 rfl rfl)
theorem dX9_barge_6 : decode cX9_barge 6 = .ok (.iconst 2, 1) := dk_5 (dk_at dksX9_barge_0 6 rfl rfl)
theorem dX9_barge_7 : decode cX9_barge 7 = .ok (.bipush 20, 2) := dk_16 20 (dk_at dksX9_barge_0 7 rfl rfl)
theorem dX9_barge_9 : decode cX9_barge 9 = .ok (.invokestatic 36, 3) := dk_184 0 36 (dk_at dksX9_barge_0 9 rfl rfl)
theorem dX9_barge_12 : decode cX9_barge 12 = .ok (.ifCond .ne 9, 3) := dk_154 0 9 (dk_at dksX9_barge_0 12 rfl rfl)
theorem dX9_barge_15 : decode cX9_barge 15 = .ok (.aload_n 0, 1) := dk_42 (dk_at dksX9_barge_0 15 rfl rfl)
theorem dX9_barge_16 : decode cX9_barge 16 = .ok (.iconst 1, 1) := dk_4 (dk_at dksX9_barge_0 16 rfl rfl)
theorem dX9_barge_17 : decode cX9_barge 17 = .ok (.invokevirtual 47, 3) := dk_182 0 47 (dk_at dksX9_barge_0 17 rfl rfl)
theorem dX9_barge_20 : decode cX9_barge 20 = .ok (.ireturn, 1) := dk_172 (dk_at dksX9_barge_0 20 rfl rfl)
theorem dX9_barge_21 : decode cX9_barge 21 = .ok (.aload_n 0, 1) := dk_42 (dk_at dksX9_barge_0 21 rfl rfl)
theorem dX9_barge_22 : decode cX9_barge 22 = .ok (.getfield 7, 3) := dk_180 0 7 (dk_at dksX9_barge_1 0 rfl rfl)
theorem dX9_barge_25 : decode cX9_barge 25 = .ok (.bipush 6, 2) := dk_16 6 (dk_at dksX9_barge_1 3 rfl rfl)
theorem dX9_barge_27 : decode cX9_barge 27 = .ok (.iaload, 1) := dk_46 (dk_at dksX9_barge_1 5 rfl rfl)
theorem dX9_barge_28 : decode cX9_barge 28 = .ok (.iconst 4, 1) := dk_7 (dk_at dksX9_barge_1 6 rfl rfl)
theorem dX9_barge_29 : decode cX9_barge 29 = .ok (.if_icmp .ne 9, 3) := dk_160 0 9 (dk_at dksX9_barge_1 7 rfl rfl)
theorem dX9_barge_32 : decode cX9_barge 32 = .ok (.aload_n 0, 1) := dk_42 (dk_at dksX9_barge_1 10 rfl rfl)
theorem dX9_barge_33 : decode cX9_barge 33 = .ok (.iconst 2, 1) := dk_5 (dk_at dksX9_barge_1 11 rfl rfl)
theorem dX9_barge_34 : decode cX9_barge 34 = .ok (.invokevirtual 47, 3) := dk_182 0 47 (dk_at dksX9_barge_1 12 rfl rfl)
theorem dX9_barge_37 : decode cX9_barge 37 = .ok (.ireturn, 1) := dk_172 (dk_at dksX9_barge_1 15 rfl rfl)
theorem dX9_barge_38 : decode cX9_barge 38 = .ok (.aload_n 0, 1) := dk_42 (dk_at dksX9_barge_1 16 rfl rfl)
theorem dX9_barge_39 : decode cX9_barge 39 = .ok (.invokevirtual 51, 3) := dk_182 0 51 (dk_at dksX9_barge_1 17 rfl rfl)
theorem dX9_barge_42 : decode cX9_barge 42 = .ok (.bipush 26, 2) := dk_16 26 (dk_at dksX9_barge_1 20 rfl rfl)
theorem dX9_barge_44 : decode cX9_barge 44 = .ok (.bipush 7, 2) := dk_16 7 (dk_at dksX9_barge_1 22 rfl rfl)
theorem dX9_barge_46 : decode cX9_barge 46 = .ok (.aload_n 0, 1) := dk_42 (dk_at dksX9_barge_2 0 rfl rfl)
theorem dX9_barge_47 : decode cX9_barge 47 = .ok (.getfield 7, 3) := dk_180 0 7 (dk_at dksX9_barge_2 1 rfl rfl)
theorem dX9_barge_50 : decode cX9_barge 50 = .ok (.bipush 6, 2) := dk_16 6 (dk_at dksX9_barge_2 4 rfl rfl)
theorem dX9_barge_52 : decode cX9_barge 52 = .ok (.iaload, 1) := dk_46 (dk_at dksX9_barge_2 6 rfl rfl)
theorem dX9_barge_53 : decode cX9_barge 53 = .ok (.imul, 1) := dk_104 (dk_at dksX9_barge_2 7 rfl rfl)
theorem dX9_barge_54 : decode cX9_barge 54 = .ok (.iadd, 1) := dk_96 (dk_at dksX9_barge_2 8 rfl rfl)
theorem dX9_barge_55 : decode cX9_barge 55 = .ok (.istore_n 2, 1) := dk_61 (dk_at dksX9_barge_2 9 rfl rfl)
theorem dX9_barge_56 : decode cX9_barge 56 = .ok (.iconst 0, 1) := dk_3 (dk_at dksX9_barge_2 10 rfl rfl)
theorem dX9_barge_57 : decode cX9_barge 57 = .ok (.istore_n 3, 1) := dk_62 (dk_at dksX9_barge_2 11 rfl rfl)
theorem dX9_barge_58 : decode cX9_barge 58 = .ok (.iload_n 3, 1) := dk_29 (dk_at dksX9_barge_2 12 rfl rfl)
theorem dX9_barge_59 : decode cX9_barge 59 = .ok (.bipush 7, 2) := dk_16 7 (dk_at dksX9_barge_2 13 rfl rfl)
theorem dX9_barge_61 : decode cX9_barge 61 = .ok (.if_icmp .ge 32, 3) := dk_162 0 32 (dk_at dksX9_barge_2 15 rfl rfl)
theorem dX9_barge_64 : decode cX9_barge 64 = .ok (.aload_n 0, 1) := dk_42 (dk_at dksX9_barge_2 18 rfl rfl)
theorem dX9_barge_65 : decode cX9_barge 65 = .ok (.getfield 7, 3) := dk_180 0 7 (dk_at dksX9_barge_2 19 rfl rfl)
theorem dX9_barge_68 : decode cX9_barge 68 = .ok (.iload_n 2, 1) := dk_28 (dk_at dksX9_barge_2 22 rfl rfl)
theorem dX9_barge_69 : decode cX9_barge 69 = .ok (.iload_n 3, 1) := dk_29 (dk_at dksX9_barge_2 23 rfl rfl)
theorem dX9_barge_70 : decode cX9_barge 70 = .ok (.iadd, 1) := dk_96 (dk_at dksX9_barge_3 0 rfl rfl)
theorem dX9_barge_71 : decode cX9_barge 71 = .ok (.iload_n 3, 1) := dk_29 (dk_at dksX9_barge_3 1 rfl rfl)
theorem dX9_barge_72 : decode cX9_barge 72 = .ok (.iconst 3, 1) := dk_6 (dk_at dksX9_barge_3 2 rfl rfl)
theorem dX9_barge_73 : decode cX9_barge 73 = .ok (.if_icmp .eq 8, 3) := dk_159 0 8 (dk_at dksX9_barge_3 3 rfl rfl)
theorem dX9_barge_76 : decode cX9_barge 76 = .ok (.iload_n 3, 1) := dk_29 (dk_at dksX9_barge_3 6 rfl rfl)
theorem dX9_barge_77 : decode cX9_barge 77 = .ok (.iconst 5, 1) := dk_8 (dk_at dksX9_barge_3 7 rfl rfl)
theorem dX9_barge_78 : decode cX9_barge 78 = .ok (.if_icmp .ne 7, 3) := dk_160 0 7 (dk_at dksX9_barge_3 8 rfl rfl)
theorem dX9_barge_81 : decode cX9_barge 81 = .ok (.iconst (-1), 1) := dk_2 (dk_at dksX9_barge_3 11 rfl rfl)
theorem dX9_barge_82 : decode cX9_barge 82 = .ok (.goto 4, 3) := dk_167 0 4 (dk_at dksX9_barge_3 12 rfl rfl)
theorem dX9_barge_85 : decode cX9_barge 85 = .ok (.iconst 0, 1) := dk_3 (dk_at dksX9_barge_3 15 rfl rfl)
theorem dX9_barge_86 : decode cX9_barge 86 = .ok (.iastore, 1) := dk_79 (dk_at dksX9_barge_3 16 rfl rfl)
theorem dX9_barge_87 : decode cX9_barge 87 = .ok (.iinc 3 1, 3) := dk_132 3 1 (dk_at dksX9_barge_3 17 rfl rfl)
theorem dX9_barge_90 : decode cX9_barge 90 = .ok (.goto (-32), 3) := dk_167 255 224 (dk_at dksX9_barge_3 20 rfl rfl)
theorem dX9_barge_93 : decode cX9_barge 93 = .ok (.aload_n 0, 1) := dk_42 (dk_at dksX9_barge_3 23 rfl rfl)
theorem dX9_barge_94 : decode cX9_barge 94 = .ok (.getfield 7, 3) := dk_180 0 7 (dk_at dksX9_barge_4 0 rfl rfl)
theorem dX9_barge_97 : decode cX9_barge 97 = .ok (.iload_n 2, 1) := dk_28 (dk_at dksX9_barge_4 3 rfl rfl)
theorem dX9_barge_98 : decode cX9_barge 98 = .ok (.iload_n 1, 1) := dk_27 (dk_at dksX9_barge_4 4 rfl rfl)
theorem dX9_barge_99 : decode cX9_barge 99 = .ok (.iastore, 1) := dk_79 (dk_at dksX9_barge_4 5 rfl rfl)
theorem dX9_barge_100 : decode cX9_barge 100 = .ok (.aload_n 0, 1) := dk_42 (dk_at dksX9_barge_4 6 rfl rfl)
theorem dX9_barge_101 : decode cX9_barge 101 = .ok (.getfield 7, 3) := dk_180 0 7 (dk_at dksX9_barge_4 7 rfl rfl)
theorem dX9_barge_104 : decode cX9_barge 104 = .ok (.bipush 6, 2) := dk_16 6 (dk_at dksX9_barge_4 10 rfl rfl)
theorem dX9_barge_106 : decode cX9_barge 106 = .ok (.dup2, 1) := dk_92 (dk_at dksX9_barge_4 12 rfl rfl)
theorem dX9_barge_107 : decode cX9_barge 107 = .ok (.iaload, 1) := dk_46 (dk_at dksX9_barge_4 13 rfl rfl)
theorem dX9_barge_108 : decode cX9_barge 108 = .ok (.iconst 1, 1) := dk_4 (dk_at dksX9_barge_4 14 rfl rfl)
theorem dX9_barge_109 : decode cX9_barge 109 = .ok (.iadd, 1) := dk_96 (dk_at dksX9_barge_4 15 rfl rfl)
theorem dX9_barge_110 : decode cX9_barge 110 = .ok (.iastore, 1) := dk_79 (dk_at dksX9_barge_4 16 rfl rfl)
theorem dX9_barge_111 : decode cX9_barge 111 = .ok (.aload_n 0, 1) := dk_42 (dk_at dksX9_barge_4 17 rfl rfl)
theorem dX9_barge_112 : decode cX9_barge 112 = .ok (.getfield 7, 3) := dk_180 0 7 (dk_at dksX9_barge_4 18 rfl rfl)
theorem dX9_barge_115 : decode cX9_barge 115 = .ok (.bipush 6, 2) := dk_16 6 (dk_at dksX9_barge_4 21 rfl rfl)
theorem dX9_barge_117 : decode cX9_barge 117 = .ok (.iaload, 1) := dk_46 (dk_at dksX9_barge_4 23 rfl rfl)
theorem dX9_barge_118 : decode cX9_barge 118 = .ok (.iconst 1, 1) := dk_4 (dk_at dksX9_barge_5 0 rfl rfl)
theorem dX9_barge_119 : decode cX9_barge 119 = .ok (.isub, 1) := dk_100 (dk_at dksX9_barge_5 1 rfl rfl)
theorem dX9_barge_120 : decode cX9_barge 120 = .ok (.ireturn, 1) := dk_172 (dk_at dksX9_barge_5 2 rfl rfl)
abbrev cX9_order : ByteArray := prog_15_method_38_code
def yX9_order : MethodName := ⟨RX9, "order", "(II)I"⟩
def dkwX9_order_2 : List UInt8 := [8, 96, 28, 182, 0, 122, 172]
abbrev dktX9_order_2 : List UInt8 := dkwX9_order_2 ++ []
def dkwX9_order_1 : List UInt8 := [184, 0, 36, 154, 0, 9, 42, 5, 182, 0, 47, 172, 42, 182, 0, 51, 42, 16, 26, 16, 7, 27, 104, 96]
abbrev dktX9_order_1 : List UInt8 := dkwX9_order_1 ++ dktX9_order_2
def dkwX9_order_0 : List UInt8 := [42, 3, 181, 0, 32, 42, 27, 182, 0, 118, 154, 0, 9, 42, 4, 182, 0, 47, 172, 28, 2, 7]
abbrev dktX9_order_0 : List UInt8 := dkwX9_order_0 ++ dktX9_order_1
theorem dksX9_order_0 : cX9_order.data.toList.drop 0 = dktX9_order_0 := by decide +kernel
theorem dksX9_order_1 : cX9_order.data.toList.drop 22 = dktX9_order_1 := dk_seg dksX9_order_0 22 rfl rfl
theorem dksX9_order_2 : cX9_order.data.toList.drop 46 = dktX9_order_2 := dk_seg dksX9_order_1 24 rfl rfl
theorem dX9_order_0 : decode cX9_order 0 = .ok (.aload_n 0, 1) := dk_42 (dk_at dksX9_order_0 0 rfl rfl)
theorem dX9_order_1 : decode cX9_order 1 = .ok (.iconst 0, 1) := dk_3 (dk_at dksX9_order_0 1 rfl rfl)
theorem dX9_order_2 : decode cX9_order 2 = .ok (.putfield 32, 3) := dk_181 0 32 (dk_at dksX9_order_0 2 rfl rfl)
theorem dX9_order_5 : decode cX9_order 5 = .ok (.aload_n 0, 1) := dk_42 (dk_at dksX9_order_0 5 rfl rfl)
theorem dX9_order_6 : decode cX9_order 6 = .ok (.iload_n 1, 1) := dk_27 (dk_at dksX9_order_0 6 rfl rfl)
theorem dX9_order_7 : decode cX9_order 7 = .ok (.invokevirtual 118, 3) := dk_182 0 118 (dk_at dksX9_order_0 7 rfl rfl)
theorem dX9_order_10 : decode cX9_order 10 = .ok (.ifCond .ne 9, 3) := dk_154 0 9 (dk_at dksX9_order_0 10 rfl rfl)
theorem dX9_order_13 : decode cX9_order 13 = .ok (.aload_n 0, 1) := dk_42 (dk_at dksX9_order_0 13 rfl rfl)
theorem dX9_order_14 : decode cX9_order 14 = .ok (.iconst 1, 1) := dk_4 (dk_at dksX9_order_0 14 rfl rfl)
theorem dX9_order_15 : decode cX9_order 15 = .ok (.invokevirtual 47, 3) := dk_182 0 47 (dk_at dksX9_order_0 15 rfl rfl)
theorem dX9_order_18 : decode cX9_order 18 = .ok (.ireturn, 1) := dk_172 (dk_at dksX9_order_0 18 rfl rfl)
theorem dX9_order_19 : decode cX9_order 19 = .ok (.iload_n 2, 1) := dk_28 (dk_at dksX9_order_0 19 rfl rfl)
theorem dX9_order_20 : decode cX9_order 20 = .ok (.iconst (-1), 1) := dk_2 (dk_at dksX9_order_0 20 rfl rfl)
theorem dX9_order_21 : decode cX9_order 21 = .ok (.iconst 4, 1) := dk_7 (dk_at dksX9_order_0 21 rfl rfl)
theorem dX9_order_22 : decode cX9_order 22 = .ok (.invokestatic 36, 3) := dk_184 0 36 (dk_at dksX9_order_1 0 rfl rfl)
theorem dX9_order_25 : decode cX9_order 25 = .ok (.ifCond .ne 9, 3) := dk_154 0 9 (dk_at dksX9_order_1 3 rfl rfl)
theorem dX9_order_28 : decode cX9_order 28 = .ok (.aload_n 0, 1) := dk_42 (dk_at dksX9_order_1 6 rfl rfl)
theorem dX9_order_29 : decode cX9_order 29 = .ok (.iconst 2, 1) := dk_5 (dk_at dksX9_order_1 7 rfl rfl)
theorem dX9_order_30 : decode cX9_order 30 = .ok (.invokevirtual 47, 3) := dk_182 0 47 (dk_at dksX9_order_1 8 rfl rfl)
theorem dX9_order_33 : decode cX9_order 33 = .ok (.ireturn, 1) := dk_172 (dk_at dksX9_order_1 11 rfl rfl)
theorem dX9_order_34 : decode cX9_order 34 = .ok (.aload_n 0, 1) := dk_42 (dk_at dksX9_order_1 12 rfl rfl)
theorem dX9_order_35 : decode cX9_order 35 = .ok (.invokevirtual 51, 3) := dk_182 0 51 (dk_at dksX9_order_1 13 rfl rfl)
theorem dX9_order_38 : decode cX9_order 38 = .ok (.aload_n 0, 1) := dk_42 (dk_at dksX9_order_1 16 rfl rfl)
theorem dX9_order_39 : decode cX9_order 39 = .ok (.bipush 26, 2) := dk_16 26 (dk_at dksX9_order_1 17 rfl rfl)
theorem dX9_order_41 : decode cX9_order 41 = .ok (.bipush 7, 2) := dk_16 7 (dk_at dksX9_order_1 19 rfl rfl)
theorem dX9_order_43 : decode cX9_order 43 = .ok (.iload_n 1, 1) := dk_27 (dk_at dksX9_order_1 21 rfl rfl)
theorem dX9_order_44 : decode cX9_order 44 = .ok (.imul, 1) := dk_104 (dk_at dksX9_order_1 22 rfl rfl)
theorem dX9_order_45 : decode cX9_order 45 = .ok (.iadd, 1) := dk_96 (dk_at dksX9_order_1 23 rfl rfl)
theorem dX9_order_46 : decode cX9_order 46 = .ok (.iconst 5, 1) := dk_8 (dk_at dksX9_order_2 0 rfl rfl)
theorem dX9_order_47 : decode cX9_order 47 = .ok (.iadd, 1) := dk_96 (dk_at dksX9_order_2 1 rfl rfl)
theorem dX9_order_48 : decode cX9_order 48 = .ok (.iload_n 2, 1) := dk_28 (dk_at dksX9_order_2 2 rfl rfl)
theorem dX9_order_49 : decode cX9_order 49 = .ok (.invokevirtual 122, 3) := dk_182 0 122 (dk_at dksX9_order_2 3 rfl rfl)
theorem dX9_order_52 : decode cX9_order 52 = .ok (.ireturn, 1) := dk_172 (dk_at dksX9_order_2 6 rfl rfl)
abbrev cX9_isBarge : ByteArray := prog_15_method_7_code
def yX9_isBarge : MethodName := ⟨RX9, "isBarge", "(I)Z"⟩
def dkwX9_isBarge_0 : List UInt8 := [27, 3, 42, 180, 0, 7, 16, 6, 46, 4, 100, 184, 0, 36, 172]
abbrev dktX9_isBarge_0 : List UInt8 := dkwX9_isBarge_0 ++ []
theorem dksX9_isBarge_0 : cX9_isBarge.data.toList.drop 0 = dktX9_isBarge_0 := by decide +kernel
theorem dX9_isBarge_0 : decode cX9_isBarge 0 = .ok (.iload_n 1, 1) := dk_27 (dk_at dksX9_isBarge_0 0 rfl rfl)
theorem dX9_isBarge_1 : decode cX9_isBarge 1 = .ok (.iconst 0, 1) := dk_3 (dk_at dksX9_isBarge_0 1 rfl rfl)
theorem dX9_isBarge_2 : decode cX9_isBarge 2 = .ok (.aload_n 0, 1) := dk_42 (dk_at dksX9_isBarge_0 2 rfl rfl)
theorem dX9_isBarge_3 : decode cX9_isBarge 3 = .ok (.getfield 7, 3) := dk_180 0 7 (dk_at dksX9_isBarge_0 3 rfl rfl)
theorem dX9_isBarge_6 : decode cX9_isBarge 6 = .ok (.bipush 6, 2) := dk_16 6 (dk_at dksX9_isBarge_0 6 rfl rfl)
theorem dX9_isBarge_8 : decode cX9_isBarge 8 = .ok (.iaload, 1) := dk_46 (dk_at dksX9_isBarge_0 8 rfl rfl)
theorem dX9_isBarge_9 : decode cX9_isBarge 9 = .ok (.iconst 1, 1) := dk_4 (dk_at dksX9_isBarge_0 9 rfl rfl)
theorem dX9_isBarge_10 : decode cX9_isBarge 10 = .ok (.isub, 1) := dk_100 (dk_at dksX9_isBarge_0 10 rfl rfl)
theorem dX9_isBarge_11 : decode cX9_isBarge 11 = .ok (.invokestatic 36, 3) := dk_184 0 36 (dk_at dksX9_isBarge_0 11 rfl rfl)
theorem dX9_isBarge_14 : decode cX9_isBarge 14 = .ok (.ireturn, 1) := dk_172 (dk_at dksX9_isBarge_0 14 rfl rfl)
abbrev cX9_changes : ByteArray := prog_15_method_36_code
def yX9_changes : MethodName := ⟨RX9, "changes", "(II)I"⟩
def dkwX9_changes_0 : List UInt8 := [42, 180, 0, 7, 27, 46, 62, 42, 180, 0, 7, 27, 28, 79, 29, 172]
abbrev dktX9_changes_0 : List UInt8 := dkwX9_changes_0 ++ []
theorem dksX9_changes_0 : cX9_changes.data.toList.drop 0 = dktX9_changes_0 := by decide +kernel
theorem dX9_changes_0 : decode cX9_changes 0 = .ok (.aload_n 0, 1) := dk_42 (dk_at dksX9_changes_0 0 rfl rfl)
theorem dX9_changes_1 : decode cX9_changes 1 = .ok (.getfield 7, 3) := dk_180 0 7 (dk_at dksX9_changes_0 1 rfl rfl)
theorem dX9_changes_4 : decode cX9_changes 4 = .ok (.iload_n 1, 1) := dk_27 (dk_at dksX9_changes_0 4 rfl rfl)
theorem dX9_changes_5 : decode cX9_changes 5 = .ok (.iaload, 1) := dk_46 (dk_at dksX9_changes_0 5 rfl rfl)
theorem dX9_changes_6 : decode cX9_changes 6 = .ok (.istore_n 3, 1) := dk_62 (dk_at dksX9_changes_0 6 rfl rfl)
theorem dX9_changes_7 : decode cX9_changes 7 = .ok (.aload_n 0, 1) := dk_42 (dk_at dksX9_changes_0 7 rfl rfl)
theorem dX9_changes_8 : decode cX9_changes 8 = .ok (.getfield 7, 3) := dk_180 0 7 (dk_at dksX9_changes_0 8 rfl rfl)
theorem dX9_changes_11 : decode cX9_changes 11 = .ok (.iload_n 1, 1) := dk_27 (dk_at dksX9_changes_0 11 rfl rfl)
theorem dX9_changes_12 : decode cX9_changes 12 = .ok (.iload_n 2, 1) := dk_28 (dk_at dksX9_changes_0 12 rfl rfl)
theorem dX9_changes_13 : decode cX9_changes 13 = .ok (.iastore, 1) := dk_79 (dk_at dksX9_changes_0 13 rfl rfl)
theorem dX9_changes_14 : decode cX9_changes 14 = .ok (.iload_n 3, 1) := dk_29 (dk_at dksX9_changes_0 14 rfl rfl)
theorem dX9_changes_15 : decode cX9_changes 15 = .ok (.ireturn, 1) := dk_172 (dk_at dksX9_changes_0 15 rfl rfl)
abbrev cX9_move : ByteArray := prog_15_method_39_code
def yX9_move : MethodName := ⟨RX9, "move", "(I)I"⟩
def dkwX9_move_1 : List UInt8 := [27, 182, 0, 122, 172]
abbrev dktX9_move_1 : List UInt8 := dkwX9_move_1 ++ []
def dkwX9_move_0 : List UInt8 := [42, 3, 181, 0, 32, 27, 184, 0, 126, 154, 0, 9, 42, 4, 182, 0, 47, 172, 42, 182, 0, 51, 42, 8]
abbrev dktX9_move_0 : List UInt8 := dkwX9_move_0 ++ dktX9_move_1
theorem dksX9_move_0 : cX9_move.data.toList.drop 0 = dktX9_move_0 := by decide +kernel
theorem dksX9_move_1 : cX9_move.data.toList.drop 24 = dktX9_move_1 := dk_seg dksX9_move_0 24 rfl rfl
theorem dX9_move_0 : decode cX9_move 0 = .ok (.aload_n 0, 1) := dk_42 (dk_at dksX9_move_0 0 rfl rfl)
theorem dX9_move_1 : decode cX9_move 1 = .ok (.iconst 0, 1) := dk_3 (dk_at dksX9_move_0 1 rfl rfl)
theorem dX9_move_2 : decode cX9_move 2 = .ok (.putfield 32, 3) := dk_181 0 32 (dk_at dksX9_move_0 2 rfl rfl)
theorem dX9_move_5 : decode cX9_move 5 = .ok (.iload_n 1, 1) := dk_27 (dk_at dksX9_move_0 5 rfl rfl)
theorem dX9_move_6 : decode cX9_move 6 = .ok (.invokestatic 126, 3) := dk_184 0 126 (dk_at dksX9_move_0 6 rfl rfl)
theorem dX9_move_9 : decode cX9_move 9 = .ok (.ifCond .ne 9, 3) := dk_154 0 9 (dk_at dksX9_move_0 9 rfl rfl)
theorem dX9_move_12 : decode cX9_move 12 = .ok (.aload_n 0, 1) := dk_42 (dk_at dksX9_move_0 12 rfl rfl)
theorem dX9_move_13 : decode cX9_move 13 = .ok (.iconst 1, 1) := dk_4 (dk_at dksX9_move_0 13 rfl rfl)
theorem dX9_move_14 : decode cX9_move 14 = .ok (.invokevirtual 47, 3) := dk_182 0 47 (dk_at dksX9_move_0 14 rfl rfl)
theorem dX9_move_17 : decode cX9_move 17 = .ok (.ireturn, 1) := dk_172 (dk_at dksX9_move_0 17 rfl rfl)
theorem dX9_move_18 : decode cX9_move 18 = .ok (.aload_n 0, 1) := dk_42 (dk_at dksX9_move_0 18 rfl rfl)
theorem dX9_move_19 : decode cX9_move 19 = .ok (.invokevirtual 51, 3) := dk_182 0 51 (dk_at dksX9_move_0 19 rfl rfl)
theorem dX9_move_22 : decode cX9_move 22 = .ok (.aload_n 0, 1) := dk_42 (dk_at dksX9_move_0 22 rfl rfl)
theorem dX9_move_23 : decode cX9_move 23 = .ok (.iconst 5, 1) := dk_8 (dk_at dksX9_move_0 23 rfl rfl)
theorem dX9_move_24 : decode cX9_move 24 = .ok (.iload_n 1, 1) := dk_27 (dk_at dksX9_move_1 0 rfl rfl)
theorem dX9_move_25 : decode cX9_move 25 = .ok (.invokevirtual 122, 3) := dk_182 0 122 (dk_at dksX9_move_1 1 rfl rfl)
theorem dX9_move_28 : decode cX9_move 28 = .ok (.ireturn, 1) := dk_172 (dk_at dksX9_move_1 4 rfl rfl)
abbrev cX9_isReach : ByteArray := prog_15_method_5_code
def yX9_isReach : MethodName := ⟨RX9, "isReach", "(I)Z"⟩
def dkwX9_isReach_0 : List UInt8 := [26, 3, 8, 184, 0, 36, 172]
abbrev dktX9_isReach_0 : List UInt8 := dkwX9_isReach_0 ++ []
theorem dksX9_isReach_0 : cX9_isReach.data.toList.drop 0 = dktX9_isReach_0 := by decide +kernel
theorem dX9_isReach_0 : decode cX9_isReach 0 = .ok (.iload_n 0, 1) := dk_26 (dk_at dksX9_isReach_0 0 rfl rfl)
theorem dX9_isReach_1 : decode cX9_isReach 1 = .ok (.iconst 0, 1) := dk_3 (dk_at dksX9_isReach_0 1 rfl rfl)
theorem dX9_isReach_2 : decode cX9_isReach 2 = .ok (.iconst 5, 1) := dk_8 (dk_at dksX9_isReach_0 2 rfl rfl)
theorem dX9_isReach_3 : decode cX9_isReach 3 = .ok (.invokestatic 36, 3) := dk_184 0 36 (dk_at dksX9_isReach_0 3 rfl rfl)
theorem dX9_isReach_6 : decode cX9_isReach 6 = .ok (.ireturn, 1) := dk_172 (dk_at dksX9_isReach_0 6 rfl rfl)
abbrev cX9_silt : ByteArray := prog_15_method_40_code
def yX9_silt : MethodName := ⟨RX9, "silt", "(II)I"⟩
def dkwX9_silt_1 : List UInt8 := [4, 182, 0, 47, 172, 42, 182, 0, 51, 42, 16, 8, 6, 27, 104, 96, 28, 182, 0, 122, 172]
abbrev dktX9_silt_1 : List UInt8 := dkwX9_silt_1 ++ []
def dkwX9_silt_0 : List UInt8 := [42, 3, 181, 0, 32, 27, 184, 0, 126, 153, 0, 14, 28, 3, 17, 3, 231, 184, 0, 36, 154, 0, 9, 42]
abbrev dktX9_silt_0 : List UInt8 := dkwX9_silt_0 ++ dktX9_silt_1
theorem dksX9_silt_0 : cX9_silt.data.toList.drop 0 = dktX9_silt_0 := by decide +kernel
theorem dksX9_silt_1 : cX9_silt.data.toList.drop 24 = dktX9_silt_1 := dk_seg dksX9_silt_0 24 rfl rfl
theorem dX9_silt_0 : decode cX9_silt 0 = .ok (.aload_n 0, 1) := dk_42 (dk_at dksX9_silt_0 0 rfl rfl)
theorem dX9_silt_1 : decode cX9_silt 1 = .ok (.iconst 0, 1) := dk_3 (dk_at dksX9_silt_0 1 rfl rfl)
theorem dX9_silt_2 : decode cX9_silt 2 = .ok (.putfield 32, 3) := dk_181 0 32 (dk_at dksX9_silt_0 2 rfl rfl)
theorem dX9_silt_5 : decode cX9_silt 5 = .ok (.iload_n 1, 1) := dk_27 (dk_at dksX9_silt_0 5 rfl rfl)
theorem dX9_silt_6 : decode cX9_silt 6 = .ok (.invokestatic 126, 3) := dk_184 0 126 (dk_at dksX9_silt_0 6 rfl rfl)
theorem dX9_silt_9 : decode cX9_silt 9 = .ok (.ifCond .eq 14, 3) := dk_153 0 14 (dk_at dksX9_silt_0 9 rfl rfl)
theorem dX9_silt_12 : decode cX9_silt 12 = .ok (.iload_n 2, 1) := dk_28 (dk_at dksX9_silt_0 12 rfl rfl)
theorem dX9_silt_13 : decode cX9_silt 13 = .ok (.iconst 0, 1) := dk_3 (dk_at dksX9_silt_0 13 rfl rfl)
theorem dX9_silt_14 : decode cX9_silt 14 = .ok (.sipush 999, 3) := dk_17 3 231 (dk_at dksX9_silt_0 14 rfl rfl)
theorem dX9_silt_17 : decode cX9_silt 17 = .ok (.invokestatic 36, 3) := dk_184 0 36 (dk_at dksX9_silt_0 17 rfl rfl)
theorem dX9_silt_20 : decode cX9_silt 20 = .ok (.ifCond .ne 9, 3) := dk_154 0 9 (dk_at dksX9_silt_0 20 rfl rfl)
theorem dX9_silt_23 : decode cX9_silt 23 = .ok (.aload_n 0, 1) := dk_42 (dk_at dksX9_silt_0 23 rfl rfl)
theorem dX9_silt_24 : decode cX9_silt 24 = .ok (.iconst 1, 1) := dk_4 (dk_at dksX9_silt_1 0 rfl rfl)
theorem dX9_silt_25 : decode cX9_silt 25 = .ok (.invokevirtual 47, 3) := dk_182 0 47 (dk_at dksX9_silt_1 1 rfl rfl)
theorem dX9_silt_28 : decode cX9_silt 28 = .ok (.ireturn, 1) := dk_172 (dk_at dksX9_silt_1 4 rfl rfl)
theorem dX9_silt_29 : decode cX9_silt 29 = .ok (.aload_n 0, 1) := dk_42 (dk_at dksX9_silt_1 5 rfl rfl)
theorem dX9_silt_30 : decode cX9_silt 30 = .ok (.invokevirtual 51, 3) := dk_182 0 51 (dk_at dksX9_silt_1 6 rfl rfl)
theorem dX9_silt_33 : decode cX9_silt 33 = .ok (.aload_n 0, 1) := dk_42 (dk_at dksX9_silt_1 9 rfl rfl)
theorem dX9_silt_34 : decode cX9_silt 34 = .ok (.bipush 8, 2) := dk_16 8 (dk_at dksX9_silt_1 10 rfl rfl)
theorem dX9_silt_36 : decode cX9_silt 36 = .ok (.iconst 3, 1) := dk_6 (dk_at dksX9_silt_1 12 rfl rfl)
theorem dX9_silt_37 : decode cX9_silt 37 = .ok (.iload_n 1, 1) := dk_27 (dk_at dksX9_silt_1 13 rfl rfl)
theorem dX9_silt_38 : decode cX9_silt 38 = .ok (.imul, 1) := dk_104 (dk_at dksX9_silt_1 14 rfl rfl)
theorem dX9_silt_39 : decode cX9_silt 39 = .ok (.iadd, 1) := dk_96 (dk_at dksX9_silt_1 15 rfl rfl)
theorem dX9_silt_40 : decode cX9_silt 40 = .ok (.iload_n 2, 1) := dk_28 (dk_at dksX9_silt_1 16 rfl rfl)
theorem dX9_silt_41 : decode cX9_silt 41 = .ok (.invokevirtual 122, 3) := dk_182 0 122 (dk_at dksX9_silt_1 17 rfl rfl)
theorem dX9_silt_44 : decode cX9_silt 44 = .ok (.ireturn, 1) := dk_172 (dk_at dksX9_silt_1 20 rfl rfl)
abbrev cX9_bound : ByteArray := prog_15_method_41_code
def yX9_bound : MethodName := ⟨RX9, "bound", "(II)I"⟩
def dkwX9_bound_1 : List UInt8 := [4, 182, 0, 47, 172, 42, 182, 0, 51, 42, 16, 54, 16, 7, 27, 104, 96, 28, 182, 0, 122, 172]
abbrev dktX9_bound_1 : List UInt8 := dkwX9_bound_1 ++ []
def dkwX9_bound_0 : List UInt8 := [42, 3, 181, 0, 32, 27, 184, 0, 129, 153, 0, 14, 28, 3, 17, 1, 244, 184, 0, 36, 154, 0, 9, 42]
abbrev dktX9_bound_0 : List UInt8 := dkwX9_bound_0 ++ dktX9_bound_1
theorem dksX9_bound_0 : cX9_bound.data.toList.drop 0 = dktX9_bound_0 := by decide +kernel
theorem dksX9_bound_1 : cX9_bound.data.toList.drop 24 = dktX9_bound_1 := dk_seg dksX9_bound_0 24 rfl rfl
theorem dX9_bound_0 : decode cX9_bound 0 = .ok (.aload_n 0, 1) := dk_42 (dk_at dksX9_bound_0 0 rfl rfl)
theorem dX9_bound_1 : decode cX9_bound 1 = .ok (.iconst 0, 1) := dk_3 (dk_at dksX9_bound_0 1 rfl rfl)
theorem dX9_bound_2 : decode cX9_bound 2 = .ok (.putfield 32, 3) := dk_181 0 32 (dk_at dksX9_bound_0 2 rfl rfl)
theorem dX9_bound_5 : decode cX9_bound 5 = .ok (.iload_n 1, 1) := dk_27 (dk_at dksX9_bound_0 5 rfl rfl)
theorem dX9_bound_6 : decode cX9_bound 6 = .ok (.invokestatic 129, 3) := dk_184 0 129 (dk_at dksX9_bound_0 6 rfl rfl)
theorem dX9_bound_9 : decode cX9_bound 9 = .ok (.ifCond .eq 14, 3) := dk_153 0 14 (dk_at dksX9_bound_0 9 rfl rfl)
theorem dX9_bound_12 : decode cX9_bound 12 = .ok (.iload_n 2, 1) := dk_28 (dk_at dksX9_bound_0 12 rfl rfl)
theorem dX9_bound_13 : decode cX9_bound 13 = .ok (.iconst 0, 1) := dk_3 (dk_at dksX9_bound_0 13 rfl rfl)
theorem dX9_bound_14 : decode cX9_bound 14 = .ok (.sipush 500, 3) := dk_17 1 244 (dk_at dksX9_bound_0 14 rfl rfl)
theorem dX9_bound_17 : decode cX9_bound 17 = .ok (.invokestatic 36, 3) := dk_184 0 36 (dk_at dksX9_bound_0 17 rfl rfl)
theorem dX9_bound_20 : decode cX9_bound 20 = .ok (.ifCond .ne 9, 3) := dk_154 0 9 (dk_at dksX9_bound_0 20 rfl rfl)
theorem dX9_bound_23 : decode cX9_bound 23 = .ok (.aload_n 0, 1) := dk_42 (dk_at dksX9_bound_0 23 rfl rfl)
theorem dX9_bound_24 : decode cX9_bound 24 = .ok (.iconst 1, 1) := dk_4 (dk_at dksX9_bound_1 0 rfl rfl)
theorem dX9_bound_25 : decode cX9_bound 25 = .ok (.invokevirtual 47, 3) := dk_182 0 47 (dk_at dksX9_bound_1 1 rfl rfl)
theorem dX9_bound_28 : decode cX9_bound 28 = .ok (.ireturn, 1) := dk_172 (dk_at dksX9_bound_1 4 rfl rfl)
theorem dX9_bound_29 : decode cX9_bound 29 = .ok (.aload_n 0, 1) := dk_42 (dk_at dksX9_bound_1 5 rfl rfl)
theorem dX9_bound_30 : decode cX9_bound 30 = .ok (.invokevirtual 51, 3) := dk_182 0 51 (dk_at dksX9_bound_1 6 rfl rfl)
theorem dX9_bound_33 : decode cX9_bound 33 = .ok (.aload_n 0, 1) := dk_42 (dk_at dksX9_bound_1 9 rfl rfl)
theorem dX9_bound_34 : decode cX9_bound 34 = .ok (.bipush 54, 2) := dk_16 54 (dk_at dksX9_bound_1 10 rfl rfl)
theorem dX9_bound_36 : decode cX9_bound 36 = .ok (.bipush 7, 2) := dk_16 7 (dk_at dksX9_bound_1 12 rfl rfl)
theorem dX9_bound_38 : decode cX9_bound 38 = .ok (.iload_n 1, 1) := dk_27 (dk_at dksX9_bound_1 14 rfl rfl)
theorem dX9_bound_39 : decode cX9_bound 39 = .ok (.imul, 1) := dk_104 (dk_at dksX9_bound_1 15 rfl rfl)
theorem dX9_bound_40 : decode cX9_bound 40 = .ok (.iadd, 1) := dk_96 (dk_at dksX9_bound_1 16 rfl rfl)
theorem dX9_bound_41 : decode cX9_bound 41 = .ok (.iload_n 2, 1) := dk_28 (dk_at dksX9_bound_1 17 rfl rfl)
theorem dX9_bound_42 : decode cX9_bound 42 = .ok (.invokevirtual 122, 3) := dk_182 0 122 (dk_at dksX9_bound_1 18 rfl rfl)
theorem dX9_bound_45 : decode cX9_bound 45 = .ok (.ireturn, 1) := dk_172 (dk_at dksX9_bound_1 21 rfl rfl)
abbrev cX9_isMeadow : ByteArray := prog_15_method_6_code
def yX9_isMeadow : MethodName := ⟨RX9, "isMeadow", "(I)Z"⟩
def dkwX9_isMeadow_0 : List UInt8 := [26, 3, 7, 184, 0, 36, 172]
abbrev dktX9_isMeadow_0 : List UInt8 := dkwX9_isMeadow_0 ++ []
theorem dksX9_isMeadow_0 : cX9_isMeadow.data.toList.drop 0 = dktX9_isMeadow_0 := by decide +kernel
theorem dX9_isMeadow_0 : decode cX9_isMeadow 0 = .ok (.iload_n 0, 1) := dk_26 (dk_at dksX9_isMeadow_0 0 rfl rfl)
theorem dX9_isMeadow_1 : decode cX9_isMeadow 1 = .ok (.iconst 0, 1) := dk_3 (dk_at dksX9_isMeadow_0 1 rfl rfl)
theorem dX9_isMeadow_2 : decode cX9_isMeadow 2 = .ok (.iconst 4, 1) := dk_7 (dk_at dksX9_isMeadow_0 2 rfl rfl)
theorem dX9_isMeadow_3 : decode cX9_isMeadow 3 = .ok (.invokestatic 36, 3) := dk_184 0 36 (dk_at dksX9_isMeadow_0 3 rfl rfl)
theorem dX9_isMeadow_6 : decode cX9_isMeadow 6 = .ok (.ireturn, 1) := dk_172 (dk_at dksX9_isMeadow_0 6 rfl rfl)
abbrev cX9_consent : ByteArray := prog_15_method_42_code
def yX9_consent : MethodName := ⟨RX9, "consent", "(III)I"⟩
def dkwX9_consent_5 : List UInt8 := [167, 0, 4, 3, 96, 54, 4, 132, 5, 1, 167, 255, 225, 21, 4, 172]
abbrev dktX9_consent_5 : List UInt8 := dkwX9_consent_5 ++ []
def dkwX9_consent_4 : List UInt8 := [54, 5, 21, 5, 8, 162, 0, 31, 21, 4, 42, 180, 0, 7, 21, 5, 184, 0, 61, 153, 0, 7, 4]
abbrev dktX9_consent_4 : List UInt8 := dkwX9_consent_4 ++ dktX9_consent_5
def dkwX9_consent_3 : List UInt8 := [16, 54, 16, 7, 27, 104, 96, 7, 96, 29, 28, 162, 0, 7, 2, 167, 0, 4, 29, 79, 3, 54, 4, 3]
abbrev dktX9_consent_3 : List UInt8 := dkwX9_consent_3 ++ dktX9_consent_4
def dkwX9_consent_2 : List UInt8 := [16, 54, 16, 7, 27, 104, 96, 6, 96, 29, 28, 162, 0, 7, 2, 167, 0, 4, 28, 79, 42, 180, 0, 7]
abbrev dktX9_consent_2 : List UInt8 := dkwX9_consent_2 ++ dktX9_consent_3
def dkwX9_consent_1 : List UInt8 := [3, 17, 39, 15, 184, 0, 36, 154, 0, 9, 42, 4, 182, 0, 47, 172, 42, 182, 0, 51, 42, 180, 0, 7]
abbrev dktX9_consent_1 : List UInt8 := dkwX9_consent_1 ++ dktX9_consent_2
def dkwX9_consent_0 : List UInt8 := [42, 3, 181, 0, 32, 27, 184, 0, 129, 153, 0, 25, 28, 3, 17, 39, 15, 184, 0, 36, 153, 0, 14, 29]
abbrev dktX9_consent_0 : List UInt8 := dkwX9_consent_0 ++ dktX9_consent_1
theorem dksX9_consent_0 : cX9_consent.data.toList.drop 0 = dktX9_consent_0 := by decide +kernel
theorem dksX9_consent_1 : cX9_consent.data.toList.drop 24 = dktX9_consent_1 := dk_seg dksX9_consent_0 24 rfl rfl
theorem dksX9_consent_2 : cX9_consent.data.toList.drop 48 = dktX9_consent_2 := dk_seg dksX9_consent_1 24 rfl rfl
theorem dksX9_consent_3 : cX9_consent.data.toList.drop 72 = dktX9_consent_3 := dk_seg dksX9_consent_2 24 rfl rfl
theorem dksX9_consent_4 : cX9_consent.data.toList.drop 96 = dktX9_consent_4 := dk_seg dksX9_consent_3 24 rfl rfl
theorem dksX9_consent_5 : cX9_consent.data.toList.drop 119 = dktX9_consent_5 := dk_seg dksX9_consent_4 23 rfl rfl
theorem dX9_consent_0 : decode cX9_consent 0 = .ok (.aload_n 0, 1) := dk_42 (dk_at dksX9_consent_0 0 rfl rfl)
theorem dX9_consent_1 : decode cX9_consent 1 = .ok (.iconst 0, 1) := dk_3 (dk_at dksX9_consent_0 1 rfl rfl)
theorem dX9_consent_2 : decode cX9_consent 2 = .ok (.putfield 32, 3) := dk_181 0 32 (dk_at dksX9_consent_0 2 rfl rfl)
theorem dX9_consent_5 : decode cX9_consent 5 = .ok (.iload_n 1, 1) := dk_27 (dk_at dksX9_consent_0 5 rfl rfl)
theorem dX9_consent_6 : decode cX9_consent 6 = .ok (.invokestatic 129, 3) := dk_184 0 129 (dk_at dksX9_consent_0 6 rfl rfl)
theorem dX9_consent_9 : decode cX9_consent 9 = .ok (.ifCond .eq 25, 3) := dk_153 0 25 (dk_at dksX9_consent_0 9 rfl rfl)
theorem dX9_consent_12 : decode cX9_consent 12 = .ok (.iload_n 2, 1) := dk_28 (dk_at dksX9_consent_0 12 rfl rfl)
theorem dX9_consent_13 : decode cX9_consent 13 = .ok (.iconst 0, 1) := dk_3 (dk_at dksX9_consent_0 13 rfl rfl)
theorem dX9_consent_14 : decode cX9_consent 14 = .ok (.sipush 9999, 3) := dk_17 39 15 (dk_at dksX9_consent_0 14 rfl rfl)
theorem dX9_consent_17 : decode cX9_consent 17 = .ok (.invokestatic 36, 3) := dk_184 0 36 (dk_at dksX9_consent_0 17 rfl rfl)
theorem dX9_consent_20 : decode cX9_consent 20 = .ok (.ifCond .eq 14, 3) := dk_153 0 14 (dk_at dksX9_consent_0 20 rfl rfl)
theorem dX9_consent_23 : decode cX9_consent 23 = .ok (.iload_n 3, 1) := dk_29 (dk_at dksX9_consent_0 23 rfl rfl)
theorem dX9_consent_24 : decode cX9_consent 24 = .ok (.iconst 0, 1) := dk_3 (dk_at dksX9_consent_1 0 rfl rfl)
theorem dX9_consent_25 : decode cX9_consent 25 = .ok (.sipush 9999, 3) := dk_17 39 15 (dk_at dksX9_consent_1 1 rfl rfl)
theorem dX9_consent_28 : decode cX9_consent 28 = .ok (.invokestatic 36, 3) := dk_184 0 36 (dk_at dksX9_consent_1 4 rfl rfl)
theorem dX9_consent_31 : decode cX9_consent 31 = .ok (.ifCond .ne 9, 3) := dk_154 0 9 (dk_at dksX9_consent_1 7 rfl rfl)
theorem dX9_consent_34 : decode cX9_consent 34 = .ok (.aload_n 0, 1) := dk_42 (dk_at dksX9_consent_1 10 rfl rfl)
theorem dX9_consent_35 : decode cX9_consent 35 = .ok (.iconst 1, 1) := dk_4 (dk_at dksX9_consent_1 11 rfl rfl)
theorem dX9_consent_36 : decode cX9_consent 36 = .ok (.invokevirtual 47, 3) := dk_182 0 47 (dk_at dksX9_consent_1 12 rfl rfl)
theorem dX9_consent_39 : decode cX9_consent 39 = .ok (.ireturn, 1) := dk_172 (dk_at dksX9_consent_1 15 rfl rfl)
theorem dX9_consent_40 : decode cX9_consent 40 = .ok (.aload_n 0, 1) := dk_42 (dk_at dksX9_consent_1 16 rfl rfl)
theorem dX9_consent_41 : decode cX9_consent 41 = .ok (.invokevirtual 51, 3) := dk_182 0 51 (dk_at dksX9_consent_1 17 rfl rfl)
theorem dX9_consent_44 : decode cX9_consent 44 = .ok (.aload_n 0, 1) := dk_42 (dk_at dksX9_consent_1 20 rfl rfl)
theorem dX9_consent_45 : decode cX9_consent 45 = .ok (.getfield 7, 3) := dk_180 0 7 (dk_at dksX9_consent_1 21 rfl rfl)
theorem dX9_consent_48 : decode cX9_consent 48 = .ok (.bipush 54, 2) := dk_16 54 (dk_at dksX9_consent_2 0 rfl rfl)
theorem dX9_consent_50 : decode cX9_consent 50 = .ok (.bipush 7, 2) := dk_16 7 (dk_at dksX9_consent_2 2 rfl rfl)
theorem dX9_consent_52 : decode cX9_consent 52 = .ok (.iload_n 1, 1) := dk_27 (dk_at dksX9_consent_2 4 rfl rfl)
theorem dX9_consent_53 : decode cX9_consent 53 = .ok (.imul, 1) := dk_104 (dk_at dksX9_consent_2 5 rfl rfl)
theorem dX9_consent_54 : decode cX9_consent 54 = .ok (.iadd, 1) := dk_96 (dk_at dksX9_consent_2 6 rfl rfl)
theorem dX9_consent_55 : decode cX9_consent 55 = .ok (.iconst 3, 1) := dk_6 (dk_at dksX9_consent_2 7 rfl rfl)
theorem dX9_consent_56 : decode cX9_consent 56 = .ok (.iadd, 1) := dk_96 (dk_at dksX9_consent_2 8 rfl rfl)
theorem dX9_consent_57 : decode cX9_consent 57 = .ok (.iload_n 3, 1) := dk_29 (dk_at dksX9_consent_2 9 rfl rfl)
theorem dX9_consent_58 : decode cX9_consent 58 = .ok (.iload_n 2, 1) := dk_28 (dk_at dksX9_consent_2 10 rfl rfl)
theorem dX9_consent_59 : decode cX9_consent 59 = .ok (.if_icmp .ge 7, 3) := dk_162 0 7 (dk_at dksX9_consent_2 11 rfl rfl)
theorem dX9_consent_62 : decode cX9_consent 62 = .ok (.iconst (-1), 1) := dk_2 (dk_at dksX9_consent_2 14 rfl rfl)
theorem dX9_consent_63 : decode cX9_consent 63 = .ok (.goto 4, 3) := dk_167 0 4 (dk_at dksX9_consent_2 15 rfl rfl)
theorem dX9_consent_66 : decode cX9_consent 66 = .ok (.iload_n 2, 1) := dk_28 (dk_at dksX9_consent_2 18 rfl rfl)
theorem dX9_consent_67 : decode cX9_consent 67 = .ok (.iastore, 1) := dk_79 (dk_at dksX9_consent_2 19 rfl rfl)
theorem dX9_consent_68 : decode cX9_consent 68 = .ok (.aload_n 0, 1) := dk_42 (dk_at dksX9_consent_2 20 rfl rfl)
theorem dX9_consent_69 : decode cX9_consent 69 = .ok (.getfield 7, 3) := dk_180 0 7 (dk_at dksX9_consent_2 21 rfl rfl)
theorem dX9_consent_72 : decode cX9_consent 72 = .ok (.bipush 54, 2) := dk_16 54 (dk_at dksX9_consent_3 0 rfl rfl)
theorem dX9_consent_74 : decode cX9_consent 74 = .ok (.bipush 7, 2) := dk_16 7 (dk_at dksX9_consent_3 2 rfl rfl)
theorem dX9_consent_76 : decode cX9_consent 76 = .ok (.iload_n 1, 1) := dk_27 (dk_at dksX9_consent_3 4 rfl rfl)
theorem dX9_consent_77 : decode cX9_consent 77 = .ok (.imul, 1) := dk_104 (dk_at dksX9_consent_3 5 rfl rfl)
theorem dX9_consent_78 : decode cX9_consent 78 = .ok (.iadd, 1) := dk_96 (dk_at dksX9_consent_3 6 rfl rfl)
theorem dX9_consent_79 : decode cX9_consent 79 = .ok (.iconst 4, 1) := dk_7 (dk_at dksX9_consent_3 7 rfl rfl)
theorem dX9_consent_80 : decode cX9_consent 80 = .ok (.iadd, 1) := dk_96 (dk_at dksX9_consent_3 8 rfl rfl)
theorem dX9_consent_81 : decode cX9_consent 81 = .ok (.iload_n 3, 1) := dk_29 (dk_at dksX9_consent_3 9 rfl rfl)
theorem dX9_consent_82 : decode cX9_consent 82 = .ok (.iload_n 2, 1) := dk_28 (dk_at dksX9_consent_3 10 rfl rfl)
theorem dX9_consent_83 : decode cX9_consent 83 = .ok (.if_icmp .ge 7, 3) := dk_162 0 7 (dk_at dksX9_consent_3 11 rfl rfl)
theorem dX9_consent_86 : decode cX9_consent 86 = .ok (.iconst (-1), 1) := dk_2 (dk_at dksX9_consent_3 14 rfl rfl)
theorem dX9_consent_87 : decode cX9_consent 87 = .ok (.goto 4, 3) := dk_167 0 4 (dk_at dksX9_consent_3 15 rfl rfl)
theorem dX9_consent_90 : decode cX9_consent 90 = .ok (.iload_n 3, 1) := dk_29 (dk_at dksX9_consent_3 18 rfl rfl)
theorem dX9_consent_91 : decode cX9_consent 91 = .ok (.iastore, 1) := dk_79 (dk_at dksX9_consent_3 19 rfl rfl)
theorem dX9_consent_92 : decode cX9_consent 92 = .ok (.iconst 0, 1) := dk_3 (dk_at dksX9_consent_3 20 rfl rfl)
theorem dX9_consent_93 : decode cX9_consent 93 = .ok (.istore 4, 2) := dk_54 4 (dk_at dksX9_consent_3 21 rfl rfl)
theorem dX9_consent_95 : decode cX9_consent 95 = .ok (.iconst 0, 1) := dk_3 (dk_at dksX9_consent_3 23 rfl rfl)
theorem dX9_consent_96 : decode cX9_consent 96 = .ok (.istore 5, 2) := dk_54 5 (dk_at dksX9_consent_4 0 rfl rfl)
theorem dX9_consent_98 : decode cX9_consent 98 = .ok (.iload 5, 2) := dk_21 5 (dk_at dksX9_consent_4 2 rfl rfl)
theorem dX9_consent_100 : decode cX9_consent 100 = .ok (.iconst 5, 1) := dk_8 (dk_at dksX9_consent_4 4 rfl rfl)
theorem dX9_consent_101 : decode cX9_consent 101 = .ok (.if_icmp .ge 31, 3) := dk_162 0 31 (dk_at dksX9_consent_4 5 rfl rfl)
theorem dX9_consent_104 : decode cX9_consent 104 = .ok (.iload 4, 2) := dk_21 4 (dk_at dksX9_consent_4 8 rfl rfl)
theorem dX9_consent_106 : decode cX9_consent 106 = .ok (.aload_n 0, 1) := dk_42 (dk_at dksX9_consent_4 10 rfl rfl)
theorem dX9_consent_107 : decode cX9_consent 107 = .ok (.getfield 7, 3) := dk_180 0 7 (dk_at dksX9_consent_4 11 rfl rfl)
theorem dX9_consent_110 : decode cX9_consent 110 = .ok (.iload 5, 2) := dk_21 5 (dk_at dksX9_consent_4 14 rfl rfl)
theorem dX9_consent_112 : decode cX9_consent 112 = .ok (.invokestatic 61, 3) := dk_184 0 61 (dk_at dksX9_consent_4 16 rfl rfl)
theorem dX9_consent_115 : decode cX9_consent 115 = .ok (.ifCond .eq 7, 3) := dk_153 0 7 (dk_at dksX9_consent_4 19 rfl rfl)
theorem dX9_consent_118 : decode cX9_consent 118 = .ok (.iconst 1, 1) := dk_4 (dk_at dksX9_consent_4 22 rfl rfl)
theorem dX9_consent_119 : decode cX9_consent 119 = .ok (.goto 4, 3) := dk_167 0 4 (dk_at dksX9_consent_5 0 rfl rfl)
theorem dX9_consent_122 : decode cX9_consent 122 = .ok (.iconst 0, 1) := dk_3 (dk_at dksX9_consent_5 3 rfl rfl)
theorem dX9_consent_123 : decode cX9_consent 123 = .ok (.iadd, 1) := dk_96 (dk_at dksX9_consent_5 4 rfl rfl)
theorem dX9_consent_124 : decode cX9_consent 124 = .ok (.istore 4, 2) := dk_54 4 (dk_at dksX9_consent_5 5 rfl rfl)
theorem dX9_consent_126 : decode cX9_consent 126 = .ok (.iinc 5 1, 3) := dk_132 5 1 (dk_at dksX9_consent_5 7 rfl rfl)
theorem dX9_consent_129 : decode cX9_consent 129 = .ok (.goto (-31), 3) := dk_167 255 225 (dk_at dksX9_consent_5 10 rfl rfl)
theorem dX9_consent_132 : decode cX9_consent 132 = .ok (.iload 4, 2) := dk_21 4 (dk_at dksX9_consent_5 13 rfl rfl)
theorem dX9_consent_134 : decode cX9_consent 134 = .ok (.ireturn, 1) := dk_172 (dk_at dksX9_consent_5 15 rfl rfl)
abbrev cX9_runs : ByteArray := prog_15_method_15_code
def yX9_runs : MethodName := ⟨RX9, "runs", "([II)Z"⟩
def dkwX9_runs_1 : List UInt8 := [184, 0, 54, 184, 0, 36, 153, 0, 7, 4, 167, 0, 4, 3, 172]
abbrev dktX9_runs_1 : List UInt8 := dkwX9_runs_1 ++ []
def dkwX9_runs_0 : List UInt8 := [42, 27, 6, 184, 0, 54, 2, 159, 0, 28, 42, 7, 46, 42, 27, 6, 184, 0, 54, 42, 27, 7]
abbrev dktX9_runs_0 : List UInt8 := dkwX9_runs_0 ++ dktX9_runs_1
theorem dksX9_runs_0 : cX9_runs.data.toList.drop 0 = dktX9_runs_0 := by decide +kernel
theorem dksX9_runs_1 : cX9_runs.data.toList.drop 22 = dktX9_runs_1 := dk_seg dksX9_runs_0 22 rfl rfl
theorem dX9_runs_0 : decode cX9_runs 0 = .ok (.aload_n 0, 1) := dk_42 (dk_at dksX9_runs_0 0 rfl rfl)
theorem dX9_runs_1 : decode cX9_runs 1 = .ok (.iload_n 1, 1) := dk_27 (dk_at dksX9_runs_0 1 rfl rfl)
theorem dX9_runs_2 : decode cX9_runs 2 = .ok (.iconst 3, 1) := dk_6 (dk_at dksX9_runs_0 2 rfl rfl)
theorem dX9_runs_3 : decode cX9_runs 3 = .ok (.invokestatic 54, 3) := dk_184 0 54 (dk_at dksX9_runs_0 3 rfl rfl)
theorem dX9_runs_6 : decode cX9_runs 6 = .ok (.iconst (-1), 1) := dk_2 (dk_at dksX9_runs_0 6 rfl rfl)
theorem dX9_runs_7 : decode cX9_runs 7 = .ok (.if_icmp .eq 28, 3) := dk_159 0 28 (dk_at dksX9_runs_0 7 rfl rfl)
theorem dX9_runs_10 : decode cX9_runs 10 = .ok (.aload_n 0, 1) := dk_42 (dk_at dksX9_runs_0 10 rfl rfl)
theorem dX9_runs_11 : decode cX9_runs 11 = .ok (.iconst 4, 1) := dk_7 (dk_at dksX9_runs_0 11 rfl rfl)
theorem dX9_runs_12 : decode cX9_runs 12 = .ok (.iaload, 1) := dk_46 (dk_at dksX9_runs_0 12 rfl rfl)
theorem dX9_runs_13 : decode cX9_runs 13 = .ok (.aload_n 0, 1) := dk_42 (dk_at dksX9_runs_0 13 rfl rfl)
theorem dX9_runs_14 : decode cX9_runs 14 = .ok (.iload_n 1, 1) := dk_27 (dk_at dksX9_runs_0 14 rfl rfl)
theorem dX9_runs_15 : decode cX9_runs 15 = .ok (.iconst 3, 1) := dk_6 (dk_at dksX9_runs_0 15 rfl rfl)
theorem dX9_runs_16 : decode cX9_runs 16 = .ok (.invokestatic 54, 3) := dk_184 0 54 (dk_at dksX9_runs_0 16 rfl rfl)
theorem dX9_runs_19 : decode cX9_runs 19 = .ok (.aload_n 0, 1) := dk_42 (dk_at dksX9_runs_0 19 rfl rfl)
theorem dX9_runs_20 : decode cX9_runs 20 = .ok (.iload_n 1, 1) := dk_27 (dk_at dksX9_runs_0 20 rfl rfl)
theorem dX9_runs_21 : decode cX9_runs 21 = .ok (.iconst 4, 1) := dk_7 (dk_at dksX9_runs_0 21 rfl rfl)
theorem dX9_runs_22 : decode cX9_runs 22 = .ok (.invokestatic 54, 3) := dk_184 0 54 (dk_at dksX9_runs_1 0 rfl rfl)
theorem dX9_runs_25 : decode cX9_runs 25 = .ok (.invokestatic 36, 3) := dk_184 0 36 (dk_at dksX9_runs_1 3 rfl rfl)
theorem dX9_runs_28 : decode cX9_runs 28 = .ok (.ifCond .eq 7, 3) := dk_153 0 7 (dk_at dksX9_runs_1 6 rfl rfl)
theorem dX9_runs_31 : decode cX9_runs 31 = .ok (.iconst 1, 1) := dk_4 (dk_at dksX9_runs_1 9 rfl rfl)
theorem dX9_runs_32 : decode cX9_runs 32 = .ok (.goto 4, 3) := dk_167 0 4 (dk_at dksX9_runs_1 10 rfl rfl)
theorem dX9_runs_35 : decode cX9_runs 35 = .ok (.iconst 0, 1) := dk_3 (dk_at dksX9_runs_1 13 rfl rfl)
theorem dX9_runs_36 : decode cX9_runs 36 = .ok (.ireturn, 1) := dk_172 (dk_at dksX9_runs_1 14 rfl rfl)
abbrev cX9_meadowIn : ByteArray := prog_15_method_9_code
def yX9_meadowIn : MethodName := ⟨RX9, "meadowIn", "([III)I"⟩
def dkwX9_meadowIn_0 : List UInt8 := [42, 16, 54, 16, 7, 27, 104, 96, 28, 96, 46, 172]
abbrev dktX9_meadowIn_0 : List UInt8 := dkwX9_meadowIn_0 ++ []
theorem dksX9_meadowIn_0 : cX9_meadowIn.data.toList.drop 0 = dktX9_meadowIn_0 := by decide +kernel
theorem dX9_meadowIn_0 : decode cX9_meadowIn 0 = .ok (.aload_n 0, 1) := dk_42 (dk_at dksX9_meadowIn_0 0 rfl rfl)
theorem dX9_meadowIn_1 : decode cX9_meadowIn 1 = .ok (.bipush 54, 2) := dk_16 54 (dk_at dksX9_meadowIn_0 1 rfl rfl)
theorem dX9_meadowIn_3 : decode cX9_meadowIn 3 = .ok (.bipush 7, 2) := dk_16 7 (dk_at dksX9_meadowIn_0 3 rfl rfl)
theorem dX9_meadowIn_5 : decode cX9_meadowIn 5 = .ok (.iload_n 1, 1) := dk_27 (dk_at dksX9_meadowIn_0 5 rfl rfl)
theorem dX9_meadowIn_6 : decode cX9_meadowIn 6 = .ok (.imul, 1) := dk_104 (dk_at dksX9_meadowIn_0 6 rfl rfl)
theorem dX9_meadowIn_7 : decode cX9_meadowIn 7 = .ok (.iadd, 1) := dk_96 (dk_at dksX9_meadowIn_0 7 rfl rfl)
theorem dX9_meadowIn_8 : decode cX9_meadowIn 8 = .ok (.iload_n 2, 1) := dk_28 (dk_at dksX9_meadowIn_0 8 rfl rfl)
theorem dX9_meadowIn_9 : decode cX9_meadowIn 9 = .ok (.iadd, 1) := dk_96 (dk_at dksX9_meadowIn_0 9 rfl rfl)
theorem dX9_meadowIn_10 : decode cX9_meadowIn 10 = .ok (.iaload, 1) := dk_46 (dk_at dksX9_meadowIn_0 10 rfl rfl)
theorem dX9_meadowIn_11 : decode cX9_meadowIn 11 = .ok (.ireturn, 1) := dk_172 (dk_at dksX9_meadowIn_0 11 rfl rfl)
abbrev cX9_complain : ByteArray := prog_15_method_45_code
def yX9_complain : MethodName := ⟨RX9, "complain", "(II)I"⟩
def dkwX9_complain_1 : List UInt8 := [182, 0, 47, 172, 42, 182, 0, 51, 42, 27, 28, 182, 0, 135, 172]
abbrev dktX9_complain_1 : List UInt8 := dkwX9_complain_1 ++ []
def dkwX9_complain_0 : List UInt8 := [42, 3, 181, 0, 32, 27, 184, 0, 129, 153, 0, 13, 28, 4, 16, 60, 184, 0, 36, 154, 0, 9, 42, 4]
abbrev dktX9_complain_0 : List UInt8 := dkwX9_complain_0 ++ dktX9_complain_1
theorem dksX9_complain_0 : cX9_complain.data.toList.drop 0 = dktX9_complain_0 := by decide +kernel
theorem dksX9_complain_1 : cX9_complain.data.toList.drop 24 = dktX9_complain_1 := dk_seg dksX9_complain_0 24 rfl rfl
theorem dX9_complain_0 : decode cX9_complain 0 = .ok (.aload_n 0, 1) := dk_42 (dk_at dksX9_complain_0 0 rfl rfl)
theorem dX9_complain_1 : decode cX9_complain 1 = .ok (.iconst 0, 1) := dk_3 (dk_at dksX9_complain_0 1 rfl rfl)
theorem dX9_complain_2 : decode cX9_complain 2 = .ok (.putfield 32, 3) := dk_181 0 32 (dk_at dksX9_complain_0 2 rfl rfl)
theorem dX9_complain_5 : decode cX9_complain 5 = .ok (.iload_n 1, 1) := dk_27 (dk_at dksX9_complain_0 5 rfl rfl)
theorem dX9_complain_6 : decode cX9_complain 6 = .ok (.invokestatic 129, 3) := dk_184 0 129 (dk_at dksX9_complain_0 6 rfl rfl)
theorem dX9_complain_9 : decode cX9_complain 9 = .ok (.ifCond .eq 13, 3) := dk_153 0 13 (dk_at dksX9_complain_0 9 rfl rfl)
theorem dX9_complain_12 : decode cX9_complain 12 = .ok (.iload_n 2, 1) := dk_28 (dk_at dksX9_complain_0 12 rfl rfl)
theorem dX9_complain_13 : decode cX9_complain 13 = .ok (.iconst 1, 1) := dk_4 (dk_at dksX9_complain_0 13 rfl rfl)
theorem dX9_complain_14 : decode cX9_complain 14 = .ok (.bipush 60, 2) := dk_16 60 (dk_at dksX9_complain_0 14 rfl rfl)
theorem dX9_complain_16 : decode cX9_complain 16 = .ok (.invokestatic 36, 3) := dk_184 0 36 (dk_at dksX9_complain_0 16 rfl rfl)
theorem dX9_complain_19 : decode cX9_complain 19 = .ok (.ifCond .ne 9, 3) := dk_154 0 9 (dk_at dksX9_complain_0 19 rfl rfl)
theorem dX9_complain_22 : decode cX9_complain 22 = .ok (.aload_n 0, 1) := dk_42 (dk_at dksX9_complain_0 22 rfl rfl)
theorem dX9_complain_23 : decode cX9_complain 23 = .ok (.iconst 1, 1) := dk_4 (dk_at dksX9_complain_0 23 rfl rfl)
theorem dX9_complain_24 : decode cX9_complain 24 = .ok (.invokevirtual 47, 3) := dk_182 0 47 (dk_at dksX9_complain_1 0 rfl rfl)
theorem dX9_complain_27 : decode cX9_complain 27 = .ok (.ireturn, 1) := dk_172 (dk_at dksX9_complain_1 3 rfl rfl)
theorem dX9_complain_28 : decode cX9_complain 28 = .ok (.aload_n 0, 1) := dk_42 (dk_at dksX9_complain_1 4 rfl rfl)
theorem dX9_complain_29 : decode cX9_complain 29 = .ok (.invokevirtual 51, 3) := dk_182 0 51 (dk_at dksX9_complain_1 5 rfl rfl)
theorem dX9_complain_32 : decode cX9_complain 32 = .ok (.aload_n 0, 1) := dk_42 (dk_at dksX9_complain_1 8 rfl rfl)
theorem dX9_complain_33 : decode cX9_complain 33 = .ok (.iload_n 1, 1) := dk_27 (dk_at dksX9_complain_1 9 rfl rfl)
theorem dX9_complain_34 : decode cX9_complain 34 = .ok (.iload_n 2, 1) := dk_28 (dk_at dksX9_complain_1 10 rfl rfl)
theorem dX9_complain_35 : decode cX9_complain 35 = .ok (.invokevirtual 135, 3) := dk_182 0 135 (dk_at dksX9_complain_1 11 rfl rfl)
theorem dX9_complain_38 : decode cX9_complain 38 = .ok (.ireturn, 1) := dk_172 (dk_at dksX9_complain_1 14 rfl rfl)
abbrev cX9_stopsFor : ByteArray := prog_15_method_44_code
def yX9_stopsFor : MethodName := ⟨RX9, "stopsFor", "(II)I"⟩
def dkwX9_stopsFor_2 : List UInt8 := [21, 4, 46, 79, 42, 27, 182, 0, 132, 172]
abbrev dktX9_stopsFor_2 : List UInt8 := dkwX9_stopsFor_2 ++ []
def dkwX9_stopsFor_1 : List UInt8 := [180, 0, 7, 21, 4, 29, 42, 180, 0, 7, 21, 4, 46, 164, 0, 7, 29, 167, 0, 10, 42, 180, 0, 7]
abbrev dktX9_stopsFor_1 : List UInt8 := dkwX9_stopsFor_1 ++ dktX9_stopsFor_2
def dkwX9_stopsFor_0 : List UInt8 := [42, 180, 0, 7, 7, 46, 28, 96, 4, 100, 62, 16, 54, 16, 7, 27, 104, 96, 8, 96, 54, 4, 42]
abbrev dktX9_stopsFor_0 : List UInt8 := dkwX9_stopsFor_0 ++ dktX9_stopsFor_1
theorem dksX9_stopsFor_0 : cX9_stopsFor.data.toList.drop 0 = dktX9_stopsFor_0 := by decide +kernel
theorem dksX9_stopsFor_1 : cX9_stopsFor.data.toList.drop 23 = dktX9_stopsFor_1 := dk_seg dksX9_stopsFor_0 23 rfl rfl
theorem dksX9_stopsFor_2 : cX9_stopsFor.data.toList.drop 47 = dktX9_stopsFor_2 := dk_seg dksX9_stopsFor_1 24 rfl rfl
theorem dX9_stopsFor_0 : decode cX9_stopsFor 0 = .ok (.aload_n 0, 1) := dk_42 (dk_at dksX9_stopsFor_0 0 rfl rfl)
theorem dX9_stopsFor_1 : decode cX9_stopsFor 1 = .ok (.getfield 7, 3) := dk_180 0 7 (dk_at dksX9_stopsFor_0 1 rfl rfl)
theorem dX9_stopsFor_4 : decode cX9_stopsFor 4 = .ok (.iconst 4, 1) := dk_7 (dk_at dksX9_stopsFor_0 4 rfl rfl)
theorem dX9_stopsFor_5 : decode cX9_stopsFor 5 = .ok (.iaload, 1) := dk_46 (dk_at dksX9_stopsFor_0 5 rfl rfl)
theorem dX9_stopsFor_6 : decode cX9_stopsFor 6 = .ok (.iload_n 2, 1) := dk_28 (dk_at dksX9_stopsFor_0 6 rfl rfl)
theorem dX9_stopsFor_7 : decode cX9_stopsFor 7 = .ok (.iadd, 1) := dk_96 (dk_at dksX9_stopsFor_0 7 rfl rfl)
theorem dX9_stopsFor_8 : decode cX9_stopsFor 8 = .ok (.iconst 1, 1) := dk_4 (dk_at dksX9_stopsFor_0 8 rfl rfl)
theorem dX9_stopsFor_9 : decode cX9_stopsFor 9 = .ok (.isub, 1) := dk_100 (dk_at dksX9_stopsFor_0 9 rfl rfl)
theorem dX9_stopsFor_10 : decode cX9_stopsFor 10 = .ok (.istore_n 3, 1) := dk_62 (dk_at dksX9_stopsFor_0 10 rfl rfl)
theorem dX9_stopsFor_11 : decode cX9_stopsFor 11 = .ok (.bipush 54, 2) := dk_16 54 (dk_at dksX9_stopsFor_0 11 rfl rfl)
theorem dX9_stopsFor_13 : decode cX9_stopsFor 13 = .ok (.bipush 7, 2) := dk_16 7 (dk_at dksX9_stopsFor_0 13 rfl rfl)
theorem dX9_stopsFor_15 : decode cX9_stopsFor 15 = .ok (.iload_n 1, 1) := dk_27 (dk_at dksX9_stopsFor_0 15 rfl rfl)
theorem dX9_stopsFor_16 : decode cX9_stopsFor 16 = .ok (.imul, 1) := dk_104 (dk_at dksX9_stopsFor_0 16 rfl rfl)
theorem dX9_stopsFor_17 : decode cX9_stopsFor 17 = .ok (.iadd, 1) := dk_96 (dk_at dksX9_stopsFor_0 17 rfl rfl)
theorem dX9_stopsFor_18 : decode cX9_stopsFor 18 = .ok (.iconst 5, 1) := dk_8 (dk_at dksX9_stopsFor_0 18 rfl rfl)
theorem dX9_stopsFor_19 : decode cX9_stopsFor 19 = .ok (.iadd, 1) := dk_96 (dk_at dksX9_stopsFor_0 19 rfl rfl)
theorem dX9_stopsFor_20 : decode cX9_stopsFor 20 = .ok (.istore 4, 2) := dk_54 4 (dk_at dksX9_stopsFor_0 20 rfl rfl)
theorem dX9_stopsFor_22 : decode cX9_stopsFor 22 = .ok (.aload_n 0, 1) := dk_42 (dk_at dksX9_stopsFor_0 22 rfl rfl)
theorem dX9_stopsFor_23 : decode cX9_stopsFor 23 = .ok (.getfield 7, 3) := dk_180 0 7 (dk_at dksX9_stopsFor_1 0 rfl rfl)
theorem dX9_stopsFor_26 : decode cX9_stopsFor 26 = .ok (.iload 4, 2) := dk_21 4 (dk_at dksX9_stopsFor_1 3 rfl rfl)
theorem dX9_stopsFor_28 : decode cX9_stopsFor 28 = .ok (.iload_n 3, 1) := dk_29 (dk_at dksX9_stopsFor_1 5 rfl rfl)
theorem dX9_stopsFor_29 : decode cX9_stopsFor 29 = .ok (.aload_n 0, 1) := dk_42 (dk_at dksX9_stopsFor_1 6 rfl rfl)
theorem dX9_stopsFor_30 : decode cX9_stopsFor 30 = .ok (.getfield 7, 3) := dk_180 0 7 (dk_at dksX9_stopsFor_1 7 rfl rfl)
theorem dX9_stopsFor_33 : decode cX9_stopsFor 33 = .ok (.iload 4, 2) := dk_21 4 (dk_at dksX9_stopsFor_1 10 rfl rfl)
theorem dX9_stopsFor_35 : decode cX9_stopsFor 35 = .ok (.iaload, 1) := dk_46 (dk_at dksX9_stopsFor_1 12 rfl rfl)
theorem dX9_stopsFor_36 : decode cX9_stopsFor 36 = .ok (.if_icmp .le 7, 3) := dk_164 0 7 (dk_at dksX9_stopsFor_1 13 rfl rfl)
theorem dX9_stopsFor_39 : decode cX9_stopsFor 39 = .ok (.iload_n 3, 1) := dk_29 (dk_at dksX9_stopsFor_1 16 rfl rfl)
theorem dX9_stopsFor_40 : decode cX9_stopsFor 40 = .ok (.goto 10, 3) := dk_167 0 10 (dk_at dksX9_stopsFor_1 17 rfl rfl)
theorem dX9_stopsFor_43 : decode cX9_stopsFor 43 = .ok (.aload_n 0, 1) := dk_42 (dk_at dksX9_stopsFor_1 20 rfl rfl)
theorem dX9_stopsFor_44 : decode cX9_stopsFor 44 = .ok (.getfield 7, 3) := dk_180 0 7 (dk_at dksX9_stopsFor_1 21 rfl rfl)
theorem dX9_stopsFor_47 : decode cX9_stopsFor 47 = .ok (.iload 4, 2) := dk_21 4 (dk_at dksX9_stopsFor_2 0 rfl rfl)
theorem dX9_stopsFor_49 : decode cX9_stopsFor 49 = .ok (.iaload, 1) := dk_46 (dk_at dksX9_stopsFor_2 2 rfl rfl)
theorem dX9_stopsFor_50 : decode cX9_stopsFor 50 = .ok (.iastore, 1) := dk_79 (dk_at dksX9_stopsFor_2 3 rfl rfl)
theorem dX9_stopsFor_51 : decode cX9_stopsFor 51 = .ok (.aload_n 0, 1) := dk_42 (dk_at dksX9_stopsFor_2 4 rfl rfl)
theorem dX9_stopsFor_52 : decode cX9_stopsFor 52 = .ok (.iload_n 1, 1) := dk_27 (dk_at dksX9_stopsFor_2 5 rfl rfl)
theorem dX9_stopsFor_53 : decode cX9_stopsFor 53 = .ok (.invokevirtual 132, 3) := dk_182 0 132 (dk_at dksX9_stopsFor_2 6 rfl rfl)
theorem dX9_stopsFor_56 : decode cX9_stopsFor 56 = .ok (.ireturn, 1) := dk_172 (dk_at dksX9_stopsFor_2 9 rfl rfl)
abbrev cX9_stoppedFor : ByteArray := prog_15_method_43_code
def yX9_stoppedFor : MethodName := ⟨RX9, "stoppedFor", "(I)I"⟩
def dkwX9_stoppedFor_1 : List UInt8 := [7, 46, 100, 4, 96, 167, 0, 4, 3, 172]
abbrev dktX9_stoppedFor_1 : List UInt8 := dkwX9_stoppedFor_1 ++ []
def dkwX9_stoppedFor_0 : List UInt8 := [42, 180, 0, 7, 27, 184, 0, 65, 153, 0, 24, 42, 180, 0, 7, 27, 8, 184, 0, 54, 42, 180, 0, 7]
abbrev dktX9_stoppedFor_0 : List UInt8 := dkwX9_stoppedFor_0 ++ dktX9_stoppedFor_1
theorem dksX9_stoppedFor_0 : cX9_stoppedFor.data.toList.drop 0 = dktX9_stoppedFor_0 := by decide +kernel
theorem dksX9_stoppedFor_1 : cX9_stoppedFor.data.toList.drop 24 = dktX9_stoppedFor_1 := dk_seg dksX9_stoppedFor_0 24 rfl rfl
theorem dX9_stoppedFor_0 : decode cX9_stoppedFor 0 = .ok (.aload_n 0, 1) := dk_42 (dk_at dksX9_stoppedFor_0 0 rfl rfl)
theorem dX9_stoppedFor_1 : decode cX9_stoppedFor 1 = .ok (.getfield 7, 3) := dk_180 0 7 (dk_at dksX9_stoppedFor_0 1 rfl rfl)
theorem dX9_stoppedFor_4 : decode cX9_stoppedFor 4 = .ok (.iload_n 1, 1) := dk_27 (dk_at dksX9_stoppedFor_0 4 rfl rfl)
theorem dX9_stoppedFor_5 : decode cX9_stoppedFor 5 = .ok (.invokestatic 65, 3) := dk_184 0 65 (dk_at dksX9_stoppedFor_0 5 rfl rfl)
theorem dX9_stoppedFor_8 : decode cX9_stoppedFor 8 = .ok (.ifCond .eq 24, 3) := dk_153 0 24 (dk_at dksX9_stoppedFor_0 8 rfl rfl)
theorem dX9_stoppedFor_11 : decode cX9_stoppedFor 11 = .ok (.aload_n 0, 1) := dk_42 (dk_at dksX9_stoppedFor_0 11 rfl rfl)
theorem dX9_stoppedFor_12 : decode cX9_stoppedFor 12 = .ok (.getfield 7, 3) := dk_180 0 7 (dk_at dksX9_stoppedFor_0 12 rfl rfl)
theorem dX9_stoppedFor_15 : decode cX9_stoppedFor 15 = .ok (.iload_n 1, 1) := dk_27 (dk_at dksX9_stoppedFor_0 15 rfl rfl)
theorem dX9_stoppedFor_16 : decode cX9_stoppedFor 16 = .ok (.iconst 5, 1) := dk_8 (dk_at dksX9_stoppedFor_0 16 rfl rfl)
theorem dX9_stoppedFor_17 : decode cX9_stoppedFor 17 = .ok (.invokestatic 54, 3) := dk_184 0 54 (dk_at dksX9_stoppedFor_0 17 rfl rfl)
theorem dX9_stoppedFor_20 : decode cX9_stoppedFor 20 = .ok (.aload_n 0, 1) := dk_42 (dk_at dksX9_stoppedFor_0 20 rfl rfl)
theorem dX9_stoppedFor_21 : decode cX9_stoppedFor 21 = .ok (.getfield 7, 3) := dk_180 0 7 (dk_at dksX9_stoppedFor_0 21 rfl rfl)
theorem dX9_stoppedFor_24 : decode cX9_stoppedFor 24 = .ok (.iconst 4, 1) := dk_7 (dk_at dksX9_stoppedFor_1 0 rfl rfl)
theorem dX9_stoppedFor_25 : decode cX9_stoppedFor 25 = .ok (.iaload, 1) := dk_46 (dk_at dksX9_stoppedFor_1 1 rfl rfl)
theorem dX9_stoppedFor_26 : decode cX9_stoppedFor 26 = .ok (.isub, 1) := dk_100 (dk_at dksX9_stoppedFor_1 2 rfl rfl)
theorem dX9_stoppedFor_27 : decode cX9_stoppedFor 27 = .ok (.iconst 1, 1) := dk_4 (dk_at dksX9_stoppedFor_1 3 rfl rfl)
theorem dX9_stoppedFor_28 : decode cX9_stoppedFor 28 = .ok (.iadd, 1) := dk_96 (dk_at dksX9_stoppedFor_1 4 rfl rfl)
theorem dX9_stoppedFor_29 : decode cX9_stoppedFor 29 = .ok (.goto 4, 3) := dk_167 0 4 (dk_at dksX9_stoppedFor_1 5 rfl rfl)
theorem dX9_stoppedFor_32 : decode cX9_stoppedFor 32 = .ok (.iconst 0, 1) := dk_3 (dk_at dksX9_stoppedFor_1 8 rfl rfl)
theorem dX9_stoppedFor_33 : decode cX9_stoppedFor 33 = .ok (.ireturn, 1) := dk_172 (dk_at dksX9_stoppedFor_1 9 rfl rfl)
abbrev cX9_isStopped : ByteArray := prog_15_method_16_code
def yX9_isStopped : MethodName := ⟨RX9, "isStopped", "([II)Z"⟩
def dkwX9_isStopped_0 : List UInt8 := [42, 27, 8, 184, 0, 54, 42, 7, 46, 161, 0, 7, 4, 167, 0, 4, 3, 172]
abbrev dktX9_isStopped_0 : List UInt8 := dkwX9_isStopped_0 ++ []
theorem dksX9_isStopped_0 : cX9_isStopped.data.toList.drop 0 = dktX9_isStopped_0 := by decide +kernel
theorem dX9_isStopped_0 : decode cX9_isStopped 0 = .ok (.aload_n 0, 1) := dk_42 (dk_at dksX9_isStopped_0 0 rfl rfl)
theorem dX9_isStopped_1 : decode cX9_isStopped 1 = .ok (.iload_n 1, 1) := dk_27 (dk_at dksX9_isStopped_0 1 rfl rfl)
theorem dX9_isStopped_2 : decode cX9_isStopped 2 = .ok (.iconst 5, 1) := dk_8 (dk_at dksX9_isStopped_0 2 rfl rfl)
theorem dX9_isStopped_3 : decode cX9_isStopped 3 = .ok (.invokestatic 54, 3) := dk_184 0 54 (dk_at dksX9_isStopped_0 3 rfl rfl)
theorem dX9_isStopped_6 : decode cX9_isStopped 6 = .ok (.aload_n 0, 1) := dk_42 (dk_at dksX9_isStopped_0 6 rfl rfl)
theorem dX9_isStopped_7 : decode cX9_isStopped 7 = .ok (.iconst 4, 1) := dk_7 (dk_at dksX9_isStopped_0 7 rfl rfl)
theorem dX9_isStopped_8 : decode cX9_isStopped 8 = .ok (.iaload, 1) := dk_46 (dk_at dksX9_isStopped_0 8 rfl rfl)
theorem dX9_isStopped_9 : decode cX9_isStopped 9 = .ok (.if_icmp .lt 7, 3) := dk_161 0 7 (dk_at dksX9_isStopped_0 9 rfl rfl)
theorem dX9_isStopped_12 : decode cX9_isStopped 12 = .ok (.iconst 1, 1) := dk_4 (dk_at dksX9_isStopped_0 12 rfl rfl)
theorem dX9_isStopped_13 : decode cX9_isStopped 13 = .ok (.goto 4, 3) := dk_167 0 4 (dk_at dksX9_isStopped_0 13 rfl rfl)
theorem dX9_isStopped_16 : decode cX9_isStopped 16 = .ok (.iconst 0, 1) := dk_3 (dk_at dksX9_isStopped_0 16 rfl rfl)
theorem dX9_isStopped_17 : decode cX9_isStopped 17 = .ok (.ireturn, 1) := dk_172 (dk_at dksX9_isStopped_0 17 rfl rfl)
abbrev cX9_shift : ByteArray := prog_15_method_46_code
def yX9_shift : MethodName := ⟨RX9, "shift", "(II)I"⟩
def dkwX9_shift_1 : List UInt8 := [182, 0, 47, 172, 42, 182, 0, 51, 42, 16, 54, 16, 7, 27, 104, 96, 16, 6, 96, 28, 182, 0, 122, 172]
abbrev dktX9_shift_1 : List UInt8 := dkwX9_shift_1 ++ []
def dkwX9_shift_0 : List UInt8 := [42, 3, 181, 0, 32, 27, 184, 0, 129, 153, 0, 13, 28, 3, 16, 9, 184, 0, 36, 154, 0, 9, 42, 4]
abbrev dktX9_shift_0 : List UInt8 := dkwX9_shift_0 ++ dktX9_shift_1
theorem dksX9_shift_0 : cX9_shift.data.toList.drop 0 = dktX9_shift_0 := by decide +kernel
theorem dksX9_shift_1 : cX9_shift.data.toList.drop 24 = dktX9_shift_1 := dk_seg dksX9_shift_0 24 rfl rfl
theorem dX9_shift_0 : decode cX9_shift 0 = .ok (.aload_n 0, 1) := dk_42 (dk_at dksX9_shift_0 0 rfl rfl)
theorem dX9_shift_1 : decode cX9_shift 1 = .ok (.iconst 0, 1) := dk_3 (dk_at dksX9_shift_0 1 rfl rfl)
theorem dX9_shift_2 : decode cX9_shift 2 = .ok (.putfield 32, 3) := dk_181 0 32 (dk_at dksX9_shift_0 2 rfl rfl)
theorem dX9_shift_5 : decode cX9_shift 5 = .ok (.iload_n 1, 1) := dk_27 (dk_at dksX9_shift_0 5 rfl rfl)
theorem dX9_shift_6 : decode cX9_shift 6 = .ok (.invokestatic 129, 3) := dk_184 0 129 (dk_at dksX9_shift_0 6 rfl rfl)
theorem dX9_shift_9 : decode cX9_shift 9 = .ok (.ifCond .eq 13, 3) := dk_153 0 13 (dk_at dksX9_shift_0 9 rfl rfl)
theorem dX9_shift_12 : decode cX9_shift 12 = .ok (.iload_n 2, 1) := dk_28 (dk_at dksX9_shift_0 12 rfl rfl)
theorem dX9_shift_13 : decode cX9_shift 13 = .ok (.iconst 0, 1) := dk_3 (dk_at dksX9_shift_0 13 rfl rfl)
theorem dX9_shift_14 : decode cX9_shift 14 = .ok (.bipush 9, 2) := dk_16 9 (dk_at dksX9_shift_0 14 rfl rfl)
theorem dX9_shift_16 : decode cX9_shift 16 = .ok (.invokestatic 36, 3) := dk_184 0 36 (dk_at dksX9_shift_0 16 rfl rfl)
theorem dX9_shift_19 : decode cX9_shift 19 = .ok (.ifCond .ne 9, 3) := dk_154 0 9 (dk_at dksX9_shift_0 19 rfl rfl)
theorem dX9_shift_22 : decode cX9_shift 22 = .ok (.aload_n 0, 1) := dk_42 (dk_at dksX9_shift_0 22 rfl rfl)
theorem dX9_shift_23 : decode cX9_shift 23 = .ok (.iconst 1, 1) := dk_4 (dk_at dksX9_shift_0 23 rfl rfl)
theorem dX9_shift_24 : decode cX9_shift 24 = .ok (.invokevirtual 47, 3) := dk_182 0 47 (dk_at dksX9_shift_1 0 rfl rfl)
theorem dX9_shift_27 : decode cX9_shift 27 = .ok (.ireturn, 1) := dk_172 (dk_at dksX9_shift_1 3 rfl rfl)
theorem dX9_shift_28 : decode cX9_shift 28 = .ok (.aload_n 0, 1) := dk_42 (dk_at dksX9_shift_1 4 rfl rfl)
theorem dX9_shift_29 : decode cX9_shift 29 = .ok (.invokevirtual 51, 3) := dk_182 0 51 (dk_at dksX9_shift_1 5 rfl rfl)
theorem dX9_shift_32 : decode cX9_shift 32 = .ok (.aload_n 0, 1) := dk_42 (dk_at dksX9_shift_1 8 rfl rfl)
theorem dX9_shift_33 : decode cX9_shift 33 = .ok (.bipush 54, 2) := dk_16 54 (dk_at dksX9_shift_1 9 rfl rfl)
theorem dX9_shift_35 : decode cX9_shift 35 = .ok (.bipush 7, 2) := dk_16 7 (dk_at dksX9_shift_1 11 rfl rfl)
theorem dX9_shift_37 : decode cX9_shift 37 = .ok (.iload_n 1, 1) := dk_27 (dk_at dksX9_shift_1 13 rfl rfl)
theorem dX9_shift_38 : decode cX9_shift 38 = .ok (.imul, 1) := dk_104 (dk_at dksX9_shift_1 14 rfl rfl)
theorem dX9_shift_39 : decode cX9_shift 39 = .ok (.iadd, 1) := dk_96 (dk_at dksX9_shift_1 15 rfl rfl)
theorem dX9_shift_40 : decode cX9_shift 40 = .ok (.bipush 6, 2) := dk_16 6 (dk_at dksX9_shift_1 16 rfl rfl)
theorem dX9_shift_42 : decode cX9_shift 42 = .ok (.iadd, 1) := dk_96 (dk_at dksX9_shift_1 18 rfl rfl)
theorem dX9_shift_43 : decode cX9_shift 43 = .ok (.iload_n 2, 1) := dk_28 (dk_at dksX9_shift_1 19 rfl rfl)
theorem dX9_shift_44 : decode cX9_shift 44 = .ok (.invokevirtual 122, 3) := dk_182 0 122 (dk_at dksX9_shift_1 20 rfl rfl)
theorem dX9_shift_47 : decode cX9_shift 47 = .ok (.ireturn, 1) := dk_172 (dk_at dksX9_shift_1 23 rfl rfl)
abbrev cX9_pass : ByteArray := prog_15_method_48_code
def yX9_pass : MethodName := ⟨RX9, "pass", "(I)I"⟩
def dkwX9_pass_2 : List UInt8 := [42, 42, 180, 0, 7, 27, 182, 0, 144, 42, 180, 0, 7, 184, 0, 141, 28, 100, 172]
abbrev dktX9_pass_2 : List UInt8 := dkwX9_pass_2 ++ []
def dkwX9_pass_1 : List UInt8 := [182, 0, 138, 154, 0, 9, 42, 5, 182, 0, 47, 172, 42, 182, 0, 51, 42, 180, 0, 7, 184, 0, 141, 61]
abbrev dktX9_pass_1 : List UInt8 := dkwX9_pass_1 ++ dktX9_pass_2
def dkwX9_pass_0 : List UInt8 := [42, 3, 181, 0, 32, 27, 4, 16, 60, 184, 0, 36, 154, 0, 9, 42, 4, 182, 0, 47, 172, 42, 27]
abbrev dktX9_pass_0 : List UInt8 := dkwX9_pass_0 ++ dktX9_pass_1
theorem dksX9_pass_0 : cX9_pass.data.toList.drop 0 = dktX9_pass_0 := by decide +kernel
theorem dksX9_pass_1 : cX9_pass.data.toList.drop 23 = dktX9_pass_1 := dk_seg dksX9_pass_0 23 rfl rfl
theorem dksX9_pass_2 : cX9_pass.data.toList.drop 47 = dktX9_pass_2 := dk_seg dksX9_pass_1 24 rfl rfl
theorem dX9_pass_0 : decode cX9_pass 0 = .ok (.aload_n 0, 1) := dk_42 (dk_at dksX9_pass_0 0 rfl rfl)
theorem dX9_pass_1 : decode cX9_pass 1 = .ok (.iconst 0, 1) := dk_3 (dk_at dksX9_pass_0 1 rfl rfl)
theorem dX9_pass_2 : decode cX9_pass 2 = .ok (.putfield 32, 3) := dk_181 0 32 (dk_at dksX9_pass_0 2 rfl rfl)
theorem dX9_pass_5 : decode cX9_pass 5 = .ok (.iload_n 1, 1) := dk_27 (dk_at dksX9_pass_0 5 rfl rfl)
theorem dX9_pass_6 : decode cX9_pass 6 = .ok (.iconst 1, 1) := dk_4 (dk_at dksX9_pass_0 6 rfl rfl)
theorem dX9_pass_7 : decode cX9_pass 7 = .ok (.bipush 60, 2) := dk_16 60 (dk_at dksX9_pass_0 7 rfl rfl)
theorem dX9_pass_9 : decode cX9_pass 9 = .ok (.invokestatic 36, 3) := dk_184 0 36 (dk_at dksX9_pass_0 9 rfl rfl)
theorem dX9_pass_12 : decode cX9_pass 12 = .ok (.ifCond .ne 9, 3) := dk_154 0 9 (dk_at dksX9_pass_0 12 rfl rfl)
theorem dX9_pass_15 : decode cX9_pass 15 = .ok (.aload_n 0, 1) := dk_42 (dk_at dksX9_pass_0 15 rfl rfl)
theorem dX9_pass_16 : decode cX9_pass 16 = .ok (.iconst 1, 1) := dk_4 (dk_at dksX9_pass_0 16 rfl rfl)
theorem dX9_pass_17 : decode cX9_pass 17 = .ok (.invokevirtual 47, 3) := dk_182 0 47 (dk_at dksX9_pass_0 17 rfl rfl)
theorem dX9_pass_20 : decode cX9_pass 20 = .ok (.ireturn, 1) := dk_172 (dk_at dksX9_pass_0 20 rfl rfl)
theorem dX9_pass_21 : decode cX9_pass 21 = .ok (.aload_n 0, 1) := dk_42 (dk_at dksX9_pass_0 21 rfl rfl)
theorem dX9_pass_22 : decode cX9_pass 22 = .ok (.iload_n 1, 1) := dk_27 (dk_at dksX9_pass_0 22 rfl rfl)
theorem dX9_pass_23 : decode cX9_pass 23 = .ok (.invokevirtual 138, 3) := dk_182 0 138 (dk_at dksX9_pass_1 0 rfl rfl)
theorem dX9_pass_26 : decode cX9_pass 26 = .ok (.ifCond .ne 9, 3) := dk_154 0 9 (dk_at dksX9_pass_1 3 rfl rfl)
theorem dX9_pass_29 : decode cX9_pass 29 = .ok (.aload_n 0, 1) := dk_42 (dk_at dksX9_pass_1 6 rfl rfl)
theorem dX9_pass_30 : decode cX9_pass 30 = .ok (.iconst 2, 1) := dk_5 (dk_at dksX9_pass_1 7 rfl rfl)
theorem dX9_pass_31 : decode cX9_pass 31 = .ok (.invokevirtual 47, 3) := dk_182 0 47 (dk_at dksX9_pass_1 8 rfl rfl)
theorem dX9_pass_34 : decode cX9_pass 34 = .ok (.ireturn, 1) := dk_172 (dk_at dksX9_pass_1 11 rfl rfl)
theorem dX9_pass_35 : decode cX9_pass 35 = .ok (.aload_n 0, 1) := dk_42 (dk_at dksX9_pass_1 12 rfl rfl)
theorem dX9_pass_36 : decode cX9_pass 36 = .ok (.invokevirtual 51, 3) := dk_182 0 51 (dk_at dksX9_pass_1 13 rfl rfl)
theorem dX9_pass_39 : decode cX9_pass 39 = .ok (.aload_n 0, 1) := dk_42 (dk_at dksX9_pass_1 16 rfl rfl)
theorem dX9_pass_40 : decode cX9_pass 40 = .ok (.getfield 7, 3) := dk_180 0 7 (dk_at dksX9_pass_1 17 rfl rfl)
theorem dX9_pass_43 : decode cX9_pass 43 = .ok (.invokestatic 141, 3) := dk_184 0 141 (dk_at dksX9_pass_1 20 rfl rfl)
theorem dX9_pass_46 : decode cX9_pass 46 = .ok (.istore_n 2, 1) := dk_61 (dk_at dksX9_pass_1 23 rfl rfl)
theorem dX9_pass_47 : decode cX9_pass 47 = .ok (.aload_n 0, 1) := dk_42 (dk_at dksX9_pass_2 0 rfl rfl)
theorem dX9_pass_48 : decode cX9_pass 48 = .ok (.aload_n 0, 1) := dk_42 (dk_at dksX9_pass_2 1 rfl rfl)
theorem dX9_pass_49 : decode cX9_pass 49 = .ok (.getfield 7, 3) := dk_180 0 7 (dk_at dksX9_pass_2 2 rfl rfl)
theorem dX9_pass_52 : decode cX9_pass 52 = .ok (.iload_n 1, 1) := dk_27 (dk_at dksX9_pass_2 5 rfl rfl)
theorem dX9_pass_53 : decode cX9_pass 53 = .ok (.invokevirtual 144, 3) := dk_182 0 144 (dk_at dksX9_pass_2 6 rfl rfl)
theorem dX9_pass_56 : decode cX9_pass 56 = .ok (.aload_n 0, 1) := dk_42 (dk_at dksX9_pass_2 9 rfl rfl)
theorem dX9_pass_57 : decode cX9_pass 57 = .ok (.getfield 7, 3) := dk_180 0 7 (dk_at dksX9_pass_2 10 rfl rfl)
theorem dX9_pass_60 : decode cX9_pass 60 = .ok (.invokestatic 141, 3) := dk_184 0 141 (dk_at dksX9_pass_2 13 rfl rfl)
theorem dX9_pass_63 : decode cX9_pass 63 = .ok (.iload_n 2, 1) := dk_28 (dk_at dksX9_pass_2 16 rfl rfl)
theorem dX9_pass_64 : decode cX9_pass 64 = .ok (.isub, 1) := dk_100 (dk_at dksX9_pass_2 17 rfl rfl)
theorem dX9_pass_65 : decode cX9_pass 65 = .ok (.ireturn, 1) := dk_172 (dk_at dksX9_pass_2 18 rfl rfl)
abbrev cX9_mayPass : ByteArray := prog_15_method_47_code
def yX9_mayPass : MethodName := ⟨RX9, "mayPass", "(I)Z"⟩
def dkwX9_mayPass_0 : List UInt8 := [42, 180, 0, 7, 7, 46, 27, 96, 17, 39, 15, 163, 0, 7, 4, 167, 0, 4, 3, 172]
abbrev dktX9_mayPass_0 : List UInt8 := dkwX9_mayPass_0 ++ []
theorem dksX9_mayPass_0 : cX9_mayPass.data.toList.drop 0 = dktX9_mayPass_0 := by decide +kernel
theorem dX9_mayPass_0 : decode cX9_mayPass 0 = .ok (.aload_n 0, 1) := dk_42 (dk_at dksX9_mayPass_0 0 rfl rfl)
theorem dX9_mayPass_1 : decode cX9_mayPass 1 = .ok (.getfield 7, 3) := dk_180 0 7 (dk_at dksX9_mayPass_0 1 rfl rfl)
theorem dX9_mayPass_4 : decode cX9_mayPass 4 = .ok (.iconst 4, 1) := dk_7 (dk_at dksX9_mayPass_0 4 rfl rfl)
theorem dX9_mayPass_5 : decode cX9_mayPass 5 = .ok (.iaload, 1) := dk_46 (dk_at dksX9_mayPass_0 5 rfl rfl)
theorem dX9_mayPass_6 : decode cX9_mayPass 6 = .ok (.iload_n 1, 1) := dk_27 (dk_at dksX9_mayPass_0 6 rfl rfl)
theorem dX9_mayPass_7 : decode cX9_mayPass 7 = .ok (.iadd, 1) := dk_96 (dk_at dksX9_mayPass_0 7 rfl rfl)
theorem dX9_mayPass_8 : decode cX9_mayPass 8 = .ok (.sipush 9999, 3) := dk_17 39 15 (dk_at dksX9_mayPass_0 8 rfl rfl)
theorem dX9_mayPass_11 : decode cX9_mayPass 11 = .ok (.if_icmp .gt 7, 3) := dk_163 0 7 (dk_at dksX9_mayPass_0 11 rfl rfl)
theorem dX9_mayPass_14 : decode cX9_mayPass 14 = .ok (.iconst 1, 1) := dk_4 (dk_at dksX9_mayPass_0 14 rfl rfl)
theorem dX9_mayPass_15 : decode cX9_mayPass 15 = .ok (.goto 4, 3) := dk_167 0 4 (dk_at dksX9_mayPass_0 15 rfl rfl)
theorem dX9_mayPass_18 : decode cX9_mayPass 18 = .ok (.iconst 0, 1) := dk_3 (dk_at dksX9_mayPass_0 18 rfl rfl)
theorem dX9_mayPass_19 : decode cX9_mayPass 19 = .ok (.ireturn, 1) := dk_172 (dk_at dksX9_mayPass_0 19 rfl rfl)
abbrev cX9_onMeadows : ByteArray := prog_15_method_34_code
def yX9_onMeadows : MethodName := ⟨RX9, "onMeadows", "([I)I"⟩
def dkwX9_onMeadows_1 : List UInt8 := [27, 172]
abbrev dktX9_onMeadows_1 : List UInt8 := dkwX9_onMeadows_1 ++ []
def dkwX9_onMeadows_0 : List UInt8 := [3, 60, 3, 61, 28, 8, 162, 0, 18, 27, 42, 28, 4, 184, 0, 54, 96, 60, 132, 2, 1, 167, 255, 239]
abbrev dktX9_onMeadows_0 : List UInt8 := dkwX9_onMeadows_0 ++ dktX9_onMeadows_1
theorem dksX9_onMeadows_0 : cX9_onMeadows.data.toList.drop 0 = dktX9_onMeadows_0 := by decide +kernel
theorem dksX9_onMeadows_1 : cX9_onMeadows.data.toList.drop 24 = dktX9_onMeadows_1 := dk_seg dksX9_onMeadows_0 24 rfl rfl
theorem dX9_onMeadows_0 : decode cX9_onMeadows 0 = .ok (.iconst 0, 1) := dk_3 (dk_at dksX9_onMeadows_0 0 rfl rfl)
theorem dX9_onMeadows_1 : decode cX9_onMeadows 1 = .ok (.istore_n 1, 1) := dk_60 (dk_at dksX9_onMeadows_0 1 rfl rfl)
theorem dX9_onMeadows_2 : decode cX9_onMeadows 2 = .ok (.iconst 0, 1) := dk_3 (dk_at dksX9_onMeadows_0 2 rfl rfl)
theorem dX9_onMeadows_3 : decode cX9_onMeadows 3 = .ok (.istore_n 2, 1) := dk_61 (dk_at dksX9_onMeadows_0 3 rfl rfl)
theorem dX9_onMeadows_4 : decode cX9_onMeadows 4 = .ok (.iload_n 2, 1) := dk_28 (dk_at dksX9_onMeadows_0 4 rfl rfl)
theorem dX9_onMeadows_5 : decode cX9_onMeadows 5 = .ok (.iconst 5, 1) := dk_8 (dk_at dksX9_onMeadows_0 5 rfl rfl)
theorem dX9_onMeadows_6 : decode cX9_onMeadows 6 = .ok (.if_icmp .ge 18, 3) := dk_162 0 18 (dk_at dksX9_onMeadows_0 6 rfl rfl)
theorem dX9_onMeadows_9 : decode cX9_onMeadows 9 = .ok (.iload_n 1, 1) := dk_27 (dk_at dksX9_onMeadows_0 9 rfl rfl)
theorem dX9_onMeadows_10 : decode cX9_onMeadows 10 = .ok (.aload_n 0, 1) := dk_42 (dk_at dksX9_onMeadows_0 10 rfl rfl)
theorem dX9_onMeadows_11 : decode cX9_onMeadows 11 = .ok (.iload_n 2, 1) := dk_28 (dk_at dksX9_onMeadows_0 11 rfl rfl)
theorem dX9_onMeadows_12 : decode cX9_onMeadows 12 = .ok (.iconst 1, 1) := dk_4 (dk_at dksX9_onMeadows_0 12 rfl rfl)
theorem dX9_onMeadows_13 : decode cX9_onMeadows 13 = .ok (.invokestatic 54, 3) := dk_184 0 54 (dk_at dksX9_onMeadows_0 13 rfl rfl)
theorem dX9_onMeadows_16 : decode cX9_onMeadows 16 = .ok (.iadd, 1) := dk_96 (dk_at dksX9_onMeadows_0 16 rfl rfl)
theorem dX9_onMeadows_17 : decode cX9_onMeadows 17 = .ok (.istore_n 1, 1) := dk_60 (dk_at dksX9_onMeadows_0 17 rfl rfl)
theorem dX9_onMeadows_18 : decode cX9_onMeadows 18 = .ok (.iinc 2 1, 3) := dk_132 2 1 (dk_at dksX9_onMeadows_0 18 rfl rfl)
theorem dX9_onMeadows_21 : decode cX9_onMeadows 21 = .ok (.goto (-17), 3) := dk_167 255 239 (dk_at dksX9_onMeadows_0 21 rfl rfl)
theorem dX9_onMeadows_24 : decode cX9_onMeadows 24 = .ok (.iload_n 1, 1) := dk_27 (dk_at dksX9_onMeadows_1 0 rfl rfl)
theorem dX9_onMeadows_25 : decode cX9_onMeadows 25 = .ok (.ireturn, 1) := dk_172 (dk_at dksX9_onMeadows_1 1 rfl rfl)
abbrev cX9_days : ByteArray := prog_15_method_31_code
def yX9_days : MethodName := ⟨RX9, "days", "([II)V"⟩
def dkwX9_days_0 : List UInt8 := [3, 62, 29, 28, 162, 0, 14, 42, 43, 182, 0, 114, 132, 3, 1, 167, 255, 243, 177]
abbrev dktX9_days_0 : List UInt8 := dkwX9_days_0 ++ []
theorem dksX9_days_0 : cX9_days.data.toList.drop 0 = dktX9_days_0 := by decide +kernel
theorem dX9_days_0 : decode cX9_days 0 = .ok (.iconst 0, 1) := dk_3 (dk_at dksX9_days_0 0 rfl rfl)
theorem dX9_days_1 : decode cX9_days 1 = .ok (.istore_n 3, 1) := dk_62 (dk_at dksX9_days_0 1 rfl rfl)
theorem dX9_days_2 : decode cX9_days 2 = .ok (.iload_n 3, 1) := dk_29 (dk_at dksX9_days_0 2 rfl rfl)
theorem dX9_days_3 : decode cX9_days 3 = .ok (.iload_n 2, 1) := dk_28 (dk_at dksX9_days_0 3 rfl rfl)
theorem dX9_days_4 : decode cX9_days 4 = .ok (.if_icmp .ge 14, 3) := dk_162 0 14 (dk_at dksX9_days_0 4 rfl rfl)
theorem dX9_days_7 : decode cX9_days 7 = .ok (.aload_n 0, 1) := dk_42 (dk_at dksX9_days_0 7 rfl rfl)
theorem dX9_days_8 : decode cX9_days 8 = .ok (.aload_n 1, 1) := dk_43 (dk_at dksX9_days_0 8 rfl rfl)
theorem dX9_days_9 : decode cX9_days 9 = .ok (.invokevirtual 114, 3) := dk_182 0 114 (dk_at dksX9_days_0 9 rfl rfl)
theorem dX9_days_12 : decode cX9_days 12 = .ok (.iinc 3 1, 3) := dk_132 3 1 (dk_at dksX9_days_0 12 rfl rfl)
theorem dX9_days_15 : decode cX9_days 15 = .ok (.goto (-13), 3) := dk_167 255 243 (dk_at dksX9_days_0 15 rfl rfl)
theorem dX9_days_18 : decode cX9_days 18 = .ok (.return_, 1) := dk_177 (dk_at dksX9_days_0 18 rfl rfl)
abbrev cX9_day : ByteArray := prog_15_method_30_code
def yX9_day : MethodName := ⟨RX9, "day", "([I)V"⟩
def dkwX9_day_11 : List UInt8 := [17, 3, 231, 167, 0, 5, 21, 5, 79, 132, 4, 1, 167, 255, 174, 43, 7, 92, 46, 4, 96, 79, 177]
abbrev dktX9_day_11 : List UInt8 := dkwX9_day_11 ++ []
def dkwX9_day_10 : List UInt8 := [167, 0, 4, 3, 96, 79, 43, 16, 8, 6, 21, 4, 104, 96, 21, 5, 17, 3, 231, 164, 0, 9]
abbrev dktX9_day_10 : List UInt8 := dkwX9_day_10 ++ dktX9_day_11
def dkwX9_day_9 : List UInt8 := [21, 4, 104, 96, 5, 96, 92, 46, 21, 5, 17, 3, 231, 164, 0, 12, 21, 5, 17, 3, 231, 100]
abbrev dktX9_day_9 : List UInt8 := dkwX9_day_9 ++ dktX9_day_10
def dkwX9_day_8 : List UInt8 := [16, 6, 162, 0, 81, 43, 16, 8, 6, 21, 4, 104, 96, 46, 43, 4, 46, 96, 54, 5, 43, 16, 8, 6]
abbrev dktX9_day_8 : List UInt8 := dkwX9_day_8 ++ dktX9_day_9
def dkwX9_day_7 : List UInt8 := [184, 0, 108, 153, 0, 9, 43, 21, 4, 184, 0, 111, 132, 4, 1, 167, 255, 219, 3, 54, 4, 21, 4]
abbrev dktX9_day_7 : List UInt8 := dkwX9_day_7 ++ dktX9_day_8
def dkwX9_day_6 : List UInt8 := [54, 4, 21, 4, 43, 16, 6, 46, 162, 0, 34, 43, 21, 4, 4, 184, 0, 58, 154, 0, 18, 43, 21, 4]
abbrev dktX9_day_6 : List UInt8 := dkwX9_day_6 ++ dktX9_day_7
def dkwX9_day_5 : List UInt8 := [132, 4, 1, 167, 255, 220, 42, 43, 184, 0, 81, 154, 0, 7, 4, 167, 0, 4, 3, 181, 0, 104, 3]
abbrev dktX9_day_5 : List UInt8 := dkwX9_day_5 ++ dktX9_day_6
def dkwX9_day_4 : List UInt8 := [21, 4, 4, 184, 0, 58, 154, 0, 13, 43, 21, 4, 29, 184, 0, 101, 167, 0, 4, 3, 100, 62]
abbrev dktX9_day_4 : List UInt8 := dkwX9_day_4 ++ dktX9_day_5
def dkwX9_day_3 : List UInt8 := [132, 3, 1, 167, 255, 224, 43, 3, 46, 62, 3, 54, 4, 21, 4, 43, 16, 6, 46, 162, 0, 33, 29, 43]
abbrev dktX9_day_3 : List UInt8 := dkwX9_day_3 ++ dktX9_day_4
def dkwX9_day_2 : List UInt8 := [162, 0, 30, 43, 29, 4, 184, 0, 58, 5, 160, 0, 12, 43, 29, 28, 184, 0, 98, 167, 0, 4, 28, 61]
abbrev dktX9_day_2 : List UInt8 := dkwX9_day_2 ++ dktX9_day_3
def dkwX9_day_1 : List UInt8 := [46, 162, 0, 14, 43, 28, 184, 0, 95, 132, 2, 1, 167, 255, 240, 3, 61, 3, 62, 29, 43, 16, 6, 46]
abbrev dktX9_day_1 : List UInt8 := dkwX9_day_1 ++ dktX9_day_2
def dkwX9_day_0 : List UInt8 := [3, 61, 28, 8, 162, 0, 14, 43, 28, 184, 0, 91, 132, 2, 1, 167, 255, 243, 3, 61, 28, 43, 16, 6]
abbrev dktX9_day_0 : List UInt8 := dkwX9_day_0 ++ dktX9_day_1
theorem dksX9_day_0 : cX9_day.data.toList.drop 0 = dktX9_day_0 := by decide +kernel
theorem dksX9_day_1 : cX9_day.data.toList.drop 24 = dktX9_day_1 := dk_seg dksX9_day_0 24 rfl rfl
theorem dksX9_day_2 : cX9_day.data.toList.drop 48 = dktX9_day_2 := dk_seg dksX9_day_1 24 rfl rfl
theorem dksX9_day_3 : cX9_day.data.toList.drop 72 = dktX9_day_3 := dk_seg dksX9_day_2 24 rfl rfl
theorem dksX9_day_4 : cX9_day.data.toList.drop 96 = dktX9_day_4 := dk_seg dksX9_day_3 24 rfl rfl
theorem dksX9_day_5 : cX9_day.data.toList.drop 118 = dktX9_day_5 := dk_seg dksX9_day_4 22 rfl rfl
theorem dksX9_day_6 : cX9_day.data.toList.drop 141 = dktX9_day_6 := dk_seg dksX9_day_5 23 rfl rfl
theorem dksX9_day_7 : cX9_day.data.toList.drop 165 = dktX9_day_7 := dk_seg dksX9_day_6 24 rfl rfl
theorem dksX9_day_8 : cX9_day.data.toList.drop 188 = dktX9_day_8 := dk_seg dksX9_day_7 23 rfl rfl
theorem dksX9_day_9 : cX9_day.data.toList.drop 212 = dktX9_day_9 := dk_seg dksX9_day_8 24 rfl rfl
theorem dksX9_day_10 : cX9_day.data.toList.drop 234 = dktX9_day_10 := dk_seg dksX9_day_9 22 rfl rfl
theorem dksX9_day_11 : cX9_day.data.toList.drop 256 = dktX9_day_11 := dk_seg dksX9_day_10 22 rfl rfl
theorem dX9_day_0 : decode cX9_day 0 = .ok (.iconst 0, 1) := dk_3 (dk_at dksX9_day_0 0 rfl rfl)
theorem dX9_day_1 : decode cX9_day 1 = .ok (.istore_n 2, 1) := dk_61 (dk_at dksX9_day_0 1 rfl rfl)
theorem dX9_day_2 : decode cX9_day 2 = .ok (.iload_n 2, 1) := dk_28 (dk_at dksX9_day_0 2 rfl rfl)
theorem dX9_day_3 : decode cX9_day 3 = .ok (.iconst 5, 1) := dk_8 (dk_at dksX9_day_0 3 rfl rfl)
theorem dX9_day_4 : decode cX9_day 4 = .ok (.if_icmp .ge 14, 3) := dk_162 0 14 (dk_at dksX9_day_0 4 rfl rfl)
theorem dX9_day_7 : decode cX9_day 7 = .ok (.aload_n 1, 1) := dk_43 (dk_at dksX9_day_0 7 rfl rfl)
theorem dX9_day_8 : decode cX9_day 8 = .ok (.iload_n 2, 1) := dk_28 (dk_at dksX9_day_0 8 rfl rfl)
theorem dX9_day_9 : decode cX9_day 9 = .ok (.invokestatic 91, 3) := dk_184 0 91 (dk_at dksX9_day_0 9 rfl rfl)
theorem dX9_day_12 : decode cX9_day 12 = .ok (.iinc 2 1, 3) := dk_132 2 1 (dk_at dksX9_day_0 12 rfl rfl)
theorem dX9_day_15 : decode cX9_day 15 = .ok (.goto (-13), 3) := dk_167 255 243 (dk_at dksX9_day_0 15 rfl rfl)
theorem dX9_day_18 : decode cX9_day 18 = .ok (.iconst 0, 1) := dk_3 (dk_at dksX9_day_0 18 rfl rfl)
theorem dX9_day_19 : decode cX9_day 19 = .ok (.istore_n 2, 1) := dk_61 (dk_at dksX9_day_0 19 rfl rfl)
theorem dX9_day_20 : decode cX9_day 20 = .ok (.iload_n 2, 1) := dk_28 (dk_at dksX9_day_0 20 rfl rfl)
theorem dX9_day_21 : decode cX9_day 21 = .ok (.aload_n 1, 1) := dk_43 (dk_at dksX9_day_0 21 rfl rfl)
theorem dX9_day_22 : decode cX9_day 22 = .ok (.bipush 6, 2) := dk_16 6 (dk_at dksX9_day_0 22 rfl rfl)
theorem dX9_day_24 : decode cX9_day 24 = .ok (.iaload, 1) := dk_46 (dk_at dksX9_day_1 0 rfl rfl)
theorem dX9_day_25 : decode cX9_day 25 = .ok (.if_icmp .ge 14, 3) := dk_162 0 14 (dk_at dksX9_day_1 1 rfl rfl)
theorem dX9_day_28 : decode cX9_day 28 = .ok (.aload_n 1, 1) := dk_43 (dk_at dksX9_day_1 4 rfl rfl)
theorem dX9_day_29 : decode cX9_day 29 = .ok (.iload_n 2, 1) := dk_28 (dk_at dksX9_day_1 5 rfl rfl)
theorem dX9_day_30 : decode cX9_day 30 = .ok (.invokestatic 95, 3) := dk_184 0 95 (dk_at dksX9_day_1 6 rfl rfl)
theorem dX9_day_33 : decode cX9_day 33 = .ok (.iinc 2 1, 3) := dk_132 2 1 (dk_at dksX9_day_1 9 rfl rfl)
theorem dX9_day_36 : decode cX9_day 36 = .ok (.goto (-16), 3) := dk_167 255 240 (dk_at dksX9_day_1 12 rfl rfl)
theorem dX9_day_39 : decode cX9_day 39 = .ok (.iconst 0, 1) := dk_3 (dk_at dksX9_day_1 15 rfl rfl)
theorem dX9_day_40 : decode cX9_day 40 = .ok (.istore_n 2, 1) := dk_61 (dk_at dksX9_day_1 16 rfl rfl)
theorem dX9_day_41 : decode cX9_day 41 = .ok (.iconst 0, 1) := dk_3 (dk_at dksX9_day_1 17 rfl rfl)
theorem dX9_day_42 : decode cX9_day 42 = .ok (.istore_n 3, 1) := dk_62 (dk_at dksX9_day_1 18 rfl rfl)
theorem dX9_day_43 : decode cX9_day 43 = .ok (.iload_n 3, 1) := dk_29 (dk_at dksX9_day_1 19 rfl rfl)
theorem dX9_day_44 : decode cX9_day 44 = .ok (.aload_n 1, 1) := dk_43 (dk_at dksX9_day_1 20 rfl rfl)
theorem dX9_day_45 : decode cX9_day 45 = .ok (.bipush 6, 2) := dk_16 6 (dk_at dksX9_day_1 21 rfl rfl)
theorem dX9_day_47 : decode cX9_day 47 = .ok (.iaload, 1) := dk_46 (dk_at dksX9_day_1 23 rfl rfl)
theorem dX9_day_48 : decode cX9_day 48 = .ok (.if_icmp .ge 30, 3) := dk_162 0 30 (dk_at dksX9_day_2 0 rfl rfl)
theorem dX9_day_51 : decode cX9_day 51 = .ok (.aload_n 1, 1) := dk_43 (dk_at dksX9_day_2 3 rfl rfl)
theorem dX9_day_52 : decode cX9_day 52 = .ok (.iload_n 3, 1) := dk_29 (dk_at dksX9_day_2 4 rfl rfl)
theorem dX9_day_53 : decode cX9_day 53 = .ok (.iconst 1, 1) := dk_4 (dk_at dksX9_day_2 5 rfl rfl)
theorem dX9_day_54 : decode cX9_day 54 = .ok (.invokestatic 58, 3) := dk_184 0 58 (dk_at dksX9_day_2 6 rfl rfl)
theorem dX9_day_57 : decode cX9_day 57 = .ok (.iconst 2, 1) := dk_5 (dk_at dksX9_day_2 9 rfl rfl)
theorem dX9_day_58 : decode cX9_day 58 = .ok (.if_icmp .ne 12, 3) := dk_160 0 12 (dk_at dksX9_day_2 10 rfl rfl)
theorem dX9_day_61 : decode cX9_day 61 = .ok (.aload_n 1, 1) := dk_43 (dk_at dksX9_day_2 13 rfl rfl)
theorem dX9_day_62 : decode cX9_day 62 = .ok (.iload_n 3, 1) := dk_29 (dk_at dksX9_day_2 14 rfl rfl)
theorem dX9_day_63 : decode cX9_day 63 = .ok (.iload_n 2, 1) := dk_28 (dk_at dksX9_day_2 15 rfl rfl)
theorem dX9_day_64 : decode cX9_day 64 = .ok (.invokestatic 98, 3) := dk_184 0 98 (dk_at dksX9_day_2 16 rfl rfl)
theorem dX9_day_67 : decode cX9_day 67 = .ok (.goto 4, 3) := dk_167 0 4 (dk_at dksX9_day_2 19 rfl rfl)
theorem dX9_day_70 : decode cX9_day 70 = .ok (.iload_n 2, 1) := dk_28 (dk_at dksX9_day_2 22 rfl rfl)
theorem dX9_day_71 : decode cX9_day 71 = .ok (.istore_n 2, 1) := dk_61 (dk_at dksX9_day_2 23 rfl rfl)
theorem dX9_day_72 : decode cX9_day 72 = .ok (.iinc 3 1, 3) := dk_132 3 1 (dk_at dksX9_day_3 0 rfl rfl)
theorem dX9_day_75 : decode cX9_day 75 = .ok (.goto (-32), 3) := dk_167 255 224 (dk_at dksX9_day_3 3 rfl rfl)
theorem dX9_day_78 : decode cX9_day 78 = .ok (.aload_n 1, 1) := dk_43 (dk_at dksX9_day_3 6 rfl rfl)
theorem dX9_day_79 : decode cX9_day 79 = .ok (.iconst 0, 1) := dk_3 (dk_at dksX9_day_3 7 rfl rfl)
theorem dX9_day_80 : decode cX9_day 80 = .ok (.iaload, 1) := dk_46 (dk_at dksX9_day_3 8 rfl rfl)
theorem dX9_day_81 : decode cX9_day 81 = .ok (.istore_n 3, 1) := dk_62 (dk_at dksX9_day_3 9 rfl rfl)
theorem dX9_day_82 : decode cX9_day 82 = .ok (.iconst 0, 1) := dk_3 (dk_at dksX9_day_3 10 rfl rfl)
theorem dX9_day_83 : decode cX9_day 83 = .ok (.istore 4, 2) := dk_54 4 (dk_at dksX9_day_3 11 rfl rfl)
theorem dX9_day_85 : decode cX9_day 85 = .ok (.iload 4, 2) := dk_21 4 (dk_at dksX9_day_3 13 rfl rfl)
theorem dX9_day_87 : decode cX9_day 87 = .ok (.aload_n 1, 1) := dk_43 (dk_at dksX9_day_3 15 rfl rfl)
theorem dX9_day_88 : decode cX9_day 88 = .ok (.bipush 6, 2) := dk_16 6 (dk_at dksX9_day_3 16 rfl rfl)
theorem dX9_day_90 : decode cX9_day 90 = .ok (.iaload, 1) := dk_46 (dk_at dksX9_day_3 18 rfl rfl)
theorem dX9_day_91 : decode cX9_day 91 = .ok (.if_icmp .ge 33, 3) := dk_162 0 33 (dk_at dksX9_day_3 19 rfl rfl)
theorem dX9_day_94 : decode cX9_day 94 = .ok (.iload_n 3, 1) := dk_29 (dk_at dksX9_day_3 22 rfl rfl)
theorem dX9_day_95 : decode cX9_day 95 = .ok (.aload_n 1, 1) := dk_43 (dk_at dksX9_day_3 23 rfl rfl)
theorem dX9_day_96 : decode cX9_day 96 = .ok (.iload 4, 2) := dk_21 4 (dk_at dksX9_day_4 0 rfl rfl)
theorem dX9_day_98 : decode cX9_day 98 = .ok (.iconst 1, 1) := dk_4 (dk_at dksX9_day_4 2 rfl rfl)
theorem dX9_day_99 : decode cX9_day 99 = .ok (.invokestatic 58, 3) := dk_184 0 58 (dk_at dksX9_day_4 3 rfl rfl)
theorem dX9_day_102 : decode cX9_day 102 = .ok (.ifCond .ne 13, 3) := dk_154 0 13 (dk_at dksX9_day_4 6 rfl rfl)
theorem dX9_day_105 : decode cX9_day 105 = .ok (.aload_n 1, 1) := dk_43 (dk_at dksX9_day_4 9 rfl rfl)
theorem dX9_day_106 : decode cX9_day 106 = .ok (.iload 4, 2) := dk_21 4 (dk_at dksX9_day_4 10 rfl rfl)
theorem dX9_day_108 : decode cX9_day 108 = .ok (.iload_n 3, 1) := dk_29 (dk_at dksX9_day_4 12 rfl rfl)
theorem dX9_day_109 : decode cX9_day 109 = .ok (.invokestatic 101, 3) := dk_184 0 101 (dk_at dksX9_day_4 13 rfl rfl)
theorem dX9_day_112 : decode cX9_day 112 = .ok (.goto 4, 3) := dk_167 0 4 (dk_at dksX9_day_4 16 rfl rfl)
theorem dX9_day_115 : decode cX9_day 115 = .ok (.iconst 0, 1) := dk_3 (dk_at dksX9_day_4 19 rfl rfl)
theorem dX9_day_116 : decode cX9_day 116 = .ok (.isub, 1) := dk_100 (dk_at dksX9_day_4 20 rfl rfl)
theorem dX9_day_117 : decode cX9_day 117 = .ok (.istore_n 3, 1) := dk_62 (dk_at dksX9_day_4 21 rfl rfl)
theorem dX9_day_118 : decode cX9_day 118 = .ok (.iinc 4 1, 3) := dk_132 4 1 (dk_at dksX9_day_5 0 rfl rfl)
theorem dX9_day_121 : decode cX9_day 121 = .ok (.goto (-36), 3) := dk_167 255 220 (dk_at dksX9_day_5 3 rfl rfl)
theorem dX9_day_124 : decode cX9_day 124 = .ok (.aload_n 0, 1) := dk_42 (dk_at dksX9_day_5 6 rfl rfl)
theorem dX9_day_125 : decode cX9_day 125 = .ok (.aload_n 1, 1) := dk_43 (dk_at dksX9_day_5 7 rfl rfl)
theorem dX9_day_126 : decode cX9_day 126 = .ok (.invokestatic 81, 3) := dk_184 0 81 (dk_at dksX9_day_5 8 rfl rfl)
theorem dX9_day_129 : decode cX9_day 129 = .ok (.ifCond .ne 7, 3) := dk_154 0 7 (dk_at dksX9_day_5 11 rfl rfl)
theorem dX9_day_132 : decode cX9_day 132 = .ok (.iconst 1, 1) := dk_4 (dk_at dksX9_day_5 14 rfl rfl)
theorem dX9_day_133 : decode cX9_day 133 = .ok (.goto 4, 3) := dk_167 0 4 (dk_at dksX9_day_5 15 rfl rfl)
theorem dX9_day_136 : decode cX9_day 136 = .ok (.iconst 0, 1) := dk_3 (dk_at dksX9_day_5 18 rfl rfl)
theorem dX9_day_137 : decode cX9_day 137 = .ok (.putfield 104, 3) := dk_181 0 104 (dk_at dksX9_day_5 19 rfl rfl)
theorem dX9_day_140 : decode cX9_day 140 = .ok (.iconst 0, 1) := dk_3 (dk_at dksX9_day_5 22 rfl rfl)
theorem dX9_day_141 : decode cX9_day 141 = .ok (.istore 4, 2) := dk_54 4 (dk_at dksX9_day_6 0 rfl rfl)
theorem dX9_day_143 : decode cX9_day 143 = .ok (.iload 4, 2) := dk_21 4 (dk_at dksX9_day_6 2 rfl rfl)
theorem dX9_day_145 : decode cX9_day 145 = .ok (.aload_n 1, 1) := dk_43 (dk_at dksX9_day_6 4 rfl rfl)
theorem dX9_day_146 : decode cX9_day 146 = .ok (.bipush 6, 2) := dk_16 6 (dk_at dksX9_day_6 5 rfl rfl)
theorem dX9_day_148 : decode cX9_day 148 = .ok (.iaload, 1) := dk_46 (dk_at dksX9_day_6 7 rfl rfl)
theorem dX9_day_149 : decode cX9_day 149 = .ok (.if_icmp .ge 34, 3) := dk_162 0 34 (dk_at dksX9_day_6 8 rfl rfl)
theorem dX9_day_152 : decode cX9_day 152 = .ok (.aload_n 1, 1) := dk_43 (dk_at dksX9_day_6 11 rfl rfl)
theorem dX9_day_153 : decode cX9_day 153 = .ok (.iload 4, 2) := dk_21 4 (dk_at dksX9_day_6 12 rfl rfl)
theorem dX9_day_155 : decode cX9_day 155 = .ok (.iconst 1, 1) := dk_4 (dk_at dksX9_day_6 14 rfl rfl)
theorem dX9_day_156 : decode cX9_day 156 = .ok (.invokestatic 58, 3) := dk_184 0 58 (dk_at dksX9_day_6 15 rfl rfl)
theorem dX9_day_159 : decode cX9_day 159 = .ok (.ifCond .ne 18, 3) := dk_154 0 18 (dk_at dksX9_day_6 18 rfl rfl)
theorem dX9_day_162 : decode cX9_day 162 = .ok (.aload_n 1, 1) := dk_43 (dk_at dksX9_day_6 21 rfl rfl)
theorem dX9_day_163 : decode cX9_day 163 = .ok (.iload 4, 2) := dk_21 4 (dk_at dksX9_day_6 22 rfl rfl)
theorem dX9_day_165 : decode cX9_day 165 = .ok (.invokestatic 108, 3) := dk_184 0 108 (dk_at dksX9_day_7 0 rfl rfl)
theorem dX9_day_168 : decode cX9_day 168 = .ok (.ifCond .eq 9, 3) := dk_153 0 9 (dk_at dksX9_day_7 3 rfl rfl)
theorem dX9_day_171 : decode cX9_day 171 = .ok (.aload_n 1, 1) := dk_43 (dk_at dksX9_day_7 6 rfl rfl)
theorem dX9_day_172 : decode cX9_day 172 = .ok (.iload 4, 2) := dk_21 4 (dk_at dksX9_day_7 7 rfl rfl)
theorem dX9_day_174 : decode cX9_day 174 = .ok (.invokestatic 111, 3) := dk_184 0 111 (dk_at dksX9_day_7 9 rfl rfl)
theorem dX9_day_177 : decode cX9_day 177 = .ok (.iinc 4 1, 3) := dk_132 4 1 (dk_at dksX9_day_7 12 rfl rfl)
theorem dX9_day_180 : decode cX9_day 180 = .ok (.goto (-37), 3) := dk_167 255 219 (dk_at dksX9_day_7 15 rfl rfl)
theorem dX9_day_183 : decode cX9_day 183 = .ok (.iconst 0, 1) := dk_3 (dk_at dksX9_day_7 18 rfl rfl)
theorem dX9_day_184 : decode cX9_day 184 = .ok (.istore 4, 2) := dk_54 4 (dk_at dksX9_day_7 19 rfl rfl)
theorem dX9_day_186 : decode cX9_day 186 = .ok (.iload 4, 2) := dk_21 4 (dk_at dksX9_day_7 21 rfl rfl)
theorem dX9_day_188 : decode cX9_day 188 = .ok (.bipush 6, 2) := dk_16 6 (dk_at dksX9_day_8 0 rfl rfl)
theorem dX9_day_190 : decode cX9_day 190 = .ok (.if_icmp .ge 81, 3) := dk_162 0 81 (dk_at dksX9_day_8 2 rfl rfl)
theorem dX9_day_193 : decode cX9_day 193 = .ok (.aload_n 1, 1) := dk_43 (dk_at dksX9_day_8 5 rfl rfl)
theorem dX9_day_194 : decode cX9_day 194 = .ok (.bipush 8, 2) := dk_16 8 (dk_at dksX9_day_8 6 rfl rfl)
theorem dX9_day_196 : decode cX9_day 196 = .ok (.iconst 3, 1) := dk_6 (dk_at dksX9_day_8 8 rfl rfl)
theorem dX9_day_197 : decode cX9_day 197 = .ok (.iload 4, 2) := dk_21 4 (dk_at dksX9_day_8 9 rfl rfl)
theorem dX9_day_199 : decode cX9_day 199 = .ok (.imul, 1) := dk_104 (dk_at dksX9_day_8 11 rfl rfl)
theorem dX9_day_200 : decode cX9_day 200 = .ok (.iadd, 1) := dk_96 (dk_at dksX9_day_8 12 rfl rfl)
theorem dX9_day_201 : decode cX9_day 201 = .ok (.iaload, 1) := dk_46 (dk_at dksX9_day_8 13 rfl rfl)
theorem dX9_day_202 : decode cX9_day 202 = .ok (.aload_n 1, 1) := dk_43 (dk_at dksX9_day_8 14 rfl rfl)
theorem dX9_day_203 : decode cX9_day 203 = .ok (.iconst 1, 1) := dk_4 (dk_at dksX9_day_8 15 rfl rfl)
theorem dX9_day_204 : decode cX9_day 204 = .ok (.iaload, 1) := dk_46 (dk_at dksX9_day_8 16 rfl rfl)
theorem dX9_day_205 : decode cX9_day 205 = .ok (.iadd, 1) := dk_96 (dk_at dksX9_day_8 17 rfl rfl)
theorem dX9_day_206 : decode cX9_day 206 = .ok (.istore 5, 2) := dk_54 5 (dk_at dksX9_day_8 18 rfl rfl)
theorem dX9_day_208 : decode cX9_day 208 = .ok (.aload_n 1, 1) := dk_43 (dk_at dksX9_day_8 20 rfl rfl)
theorem dX9_day_209 : decode cX9_day 209 = .ok (.bipush 8, 2) := dk_16 8 (dk_at dksX9_day_8 21 rfl rfl)
theorem dX9_day_211 : decode cX9_day 211 = .ok (.iconst 3, 1) := dk_6 (dk_at dksX9_day_8 23 rfl rfl)
theorem dX9_day_212 : decode cX9_day 212 = .ok (.iload 4, 2) := dk_21 4 (dk_at dksX9_day_9 0 rfl rfl)
theorem dX9_day_214 : decode cX9_day 214 = .ok (.imul, 1) := dk_104 (dk_at dksX9_day_9 2 rfl rfl)
theorem dX9_day_215 : decode cX9_day 215 = .ok (.iadd, 1) := dk_96 (dk_at dksX9_day_9 3 rfl rfl)
theorem dX9_day_216 : decode cX9_day 216 = .ok (.iconst 2, 1) := dk_5 (dk_at dksX9_day_9 4 rfl rfl)
theorem dX9_day_217 : decode cX9_day 217 = .ok (.iadd, 1) := dk_96 (dk_at dksX9_day_9 5 rfl rfl)
theorem dX9_day_218 : decode cX9_day 218 = .ok (.dup2, 1) := dk_92 (dk_at dksX9_day_9 6 rfl rfl)
theorem dX9_day_219 : decode cX9_day 219 = .ok (.iaload, 1) := dk_46 (dk_at dksX9_day_9 7 rfl rfl)
theorem dX9_day_220 : decode cX9_day 220 = .ok (.iload 5, 2) := dk_21 5 (dk_at dksX9_day_9 8 rfl rfl)
theorem dX9_day_222 : decode cX9_day 222 = .ok (.sipush 999, 3) := dk_17 3 231 (dk_at dksX9_day_9 10 rfl rfl)
theorem dX9_day_225 : decode cX9_day 225 = .ok (.if_icmp .le 12, 3) := dk_164 0 12 (dk_at dksX9_day_9 13 rfl rfl)
theorem dX9_day_228 : decode cX9_day 228 = .ok (.iload 5, 2) := dk_21 5 (dk_at dksX9_day_9 16 rfl rfl)
theorem dX9_day_230 : decode cX9_day 230 = .ok (.sipush 999, 3) := dk_17 3 231 (dk_at dksX9_day_9 18 rfl rfl)
theorem dX9_day_233 : decode cX9_day 233 = .ok (.isub, 1) := dk_100 (dk_at dksX9_day_9 21 rfl rfl)
theorem dX9_day_234 : decode cX9_day 234 = .ok (.goto 4, 3) := dk_167 0 4 (dk_at dksX9_day_10 0 rfl rfl)
theorem dX9_day_237 : decode cX9_day 237 = .ok (.iconst 0, 1) := dk_3 (dk_at dksX9_day_10 3 rfl rfl)
theorem dX9_day_238 : decode cX9_day 238 = .ok (.iadd, 1) := dk_96 (dk_at dksX9_day_10 4 rfl rfl)
theorem dX9_day_239 : decode cX9_day 239 = .ok (.iastore, 1) := dk_79 (dk_at dksX9_day_10 5 rfl rfl)
theorem dX9_day_240 : decode cX9_day 240 = .ok (.aload_n 1, 1) := dk_43 (dk_at dksX9_day_10 6 rfl rfl)
theorem dX9_day_241 : decode cX9_day 241 = .ok (.bipush 8, 2) := dk_16 8 (dk_at dksX9_day_10 7 rfl rfl)
theorem dX9_day_243 : decode cX9_day 243 = .ok (.iconst 3, 1) := dk_6 (dk_at dksX9_day_10 9 rfl rfl)
theorem dX9_day_244 : decode cX9_day 244 = .ok (.iload 4, 2) := dk_21 4 (dk_at dksX9_day_10 10 rfl rfl)
theorem dX9_day_246 : decode cX9_day 246 = .ok (.imul, 1) := dk_104 (dk_at dksX9_day_10 12 rfl rfl)
theorem dX9_day_247 : decode cX9_day 247 = .ok (.iadd, 1) := dk_96 (dk_at dksX9_day_10 13 rfl rfl)
theorem dX9_day_248 : decode cX9_day 248 = .ok (.iload 5, 2) := dk_21 5 (dk_at dksX9_day_10 14 rfl rfl)
theorem dX9_day_250 : decode cX9_day 250 = .ok (.sipush 999, 3) := dk_17 3 231 (dk_at dksX9_day_10 16 rfl rfl)
theorem dX9_day_253 : decode cX9_day 253 = .ok (.if_icmp .le 9, 3) := dk_164 0 9 (dk_at dksX9_day_10 19 rfl rfl)
theorem dX9_day_256 : decode cX9_day 256 = .ok (.sipush 999, 3) := dk_17 3 231 (dk_at dksX9_day_11 0 rfl rfl)
theorem dX9_day_259 : decode cX9_day 259 = .ok (.goto 5, 3) := dk_167 0 5 (dk_at dksX9_day_11 3 rfl rfl)
theorem dX9_day_262 : decode cX9_day 262 = .ok (.iload 5, 2) := dk_21 5 (dk_at dksX9_day_11 6 rfl rfl)
theorem dX9_day_264 : decode cX9_day 264 = .ok (.iastore, 1) := dk_79 (dk_at dksX9_day_11 8 rfl rfl)
theorem dX9_day_265 : decode cX9_day 265 = .ok (.iinc 4 1, 3) := dk_132 4 1 (dk_at dksX9_day_11 9 rfl rfl)
theorem dX9_day_268 : decode cX9_day 268 = .ok (.goto (-82), 3) := dk_167 255 174 (dk_at dksX9_day_11 12 rfl rfl)
theorem dX9_day_271 : decode cX9_day 271 = .ok (.aload_n 1, 1) := dk_43 (dk_at dksX9_day_11 15 rfl rfl)
theorem dX9_day_272 : decode cX9_day 272 = .ok (.iconst 4, 1) := dk_7 (dk_at dksX9_day_11 16 rfl rfl)
theorem dX9_day_273 : decode cX9_day 273 = .ok (.dup2, 1) := dk_92 (dk_at dksX9_day_11 17 rfl rfl)
theorem dX9_day_274 : decode cX9_day 274 = .ok (.iaload, 1) := dk_46 (dk_at dksX9_day_11 18 rfl rfl)
theorem dX9_day_275 : decode cX9_day 275 = .ok (.iconst 1, 1) := dk_4 (dk_at dksX9_day_11 19 rfl rfl)
theorem dX9_day_276 : decode cX9_day 276 = .ok (.iadd, 1) := dk_96 (dk_at dksX9_day_11 20 rfl rfl)
theorem dX9_day_277 : decode cX9_day 277 = .ok (.iastore, 1) := dk_79 (dk_at dksX9_day_11 21 rfl rfl)
theorem dX9_day_278 : decode cX9_day 278 = .ok (.return_, 1) := dk_177 (dk_at dksX9_day_11 22 rfl rfl)
abbrev cX9_dries : ByteArray := prog_15_method_23_code
def yX9_dries : MethodName := ⟨RX9, "dries", "([II)V"⟩
def dkwX9_dries_2 : List UInt8 := [167, 0, 4, 29, 79, 177]
abbrev dktX9_dries_2 : List UInt8 := dkwX9_dries_2 ++ []
def dkwX9_dries_1 : List UInt8 := [184, 0, 54, 42, 6, 46, 100, 62, 42, 16, 54, 16, 7, 27, 104, 96, 5, 96, 29, 156, 0, 7, 3]
abbrev dktX9_dries_1 : List UInt8 := dkwX9_dries_1 ++ dktX9_dries_2
def dkwX9_dries_0 : List UInt8 := [42, 27, 16, 6, 184, 0, 54, 61, 28, 158, 0, 42, 42, 7, 46, 28, 112, 154, 0, 34, 42, 27, 5]
abbrev dktX9_dries_0 : List UInt8 := dkwX9_dries_0 ++ dktX9_dries_1
theorem dksX9_dries_0 : cX9_dries.data.toList.drop 0 = dktX9_dries_0 := by decide +kernel
theorem dksX9_dries_1 : cX9_dries.data.toList.drop 23 = dktX9_dries_1 := dk_seg dksX9_dries_0 23 rfl rfl
theorem dksX9_dries_2 : cX9_dries.data.toList.drop 46 = dktX9_dries_2 := dk_seg dksX9_dries_1 23 rfl rfl
theorem dX9_dries_0 : decode cX9_dries 0 = .ok (.aload_n 0, 1) := dk_42 (dk_at dksX9_dries_0 0 rfl rfl)
theorem dX9_dries_1 : decode cX9_dries 1 = .ok (.iload_n 1, 1) := dk_27 (dk_at dksX9_dries_0 1 rfl rfl)
theorem dX9_dries_2 : decode cX9_dries 2 = .ok (.bipush 6, 2) := dk_16 6 (dk_at dksX9_dries_0 2 rfl rfl)
theorem dX9_dries_4 : decode cX9_dries 4 = .ok (.invokestatic 54, 3) := dk_184 0 54 (dk_at dksX9_dries_0 4 rfl rfl)
theorem dX9_dries_7 : decode cX9_dries 7 = .ok (.istore_n 2, 1) := dk_61 (dk_at dksX9_dries_0 7 rfl rfl)
theorem dX9_dries_8 : decode cX9_dries 8 = .ok (.iload_n 2, 1) := dk_28 (dk_at dksX9_dries_0 8 rfl rfl)
theorem dX9_dries_9 : decode cX9_dries 9 = .ok (.ifCond .le 42, 3) := dk_158 0 42 (dk_at dksX9_dries_0 9 rfl rfl)
theorem dX9_dries_12 : decode cX9_dries 12 = .ok (.aload_n 0, 1) := dk_42 (dk_at dksX9_dries_0 12 rfl rfl)
theorem dX9_dries_13 : decode cX9_dries 13 = .ok (.iconst 4, 1) := dk_7 (dk_at dksX9_dries_0 13 rfl rfl)
theorem dX9_dries_14 : decode cX9_dries 14 = .ok (.iaload, 1) := dk_46 (dk_at dksX9_dries_0 14 rfl rfl)
theorem dX9_dries_15 : decode cX9_dries 15 = .ok (.iload_n 2, 1) := dk_28 (dk_at dksX9_dries_0 15 rfl rfl)
theorem dX9_dries_16 : decode cX9_dries 16 = .ok (.irem, 1) := dk_112 (dk_at dksX9_dries_0 16 rfl rfl)
theorem dX9_dries_17 : decode cX9_dries 17 = .ok (.ifCond .ne 34, 3) := dk_154 0 34 (dk_at dksX9_dries_0 17 rfl rfl)
theorem dX9_dries_20 : decode cX9_dries 20 = .ok (.aload_n 0, 1) := dk_42 (dk_at dksX9_dries_0 20 rfl rfl)
theorem dX9_dries_21 : decode cX9_dries 21 = .ok (.iload_n 1, 1) := dk_27 (dk_at dksX9_dries_0 21 rfl rfl)
theorem dX9_dries_22 : decode cX9_dries 22 = .ok (.iconst 2, 1) := dk_5 (dk_at dksX9_dries_0 22 rfl rfl)
theorem dX9_dries_23 : decode cX9_dries 23 = .ok (.invokestatic 54, 3) := dk_184 0 54 (dk_at dksX9_dries_1 0 rfl rfl)
theorem dX9_dries_26 : decode cX9_dries 26 = .ok (.aload_n 0, 1) := dk_42 (dk_at dksX9_dries_1 3 rfl rfl)
theorem dX9_dries_27 : decode cX9_dries 27 = .ok (.iconst 3, 1) := dk_6 (dk_at dksX9_dries_1 4 rfl rfl)
theorem dX9_dries_28 : decode cX9_dries 28 = .ok (.iaload, 1) := dk_46 (dk_at dksX9_dries_1 5 rfl rfl)
theorem dX9_dries_29 : decode cX9_dries 29 = .ok (.isub, 1) := dk_100 (dk_at dksX9_dries_1 6 rfl rfl)
theorem dX9_dries_30 : decode cX9_dries 30 = .ok (.istore_n 3, 1) := dk_62 (dk_at dksX9_dries_1 7 rfl rfl)
theorem dX9_dries_31 : decode cX9_dries 31 = .ok (.aload_n 0, 1) := dk_42 (dk_at dksX9_dries_1 8 rfl rfl)
theorem dX9_dries_32 : decode cX9_dries 32 = .ok (.bipush 54, 2) := dk_16 54 (dk_at dksX9_dries_1 9 rfl rfl)
theorem dX9_dries_34 : decode cX9_dries 34 = .ok (.bipush 7, 2) := dk_16 7 (dk_at dksX9_dries_1 11 rfl rfl)
theorem dX9_dries_36 : decode cX9_dries 36 = .ok (.iload_n 1, 1) := dk_27 (dk_at dksX9_dries_1 13 rfl rfl)
theorem dX9_dries_37 : decode cX9_dries 37 = .ok (.imul, 1) := dk_104 (dk_at dksX9_dries_1 14 rfl rfl)
theorem dX9_dries_38 : decode cX9_dries 38 = .ok (.iadd, 1) := dk_96 (dk_at dksX9_dries_1 15 rfl rfl)
theorem dX9_dries_39 : decode cX9_dries 39 = .ok (.iconst 2, 1) := dk_5 (dk_at dksX9_dries_1 16 rfl rfl)
theorem dX9_dries_40 : decode cX9_dries 40 = .ok (.iadd, 1) := dk_96 (dk_at dksX9_dries_1 17 rfl rfl)
theorem dX9_dries_41 : decode cX9_dries 41 = .ok (.iload_n 3, 1) := dk_29 (dk_at dksX9_dries_1 18 rfl rfl)
theorem dX9_dries_42 : decode cX9_dries 42 = .ok (.ifCond .ge 7, 3) := dk_156 0 7 (dk_at dksX9_dries_1 19 rfl rfl)
theorem dX9_dries_45 : decode cX9_dries 45 = .ok (.iconst 0, 1) := dk_3 (dk_at dksX9_dries_1 22 rfl rfl)
theorem dX9_dries_46 : decode cX9_dries 46 = .ok (.goto 4, 3) := dk_167 0 4 (dk_at dksX9_dries_2 0 rfl rfl)
theorem dX9_dries_49 : decode cX9_dries 49 = .ok (.iload_n 3, 1) := dk_29 (dk_at dksX9_dries_2 3 rfl rfl)
theorem dX9_dries_50 : decode cX9_dries 50 = .ok (.iastore, 1) := dk_79 (dk_at dksX9_dries_2 4 rfl rfl)
theorem dX9_dries_51 : decode cX9_dries 51 = .ok (.return_, 1) := dk_177 (dk_at dksX9_dries_2 5 rfl rfl)
abbrev cX9_comesNearer : ByteArray := prog_15_method_24_code
def yX9_comesNearer : MethodName := ⟨RX9, "comesNearer", "([II)V"⟩
def dkwX9_comesNearer_3 : List UInt8 := [6, 96, 42, 28, 4, 96, 46, 154, 0, 7, 2, 167, 0, 8, 42, 28, 6, 96, 46, 79, 177]
abbrev dktX9_comesNearer_3 : List UInt8 := dkwX9_comesNearer_3 ++ []
def dkwX9_comesNearer_2 : List UInt8 := [46, 158, 0, 11, 42, 28, 4, 96, 46, 167, 0, 12, 29, 153, 0, 7, 3, 167, 0, 4, 5, 79, 42, 28]
abbrev dktX9_comesNearer_2 : List UInt8 := dkwX9_comesNearer_2 ++ dktX9_comesNearer_3
def dkwX9_comesNearer_1 : List UInt8 := [79, 42, 28, 4, 96, 46, 6, 160, 0, 7, 4, 167, 0, 4, 3, 62, 42, 28, 4, 96, 42, 28, 7, 96]
abbrev dktX9_comesNearer_1 : List UInt8 := dkwX9_comesNearer_1 ++ dktX9_comesNearer_2
def dkwX9_comesNearer_0 : List UInt8 := [16, 26, 16, 7, 27, 104, 96, 61, 42, 28, 7, 96, 46, 158, 0, 79, 42, 28, 7, 96, 92, 46, 4, 100]
abbrev dktX9_comesNearer_0 : List UInt8 := dkwX9_comesNearer_0 ++ dktX9_comesNearer_1
theorem dksX9_comesNearer_0 : cX9_comesNearer.data.toList.drop 0 = dktX9_comesNearer_0 := by decide +kernel
theorem dksX9_comesNearer_1 : cX9_comesNearer.data.toList.drop 24 = dktX9_comesNearer_1 := dk_seg dksX9_comesNearer_0 24 rfl rfl
theorem dksX9_comesNearer_2 : cX9_comesNearer.data.toList.drop 48 = dktX9_comesNearer_2 := dk_seg dksX9_comesNearer_1 24 rfl rfl
theorem dksX9_comesNearer_3 : cX9_comesNearer.data.toList.drop 72 = dktX9_comesNearer_3 := dk_seg dksX9_comesNearer_2 24 rfl rfl
theorem dX9_comesNearer_0 : decode cX9_comesNearer 0 = .ok (.bipush 26, 2) := dk_16 26 (dk_at dksX9_comesNearer_0 0 rfl rfl)
theorem dX9_comesNearer_2 : decode cX9_comesNearer 2 = .ok (.bipush 7, 2) := dk_16 7 (dk_at dksX9_comesNearer_0 2 rfl rfl)
theorem dX9_comesNearer_4 : decode cX9_comesNearer 4 = .ok (.iload_n 1, 1) := dk_27 (dk_at dksX9_comesNearer_0 4 rfl rfl)
theorem dX9_comesNearer_5 : decode cX9_comesNearer 5 = .ok (.imul, 1) := dk_104 (dk_at dksX9_comesNearer_0 5 rfl rfl)
theorem dX9_comesNearer_6 : decode cX9_comesNearer 6 = .ok (.iadd, 1) := dk_96 (dk_at dksX9_comesNearer_0 6 rfl rfl)
theorem dX9_comesNearer_7 : decode cX9_comesNearer 7 = .ok (.istore_n 2, 1) := dk_61 (dk_at dksX9_comesNearer_0 7 rfl rfl)
theorem dX9_comesNearer_8 : decode cX9_comesNearer 8 = .ok (.aload_n 0, 1) := dk_42 (dk_at dksX9_comesNearer_0 8 rfl rfl)
theorem dX9_comesNearer_9 : decode cX9_comesNearer 9 = .ok (.iload_n 2, 1) := dk_28 (dk_at dksX9_comesNearer_0 9 rfl rfl)
theorem dX9_comesNearer_10 : decode cX9_comesNearer 10 = .ok (.iconst 4, 1) := dk_7 (dk_at dksX9_comesNearer_0 10 rfl rfl)
theorem dX9_comesNearer_11 : decode cX9_comesNearer 11 = .ok (.iadd, 1) := dk_96 (dk_at dksX9_comesNearer_0 11 rfl rfl)
theorem dX9_comesNearer_12 : decode cX9_comesNearer 12 = .ok (.iaload, 1) := dk_46 (dk_at dksX9_comesNearer_0 12 rfl rfl)
theorem dX9_comesNearer_13 : decode cX9_comesNearer 13 = .ok (.ifCond .le 79, 3) := dk_158 0 79 (dk_at dksX9_comesNearer_0 13 rfl rfl)
theorem dX9_comesNearer_16 : decode cX9_comesNearer 16 = .ok (.aload_n 0, 1) := dk_42 (dk_at dksX9_comesNearer_0 16 rfl rfl)
theorem dX9_comesNearer_17 : decode cX9_comesNearer 17 = .ok (.iload_n 2, 1) := dk_28 (dk_at dksX9_comesNearer_0 17 rfl rfl)
theorem dX9_comesNearer_18 : decode cX9_comesNearer 18 = .ok (.iconst 4, 1) := dk_7 (dk_at dksX9_comesNearer_0 18 rfl rfl)
theorem dX9_comesNearer_19 : decode cX9_comesNearer 19 = .ok (.iadd, 1) := dk_96 (dk_at dksX9_comesNearer_0 19 rfl rfl)
theorem dX9_comesNearer_20 : decode cX9_comesNearer 20 = .ok (.dup2, 1) := dk_92 (dk_at dksX9_comesNearer_0 20 rfl rfl)
theorem dX9_comesNearer_21 : decode cX9_comesNearer 21 = .ok (.iaload, 1) := dk_46 (dk_at dksX9_comesNearer_0 21 rfl rfl)
theorem dX9_comesNearer_22 : decode cX9_comesNearer 22 = .ok (.iconst 1, 1) := dk_4 (dk_at dksX9_comesNearer_0 22 rfl rfl)
theorem dX9_comesNearer_23 : decode cX9_comesNearer 23 = .ok (.isub, 1) := dk_100 (dk_at dksX9_comesNearer_0 23 rfl rfl)
theorem dX9_comesNearer_24 : decode cX9_comesNearer 24 = .ok (.iastore, 1) := dk_79 (dk_at dksX9_comesNearer_1 0 rfl rfl)
theorem dX9_comesNearer_25 : decode cX9_comesNearer 25 = .ok (.aload_n 0, 1) := dk_42 (dk_at dksX9_comesNearer_1 1 rfl rfl)
theorem dX9_comesNearer_26 : decode cX9_comesNearer 26 = .ok (.iload_n 2, 1) := dk_28 (dk_at dksX9_comesNearer_1 2 rfl rfl)
theorem dX9_comesNearer_27 : decode cX9_comesNearer 27 = .ok (.iconst 1, 1) := dk_4 (dk_at dksX9_comesNearer_1 3 rfl rfl)
theorem dX9_comesNearer_28 : decode cX9_comesNearer 28 = .ok (.iadd, 1) := dk_96 (dk_at dksX9_comesNearer_1 4 rfl rfl)
theorem dX9_comesNearer_29 : decode cX9_comesNearer 29 = .ok (.iaload, 1) := dk_46 (dk_at dksX9_comesNearer_1 5 rfl rfl)
theorem dX9_comesNearer_30 : decode cX9_comesNearer 30 = .ok (.iconst 3, 1) := dk_6 (dk_at dksX9_comesNearer_1 6 rfl rfl)
theorem dX9_comesNearer_31 : decode cX9_comesNearer 31 = .ok (.if_icmp .ne 7, 3) := dk_160 0 7 (dk_at dksX9_comesNearer_1 7 rfl rfl)
theorem dX9_comesNearer_34 : decode cX9_comesNearer 34 = .ok (.iconst 1, 1) := dk_4 (dk_at dksX9_comesNearer_1 10 rfl rfl)
theorem dX9_comesNearer_35 : decode cX9_comesNearer 35 = .ok (.goto 4, 3) := dk_167 0 4 (dk_at dksX9_comesNearer_1 11 rfl rfl)
theorem dX9_comesNearer_38 : decode cX9_comesNearer 38 = .ok (.iconst 0, 1) := dk_3 (dk_at dksX9_comesNearer_1 14 rfl rfl)
theorem dX9_comesNearer_39 : decode cX9_comesNearer 39 = .ok (.istore_n 3, 1) := dk_62 (dk_at dksX9_comesNearer_1 15 rfl rfl)
theorem dX9_comesNearer_40 : decode cX9_comesNearer 40 = .ok (.aload_n 0, 1) := dk_42 (dk_at dksX9_comesNearer_1 16 rfl rfl)
theorem dX9_comesNearer_41 : decode cX9_comesNearer 41 = .ok (.iload_n 2, 1) := dk_28 (dk_at dksX9_comesNearer_1 17 rfl rfl)
theorem dX9_comesNearer_42 : decode cX9_comesNearer 42 = .ok (.iconst 1, 1) := dk_4 (dk_at dksX9_comesNearer_1 18 rfl rfl)
theorem dX9_comesNearer_43 : decode cX9_comesNearer 43 = .ok (.iadd, 1) := dk_96 (dk_at dksX9_comesNearer_1 19 rfl rfl)
theorem dX9_comesNearer_44 : decode cX9_comesNearer 44 = .ok (.aload_n 0, 1) := dk_42 (dk_at dksX9_comesNearer_1 20 rfl rfl)
theorem dX9_comesNearer_45 : decode cX9_comesNearer 45 = .ok (.iload_n 2, 1) := dk_28 (dk_at dksX9_comesNearer_1 21 rfl rfl)
theorem dX9_comesNearer_46 : decode cX9_comesNearer 46 = .ok (.iconst 4, 1) := dk_7 (dk_at dksX9_comesNearer_1 22 rfl rfl)
theorem dX9_comesNearer_47 : decode cX9_comesNearer 47 = .ok (.iadd, 1) := dk_96 (dk_at dksX9_comesNearer_1 23 rfl rfl)
theorem dX9_comesNearer_48 : decode cX9_comesNearer 48 = .ok (.iaload, 1) := dk_46 (dk_at dksX9_comesNearer_2 0 rfl rfl)
theorem dX9_comesNearer_49 : decode cX9_comesNearer 49 = .ok (.ifCond .le 11, 3) := dk_158 0 11 (dk_at dksX9_comesNearer_2 1 rfl rfl)
theorem dX9_comesNearer_52 : decode cX9_comesNearer 52 = .ok (.aload_n 0, 1) := dk_42 (dk_at dksX9_comesNearer_2 4 rfl rfl)
theorem dX9_comesNearer_53 : decode cX9_comesNearer 53 = .ok (.iload_n 2, 1) := dk_28 (dk_at dksX9_comesNearer_2 5 rfl rfl)
theorem dX9_comesNearer_54 : decode cX9_comesNearer 54 = .ok (.iconst 1, 1) := dk_4 (dk_at dksX9_comesNearer_2 6 rfl rfl)
theorem dX9_comesNearer_55 : decode cX9_comesNearer 55 = .ok (.iadd, 1) := dk_96 (dk_at dksX9_comesNearer_2 7 rfl rfl)
theorem dX9_comesNearer_56 : decode cX9_comesNearer 56 = .ok (.iaload, 1) := dk_46 (dk_at dksX9_comesNearer_2 8 rfl rfl)
theorem dX9_comesNearer_57 : decode cX9_comesNearer 57 = .ok (.goto 12, 3) := dk_167 0 12 (dk_at dksX9_comesNearer_2 9 rfl rfl)
theorem dX9_comesNearer_60 : decode cX9_comesNearer 60 = .ok (.iload_n 3, 1) := dk_29 (dk_at dksX9_comesNearer_2 12 rfl rfl)
theorem dX9_comesNearer_61 : decode cX9_comesNearer 61 = .ok (.ifCond .eq 7, 3) := dk_153 0 7 (dk_at dksX9_comesNearer_2 13 rfl rfl)
theorem dX9_comesNearer_64 : decode cX9_comesNearer 64 = .ok (.iconst 0, 1) := dk_3 (dk_at dksX9_comesNearer_2 16 rfl rfl)
theorem dX9_comesNearer_65 : decode cX9_comesNearer 65 = .ok (.goto 4, 3) := dk_167 0 4 (dk_at dksX9_comesNearer_2 17 rfl rfl)
theorem dX9_comesNearer_68 : decode cX9_comesNearer 68 = .ok (.iconst 2, 1) := dk_5 (dk_at dksX9_comesNearer_2 20 rfl rfl)
theorem dX9_comesNearer_69 : decode cX9_comesNearer 69 = .ok (.iastore, 1) := dk_79 (dk_at dksX9_comesNearer_2 21 rfl rfl)
theorem dX9_comesNearer_70 : decode cX9_comesNearer 70 = .ok (.aload_n 0, 1) := dk_42 (dk_at dksX9_comesNearer_2 22 rfl rfl)
theorem dX9_comesNearer_71 : decode cX9_comesNearer 71 = .ok (.iload_n 2, 1) := dk_28 (dk_at dksX9_comesNearer_2 23 rfl rfl)
theorem dX9_comesNearer_72 : decode cX9_comesNearer 72 = .ok (.iconst 3, 1) := dk_6 (dk_at dksX9_comesNearer_3 0 rfl rfl)
theorem dX9_comesNearer_73 : decode cX9_comesNearer 73 = .ok (.iadd, 1) := dk_96 (dk_at dksX9_comesNearer_3 1 rfl rfl)
theorem dX9_comesNearer_74 : decode cX9_comesNearer 74 = .ok (.aload_n 0, 1) := dk_42 (dk_at dksX9_comesNearer_3 2 rfl rfl)
theorem dX9_comesNearer_75 : decode cX9_comesNearer 75 = .ok (.iload_n 2, 1) := dk_28 (dk_at dksX9_comesNearer_3 3 rfl rfl)
theorem dX9_comesNearer_76 : decode cX9_comesNearer 76 = .ok (.iconst 1, 1) := dk_4 (dk_at dksX9_comesNearer_3 4 rfl rfl)
theorem dX9_comesNearer_77 : decode cX9_comesNearer 77 = .ok (.iadd, 1) := dk_96 (dk_at dksX9_comesNearer_3 5 rfl rfl)
theorem dX9_comesNearer_78 : decode cX9_comesNearer 78 = .ok (.iaload, 1) := dk_46 (dk_at dksX9_comesNearer_3 6 rfl rfl)
theorem dX9_comesNearer_79 : decode cX9_comesNearer 79 = .ok (.ifCond .ne 7, 3) := dk_154 0 7 (dk_at dksX9_comesNearer_3 7 rfl rfl)
theorem dX9_comesNearer_82 : decode cX9_comesNearer 82 = .ok (.iconst (-1), 1) := dk_2 (dk_at dksX9_comesNearer_3 10 rfl rfl)
theorem dX9_comesNearer_83 : decode cX9_comesNearer 83 = .ok (.goto 8, 3) := dk_167 0 8 (dk_at dksX9_comesNearer_3 11 rfl rfl)
theorem dX9_comesNearer_86 : decode cX9_comesNearer 86 = .ok (.aload_n 0, 1) := dk_42 (dk_at dksX9_comesNearer_3 14 rfl rfl)
theorem dX9_comesNearer_87 : decode cX9_comesNearer 87 = .ok (.iload_n 2, 1) := dk_28 (dk_at dksX9_comesNearer_3 15 rfl rfl)
theorem dX9_comesNearer_88 : decode cX9_comesNearer 88 = .ok (.iconst 3, 1) := dk_6 (dk_at dksX9_comesNearer_3 16 rfl rfl)
theorem dX9_comesNearer_89 : decode cX9_comesNearer 89 = .ok (.iadd, 1) := dk_96 (dk_at dksX9_comesNearer_3 17 rfl rfl)
theorem dX9_comesNearer_90 : decode cX9_comesNearer 90 = .ok (.iaload, 1) := dk_46 (dk_at dksX9_comesNearer_3 18 rfl rfl)
theorem dX9_comesNearer_91 : decode cX9_comesNearer 91 = .ok (.iastore, 1) := dk_79 (dk_at dksX9_comesNearer_3 19 rfl rfl)
theorem dX9_comesNearer_92 : decode cX9_comesNearer 92 = .ok (.return_, 1) := dk_177 (dk_at dksX9_comesNearer_3 20 rfl rfl)
abbrev cX9_bargeIn : ByteArray := prog_15_method_8_code
def yX9_bargeIn : MethodName := ⟨RX9, "bargeIn", "([III)I"⟩
def dkwX9_bargeIn_0 : List UInt8 := [42, 16, 26, 16, 7, 27, 104, 96, 28, 96, 46, 172]
abbrev dktX9_bargeIn_0 : List UInt8 := dkwX9_bargeIn_0 ++ []
theorem dksX9_bargeIn_0 : cX9_bargeIn.data.toList.drop 0 = dktX9_bargeIn_0 := by decide +kernel
theorem dX9_bargeIn_0 : decode cX9_bargeIn 0 = .ok (.aload_n 0, 1) := dk_42 (dk_at dksX9_bargeIn_0 0 rfl rfl)
theorem dX9_bargeIn_1 : decode cX9_bargeIn 1 = .ok (.bipush 26, 2) := dk_16 26 (dk_at dksX9_bargeIn_0 1 rfl rfl)
theorem dX9_bargeIn_3 : decode cX9_bargeIn 3 = .ok (.bipush 7, 2) := dk_16 7 (dk_at dksX9_bargeIn_0 3 rfl rfl)
theorem dX9_bargeIn_5 : decode cX9_bargeIn 5 = .ok (.iload_n 1, 1) := dk_27 (dk_at dksX9_bargeIn_0 5 rfl rfl)
theorem dX9_bargeIn_6 : decode cX9_bargeIn 6 = .ok (.imul, 1) := dk_104 (dk_at dksX9_bargeIn_0 6 rfl rfl)
theorem dX9_bargeIn_7 : decode cX9_bargeIn 7 = .ok (.iadd, 1) := dk_96 (dk_at dksX9_bargeIn_0 7 rfl rfl)
theorem dX9_bargeIn_8 : decode cX9_bargeIn 8 = .ok (.iload_n 2, 1) := dk_28 (dk_at dksX9_bargeIn_0 8 rfl rfl)
theorem dX9_bargeIn_9 : decode cX9_bargeIn 9 = .ok (.iadd, 1) := dk_96 (dk_at dksX9_bargeIn_0 9 rfl rfl)
theorem dX9_bargeIn_10 : decode cX9_bargeIn 10 = .ok (.iaload, 1) := dk_46 (dk_at dksX9_bargeIn_0 10 rfl rfl)
theorem dX9_bargeIn_11 : decode cX9_bargeIn 11 = .ok (.ireturn, 1) := dk_172 (dk_at dksX9_bargeIn_0 11 rfl rfl)
abbrev cX9_lays : ByteArray := prog_15_method_25_code
def yX9_lays : MethodName := ⟨RX9, "lays", "([III)I"⟩
def dkwX9_lays_8 : List UInt8 := [167, 0, 4, 28, 172]
abbrev dktX9_lays_8 : List UInt8 := dkwX9_lays_8 ++ []
def dkwX9_lays_7 : List UInt8 := [167, 0, 11, 42, 16, 7, 92, 46, 4, 96, 79, 21, 7, 158, 0, 12, 28, 4, 21, 4, 120, 128]
abbrev dktX9_lays_7 : List UInt8 := dkwX9_lays_7 ++ dktX9_lays_8
def dkwX9_lays_6 : List UInt8 := [29, 5, 96, 46, 154, 0, 23, 42, 29, 4, 96, 6, 79, 42, 29, 7, 96, 42, 21, 4, 184, 0, 72, 79]
abbrev dktX9_lays_6 : List UInt8 := dkwX9_lays_6 ++ dktX9_lays_7
def dkwX9_lays_5 : List UInt8 := [96, 79, 42, 29, 5, 96, 92, 46, 21, 7, 100, 79, 42, 29, 16, 6, 96, 92, 46, 21, 7, 96, 79, 42]
abbrev dktX9_lays_5 : List UInt8 := dkwX9_lays_5 ++ dktX9_lays_6
def dkwX9_lays_4 : List UInt8 := [96, 46, 54, 7, 42, 21, 5, 4, 96, 92, 46, 21, 7, 96, 79, 42, 21, 5, 5, 96, 92, 46, 21, 7]
abbrev dktX9_lays_4 : List UInt8 := dkwX9_lays_4 ++ dktX9_lays_5
def dkwX9_lays_3 : List UInt8 := [29, 5, 96, 46, 162, 0, 17, 42, 21, 5, 46, 42, 21, 5, 4, 96, 46, 100, 167, 0, 8, 42, 29, 5]
abbrev dktX9_lays_3 : List UInt8 := dkwX9_lays_3 ++ dktX9_lays_4
def dkwX9_lays_2 : List UInt8 := [3, 54, 6, 21, 6, 154, 0, 7, 3, 167, 0, 41, 42, 21, 5, 46, 42, 21, 5, 4, 96, 46, 100, 42]
abbrev dktX9_lays_2 : List UInt8 := dkwX9_lays_2 ++ dktX9_lays_3
def dkwX9_lays_1 : List UInt8 := [54, 5, 42, 21, 4, 184, 0, 78, 153, 0, 16, 28, 21, 4, 122, 4, 126, 154, 0, 7, 4, 167, 0, 4]
abbrev dktX9_lays_1 : List UInt8 := dkwX9_lays_1 ++ dktX9_lays_2
def dkwX9_lays_0 : List UInt8 := [16, 26, 16, 7, 27, 104, 96, 62, 42, 29, 6, 96, 46, 54, 4, 16, 54, 16, 7, 21, 4, 104, 96]
abbrev dktX9_lays_0 : List UInt8 := dkwX9_lays_0 ++ dktX9_lays_1
theorem dksX9_lays_0 : cX9_lays.data.toList.drop 0 = dktX9_lays_0 := by decide +kernel
theorem dksX9_lays_1 : cX9_lays.data.toList.drop 23 = dktX9_lays_1 := dk_seg dksX9_lays_0 23 rfl rfl
theorem dksX9_lays_2 : cX9_lays.data.toList.drop 47 = dktX9_lays_2 := dk_seg dksX9_lays_1 24 rfl rfl
theorem dksX9_lays_3 : cX9_lays.data.toList.drop 71 = dktX9_lays_3 := dk_seg dksX9_lays_2 24 rfl rfl
theorem dksX9_lays_4 : cX9_lays.data.toList.drop 95 = dktX9_lays_4 := dk_seg dksX9_lays_3 24 rfl rfl
theorem dksX9_lays_5 : cX9_lays.data.toList.drop 119 = dktX9_lays_5 := dk_seg dksX9_lays_4 24 rfl rfl
theorem dksX9_lays_6 : cX9_lays.data.toList.drop 143 = dktX9_lays_6 := dk_seg dksX9_lays_5 24 rfl rfl
theorem dksX9_lays_7 : cX9_lays.data.toList.drop 167 = dktX9_lays_7 := dk_seg dksX9_lays_6 24 rfl rfl
theorem dksX9_lays_8 : cX9_lays.data.toList.drop 189 = dktX9_lays_8 := dk_seg dksX9_lays_7 22 rfl rfl
theorem dX9_lays_0 : decode cX9_lays 0 = .ok (.bipush 26, 2) := dk_16 26 (dk_at dksX9_lays_0 0 rfl rfl)
theorem dX9_lays_2 : decode cX9_lays 2 = .ok (.bipush 7, 2) := dk_16 7 (dk_at dksX9_lays_0 2 rfl rfl)
theorem dX9_lays_4 : decode cX9_lays 4 = .ok (.iload_n 1, 1) := dk_27 (dk_at dksX9_lays_0 4 rfl rfl)
theorem dX9_lays_5 : decode cX9_lays 5 = .ok (.imul, 1) := dk_104 (dk_at dksX9_lays_0 5 rfl rfl)
theorem dX9_lays_6 : decode cX9_lays 6 = .ok (.iadd, 1) := dk_96 (dk_at dksX9_lays_0 6 rfl rfl)
theorem dX9_lays_7 : decode cX9_lays 7 = .ok (.istore_n 3, 1) := dk_62 (dk_at dksX9_lays_0 7 rfl rfl)
theorem dX9_lays_8 : decode cX9_lays 8 = .ok (.aload_n 0, 1) := dk_42 (dk_at dksX9_lays_0 8 rfl rfl)
theorem dX9_lays_9 : decode cX9_lays 9 = .ok (.iload_n 3, 1) := dk_29 (dk_at dksX9_lays_0 9 rfl rfl)
theorem dX9_lays_10 : decode cX9_lays 10 = .ok (.iconst 3, 1) := dk_6 (dk_at dksX9_lays_0 10 rfl rfl)
theorem dX9_lays_11 : decode cX9_lays 11 = .ok (.iadd, 1) := dk_96 (dk_at dksX9_lays_0 11 rfl rfl)
theorem dX9_lays_12 : decode cX9_lays 12 = .ok (.iaload, 1) := dk_46 (dk_at dksX9_lays_0 12 rfl rfl)
theorem dX9_lays_13 : decode cX9_lays 13 = .ok (.istore 4, 2) := dk_54 4 (dk_at dksX9_lays_0 13 rfl rfl)
theorem dX9_lays_15 : decode cX9_lays 15 = .ok (.bipush 54, 2) := dk_16 54 (dk_at dksX9_lays_0 15 rfl rfl)
theorem dX9_lays_17 : decode cX9_lays 17 = .ok (.bipush 7, 2) := dk_16 7 (dk_at dksX9_lays_0 17 rfl rfl)
theorem dX9_lays_19 : decode cX9_lays 19 = .ok (.iload 4, 2) := dk_21 4 (dk_at dksX9_lays_0 19 rfl rfl)
theorem dX9_lays_21 : decode cX9_lays 21 = .ok (.imul, 1) := dk_104 (dk_at dksX9_lays_0 21 rfl rfl)
theorem dX9_lays_22 : decode cX9_lays 22 = .ok (.iadd, 1) := dk_96 (dk_at dksX9_lays_0 22 rfl rfl)
theorem dX9_lays_23 : decode cX9_lays 23 = .ok (.istore 5, 2) := dk_54 5 (dk_at dksX9_lays_1 0 rfl rfl)
theorem dX9_lays_25 : decode cX9_lays 25 = .ok (.aload_n 0, 1) := dk_42 (dk_at dksX9_lays_1 2 rfl rfl)
theorem dX9_lays_26 : decode cX9_lays 26 = .ok (.iload 4, 2) := dk_21 4 (dk_at dksX9_lays_1 3 rfl rfl)
theorem dX9_lays_28 : decode cX9_lays 28 = .ok (.invokestatic 78, 3) := dk_184 0 78 (dk_at dksX9_lays_1 5 rfl rfl)
theorem dX9_lays_31 : decode cX9_lays 31 = .ok (.ifCond .eq 16, 3) := dk_153 0 16 (dk_at dksX9_lays_1 8 rfl rfl)
theorem dX9_lays_34 : decode cX9_lays 34 = .ok (.iload_n 2, 1) := dk_28 (dk_at dksX9_lays_1 11 rfl rfl)
theorem dX9_lays_35 : decode cX9_lays 35 = .ok (.iload 4, 2) := dk_21 4 (dk_at dksX9_lays_1 12 rfl rfl)
theorem dX9_lays_37 : decode cX9_lays 37 = .ok (.ishr, 1) := dk_122 (dk_at dksX9_lays_1 14 rfl rfl)
theorem dX9_lays_38 : decode cX9_lays 38 = .ok (.iconst 1, 1) := dk_4 (dk_at dksX9_lays_1 15 rfl rfl)
theorem dX9_lays_39 : decode cX9_lays 39 = .ok (.iand, 1) := dk_126 (dk_at dksX9_lays_1 16 rfl rfl)
theorem dX9_lays_40 : decode cX9_lays 40 = .ok (.ifCond .ne 7, 3) := dk_154 0 7 (dk_at dksX9_lays_1 17 rfl rfl)
theorem dX9_lays_43 : decode cX9_lays 43 = .ok (.iconst 1, 1) := dk_4 (dk_at dksX9_lays_1 20 rfl rfl)
theorem dX9_lays_44 : decode cX9_lays 44 = .ok (.goto 4, 3) := dk_167 0 4 (dk_at dksX9_lays_1 21 rfl rfl)
theorem dX9_lays_47 : decode cX9_lays 47 = .ok (.iconst 0, 1) := dk_3 (dk_at dksX9_lays_2 0 rfl rfl)
theorem dX9_lays_48 : decode cX9_lays 48 = .ok (.istore 6, 2) := dk_54 6 (dk_at dksX9_lays_2 1 rfl rfl)
theorem dX9_lays_50 : decode cX9_lays 50 = .ok (.iload 6, 2) := dk_21 6 (dk_at dksX9_lays_2 3 rfl rfl)
theorem dX9_lays_52 : decode cX9_lays 52 = .ok (.ifCond .ne 7, 3) := dk_154 0 7 (dk_at dksX9_lays_2 5 rfl rfl)
theorem dX9_lays_55 : decode cX9_lays 55 = .ok (.iconst 0, 1) := dk_3 (dk_at dksX9_lays_2 8 rfl rfl)
theorem dX9_lays_56 : decode cX9_lays 56 = .ok (.goto 41, 3) := dk_167 0 41 (dk_at dksX9_lays_2 9 rfl rfl)
theorem dX9_lays_59 : decode cX9_lays 59 = .ok (.aload_n 0, 1) := dk_42 (dk_at dksX9_lays_2 12 rfl rfl)
theorem dX9_lays_60 : decode cX9_lays 60 = .ok (.iload 5, 2) := dk_21 5 (dk_at dksX9_lays_2 13 rfl rfl)
theorem dX9_lays_62 : decode cX9_lays 62 = .ok (.iaload, 1) := dk_46 (dk_at dksX9_lays_2 15 rfl rfl)
theorem dX9_lays_63 : decode cX9_lays 63 = .ok (.aload_n 0, 1) := dk_42 (dk_at dksX9_lays_2 16 rfl rfl)
theorem dX9_lays_64 : decode cX9_lays 64 = .ok (.iload 5, 2) := dk_21 5 (dk_at dksX9_lays_2 17 rfl rfl)
theorem dX9_lays_66 : decode cX9_lays 66 = .ok (.iconst 1, 1) := dk_4 (dk_at dksX9_lays_2 19 rfl rfl)
theorem dX9_lays_67 : decode cX9_lays 67 = .ok (.iadd, 1) := dk_96 (dk_at dksX9_lays_2 20 rfl rfl)
theorem dX9_lays_68 : decode cX9_lays 68 = .ok (.iaload, 1) := dk_46 (dk_at dksX9_lays_2 21 rfl rfl)
theorem dX9_lays_69 : decode cX9_lays 69 = .ok (.isub, 1) := dk_100 (dk_at dksX9_lays_2 22 rfl rfl)
theorem dX9_lays_70 : decode cX9_lays 70 = .ok (.aload_n 0, 1) := dk_42 (dk_at dksX9_lays_2 23 rfl rfl)
theorem dX9_lays_71 : decode cX9_lays 71 = .ok (.iload_n 3, 1) := dk_29 (dk_at dksX9_lays_3 0 rfl rfl)
theorem dX9_lays_72 : decode cX9_lays 72 = .ok (.iconst 2, 1) := dk_5 (dk_at dksX9_lays_3 1 rfl rfl)
theorem dX9_lays_73 : decode cX9_lays 73 = .ok (.iadd, 1) := dk_96 (dk_at dksX9_lays_3 2 rfl rfl)
theorem dX9_lays_74 : decode cX9_lays 74 = .ok (.iaload, 1) := dk_46 (dk_at dksX9_lays_3 3 rfl rfl)
theorem dX9_lays_75 : decode cX9_lays 75 = .ok (.if_icmp .ge 17, 3) := dk_162 0 17 (dk_at dksX9_lays_3 4 rfl rfl)
theorem dX9_lays_78 : decode cX9_lays 78 = .ok (.aload_n 0, 1) := dk_42 (dk_at dksX9_lays_3 7 rfl rfl)
theorem dX9_lays_79 : decode cX9_lays 79 = .ok (.iload 5, 2) := dk_21 5 (dk_at dksX9_lays_3 8 rfl rfl)
theorem dX9_lays_81 : decode cX9_lays 81 = .ok (.iaload, 1) := dk_46 (dk_at dksX9_lays_3 10 rfl rfl)
theorem dX9_lays_82 : decode cX9_lays 82 = .ok (.aload_n 0, 1) := dk_42 (dk_at dksX9_lays_3 11 rfl rfl)
theorem dX9_lays_83 : decode cX9_lays 83 = .ok (.iload 5, 2) := dk_21 5 (dk_at dksX9_lays_3 12 rfl rfl)
theorem dX9_lays_85 : decode cX9_lays 85 = .ok (.iconst 1, 1) := dk_4 (dk_at dksX9_lays_3 14 rfl rfl)
theorem dX9_lays_86 : decode cX9_lays 86 = .ok (.iadd, 1) := dk_96 (dk_at dksX9_lays_3 15 rfl rfl)
theorem dX9_lays_87 : decode cX9_lays 87 = .ok (.iaload, 1) := dk_46 (dk_at dksX9_lays_3 16 rfl rfl)
theorem dX9_lays_88 : decode cX9_lays 88 = .ok (.isub, 1) := dk_100 (dk_at dksX9_lays_3 17 rfl rfl)
theorem dX9_lays_89 : decode cX9_lays 89 = .ok (.goto 8, 3) := dk_167 0 8 (dk_at dksX9_lays_3 18 rfl rfl)
theorem dX9_lays_92 : decode cX9_lays 92 = .ok (.aload_n 0, 1) := dk_42 (dk_at dksX9_lays_3 21 rfl rfl)
theorem dX9_lays_93 : decode cX9_lays 93 = .ok (.iload_n 3, 1) := dk_29 (dk_at dksX9_lays_3 22 rfl rfl)
theorem dX9_lays_94 : decode cX9_lays 94 = .ok (.iconst 2, 1) := dk_5 (dk_at dksX9_lays_3 23 rfl rfl)
theorem dX9_lays_95 : decode cX9_lays 95 = .ok (.iadd, 1) := dk_96 (dk_at dksX9_lays_4 0 rfl rfl)
theorem dX9_lays_96 : decode cX9_lays 96 = .ok (.iaload, 1) := dk_46 (dk_at dksX9_lays_4 1 rfl rfl)
theorem dX9_lays_97 : decode cX9_lays 97 = .ok (.istore 7, 2) := dk_54 7 (dk_at dksX9_lays_4 2 rfl rfl)
theorem dX9_lays_99 : decode cX9_lays 99 = .ok (.aload_n 0, 1) := dk_42 (dk_at dksX9_lays_4 4 rfl rfl)
theorem dX9_lays_100 : decode cX9_lays 100 = .ok (.iload 5, 2) := dk_21 5 (dk_at dksX9_lays_4 5 rfl rfl)
theorem dX9_lays_102 : decode cX9_lays 102 = .ok (.iconst 1, 1) := dk_4 (dk_at dksX9_lays_4 7 rfl rfl)
theorem dX9_lays_103 : decode cX9_lays 103 = .ok (.iadd, 1) := dk_96 (dk_at dksX9_lays_4 8 rfl rfl)
theorem dX9_lays_104 : decode cX9_lays 104 = .ok (.dup2, 1) := dk_92 (dk_at dksX9_lays_4 9 rfl rfl)
theorem dX9_lays_105 : decode cX9_lays 105 = .ok (.iaload, 1) := dk_46 (dk_at dksX9_lays_4 10 rfl rfl)
theorem dX9_lays_106 : decode cX9_lays 106 = .ok (.iload 7, 2) := dk_21 7 (dk_at dksX9_lays_4 11 rfl rfl)
theorem dX9_lays_108 : decode cX9_lays 108 = .ok (.iadd, 1) := dk_96 (dk_at dksX9_lays_4 13 rfl rfl)
theorem dX9_lays_109 : decode cX9_lays 109 = .ok (.iastore, 1) := dk_79 (dk_at dksX9_lays_4 14 rfl rfl)
theorem dX9_lays_110 : decode cX9_lays 110 = .ok (.aload_n 0, 1) := dk_42 (dk_at dksX9_lays_4 15 rfl rfl)
theorem dX9_lays_111 : decode cX9_lays 111 = .ok (.iload 5, 2) := dk_21 5 (dk_at dksX9_lays_4 16 rfl rfl)
theorem dX9_lays_113 : decode cX9_lays 113 = .ok (.iconst 2, 1) := dk_5 (dk_at dksX9_lays_4 18 rfl rfl)
theorem dX9_lays_114 : decode cX9_lays 114 = .ok (.iadd, 1) := dk_96 (dk_at dksX9_lays_4 19 rfl rfl)
theorem dX9_lays_115 : decode cX9_lays 115 = .ok (.dup2, 1) := dk_92 (dk_at dksX9_lays_4 20 rfl rfl)
theorem dX9_lays_116 : decode cX9_lays 116 = .ok (.iaload, 1) := dk_46 (dk_at dksX9_lays_4 21 rfl rfl)
theorem dX9_lays_117 : decode cX9_lays 117 = .ok (.iload 7, 2) := dk_21 7 (dk_at dksX9_lays_4 22 rfl rfl)
theorem dX9_lays_119 : decode cX9_lays 119 = .ok (.iadd, 1) := dk_96 (dk_at dksX9_lays_5 0 rfl rfl)
theorem dX9_lays_120 : decode cX9_lays 120 = .ok (.iastore, 1) := dk_79 (dk_at dksX9_lays_5 1 rfl rfl)
theorem dX9_lays_121 : decode cX9_lays 121 = .ok (.aload_n 0, 1) := dk_42 (dk_at dksX9_lays_5 2 rfl rfl)
theorem dX9_lays_122 : decode cX9_lays 122 = .ok (.iload_n 3, 1) := dk_29 (dk_at dksX9_lays_5 3 rfl rfl)
theorem dX9_lays_123 : decode cX9_lays 123 = .ok (.iconst 2, 1) := dk_5 (dk_at dksX9_lays_5 4 rfl rfl)
theorem dX9_lays_124 : decode cX9_lays 124 = .ok (.iadd, 1) := dk_96 (dk_at dksX9_lays_5 5 rfl rfl)
theorem dX9_lays_125 : decode cX9_lays 125 = .ok (.dup2, 1) := dk_92 (dk_at dksX9_lays_5 6 rfl rfl)
theorem dX9_lays_126 : decode cX9_lays 126 = .ok (.iaload, 1) := dk_46 (dk_at dksX9_lays_5 7 rfl rfl)
theorem dX9_lays_127 : decode cX9_lays 127 = .ok (.iload 7, 2) := dk_21 7 (dk_at dksX9_lays_5 8 rfl rfl)
theorem dX9_lays_129 : decode cX9_lays 129 = .ok (.isub, 1) := dk_100 (dk_at dksX9_lays_5 10 rfl rfl)
theorem dX9_lays_130 : decode cX9_lays 130 = .ok (.iastore, 1) := dk_79 (dk_at dksX9_lays_5 11 rfl rfl)
theorem dX9_lays_131 : decode cX9_lays 131 = .ok (.aload_n 0, 1) := dk_42 (dk_at dksX9_lays_5 12 rfl rfl)
theorem dX9_lays_132 : decode cX9_lays 132 = .ok (.iload_n 3, 1) := dk_29 (dk_at dksX9_lays_5 13 rfl rfl)
theorem dX9_lays_133 : decode cX9_lays 133 = .ok (.bipush 6, 2) := dk_16 6 (dk_at dksX9_lays_5 14 rfl rfl)
theorem dX9_lays_135 : decode cX9_lays 135 = .ok (.iadd, 1) := dk_96 (dk_at dksX9_lays_5 16 rfl rfl)
theorem dX9_lays_136 : decode cX9_lays 136 = .ok (.dup2, 1) := dk_92 (dk_at dksX9_lays_5 17 rfl rfl)
theorem dX9_lays_137 : decode cX9_lays 137 = .ok (.iaload, 1) := dk_46 (dk_at dksX9_lays_5 18 rfl rfl)
theorem dX9_lays_138 : decode cX9_lays 138 = .ok (.iload 7, 2) := dk_21 7 (dk_at dksX9_lays_5 19 rfl rfl)
theorem dX9_lays_140 : decode cX9_lays 140 = .ok (.iadd, 1) := dk_96 (dk_at dksX9_lays_5 21 rfl rfl)
theorem dX9_lays_141 : decode cX9_lays 141 = .ok (.iastore, 1) := dk_79 (dk_at dksX9_lays_5 22 rfl rfl)
theorem dX9_lays_142 : decode cX9_lays 142 = .ok (.aload_n 0, 1) := dk_42 (dk_at dksX9_lays_5 23 rfl rfl)
theorem dX9_lays_143 : decode cX9_lays 143 = .ok (.iload_n 3, 1) := dk_29 (dk_at dksX9_lays_6 0 rfl rfl)
theorem dX9_lays_144 : decode cX9_lays 144 = .ok (.iconst 2, 1) := dk_5 (dk_at dksX9_lays_6 1 rfl rfl)
theorem dX9_lays_145 : decode cX9_lays 145 = .ok (.iadd, 1) := dk_96 (dk_at dksX9_lays_6 2 rfl rfl)
theorem dX9_lays_146 : decode cX9_lays 146 = .ok (.iaload, 1) := dk_46 (dk_at dksX9_lays_6 3 rfl rfl)
theorem dX9_lays_147 : decode cX9_lays 147 = .ok (.ifCond .ne 23, 3) := dk_154 0 23 (dk_at dksX9_lays_6 4 rfl rfl)
theorem dX9_lays_150 : decode cX9_lays 150 = .ok (.aload_n 0, 1) := dk_42 (dk_at dksX9_lays_6 7 rfl rfl)
theorem dX9_lays_151 : decode cX9_lays 151 = .ok (.iload_n 3, 1) := dk_29 (dk_at dksX9_lays_6 8 rfl rfl)
theorem dX9_lays_152 : decode cX9_lays 152 = .ok (.iconst 1, 1) := dk_4 (dk_at dksX9_lays_6 9 rfl rfl)
theorem dX9_lays_153 : decode cX9_lays 153 = .ok (.iadd, 1) := dk_96 (dk_at dksX9_lays_6 10 rfl rfl)
theorem dX9_lays_154 : decode cX9_lays 154 = .ok (.iconst 3, 1) := dk_6 (dk_at dksX9_lays_6 11 rfl rfl)
theorem dX9_lays_155 : decode cX9_lays 155 = .ok (.iastore, 1) := dk_79 (dk_at dksX9_lays_6 12 rfl rfl)
theorem dX9_lays_156 : decode cX9_lays 156 = .ok (.aload_n 0, 1) := dk_42 (dk_at dksX9_lays_6 13 rfl rfl)
theorem dX9_lays_157 : decode cX9_lays 157 = .ok (.iload_n 3, 1) := dk_29 (dk_at dksX9_lays_6 14 rfl rfl)
theorem dX9_lays_158 : decode cX9_lays 158 = .ok (.iconst 4, 1) := dk_7 (dk_at dksX9_lays_6 15 rfl rfl)
theorem dX9_lays_159 : decode cX9_lays 159 = .ok (.iadd, 1) := dk_96 (dk_at dksX9_lays_6 16 rfl rfl)
theorem dX9_lays_160 : decode cX9_lays 160 = .ok (.aload_n 0, 1) := dk_42 (dk_at dksX9_lays_6 17 rfl rfl)
theorem dX9_lays_161 : decode cX9_lays 161 = .ok (.iload 4, 2) := dk_21 4 (dk_at dksX9_lays_6 18 rfl rfl)
theorem dX9_lays_163 : decode cX9_lays 163 = .ok (.invokestatic 72, 3) := dk_184 0 72 (dk_at dksX9_lays_6 20 rfl rfl)
theorem dX9_lays_166 : decode cX9_lays 166 = .ok (.iastore, 1) := dk_79 (dk_at dksX9_lays_6 23 rfl rfl)
theorem dX9_lays_167 : decode cX9_lays 167 = .ok (.goto 11, 3) := dk_167 0 11 (dk_at dksX9_lays_7 0 rfl rfl)
theorem dX9_lays_170 : decode cX9_lays 170 = .ok (.aload_n 0, 1) := dk_42 (dk_at dksX9_lays_7 3 rfl rfl)
theorem dX9_lays_171 : decode cX9_lays 171 = .ok (.bipush 7, 2) := dk_16 7 (dk_at dksX9_lays_7 4 rfl rfl)
theorem dX9_lays_173 : decode cX9_lays 173 = .ok (.dup2, 1) := dk_92 (dk_at dksX9_lays_7 6 rfl rfl)
theorem dX9_lays_174 : decode cX9_lays 174 = .ok (.iaload, 1) := dk_46 (dk_at dksX9_lays_7 7 rfl rfl)
theorem dX9_lays_175 : decode cX9_lays 175 = .ok (.iconst 1, 1) := dk_4 (dk_at dksX9_lays_7 8 rfl rfl)
theorem dX9_lays_176 : decode cX9_lays 176 = .ok (.iadd, 1) := dk_96 (dk_at dksX9_lays_7 9 rfl rfl)
theorem dX9_lays_177 : decode cX9_lays 177 = .ok (.iastore, 1) := dk_79 (dk_at dksX9_lays_7 10 rfl rfl)
theorem dX9_lays_178 : decode cX9_lays 178 = .ok (.iload 7, 2) := dk_21 7 (dk_at dksX9_lays_7 11 rfl rfl)
theorem dX9_lays_180 : decode cX9_lays 180 = .ok (.ifCond .le 12, 3) := dk_158 0 12 (dk_at dksX9_lays_7 13 rfl rfl)
theorem dX9_lays_183 : decode cX9_lays 183 = .ok (.iload_n 2, 1) := dk_28 (dk_at dksX9_lays_7 16 rfl rfl)
theorem dX9_lays_184 : decode cX9_lays 184 = .ok (.iconst 1, 1) := dk_4 (dk_at dksX9_lays_7 17 rfl rfl)
theorem dX9_lays_185 : decode cX9_lays 185 = .ok (.iload 4, 2) := dk_21 4 (dk_at dksX9_lays_7 18 rfl rfl)
theorem dX9_lays_187 : decode cX9_lays 187 = .ok (.ishl, 1) := dk_120 (dk_at dksX9_lays_7 20 rfl rfl)
theorem dX9_lays_188 : decode cX9_lays 188 = .ok (.ior, 1) := dk_128 (dk_at dksX9_lays_7 21 rfl rfl)
theorem dX9_lays_189 : decode cX9_lays 189 = .ok (.goto 4, 3) := dk_167 0 4 (dk_at dksX9_lays_8 0 rfl rfl)
theorem dX9_lays_192 : decode cX9_lays 192 = .ok (.iload_n 2, 1) := dk_28 (dk_at dksX9_lays_8 3 rfl rfl)
theorem dX9_lays_193 : decode cX9_lays 193 = .ok (.ireturn, 1) := dk_172 (dk_at dksX9_lays_8 4 rfl rfl)
abbrev cX9_isOpen : ByteArray := prog_15_method_21_code
def yX9_isOpen : MethodName := ⟨RX9, "isOpen", "([II)Z"⟩
def dkwX9_isOpen_1 : List UInt8 := [42, 27, 3, 184, 0, 54, 42, 27, 4, 184, 0, 54, 164, 0, 7, 4, 167, 0, 4, 3, 172]
abbrev dktX9_isOpen_1 : List UInt8 := dkwX9_isOpen_1 ++ []
def dkwX9_isOpen_0 : List UInt8 := [42, 27, 184, 0, 61, 153, 0, 38, 42, 27, 184, 0, 65, 154, 0, 30, 42, 27, 184, 0, 75, 154, 0, 22]
abbrev dktX9_isOpen_0 : List UInt8 := dkwX9_isOpen_0 ++ dktX9_isOpen_1
theorem dksX9_isOpen_0 : cX9_isOpen.data.toList.drop 0 = dktX9_isOpen_0 := by decide +kernel
theorem dksX9_isOpen_1 : cX9_isOpen.data.toList.drop 24 = dktX9_isOpen_1 := dk_seg dksX9_isOpen_0 24 rfl rfl
theorem dX9_isOpen_0 : decode cX9_isOpen 0 = .ok (.aload_n 0, 1) := dk_42 (dk_at dksX9_isOpen_0 0 rfl rfl)
theorem dX9_isOpen_1 : decode cX9_isOpen 1 = .ok (.iload_n 1, 1) := dk_27 (dk_at dksX9_isOpen_0 1 rfl rfl)
theorem dX9_isOpen_2 : decode cX9_isOpen 2 = .ok (.invokestatic 61, 3) := dk_184 0 61 (dk_at dksX9_isOpen_0 2 rfl rfl)
theorem dX9_isOpen_5 : decode cX9_isOpen 5 = .ok (.ifCond .eq 38, 3) := dk_153 0 38 (dk_at dksX9_isOpen_0 5 rfl rfl)
theorem dX9_isOpen_8 : decode cX9_isOpen 8 = .ok (.aload_n 0, 1) := dk_42 (dk_at dksX9_isOpen_0 8 rfl rfl)
theorem dX9_isOpen_9 : decode cX9_isOpen 9 = .ok (.iload_n 1, 1) := dk_27 (dk_at dksX9_isOpen_0 9 rfl rfl)
theorem dX9_isOpen_10 : decode cX9_isOpen 10 = .ok (.invokestatic 65, 3) := dk_184 0 65 (dk_at dksX9_isOpen_0 10 rfl rfl)
theorem dX9_isOpen_13 : decode cX9_isOpen 13 = .ok (.ifCond .ne 30, 3) := dk_154 0 30 (dk_at dksX9_isOpen_0 13 rfl rfl)
theorem dX9_isOpen_16 : decode cX9_isOpen 16 = .ok (.aload_n 0, 1) := dk_42 (dk_at dksX9_isOpen_0 16 rfl rfl)
theorem dX9_isOpen_17 : decode cX9_isOpen 17 = .ok (.iload_n 1, 1) := dk_27 (dk_at dksX9_isOpen_0 17 rfl rfl)
theorem dX9_isOpen_18 : decode cX9_isOpen 18 = .ok (.invokestatic 75, 3) := dk_184 0 75 (dk_at dksX9_isOpen_0 18 rfl rfl)
theorem dX9_isOpen_21 : decode cX9_isOpen 21 = .ok (.ifCond .ne 22, 3) := dk_154 0 22 (dk_at dksX9_isOpen_0 21 rfl rfl)
theorem dX9_isOpen_24 : decode cX9_isOpen 24 = .ok (.aload_n 0, 1) := dk_42 (dk_at dksX9_isOpen_1 0 rfl rfl)
theorem dX9_isOpen_25 : decode cX9_isOpen 25 = .ok (.iload_n 1, 1) := dk_27 (dk_at dksX9_isOpen_1 1 rfl rfl)
theorem dX9_isOpen_26 : decode cX9_isOpen 26 = .ok (.iconst 0, 1) := dk_3 (dk_at dksX9_isOpen_1 2 rfl rfl)
theorem dX9_isOpen_27 : decode cX9_isOpen 27 = .ok (.invokestatic 54, 3) := dk_184 0 54 (dk_at dksX9_isOpen_1 3 rfl rfl)
theorem dX9_isOpen_30 : decode cX9_isOpen 30 = .ok (.aload_n 0, 1) := dk_42 (dk_at dksX9_isOpen_1 6 rfl rfl)
theorem dX9_isOpen_31 : decode cX9_isOpen 31 = .ok (.iload_n 1, 1) := dk_27 (dk_at dksX9_isOpen_1 7 rfl rfl)
theorem dX9_isOpen_32 : decode cX9_isOpen 32 = .ok (.iconst 1, 1) := dk_4 (dk_at dksX9_isOpen_1 8 rfl rfl)
theorem dX9_isOpen_33 : decode cX9_isOpen 33 = .ok (.invokestatic 54, 3) := dk_184 0 54 (dk_at dksX9_isOpen_1 9 rfl rfl)
theorem dX9_isOpen_36 : decode cX9_isOpen 36 = .ok (.if_icmp .le 7, 3) := dk_164 0 7 (dk_at dksX9_isOpen_1 12 rfl rfl)
theorem dX9_isOpen_39 : decode cX9_isOpen 39 = .ok (.iconst 1, 1) := dk_4 (dk_at dksX9_isOpen_1 15 rfl rfl)
theorem dX9_isOpen_40 : decode cX9_isOpen 40 = .ok (.goto 4, 3) := dk_167 0 4 (dk_at dksX9_isOpen_1 16 rfl rfl)
theorem dX9_isOpen_43 : decode cX9_isOpen 43 = .ok (.iconst 0, 1) := dk_3 (dk_at dksX9_isOpen_1 19 rfl rfl)
theorem dX9_isOpen_44 : decode cX9_isOpen 44 = .ok (.ireturn, 1) := dk_172 (dk_at dksX9_isOpen_1 20 rfl rfl)
abbrev cX9_isTooWet : ByteArray := prog_15_method_17_code
def yX9_isTooWet : MethodName := ⟨RX9, "isTooWet", "([II)Z"⟩
def dkwX9_isTooWet_0 : List UInt8 := [42, 27, 5, 184, 0, 54, 42, 5, 46, 161, 0, 7, 4, 167, 0, 4, 3, 172]
abbrev dktX9_isTooWet_0 : List UInt8 := dkwX9_isTooWet_0 ++ []
theorem dksX9_isTooWet_0 : cX9_isTooWet.data.toList.drop 0 = dktX9_isTooWet_0 := by decide +kernel
theorem dX9_isTooWet_0 : decode cX9_isTooWet 0 = .ok (.aload_n 0, 1) := dk_42 (dk_at dksX9_isTooWet_0 0 rfl rfl)
theorem dX9_isTooWet_1 : decode cX9_isTooWet 1 = .ok (.iload_n 1, 1) := dk_27 (dk_at dksX9_isTooWet_0 1 rfl rfl)
theorem dX9_isTooWet_2 : decode cX9_isTooWet 2 = .ok (.iconst 2, 1) := dk_5 (dk_at dksX9_isTooWet_0 2 rfl rfl)
theorem dX9_isTooWet_3 : decode cX9_isTooWet 3 = .ok (.invokestatic 54, 3) := dk_184 0 54 (dk_at dksX9_isTooWet_0 3 rfl rfl)
theorem dX9_isTooWet_6 : decode cX9_isTooWet 6 = .ok (.aload_n 0, 1) := dk_42 (dk_at dksX9_isTooWet_0 6 rfl rfl)
theorem dX9_isTooWet_7 : decode cX9_isTooWet 7 = .ok (.iconst 2, 1) := dk_5 (dk_at dksX9_isTooWet_0 7 rfl rfl)
theorem dX9_isTooWet_8 : decode cX9_isTooWet 8 = .ok (.iaload, 1) := dk_46 (dk_at dksX9_isTooWet_0 8 rfl rfl)
theorem dX9_isTooWet_9 : decode cX9_isTooWet 9 = .ok (.if_icmp .lt 7, 3) := dk_161 0 7 (dk_at dksX9_isTooWet_0 9 rfl rfl)
theorem dX9_isTooWet_12 : decode cX9_isTooWet 12 = .ok (.iconst 1, 1) := dk_4 (dk_at dksX9_isTooWet_0 12 rfl rfl)
theorem dX9_isTooWet_13 : decode cX9_isTooWet 13 = .ok (.goto 4, 3) := dk_167 0 4 (dk_at dksX9_isTooWet_0 13 rfl rfl)
theorem dX9_isTooWet_16 : decode cX9_isTooWet 16 = .ok (.iconst 0, 1) := dk_3 (dk_at dksX9_isTooWet_0 16 rfl rfl)
theorem dX9_isTooWet_17 : decode cX9_isTooWet 17 = .ok (.ireturn, 1) := dk_172 (dk_at dksX9_isTooWet_0 17 rfl rfl)
abbrev cX9_way : ByteArray := prog_15_method_18_code
def yX9_way : MethodName := ⟨RX9, "way", "([II)I"⟩
def dkwX9_way_0 : List UInt8 := [42, 8, 46, 27, 100, 61, 4, 28, 156, 0, 8, 28, 116, 167, 0, 4, 28, 96, 172]
abbrev dktX9_way_0 : List UInt8 := dkwX9_way_0 ++ []
theorem dksX9_way_0 : cX9_way.data.toList.drop 0 = dktX9_way_0 := by decide +kernel
theorem dX9_way_0 : decode cX9_way 0 = .ok (.aload_n 0, 1) := dk_42 (dk_at dksX9_way_0 0 rfl rfl)
theorem dX9_way_1 : decode cX9_way 1 = .ok (.iconst 5, 1) := dk_8 (dk_at dksX9_way_0 1 rfl rfl)
theorem dX9_way_2 : decode cX9_way 2 = .ok (.iaload, 1) := dk_46 (dk_at dksX9_way_0 2 rfl rfl)
theorem dX9_way_3 : decode cX9_way 3 = .ok (.iload_n 1, 1) := dk_27 (dk_at dksX9_way_0 3 rfl rfl)
theorem dX9_way_4 : decode cX9_way 4 = .ok (.isub, 1) := dk_100 (dk_at dksX9_way_0 4 rfl rfl)
theorem dX9_way_5 : decode cX9_way 5 = .ok (.istore_n 2, 1) := dk_61 (dk_at dksX9_way_0 5 rfl rfl)
theorem dX9_way_6 : decode cX9_way 6 = .ok (.iconst 1, 1) := dk_4 (dk_at dksX9_way_0 6 rfl rfl)
theorem dX9_way_7 : decode cX9_way 7 = .ok (.iload_n 2, 1) := dk_28 (dk_at dksX9_way_0 7 rfl rfl)
theorem dX9_way_8 : decode cX9_way 8 = .ok (.ifCond .ge 8, 3) := dk_156 0 8 (dk_at dksX9_way_0 8 rfl rfl)
theorem dX9_way_11 : decode cX9_way 11 = .ok (.iload_n 2, 1) := dk_28 (dk_at dksX9_way_0 11 rfl rfl)
theorem dX9_way_12 : decode cX9_way 12 = .ok (.ineg, 1) := dk_116 (dk_at dksX9_way_0 12 rfl rfl)
theorem dX9_way_13 : decode cX9_way 13 = .ok (.goto 4, 3) := dk_167 0 4 (dk_at dksX9_way_0 13 rfl rfl)
theorem dX9_way_16 : decode cX9_way 16 = .ok (.iload_n 2, 1) := dk_28 (dk_at dksX9_way_0 16 rfl rfl)
theorem dX9_way_17 : decode cX9_way 17 = .ok (.iadd, 1) := dk_96 (dk_at dksX9_way_0 17 rfl rfl)
theorem dX9_way_18 : decode cX9_way 18 = .ok (.ireturn, 1) := dk_172 (dk_at dksX9_way_0 18 rfl rfl)
abbrev cX9_raises : ByteArray := prog_15_method_26_code
def yX9_raises : MethodName := ⟨RX9, "raises", "([III)I"⟩
def dkwX9_raises_4 : List UInt8 := [21, 4, 96, 79, 21, 4, 172]
abbrev dktX9_raises_4 : List UInt8 := dkwX9_raises_4 ++ []
def dkwX9_raises_3 : List UInt8 := [8, 46, 104, 96, 92, 46, 21, 4, 100, 79, 42, 16, 8, 6, 42, 8, 46, 104, 96, 4, 96, 92, 46]
abbrev dktX9_raises_3 : List UInt8 := dkwX9_raises_3 ++ dktX9_raises_4
def dkwX9_raises_2 : List UInt8 := [167, 0, 7, 42, 184, 0, 81, 54, 4, 42, 29, 5, 96, 92, 46, 21, 4, 96, 79, 42, 16, 8, 6, 42]
abbrev dktX9_raises_2 : List UInt8 := dkwX9_raises_2 ++ dktX9_raises_3
def dkwX9_raises_1 : List UInt8 := [162, 0, 8, 21, 4, 167, 0, 4, 28, 54, 4, 21, 4, 42, 184, 0, 81, 162, 0, 8, 21, 4]
abbrev dktX9_raises_1 : List UInt8 := dkwX9_raises_1 ++ dktX9_raises_2
def dkwX9_raises_0 : List UInt8 := [16, 26, 16, 7, 27, 104, 96, 62, 42, 29, 46, 42, 29, 5, 96, 46, 100, 54, 4, 21, 4, 28]
abbrev dktX9_raises_0 : List UInt8 := dkwX9_raises_0 ++ dktX9_raises_1
theorem dksX9_raises_0 : cX9_raises.data.toList.drop 0 = dktX9_raises_0 := by decide +kernel
theorem dksX9_raises_1 : cX9_raises.data.toList.drop 22 = dktX9_raises_1 := dk_seg dksX9_raises_0 22 rfl rfl
theorem dksX9_raises_2 : cX9_raises.data.toList.drop 44 = dktX9_raises_2 := dk_seg dksX9_raises_1 22 rfl rfl
theorem dksX9_raises_3 : cX9_raises.data.toList.drop 68 = dktX9_raises_3 := dk_seg dksX9_raises_2 24 rfl rfl
theorem dksX9_raises_4 : cX9_raises.data.toList.drop 91 = dktX9_raises_4 := dk_seg dksX9_raises_3 23 rfl rfl
theorem dX9_raises_0 : decode cX9_raises 0 = .ok (.bipush 26, 2) := dk_16 26 (dk_at dksX9_raises_0 0 rfl rfl)
theorem dX9_raises_2 : decode cX9_raises 2 = .ok (.bipush 7, 2) := dk_16 7 (dk_at dksX9_raises_0 2 rfl rfl)
theorem dX9_raises_4 : decode cX9_raises 4 = .ok (.iload_n 1, 1) := dk_27 (dk_at dksX9_raises_0 4 rfl rfl)
theorem dX9_raises_5 : decode cX9_raises 5 = .ok (.imul, 1) := dk_104 (dk_at dksX9_raises_0 5 rfl rfl)
theorem dX9_raises_6 : decode cX9_raises 6 = .ok (.iadd, 1) := dk_96 (dk_at dksX9_raises_0 6 rfl rfl)
theorem dX9_raises_7 : decode cX9_raises 7 = .ok (.istore_n 3, 1) := dk_62 (dk_at dksX9_raises_0 7 rfl rfl)
theorem dX9_raises_8 : decode cX9_raises 8 = .ok (.aload_n 0, 1) := dk_42 (dk_at dksX9_raises_0 8 rfl rfl)
theorem dX9_raises_9 : decode cX9_raises 9 = .ok (.iload_n 3, 1) := dk_29 (dk_at dksX9_raises_0 9 rfl rfl)
theorem dX9_raises_10 : decode cX9_raises 10 = .ok (.iaload, 1) := dk_46 (dk_at dksX9_raises_0 10 rfl rfl)
theorem dX9_raises_11 : decode cX9_raises 11 = .ok (.aload_n 0, 1) := dk_42 (dk_at dksX9_raises_0 11 rfl rfl)
theorem dX9_raises_12 : decode cX9_raises 12 = .ok (.iload_n 3, 1) := dk_29 (dk_at dksX9_raises_0 12 rfl rfl)
theorem dX9_raises_13 : decode cX9_raises 13 = .ok (.iconst 2, 1) := dk_5 (dk_at dksX9_raises_0 13 rfl rfl)
theorem dX9_raises_14 : decode cX9_raises 14 = .ok (.iadd, 1) := dk_96 (dk_at dksX9_raises_0 14 rfl rfl)
theorem dX9_raises_15 : decode cX9_raises 15 = .ok (.iaload, 1) := dk_46 (dk_at dksX9_raises_0 15 rfl rfl)
theorem dX9_raises_16 : decode cX9_raises 16 = .ok (.isub, 1) := dk_100 (dk_at dksX9_raises_0 16 rfl rfl)
theorem dX9_raises_17 : decode cX9_raises 17 = .ok (.istore 4, 2) := dk_54 4 (dk_at dksX9_raises_0 17 rfl rfl)
theorem dX9_raises_19 : decode cX9_raises 19 = .ok (.iload 4, 2) := dk_21 4 (dk_at dksX9_raises_0 19 rfl rfl)
theorem dX9_raises_21 : decode cX9_raises 21 = .ok (.iload_n 2, 1) := dk_28 (dk_at dksX9_raises_0 21 rfl rfl)
theorem dX9_raises_22 : decode cX9_raises 22 = .ok (.if_icmp .ge 8, 3) := dk_162 0 8 (dk_at dksX9_raises_1 0 rfl rfl)
theorem dX9_raises_25 : decode cX9_raises 25 = .ok (.iload 4, 2) := dk_21 4 (dk_at dksX9_raises_1 3 rfl rfl)
theorem dX9_raises_27 : decode cX9_raises 27 = .ok (.goto 4, 3) := dk_167 0 4 (dk_at dksX9_raises_1 5 rfl rfl)
theorem dX9_raises_30 : decode cX9_raises 30 = .ok (.iload_n 2, 1) := dk_28 (dk_at dksX9_raises_1 8 rfl rfl)
theorem dX9_raises_31 : decode cX9_raises 31 = .ok (.istore 4, 2) := dk_54 4 (dk_at dksX9_raises_1 9 rfl rfl)
theorem dX9_raises_33 : decode cX9_raises 33 = .ok (.iload 4, 2) := dk_21 4 (dk_at dksX9_raises_1 11 rfl rfl)
theorem dX9_raises_35 : decode cX9_raises 35 = .ok (.aload_n 0, 1) := dk_42 (dk_at dksX9_raises_1 13 rfl rfl)
theorem dX9_raises_36 : decode cX9_raises 36 = .ok (.invokestatic 81, 3) := dk_184 0 81 (dk_at dksX9_raises_1 14 rfl rfl)
theorem dX9_raises_39 : decode cX9_raises 39 = .ok (.if_icmp .ge 8, 3) := dk_162 0 8 (dk_at dksX9_raises_1 17 rfl rfl)
theorem dX9_raises_42 : decode cX9_raises 42 = .ok (.iload 4, 2) := dk_21 4 (dk_at dksX9_raises_1 20 rfl rfl)
theorem dX9_raises_44 : decode cX9_raises 44 = .ok (.goto 7, 3) := dk_167 0 7 (dk_at dksX9_raises_2 0 rfl rfl)
theorem dX9_raises_47 : decode cX9_raises 47 = .ok (.aload_n 0, 1) := dk_42 (dk_at dksX9_raises_2 3 rfl rfl)
theorem dX9_raises_48 : decode cX9_raises 48 = .ok (.invokestatic 81, 3) := dk_184 0 81 (dk_at dksX9_raises_2 4 rfl rfl)
theorem dX9_raises_51 : decode cX9_raises 51 = .ok (.istore 4, 2) := dk_54 4 (dk_at dksX9_raises_2 7 rfl rfl)
theorem dX9_raises_53 : decode cX9_raises 53 = .ok (.aload_n 0, 1) := dk_42 (dk_at dksX9_raises_2 9 rfl rfl)
theorem dX9_raises_54 : decode cX9_raises 54 = .ok (.iload_n 3, 1) := dk_29 (dk_at dksX9_raises_2 10 rfl rfl)
theorem dX9_raises_55 : decode cX9_raises 55 = .ok (.iconst 2, 1) := dk_5 (dk_at dksX9_raises_2 11 rfl rfl)
theorem dX9_raises_56 : decode cX9_raises 56 = .ok (.iadd, 1) := dk_96 (dk_at dksX9_raises_2 12 rfl rfl)
theorem dX9_raises_57 : decode cX9_raises 57 = .ok (.dup2, 1) := dk_92 (dk_at dksX9_raises_2 13 rfl rfl)
theorem dX9_raises_58 : decode cX9_raises 58 = .ok (.iaload, 1) := dk_46 (dk_at dksX9_raises_2 14 rfl rfl)
theorem dX9_raises_59 : decode cX9_raises 59 = .ok (.iload 4, 2) := dk_21 4 (dk_at dksX9_raises_2 15 rfl rfl)
theorem dX9_raises_61 : decode cX9_raises 61 = .ok (.iadd, 1) := dk_96 (dk_at dksX9_raises_2 17 rfl rfl)
theorem dX9_raises_62 : decode cX9_raises 62 = .ok (.iastore, 1) := dk_79 (dk_at dksX9_raises_2 18 rfl rfl)
theorem dX9_raises_63 : decode cX9_raises 63 = .ok (.aload_n 0, 1) := dk_42 (dk_at dksX9_raises_2 19 rfl rfl)
theorem dX9_raises_64 : decode cX9_raises 64 = .ok (.bipush 8, 2) := dk_16 8 (dk_at dksX9_raises_2 20 rfl rfl)
theorem dX9_raises_66 : decode cX9_raises 66 = .ok (.iconst 3, 1) := dk_6 (dk_at dksX9_raises_2 22 rfl rfl)
theorem dX9_raises_67 : decode cX9_raises 67 = .ok (.aload_n 0, 1) := dk_42 (dk_at dksX9_raises_2 23 rfl rfl)
theorem dX9_raises_68 : decode cX9_raises 68 = .ok (.iconst 5, 1) := dk_8 (dk_at dksX9_raises_3 0 rfl rfl)
theorem dX9_raises_69 : decode cX9_raises 69 = .ok (.iaload, 1) := dk_46 (dk_at dksX9_raises_3 1 rfl rfl)
theorem dX9_raises_70 : decode cX9_raises 70 = .ok (.imul, 1) := dk_104 (dk_at dksX9_raises_3 2 rfl rfl)
theorem dX9_raises_71 : decode cX9_raises 71 = .ok (.iadd, 1) := dk_96 (dk_at dksX9_raises_3 3 rfl rfl)
theorem dX9_raises_72 : decode cX9_raises 72 = .ok (.dup2, 1) := dk_92 (dk_at dksX9_raises_3 4 rfl rfl)
theorem dX9_raises_73 : decode cX9_raises 73 = .ok (.iaload, 1) := dk_46 (dk_at dksX9_raises_3 5 rfl rfl)
theorem dX9_raises_74 : decode cX9_raises 74 = .ok (.iload 4, 2) := dk_21 4 (dk_at dksX9_raises_3 6 rfl rfl)
theorem dX9_raises_76 : decode cX9_raises 76 = .ok (.isub, 1) := dk_100 (dk_at dksX9_raises_3 8 rfl rfl)
theorem dX9_raises_77 : decode cX9_raises 77 = .ok (.iastore, 1) := dk_79 (dk_at dksX9_raises_3 9 rfl rfl)
theorem dX9_raises_78 : decode cX9_raises 78 = .ok (.aload_n 0, 1) := dk_42 (dk_at dksX9_raises_3 10 rfl rfl)
theorem dX9_raises_79 : decode cX9_raises 79 = .ok (.bipush 8, 2) := dk_16 8 (dk_at dksX9_raises_3 11 rfl rfl)
theorem dX9_raises_81 : decode cX9_raises 81 = .ok (.iconst 3, 1) := dk_6 (dk_at dksX9_raises_3 13 rfl rfl)
theorem dX9_raises_82 : decode cX9_raises 82 = .ok (.aload_n 0, 1) := dk_42 (dk_at dksX9_raises_3 14 rfl rfl)
theorem dX9_raises_83 : decode cX9_raises 83 = .ok (.iconst 5, 1) := dk_8 (dk_at dksX9_raises_3 15 rfl rfl)
theorem dX9_raises_84 : decode cX9_raises 84 = .ok (.iaload, 1) := dk_46 (dk_at dksX9_raises_3 16 rfl rfl)
theorem dX9_raises_85 : decode cX9_raises 85 = .ok (.imul, 1) := dk_104 (dk_at dksX9_raises_3 17 rfl rfl)
theorem dX9_raises_86 : decode cX9_raises 86 = .ok (.iadd, 1) := dk_96 (dk_at dksX9_raises_3 18 rfl rfl)
theorem dX9_raises_87 : decode cX9_raises 87 = .ok (.iconst 1, 1) := dk_4 (dk_at dksX9_raises_3 19 rfl rfl)
theorem dX9_raises_88 : decode cX9_raises 88 = .ok (.iadd, 1) := dk_96 (dk_at dksX9_raises_3 20 rfl rfl)
theorem dX9_raises_89 : decode cX9_raises 89 = .ok (.dup2, 1) := dk_92 (dk_at dksX9_raises_3 21 rfl rfl)
theorem dX9_raises_90 : decode cX9_raises 90 = .ok (.iaload, 1) := dk_46 (dk_at dksX9_raises_3 22 rfl rfl)
theorem dX9_raises_91 : decode cX9_raises 91 = .ok (.iload 4, 2) := dk_21 4 (dk_at dksX9_raises_4 0 rfl rfl)
theorem dX9_raises_93 : decode cX9_raises 93 = .ok (.iadd, 1) := dk_96 (dk_at dksX9_raises_4 2 rfl rfl)
theorem dX9_raises_94 : decode cX9_raises 94 = .ok (.iastore, 1) := dk_79 (dk_at dksX9_raises_4 3 rfl rfl)
theorem dX9_raises_95 : decode cX9_raises 95 = .ok (.iload 4, 2) := dk_21 4 (dk_at dksX9_raises_4 4 rfl rfl)
theorem dX9_raises_97 : decode cX9_raises 97 = .ok (.ireturn, 1) := dk_172 (dk_at dksX9_raises_4 6 rfl rfl)
abbrev cX9_siltIn : ByteArray := prog_15_method_22_code
def yX9_siltIn : MethodName := ⟨RX9, "siltIn", "([I)I"⟩
def dkwX9_siltIn_0 : List UInt8 := [42, 16, 8, 6, 42, 8, 46, 104, 96, 46, 172]
abbrev dktX9_siltIn_0 : List UInt8 := dkwX9_siltIn_0 ++ []
theorem dksX9_siltIn_0 : cX9_siltIn.data.toList.drop 0 = dktX9_siltIn_0 := by decide +kernel
theorem dX9_siltIn_0 : decode cX9_siltIn 0 = .ok (.aload_n 0, 1) := dk_42 (dk_at dksX9_siltIn_0 0 rfl rfl)
theorem dX9_siltIn_1 : decode cX9_siltIn 1 = .ok (.bipush 8, 2) := dk_16 8 (dk_at dksX9_siltIn_0 1 rfl rfl)
theorem dX9_siltIn_3 : decode cX9_siltIn 3 = .ok (.iconst 3, 1) := dk_6 (dk_at dksX9_siltIn_0 3 rfl rfl)
theorem dX9_siltIn_4 : decode cX9_siltIn 4 = .ok (.aload_n 0, 1) := dk_42 (dk_at dksX9_siltIn_0 4 rfl rfl)
theorem dX9_siltIn_5 : decode cX9_siltIn 5 = .ok (.iconst 5, 1) := dk_8 (dk_at dksX9_siltIn_0 5 rfl rfl)
theorem dX9_siltIn_6 : decode cX9_siltIn 6 = .ok (.iaload, 1) := dk_46 (dk_at dksX9_siltIn_0 6 rfl rfl)
theorem dX9_siltIn_7 : decode cX9_siltIn 7 = .ok (.imul, 1) := dk_104 (dk_at dksX9_siltIn_0 7 rfl rfl)
theorem dX9_siltIn_8 : decode cX9_siltIn 8 = .ok (.iadd, 1) := dk_96 (dk_at dksX9_siltIn_0 8 rfl rfl)
theorem dX9_siltIn_9 : decode cX9_siltIn 9 = .ok (.iaload, 1) := dk_46 (dk_at dksX9_siltIn_0 9 rfl rfl)
theorem dX9_siltIn_10 : decode cX9_siltIn 10 = .ok (.ireturn, 1) := dk_172 (dk_at dksX9_siltIn_0 10 rfl rfl)
abbrev cX9_wantsToGo : ByteArray := prog_15_method_27_code
def yX9_wantsToGo : MethodName := ⟨RX9, "wantsToGo", "([II)Z"⟩
def dkwX9_wantsToGo_1 : List UInt8 := [184, 0, 81, 154, 0, 7, 4, 167, 0, 4, 3, 172]
abbrev dktX9_wantsToGo_1 : List UInt8 := dkwX9_wantsToGo_1 ++ []
def dkwX9_wantsToGo_0 : List UInt8 := [42, 27, 5, 184, 0, 58, 61, 28, 42, 27, 3, 184, 0, 58, 159, 0, 14, 28, 158, 0, 14, 42]
abbrev dktX9_wantsToGo_0 : List UInt8 := dkwX9_wantsToGo_0 ++ dktX9_wantsToGo_1
theorem dksX9_wantsToGo_0 : cX9_wantsToGo.data.toList.drop 0 = dktX9_wantsToGo_0 := by decide +kernel
theorem dksX9_wantsToGo_1 : cX9_wantsToGo.data.toList.drop 22 = dktX9_wantsToGo_1 := dk_seg dksX9_wantsToGo_0 22 rfl rfl
theorem dX9_wantsToGo_0 : decode cX9_wantsToGo 0 = .ok (.aload_n 0, 1) := dk_42 (dk_at dksX9_wantsToGo_0 0 rfl rfl)
theorem dX9_wantsToGo_1 : decode cX9_wantsToGo 1 = .ok (.iload_n 1, 1) := dk_27 (dk_at dksX9_wantsToGo_0 1 rfl rfl)
theorem dX9_wantsToGo_2 : decode cX9_wantsToGo 2 = .ok (.iconst 2, 1) := dk_5 (dk_at dksX9_wantsToGo_0 2 rfl rfl)
theorem dX9_wantsToGo_3 : decode cX9_wantsToGo 3 = .ok (.invokestatic 58, 3) := dk_184 0 58 (dk_at dksX9_wantsToGo_0 3 rfl rfl)
theorem dX9_wantsToGo_6 : decode cX9_wantsToGo 6 = .ok (.istore_n 2, 1) := dk_61 (dk_at dksX9_wantsToGo_0 6 rfl rfl)
theorem dX9_wantsToGo_7 : decode cX9_wantsToGo 7 = .ok (.iload_n 2, 1) := dk_28 (dk_at dksX9_wantsToGo_0 7 rfl rfl)
theorem dX9_wantsToGo_8 : decode cX9_wantsToGo 8 = .ok (.aload_n 0, 1) := dk_42 (dk_at dksX9_wantsToGo_0 8 rfl rfl)
theorem dX9_wantsToGo_9 : decode cX9_wantsToGo 9 = .ok (.iload_n 1, 1) := dk_27 (dk_at dksX9_wantsToGo_0 9 rfl rfl)
theorem dX9_wantsToGo_10 : decode cX9_wantsToGo 10 = .ok (.iconst 0, 1) := dk_3 (dk_at dksX9_wantsToGo_0 10 rfl rfl)
theorem dX9_wantsToGo_11 : decode cX9_wantsToGo 11 = .ok (.invokestatic 58, 3) := dk_184 0 58 (dk_at dksX9_wantsToGo_0 11 rfl rfl)
theorem dX9_wantsToGo_14 : decode cX9_wantsToGo 14 = .ok (.if_icmp .eq 14, 3) := dk_159 0 14 (dk_at dksX9_wantsToGo_0 14 rfl rfl)
theorem dX9_wantsToGo_17 : decode cX9_wantsToGo 17 = .ok (.iload_n 2, 1) := dk_28 (dk_at dksX9_wantsToGo_0 17 rfl rfl)
theorem dX9_wantsToGo_18 : decode cX9_wantsToGo 18 = .ok (.ifCond .le 14, 3) := dk_158 0 14 (dk_at dksX9_wantsToGo_0 18 rfl rfl)
theorem dX9_wantsToGo_21 : decode cX9_wantsToGo 21 = .ok (.aload_n 0, 1) := dk_42 (dk_at dksX9_wantsToGo_0 21 rfl rfl)
theorem dX9_wantsToGo_22 : decode cX9_wantsToGo 22 = .ok (.invokestatic 81, 3) := dk_184 0 81 (dk_at dksX9_wantsToGo_1 0 rfl rfl)
theorem dX9_wantsToGo_25 : decode cX9_wantsToGo 25 = .ok (.ifCond .ne 7, 3) := dk_154 0 7 (dk_at dksX9_wantsToGo_1 3 rfl rfl)
theorem dX9_wantsToGo_28 : decode cX9_wantsToGo 28 = .ok (.iconst 1, 1) := dk_4 (dk_at dksX9_wantsToGo_1 6 rfl rfl)
theorem dX9_wantsToGo_29 : decode cX9_wantsToGo 29 = .ok (.goto 4, 3) := dk_167 0 4 (dk_at dksX9_wantsToGo_1 7 rfl rfl)
theorem dX9_wantsToGo_32 : decode cX9_wantsToGo 32 = .ok (.iconst 0, 1) := dk_3 (dk_at dksX9_wantsToGo_1 10 rfl rfl)
theorem dX9_wantsToGo_33 : decode cX9_wantsToGo 33 = .ok (.ireturn, 1) := dk_172 (dk_at dksX9_wantsToGo_1 11 rfl rfl)
abbrev cX9_goes : ByteArray := prog_15_method_29_code
def yX9_goes : MethodName := ⟨RX9, "goes", "([II)V"⟩
def dkwX9_goes_1 : List UInt8 := [79, 42, 29, 6, 96, 28, 79, 42, 29, 7, 96, 42, 28, 184, 0, 72, 79, 177]
abbrev dktX9_goes_1 : List UInt8 := dkwX9_goes_1 ++ []
def dkwX9_goes_0 : List UInt8 := [42, 27, 184, 0, 88, 61, 28, 2, 159, 0, 33, 16, 26, 16, 7, 27, 104, 96, 62, 42, 29, 4, 96, 4]
abbrev dktX9_goes_0 : List UInt8 := dkwX9_goes_0 ++ dktX9_goes_1
theorem dksX9_goes_0 : cX9_goes.data.toList.drop 0 = dktX9_goes_0 := by decide +kernel
theorem dksX9_goes_1 : cX9_goes.data.toList.drop 24 = dktX9_goes_1 := dk_seg dksX9_goes_0 24 rfl rfl
theorem dX9_goes_0 : decode cX9_goes 0 = .ok (.aload_n 0, 1) := dk_42 (dk_at dksX9_goes_0 0 rfl rfl)
theorem dX9_goes_1 : decode cX9_goes 1 = .ok (.iload_n 1, 1) := dk_27 (dk_at dksX9_goes_0 1 rfl rfl)
theorem dX9_goes_2 : decode cX9_goes 2 = .ok (.invokestatic 88, 3) := dk_184 0 88 (dk_at dksX9_goes_0 2 rfl rfl)
theorem dX9_goes_5 : decode cX9_goes 5 = .ok (.istore_n 2, 1) := dk_61 (dk_at dksX9_goes_0 5 rfl rfl)
theorem dX9_goes_6 : decode cX9_goes 6 = .ok (.iload_n 2, 1) := dk_28 (dk_at dksX9_goes_0 6 rfl rfl)
theorem dX9_goes_7 : decode cX9_goes 7 = .ok (.iconst (-1), 1) := dk_2 (dk_at dksX9_goes_0 7 rfl rfl)
theorem dX9_goes_8 : decode cX9_goes 8 = .ok (.if_icmp .eq 33, 3) := dk_159 0 33 (dk_at dksX9_goes_0 8 rfl rfl)
theorem dX9_goes_11 : decode cX9_goes 11 = .ok (.bipush 26, 2) := dk_16 26 (dk_at dksX9_goes_0 11 rfl rfl)
theorem dX9_goes_13 : decode cX9_goes 13 = .ok (.bipush 7, 2) := dk_16 7 (dk_at dksX9_goes_0 13 rfl rfl)
theorem dX9_goes_15 : decode cX9_goes 15 = .ok (.iload_n 1, 1) := dk_27 (dk_at dksX9_goes_0 15 rfl rfl)
theorem dX9_goes_16 : decode cX9_goes 16 = .ok (.imul, 1) := dk_104 (dk_at dksX9_goes_0 16 rfl rfl)
theorem dX9_goes_17 : decode cX9_goes 17 = .ok (.iadd, 1) := dk_96 (dk_at dksX9_goes_0 17 rfl rfl)
theorem dX9_goes_18 : decode cX9_goes 18 = .ok (.istore_n 3, 1) := dk_62 (dk_at dksX9_goes_0 18 rfl rfl)
theorem dX9_goes_19 : decode cX9_goes 19 = .ok (.aload_n 0, 1) := dk_42 (dk_at dksX9_goes_0 19 rfl rfl)
theorem dX9_goes_20 : decode cX9_goes 20 = .ok (.iload_n 3, 1) := dk_29 (dk_at dksX9_goes_0 20 rfl rfl)
theorem dX9_goes_21 : decode cX9_goes 21 = .ok (.iconst 1, 1) := dk_4 (dk_at dksX9_goes_0 21 rfl rfl)
theorem dX9_goes_22 : decode cX9_goes 22 = .ok (.iadd, 1) := dk_96 (dk_at dksX9_goes_0 22 rfl rfl)
theorem dX9_goes_23 : decode cX9_goes 23 = .ok (.iconst 1, 1) := dk_4 (dk_at dksX9_goes_0 23 rfl rfl)
theorem dX9_goes_24 : decode cX9_goes 24 = .ok (.iastore, 1) := dk_79 (dk_at dksX9_goes_1 0 rfl rfl)
theorem dX9_goes_25 : decode cX9_goes 25 = .ok (.aload_n 0, 1) := dk_42 (dk_at dksX9_goes_1 1 rfl rfl)
theorem dX9_goes_26 : decode cX9_goes 26 = .ok (.iload_n 3, 1) := dk_29 (dk_at dksX9_goes_1 2 rfl rfl)
theorem dX9_goes_27 : decode cX9_goes 27 = .ok (.iconst 3, 1) := dk_6 (dk_at dksX9_goes_1 3 rfl rfl)
theorem dX9_goes_28 : decode cX9_goes 28 = .ok (.iadd, 1) := dk_96 (dk_at dksX9_goes_1 4 rfl rfl)
theorem dX9_goes_29 : decode cX9_goes 29 = .ok (.iload_n 2, 1) := dk_28 (dk_at dksX9_goes_1 5 rfl rfl)
theorem dX9_goes_30 : decode cX9_goes 30 = .ok (.iastore, 1) := dk_79 (dk_at dksX9_goes_1 6 rfl rfl)
theorem dX9_goes_31 : decode cX9_goes 31 = .ok (.aload_n 0, 1) := dk_42 (dk_at dksX9_goes_1 7 rfl rfl)
theorem dX9_goes_32 : decode cX9_goes 32 = .ok (.iload_n 3, 1) := dk_29 (dk_at dksX9_goes_1 8 rfl rfl)
theorem dX9_goes_33 : decode cX9_goes 33 = .ok (.iconst 4, 1) := dk_7 (dk_at dksX9_goes_1 9 rfl rfl)
theorem dX9_goes_34 : decode cX9_goes 34 = .ok (.iadd, 1) := dk_96 (dk_at dksX9_goes_1 10 rfl rfl)
theorem dX9_goes_35 : decode cX9_goes 35 = .ok (.aload_n 0, 1) := dk_42 (dk_at dksX9_goes_1 11 rfl rfl)
theorem dX9_goes_36 : decode cX9_goes 36 = .ok (.iload_n 2, 1) := dk_28 (dk_at dksX9_goes_1 12 rfl rfl)
theorem dX9_goes_37 : decode cX9_goes 37 = .ok (.invokestatic 72, 3) := dk_184 0 72 (dk_at dksX9_goes_1 13 rfl rfl)
theorem dX9_goes_40 : decode cX9_goes 40 = .ok (.iastore, 1) := dk_79 (dk_at dksX9_goes_1 16 rfl rfl)
theorem dX9_goes_41 : decode cX9_goes 41 = .ok (.return_, 1) := dk_177 (dk_at dksX9_goes_1 17 rfl rfl)
abbrev cX9_goal : ByteArray := prog_15_method_28_code
def yX9_goal : MethodName := ⟨RX9, "goal", "([II)I"⟩
def dkwX9_goal_0 : List UInt8 := [42, 27, 8, 184, 0, 58, 2, 159, 0, 12, 42, 27, 8, 184, 0, 58, 167, 0, 7, 42, 184, 0, 85, 172]
abbrev dktX9_goal_0 : List UInt8 := dkwX9_goal_0 ++ []
theorem dksX9_goal_0 : cX9_goal.data.toList.drop 0 = dktX9_goal_0 := by decide +kernel
theorem dX9_goal_0 : decode cX9_goal 0 = .ok (.aload_n 0, 1) := dk_42 (dk_at dksX9_goal_0 0 rfl rfl)
theorem dX9_goal_1 : decode cX9_goal 1 = .ok (.iload_n 1, 1) := dk_27 (dk_at dksX9_goal_0 1 rfl rfl)
theorem dX9_goal_2 : decode cX9_goal 2 = .ok (.iconst 5, 1) := dk_8 (dk_at dksX9_goal_0 2 rfl rfl)
theorem dX9_goal_3 : decode cX9_goal 3 = .ok (.invokestatic 58, 3) := dk_184 0 58 (dk_at dksX9_goal_0 3 rfl rfl)
theorem dX9_goal_6 : decode cX9_goal 6 = .ok (.iconst (-1), 1) := dk_2 (dk_at dksX9_goal_0 6 rfl rfl)
theorem dX9_goal_7 : decode cX9_goal 7 = .ok (.if_icmp .eq 12, 3) := dk_159 0 12 (dk_at dksX9_goal_0 7 rfl rfl)
theorem dX9_goal_10 : decode cX9_goal 10 = .ok (.aload_n 0, 1) := dk_42 (dk_at dksX9_goal_0 10 rfl rfl)
theorem dX9_goal_11 : decode cX9_goal 11 = .ok (.iload_n 1, 1) := dk_27 (dk_at dksX9_goal_0 11 rfl rfl)
theorem dX9_goal_12 : decode cX9_goal 12 = .ok (.iconst 5, 1) := dk_8 (dk_at dksX9_goal_0 12 rfl rfl)
theorem dX9_goal_13 : decode cX9_goal 13 = .ok (.invokestatic 58, 3) := dk_184 0 58 (dk_at dksX9_goal_0 13 rfl rfl)
theorem dX9_goal_16 : decode cX9_goal 16 = .ok (.goto 7, 3) := dk_167 0 7 (dk_at dksX9_goal_0 16 rfl rfl)
theorem dX9_goal_19 : decode cX9_goal 19 = .ok (.aload_n 0, 1) := dk_42 (dk_at dksX9_goal_0 19 rfl rfl)
theorem dX9_goal_20 : decode cX9_goal 20 = .ok (.invokestatic 85, 3) := dk_184 0 85 (dk_at dksX9_goal_0 20 rfl rfl)
theorem dX9_goal_23 : decode cX9_goal 23 = .ok (.ireturn, 1) := dk_172 (dk_at dksX9_goal_0 23 rfl rfl)
abbrev cX9_bestOf : ByteArray := prog_15_method_20_code
def yX9_bestOf : MethodName := ⟨RX9, "bestOf", "([I)I"⟩
def dkwX9_bestOf_3 : List UInt8 := [132, 2, 1, 167, 255, 190, 27, 172]
abbrev dktX9_bestOf_3 : List UInt8 := dkwX9_bestOf_3 ++ []
def dkwX9_bestOf_2 : List UInt8 := [159, 0, 16, 42, 28, 184, 0, 72, 42, 27, 184, 0, 72, 162, 0, 7, 28, 167, 0, 4, 27, 60]
abbrev dktX9_bestOf_2 : List UInt8 := dkwX9_bestOf_2 ++ dktX9_bestOf_3
def dkwX9_bestOf_1 : List UInt8 := [154, 0, 15, 42, 28, 184, 0, 68, 158, 0, 7, 4, 167, 0, 4, 3, 62, 29, 153, 0, 25, 27, 2]
abbrev dktX9_bestOf_1 : List UInt8 := dkwX9_bestOf_1 ++ dktX9_bestOf_2
def dkwX9_bestOf_0 : List UInt8 := [2, 60, 3, 61, 28, 8, 162, 0, 67, 42, 28, 184, 0, 61, 153, 0, 23, 42, 28, 184, 0, 65]
abbrev dktX9_bestOf_0 : List UInt8 := dkwX9_bestOf_0 ++ dktX9_bestOf_1
theorem dksX9_bestOf_0 : cX9_bestOf.data.toList.drop 0 = dktX9_bestOf_0 := by decide +kernel
theorem dksX9_bestOf_1 : cX9_bestOf.data.toList.drop 22 = dktX9_bestOf_1 := dk_seg dksX9_bestOf_0 22 rfl rfl
theorem dksX9_bestOf_2 : cX9_bestOf.data.toList.drop 45 = dktX9_bestOf_2 := dk_seg dksX9_bestOf_1 23 rfl rfl
theorem dksX9_bestOf_3 : cX9_bestOf.data.toList.drop 67 = dktX9_bestOf_3 := dk_seg dksX9_bestOf_2 22 rfl rfl
theorem dX9_bestOf_0 : decode cX9_bestOf 0 = .ok (.iconst (-1), 1) := dk_2 (dk_at dksX9_bestOf_0 0 rfl rfl)
theorem dX9_bestOf_1 : decode cX9_bestOf 1 = .ok (.istore_n 1, 1) := dk_60 (dk_at dksX9_bestOf_0 1 rfl rfl)
theorem dX9_bestOf_2 : decode cX9_bestOf 2 = .ok (.iconst 0, 1) := dk_3 (dk_at dksX9_bestOf_0 2 rfl rfl)
theorem dX9_bestOf_3 : decode cX9_bestOf 3 = .ok (.istore_n 2, 1) := dk_61 (dk_at dksX9_bestOf_0 3 rfl rfl)
theorem dX9_bestOf_4 : decode cX9_bestOf 4 = .ok (.iload_n 2, 1) := dk_28 (dk_at dksX9_bestOf_0 4 rfl rfl)
theorem dX9_bestOf_5 : decode cX9_bestOf 5 = .ok (.iconst 5, 1) := dk_8 (dk_at dksX9_bestOf_0 5 rfl rfl)
theorem dX9_bestOf_6 : decode cX9_bestOf 6 = .ok (.if_icmp .ge 67, 3) := dk_162 0 67 (dk_at dksX9_bestOf_0 6 rfl rfl)
theorem dX9_bestOf_9 : decode cX9_bestOf 9 = .ok (.aload_n 0, 1) := dk_42 (dk_at dksX9_bestOf_0 9 rfl rfl)
theorem dX9_bestOf_10 : decode cX9_bestOf 10 = .ok (.iload_n 2, 1) := dk_28 (dk_at dksX9_bestOf_0 10 rfl rfl)
theorem dX9_bestOf_11 : decode cX9_bestOf 11 = .ok (.invokestatic 61, 3) := dk_184 0 61 (dk_at dksX9_bestOf_0 11 rfl rfl)
theorem dX9_bestOf_14 : decode cX9_bestOf 14 = .ok (.ifCond .eq 23, 3) := dk_153 0 23 (dk_at dksX9_bestOf_0 14 rfl rfl)
theorem dX9_bestOf_17 : decode cX9_bestOf 17 = .ok (.aload_n 0, 1) := dk_42 (dk_at dksX9_bestOf_0 17 rfl rfl)
theorem dX9_bestOf_18 : decode cX9_bestOf 18 = .ok (.iload_n 2, 1) := dk_28 (dk_at dksX9_bestOf_0 18 rfl rfl)
theorem dX9_bestOf_19 : decode cX9_bestOf 19 = .ok (.invokestatic 65, 3) := dk_184 0 65 (dk_at dksX9_bestOf_0 19 rfl rfl)
theorem dX9_bestOf_22 : decode cX9_bestOf 22 = .ok (.ifCond .ne 15, 3) := dk_154 0 15 (dk_at dksX9_bestOf_1 0 rfl rfl)
theorem dX9_bestOf_25 : decode cX9_bestOf 25 = .ok (.aload_n 0, 1) := dk_42 (dk_at dksX9_bestOf_1 3 rfl rfl)
theorem dX9_bestOf_26 : decode cX9_bestOf 26 = .ok (.iload_n 2, 1) := dk_28 (dk_at dksX9_bestOf_1 4 rfl rfl)
theorem dX9_bestOf_27 : decode cX9_bestOf 27 = .ok (.invokestatic 68, 3) := dk_184 0 68 (dk_at dksX9_bestOf_1 5 rfl rfl)
theorem dX9_bestOf_30 : decode cX9_bestOf 30 = .ok (.ifCond .le 7, 3) := dk_158 0 7 (dk_at dksX9_bestOf_1 8 rfl rfl)
theorem dX9_bestOf_33 : decode cX9_bestOf 33 = .ok (.iconst 1, 1) := dk_4 (dk_at dksX9_bestOf_1 11 rfl rfl)
theorem dX9_bestOf_34 : decode cX9_bestOf 34 = .ok (.goto 4, 3) := dk_167 0 4 (dk_at dksX9_bestOf_1 12 rfl rfl)
theorem dX9_bestOf_37 : decode cX9_bestOf 37 = .ok (.iconst 0, 1) := dk_3 (dk_at dksX9_bestOf_1 15 rfl rfl)
theorem dX9_bestOf_38 : decode cX9_bestOf 38 = .ok (.istore_n 3, 1) := dk_62 (dk_at dksX9_bestOf_1 16 rfl rfl)
theorem dX9_bestOf_39 : decode cX9_bestOf 39 = .ok (.iload_n 3, 1) := dk_29 (dk_at dksX9_bestOf_1 17 rfl rfl)
theorem dX9_bestOf_40 : decode cX9_bestOf 40 = .ok (.ifCond .eq 25, 3) := dk_153 0 25 (dk_at dksX9_bestOf_1 18 rfl rfl)
theorem dX9_bestOf_43 : decode cX9_bestOf 43 = .ok (.iload_n 1, 1) := dk_27 (dk_at dksX9_bestOf_1 21 rfl rfl)
theorem dX9_bestOf_44 : decode cX9_bestOf 44 = .ok (.iconst (-1), 1) := dk_2 (dk_at dksX9_bestOf_1 22 rfl rfl)
theorem dX9_bestOf_45 : decode cX9_bestOf 45 = .ok (.if_icmp .eq 16, 3) := dk_159 0 16 (dk_at dksX9_bestOf_2 0 rfl rfl)
theorem dX9_bestOf_48 : decode cX9_bestOf 48 = .ok (.aload_n 0, 1) := dk_42 (dk_at dksX9_bestOf_2 3 rfl rfl)
theorem dX9_bestOf_49 : decode cX9_bestOf 49 = .ok (.iload_n 2, 1) := dk_28 (dk_at dksX9_bestOf_2 4 rfl rfl)
theorem dX9_bestOf_50 : decode cX9_bestOf 50 = .ok (.invokestatic 72, 3) := dk_184 0 72 (dk_at dksX9_bestOf_2 5 rfl rfl)
theorem dX9_bestOf_53 : decode cX9_bestOf 53 = .ok (.aload_n 0, 1) := dk_42 (dk_at dksX9_bestOf_2 8 rfl rfl)
theorem dX9_bestOf_54 : decode cX9_bestOf 54 = .ok (.iload_n 1, 1) := dk_27 (dk_at dksX9_bestOf_2 9 rfl rfl)
theorem dX9_bestOf_55 : decode cX9_bestOf 55 = .ok (.invokestatic 72, 3) := dk_184 0 72 (dk_at dksX9_bestOf_2 10 rfl rfl)
theorem dX9_bestOf_58 : decode cX9_bestOf 58 = .ok (.if_icmp .ge 7, 3) := dk_162 0 7 (dk_at dksX9_bestOf_2 13 rfl rfl)
theorem dX9_bestOf_61 : decode cX9_bestOf 61 = .ok (.iload_n 2, 1) := dk_28 (dk_at dksX9_bestOf_2 16 rfl rfl)
theorem dX9_bestOf_62 : decode cX9_bestOf 62 = .ok (.goto 4, 3) := dk_167 0 4 (dk_at dksX9_bestOf_2 17 rfl rfl)
theorem dX9_bestOf_65 : decode cX9_bestOf 65 = .ok (.iload_n 1, 1) := dk_27 (dk_at dksX9_bestOf_2 20 rfl rfl)
theorem dX9_bestOf_66 : decode cX9_bestOf 66 = .ok (.istore_n 1, 1) := dk_60 (dk_at dksX9_bestOf_2 21 rfl rfl)
theorem dX9_bestOf_67 : decode cX9_bestOf 67 = .ok (.iinc 2 1, 3) := dk_132 2 1 (dk_at dksX9_bestOf_3 0 rfl rfl)
theorem dX9_bestOf_70 : decode cX9_bestOf 70 = .ok (.goto (-66), 3) := dk_167 255 190 (dk_at dksX9_bestOf_3 3 rfl rfl)
theorem dX9_bestOf_73 : decode cX9_bestOf 73 = .ok (.iload_n 1, 1) := dk_27 (dk_at dksX9_bestOf_3 6 rfl rfl)
theorem dX9_bestOf_74 : decode cX9_bestOf 74 = .ok (.ireturn, 1) := dk_172 (dk_at dksX9_bestOf_3 7 rfl rfl)
abbrev cX9_room : ByteArray := prog_15_method_19_code
def yX9_room : MethodName := ⟨RX9, "room", "([II)I"⟩
def dkwX9_room_3 : List UInt8 := [156, 0, 7, 3, 167, 0, 4, 28, 172]
abbrev dktX9_room_3 : List UInt8 := dkwX9_room_3 ++ []
def dkwX9_room_2 : List UInt8 := [160, 0, 12, 42, 29, 5, 184, 0, 58, 167, 0, 4, 3, 100, 61, 132, 3, 1, 167, 255, 208, 28]
abbrev dktX9_room_2 : List UInt8 := dkwX9_room_2 ++ dktX9_room_3
def dkwX9_room_1 : List UInt8 := [28, 42, 29, 4, 184, 0, 58, 4, 5, 184, 0, 36, 153, 0, 22, 42, 29, 6, 184, 0, 58, 27]
abbrev dktX9_room_1 : List UInt8 := dkwX9_room_1 ++ dktX9_room_2
def dkwX9_room_0 : List UInt8 := [42, 27, 3, 184, 0, 54, 42, 27, 4, 184, 0, 54, 100, 61, 3, 62, 29, 42, 16, 6, 46, 162, 0, 46]
abbrev dktX9_room_0 : List UInt8 := dkwX9_room_0 ++ dktX9_room_1
theorem dksX9_room_0 : cX9_room.data.toList.drop 0 = dktX9_room_0 := by decide +kernel
theorem dksX9_room_1 : cX9_room.data.toList.drop 24 = dktX9_room_1 := dk_seg dksX9_room_0 24 rfl rfl
theorem dksX9_room_2 : cX9_room.data.toList.drop 46 = dktX9_room_2 := dk_seg dksX9_room_1 22 rfl rfl
theorem dksX9_room_3 : cX9_room.data.toList.drop 68 = dktX9_room_3 := dk_seg dksX9_room_2 22 rfl rfl
theorem dX9_room_0 : decode cX9_room 0 = .ok (.aload_n 0, 1) := dk_42 (dk_at dksX9_room_0 0 rfl rfl)
theorem dX9_room_1 : decode cX9_room 1 = .ok (.iload_n 1, 1) := dk_27 (dk_at dksX9_room_0 1 rfl rfl)
theorem dX9_room_2 : decode cX9_room 2 = .ok (.iconst 0, 1) := dk_3 (dk_at dksX9_room_0 2 rfl rfl)
theorem dX9_room_3 : decode cX9_room 3 = .ok (.invokestatic 54, 3) := dk_184 0 54 (dk_at dksX9_room_0 3 rfl rfl)
theorem dX9_room_6 : decode cX9_room 6 = .ok (.aload_n 0, 1) := dk_42 (dk_at dksX9_room_0 6 rfl rfl)
theorem dX9_room_7 : decode cX9_room 7 = .ok (.iload_n 1, 1) := dk_27 (dk_at dksX9_room_0 7 rfl rfl)
theorem dX9_room_8 : decode cX9_room 8 = .ok (.iconst 1, 1) := dk_4 (dk_at dksX9_room_0 8 rfl rfl)
theorem dX9_room_9 : decode cX9_room 9 = .ok (.invokestatic 54, 3) := dk_184 0 54 (dk_at dksX9_room_0 9 rfl rfl)
theorem dX9_room_12 : decode cX9_room 12 = .ok (.isub, 1) := dk_100 (dk_at dksX9_room_0 12 rfl rfl)
theorem dX9_room_13 : decode cX9_room 13 = .ok (.istore_n 2, 1) := dk_61 (dk_at dksX9_room_0 13 rfl rfl)
theorem dX9_room_14 : decode cX9_room 14 = .ok (.iconst 0, 1) := dk_3 (dk_at dksX9_room_0 14 rfl rfl)
theorem dX9_room_15 : decode cX9_room 15 = .ok (.istore_n 3, 1) := dk_62 (dk_at dksX9_room_0 15 rfl rfl)
theorem dX9_room_16 : decode cX9_room 16 = .ok (.iload_n 3, 1) := dk_29 (dk_at dksX9_room_0 16 rfl rfl)
theorem dX9_room_17 : decode cX9_room 17 = .ok (.aload_n 0, 1) := dk_42 (dk_at dksX9_room_0 17 rfl rfl)
theorem dX9_room_18 : decode cX9_room 18 = .ok (.bipush 6, 2) := dk_16 6 (dk_at dksX9_room_0 18 rfl rfl)
theorem dX9_room_20 : decode cX9_room 20 = .ok (.iaload, 1) := dk_46 (dk_at dksX9_room_0 20 rfl rfl)
theorem dX9_room_21 : decode cX9_room 21 = .ok (.if_icmp .ge 46, 3) := dk_162 0 46 (dk_at dksX9_room_0 21 rfl rfl)
theorem dX9_room_24 : decode cX9_room 24 = .ok (.iload_n 2, 1) := dk_28 (dk_at dksX9_room_1 0 rfl rfl)
theorem dX9_room_25 : decode cX9_room 25 = .ok (.aload_n 0, 1) := dk_42 (dk_at dksX9_room_1 1 rfl rfl)
theorem dX9_room_26 : decode cX9_room 26 = .ok (.iload_n 3, 1) := dk_29 (dk_at dksX9_room_1 2 rfl rfl)
theorem dX9_room_27 : decode cX9_room 27 = .ok (.iconst 1, 1) := dk_4 (dk_at dksX9_room_1 3 rfl rfl)
theorem dX9_room_28 : decode cX9_room 28 = .ok (.invokestatic 58, 3) := dk_184 0 58 (dk_at dksX9_room_1 4 rfl rfl)
theorem dX9_room_31 : decode cX9_room 31 = .ok (.iconst 1, 1) := dk_4 (dk_at dksX9_room_1 7 rfl rfl)
theorem dX9_room_32 : decode cX9_room 32 = .ok (.iconst 2, 1) := dk_5 (dk_at dksX9_room_1 8 rfl rfl)
theorem dX9_room_33 : decode cX9_room 33 = .ok (.invokestatic 36, 3) := dk_184 0 36 (dk_at dksX9_room_1 9 rfl rfl)
theorem dX9_room_36 : decode cX9_room 36 = .ok (.ifCond .eq 22, 3) := dk_153 0 22 (dk_at dksX9_room_1 12 rfl rfl)
theorem dX9_room_39 : decode cX9_room 39 = .ok (.aload_n 0, 1) := dk_42 (dk_at dksX9_room_1 15 rfl rfl)
theorem dX9_room_40 : decode cX9_room 40 = .ok (.iload_n 3, 1) := dk_29 (dk_at dksX9_room_1 16 rfl rfl)
theorem dX9_room_41 : decode cX9_room 41 = .ok (.iconst 3, 1) := dk_6 (dk_at dksX9_room_1 17 rfl rfl)
theorem dX9_room_42 : decode cX9_room 42 = .ok (.invokestatic 58, 3) := dk_184 0 58 (dk_at dksX9_room_1 18 rfl rfl)
theorem dX9_room_45 : decode cX9_room 45 = .ok (.iload_n 1, 1) := dk_27 (dk_at dksX9_room_1 21 rfl rfl)
theorem dX9_room_46 : decode cX9_room 46 = .ok (.if_icmp .ne 12, 3) := dk_160 0 12 (dk_at dksX9_room_2 0 rfl rfl)
theorem dX9_room_49 : decode cX9_room 49 = .ok (.aload_n 0, 1) := dk_42 (dk_at dksX9_room_2 3 rfl rfl)
theorem dX9_room_50 : decode cX9_room 50 = .ok (.iload_n 3, 1) := dk_29 (dk_at dksX9_room_2 4 rfl rfl)
theorem dX9_room_51 : decode cX9_room 51 = .ok (.iconst 2, 1) := dk_5 (dk_at dksX9_room_2 5 rfl rfl)
theorem dX9_room_52 : decode cX9_room 52 = .ok (.invokestatic 58, 3) := dk_184 0 58 (dk_at dksX9_room_2 6 rfl rfl)
theorem dX9_room_55 : decode cX9_room 55 = .ok (.goto 4, 3) := dk_167 0 4 (dk_at dksX9_room_2 9 rfl rfl)
theorem dX9_room_58 : decode cX9_room 58 = .ok (.iconst 0, 1) := dk_3 (dk_at dksX9_room_2 12 rfl rfl)
theorem dX9_room_59 : decode cX9_room 59 = .ok (.isub, 1) := dk_100 (dk_at dksX9_room_2 13 rfl rfl)
theorem dX9_room_60 : decode cX9_room 60 = .ok (.istore_n 2, 1) := dk_61 (dk_at dksX9_room_2 14 rfl rfl)
theorem dX9_room_61 : decode cX9_room 61 = .ok (.iinc 3 1, 3) := dk_132 3 1 (dk_at dksX9_room_2 15 rfl rfl)
theorem dX9_room_64 : decode cX9_room 64 = .ok (.goto (-48), 3) := dk_167 255 208 (dk_at dksX9_room_2 18 rfl rfl)
theorem dX9_room_67 : decode cX9_room 67 = .ok (.iload_n 2, 1) := dk_28 (dk_at dksX9_room_2 21 rfl rfl)
theorem dX9_room_68 : decode cX9_room 68 = .ok (.ifCond .ge 7, 3) := dk_156 0 7 (dk_at dksX9_room_3 0 rfl rfl)
theorem dX9_room_71 : decode cX9_room 71 = .ok (.iconst 0, 1) := dk_3 (dk_at dksX9_room_3 3 rfl rfl)
theorem dX9_room_72 : decode cX9_room 72 = .ok (.goto 4, 3) := dk_167 0 4 (dk_at dksX9_room_3 4 rfl rfl)
theorem dX9_room_75 : decode cX9_room 75 = .ok (.iload_n 2, 1) := dk_28 (dk_at dksX9_room_3 7 rfl rfl)
theorem dX9_room_76 : decode cX9_room 76 = .ok (.ireturn, 1) := dk_172 (dk_at dksX9_room_3 8 rfl rfl)
abbrev cX9_set : ByteArray := prog_15_method_50_code
def yX9_set : MethodName := ⟨RX9, "set", "(II)I"⟩
def dkwX9_set_1 : List UInt8 := [184, 0, 147, 154, 0, 9, 42, 5, 182, 0, 47, 172, 42, 182, 0, 51, 42, 27, 28, 182, 0, 122, 172]
abbrev dktX9_set_1 : List UInt8 := dkwX9_set_1 ++ []
def dkwX9_set_0 : List UInt8 := [42, 3, 181, 0, 32, 27, 3, 6, 184, 0, 36, 154, 0, 9, 42, 4, 182, 0, 47, 172, 27, 28]
abbrev dktX9_set_0 : List UInt8 := dkwX9_set_0 ++ dktX9_set_1
theorem dksX9_set_0 : cX9_set.data.toList.drop 0 = dktX9_set_0 := by decide +kernel
theorem dksX9_set_1 : cX9_set.data.toList.drop 22 = dktX9_set_1 := dk_seg dksX9_set_0 22 rfl rfl
theorem dX9_set_0 : decode cX9_set 0 = .ok (.aload_n 0, 1) := dk_42 (dk_at dksX9_set_0 0 rfl rfl)
theorem dX9_set_1 : decode cX9_set 1 = .ok (.iconst 0, 1) := dk_3 (dk_at dksX9_set_0 1 rfl rfl)
theorem dX9_set_2 : decode cX9_set 2 = .ok (.putfield 32, 3) := dk_181 0 32 (dk_at dksX9_set_0 2 rfl rfl)
theorem dX9_set_5 : decode cX9_set 5 = .ok (.iload_n 1, 1) := dk_27 (dk_at dksX9_set_0 5 rfl rfl)
theorem dX9_set_6 : decode cX9_set 6 = .ok (.iconst 0, 1) := dk_3 (dk_at dksX9_set_0 6 rfl rfl)
theorem dX9_set_7 : decode cX9_set 7 = .ok (.iconst 3, 1) := dk_6 (dk_at dksX9_set_0 7 rfl rfl)
theorem dX9_set_8 : decode cX9_set 8 = .ok (.invokestatic 36, 3) := dk_184 0 36 (dk_at dksX9_set_0 8 rfl rfl)
theorem dX9_set_11 : decode cX9_set 11 = .ok (.ifCond .ne 9, 3) := dk_154 0 9 (dk_at dksX9_set_0 11 rfl rfl)
theorem dX9_set_14 : decode cX9_set 14 = .ok (.aload_n 0, 1) := dk_42 (dk_at dksX9_set_0 14 rfl rfl)
theorem dX9_set_15 : decode cX9_set 15 = .ok (.iconst 1, 1) := dk_4 (dk_at dksX9_set_0 15 rfl rfl)
theorem dX9_set_16 : decode cX9_set 16 = .ok (.invokevirtual 47, 3) := dk_182 0 47 (dk_at dksX9_set_0 16 rfl rfl)
theorem dX9_set_19 : decode cX9_set 19 = .ok (.ireturn, 1) := dk_172 (dk_at dksX9_set_0 19 rfl rfl)
theorem dX9_set_20 : decode cX9_set 20 = .ok (.iload_n 1, 1) := dk_27 (dk_at dksX9_set_0 20 rfl rfl)
theorem dX9_set_21 : decode cX9_set 21 = .ok (.iload_n 2, 1) := dk_28 (dk_at dksX9_set_0 21 rfl rfl)
theorem dX9_set_22 : decode cX9_set 22 = .ok (.invokestatic 147, 3) := dk_184 0 147 (dk_at dksX9_set_1 0 rfl rfl)
theorem dX9_set_25 : decode cX9_set 25 = .ok (.ifCond .ne 9, 3) := dk_154 0 9 (dk_at dksX9_set_1 3 rfl rfl)
theorem dX9_set_28 : decode cX9_set 28 = .ok (.aload_n 0, 1) := dk_42 (dk_at dksX9_set_1 6 rfl rfl)
theorem dX9_set_29 : decode cX9_set 29 = .ok (.iconst 2, 1) := dk_5 (dk_at dksX9_set_1 7 rfl rfl)
theorem dX9_set_30 : decode cX9_set 30 = .ok (.invokevirtual 47, 3) := dk_182 0 47 (dk_at dksX9_set_1 8 rfl rfl)
theorem dX9_set_33 : decode cX9_set 33 = .ok (.ireturn, 1) := dk_172 (dk_at dksX9_set_1 11 rfl rfl)
theorem dX9_set_34 : decode cX9_set 34 = .ok (.aload_n 0, 1) := dk_42 (dk_at dksX9_set_1 12 rfl rfl)
theorem dX9_set_35 : decode cX9_set 35 = .ok (.invokevirtual 51, 3) := dk_182 0 51 (dk_at dksX9_set_1 13 rfl rfl)
theorem dX9_set_38 : decode cX9_set 38 = .ok (.aload_n 0, 1) := dk_42 (dk_at dksX9_set_1 16 rfl rfl)
theorem dX9_set_39 : decode cX9_set 39 = .ok (.iload_n 1, 1) := dk_27 (dk_at dksX9_set_1 17 rfl rfl)
theorem dX9_set_40 : decode cX9_set 40 = .ok (.iload_n 2, 1) := dk_28 (dk_at dksX9_set_1 18 rfl rfl)
theorem dX9_set_41 : decode cX9_set 41 = .ok (.invokevirtual 122, 3) := dk_182 0 122 (dk_at dksX9_set_1 19 rfl rfl)
theorem dX9_set_44 : decode cX9_set 44 = .ok (.ireturn, 1) := dk_172 (dk_at dksX9_set_1 22 rfl rfl)
abbrev cX9_isFor : ByteArray := prog_15_method_49_code
def yX9_isFor : MethodName := ⟨RX9, "isFor", "(II)Z"⟩
def dkwX9_isFor_3 : List UInt8 := [172, 27, 4, 16, 50, 184, 0, 36, 172]
abbrev dktX9_isFor_3 : List UInt8 := dkwX9_isFor_3 ++ []
def dkwX9_isFor_2 : List UInt8 := [27, 4, 16, 40, 184, 0, 36, 172, 27, 3, 16, 20, 184, 0, 36, 172, 27, 4, 17, 0, 200, 184, 0, 36]
abbrev dktX9_isFor_2 : List UInt8 := dkwX9_isFor_2 ++ dktX9_isFor_3
def dkwX9_isFor_1 : List UInt8 := [170, 0, 0, 0, 0, 0, 52, 0, 0, 0, 0, 0, 0, 0, 2, 0, 0, 0, 27, 0, 0, 0, 35, 0, 0, 0, 43]
abbrev dktX9_isFor_1 : List UInt8 := dkwX9_isFor_1 ++ dktX9_isFor_2
def dkwX9_isFor_0 : List UInt8 := [26]
abbrev dktX9_isFor_0 : List UInt8 := dkwX9_isFor_0 ++ dktX9_isFor_1
theorem dksX9_isFor_0 : cX9_isFor.data.toList.drop 0 = dktX9_isFor_0 := by decide +kernel
theorem dksX9_isFor_1 : cX9_isFor.data.toList.drop 1 = dktX9_isFor_1 := dk_seg dksX9_isFor_0 1 rfl rfl
theorem dksX9_isFor_2 : cX9_isFor.data.toList.drop 28 = dktX9_isFor_2 := dk_seg dksX9_isFor_1 27 rfl rfl
theorem dksX9_isFor_3 : cX9_isFor.data.toList.drop 52 = dktX9_isFor_3 := dk_seg dksX9_isFor_2 24 rfl rfl
theorem dX9_isFor_0 : decode cX9_isFor 0 = .ok (.iload_n 0, 1) := dk_26 (dk_at dksX9_isFor_0 0 rfl rfl)
theorem dX9_isFor_1 : decode cX9_isFor 1 = .ok (.tableswitch 52 0 2 #[27, 35, 43], 27) := by decide +kernel
theorem dX9_isFor_28 : decode cX9_isFor 28 = .ok (.iload_n 1, 1) := dk_27 (dk_at dksX9_isFor_2 0 rfl rfl)
theorem dX9_isFor_29 : decode cX9_isFor 29 = .ok (.iconst 1, 1) := dk_4 (dk_at dksX9_isFor_2 1 rfl rfl)
theorem dX9_isFor_30 : decode cX9_isFor 30 = .ok (.bipush 40, 2) := dk_16 40 (dk_at dksX9_isFor_2 2 rfl rfl)
theorem dX9_isFor_32 : decode cX9_isFor 32 = .ok (.invokestatic 36, 3) := dk_184 0 36 (dk_at dksX9_isFor_2 4 rfl rfl)
theorem dX9_isFor_35 : decode cX9_isFor 35 = .ok (.ireturn, 1) := dk_172 (dk_at dksX9_isFor_2 7 rfl rfl)
theorem dX9_isFor_36 : decode cX9_isFor 36 = .ok (.iload_n 1, 1) := dk_27 (dk_at dksX9_isFor_2 8 rfl rfl)
theorem dX9_isFor_37 : decode cX9_isFor 37 = .ok (.iconst 0, 1) := dk_3 (dk_at dksX9_isFor_2 9 rfl rfl)
theorem dX9_isFor_38 : decode cX9_isFor 38 = .ok (.bipush 20, 2) := dk_16 20 (dk_at dksX9_isFor_2 10 rfl rfl)
theorem dX9_isFor_40 : decode cX9_isFor 40 = .ok (.invokestatic 36, 3) := dk_184 0 36 (dk_at dksX9_isFor_2 12 rfl rfl)
theorem dX9_isFor_43 : decode cX9_isFor 43 = .ok (.ireturn, 1) := dk_172 (dk_at dksX9_isFor_2 15 rfl rfl)
theorem dX9_isFor_44 : decode cX9_isFor 44 = .ok (.iload_n 1, 1) := dk_27 (dk_at dksX9_isFor_2 16 rfl rfl)
theorem dX9_isFor_45 : decode cX9_isFor 45 = .ok (.iconst 1, 1) := dk_4 (dk_at dksX9_isFor_2 17 rfl rfl)
theorem dX9_isFor_46 : decode cX9_isFor 46 = .ok (.sipush 200, 3) := dk_17 0 200 (dk_at dksX9_isFor_2 18 rfl rfl)
theorem dX9_isFor_49 : decode cX9_isFor 49 = .ok (.invokestatic 36, 3) := dk_184 0 36 (dk_at dksX9_isFor_2 21 rfl rfl)
theorem dX9_isFor_52 : decode cX9_isFor 52 = .ok (.ireturn, 1) := dk_172 (dk_at dksX9_isFor_3 0 rfl rfl)
theorem dX9_isFor_53 : decode cX9_isFor 53 = .ok (.iload_n 1, 1) := dk_27 (dk_at dksX9_isFor_3 1 rfl rfl)
theorem dX9_isFor_54 : decode cX9_isFor 54 = .ok (.iconst 1, 1) := dk_4 (dk_at dksX9_isFor_3 2 rfl rfl)
theorem dX9_isFor_55 : decode cX9_isFor 55 = .ok (.bipush 50, 2) := dk_16 50 (dk_at dksX9_isFor_3 3 rfl rfl)
theorem dX9_isFor_57 : decode cX9_isFor 57 = .ok (.invokestatic 36, 3) := dk_184 0 36 (dk_at dksX9_isFor_3 5 rfl rfl)
theorem dX9_isFor_60 : decode cX9_isFor 60 = .ok (.ireturn, 1) := dk_172 (dk_at dksX9_isFor_3 8 rfl rfl)
abbrev cX9_append : ByteArray := prog_15_method_51_code
def yX9_append : MethodName := ⟨RX9, "append", "(I)I"⟩
def dkwX9_append_2 : List UInt8 := [42, 89, 180, 0, 151, 4, 96, 181, 0, 151, 42, 180, 0, 151, 172]
abbrev dktX9_append_2 : List UInt8 := dkwX9_append_2 ++ []
def dkwX9_append_1 : List UInt8 := [180, 0, 151, 16, 60, 160, 0, 9, 42, 5, 182, 0, 47, 172, 42, 180, 0, 26, 42, 180, 0, 151, 27, 79]
abbrev dktX9_append_1 : List UInt8 := dkwX9_append_1 ++ dktX9_append_2
def dkwX9_append_0 : List UInt8 := [42, 3, 181, 0, 32, 27, 16, 33, 16, 126, 184, 0, 36, 154, 0, 9, 42, 4, 182, 0, 47, 172, 42]
abbrev dktX9_append_0 : List UInt8 := dkwX9_append_0 ++ dktX9_append_1
theorem dksX9_append_0 : cX9_append.data.toList.drop 0 = dktX9_append_0 := by decide +kernel
theorem dksX9_append_1 : cX9_append.data.toList.drop 23 = dktX9_append_1 := dk_seg dksX9_append_0 23 rfl rfl
theorem dksX9_append_2 : cX9_append.data.toList.drop 47 = dktX9_append_2 := dk_seg dksX9_append_1 24 rfl rfl
theorem dX9_append_0 : decode cX9_append 0 = .ok (.aload_n 0, 1) := dk_42 (dk_at dksX9_append_0 0 rfl rfl)
theorem dX9_append_1 : decode cX9_append 1 = .ok (.iconst 0, 1) := dk_3 (dk_at dksX9_append_0 1 rfl rfl)
theorem dX9_append_2 : decode cX9_append 2 = .ok (.putfield 32, 3) := dk_181 0 32 (dk_at dksX9_append_0 2 rfl rfl)
theorem dX9_append_5 : decode cX9_append 5 = .ok (.iload_n 1, 1) := dk_27 (dk_at dksX9_append_0 5 rfl rfl)
theorem dX9_append_6 : decode cX9_append 6 = .ok (.bipush 33, 2) := dk_16 33 (dk_at dksX9_append_0 6 rfl rfl)
theorem dX9_append_8 : decode cX9_append 8 = .ok (.bipush 126, 2) := dk_16 126 (dk_at dksX9_append_0 8 rfl rfl)
theorem dX9_append_10 : decode cX9_append 10 = .ok (.invokestatic 36, 3) := dk_184 0 36 (dk_at dksX9_append_0 10 rfl rfl)
theorem dX9_append_13 : decode cX9_append 13 = .ok (.ifCond .ne 9, 3) := dk_154 0 9 (dk_at dksX9_append_0 13 rfl rfl)
theorem dX9_append_16 : decode cX9_append 16 = .ok (.aload_n 0, 1) := dk_42 (dk_at dksX9_append_0 16 rfl rfl)
theorem dX9_append_17 : decode cX9_append 17 = .ok (.iconst 1, 1) := dk_4 (dk_at dksX9_append_0 17 rfl rfl)
theorem dX9_append_18 : decode cX9_append 18 = .ok (.invokevirtual 47, 3) := dk_182 0 47 (dk_at dksX9_append_0 18 rfl rfl)
theorem dX9_append_21 : decode cX9_append 21 = .ok (.ireturn, 1) := dk_172 (dk_at dksX9_append_0 21 rfl rfl)
theorem dX9_append_22 : decode cX9_append 22 = .ok (.aload_n 0, 1) := dk_42 (dk_at dksX9_append_0 22 rfl rfl)
theorem dX9_append_23 : decode cX9_append 23 = .ok (.getfield 151, 3) := dk_180 0 151 (dk_at dksX9_append_1 0 rfl rfl)
theorem dX9_append_26 : decode cX9_append 26 = .ok (.bipush 60, 2) := dk_16 60 (dk_at dksX9_append_1 3 rfl rfl)
theorem dX9_append_28 : decode cX9_append 28 = .ok (.if_icmp .ne 9, 3) := dk_160 0 9 (dk_at dksX9_append_1 5 rfl rfl)
theorem dX9_append_31 : decode cX9_append 31 = .ok (.aload_n 0, 1) := dk_42 (dk_at dksX9_append_1 8 rfl rfl)
theorem dX9_append_32 : decode cX9_append 32 = .ok (.iconst 2, 1) := dk_5 (dk_at dksX9_append_1 9 rfl rfl)
theorem dX9_append_33 : decode cX9_append 33 = .ok (.invokevirtual 47, 3) := dk_182 0 47 (dk_at dksX9_append_1 10 rfl rfl)
theorem dX9_append_36 : decode cX9_append 36 = .ok (.ireturn, 1) := dk_172 (dk_at dksX9_append_1 13 rfl rfl)
theorem dX9_append_37 : decode cX9_append 37 = .ok (.aload_n 0, 1) := dk_42 (dk_at dksX9_append_1 14 rfl rfl)
theorem dX9_append_38 : decode cX9_append 38 = .ok (.getfield 26, 3) := dk_180 0 26 (dk_at dksX9_append_1 15 rfl rfl)
theorem dX9_append_41 : decode cX9_append 41 = .ok (.aload_n 0, 1) := dk_42 (dk_at dksX9_append_1 18 rfl rfl)
theorem dX9_append_42 : decode cX9_append 42 = .ok (.getfield 151, 3) := dk_180 0 151 (dk_at dksX9_append_1 19 rfl rfl)
theorem dX9_append_45 : decode cX9_append 45 = .ok (.iload_n 1, 1) := dk_27 (dk_at dksX9_append_1 22 rfl rfl)
theorem dX9_append_46 : decode cX9_append 46 = .ok (.iastore, 1) := dk_79 (dk_at dksX9_append_1 23 rfl rfl)
theorem dX9_append_47 : decode cX9_append 47 = .ok (.aload_n 0, 1) := dk_42 (dk_at dksX9_append_2 0 rfl rfl)
theorem dX9_append_48 : decode cX9_append 48 = .ok (.dup, 1) := dk_89 (dk_at dksX9_append_2 1 rfl rfl)
theorem dX9_append_49 : decode cX9_append 49 = .ok (.getfield 151, 3) := dk_180 0 151 (dk_at dksX9_append_2 2 rfl rfl)
theorem dX9_append_52 : decode cX9_append 52 = .ok (.iconst 1, 1) := dk_4 (dk_at dksX9_append_2 5 rfl rfl)
theorem dX9_append_53 : decode cX9_append 53 = .ok (.iadd, 1) := dk_96 (dk_at dksX9_append_2 6 rfl rfl)
theorem dX9_append_54 : decode cX9_append 54 = .ok (.putfield 151, 3) := dk_181 0 151 (dk_at dksX9_append_2 7 rfl rfl)
theorem dX9_append_57 : decode cX9_append 57 = .ok (.aload_n 0, 1) := dk_42 (dk_at dksX9_append_2 10 rfl rfl)
theorem dX9_append_58 : decode cX9_append 58 = .ok (.getfield 151, 3) := dk_180 0 151 (dk_at dksX9_append_2 11 rfl rfl)
theorem dX9_append_61 : decode cX9_append 61 = .ok (.ireturn, 1) := dk_172 (dk_at dksX9_append_2 14 rfl rfl)
abbrev cX9_clearBuffer : ByteArray := prog_15_method_52_code
def yX9_clearBuffer : MethodName := ⟨RX9, "clearBuffer", "()I"⟩
def dkwX9_clearBuffer_0 : List UInt8 := [42, 3, 181, 0, 32, 42, 180, 0, 151, 60, 42, 3, 181, 0, 151, 27, 172]
abbrev dktX9_clearBuffer_0 : List UInt8 := dkwX9_clearBuffer_0 ++ []
theorem dksX9_clearBuffer_0 : cX9_clearBuffer.data.toList.drop 0 = dktX9_clearBuffer_0 := by decide +kernel
theorem dX9_clearBuffer_0 : decode cX9_clearBuffer 0 = .ok (.aload_n 0, 1) := dk_42 (dk_at dksX9_clearBuffer_0 0 rfl rfl)
theorem dX9_clearBuffer_1 : decode cX9_clearBuffer 1 = .ok (.iconst 0, 1) := dk_3 (dk_at dksX9_clearBuffer_0 1 rfl rfl)
theorem dX9_clearBuffer_2 : decode cX9_clearBuffer 2 = .ok (.putfield 32, 3) := dk_181 0 32 (dk_at dksX9_clearBuffer_0 2 rfl rfl)
theorem dX9_clearBuffer_5 : decode cX9_clearBuffer 5 = .ok (.aload_n 0, 1) := dk_42 (dk_at dksX9_clearBuffer_0 5 rfl rfl)
theorem dX9_clearBuffer_6 : decode cX9_clearBuffer 6 = .ok (.getfield 151, 3) := dk_180 0 151 (dk_at dksX9_clearBuffer_0 6 rfl rfl)
theorem dX9_clearBuffer_9 : decode cX9_clearBuffer 9 = .ok (.istore_n 1, 1) := dk_60 (dk_at dksX9_clearBuffer_0 9 rfl rfl)
theorem dX9_clearBuffer_10 : decode cX9_clearBuffer 10 = .ok (.aload_n 0, 1) := dk_42 (dk_at dksX9_clearBuffer_0 10 rfl rfl)
theorem dX9_clearBuffer_11 : decode cX9_clearBuffer 11 = .ok (.iconst 0, 1) := dk_3 (dk_at dksX9_clearBuffer_0 11 rfl rfl)
theorem dX9_clearBuffer_12 : decode cX9_clearBuffer 12 = .ok (.putfield 151, 3) := dk_181 0 151 (dk_at dksX9_clearBuffer_0 12 rfl rfl)
theorem dX9_clearBuffer_15 : decode cX9_clearBuffer 15 = .ok (.iload_n 1, 1) := dk_27 (dk_at dksX9_clearBuffer_0 15 rfl rfl)
theorem dX9_clearBuffer_16 : decode cX9_clearBuffer 16 = .ok (.ireturn, 1) := dk_172 (dk_at dksX9_clearBuffer_0 16 rfl rfl)
abbrev cX9_firstError : ByteArray := prog_15_method_61_code
def yX9_firstError : MethodName := ⟨RX9, "firstError", "()I"⟩
def dkwX9_firstError_1 : List UInt8 := [180, 0, 154, 167, 0, 7, 42, 180, 0, 151, 172]
abbrev dktX9_firstError_1 : List UInt8 := dkwX9_firstError_1 ++ []
def dkwX9_firstError_0 : List UInt8 := [42, 3, 181, 0, 32, 42, 182, 0, 188, 60, 27, 154, 0, 17, 42, 180, 0, 157, 153, 0, 10, 42]
abbrev dktX9_firstError_0 : List UInt8 := dkwX9_firstError_0 ++ dktX9_firstError_1
theorem dksX9_firstError_0 : cX9_firstError.data.toList.drop 0 = dktX9_firstError_0 := by decide +kernel
theorem dksX9_firstError_1 : cX9_firstError.data.toList.drop 22 = dktX9_firstError_1 := dk_seg dksX9_firstError_0 22 rfl rfl
theorem dX9_firstError_0 : decode cX9_firstError 0 = .ok (.aload_n 0, 1) := dk_42 (dk_at dksX9_firstError_0 0 rfl rfl)
theorem dX9_firstError_1 : decode cX9_firstError 1 = .ok (.iconst 0, 1) := dk_3 (dk_at dksX9_firstError_0 1 rfl rfl)
theorem dX9_firstError_2 : decode cX9_firstError 2 = .ok (.putfield 32, 3) := dk_181 0 32 (dk_at dksX9_firstError_0 2 rfl rfl)
theorem dX9_firstError_5 : decode cX9_firstError 5 = .ok (.aload_n 0, 1) := dk_42 (dk_at dksX9_firstError_0 5 rfl rfl)
theorem dX9_firstError_6 : decode cX9_firstError 6 = .ok (.invokevirtual 188, 3) := dk_182 0 188 (dk_at dksX9_firstError_0 6 rfl rfl)
theorem dX9_firstError_9 : decode cX9_firstError 9 = .ok (.istore_n 1, 1) := dk_60 (dk_at dksX9_firstError_0 9 rfl rfl)
theorem dX9_firstError_10 : decode cX9_firstError 10 = .ok (.iload_n 1, 1) := dk_27 (dk_at dksX9_firstError_0 10 rfl rfl)
theorem dX9_firstError_11 : decode cX9_firstError 11 = .ok (.ifCond .ne 17, 3) := dk_154 0 17 (dk_at dksX9_firstError_0 11 rfl rfl)
theorem dX9_firstError_14 : decode cX9_firstError 14 = .ok (.aload_n 0, 1) := dk_42 (dk_at dksX9_firstError_0 14 rfl rfl)
theorem dX9_firstError_15 : decode cX9_firstError 15 = .ok (.getfield 157, 3) := dk_180 0 157 (dk_at dksX9_firstError_0 15 rfl rfl)
theorem dX9_firstError_18 : decode cX9_firstError 18 = .ok (.ifCond .eq 10, 3) := dk_153 0 10 (dk_at dksX9_firstError_0 18 rfl rfl)
theorem dX9_firstError_21 : decode cX9_firstError 21 = .ok (.aload_n 0, 1) := dk_42 (dk_at dksX9_firstError_0 21 rfl rfl)
theorem dX9_firstError_22 : decode cX9_firstError 22 = .ok (.getfield 154, 3) := dk_180 0 154 (dk_at dksX9_firstError_1 0 rfl rfl)
theorem dX9_firstError_25 : decode cX9_firstError 25 = .ok (.goto 7, 3) := dk_167 0 7 (dk_at dksX9_firstError_1 3 rfl rfl)
theorem dX9_firstError_28 : decode cX9_firstError 28 = .ok (.aload_n 0, 1) := dk_42 (dk_at dksX9_firstError_1 6 rfl rfl)
theorem dX9_firstError_29 : decode cX9_firstError 29 = .ok (.getfield 151, 3) := dk_180 0 151 (dk_at dksX9_firstError_1 7 rfl rfl)
theorem dX9_firstError_32 : decode cX9_firstError 32 = .ok (.ireturn, 1) := dk_172 (dk_at dksX9_firstError_1 10 rfl rfl)
abbrev cX9_isText : ByteArray := prog_15_method_60_code
def yX9_isText : MethodName := ⟨RX9, "isText", "()Z"⟩
def dkwX9_isText_4 : List UInt8 := [180, 0, 154, 42, 180, 0, 151, 160, 0, 7, 4, 167, 0, 4, 3, 172]
abbrev dktX9_isText_4 : List UInt8 := dkwX9_isText_4 ++ []
def dkwX9_isText_3 : List UInt8 := [167, 255, 206, 42, 42, 180, 0, 154, 42, 180, 0, 151, 162, 0, 7, 4, 167, 0, 4, 3, 181, 0, 157, 42]
abbrev dktX9_isText_3 : List UInt8 := dkwX9_isText_3 ++ dktX9_isText_4
def dkwX9_isText_2 : List UInt8 := [182, 0, 160, 60, 42, 89, 180, 0, 154, 27, 153, 0, 7, 4, 167, 0, 4, 3, 96, 181, 0, 154]
abbrev dktX9_isText_2 : List UInt8 := dkwX9_isText_2 ++ dktX9_isText_3
def dkwX9_isText_1 : List UInt8 := [182, 0, 185, 154, 0, 5, 3, 172, 42, 89, 180, 0, 167, 4, 96, 181, 0, 167, 42, 16, 59, 16, 59]
abbrev dktX9_isText_1 : List UInt8 := dkwX9_isText_1 ++ dktX9_isText_2
def dkwX9_isText_0 : List UInt8 := [42, 3, 181, 0, 154, 42, 3, 181, 0, 167, 42, 3, 181, 0, 157, 4, 60, 27, 153, 0, 52, 42]
abbrev dktX9_isText_0 : List UInt8 := dkwX9_isText_0 ++ dktX9_isText_1
theorem dksX9_isText_0 : cX9_isText.data.toList.drop 0 = dktX9_isText_0 := by decide +kernel
theorem dksX9_isText_1 : cX9_isText.data.toList.drop 22 = dktX9_isText_1 := dk_seg dksX9_isText_0 22 rfl rfl
theorem dksX9_isText_2 : cX9_isText.data.toList.drop 45 = dktX9_isText_2 := dk_seg dksX9_isText_1 23 rfl rfl
theorem dksX9_isText_3 : cX9_isText.data.toList.drop 67 = dktX9_isText_3 := dk_seg dksX9_isText_2 22 rfl rfl
theorem dksX9_isText_4 : cX9_isText.data.toList.drop 91 = dktX9_isText_4 := dk_seg dksX9_isText_3 24 rfl rfl
theorem dX9_isText_0 : decode cX9_isText 0 = .ok (.aload_n 0, 1) := dk_42 (dk_at dksX9_isText_0 0 rfl rfl)
theorem dX9_isText_1 : decode cX9_isText 1 = .ok (.iconst 0, 1) := dk_3 (dk_at dksX9_isText_0 1 rfl rfl)
theorem dX9_isText_2 : decode cX9_isText 2 = .ok (.putfield 154, 3) := dk_181 0 154 (dk_at dksX9_isText_0 2 rfl rfl)
theorem dX9_isText_5 : decode cX9_isText 5 = .ok (.aload_n 0, 1) := dk_42 (dk_at dksX9_isText_0 5 rfl rfl)
theorem dX9_isText_6 : decode cX9_isText 6 = .ok (.iconst 0, 1) := dk_3 (dk_at dksX9_isText_0 6 rfl rfl)
theorem dX9_isText_7 : decode cX9_isText 7 = .ok (.putfield 167, 3) := dk_181 0 167 (dk_at dksX9_isText_0 7 rfl rfl)
theorem dX9_isText_10 : decode cX9_isText 10 = .ok (.aload_n 0, 1) := dk_42 (dk_at dksX9_isText_0 10 rfl rfl)
theorem dX9_isText_11 : decode cX9_isText 11 = .ok (.iconst 0, 1) := dk_3 (dk_at dksX9_isText_0 11 rfl rfl)
theorem dX9_isText_12 : decode cX9_isText 12 = .ok (.putfield 157, 3) := dk_181 0 157 (dk_at dksX9_isText_0 12 rfl rfl)
theorem dX9_isText_15 : decode cX9_isText 15 = .ok (.iconst 1, 1) := dk_4 (dk_at dksX9_isText_0 15 rfl rfl)
theorem dX9_isText_16 : decode cX9_isText 16 = .ok (.istore_n 1, 1) := dk_60 (dk_at dksX9_isText_0 16 rfl rfl)
theorem dX9_isText_17 : decode cX9_isText 17 = .ok (.iload_n 1, 1) := dk_27 (dk_at dksX9_isText_0 17 rfl rfl)
theorem dX9_isText_18 : decode cX9_isText 18 = .ok (.ifCond .eq 52, 3) := dk_153 0 52 (dk_at dksX9_isText_0 18 rfl rfl)
theorem dX9_isText_21 : decode cX9_isText 21 = .ok (.aload_n 0, 1) := dk_42 (dk_at dksX9_isText_0 21 rfl rfl)
theorem dX9_isText_22 : decode cX9_isText 22 = .ok (.invokevirtual 185, 3) := dk_182 0 185 (dk_at dksX9_isText_1 0 rfl rfl)
theorem dX9_isText_25 : decode cX9_isText 25 = .ok (.ifCond .ne 5, 3) := dk_154 0 5 (dk_at dksX9_isText_1 3 rfl rfl)
theorem dX9_isText_28 : decode cX9_isText 28 = .ok (.iconst 0, 1) := dk_3 (dk_at dksX9_isText_1 6 rfl rfl)
theorem dX9_isText_29 : decode cX9_isText 29 = .ok (.ireturn, 1) := dk_172 (dk_at dksX9_isText_1 7 rfl rfl)
theorem dX9_isText_30 : decode cX9_isText 30 = .ok (.aload_n 0, 1) := dk_42 (dk_at dksX9_isText_1 8 rfl rfl)
theorem dX9_isText_31 : decode cX9_isText 31 = .ok (.dup, 1) := dk_89 (dk_at dksX9_isText_1 9 rfl rfl)
theorem dX9_isText_32 : decode cX9_isText 32 = .ok (.getfield 167, 3) := dk_180 0 167 (dk_at dksX9_isText_1 10 rfl rfl)
theorem dX9_isText_35 : decode cX9_isText 35 = .ok (.iconst 1, 1) := dk_4 (dk_at dksX9_isText_1 13 rfl rfl)
theorem dX9_isText_36 : decode cX9_isText 36 = .ok (.iadd, 1) := dk_96 (dk_at dksX9_isText_1 14 rfl rfl)
theorem dX9_isText_37 : decode cX9_isText 37 = .ok (.putfield 167, 3) := dk_181 0 167 (dk_at dksX9_isText_1 15 rfl rfl)
theorem dX9_isText_40 : decode cX9_isText 40 = .ok (.aload_n 0, 1) := dk_42 (dk_at dksX9_isText_1 18 rfl rfl)
theorem dX9_isText_41 : decode cX9_isText 41 = .ok (.bipush 59, 2) := dk_16 59 (dk_at dksX9_isText_1 19 rfl rfl)
theorem dX9_isText_43 : decode cX9_isText 43 = .ok (.bipush 59, 2) := dk_16 59 (dk_at dksX9_isText_1 21 rfl rfl)
theorem dX9_isText_45 : decode cX9_isText 45 = .ok (.invokevirtual 160, 3) := dk_182 0 160 (dk_at dksX9_isText_2 0 rfl rfl)
theorem dX9_isText_48 : decode cX9_isText 48 = .ok (.istore_n 1, 1) := dk_60 (dk_at dksX9_isText_2 3 rfl rfl)
theorem dX9_isText_49 : decode cX9_isText 49 = .ok (.aload_n 0, 1) := dk_42 (dk_at dksX9_isText_2 4 rfl rfl)
theorem dX9_isText_50 : decode cX9_isText 50 = .ok (.dup, 1) := dk_89 (dk_at dksX9_isText_2 5 rfl rfl)
theorem dX9_isText_51 : decode cX9_isText 51 = .ok (.getfield 154, 3) := dk_180 0 154 (dk_at dksX9_isText_2 6 rfl rfl)
theorem dX9_isText_54 : decode cX9_isText 54 = .ok (.iload_n 1, 1) := dk_27 (dk_at dksX9_isText_2 9 rfl rfl)
theorem dX9_isText_55 : decode cX9_isText 55 = .ok (.ifCond .eq 7, 3) := dk_153 0 7 (dk_at dksX9_isText_2 10 rfl rfl)
theorem dX9_isText_58 : decode cX9_isText 58 = .ok (.iconst 1, 1) := dk_4 (dk_at dksX9_isText_2 13 rfl rfl)
theorem dX9_isText_59 : decode cX9_isText 59 = .ok (.goto 4, 3) := dk_167 0 4 (dk_at dksX9_isText_2 14 rfl rfl)
theorem dX9_isText_62 : decode cX9_isText 62 = .ok (.iconst 0, 1) := dk_3 (dk_at dksX9_isText_2 17 rfl rfl)
theorem dX9_isText_63 : decode cX9_isText 63 = .ok (.iadd, 1) := dk_96 (dk_at dksX9_isText_2 18 rfl rfl)
theorem dX9_isText_64 : decode cX9_isText 64 = .ok (.putfield 154, 3) := dk_181 0 154 (dk_at dksX9_isText_2 19 rfl rfl)
theorem dX9_isText_67 : decode cX9_isText 67 = .ok (.goto (-50), 3) := dk_167 255 206 (dk_at dksX9_isText_3 0 rfl rfl)
theorem dX9_isText_70 : decode cX9_isText 70 = .ok (.aload_n 0, 1) := dk_42 (dk_at dksX9_isText_3 3 rfl rfl)
theorem dX9_isText_71 : decode cX9_isText 71 = .ok (.aload_n 0, 1) := dk_42 (dk_at dksX9_isText_3 4 rfl rfl)
theorem dX9_isText_72 : decode cX9_isText 72 = .ok (.getfield 154, 3) := dk_180 0 154 (dk_at dksX9_isText_3 5 rfl rfl)
theorem dX9_isText_75 : decode cX9_isText 75 = .ok (.aload_n 0, 1) := dk_42 (dk_at dksX9_isText_3 8 rfl rfl)
theorem dX9_isText_76 : decode cX9_isText 76 = .ok (.getfield 151, 3) := dk_180 0 151 (dk_at dksX9_isText_3 9 rfl rfl)
theorem dX9_isText_79 : decode cX9_isText 79 = .ok (.if_icmp .ge 7, 3) := dk_162 0 7 (dk_at dksX9_isText_3 12 rfl rfl)
theorem dX9_isText_82 : decode cX9_isText 82 = .ok (.iconst 1, 1) := dk_4 (dk_at dksX9_isText_3 15 rfl rfl)
theorem dX9_isText_83 : decode cX9_isText 83 = .ok (.goto 4, 3) := dk_167 0 4 (dk_at dksX9_isText_3 16 rfl rfl)
theorem dX9_isText_86 : decode cX9_isText 86 = .ok (.iconst 0, 1) := dk_3 (dk_at dksX9_isText_3 19 rfl rfl)
theorem dX9_isText_87 : decode cX9_isText 87 = .ok (.putfield 157, 3) := dk_181 0 157 (dk_at dksX9_isText_3 20 rfl rfl)
theorem dX9_isText_90 : decode cX9_isText 90 = .ok (.aload_n 0, 1) := dk_42 (dk_at dksX9_isText_3 23 rfl rfl)
theorem dX9_isText_91 : decode cX9_isText 91 = .ok (.getfield 154, 3) := dk_180 0 154 (dk_at dksX9_isText_4 0 rfl rfl)
theorem dX9_isText_94 : decode cX9_isText 94 = .ok (.aload_n 0, 1) := dk_42 (dk_at dksX9_isText_4 3 rfl rfl)
theorem dX9_isText_95 : decode cX9_isText 95 = .ok (.getfield 151, 3) := dk_180 0 151 (dk_at dksX9_isText_4 4 rfl rfl)
theorem dX9_isText_98 : decode cX9_isText 98 = .ok (.if_icmp .ne 7, 3) := dk_160 0 7 (dk_at dksX9_isText_4 7 rfl rfl)
theorem dX9_isText_101 : decode cX9_isText 101 = .ok (.iconst 1, 1) := dk_4 (dk_at dksX9_isText_4 10 rfl rfl)
theorem dX9_isText_102 : decode cX9_isText 102 = .ok (.goto 4, 3) := dk_167 0 4 (dk_at dksX9_isText_4 11 rfl rfl)
theorem dX9_isText_105 : decode cX9_isText 105 = .ok (.iconst 0, 1) := dk_3 (dk_at dksX9_isText_4 14 rfl rfl)
theorem dX9_isText_106 : decode cX9_isText 106 = .ok (.ireturn, 1) := dk_172 (dk_at dksX9_isText_4 15 rfl rfl)
abbrev cX9_isPart : ByteArray := prog_15_method_59_code
def yX9_isPart : MethodName := ⟨RX9, "isPart", "()Z"⟩
def dkwX9_isPart_6 : List UInt8 := [172]
abbrev dktX9_isPart_6 : List UInt8 := dkwX9_isPart_6 ++ []
def dkwX9_isPart_5 : List UInt8 := [182, 0, 182, 172, 42, 89, 180, 0, 154, 4, 96, 181, 0, 154, 42, 4, 182, 0, 176, 172, 42, 182, 0, 163]
abbrev dktX9_isPart_5 : List UInt8 := dkwX9_isPart_5 ++ dktX9_isPart_6
def dkwX9_isPart_4 : List UInt8 := [181, 0, 154, 42, 4, 16, 53, 182, 0, 173, 172, 42, 89, 180, 0, 154, 4, 96, 181, 0, 154, 42]
abbrev dktX9_isPart_4 : List UInt8 := dkwX9_isPart_4 ++ dktX9_isPart_5
def dkwX9_isPart_3 : List UInt8 := [42, 89, 180, 0, 154, 4, 96, 181, 0, 154, 42, 182, 0, 179, 172, 42, 89, 180, 0, 154, 4, 96]
abbrev dktX9_isPart_3 : List UInt8 := dkwX9_isPart_3 ++ dktX9_isPart_4
def dkwX9_isPart_2 : List UInt8 := [171, 0, 0, 0, 0, 106, 0, 0, 0, 4, 0, 0, 0, 98, 0, 0, 0, 42, 0, 0, 0, 109, 0, 0, 0, 57, 0, 0, 0, 110, 0, 0, 0, 90, 0, 0, 0, 120, 0, 0, 0, 75]
abbrev dktX9_isPart_2 : List UInt8 := dkwX9_isPart_2 ++ dktX9_isPart_3
def dkwX9_isPart_1 : List UInt8 := [60, 42, 180, 0, 29, 6, 42, 180, 0, 167, 104, 27, 79, 27]
abbrev dktX9_isPart_1 : List UInt8 := dkwX9_isPart_1 ++ dktX9_isPart_2
def dkwX9_isPart_0 : List UInt8 := [42, 180, 0, 154, 42, 180, 0, 151, 162, 0, 15, 42, 180, 0, 26, 42, 180, 0, 154, 46, 167, 0, 4, 3]
abbrev dktX9_isPart_0 : List UInt8 := dkwX9_isPart_0 ++ dktX9_isPart_1
theorem dksX9_isPart_0 : cX9_isPart.data.toList.drop 0 = dktX9_isPart_0 := by decide +kernel
theorem dksX9_isPart_1 : cX9_isPart.data.toList.drop 24 = dktX9_isPart_1 := dk_seg dksX9_isPart_0 24 rfl rfl
theorem dksX9_isPart_2 : cX9_isPart.data.toList.drop 38 = dktX9_isPart_2 := dk_seg dksX9_isPart_1 14 rfl rfl
theorem dksX9_isPart_3 : cX9_isPart.data.toList.drop 80 = dktX9_isPart_3 := dk_seg dksX9_isPart_2 42 rfl rfl
theorem dksX9_isPart_4 : cX9_isPart.data.toList.drop 102 = dktX9_isPart_4 := dk_seg dksX9_isPart_3 22 rfl rfl
theorem dksX9_isPart_5 : cX9_isPart.data.toList.drop 124 = dktX9_isPart_5 := dk_seg dksX9_isPart_4 22 rfl rfl
theorem dksX9_isPart_6 : cX9_isPart.data.toList.drop 148 = dktX9_isPart_6 := dk_seg dksX9_isPart_5 24 rfl rfl
theorem dX9_isPart_0 : decode cX9_isPart 0 = .ok (.aload_n 0, 1) := dk_42 (dk_at dksX9_isPart_0 0 rfl rfl)
theorem dX9_isPart_1 : decode cX9_isPart 1 = .ok (.getfield 154, 3) := dk_180 0 154 (dk_at dksX9_isPart_0 1 rfl rfl)
theorem dX9_isPart_4 : decode cX9_isPart 4 = .ok (.aload_n 0, 1) := dk_42 (dk_at dksX9_isPart_0 4 rfl rfl)
theorem dX9_isPart_5 : decode cX9_isPart 5 = .ok (.getfield 151, 3) := dk_180 0 151 (dk_at dksX9_isPart_0 5 rfl rfl)
theorem dX9_isPart_8 : decode cX9_isPart 8 = .ok (.if_icmp .ge 15, 3) := dk_162 0 15 (dk_at dksX9_isPart_0 8 rfl rfl)
theorem dX9_isPart_11 : decode cX9_isPart 11 = .ok (.aload_n 0, 1) := dk_42 (dk_at dksX9_isPart_0 11 rfl rfl)
theorem dX9_isPart_12 : decode cX9_isPart 12 = .ok (.getfield 26, 3) := dk_180 0 26 (dk_at dksX9_isPart_0 12 rfl rfl)
theorem dX9_isPart_15 : decode cX9_isPart 15 = .ok (.aload_n 0, 1) := dk_42 (dk_at dksX9_isPart_0 15 rfl rfl)
theorem dX9_isPart_16 : decode cX9_isPart 16 = .ok (.getfield 154, 3) := dk_180 0 154 (dk_at dksX9_isPart_0 16 rfl rfl)
theorem dX9_isPart_19 : decode cX9_isPart 19 = .ok (.iaload, 1) := dk_46 (dk_at dksX9_isPart_0 19 rfl rfl)
theorem dX9_isPart_20 : decode cX9_isPart 20 = .ok (.goto 4, 3) := dk_167 0 4 (dk_at dksX9_isPart_0 20 rfl rfl)
theorem dX9_isPart_23 : decode cX9_isPart 23 = .ok (.iconst 0, 1) := dk_3 (dk_at dksX9_isPart_0 23 rfl rfl)
theorem dX9_isPart_24 : decode cX9_isPart 24 = .ok (.istore_n 1, 1) := dk_60 (dk_at dksX9_isPart_1 0 rfl rfl)
theorem dX9_isPart_25 : decode cX9_isPart 25 = .ok (.aload_n 0, 1) := dk_42 (dk_at dksX9_isPart_1 1 rfl rfl)
theorem dX9_isPart_26 : decode cX9_isPart 26 = .ok (.getfield 29, 3) := dk_180 0 29 (dk_at dksX9_isPart_1 2 rfl rfl)
theorem dX9_isPart_29 : decode cX9_isPart 29 = .ok (.iconst 3, 1) := dk_6 (dk_at dksX9_isPart_1 5 rfl rfl)
theorem dX9_isPart_30 : decode cX9_isPart 30 = .ok (.aload_n 0, 1) := dk_42 (dk_at dksX9_isPart_1 6 rfl rfl)
theorem dX9_isPart_31 : decode cX9_isPart 31 = .ok (.getfield 167, 3) := dk_180 0 167 (dk_at dksX9_isPart_1 7 rfl rfl)
theorem dX9_isPart_34 : decode cX9_isPart 34 = .ok (.imul, 1) := dk_104 (dk_at dksX9_isPart_1 10 rfl rfl)
theorem dX9_isPart_35 : decode cX9_isPart 35 = .ok (.iload_n 1, 1) := dk_27 (dk_at dksX9_isPart_1 11 rfl rfl)
theorem dX9_isPart_36 : decode cX9_isPart 36 = .ok (.iastore, 1) := dk_79 (dk_at dksX9_isPart_1 12 rfl rfl)
theorem dX9_isPart_37 : decode cX9_isPart 37 = .ok (.iload_n 1, 1) := dk_27 (dk_at dksX9_isPart_1 13 rfl rfl)
theorem dX9_isPart_38 : decode cX9_isPart 38 = .ok (.lookupswitch 106 #[(98, 42), (109, 57), (110, 90), (120, 75)], 42) := by decide +kernel
theorem dX9_isPart_80 : decode cX9_isPart 80 = .ok (.aload_n 0, 1) := dk_42 (dk_at dksX9_isPart_3 0 rfl rfl)
theorem dX9_isPart_81 : decode cX9_isPart 81 = .ok (.dup, 1) := dk_89 (dk_at dksX9_isPart_3 1 rfl rfl)
theorem dX9_isPart_82 : decode cX9_isPart 82 = .ok (.getfield 154, 3) := dk_180 0 154 (dk_at dksX9_isPart_3 2 rfl rfl)
theorem dX9_isPart_85 : decode cX9_isPart 85 = .ok (.iconst 1, 1) := dk_4 (dk_at dksX9_isPart_3 5 rfl rfl)
theorem dX9_isPart_86 : decode cX9_isPart 86 = .ok (.iadd, 1) := dk_96 (dk_at dksX9_isPart_3 6 rfl rfl)
theorem dX9_isPart_87 : decode cX9_isPart 87 = .ok (.putfield 154, 3) := dk_181 0 154 (dk_at dksX9_isPart_3 7 rfl rfl)
theorem dX9_isPart_90 : decode cX9_isPart 90 = .ok (.aload_n 0, 1) := dk_42 (dk_at dksX9_isPart_3 10 rfl rfl)
theorem dX9_isPart_91 : decode cX9_isPart 91 = .ok (.invokevirtual 179, 3) := dk_182 0 179 (dk_at dksX9_isPart_3 11 rfl rfl)
theorem dX9_isPart_94 : decode cX9_isPart 94 = .ok (.ireturn, 1) := dk_172 (dk_at dksX9_isPart_3 14 rfl rfl)
theorem dX9_isPart_95 : decode cX9_isPart 95 = .ok (.aload_n 0, 1) := dk_42 (dk_at dksX9_isPart_3 15 rfl rfl)
theorem dX9_isPart_96 : decode cX9_isPart 96 = .ok (.dup, 1) := dk_89 (dk_at dksX9_isPart_3 16 rfl rfl)
theorem dX9_isPart_97 : decode cX9_isPart 97 = .ok (.getfield 154, 3) := dk_180 0 154 (dk_at dksX9_isPart_3 17 rfl rfl)
theorem dX9_isPart_100 : decode cX9_isPart 100 = .ok (.iconst 1, 1) := dk_4 (dk_at dksX9_isPart_3 20 rfl rfl)
theorem dX9_isPart_101 : decode cX9_isPart 101 = .ok (.iadd, 1) := dk_96 (dk_at dksX9_isPart_3 21 rfl rfl)
theorem dX9_isPart_102 : decode cX9_isPart 102 = .ok (.putfield 154, 3) := dk_181 0 154 (dk_at dksX9_isPart_4 0 rfl rfl)
theorem dX9_isPart_105 : decode cX9_isPart 105 = .ok (.aload_n 0, 1) := dk_42 (dk_at dksX9_isPart_4 3 rfl rfl)
theorem dX9_isPart_106 : decode cX9_isPart 106 = .ok (.iconst 1, 1) := dk_4 (dk_at dksX9_isPart_4 4 rfl rfl)
theorem dX9_isPart_107 : decode cX9_isPart 107 = .ok (.bipush 53, 2) := dk_16 53 (dk_at dksX9_isPart_4 5 rfl rfl)
theorem dX9_isPart_109 : decode cX9_isPart 109 = .ok (.invokevirtual 173, 3) := dk_182 0 173 (dk_at dksX9_isPart_4 7 rfl rfl)
theorem dX9_isPart_112 : decode cX9_isPart 112 = .ok (.ireturn, 1) := dk_172 (dk_at dksX9_isPart_4 10 rfl rfl)
theorem dX9_isPart_113 : decode cX9_isPart 113 = .ok (.aload_n 0, 1) := dk_42 (dk_at dksX9_isPart_4 11 rfl rfl)
theorem dX9_isPart_114 : decode cX9_isPart 114 = .ok (.dup, 1) := dk_89 (dk_at dksX9_isPart_4 12 rfl rfl)
theorem dX9_isPart_115 : decode cX9_isPart 115 = .ok (.getfield 154, 3) := dk_180 0 154 (dk_at dksX9_isPart_4 13 rfl rfl)
theorem dX9_isPart_118 : decode cX9_isPart 118 = .ok (.iconst 1, 1) := dk_4 (dk_at dksX9_isPart_4 16 rfl rfl)
theorem dX9_isPart_119 : decode cX9_isPart 119 = .ok (.iadd, 1) := dk_96 (dk_at dksX9_isPart_4 17 rfl rfl)
theorem dX9_isPart_120 : decode cX9_isPart 120 = .ok (.putfield 154, 3) := dk_181 0 154 (dk_at dksX9_isPart_4 18 rfl rfl)
theorem dX9_isPart_123 : decode cX9_isPart 123 = .ok (.aload_n 0, 1) := dk_42 (dk_at dksX9_isPart_4 21 rfl rfl)
theorem dX9_isPart_124 : decode cX9_isPart 124 = .ok (.invokevirtual 182, 3) := dk_182 0 182 (dk_at dksX9_isPart_5 0 rfl rfl)
theorem dX9_isPart_127 : decode cX9_isPart 127 = .ok (.ireturn, 1) := dk_172 (dk_at dksX9_isPart_5 3 rfl rfl)
theorem dX9_isPart_128 : decode cX9_isPart 128 = .ok (.aload_n 0, 1) := dk_42 (dk_at dksX9_isPart_5 4 rfl rfl)
theorem dX9_isPart_129 : decode cX9_isPart 129 = .ok (.dup, 1) := dk_89 (dk_at dksX9_isPart_5 5 rfl rfl)
theorem dX9_isPart_130 : decode cX9_isPart 130 = .ok (.getfield 154, 3) := dk_180 0 154 (dk_at dksX9_isPart_5 6 rfl rfl)
theorem dX9_isPart_133 : decode cX9_isPart 133 = .ok (.iconst 1, 1) := dk_4 (dk_at dksX9_isPart_5 9 rfl rfl)
theorem dX9_isPart_134 : decode cX9_isPart 134 = .ok (.iadd, 1) := dk_96 (dk_at dksX9_isPart_5 10 rfl rfl)
theorem dX9_isPart_135 : decode cX9_isPart 135 = .ok (.putfield 154, 3) := dk_181 0 154 (dk_at dksX9_isPart_5 11 rfl rfl)
theorem dX9_isPart_138 : decode cX9_isPart 138 = .ok (.aload_n 0, 1) := dk_42 (dk_at dksX9_isPart_5 14 rfl rfl)
theorem dX9_isPart_139 : decode cX9_isPart 139 = .ok (.iconst 1, 1) := dk_4 (dk_at dksX9_isPart_5 15 rfl rfl)
theorem dX9_isPart_140 : decode cX9_isPart 140 = .ok (.invokevirtual 176, 3) := dk_182 0 176 (dk_at dksX9_isPart_5 16 rfl rfl)
theorem dX9_isPart_143 : decode cX9_isPart 143 = .ok (.ireturn, 1) := dk_172 (dk_at dksX9_isPart_5 19 rfl rfl)
theorem dX9_isPart_144 : decode cX9_isPart 144 = .ok (.aload_n 0, 1) := dk_42 (dk_at dksX9_isPart_5 20 rfl rfl)
theorem dX9_isPart_145 : decode cX9_isPart 145 = .ok (.invokevirtual 163, 3) := dk_182 0 163 (dk_at dksX9_isPart_5 21 rfl rfl)
theorem dX9_isPart_148 : decode cX9_isPart 148 = .ok (.ireturn, 1) := dk_172 (dk_at dksX9_isPart_6 0 rfl rfl)
abbrev cX9_isToldOrder : ByteArray := prog_15_method_57_code
def yX9_isToldOrder : MethodName := ⟨RX9, "isToldOrder", "()Z"⟩
def dkwX9_isToldOrder_2 : List UInt8 := [181, 0, 154, 42, 5, 16, 52, 182, 0, 173, 172]
abbrev dktX9_isToldOrder_2 : List UInt8 := dkwX9_isToldOrder_2 ++ []
def dkwX9_isToldOrder_1 : List UInt8 := [3, 172, 42, 16, 62, 16, 62, 182, 0, 160, 154, 0, 5, 4, 172, 42, 89, 180, 0, 154, 4, 96]
abbrev dktX9_isToldOrder_1 : List UInt8 := dkwX9_isToldOrder_1 ++ dktX9_isToldOrder_2
def dkwX9_isToldOrder_0 : List UInt8 := [42, 180, 0, 29, 6, 42, 180, 0, 167, 104, 5, 96, 2, 79, 42, 4, 16, 51, 182, 0, 173, 154, 0, 5]
abbrev dktX9_isToldOrder_0 : List UInt8 := dkwX9_isToldOrder_0 ++ dktX9_isToldOrder_1
theorem dksX9_isToldOrder_0 : cX9_isToldOrder.data.toList.drop 0 = dktX9_isToldOrder_0 := by decide +kernel
theorem dksX9_isToldOrder_1 : cX9_isToldOrder.data.toList.drop 24 = dktX9_isToldOrder_1 := dk_seg dksX9_isToldOrder_0 24 rfl rfl
theorem dksX9_isToldOrder_2 : cX9_isToldOrder.data.toList.drop 46 = dktX9_isToldOrder_2 := dk_seg dksX9_isToldOrder_1 22 rfl rfl
theorem dX9_isToldOrder_0 : decode cX9_isToldOrder 0 = .ok (.aload_n 0, 1) := dk_42 (dk_at dksX9_isToldOrder_0 0 rfl rfl)
theorem dX9_isToldOrder_1 : decode cX9_isToldOrder 1 = .ok (.getfield 29, 3) := dk_180 0 29 (dk_at dksX9_isToldOrder_0 1 rfl rfl)
theorem dX9_isToldOrder_4 : decode cX9_isToldOrder 4 = .ok (.iconst 3, 1) := dk_6 (dk_at dksX9_isToldOrder_0 4 rfl rfl)
theorem dX9_isToldOrder_5 : decode cX9_isToldOrder 5 = .ok (.aload_n 0, 1) := dk_42 (dk_at dksX9_isToldOrder_0 5 rfl rfl)
theorem dX9_isToldOrder_6 : decode cX9_isToldOrder 6 = .ok (.getfield 167, 3) := dk_180 0 167 (dk_at dksX9_isToldOrder_0 6 rfl rfl)
theorem dX9_isToldOrder_9 : decode cX9_isToldOrder 9 = .ok (.imul, 1) := dk_104 (dk_at dksX9_isToldOrder_0 9 rfl rfl)
theorem dX9_isToldOrder_10 : decode cX9_isToldOrder 10 = .ok (.iconst 2, 1) := dk_5 (dk_at dksX9_isToldOrder_0 10 rfl rfl)
theorem dX9_isToldOrder_11 : decode cX9_isToldOrder 11 = .ok (.iadd, 1) := dk_96 (dk_at dksX9_isToldOrder_0 11 rfl rfl)
theorem dX9_isToldOrder_12 : decode cX9_isToldOrder 12 = .ok (.iconst (-1), 1) := dk_2 (dk_at dksX9_isToldOrder_0 12 rfl rfl)
theorem dX9_isToldOrder_13 : decode cX9_isToldOrder 13 = .ok (.iastore, 1) := dk_79 (dk_at dksX9_isToldOrder_0 13 rfl rfl)
theorem dX9_isToldOrder_14 : decode cX9_isToldOrder 14 = .ok (.aload_n 0, 1) := dk_42 (dk_at dksX9_isToldOrder_0 14 rfl rfl)
theorem dX9_isToldOrder_15 : decode cX9_isToldOrder 15 = .ok (.iconst 1, 1) := dk_4 (dk_at dksX9_isToldOrder_0 15 rfl rfl)
theorem dX9_isToldOrder_16 : decode cX9_isToldOrder 16 = .ok (.bipush 51, 2) := dk_16 51 (dk_at dksX9_isToldOrder_0 16 rfl rfl)
theorem dX9_isToldOrder_18 : decode cX9_isToldOrder 18 = .ok (.invokevirtual 173, 3) := dk_182 0 173 (dk_at dksX9_isToldOrder_0 18 rfl rfl)
theorem dX9_isToldOrder_21 : decode cX9_isToldOrder 21 = .ok (.ifCond .ne 5, 3) := dk_154 0 5 (dk_at dksX9_isToldOrder_0 21 rfl rfl)
theorem dX9_isToldOrder_24 : decode cX9_isToldOrder 24 = .ok (.iconst 0, 1) := dk_3 (dk_at dksX9_isToldOrder_1 0 rfl rfl)
theorem dX9_isToldOrder_25 : decode cX9_isToldOrder 25 = .ok (.ireturn, 1) := dk_172 (dk_at dksX9_isToldOrder_1 1 rfl rfl)
theorem dX9_isToldOrder_26 : decode cX9_isToldOrder 26 = .ok (.aload_n 0, 1) := dk_42 (dk_at dksX9_isToldOrder_1 2 rfl rfl)
theorem dX9_isToldOrder_27 : decode cX9_isToldOrder 27 = .ok (.bipush 62, 2) := dk_16 62 (dk_at dksX9_isToldOrder_1 3 rfl rfl)
theorem dX9_isToldOrder_29 : decode cX9_isToldOrder 29 = .ok (.bipush 62, 2) := dk_16 62 (dk_at dksX9_isToldOrder_1 5 rfl rfl)
theorem dX9_isToldOrder_31 : decode cX9_isToldOrder 31 = .ok (.invokevirtual 160, 3) := dk_182 0 160 (dk_at dksX9_isToldOrder_1 7 rfl rfl)
theorem dX9_isToldOrder_34 : decode cX9_isToldOrder 34 = .ok (.ifCond .ne 5, 3) := dk_154 0 5 (dk_at dksX9_isToldOrder_1 10 rfl rfl)
theorem dX9_isToldOrder_37 : decode cX9_isToldOrder 37 = .ok (.iconst 1, 1) := dk_4 (dk_at dksX9_isToldOrder_1 13 rfl rfl)
theorem dX9_isToldOrder_38 : decode cX9_isToldOrder 38 = .ok (.ireturn, 1) := dk_172 (dk_at dksX9_isToldOrder_1 14 rfl rfl)
theorem dX9_isToldOrder_39 : decode cX9_isToldOrder 39 = .ok (.aload_n 0, 1) := dk_42 (dk_at dksX9_isToldOrder_1 15 rfl rfl)
theorem dX9_isToldOrder_40 : decode cX9_isToldOrder 40 = .ok (.dup, 1) := dk_89 (dk_at dksX9_isToldOrder_1 16 rfl rfl)
theorem dX9_isToldOrder_41 : decode cX9_isToldOrder 41 = .ok (.getfield 154, 3) := dk_180 0 154 (dk_at dksX9_isToldOrder_1 17 rfl rfl)
theorem dX9_isToldOrder_44 : decode cX9_isToldOrder 44 = .ok (.iconst 1, 1) := dk_4 (dk_at dksX9_isToldOrder_1 20 rfl rfl)
theorem dX9_isToldOrder_45 : decode cX9_isToldOrder 45 = .ok (.iadd, 1) := dk_96 (dk_at dksX9_isToldOrder_1 21 rfl rfl)
theorem dX9_isToldOrder_46 : decode cX9_isToldOrder 46 = .ok (.putfield 154, 3) := dk_181 0 154 (dk_at dksX9_isToldOrder_2 0 rfl rfl)
theorem dX9_isToldOrder_49 : decode cX9_isToldOrder 49 = .ok (.aload_n 0, 1) := dk_42 (dk_at dksX9_isToldOrder_2 3 rfl rfl)
theorem dX9_isToldOrder_50 : decode cX9_isToldOrder 50 = .ok (.iconst 2, 1) := dk_5 (dk_at dksX9_isToldOrder_2 4 rfl rfl)
theorem dX9_isToldOrder_51 : decode cX9_isToldOrder 51 = .ok (.bipush 52, 2) := dk_16 52 (dk_at dksX9_isToldOrder_2 5 rfl rfl)
theorem dX9_isToldOrder_53 : decode cX9_isToldOrder 53 = .ok (.invokevirtual 173, 3) := dk_182 0 173 (dk_at dksX9_isToldOrder_2 7 rfl rfl)
theorem dX9_isToldOrder_56 : decode cX9_isToldOrder 56 = .ok (.ireturn, 1) := dk_172 (dk_at dksX9_isToldOrder_2 10 rfl rfl)
abbrev cX9_isDigit : ByteArray := prog_15_method_55_code
def yX9_isDigit : MethodName := ⟨RX9, "isDigit", "(II)Z"⟩
def dkwX9_isDigit_2 : List UInt8 := [181, 0, 154, 4, 172]
abbrev dktX9_isDigit_2 : List UInt8 := dkwX9_isDigit_2 ++ []
def dkwX9_isDigit_1 : List UInt8 := [104, 27, 96, 42, 180, 0, 26, 42, 180, 0, 154, 46, 16, 48, 100, 79, 42, 89, 180, 0, 154, 4, 96]
abbrev dktX9_isDigit_1 : List UInt8 := dkwX9_isDigit_1 ++ dktX9_isDigit_2
def dkwX9_isDigit_0 : List UInt8 := [42, 16, 48, 28, 182, 0, 160, 154, 0, 8, 42, 182, 0, 163, 172, 42, 180, 0, 29, 6, 42, 180, 0, 167]
abbrev dktX9_isDigit_0 : List UInt8 := dkwX9_isDigit_0 ++ dktX9_isDigit_1
theorem dksX9_isDigit_0 : cX9_isDigit.data.toList.drop 0 = dktX9_isDigit_0 := by decide +kernel
theorem dksX9_isDigit_1 : cX9_isDigit.data.toList.drop 24 = dktX9_isDigit_1 := dk_seg dksX9_isDigit_0 24 rfl rfl
theorem dksX9_isDigit_2 : cX9_isDigit.data.toList.drop 47 = dktX9_isDigit_2 := dk_seg dksX9_isDigit_1 23 rfl rfl
theorem dX9_isDigit_0 : decode cX9_isDigit 0 = .ok (.aload_n 0, 1) := dk_42 (dk_at dksX9_isDigit_0 0 rfl rfl)
theorem dX9_isDigit_1 : decode cX9_isDigit 1 = .ok (.bipush 48, 2) := dk_16 48 (dk_at dksX9_isDigit_0 1 rfl rfl)
theorem dX9_isDigit_3 : decode cX9_isDigit 3 = .ok (.iload_n 2, 1) := dk_28 (dk_at dksX9_isDigit_0 3 rfl rfl)
theorem dX9_isDigit_4 : decode cX9_isDigit 4 = .ok (.invokevirtual 160, 3) := dk_182 0 160 (dk_at dksX9_isDigit_0 4 rfl rfl)
theorem dX9_isDigit_7 : decode cX9_isDigit 7 = .ok (.ifCond .ne 8, 3) := dk_154 0 8 (dk_at dksX9_isDigit_0 7 rfl rfl)
theorem dX9_isDigit_10 : decode cX9_isDigit 10 = .ok (.aload_n 0, 1) := dk_42 (dk_at dksX9_isDigit_0 10 rfl rfl)
theorem dX9_isDigit_11 : decode cX9_isDigit 11 = .ok (.invokevirtual 163, 3) := dk_182 0 163 (dk_at dksX9_isDigit_0 11 rfl rfl)
theorem dX9_isDigit_14 : decode cX9_isDigit 14 = .ok (.ireturn, 1) := dk_172 (dk_at dksX9_isDigit_0 14 rfl rfl)
theorem dX9_isDigit_15 : decode cX9_isDigit 15 = .ok (.aload_n 0, 1) := dk_42 (dk_at dksX9_isDigit_0 15 rfl rfl)
theorem dX9_isDigit_16 : decode cX9_isDigit 16 = .ok (.getfield 29, 3) := dk_180 0 29 (dk_at dksX9_isDigit_0 16 rfl rfl)
theorem dX9_isDigit_19 : decode cX9_isDigit 19 = .ok (.iconst 3, 1) := dk_6 (dk_at dksX9_isDigit_0 19 rfl rfl)
theorem dX9_isDigit_20 : decode cX9_isDigit 20 = .ok (.aload_n 0, 1) := dk_42 (dk_at dksX9_isDigit_0 20 rfl rfl)
theorem dX9_isDigit_21 : decode cX9_isDigit 21 = .ok (.getfield 167, 3) := dk_180 0 167 (dk_at dksX9_isDigit_0 21 rfl rfl)
theorem dX9_isDigit_24 : decode cX9_isDigit 24 = .ok (.imul, 1) := dk_104 (dk_at dksX9_isDigit_1 0 rfl rfl)
theorem dX9_isDigit_25 : decode cX9_isDigit 25 = .ok (.iload_n 1, 1) := dk_27 (dk_at dksX9_isDigit_1 1 rfl rfl)
theorem dX9_isDigit_26 : decode cX9_isDigit 26 = .ok (.iadd, 1) := dk_96 (dk_at dksX9_isDigit_1 2 rfl rfl)
theorem dX9_isDigit_27 : decode cX9_isDigit 27 = .ok (.aload_n 0, 1) := dk_42 (dk_at dksX9_isDigit_1 3 rfl rfl)
theorem dX9_isDigit_28 : decode cX9_isDigit 28 = .ok (.getfield 26, 3) := dk_180 0 26 (dk_at dksX9_isDigit_1 4 rfl rfl)
theorem dX9_isDigit_31 : decode cX9_isDigit 31 = .ok (.aload_n 0, 1) := dk_42 (dk_at dksX9_isDigit_1 7 rfl rfl)
theorem dX9_isDigit_32 : decode cX9_isDigit 32 = .ok (.getfield 154, 3) := dk_180 0 154 (dk_at dksX9_isDigit_1 8 rfl rfl)
theorem dX9_isDigit_35 : decode cX9_isDigit 35 = .ok (.iaload, 1) := dk_46 (dk_at dksX9_isDigit_1 11 rfl rfl)
theorem dX9_isDigit_36 : decode cX9_isDigit 36 = .ok (.bipush 48, 2) := dk_16 48 (dk_at dksX9_isDigit_1 12 rfl rfl)
theorem dX9_isDigit_38 : decode cX9_isDigit 38 = .ok (.isub, 1) := dk_100 (dk_at dksX9_isDigit_1 14 rfl rfl)
theorem dX9_isDigit_39 : decode cX9_isDigit 39 = .ok (.iastore, 1) := dk_79 (dk_at dksX9_isDigit_1 15 rfl rfl)
theorem dX9_isDigit_40 : decode cX9_isDigit 40 = .ok (.aload_n 0, 1) := dk_42 (dk_at dksX9_isDigit_1 16 rfl rfl)
theorem dX9_isDigit_41 : decode cX9_isDigit 41 = .ok (.dup, 1) := dk_89 (dk_at dksX9_isDigit_1 17 rfl rfl)
theorem dX9_isDigit_42 : decode cX9_isDigit 42 = .ok (.getfield 154, 3) := dk_180 0 154 (dk_at dksX9_isDigit_1 18 rfl rfl)
theorem dX9_isDigit_45 : decode cX9_isDigit 45 = .ok (.iconst 1, 1) := dk_4 (dk_at dksX9_isDigit_1 21 rfl rfl)
theorem dX9_isDigit_46 : decode cX9_isDigit 46 = .ok (.iadd, 1) := dk_96 (dk_at dksX9_isDigit_1 22 rfl rfl)
theorem dX9_isDigit_47 : decode cX9_isDigit 47 = .ok (.putfield 154, 3) := dk_181 0 154 (dk_at dksX9_isDigit_2 0 rfl rfl)
theorem dX9_isDigit_50 : decode cX9_isDigit 50 = .ok (.iconst 1, 1) := dk_4 (dk_at dksX9_isDigit_2 3 rfl rfl)
theorem dX9_isDigit_51 : decode cX9_isDigit 51 = .ok (.ireturn, 1) := dk_172 (dk_at dksX9_isDigit_2 4 rfl rfl)
abbrev cX9_isAt : ByteArray := prog_15_method_53_code
def yX9_isAt : MethodName := ⟨RX9, "isAt", "(II)Z"⟩
def dkwX9_isAt_1 : List UInt8 := [184, 0, 36, 153, 0, 7, 4, 167, 0, 4, 3, 172]
abbrev dktX9_isAt_1 : List UInt8 := dkwX9_isAt_1 ++ []
def dkwX9_isAt_0 : List UInt8 := [42, 180, 0, 154, 42, 180, 0, 151, 162, 0, 24, 42, 180, 0, 26, 42, 180, 0, 154, 46, 27, 28]
abbrev dktX9_isAt_0 : List UInt8 := dkwX9_isAt_0 ++ dktX9_isAt_1
theorem dksX9_isAt_0 : cX9_isAt.data.toList.drop 0 = dktX9_isAt_0 := by decide +kernel
theorem dksX9_isAt_1 : cX9_isAt.data.toList.drop 22 = dktX9_isAt_1 := dk_seg dksX9_isAt_0 22 rfl rfl
theorem dX9_isAt_0 : decode cX9_isAt 0 = .ok (.aload_n 0, 1) := dk_42 (dk_at dksX9_isAt_0 0 rfl rfl)
theorem dX9_isAt_1 : decode cX9_isAt 1 = .ok (.getfield 154, 3) := dk_180 0 154 (dk_at dksX9_isAt_0 1 rfl rfl)
theorem dX9_isAt_4 : decode cX9_isAt 4 = .ok (.aload_n 0, 1) := dk_42 (dk_at dksX9_isAt_0 4 rfl rfl)
theorem dX9_isAt_5 : decode cX9_isAt 5 = .ok (.getfield 151, 3) := dk_180 0 151 (dk_at dksX9_isAt_0 5 rfl rfl)
theorem dX9_isAt_8 : decode cX9_isAt 8 = .ok (.if_icmp .ge 24, 3) := dk_162 0 24 (dk_at dksX9_isAt_0 8 rfl rfl)
theorem dX9_isAt_11 : decode cX9_isAt 11 = .ok (.aload_n 0, 1) := dk_42 (dk_at dksX9_isAt_0 11 rfl rfl)
theorem dX9_isAt_12 : decode cX9_isAt 12 = .ok (.getfield 26, 3) := dk_180 0 26 (dk_at dksX9_isAt_0 12 rfl rfl)
theorem dX9_isAt_15 : decode cX9_isAt 15 = .ok (.aload_n 0, 1) := dk_42 (dk_at dksX9_isAt_0 15 rfl rfl)
theorem dX9_isAt_16 : decode cX9_isAt 16 = .ok (.getfield 154, 3) := dk_180 0 154 (dk_at dksX9_isAt_0 16 rfl rfl)
theorem dX9_isAt_19 : decode cX9_isAt 19 = .ok (.iaload, 1) := dk_46 (dk_at dksX9_isAt_0 19 rfl rfl)
theorem dX9_isAt_20 : decode cX9_isAt 20 = .ok (.iload_n 1, 1) := dk_27 (dk_at dksX9_isAt_0 20 rfl rfl)
theorem dX9_isAt_21 : decode cX9_isAt 21 = .ok (.iload_n 2, 1) := dk_28 (dk_at dksX9_isAt_0 21 rfl rfl)
theorem dX9_isAt_22 : decode cX9_isAt 22 = .ok (.invokestatic 36, 3) := dk_184 0 36 (dk_at dksX9_isAt_1 0 rfl rfl)
theorem dX9_isAt_25 : decode cX9_isAt 25 = .ok (.ifCond .eq 7, 3) := dk_153 0 7 (dk_at dksX9_isAt_1 3 rfl rfl)
theorem dX9_isAt_28 : decode cX9_isAt 28 = .ok (.iconst 1, 1) := dk_4 (dk_at dksX9_isAt_1 6 rfl rfl)
theorem dX9_isAt_29 : decode cX9_isAt 29 = .ok (.goto 4, 3) := dk_167 0 4 (dk_at dksX9_isAt_1 7 rfl rfl)
theorem dX9_isAt_32 : decode cX9_isAt 32 = .ok (.iconst 0, 1) := dk_3 (dk_at dksX9_isAt_1 10 rfl rfl)
theorem dX9_isAt_33 : decode cX9_isAt 33 = .ok (.ireturn, 1) := dk_172 (dk_at dksX9_isAt_1 11 rfl rfl)
abbrev cX9_stops : ByteArray := prog_15_method_54_code
def yX9_stops : MethodName := ⟨RX9, "stops", "()Z"⟩
def dkwX9_stops_0 : List UInt8 := [42, 42, 180, 0, 154, 42, 180, 0, 151, 162, 0, 7, 4, 167, 0, 4, 3, 181, 0, 157, 3, 172]
abbrev dktX9_stops_0 : List UInt8 := dkwX9_stops_0 ++ []
theorem dksX9_stops_0 : cX9_stops.data.toList.drop 0 = dktX9_stops_0 := by decide +kernel
theorem dX9_stops_0 : decode cX9_stops 0 = .ok (.aload_n 0, 1) := dk_42 (dk_at dksX9_stops_0 0 rfl rfl)
theorem dX9_stops_1 : decode cX9_stops 1 = .ok (.aload_n 0, 1) := dk_42 (dk_at dksX9_stops_0 1 rfl rfl)
theorem dX9_stops_2 : decode cX9_stops 2 = .ok (.getfield 154, 3) := dk_180 0 154 (dk_at dksX9_stops_0 2 rfl rfl)
theorem dX9_stops_5 : decode cX9_stops 5 = .ok (.aload_n 0, 1) := dk_42 (dk_at dksX9_stops_0 5 rfl rfl)
theorem dX9_stops_6 : decode cX9_stops 6 = .ok (.getfield 151, 3) := dk_180 0 151 (dk_at dksX9_stops_0 6 rfl rfl)
theorem dX9_stops_9 : decode cX9_stops 9 = .ok (.if_icmp .ge 7, 3) := dk_162 0 7 (dk_at dksX9_stops_0 9 rfl rfl)
theorem dX9_stops_12 : decode cX9_stops 12 = .ok (.iconst 1, 1) := dk_4 (dk_at dksX9_stops_0 12 rfl rfl)
theorem dX9_stops_13 : decode cX9_stops 13 = .ok (.goto 4, 3) := dk_167 0 4 (dk_at dksX9_stops_0 13 rfl rfl)
theorem dX9_stops_16 : decode cX9_stops 16 = .ok (.iconst 0, 1) := dk_3 (dk_at dksX9_stops_0 16 rfl rfl)
theorem dX9_stops_17 : decode cX9_stops 17 = .ok (.putfield 157, 3) := dk_181 0 157 (dk_at dksX9_stops_0 17 rfl rfl)
theorem dX9_stops_20 : decode cX9_stops 20 = .ok (.iconst 0, 1) := dk_3 (dk_at dksX9_stops_0 20 rfl rfl)
theorem dX9_stops_21 : decode cX9_stops 21 = .ok (.ireturn, 1) := dk_172 (dk_at dksX9_stops_0 21 rfl rfl)
abbrev cX9_isComplaint : ByteArray := prog_15_method_58_code
def yX9_isComplaint : MethodName := ⟨RX9, "isComplaint", "()Z"⟩
def dkwX9_isComplaint_1 : List UInt8 := [182, 0, 163, 172, 42, 89, 180, 0, 154, 4, 96, 181, 0, 154, 42, 5, 182, 0, 176, 172]
abbrev dktX9_isComplaint_1 : List UInt8 := dkwX9_isComplaint_1 ++ []
def dkwX9_isComplaint_0 : List UInt8 := [42, 4, 16, 52, 182, 0, 173, 154, 0, 5, 3, 172, 42, 16, 58, 16, 58, 182, 0, 160, 154, 0, 8, 42]
abbrev dktX9_isComplaint_0 : List UInt8 := dkwX9_isComplaint_0 ++ dktX9_isComplaint_1
theorem dksX9_isComplaint_0 : cX9_isComplaint.data.toList.drop 0 = dktX9_isComplaint_0 := by decide +kernel
theorem dksX9_isComplaint_1 : cX9_isComplaint.data.toList.drop 24 = dktX9_isComplaint_1 := dk_seg dksX9_isComplaint_0 24 rfl rfl
theorem dX9_isComplaint_0 : decode cX9_isComplaint 0 = .ok (.aload_n 0, 1) := dk_42 (dk_at dksX9_isComplaint_0 0 rfl rfl)
theorem dX9_isComplaint_1 : decode cX9_isComplaint 1 = .ok (.iconst 1, 1) := dk_4 (dk_at dksX9_isComplaint_0 1 rfl rfl)
theorem dX9_isComplaint_2 : decode cX9_isComplaint 2 = .ok (.bipush 52, 2) := dk_16 52 (dk_at dksX9_isComplaint_0 2 rfl rfl)
theorem dX9_isComplaint_4 : decode cX9_isComplaint 4 = .ok (.invokevirtual 173, 3) := dk_182 0 173 (dk_at dksX9_isComplaint_0 4 rfl rfl)
theorem dX9_isComplaint_7 : decode cX9_isComplaint 7 = .ok (.ifCond .ne 5, 3) := dk_154 0 5 (dk_at dksX9_isComplaint_0 7 rfl rfl)
theorem dX9_isComplaint_10 : decode cX9_isComplaint 10 = .ok (.iconst 0, 1) := dk_3 (dk_at dksX9_isComplaint_0 10 rfl rfl)
theorem dX9_isComplaint_11 : decode cX9_isComplaint 11 = .ok (.ireturn, 1) := dk_172 (dk_at dksX9_isComplaint_0 11 rfl rfl)
theorem dX9_isComplaint_12 : decode cX9_isComplaint 12 = .ok (.aload_n 0, 1) := dk_42 (dk_at dksX9_isComplaint_0 12 rfl rfl)
theorem dX9_isComplaint_13 : decode cX9_isComplaint 13 = .ok (.bipush 58, 2) := dk_16 58 (dk_at dksX9_isComplaint_0 13 rfl rfl)
theorem dX9_isComplaint_15 : decode cX9_isComplaint 15 = .ok (.bipush 58, 2) := dk_16 58 (dk_at dksX9_isComplaint_0 15 rfl rfl)
theorem dX9_isComplaint_17 : decode cX9_isComplaint 17 = .ok (.invokevirtual 160, 3) := dk_182 0 160 (dk_at dksX9_isComplaint_0 17 rfl rfl)
theorem dX9_isComplaint_20 : decode cX9_isComplaint 20 = .ok (.ifCond .ne 8, 3) := dk_154 0 8 (dk_at dksX9_isComplaint_0 20 rfl rfl)
theorem dX9_isComplaint_23 : decode cX9_isComplaint 23 = .ok (.aload_n 0, 1) := dk_42 (dk_at dksX9_isComplaint_0 23 rfl rfl)
theorem dX9_isComplaint_24 : decode cX9_isComplaint 24 = .ok (.invokevirtual 163, 3) := dk_182 0 163 (dk_at dksX9_isComplaint_1 0 rfl rfl)
theorem dX9_isComplaint_27 : decode cX9_isComplaint 27 = .ok (.ireturn, 1) := dk_172 (dk_at dksX9_isComplaint_1 3 rfl rfl)
theorem dX9_isComplaint_28 : decode cX9_isComplaint 28 = .ok (.aload_n 0, 1) := dk_42 (dk_at dksX9_isComplaint_1 4 rfl rfl)
theorem dX9_isComplaint_29 : decode cX9_isComplaint 29 = .ok (.dup, 1) := dk_89 (dk_at dksX9_isComplaint_1 5 rfl rfl)
theorem dX9_isComplaint_30 : decode cX9_isComplaint 30 = .ok (.getfield 154, 3) := dk_180 0 154 (dk_at dksX9_isComplaint_1 6 rfl rfl)
theorem dX9_isComplaint_33 : decode cX9_isComplaint 33 = .ok (.iconst 1, 1) := dk_4 (dk_at dksX9_isComplaint_1 9 rfl rfl)
theorem dX9_isComplaint_34 : decode cX9_isComplaint 34 = .ok (.iadd, 1) := dk_96 (dk_at dksX9_isComplaint_1 10 rfl rfl)
theorem dX9_isComplaint_35 : decode cX9_isComplaint 35 = .ok (.putfield 154, 3) := dk_181 0 154 (dk_at dksX9_isComplaint_1 11 rfl rfl)
theorem dX9_isComplaint_38 : decode cX9_isComplaint 38 = .ok (.aload_n 0, 1) := dk_42 (dk_at dksX9_isComplaint_1 14 rfl rfl)
theorem dX9_isComplaint_39 : decode cX9_isComplaint 39 = .ok (.iconst 2, 1) := dk_5 (dk_at dksX9_isComplaint_1 15 rfl rfl)
theorem dX9_isComplaint_40 : decode cX9_isComplaint 40 = .ok (.invokevirtual 176, 3) := dk_182 0 176 (dk_at dksX9_isComplaint_1 16 rfl rfl)
theorem dX9_isComplaint_43 : decode cX9_isComplaint 43 = .ok (.ireturn, 1) := dk_172 (dk_at dksX9_isComplaint_1 19 rfl rfl)
abbrev cX9_areDays : ByteArray := prog_15_method_56_code
def yX9_areDays : MethodName := ⟨RX9, "areDays", "(I)Z"⟩
def dkwX9_areDays_5 : List UInt8 := [180, 0, 29, 6, 42, 180, 0, 167, 104, 27, 96, 42, 180, 0, 170, 79, 4, 172]
abbrev dktX9_areDays_5 : List UInt8 := dkwX9_areDays_5 ++ []
def dkwX9_areDays_4 : List UInt8 := [180, 0, 154, 46, 96, 16, 48, 100, 181, 0, 170, 42, 89, 180, 0, 154, 4, 96, 181, 0, 154, 42]
abbrev dktX9_areDays_4 : List UInt8 := dkwX9_areDays_4 ++ dktX9_areDays_5
def dkwX9_areDays_3 : List UInt8 := [96, 16, 48, 100, 16, 60, 163, 0, 37, 42, 16, 10, 42, 180, 0, 170, 104, 42, 180, 0, 26, 42]
abbrev dktX9_areDays_3 : List UInt8 := dkwX9_areDays_3 ++ dktX9_areDays_4
def dkwX9_areDays_2 : List UInt8 := [16, 57, 182, 0, 160, 153, 0, 62, 16, 10, 42, 180, 0, 170, 104, 42, 180, 0, 26, 42, 180, 0, 154, 46]
abbrev dktX9_areDays_2 : List UInt8 := dkwX9_areDays_2 ++ dktX9_areDays_3
def dkwX9_areDays_1 : List UInt8 := [180, 0, 154, 46, 16, 48, 100, 181, 0, 170, 42, 89, 180, 0, 154, 4, 96, 181, 0, 154, 42, 16, 48]
abbrev dktX9_areDays_1 : List UInt8 := dkwX9_areDays_1 ++ dktX9_areDays_2
def dkwX9_areDays_0 : List UInt8 := [42, 16, 49, 16, 57, 182, 0, 160, 154, 0, 8, 42, 182, 0, 163, 172, 42, 42, 180, 0, 26, 42]
abbrev dktX9_areDays_0 : List UInt8 := dkwX9_areDays_0 ++ dktX9_areDays_1
theorem dksX9_areDays_0 : cX9_areDays.data.toList.drop 0 = dktX9_areDays_0 := by decide +kernel
theorem dksX9_areDays_1 : cX9_areDays.data.toList.drop 22 = dktX9_areDays_1 := dk_seg dksX9_areDays_0 22 rfl rfl
theorem dksX9_areDays_2 : cX9_areDays.data.toList.drop 45 = dktX9_areDays_2 := dk_seg dksX9_areDays_1 23 rfl rfl
theorem dksX9_areDays_3 : cX9_areDays.data.toList.drop 69 = dktX9_areDays_3 := dk_seg dksX9_areDays_2 24 rfl rfl
theorem dksX9_areDays_4 : cX9_areDays.data.toList.drop 91 = dktX9_areDays_4 := dk_seg dksX9_areDays_3 22 rfl rfl
theorem dksX9_areDays_5 : cX9_areDays.data.toList.drop 113 = dktX9_areDays_5 := dk_seg dksX9_areDays_4 22 rfl rfl
theorem dX9_areDays_0 : decode cX9_areDays 0 = .ok (.aload_n 0, 1) := dk_42 (dk_at dksX9_areDays_0 0 rfl rfl)
theorem dX9_areDays_1 : decode cX9_areDays 1 = .ok (.bipush 49, 2) := dk_16 49 (dk_at dksX9_areDays_0 1 rfl rfl)
theorem dX9_areDays_3 : decode cX9_areDays 3 = .ok (.bipush 57, 2) := dk_16 57 (dk_at dksX9_areDays_0 3 rfl rfl)
theorem dX9_areDays_5 : decode cX9_areDays 5 = .ok (.invokevirtual 160, 3) := dk_182 0 160 (dk_at dksX9_areDays_0 5 rfl rfl)
theorem dX9_areDays_8 : decode cX9_areDays 8 = .ok (.ifCond .ne 8, 3) := dk_154 0 8 (dk_at dksX9_areDays_0 8 rfl rfl)
theorem dX9_areDays_11 : decode cX9_areDays 11 = .ok (.aload_n 0, 1) := dk_42 (dk_at dksX9_areDays_0 11 rfl rfl)
theorem dX9_areDays_12 : decode cX9_areDays 12 = .ok (.invokevirtual 163, 3) := dk_182 0 163 (dk_at dksX9_areDays_0 12 rfl rfl)
theorem dX9_areDays_15 : decode cX9_areDays 15 = .ok (.ireturn, 1) := dk_172 (dk_at dksX9_areDays_0 15 rfl rfl)
theorem dX9_areDays_16 : decode cX9_areDays 16 = .ok (.aload_n 0, 1) := dk_42 (dk_at dksX9_areDays_0 16 rfl rfl)
theorem dX9_areDays_17 : decode cX9_areDays 17 = .ok (.aload_n 0, 1) := dk_42 (dk_at dksX9_areDays_0 17 rfl rfl)
theorem dX9_areDays_18 : decode cX9_areDays 18 = .ok (.getfield 26, 3) := dk_180 0 26 (dk_at dksX9_areDays_0 18 rfl rfl)
theorem dX9_areDays_21 : decode cX9_areDays 21 = .ok (.aload_n 0, 1) := dk_42 (dk_at dksX9_areDays_0 21 rfl rfl)
theorem dX9_areDays_22 : decode cX9_areDays 22 = .ok (.getfield 154, 3) := dk_180 0 154 (dk_at dksX9_areDays_1 0 rfl rfl)
theorem dX9_areDays_25 : decode cX9_areDays 25 = .ok (.iaload, 1) := dk_46 (dk_at dksX9_areDays_1 3 rfl rfl)
theorem dX9_areDays_26 : decode cX9_areDays 26 = .ok (.bipush 48, 2) := dk_16 48 (dk_at dksX9_areDays_1 4 rfl rfl)
theorem dX9_areDays_28 : decode cX9_areDays 28 = .ok (.isub, 1) := dk_100 (dk_at dksX9_areDays_1 6 rfl rfl)
theorem dX9_areDays_29 : decode cX9_areDays 29 = .ok (.putfield 170, 3) := dk_181 0 170 (dk_at dksX9_areDays_1 7 rfl rfl)
theorem dX9_areDays_32 : decode cX9_areDays 32 = .ok (.aload_n 0, 1) := dk_42 (dk_at dksX9_areDays_1 10 rfl rfl)
theorem dX9_areDays_33 : decode cX9_areDays 33 = .ok (.dup, 1) := dk_89 (dk_at dksX9_areDays_1 11 rfl rfl)
theorem dX9_areDays_34 : decode cX9_areDays 34 = .ok (.getfield 154, 3) := dk_180 0 154 (dk_at dksX9_areDays_1 12 rfl rfl)
theorem dX9_areDays_37 : decode cX9_areDays 37 = .ok (.iconst 1, 1) := dk_4 (dk_at dksX9_areDays_1 15 rfl rfl)
theorem dX9_areDays_38 : decode cX9_areDays 38 = .ok (.iadd, 1) := dk_96 (dk_at dksX9_areDays_1 16 rfl rfl)
theorem dX9_areDays_39 : decode cX9_areDays 39 = .ok (.putfield 154, 3) := dk_181 0 154 (dk_at dksX9_areDays_1 17 rfl rfl)
theorem dX9_areDays_42 : decode cX9_areDays 42 = .ok (.aload_n 0, 1) := dk_42 (dk_at dksX9_areDays_1 20 rfl rfl)
theorem dX9_areDays_43 : decode cX9_areDays 43 = .ok (.bipush 48, 2) := dk_16 48 (dk_at dksX9_areDays_1 21 rfl rfl)
theorem dX9_areDays_45 : decode cX9_areDays 45 = .ok (.bipush 57, 2) := dk_16 57 (dk_at dksX9_areDays_2 0 rfl rfl)
theorem dX9_areDays_47 : decode cX9_areDays 47 = .ok (.invokevirtual 160, 3) := dk_182 0 160 (dk_at dksX9_areDays_2 2 rfl rfl)
theorem dX9_areDays_50 : decode cX9_areDays 50 = .ok (.ifCond .eq 62, 3) := dk_153 0 62 (dk_at dksX9_areDays_2 5 rfl rfl)
theorem dX9_areDays_53 : decode cX9_areDays 53 = .ok (.bipush 10, 2) := dk_16 10 (dk_at dksX9_areDays_2 8 rfl rfl)
theorem dX9_areDays_55 : decode cX9_areDays 55 = .ok (.aload_n 0, 1) := dk_42 (dk_at dksX9_areDays_2 10 rfl rfl)
theorem dX9_areDays_56 : decode cX9_areDays 56 = .ok (.getfield 170, 3) := dk_180 0 170 (dk_at dksX9_areDays_2 11 rfl rfl)
theorem dX9_areDays_59 : decode cX9_areDays 59 = .ok (.imul, 1) := dk_104 (dk_at dksX9_areDays_2 14 rfl rfl)
theorem dX9_areDays_60 : decode cX9_areDays 60 = .ok (.aload_n 0, 1) := dk_42 (dk_at dksX9_areDays_2 15 rfl rfl)
theorem dX9_areDays_61 : decode cX9_areDays 61 = .ok (.getfield 26, 3) := dk_180 0 26 (dk_at dksX9_areDays_2 16 rfl rfl)
theorem dX9_areDays_64 : decode cX9_areDays 64 = .ok (.aload_n 0, 1) := dk_42 (dk_at dksX9_areDays_2 19 rfl rfl)
theorem dX9_areDays_65 : decode cX9_areDays 65 = .ok (.getfield 154, 3) := dk_180 0 154 (dk_at dksX9_areDays_2 20 rfl rfl)
theorem dX9_areDays_68 : decode cX9_areDays 68 = .ok (.iaload, 1) := dk_46 (dk_at dksX9_areDays_2 23 rfl rfl)
theorem dX9_areDays_69 : decode cX9_areDays 69 = .ok (.iadd, 1) := dk_96 (dk_at dksX9_areDays_3 0 rfl rfl)
theorem dX9_areDays_70 : decode cX9_areDays 70 = .ok (.bipush 48, 2) := dk_16 48 (dk_at dksX9_areDays_3 1 rfl rfl)
theorem dX9_areDays_72 : decode cX9_areDays 72 = .ok (.isub, 1) := dk_100 (dk_at dksX9_areDays_3 3 rfl rfl)
theorem dX9_areDays_73 : decode cX9_areDays 73 = .ok (.bipush 60, 2) := dk_16 60 (dk_at dksX9_areDays_3 4 rfl rfl)
theorem dX9_areDays_75 : decode cX9_areDays 75 = .ok (.if_icmp .gt 37, 3) := dk_163 0 37 (dk_at dksX9_areDays_3 6 rfl rfl)
theorem dX9_areDays_78 : decode cX9_areDays 78 = .ok (.aload_n 0, 1) := dk_42 (dk_at dksX9_areDays_3 9 rfl rfl)
theorem dX9_areDays_79 : decode cX9_areDays 79 = .ok (.bipush 10, 2) := dk_16 10 (dk_at dksX9_areDays_3 10 rfl rfl)
theorem dX9_areDays_81 : decode cX9_areDays 81 = .ok (.aload_n 0, 1) := dk_42 (dk_at dksX9_areDays_3 12 rfl rfl)
theorem dX9_areDays_82 : decode cX9_areDays 82 = .ok (.getfield 170, 3) := dk_180 0 170 (dk_at dksX9_areDays_3 13 rfl rfl)
theorem dX9_areDays_85 : decode cX9_areDays 85 = .ok (.imul, 1) := dk_104 (dk_at dksX9_areDays_3 16 rfl rfl)
theorem dX9_areDays_86 : decode cX9_areDays 86 = .ok (.aload_n 0, 1) := dk_42 (dk_at dksX9_areDays_3 17 rfl rfl)
theorem dX9_areDays_87 : decode cX9_areDays 87 = .ok (.getfield 26, 3) := dk_180 0 26 (dk_at dksX9_areDays_3 18 rfl rfl)
theorem dX9_areDays_90 : decode cX9_areDays 90 = .ok (.aload_n 0, 1) := dk_42 (dk_at dksX9_areDays_3 21 rfl rfl)
theorem dX9_areDays_91 : decode cX9_areDays 91 = .ok (.getfield 154, 3) := dk_180 0 154 (dk_at dksX9_areDays_4 0 rfl rfl)
theorem dX9_areDays_94 : decode cX9_areDays 94 = .ok (.iaload, 1) := dk_46 (dk_at dksX9_areDays_4 3 rfl rfl)
theorem dX9_areDays_95 : decode cX9_areDays 95 = .ok (.iadd, 1) := dk_96 (dk_at dksX9_areDays_4 4 rfl rfl)
theorem dX9_areDays_96 : decode cX9_areDays 96 = .ok (.bipush 48, 2) := dk_16 48 (dk_at dksX9_areDays_4 5 rfl rfl)
theorem dX9_areDays_98 : decode cX9_areDays 98 = .ok (.isub, 1) := dk_100 (dk_at dksX9_areDays_4 7 rfl rfl)
theorem dX9_areDays_99 : decode cX9_areDays 99 = .ok (.putfield 170, 3) := dk_181 0 170 (dk_at dksX9_areDays_4 8 rfl rfl)
theorem dX9_areDays_102 : decode cX9_areDays 102 = .ok (.aload_n 0, 1) := dk_42 (dk_at dksX9_areDays_4 11 rfl rfl)
theorem dX9_areDays_103 : decode cX9_areDays 103 = .ok (.dup, 1) := dk_89 (dk_at dksX9_areDays_4 12 rfl rfl)
theorem dX9_areDays_104 : decode cX9_areDays 104 = .ok (.getfield 154, 3) := dk_180 0 154 (dk_at dksX9_areDays_4 13 rfl rfl)
theorem dX9_areDays_107 : decode cX9_areDays 107 = .ok (.iconst 1, 1) := dk_4 (dk_at dksX9_areDays_4 16 rfl rfl)
theorem dX9_areDays_108 : decode cX9_areDays 108 = .ok (.iadd, 1) := dk_96 (dk_at dksX9_areDays_4 17 rfl rfl)
theorem dX9_areDays_109 : decode cX9_areDays 109 = .ok (.putfield 154, 3) := dk_181 0 154 (dk_at dksX9_areDays_4 18 rfl rfl)
theorem dX9_areDays_112 : decode cX9_areDays 112 = .ok (.aload_n 0, 1) := dk_42 (dk_at dksX9_areDays_4 21 rfl rfl)
theorem dX9_areDays_113 : decode cX9_areDays 113 = .ok (.getfield 29, 3) := dk_180 0 29 (dk_at dksX9_areDays_5 0 rfl rfl)
theorem dX9_areDays_116 : decode cX9_areDays 116 = .ok (.iconst 3, 1) := dk_6 (dk_at dksX9_areDays_5 3 rfl rfl)
theorem dX9_areDays_117 : decode cX9_areDays 117 = .ok (.aload_n 0, 1) := dk_42 (dk_at dksX9_areDays_5 4 rfl rfl)
theorem dX9_areDays_118 : decode cX9_areDays 118 = .ok (.getfield 167, 3) := dk_180 0 167 (dk_at dksX9_areDays_5 5 rfl rfl)
theorem dX9_areDays_121 : decode cX9_areDays 121 = .ok (.imul, 1) := dk_104 (dk_at dksX9_areDays_5 8 rfl rfl)
theorem dX9_areDays_122 : decode cX9_areDays 122 = .ok (.iload_n 1, 1) := dk_27 (dk_at dksX9_areDays_5 9 rfl rfl)
theorem dX9_areDays_123 : decode cX9_areDays 123 = .ok (.iadd, 1) := dk_96 (dk_at dksX9_areDays_5 10 rfl rfl)
theorem dX9_areDays_124 : decode cX9_areDays 124 = .ok (.aload_n 0, 1) := dk_42 (dk_at dksX9_areDays_5 11 rfl rfl)
theorem dX9_areDays_125 : decode cX9_areDays 125 = .ok (.getfield 170, 3) := dk_180 0 170 (dk_at dksX9_areDays_5 12 rfl rfl)
theorem dX9_areDays_128 : decode cX9_areDays 128 = .ok (.iastore, 1) := dk_79 (dk_at dksX9_areDays_5 15 rfl rfl)
theorem dX9_areDays_129 : decode cX9_areDays 129 = .ok (.iconst 1, 1) := dk_4 (dk_at dksX9_areDays_5 16 rfl rfl)
theorem dX9_areDays_130 : decode cX9_areDays 130 = .ok (.ireturn, 1) := dk_172 (dk_at dksX9_areDays_5 17 rfl rfl)
abbrev cX9_work : ByteArray := prog_15_method_63_code
def yX9_work : MethodName := ⟨RX9, "work", "()I"⟩
def dkwX9_work_2 : List UInt8 := [167, 255, 237, 27, 172]
abbrev dktX9_work_2 : List UInt8 := dkwX9_work_2 ++ []
def dkwX9_work_1 : List UInt8 := [181, 0, 151, 3, 60, 27, 42, 180, 0, 167, 162, 0, 17, 42, 27, 182, 0, 191, 153, 0, 9, 132, 1, 1]
abbrev dktX9_work_1 : List UInt8 := dkwX9_work_1 ++ dktX9_work_2
def dkwX9_work_0 : List UInt8 := [42, 3, 181, 0, 32, 42, 182, 0, 188, 154, 0, 9, 42, 4, 182, 0, 47, 172, 42, 182, 0, 51, 42, 3]
abbrev dktX9_work_0 : List UInt8 := dkwX9_work_0 ++ dktX9_work_1
theorem dksX9_work_0 : cX9_work.data.toList.drop 0 = dktX9_work_0 := by decide +kernel
theorem dksX9_work_1 : cX9_work.data.toList.drop 24 = dktX9_work_1 := dk_seg dksX9_work_0 24 rfl rfl
theorem dksX9_work_2 : cX9_work.data.toList.drop 48 = dktX9_work_2 := dk_seg dksX9_work_1 24 rfl rfl
theorem dX9_work_0 : decode cX9_work 0 = .ok (.aload_n 0, 1) := dk_42 (dk_at dksX9_work_0 0 rfl rfl)
theorem dX9_work_1 : decode cX9_work 1 = .ok (.iconst 0, 1) := dk_3 (dk_at dksX9_work_0 1 rfl rfl)
theorem dX9_work_2 : decode cX9_work 2 = .ok (.putfield 32, 3) := dk_181 0 32 (dk_at dksX9_work_0 2 rfl rfl)
theorem dX9_work_5 : decode cX9_work 5 = .ok (.aload_n 0, 1) := dk_42 (dk_at dksX9_work_0 5 rfl rfl)
theorem dX9_work_6 : decode cX9_work 6 = .ok (.invokevirtual 188, 3) := dk_182 0 188 (dk_at dksX9_work_0 6 rfl rfl)
theorem dX9_work_9 : decode cX9_work 9 = .ok (.ifCond .ne 9, 3) := dk_154 0 9 (dk_at dksX9_work_0 9 rfl rfl)
theorem dX9_work_12 : decode cX9_work 12 = .ok (.aload_n 0, 1) := dk_42 (dk_at dksX9_work_0 12 rfl rfl)
theorem dX9_work_13 : decode cX9_work 13 = .ok (.iconst 1, 1) := dk_4 (dk_at dksX9_work_0 13 rfl rfl)
theorem dX9_work_14 : decode cX9_work 14 = .ok (.invokevirtual 47, 3) := dk_182 0 47 (dk_at dksX9_work_0 14 rfl rfl)
theorem dX9_work_17 : decode cX9_work 17 = .ok (.ireturn, 1) := dk_172 (dk_at dksX9_work_0 17 rfl rfl)
theorem dX9_work_18 : decode cX9_work 18 = .ok (.aload_n 0, 1) := dk_42 (dk_at dksX9_work_0 18 rfl rfl)
theorem dX9_work_19 : decode cX9_work 19 = .ok (.invokevirtual 51, 3) := dk_182 0 51 (dk_at dksX9_work_0 19 rfl rfl)
theorem dX9_work_22 : decode cX9_work 22 = .ok (.aload_n 0, 1) := dk_42 (dk_at dksX9_work_0 22 rfl rfl)
theorem dX9_work_23 : decode cX9_work 23 = .ok (.iconst 0, 1) := dk_3 (dk_at dksX9_work_0 23 rfl rfl)
theorem dX9_work_24 : decode cX9_work 24 = .ok (.putfield 151, 3) := dk_181 0 151 (dk_at dksX9_work_1 0 rfl rfl)
theorem dX9_work_27 : decode cX9_work 27 = .ok (.iconst 0, 1) := dk_3 (dk_at dksX9_work_1 3 rfl rfl)
theorem dX9_work_28 : decode cX9_work 28 = .ok (.istore_n 1, 1) := dk_60 (dk_at dksX9_work_1 4 rfl rfl)
theorem dX9_work_29 : decode cX9_work 29 = .ok (.iload_n 1, 1) := dk_27 (dk_at dksX9_work_1 5 rfl rfl)
theorem dX9_work_30 : decode cX9_work 30 = .ok (.aload_n 0, 1) := dk_42 (dk_at dksX9_work_1 6 rfl rfl)
theorem dX9_work_31 : decode cX9_work 31 = .ok (.getfield 167, 3) := dk_180 0 167 (dk_at dksX9_work_1 7 rfl rfl)
theorem dX9_work_34 : decode cX9_work 34 = .ok (.if_icmp .ge 17, 3) := dk_162 0 17 (dk_at dksX9_work_1 10 rfl rfl)
theorem dX9_work_37 : decode cX9_work 37 = .ok (.aload_n 0, 1) := dk_42 (dk_at dksX9_work_1 13 rfl rfl)
theorem dX9_work_38 : decode cX9_work 38 = .ok (.iload_n 1, 1) := dk_27 (dk_at dksX9_work_1 14 rfl rfl)
theorem dX9_work_39 : decode cX9_work 39 = .ok (.invokevirtual 191, 3) := dk_182 0 191 (dk_at dksX9_work_1 15 rfl rfl)
theorem dX9_work_42 : decode cX9_work 42 = .ok (.ifCond .eq 9, 3) := dk_153 0 9 (dk_at dksX9_work_1 18 rfl rfl)
theorem dX9_work_45 : decode cX9_work 45 = .ok (.iinc 1 1, 3) := dk_132 1 1 (dk_at dksX9_work_1 21 rfl rfl)
theorem dX9_work_48 : decode cX9_work 48 = .ok (.goto (-19), 3) := dk_167 255 237 (dk_at dksX9_work_2 0 rfl rfl)
theorem dX9_work_51 : decode cX9_work 51 = .ok (.iload_n 1, 1) := dk_27 (dk_at dksX9_work_2 3 rfl rfl)
theorem dX9_work_52 : decode cX9_work 52 = .ok (.ireturn, 1) := dk_172 (dk_at dksX9_work_2 4 rfl rfl)
abbrev cX9_does : ByteArray := prog_15_method_62_code
def yX9_does : MethodName := ⟨RX9, "does", "(I)Z"⟩
def dkwX9_does_5 : List UInt8 := [172, 42, 42, 180, 0, 7, 28, 182, 0, 144, 4, 172]
abbrev dktX9_does_5 : List UInt8 := dkwX9_does_5 ++ []
def dkwX9_does_4 : List UInt8 := [180, 0, 29, 6, 27, 104, 5, 96, 46, 182, 0, 135, 87, 4, 172, 42, 28, 182, 0, 138, 154, 0, 5, 3]
abbrev dktX9_does_4 : List UInt8 := dkwX9_does_4 ++ dktX9_does_5
def dkwX9_does_3 : List UInt8 := [6, 27, 104, 5, 96, 46, 182, 0, 122, 87, 4, 172, 42, 8, 28, 182, 0, 122, 87, 4, 172, 42, 28, 42]
abbrev dktX9_does_3 : List UInt8 := dkwX9_does_3 ++ dktX9_does_4
def dkwX9_does_2 : List UInt8 := [42, 28, 182, 0, 118, 154, 0, 5, 3, 172, 42, 16, 26, 16, 7, 28, 104, 96, 8, 96, 42, 180, 0, 29]
abbrev dktX9_does_2 : List UInt8 := dkwX9_does_2 ++ dktX9_does_3
def dkwX9_does_1 : List UInt8 := [171, 0, 0, 0, 96, 0, 0, 0, 3, 0, 0, 0, 98, 0, 0, 0, 33, 0, 0, 0, 109, 0, 0, 0, 69, 0, 0, 0, 120, 0, 0, 0, 78]
abbrev dktX9_does_1 : List UInt8 := dkwX9_does_1 ++ dktX9_does_2
def dkwX9_does_0 : List UInt8 := [42, 180, 0, 29, 6, 27, 104, 4, 96, 46, 61, 42, 180, 0, 29, 6, 27, 104, 46]
abbrev dktX9_does_0 : List UInt8 := dkwX9_does_0 ++ dktX9_does_1
theorem dksX9_does_0 : cX9_does.data.toList.drop 0 = dktX9_does_0 := by decide +kernel
theorem dksX9_does_1 : cX9_does.data.toList.drop 19 = dktX9_does_1 := dk_seg dksX9_does_0 19 rfl rfl
theorem dksX9_does_2 : cX9_does.data.toList.drop 52 = dktX9_does_2 := dk_seg dksX9_does_1 33 rfl rfl
theorem dksX9_does_3 : cX9_does.data.toList.drop 76 = dktX9_does_3 := dk_seg dksX9_does_2 24 rfl rfl
theorem dksX9_does_4 : cX9_does.data.toList.drop 100 = dktX9_does_4 := dk_seg dksX9_does_3 24 rfl rfl
theorem dksX9_does_5 : cX9_does.data.toList.drop 124 = dktX9_does_5 := dk_seg dksX9_does_4 24 rfl rfl
theorem dX9_does_0 : decode cX9_does 0 = .ok (.aload_n 0, 1) := dk_42 (dk_at dksX9_does_0 0 rfl rfl)
theorem dX9_does_1 : decode cX9_does 1 = .ok (.getfield 29, 3) := dk_180 0 29 (dk_at dksX9_does_0 1 rfl rfl)
theorem dX9_does_4 : decode cX9_does 4 = .ok (.iconst 3, 1) := dk_6 (dk_at dksX9_does_0 4 rfl rfl)
theorem dX9_does_5 : decode cX9_does 5 = .ok (.iload_n 1, 1) := dk_27 (dk_at dksX9_does_0 5 rfl rfl)
theorem dX9_does_6 : decode cX9_does 6 = .ok (.imul, 1) := dk_104 (dk_at dksX9_does_0 6 rfl rfl)
theorem dX9_does_7 : decode cX9_does 7 = .ok (.iconst 1, 1) := dk_4 (dk_at dksX9_does_0 7 rfl rfl)
theorem dX9_does_8 : decode cX9_does 8 = .ok (.iadd, 1) := dk_96 (dk_at dksX9_does_0 8 rfl rfl)
theorem dX9_does_9 : decode cX9_does 9 = .ok (.iaload, 1) := dk_46 (dk_at dksX9_does_0 9 rfl rfl)
theorem dX9_does_10 : decode cX9_does 10 = .ok (.istore_n 2, 1) := dk_61 (dk_at dksX9_does_0 10 rfl rfl)
theorem dX9_does_11 : decode cX9_does 11 = .ok (.aload_n 0, 1) := dk_42 (dk_at dksX9_does_0 11 rfl rfl)
theorem dX9_does_12 : decode cX9_does 12 = .ok (.getfield 29, 3) := dk_180 0 29 (dk_at dksX9_does_0 12 rfl rfl)
theorem dX9_does_15 : decode cX9_does 15 = .ok (.iconst 3, 1) := dk_6 (dk_at dksX9_does_0 15 rfl rfl)
theorem dX9_does_16 : decode cX9_does 16 = .ok (.iload_n 1, 1) := dk_27 (dk_at dksX9_does_0 16 rfl rfl)
theorem dX9_does_17 : decode cX9_does 17 = .ok (.imul, 1) := dk_104 (dk_at dksX9_does_0 17 rfl rfl)
theorem dX9_does_18 : decode cX9_does 18 = .ok (.iaload, 1) := dk_46 (dk_at dksX9_does_0 18 rfl rfl)
theorem dX9_does_19 : decode cX9_does 19 = .ok (.lookupswitch 96 #[(98, 33), (109, 69), (120, 78)], 33) := by decide +kernel
theorem dX9_does_52 : decode cX9_does 52 = .ok (.aload_n 0, 1) := dk_42 (dk_at dksX9_does_2 0 rfl rfl)
theorem dX9_does_53 : decode cX9_does 53 = .ok (.iload_n 2, 1) := dk_28 (dk_at dksX9_does_2 1 rfl rfl)
theorem dX9_does_54 : decode cX9_does 54 = .ok (.invokevirtual 118, 3) := dk_182 0 118 (dk_at dksX9_does_2 2 rfl rfl)
theorem dX9_does_57 : decode cX9_does 57 = .ok (.ifCond .ne 5, 3) := dk_154 0 5 (dk_at dksX9_does_2 5 rfl rfl)
theorem dX9_does_60 : decode cX9_does 60 = .ok (.iconst 0, 1) := dk_3 (dk_at dksX9_does_2 8 rfl rfl)
theorem dX9_does_61 : decode cX9_does 61 = .ok (.ireturn, 1) := dk_172 (dk_at dksX9_does_2 9 rfl rfl)
theorem dX9_does_62 : decode cX9_does 62 = .ok (.aload_n 0, 1) := dk_42 (dk_at dksX9_does_2 10 rfl rfl)
theorem dX9_does_63 : decode cX9_does 63 = .ok (.bipush 26, 2) := dk_16 26 (dk_at dksX9_does_2 11 rfl rfl)
theorem dX9_does_65 : decode cX9_does 65 = .ok (.bipush 7, 2) := dk_16 7 (dk_at dksX9_does_2 13 rfl rfl)
theorem dX9_does_67 : decode cX9_does 67 = .ok (.iload_n 2, 1) := dk_28 (dk_at dksX9_does_2 15 rfl rfl)
theorem dX9_does_68 : decode cX9_does 68 = .ok (.imul, 1) := dk_104 (dk_at dksX9_does_2 16 rfl rfl)
theorem dX9_does_69 : decode cX9_does 69 = .ok (.iadd, 1) := dk_96 (dk_at dksX9_does_2 17 rfl rfl)
theorem dX9_does_70 : decode cX9_does 70 = .ok (.iconst 5, 1) := dk_8 (dk_at dksX9_does_2 18 rfl rfl)
theorem dX9_does_71 : decode cX9_does 71 = .ok (.iadd, 1) := dk_96 (dk_at dksX9_does_2 19 rfl rfl)
theorem dX9_does_72 : decode cX9_does 72 = .ok (.aload_n 0, 1) := dk_42 (dk_at dksX9_does_2 20 rfl rfl)
theorem dX9_does_73 : decode cX9_does 73 = .ok (.getfield 29, 3) := dk_180 0 29 (dk_at dksX9_does_2 21 rfl rfl)
theorem dX9_does_76 : decode cX9_does 76 = .ok (.iconst 3, 1) := dk_6 (dk_at dksX9_does_3 0 rfl rfl)
theorem dX9_does_77 : decode cX9_does 77 = .ok (.iload_n 1, 1) := dk_27 (dk_at dksX9_does_3 1 rfl rfl)
theorem dX9_does_78 : decode cX9_does 78 = .ok (.imul, 1) := dk_104 (dk_at dksX9_does_3 2 rfl rfl)
theorem dX9_does_79 : decode cX9_does 79 = .ok (.iconst 2, 1) := dk_5 (dk_at dksX9_does_3 3 rfl rfl)
theorem dX9_does_80 : decode cX9_does 80 = .ok (.iadd, 1) := dk_96 (dk_at dksX9_does_3 4 rfl rfl)
theorem dX9_does_81 : decode cX9_does 81 = .ok (.iaload, 1) := dk_46 (dk_at dksX9_does_3 5 rfl rfl)
theorem dX9_does_82 : decode cX9_does 82 = .ok (.invokevirtual 122, 3) := dk_182 0 122 (dk_at dksX9_does_3 6 rfl rfl)
theorem dX9_does_85 : decode cX9_does 85 = .ok (.pop, 1) := dk_87 (dk_at dksX9_does_3 9 rfl rfl)
theorem dX9_does_86 : decode cX9_does 86 = .ok (.iconst 1, 1) := dk_4 (dk_at dksX9_does_3 10 rfl rfl)
theorem dX9_does_87 : decode cX9_does 87 = .ok (.ireturn, 1) := dk_172 (dk_at dksX9_does_3 11 rfl rfl)
theorem dX9_does_88 : decode cX9_does 88 = .ok (.aload_n 0, 1) := dk_42 (dk_at dksX9_does_3 12 rfl rfl)
theorem dX9_does_89 : decode cX9_does 89 = .ok (.iconst 5, 1) := dk_8 (dk_at dksX9_does_3 13 rfl rfl)
theorem dX9_does_90 : decode cX9_does 90 = .ok (.iload_n 2, 1) := dk_28 (dk_at dksX9_does_3 14 rfl rfl)
theorem dX9_does_91 : decode cX9_does 91 = .ok (.invokevirtual 122, 3) := dk_182 0 122 (dk_at dksX9_does_3 15 rfl rfl)
theorem dX9_does_94 : decode cX9_does 94 = .ok (.pop, 1) := dk_87 (dk_at dksX9_does_3 18 rfl rfl)
theorem dX9_does_95 : decode cX9_does 95 = .ok (.iconst 1, 1) := dk_4 (dk_at dksX9_does_3 19 rfl rfl)
theorem dX9_does_96 : decode cX9_does 96 = .ok (.ireturn, 1) := dk_172 (dk_at dksX9_does_3 20 rfl rfl)
theorem dX9_does_97 : decode cX9_does 97 = .ok (.aload_n 0, 1) := dk_42 (dk_at dksX9_does_3 21 rfl rfl)
theorem dX9_does_98 : decode cX9_does 98 = .ok (.iload_n 2, 1) := dk_28 (dk_at dksX9_does_3 22 rfl rfl)
theorem dX9_does_99 : decode cX9_does 99 = .ok (.aload_n 0, 1) := dk_42 (dk_at dksX9_does_3 23 rfl rfl)
theorem dX9_does_100 : decode cX9_does 100 = .ok (.getfield 29, 3) := dk_180 0 29 (dk_at dksX9_does_4 0 rfl rfl)
theorem dX9_does_103 : decode cX9_does 103 = .ok (.iconst 3, 1) := dk_6 (dk_at dksX9_does_4 3 rfl rfl)
theorem dX9_does_104 : decode cX9_does 104 = .ok (.iload_n 1, 1) := dk_27 (dk_at dksX9_does_4 4 rfl rfl)
theorem dX9_does_105 : decode cX9_does 105 = .ok (.imul, 1) := dk_104 (dk_at dksX9_does_4 5 rfl rfl)
theorem dX9_does_106 : decode cX9_does 106 = .ok (.iconst 2, 1) := dk_5 (dk_at dksX9_does_4 6 rfl rfl)
theorem dX9_does_107 : decode cX9_does 107 = .ok (.iadd, 1) := dk_96 (dk_at dksX9_does_4 7 rfl rfl)
theorem dX9_does_108 : decode cX9_does 108 = .ok (.iaload, 1) := dk_46 (dk_at dksX9_does_4 8 rfl rfl)
theorem dX9_does_109 : decode cX9_does 109 = .ok (.invokevirtual 135, 3) := dk_182 0 135 (dk_at dksX9_does_4 9 rfl rfl)
theorem dX9_does_112 : decode cX9_does 112 = .ok (.pop, 1) := dk_87 (dk_at dksX9_does_4 12 rfl rfl)
theorem dX9_does_113 : decode cX9_does 113 = .ok (.iconst 1, 1) := dk_4 (dk_at dksX9_does_4 13 rfl rfl)
theorem dX9_does_114 : decode cX9_does 114 = .ok (.ireturn, 1) := dk_172 (dk_at dksX9_does_4 14 rfl rfl)
theorem dX9_does_115 : decode cX9_does 115 = .ok (.aload_n 0, 1) := dk_42 (dk_at dksX9_does_4 15 rfl rfl)
theorem dX9_does_116 : decode cX9_does 116 = .ok (.iload_n 2, 1) := dk_28 (dk_at dksX9_does_4 16 rfl rfl)
theorem dX9_does_117 : decode cX9_does 117 = .ok (.invokevirtual 138, 3) := dk_182 0 138 (dk_at dksX9_does_4 17 rfl rfl)
theorem dX9_does_120 : decode cX9_does 120 = .ok (.ifCond .ne 5, 3) := dk_154 0 5 (dk_at dksX9_does_4 20 rfl rfl)
theorem dX9_does_123 : decode cX9_does 123 = .ok (.iconst 0, 1) := dk_3 (dk_at dksX9_does_4 23 rfl rfl)
theorem dX9_does_124 : decode cX9_does 124 = .ok (.ireturn, 1) := dk_172 (dk_at dksX9_does_5 0 rfl rfl)
theorem dX9_does_125 : decode cX9_does 125 = .ok (.aload_n 0, 1) := dk_42 (dk_at dksX9_does_5 1 rfl rfl)
theorem dX9_does_126 : decode cX9_does 126 = .ok (.aload_n 0, 1) := dk_42 (dk_at dksX9_does_5 2 rfl rfl)
theorem dX9_does_127 : decode cX9_does 127 = .ok (.getfield 7, 3) := dk_180 0 7 (dk_at dksX9_does_5 3 rfl rfl)
theorem dX9_does_130 : decode cX9_does 130 = .ok (.iload_n 2, 1) := dk_28 (dk_at dksX9_does_5 6 rfl rfl)
theorem dX9_does_131 : decode cX9_does 131 = .ok (.invokevirtual 144, 3) := dk_182 0 144 (dk_at dksX9_does_5 7 rfl rfl)
theorem dX9_does_134 : decode cX9_does 134 = .ok (.iconst 1, 1) := dk_4 (dk_at dksX9_does_5 10 rfl rfl)
theorem dX9_does_135 : decode cX9_does 135 = .ok (.ireturn, 1) := dk_172 (dk_at dksX9_does_5 11 rfl rfl)
abbrev cX9_reach : ByteArray := prog_15_method_64_code
def yX9_reach : MethodName := ⟨RX9, "reach", "(II)I"⟩
def dkwX9_reach_1 : List UInt8 := [180, 0, 7, 16, 8, 6, 27, 104, 96, 28, 96, 46, 167, 0, 8, 42, 4, 182, 0, 47, 172]
abbrev dktX9_reach_1 : List UInt8 := dkwX9_reach_1 ++ []
def dkwX9_reach_0 : List UInt8 := [42, 3, 181, 0, 32, 27, 184, 0, 126, 153, 0, 28, 28, 3, 5, 184, 0, 36, 153, 0, 19, 42]
abbrev dktX9_reach_0 : List UInt8 := dkwX9_reach_0 ++ dktX9_reach_1
theorem dksX9_reach_0 : cX9_reach.data.toList.drop 0 = dktX9_reach_0 := by decide +kernel
theorem dksX9_reach_1 : cX9_reach.data.toList.drop 22 = dktX9_reach_1 := dk_seg dksX9_reach_0 22 rfl rfl
theorem dX9_reach_0 : decode cX9_reach 0 = .ok (.aload_n 0, 1) := dk_42 (dk_at dksX9_reach_0 0 rfl rfl)
theorem dX9_reach_1 : decode cX9_reach 1 = .ok (.iconst 0, 1) := dk_3 (dk_at dksX9_reach_0 1 rfl rfl)
theorem dX9_reach_2 : decode cX9_reach 2 = .ok (.putfield 32, 3) := dk_181 0 32 (dk_at dksX9_reach_0 2 rfl rfl)
theorem dX9_reach_5 : decode cX9_reach 5 = .ok (.iload_n 1, 1) := dk_27 (dk_at dksX9_reach_0 5 rfl rfl)
theorem dX9_reach_6 : decode cX9_reach 6 = .ok (.invokestatic 126, 3) := dk_184 0 126 (dk_at dksX9_reach_0 6 rfl rfl)
theorem dX9_reach_9 : decode cX9_reach 9 = .ok (.ifCond .eq 28, 3) := dk_153 0 28 (dk_at dksX9_reach_0 9 rfl rfl)
theorem dX9_reach_12 : decode cX9_reach 12 = .ok (.iload_n 2, 1) := dk_28 (dk_at dksX9_reach_0 12 rfl rfl)
theorem dX9_reach_13 : decode cX9_reach 13 = .ok (.iconst 0, 1) := dk_3 (dk_at dksX9_reach_0 13 rfl rfl)
theorem dX9_reach_14 : decode cX9_reach 14 = .ok (.iconst 2, 1) := dk_5 (dk_at dksX9_reach_0 14 rfl rfl)
theorem dX9_reach_15 : decode cX9_reach 15 = .ok (.invokestatic 36, 3) := dk_184 0 36 (dk_at dksX9_reach_0 15 rfl rfl)
theorem dX9_reach_18 : decode cX9_reach 18 = .ok (.ifCond .eq 19, 3) := dk_153 0 19 (dk_at dksX9_reach_0 18 rfl rfl)
theorem dX9_reach_21 : decode cX9_reach 21 = .ok (.aload_n 0, 1) := dk_42 (dk_at dksX9_reach_0 21 rfl rfl)
theorem dX9_reach_22 : decode cX9_reach 22 = .ok (.getfield 7, 3) := dk_180 0 7 (dk_at dksX9_reach_1 0 rfl rfl)
theorem dX9_reach_25 : decode cX9_reach 25 = .ok (.bipush 8, 2) := dk_16 8 (dk_at dksX9_reach_1 3 rfl rfl)
theorem dX9_reach_27 : decode cX9_reach 27 = .ok (.iconst 3, 1) := dk_6 (dk_at dksX9_reach_1 5 rfl rfl)
theorem dX9_reach_28 : decode cX9_reach 28 = .ok (.iload_n 1, 1) := dk_27 (dk_at dksX9_reach_1 6 rfl rfl)
theorem dX9_reach_29 : decode cX9_reach 29 = .ok (.imul, 1) := dk_104 (dk_at dksX9_reach_1 7 rfl rfl)
theorem dX9_reach_30 : decode cX9_reach 30 = .ok (.iadd, 1) := dk_96 (dk_at dksX9_reach_1 8 rfl rfl)
theorem dX9_reach_31 : decode cX9_reach 31 = .ok (.iload_n 2, 1) := dk_28 (dk_at dksX9_reach_1 9 rfl rfl)
theorem dX9_reach_32 : decode cX9_reach 32 = .ok (.iadd, 1) := dk_96 (dk_at dksX9_reach_1 10 rfl rfl)
theorem dX9_reach_33 : decode cX9_reach 33 = .ok (.iaload, 1) := dk_46 (dk_at dksX9_reach_1 11 rfl rfl)
theorem dX9_reach_34 : decode cX9_reach 34 = .ok (.goto 8, 3) := dk_167 0 8 (dk_at dksX9_reach_1 12 rfl rfl)
theorem dX9_reach_37 : decode cX9_reach 37 = .ok (.aload_n 0, 1) := dk_42 (dk_at dksX9_reach_1 15 rfl rfl)
theorem dX9_reach_38 : decode cX9_reach 38 = .ok (.iconst 1, 1) := dk_4 (dk_at dksX9_reach_1 16 rfl rfl)
theorem dX9_reach_39 : decode cX9_reach 39 = .ok (.invokevirtual 47, 3) := dk_182 0 47 (dk_at dksX9_reach_1 17 rfl rfl)
theorem dX9_reach_42 : decode cX9_reach 42 = .ok (.ireturn, 1) := dk_172 (dk_at dksX9_reach_1 20 rfl rfl)
abbrev cX9_bargeOf : ByteArray := prog_15_method_67_code
def yX9_bargeOf : MethodName := ⟨RX9, "bargeOf", "(II)I"⟩
def dkwX9_bargeOf_1 : List UInt8 := [184, 0, 36, 153, 0, 12, 42, 27, 28, 182, 0, 197, 167, 0, 8, 42, 5, 182, 0, 47, 172]
abbrev dktX9_bargeOf_1 : List UInt8 := dkwX9_bargeOf_1 ++ []
def dkwX9_bargeOf_0 : List UInt8 := [42, 3, 181, 0, 32, 42, 27, 182, 0, 118, 154, 0, 9, 42, 4, 182, 0, 47, 172, 28, 3, 16, 7]
abbrev dktX9_bargeOf_0 : List UInt8 := dkwX9_bargeOf_0 ++ dktX9_bargeOf_1
theorem dksX9_bargeOf_0 : cX9_bargeOf.data.toList.drop 0 = dktX9_bargeOf_0 := by decide +kernel
theorem dksX9_bargeOf_1 : cX9_bargeOf.data.toList.drop 23 = dktX9_bargeOf_1 := dk_seg dksX9_bargeOf_0 23 rfl rfl
theorem dX9_bargeOf_0 : decode cX9_bargeOf 0 = .ok (.aload_n 0, 1) := dk_42 (dk_at dksX9_bargeOf_0 0 rfl rfl)
theorem dX9_bargeOf_1 : decode cX9_bargeOf 1 = .ok (.iconst 0, 1) := dk_3 (dk_at dksX9_bargeOf_0 1 rfl rfl)
theorem dX9_bargeOf_2 : decode cX9_bargeOf 2 = .ok (.putfield 32, 3) := dk_181 0 32 (dk_at dksX9_bargeOf_0 2 rfl rfl)
theorem dX9_bargeOf_5 : decode cX9_bargeOf 5 = .ok (.aload_n 0, 1) := dk_42 (dk_at dksX9_bargeOf_0 5 rfl rfl)
theorem dX9_bargeOf_6 : decode cX9_bargeOf 6 = .ok (.iload_n 1, 1) := dk_27 (dk_at dksX9_bargeOf_0 6 rfl rfl)
theorem dX9_bargeOf_7 : decode cX9_bargeOf 7 = .ok (.invokevirtual 118, 3) := dk_182 0 118 (dk_at dksX9_bargeOf_0 7 rfl rfl)
theorem dX9_bargeOf_10 : decode cX9_bargeOf 10 = .ok (.ifCond .ne 9, 3) := dk_154 0 9 (dk_at dksX9_bargeOf_0 10 rfl rfl)
theorem dX9_bargeOf_13 : decode cX9_bargeOf 13 = .ok (.aload_n 0, 1) := dk_42 (dk_at dksX9_bargeOf_0 13 rfl rfl)
theorem dX9_bargeOf_14 : decode cX9_bargeOf 14 = .ok (.iconst 1, 1) := dk_4 (dk_at dksX9_bargeOf_0 14 rfl rfl)
theorem dX9_bargeOf_15 : decode cX9_bargeOf 15 = .ok (.invokevirtual 47, 3) := dk_182 0 47 (dk_at dksX9_bargeOf_0 15 rfl rfl)
theorem dX9_bargeOf_18 : decode cX9_bargeOf 18 = .ok (.ireturn, 1) := dk_172 (dk_at dksX9_bargeOf_0 18 rfl rfl)
theorem dX9_bargeOf_19 : decode cX9_bargeOf 19 = .ok (.iload_n 2, 1) := dk_28 (dk_at dksX9_bargeOf_0 19 rfl rfl)
theorem dX9_bargeOf_20 : decode cX9_bargeOf 20 = .ok (.iconst 0, 1) := dk_3 (dk_at dksX9_bargeOf_0 20 rfl rfl)
theorem dX9_bargeOf_21 : decode cX9_bargeOf 21 = .ok (.bipush 7, 2) := dk_16 7 (dk_at dksX9_bargeOf_0 21 rfl rfl)
theorem dX9_bargeOf_23 : decode cX9_bargeOf 23 = .ok (.invokestatic 36, 3) := dk_184 0 36 (dk_at dksX9_bargeOf_1 0 rfl rfl)
theorem dX9_bargeOf_26 : decode cX9_bargeOf 26 = .ok (.ifCond .eq 12, 3) := dk_153 0 12 (dk_at dksX9_bargeOf_1 3 rfl rfl)
theorem dX9_bargeOf_29 : decode cX9_bargeOf 29 = .ok (.aload_n 0, 1) := dk_42 (dk_at dksX9_bargeOf_1 6 rfl rfl)
theorem dX9_bargeOf_30 : decode cX9_bargeOf 30 = .ok (.iload_n 1, 1) := dk_27 (dk_at dksX9_bargeOf_1 7 rfl rfl)
theorem dX9_bargeOf_31 : decode cX9_bargeOf 31 = .ok (.iload_n 2, 1) := dk_28 (dk_at dksX9_bargeOf_1 8 rfl rfl)
theorem dX9_bargeOf_32 : decode cX9_bargeOf 32 = .ok (.invokevirtual 197, 3) := dk_182 0 197 (dk_at dksX9_bargeOf_1 9 rfl rfl)
theorem dX9_bargeOf_35 : decode cX9_bargeOf 35 = .ok (.goto 8, 3) := dk_167 0 8 (dk_at dksX9_bargeOf_1 12 rfl rfl)
theorem dX9_bargeOf_38 : decode cX9_bargeOf 38 = .ok (.aload_n 0, 1) := dk_42 (dk_at dksX9_bargeOf_1 15 rfl rfl)
theorem dX9_bargeOf_39 : decode cX9_bargeOf 39 = .ok (.iconst 2, 1) := dk_5 (dk_at dksX9_bargeOf_1 16 rfl rfl)
theorem dX9_bargeOf_40 : decode cX9_bargeOf 40 = .ok (.invokevirtual 47, 3) := dk_182 0 47 (dk_at dksX9_bargeOf_1 17 rfl rfl)
theorem dX9_bargeOf_43 : decode cX9_bargeOf 43 = .ok (.ireturn, 1) := dk_172 (dk_at dksX9_bargeOf_1 20 rfl rfl)
abbrev cX9_ofBarge : ByteArray := prog_15_method_66_code
def yX9_ofBarge : MethodName := ⟨RX9, "ofBarge", "(II)I"⟩
def dkwX9_ofBarge_1 : List UInt8 := [42, 27, 182, 0, 194, 167, 0, 13, 42, 180, 0, 7, 27, 16, 6, 184, 0, 58, 172]
abbrev dktX9_ofBarge_1 : List UInt8 := dkwX9_ofBarge_1 ++ []
def dkwX9_ofBarge_0 : List UInt8 := [28, 16, 6, 162, 0, 15, 42, 180, 0, 7, 27, 28, 184, 0, 58, 167, 0, 27, 28, 16, 6, 160, 0, 11]
abbrev dktX9_ofBarge_0 : List UInt8 := dkwX9_ofBarge_0 ++ dktX9_ofBarge_1
theorem dksX9_ofBarge_0 : cX9_ofBarge.data.toList.drop 0 = dktX9_ofBarge_0 := by decide +kernel
theorem dksX9_ofBarge_1 : cX9_ofBarge.data.toList.drop 24 = dktX9_ofBarge_1 := dk_seg dksX9_ofBarge_0 24 rfl rfl
theorem dX9_ofBarge_0 : decode cX9_ofBarge 0 = .ok (.iload_n 2, 1) := dk_28 (dk_at dksX9_ofBarge_0 0 rfl rfl)
theorem dX9_ofBarge_1 : decode cX9_ofBarge 1 = .ok (.bipush 6, 2) := dk_16 6 (dk_at dksX9_ofBarge_0 1 rfl rfl)
theorem dX9_ofBarge_3 : decode cX9_ofBarge 3 = .ok (.if_icmp .ge 15, 3) := dk_162 0 15 (dk_at dksX9_ofBarge_0 3 rfl rfl)
theorem dX9_ofBarge_6 : decode cX9_ofBarge 6 = .ok (.aload_n 0, 1) := dk_42 (dk_at dksX9_ofBarge_0 6 rfl rfl)
theorem dX9_ofBarge_7 : decode cX9_ofBarge 7 = .ok (.getfield 7, 3) := dk_180 0 7 (dk_at dksX9_ofBarge_0 7 rfl rfl)
theorem dX9_ofBarge_10 : decode cX9_ofBarge 10 = .ok (.iload_n 1, 1) := dk_27 (dk_at dksX9_ofBarge_0 10 rfl rfl)
theorem dX9_ofBarge_11 : decode cX9_ofBarge 11 = .ok (.iload_n 2, 1) := dk_28 (dk_at dksX9_ofBarge_0 11 rfl rfl)
theorem dX9_ofBarge_12 : decode cX9_ofBarge 12 = .ok (.invokestatic 58, 3) := dk_184 0 58 (dk_at dksX9_ofBarge_0 12 rfl rfl)
theorem dX9_ofBarge_15 : decode cX9_ofBarge 15 = .ok (.goto 27, 3) := dk_167 0 27 (dk_at dksX9_ofBarge_0 15 rfl rfl)
theorem dX9_ofBarge_18 : decode cX9_ofBarge 18 = .ok (.iload_n 2, 1) := dk_28 (dk_at dksX9_ofBarge_0 18 rfl rfl)
theorem dX9_ofBarge_19 : decode cX9_ofBarge 19 = .ok (.bipush 6, 2) := dk_16 6 (dk_at dksX9_ofBarge_0 19 rfl rfl)
theorem dX9_ofBarge_21 : decode cX9_ofBarge 21 = .ok (.if_icmp .ne 11, 3) := dk_160 0 11 (dk_at dksX9_ofBarge_0 21 rfl rfl)
theorem dX9_ofBarge_24 : decode cX9_ofBarge 24 = .ok (.aload_n 0, 1) := dk_42 (dk_at dksX9_ofBarge_1 0 rfl rfl)
theorem dX9_ofBarge_25 : decode cX9_ofBarge 25 = .ok (.iload_n 1, 1) := dk_27 (dk_at dksX9_ofBarge_1 1 rfl rfl)
theorem dX9_ofBarge_26 : decode cX9_ofBarge 26 = .ok (.invokevirtual 194, 3) := dk_182 0 194 (dk_at dksX9_ofBarge_1 2 rfl rfl)
theorem dX9_ofBarge_29 : decode cX9_ofBarge 29 = .ok (.goto 13, 3) := dk_167 0 13 (dk_at dksX9_ofBarge_1 5 rfl rfl)
theorem dX9_ofBarge_32 : decode cX9_ofBarge 32 = .ok (.aload_n 0, 1) := dk_42 (dk_at dksX9_ofBarge_1 8 rfl rfl)
theorem dX9_ofBarge_33 : decode cX9_ofBarge 33 = .ok (.getfield 7, 3) := dk_180 0 7 (dk_at dksX9_ofBarge_1 9 rfl rfl)
theorem dX9_ofBarge_36 : decode cX9_ofBarge 36 = .ok (.iload_n 1, 1) := dk_27 (dk_at dksX9_ofBarge_1 12 rfl rfl)
theorem dX9_ofBarge_37 : decode cX9_ofBarge 37 = .ok (.bipush 6, 2) := dk_16 6 (dk_at dksX9_ofBarge_1 13 rfl rfl)
theorem dX9_ofBarge_39 : decode cX9_ofBarge 39 = .ok (.invokestatic 58, 3) := dk_184 0 58 (dk_at dksX9_ofBarge_1 15 rfl rfl)
theorem dX9_ofBarge_42 : decode cX9_ofBarge 42 = .ok (.ireturn, 1) := dk_172 (dk_at dksX9_ofBarge_1 18 rfl rfl)
abbrev cX9_reason : ByteArray := prog_15_method_65_code
def yX9_reason : MethodName := ⟨RX9, "reason", "(I)I"⟩
def dkwX9_reason_5 : List UInt8 := [8, 167, 0, 21, 42, 180, 0, 7, 29, 184, 0, 75, 153, 0, 8, 16, 6, 167, 0, 5, 16, 8, 172]
abbrev dktX9_reason_5 : List UInt8 := dkwX9_reason_5 ++ []
def dkwX9_reason_4 : List UInt8 := [167, 0, 46, 42, 180, 0, 7, 29, 3, 184, 0, 54, 42, 180, 0, 7, 29, 4, 184, 0, 54, 163, 0, 7]
abbrev dktX9_reason_4 : List UInt8 := dkwX9_reason_4 ++ dktX9_reason_5
def dkwX9_reason_3 : List UInt8 := [184, 0, 61, 154, 0, 7, 6, 167, 0, 61, 42, 180, 0, 7, 29, 184, 0, 65, 153, 0, 7, 7]
abbrev dktX9_reason_3 : List UInt8 := dkwX9_reason_3 ++ dktX9_reason_4
def dkwX9_reason_2 : List UInt8 := [160, 0, 7, 5, 167, 0, 5, 16, 7, 172, 28, 5, 159, 0, 5, 3, 172, 42, 180, 0, 7, 29]
abbrev dktX9_reason_2 : List UInt8 := dkwX9_reason_2 ++ dktX9_reason_3
def dkwX9_reason_1 : List UInt8 := [42, 180, 0, 7, 27, 184, 0, 108, 154, 0, 7, 4, 167, 0, 21, 42, 180, 0, 7, 27, 184, 0, 88, 2]
abbrev dktX9_reason_1 : List UInt8 := dkwX9_reason_1 ++ dktX9_reason_2
def dkwX9_reason_0 : List UInt8 := [42, 180, 0, 7, 27, 4, 184, 0, 58, 61, 42, 180, 0, 7, 27, 6, 184, 0, 58, 62, 28, 154, 0, 37]
abbrev dktX9_reason_0 : List UInt8 := dkwX9_reason_0 ++ dktX9_reason_1
theorem dksX9_reason_0 : cX9_reason.data.toList.drop 0 = dktX9_reason_0 := by decide +kernel
theorem dksX9_reason_1 : cX9_reason.data.toList.drop 24 = dktX9_reason_1 := dk_seg dksX9_reason_0 24 rfl rfl
theorem dksX9_reason_2 : cX9_reason.data.toList.drop 48 = dktX9_reason_2 := dk_seg dksX9_reason_1 24 rfl rfl
theorem dksX9_reason_3 : cX9_reason.data.toList.drop 70 = dktX9_reason_3 := dk_seg dksX9_reason_2 22 rfl rfl
theorem dksX9_reason_4 : cX9_reason.data.toList.drop 92 = dktX9_reason_4 := dk_seg dksX9_reason_3 22 rfl rfl
theorem dksX9_reason_5 : cX9_reason.data.toList.drop 116 = dktX9_reason_5 := dk_seg dksX9_reason_4 24 rfl rfl
theorem dX9_reason_0 : decode cX9_reason 0 = .ok (.aload_n 0, 1) := dk_42 (dk_at dksX9_reason_0 0 rfl rfl)
theorem dX9_reason_1 : decode cX9_reason 1 = .ok (.getfield 7, 3) := dk_180 0 7 (dk_at dksX9_reason_0 1 rfl rfl)
theorem dX9_reason_4 : decode cX9_reason 4 = .ok (.iload_n 1, 1) := dk_27 (dk_at dksX9_reason_0 4 rfl rfl)
theorem dX9_reason_5 : decode cX9_reason 5 = .ok (.iconst 1, 1) := dk_4 (dk_at dksX9_reason_0 5 rfl rfl)
theorem dX9_reason_6 : decode cX9_reason 6 = .ok (.invokestatic 58, 3) := dk_184 0 58 (dk_at dksX9_reason_0 6 rfl rfl)
theorem dX9_reason_9 : decode cX9_reason 9 = .ok (.istore_n 2, 1) := dk_61 (dk_at dksX9_reason_0 9 rfl rfl)
theorem dX9_reason_10 : decode cX9_reason 10 = .ok (.aload_n 0, 1) := dk_42 (dk_at dksX9_reason_0 10 rfl rfl)
theorem dX9_reason_11 : decode cX9_reason 11 = .ok (.getfield 7, 3) := dk_180 0 7 (dk_at dksX9_reason_0 11 rfl rfl)
theorem dX9_reason_14 : decode cX9_reason 14 = .ok (.iload_n 1, 1) := dk_27 (dk_at dksX9_reason_0 14 rfl rfl)
theorem dX9_reason_15 : decode cX9_reason 15 = .ok (.iconst 3, 1) := dk_6 (dk_at dksX9_reason_0 15 rfl rfl)
theorem dX9_reason_16 : decode cX9_reason 16 = .ok (.invokestatic 58, 3) := dk_184 0 58 (dk_at dksX9_reason_0 16 rfl rfl)
theorem dX9_reason_19 : decode cX9_reason 19 = .ok (.istore_n 3, 1) := dk_62 (dk_at dksX9_reason_0 19 rfl rfl)
theorem dX9_reason_20 : decode cX9_reason 20 = .ok (.iload_n 2, 1) := dk_28 (dk_at dksX9_reason_0 20 rfl rfl)
theorem dX9_reason_21 : decode cX9_reason 21 = .ok (.ifCond .ne 37, 3) := dk_154 0 37 (dk_at dksX9_reason_0 21 rfl rfl)
theorem dX9_reason_24 : decode cX9_reason 24 = .ok (.aload_n 0, 1) := dk_42 (dk_at dksX9_reason_1 0 rfl rfl)
theorem dX9_reason_25 : decode cX9_reason 25 = .ok (.getfield 7, 3) := dk_180 0 7 (dk_at dksX9_reason_1 1 rfl rfl)
theorem dX9_reason_28 : decode cX9_reason 28 = .ok (.iload_n 1, 1) := dk_27 (dk_at dksX9_reason_1 4 rfl rfl)
theorem dX9_reason_29 : decode cX9_reason 29 = .ok (.invokestatic 108, 3) := dk_184 0 108 (dk_at dksX9_reason_1 5 rfl rfl)
theorem dX9_reason_32 : decode cX9_reason 32 = .ok (.ifCond .ne 7, 3) := dk_154 0 7 (dk_at dksX9_reason_1 8 rfl rfl)
theorem dX9_reason_35 : decode cX9_reason 35 = .ok (.iconst 1, 1) := dk_4 (dk_at dksX9_reason_1 11 rfl rfl)
theorem dX9_reason_36 : decode cX9_reason 36 = .ok (.goto 21, 3) := dk_167 0 21 (dk_at dksX9_reason_1 12 rfl rfl)
theorem dX9_reason_39 : decode cX9_reason 39 = .ok (.aload_n 0, 1) := dk_42 (dk_at dksX9_reason_1 15 rfl rfl)
theorem dX9_reason_40 : decode cX9_reason 40 = .ok (.getfield 7, 3) := dk_180 0 7 (dk_at dksX9_reason_1 16 rfl rfl)
theorem dX9_reason_43 : decode cX9_reason 43 = .ok (.iload_n 1, 1) := dk_27 (dk_at dksX9_reason_1 19 rfl rfl)
theorem dX9_reason_44 : decode cX9_reason 44 = .ok (.invokestatic 88, 3) := dk_184 0 88 (dk_at dksX9_reason_1 20 rfl rfl)
theorem dX9_reason_47 : decode cX9_reason 47 = .ok (.iconst (-1), 1) := dk_2 (dk_at dksX9_reason_1 23 rfl rfl)
theorem dX9_reason_48 : decode cX9_reason 48 = .ok (.if_icmp .ne 7, 3) := dk_160 0 7 (dk_at dksX9_reason_2 0 rfl rfl)
theorem dX9_reason_51 : decode cX9_reason 51 = .ok (.iconst 2, 1) := dk_5 (dk_at dksX9_reason_2 3 rfl rfl)
theorem dX9_reason_52 : decode cX9_reason 52 = .ok (.goto 5, 3) := dk_167 0 5 (dk_at dksX9_reason_2 4 rfl rfl)
theorem dX9_reason_55 : decode cX9_reason 55 = .ok (.bipush 7, 2) := dk_16 7 (dk_at dksX9_reason_2 7 rfl rfl)
theorem dX9_reason_57 : decode cX9_reason 57 = .ok (.ireturn, 1) := dk_172 (dk_at dksX9_reason_2 9 rfl rfl)
theorem dX9_reason_58 : decode cX9_reason 58 = .ok (.iload_n 2, 1) := dk_28 (dk_at dksX9_reason_2 10 rfl rfl)
theorem dX9_reason_59 : decode cX9_reason 59 = .ok (.iconst 2, 1) := dk_5 (dk_at dksX9_reason_2 11 rfl rfl)
theorem dX9_reason_60 : decode cX9_reason 60 = .ok (.if_icmp .eq 5, 3) := dk_159 0 5 (dk_at dksX9_reason_2 12 rfl rfl)
theorem dX9_reason_63 : decode cX9_reason 63 = .ok (.iconst 0, 1) := dk_3 (dk_at dksX9_reason_2 15 rfl rfl)
theorem dX9_reason_64 : decode cX9_reason 64 = .ok (.ireturn, 1) := dk_172 (dk_at dksX9_reason_2 16 rfl rfl)
theorem dX9_reason_65 : decode cX9_reason 65 = .ok (.aload_n 0, 1) := dk_42 (dk_at dksX9_reason_2 17 rfl rfl)
theorem dX9_reason_66 : decode cX9_reason 66 = .ok (.getfield 7, 3) := dk_180 0 7 (dk_at dksX9_reason_2 18 rfl rfl)
theorem dX9_reason_69 : decode cX9_reason 69 = .ok (.iload_n 3, 1) := dk_29 (dk_at dksX9_reason_2 21 rfl rfl)
theorem dX9_reason_70 : decode cX9_reason 70 = .ok (.invokestatic 61, 3) := dk_184 0 61 (dk_at dksX9_reason_3 0 rfl rfl)
theorem dX9_reason_73 : decode cX9_reason 73 = .ok (.ifCond .ne 7, 3) := dk_154 0 7 (dk_at dksX9_reason_3 3 rfl rfl)
theorem dX9_reason_76 : decode cX9_reason 76 = .ok (.iconst 3, 1) := dk_6 (dk_at dksX9_reason_3 6 rfl rfl)
theorem dX9_reason_77 : decode cX9_reason 77 = .ok (.goto 61, 3) := dk_167 0 61 (dk_at dksX9_reason_3 7 rfl rfl)
theorem dX9_reason_80 : decode cX9_reason 80 = .ok (.aload_n 0, 1) := dk_42 (dk_at dksX9_reason_3 10 rfl rfl)
theorem dX9_reason_81 : decode cX9_reason 81 = .ok (.getfield 7, 3) := dk_180 0 7 (dk_at dksX9_reason_3 11 rfl rfl)
theorem dX9_reason_84 : decode cX9_reason 84 = .ok (.iload_n 3, 1) := dk_29 (dk_at dksX9_reason_3 14 rfl rfl)
theorem dX9_reason_85 : decode cX9_reason 85 = .ok (.invokestatic 65, 3) := dk_184 0 65 (dk_at dksX9_reason_3 15 rfl rfl)
theorem dX9_reason_88 : decode cX9_reason 88 = .ok (.ifCond .eq 7, 3) := dk_153 0 7 (dk_at dksX9_reason_3 18 rfl rfl)
theorem dX9_reason_91 : decode cX9_reason 91 = .ok (.iconst 4, 1) := dk_7 (dk_at dksX9_reason_3 21 rfl rfl)
theorem dX9_reason_92 : decode cX9_reason 92 = .ok (.goto 46, 3) := dk_167 0 46 (dk_at dksX9_reason_4 0 rfl rfl)
theorem dX9_reason_95 : decode cX9_reason 95 = .ok (.aload_n 0, 1) := dk_42 (dk_at dksX9_reason_4 3 rfl rfl)
theorem dX9_reason_96 : decode cX9_reason 96 = .ok (.getfield 7, 3) := dk_180 0 7 (dk_at dksX9_reason_4 4 rfl rfl)
theorem dX9_reason_99 : decode cX9_reason 99 = .ok (.iload_n 3, 1) := dk_29 (dk_at dksX9_reason_4 7 rfl rfl)
theorem dX9_reason_100 : decode cX9_reason 100 = .ok (.iconst 0, 1) := dk_3 (dk_at dksX9_reason_4 8 rfl rfl)
theorem dX9_reason_101 : decode cX9_reason 101 = .ok (.invokestatic 54, 3) := dk_184 0 54 (dk_at dksX9_reason_4 9 rfl rfl)
theorem dX9_reason_104 : decode cX9_reason 104 = .ok (.aload_n 0, 1) := dk_42 (dk_at dksX9_reason_4 12 rfl rfl)
theorem dX9_reason_105 : decode cX9_reason 105 = .ok (.getfield 7, 3) := dk_180 0 7 (dk_at dksX9_reason_4 13 rfl rfl)
theorem dX9_reason_108 : decode cX9_reason 108 = .ok (.iload_n 3, 1) := dk_29 (dk_at dksX9_reason_4 16 rfl rfl)
theorem dX9_reason_109 : decode cX9_reason 109 = .ok (.iconst 1, 1) := dk_4 (dk_at dksX9_reason_4 17 rfl rfl)
theorem dX9_reason_110 : decode cX9_reason 110 = .ok (.invokestatic 54, 3) := dk_184 0 54 (dk_at dksX9_reason_4 18 rfl rfl)
theorem dX9_reason_113 : decode cX9_reason 113 = .ok (.if_icmp .gt 7, 3) := dk_163 0 7 (dk_at dksX9_reason_4 21 rfl rfl)
theorem dX9_reason_116 : decode cX9_reason 116 = .ok (.iconst 5, 1) := dk_8 (dk_at dksX9_reason_5 0 rfl rfl)
theorem dX9_reason_117 : decode cX9_reason 117 = .ok (.goto 21, 3) := dk_167 0 21 (dk_at dksX9_reason_5 1 rfl rfl)
theorem dX9_reason_120 : decode cX9_reason 120 = .ok (.aload_n 0, 1) := dk_42 (dk_at dksX9_reason_5 4 rfl rfl)
theorem dX9_reason_121 : decode cX9_reason 121 = .ok (.getfield 7, 3) := dk_180 0 7 (dk_at dksX9_reason_5 5 rfl rfl)
theorem dX9_reason_124 : decode cX9_reason 124 = .ok (.iload_n 3, 1) := dk_29 (dk_at dksX9_reason_5 8 rfl rfl)
theorem dX9_reason_125 : decode cX9_reason 125 = .ok (.invokestatic 75, 3) := dk_184 0 75 (dk_at dksX9_reason_5 9 rfl rfl)
theorem dX9_reason_128 : decode cX9_reason 128 = .ok (.ifCond .eq 8, 3) := dk_153 0 8 (dk_at dksX9_reason_5 12 rfl rfl)
theorem dX9_reason_131 : decode cX9_reason 131 = .ok (.bipush 6, 2) := dk_16 6 (dk_at dksX9_reason_5 15 rfl rfl)
theorem dX9_reason_133 : decode cX9_reason 133 = .ok (.goto 5, 3) := dk_167 0 5 (dk_at dksX9_reason_5 17 rfl rfl)
theorem dX9_reason_136 : decode cX9_reason 136 = .ok (.bipush 8, 2) := dk_16 8 (dk_at dksX9_reason_5 20 rfl rfl)
theorem dX9_reason_138 : decode cX9_reason 138 = .ok (.ireturn, 1) := dk_172 (dk_at dksX9_reason_5 22 rfl rfl)
abbrev cX9_meadow : ByteArray := prog_15_method_69_code
def yX9_meadow : MethodName := ⟨RX9, "meadow", "(II)I"⟩
def dkwX9_meadow_1 : List UInt8 := [28, 182, 0, 200, 167, 0, 8, 42, 4, 182, 0, 47, 172]
abbrev dktX9_meadow_1 : List UInt8 := dkwX9_meadow_1 ++ []
def dkwX9_meadow_0 : List UInt8 := [42, 3, 181, 0, 32, 27, 184, 0, 129, 153, 0, 22, 28, 3, 16, 8, 184, 0, 36, 153, 0, 12, 42, 27]
abbrev dktX9_meadow_0 : List UInt8 := dkwX9_meadow_0 ++ dktX9_meadow_1
theorem dksX9_meadow_0 : cX9_meadow.data.toList.drop 0 = dktX9_meadow_0 := by decide +kernel
theorem dksX9_meadow_1 : cX9_meadow.data.toList.drop 24 = dktX9_meadow_1 := dk_seg dksX9_meadow_0 24 rfl rfl
theorem dX9_meadow_0 : decode cX9_meadow 0 = .ok (.aload_n 0, 1) := dk_42 (dk_at dksX9_meadow_0 0 rfl rfl)
theorem dX9_meadow_1 : decode cX9_meadow 1 = .ok (.iconst 0, 1) := dk_3 (dk_at dksX9_meadow_0 1 rfl rfl)
theorem dX9_meadow_2 : decode cX9_meadow 2 = .ok (.putfield 32, 3) := dk_181 0 32 (dk_at dksX9_meadow_0 2 rfl rfl)
theorem dX9_meadow_5 : decode cX9_meadow 5 = .ok (.iload_n 1, 1) := dk_27 (dk_at dksX9_meadow_0 5 rfl rfl)
theorem dX9_meadow_6 : decode cX9_meadow 6 = .ok (.invokestatic 129, 3) := dk_184 0 129 (dk_at dksX9_meadow_0 6 rfl rfl)
theorem dX9_meadow_9 : decode cX9_meadow 9 = .ok (.ifCond .eq 22, 3) := dk_153 0 22 (dk_at dksX9_meadow_0 9 rfl rfl)
theorem dX9_meadow_12 : decode cX9_meadow 12 = .ok (.iload_n 2, 1) := dk_28 (dk_at dksX9_meadow_0 12 rfl rfl)
theorem dX9_meadow_13 : decode cX9_meadow 13 = .ok (.iconst 0, 1) := dk_3 (dk_at dksX9_meadow_0 13 rfl rfl)
theorem dX9_meadow_14 : decode cX9_meadow 14 = .ok (.bipush 8, 2) := dk_16 8 (dk_at dksX9_meadow_0 14 rfl rfl)
theorem dX9_meadow_16 : decode cX9_meadow 16 = .ok (.invokestatic 36, 3) := dk_184 0 36 (dk_at dksX9_meadow_0 16 rfl rfl)
theorem dX9_meadow_19 : decode cX9_meadow 19 = .ok (.ifCond .eq 12, 3) := dk_153 0 12 (dk_at dksX9_meadow_0 19 rfl rfl)
theorem dX9_meadow_22 : decode cX9_meadow 22 = .ok (.aload_n 0, 1) := dk_42 (dk_at dksX9_meadow_0 22 rfl rfl)
theorem dX9_meadow_23 : decode cX9_meadow 23 = .ok (.iload_n 1, 1) := dk_27 (dk_at dksX9_meadow_0 23 rfl rfl)
theorem dX9_meadow_24 : decode cX9_meadow 24 = .ok (.iload_n 2, 1) := dk_28 (dk_at dksX9_meadow_1 0 rfl rfl)
theorem dX9_meadow_25 : decode cX9_meadow 25 = .ok (.invokevirtual 200, 3) := dk_182 0 200 (dk_at dksX9_meadow_1 1 rfl rfl)
theorem dX9_meadow_28 : decode cX9_meadow 28 = .ok (.goto 8, 3) := dk_167 0 8 (dk_at dksX9_meadow_1 4 rfl rfl)
theorem dX9_meadow_31 : decode cX9_meadow 31 = .ok (.aload_n 0, 1) := dk_42 (dk_at dksX9_meadow_1 7 rfl rfl)
theorem dX9_meadow_32 : decode cX9_meadow 32 = .ok (.iconst 1, 1) := dk_4 (dk_at dksX9_meadow_1 8 rfl rfl)
theorem dX9_meadow_33 : decode cX9_meadow 33 = .ok (.invokevirtual 47, 3) := dk_182 0 47 (dk_at dksX9_meadow_1 9 rfl rfl)
theorem dX9_meadow_36 : decode cX9_meadow 36 = .ok (.ireturn, 1) := dk_172 (dk_at dksX9_meadow_1 12 rfl rfl)
abbrev cX9_ofMeadow : ByteArray := prog_15_method_68_code
def yX9_ofMeadow : MethodName := ⟨RX9, "ofMeadow", "(II)I"⟩
def dkwX9_ofMeadow_2 : List UInt8 := [167, 0, 16, 3, 167, 0, 12, 42, 180, 0, 7, 27, 28, 184, 0, 54, 172]
abbrev dktX9_ofMeadow_2 : List UInt8 := dkwX9_ofMeadow_2 ++ []
def dkwX9_ofMeadow_1 : List UInt8 := [184, 0, 68, 167, 0, 37, 28, 16, 8, 160, 0, 22, 42, 180, 0, 7, 27, 184, 0, 78, 153, 0, 7, 4]
abbrev dktX9_ofMeadow_1 : List UInt8 := dkwX9_ofMeadow_1 ++ dktX9_ofMeadow_2
def dkwX9_ofMeadow_0 : List UInt8 := [28, 8, 160, 0, 11, 42, 27, 182, 0, 132, 167, 0, 54, 28, 16, 7, 160, 0, 14, 42, 180, 0, 7, 27]
abbrev dktX9_ofMeadow_0 : List UInt8 := dkwX9_ofMeadow_0 ++ dktX9_ofMeadow_1
theorem dksX9_ofMeadow_0 : cX9_ofMeadow.data.toList.drop 0 = dktX9_ofMeadow_0 := by decide +kernel
theorem dksX9_ofMeadow_1 : cX9_ofMeadow.data.toList.drop 24 = dktX9_ofMeadow_1 := dk_seg dksX9_ofMeadow_0 24 rfl rfl
theorem dksX9_ofMeadow_2 : cX9_ofMeadow.data.toList.drop 48 = dktX9_ofMeadow_2 := dk_seg dksX9_ofMeadow_1 24 rfl rfl
theorem dX9_ofMeadow_0 : decode cX9_ofMeadow 0 = .ok (.iload_n 2, 1) := dk_28 (dk_at dksX9_ofMeadow_0 0 rfl rfl)
theorem dX9_ofMeadow_1 : decode cX9_ofMeadow 1 = .ok (.iconst 5, 1) := dk_8 (dk_at dksX9_ofMeadow_0 1 rfl rfl)
theorem dX9_ofMeadow_2 : decode cX9_ofMeadow 2 = .ok (.if_icmp .ne 11, 3) := dk_160 0 11 (dk_at dksX9_ofMeadow_0 2 rfl rfl)
theorem dX9_ofMeadow_5 : decode cX9_ofMeadow 5 = .ok (.aload_n 0, 1) := dk_42 (dk_at dksX9_ofMeadow_0 5 rfl rfl)
theorem dX9_ofMeadow_6 : decode cX9_ofMeadow 6 = .ok (.iload_n 1, 1) := dk_27 (dk_at dksX9_ofMeadow_0 6 rfl rfl)
theorem dX9_ofMeadow_7 : decode cX9_ofMeadow 7 = .ok (.invokevirtual 132, 3) := dk_182 0 132 (dk_at dksX9_ofMeadow_0 7 rfl rfl)
theorem dX9_ofMeadow_10 : decode cX9_ofMeadow 10 = .ok (.goto 54, 3) := dk_167 0 54 (dk_at dksX9_ofMeadow_0 10 rfl rfl)
theorem dX9_ofMeadow_13 : decode cX9_ofMeadow 13 = .ok (.iload_n 2, 1) := dk_28 (dk_at dksX9_ofMeadow_0 13 rfl rfl)
theorem dX9_ofMeadow_14 : decode cX9_ofMeadow 14 = .ok (.bipush 7, 2) := dk_16 7 (dk_at dksX9_ofMeadow_0 14 rfl rfl)
theorem dX9_ofMeadow_16 : decode cX9_ofMeadow 16 = .ok (.if_icmp .ne 14, 3) := dk_160 0 14 (dk_at dksX9_ofMeadow_0 16 rfl rfl)
theorem dX9_ofMeadow_19 : decode cX9_ofMeadow 19 = .ok (.aload_n 0, 1) := dk_42 (dk_at dksX9_ofMeadow_0 19 rfl rfl)
theorem dX9_ofMeadow_20 : decode cX9_ofMeadow 20 = .ok (.getfield 7, 3) := dk_180 0 7 (dk_at dksX9_ofMeadow_0 20 rfl rfl)
theorem dX9_ofMeadow_23 : decode cX9_ofMeadow 23 = .ok (.iload_n 1, 1) := dk_27 (dk_at dksX9_ofMeadow_0 23 rfl rfl)
theorem dX9_ofMeadow_24 : decode cX9_ofMeadow 24 = .ok (.invokestatic 68, 3) := dk_184 0 68 (dk_at dksX9_ofMeadow_1 0 rfl rfl)
theorem dX9_ofMeadow_27 : decode cX9_ofMeadow 27 = .ok (.goto 37, 3) := dk_167 0 37 (dk_at dksX9_ofMeadow_1 3 rfl rfl)
theorem dX9_ofMeadow_30 : decode cX9_ofMeadow 30 = .ok (.iload_n 2, 1) := dk_28 (dk_at dksX9_ofMeadow_1 6 rfl rfl)
theorem dX9_ofMeadow_31 : decode cX9_ofMeadow 31 = .ok (.bipush 8, 2) := dk_16 8 (dk_at dksX9_ofMeadow_1 7 rfl rfl)
theorem dX9_ofMeadow_33 : decode cX9_ofMeadow 33 = .ok (.if_icmp .ne 22, 3) := dk_160 0 22 (dk_at dksX9_ofMeadow_1 9 rfl rfl)
theorem dX9_ofMeadow_36 : decode cX9_ofMeadow 36 = .ok (.aload_n 0, 1) := dk_42 (dk_at dksX9_ofMeadow_1 12 rfl rfl)
theorem dX9_ofMeadow_37 : decode cX9_ofMeadow 37 = .ok (.getfield 7, 3) := dk_180 0 7 (dk_at dksX9_ofMeadow_1 13 rfl rfl)
theorem dX9_ofMeadow_40 : decode cX9_ofMeadow 40 = .ok (.iload_n 1, 1) := dk_27 (dk_at dksX9_ofMeadow_1 16 rfl rfl)
theorem dX9_ofMeadow_41 : decode cX9_ofMeadow 41 = .ok (.invokestatic 78, 3) := dk_184 0 78 (dk_at dksX9_ofMeadow_1 17 rfl rfl)
theorem dX9_ofMeadow_44 : decode cX9_ofMeadow 44 = .ok (.ifCond .eq 7, 3) := dk_153 0 7 (dk_at dksX9_ofMeadow_1 20 rfl rfl)
theorem dX9_ofMeadow_47 : decode cX9_ofMeadow 47 = .ok (.iconst 1, 1) := dk_4 (dk_at dksX9_ofMeadow_1 23 rfl rfl)
theorem dX9_ofMeadow_48 : decode cX9_ofMeadow 48 = .ok (.goto 16, 3) := dk_167 0 16 (dk_at dksX9_ofMeadow_2 0 rfl rfl)
theorem dX9_ofMeadow_51 : decode cX9_ofMeadow 51 = .ok (.iconst 0, 1) := dk_3 (dk_at dksX9_ofMeadow_2 3 rfl rfl)
theorem dX9_ofMeadow_52 : decode cX9_ofMeadow 52 = .ok (.goto 12, 3) := dk_167 0 12 (dk_at dksX9_ofMeadow_2 4 rfl rfl)
theorem dX9_ofMeadow_55 : decode cX9_ofMeadow 55 = .ok (.aload_n 0, 1) := dk_42 (dk_at dksX9_ofMeadow_2 7 rfl rfl)
theorem dX9_ofMeadow_56 : decode cX9_ofMeadow 56 = .ok (.getfield 7, 3) := dk_180 0 7 (dk_at dksX9_ofMeadow_2 8 rfl rfl)
theorem dX9_ofMeadow_59 : decode cX9_ofMeadow 59 = .ok (.iload_n 1, 1) := dk_27 (dk_at dksX9_ofMeadow_2 11 rfl rfl)
theorem dX9_ofMeadow_60 : decode cX9_ofMeadow 60 = .ok (.iload_n 2, 1) := dk_28 (dk_at dksX9_ofMeadow_2 12 rfl rfl)
theorem dX9_ofMeadow_61 : decode cX9_ofMeadow 61 = .ok (.invokestatic 54, 3) := dk_184 0 54 (dk_at dksX9_ofMeadow_2 13 rfl rfl)
theorem dX9_ofMeadow_64 : decode cX9_ofMeadow 64 = .ok (.ireturn, 1) := dk_172 (dk_at dksX9_ofMeadow_2 16 rfl rfl)
abbrev cX9_count : ByteArray := prog_15_method_72_code
def yX9_count : MethodName := ⟨RX9, "count", "(I)I"⟩
def dkwX9_count_1 : List UInt8 := [4, 182, 0, 47, 172]
abbrev dktX9_count_1 : List UInt8 := dkwX9_count_1 ++ []
def dkwX9_count_0 : List UInt8 := [42, 3, 181, 0, 32, 27, 3, 16, 11, 184, 0, 36, 153, 0, 11, 42, 27, 182, 0, 216, 167, 0, 8, 42]
abbrev dktX9_count_0 : List UInt8 := dkwX9_count_0 ++ dktX9_count_1
theorem dksX9_count_0 : cX9_count.data.toList.drop 0 = dktX9_count_0 := by decide +kernel
theorem dksX9_count_1 : cX9_count.data.toList.drop 24 = dktX9_count_1 := dk_seg dksX9_count_0 24 rfl rfl
theorem dX9_count_0 : decode cX9_count 0 = .ok (.aload_n 0, 1) := dk_42 (dk_at dksX9_count_0 0 rfl rfl)
theorem dX9_count_1 : decode cX9_count 1 = .ok (.iconst 0, 1) := dk_3 (dk_at dksX9_count_0 1 rfl rfl)
theorem dX9_count_2 : decode cX9_count 2 = .ok (.putfield 32, 3) := dk_181 0 32 (dk_at dksX9_count_0 2 rfl rfl)
theorem dX9_count_5 : decode cX9_count 5 = .ok (.iload_n 1, 1) := dk_27 (dk_at dksX9_count_0 5 rfl rfl)
theorem dX9_count_6 : decode cX9_count 6 = .ok (.iconst 0, 1) := dk_3 (dk_at dksX9_count_0 6 rfl rfl)
theorem dX9_count_7 : decode cX9_count 7 = .ok (.bipush 11, 2) := dk_16 11 (dk_at dksX9_count_0 7 rfl rfl)
theorem dX9_count_9 : decode cX9_count 9 = .ok (.invokestatic 36, 3) := dk_184 0 36 (dk_at dksX9_count_0 9 rfl rfl)
theorem dX9_count_12 : decode cX9_count 12 = .ok (.ifCond .eq 11, 3) := dk_153 0 11 (dk_at dksX9_count_0 12 rfl rfl)
theorem dX9_count_15 : decode cX9_count 15 = .ok (.aload_n 0, 1) := dk_42 (dk_at dksX9_count_0 15 rfl rfl)
theorem dX9_count_16 : decode cX9_count 16 = .ok (.iload_n 1, 1) := dk_27 (dk_at dksX9_count_0 16 rfl rfl)
theorem dX9_count_17 : decode cX9_count 17 = .ok (.invokevirtual 216, 3) := dk_182 0 216 (dk_at dksX9_count_0 17 rfl rfl)
theorem dX9_count_20 : decode cX9_count 20 = .ok (.goto 8, 3) := dk_167 0 8 (dk_at dksX9_count_0 20 rfl rfl)
theorem dX9_count_23 : decode cX9_count 23 = .ok (.aload_n 0, 1) := dk_42 (dk_at dksX9_count_0 23 rfl rfl)
theorem dX9_count_24 : decode cX9_count 24 = .ok (.iconst 1, 1) := dk_4 (dk_at dksX9_count_1 0 rfl rfl)
theorem dX9_count_25 : decode cX9_count 25 = .ok (.invokevirtual 47, 3) := dk_182 0 47 (dk_at dksX9_count_1 1 rfl rfl)
theorem dX9_count_28 : decode cX9_count 28 = .ok (.ireturn, 1) := dk_172 (dk_at dksX9_count_1 4 rfl rfl)
abbrev cX9_counted : ByteArray := prog_15_method_71_code
def yX9_counted : MethodName := ⟨RX9, "counted", "(I)I"⟩
def dkwX9_counted_6 : List UInt8 := [172]
abbrev dktX9_counted_6 : List UInt8 := dkwX9_counted_6 ++ []
def dkwX9_counted_5 : List UInt8 := [160, 0, 7, 4, 167, 0, 4, 3, 182, 0, 212, 172, 42, 180, 0, 7, 16, 7, 46, 172, 42, 180, 0, 40]
abbrev dktX9_counted_5 : List UInt8 := dkwX9_counted_5 ++ dktX9_counted_6
def dkwX9_counted_4 : List UInt8 := [42, 180, 0, 7, 16, 6, 184, 0, 206, 172, 42, 180, 0, 7, 184, 0, 209, 172, 42, 27, 16, 10]
abbrev dktX9_counted_4 : List UInt8 := dkwX9_counted_4 ++ dktX9_counted_5
def dkwX9_counted_3 : List UInt8 := [180, 0, 7, 184, 0, 203, 172, 42, 180, 0, 7, 5, 184, 0, 206, 172, 42, 180, 0, 7, 184, 0, 141, 172]
abbrev dktX9_counted_3 : List UInt8 := dkwX9_counted_3 ++ dktX9_counted_4
def dkwX9_counted_2 : List UInt8 := [42, 180, 0, 7, 7, 46, 172, 42, 180, 0, 7, 16, 6, 46, 172, 42, 180, 0, 7, 8, 46, 172, 42]
abbrev dktX9_counted_2 : List UInt8 := dkwX9_counted_2 ++ dktX9_counted_3
def dkwX9_counted_1 : List UInt8 := [170, 0, 0, 0, 0, 0, 148, 0, 0, 0, 0, 0, 0, 0, 10, 0, 0, 0, 59, 0, 0, 0, 66, 0, 0, 0, 74, 0, 0, 0, 81, 0, 0, 0, 89, 0, 0, 0, 98, 0, 0, 0, 106, 0, 0, 0, 116, 0, 0, 0, 124, 0, 0, 0, 140, 0, 0, 0, 124]
abbrev dktX9_counted_1 : List UInt8 := dkwX9_counted_1 ++ dktX9_counted_2
def dkwX9_counted_0 : List UInt8 := [27]
abbrev dktX9_counted_0 : List UInt8 := dkwX9_counted_0 ++ dktX9_counted_1
theorem dksX9_counted_0 : cX9_counted.data.toList.drop 0 = dktX9_counted_0 := by decide +kernel
theorem dksX9_counted_1 : cX9_counted.data.toList.drop 1 = dktX9_counted_1 := dk_seg dksX9_counted_0 1 rfl rfl
theorem dksX9_counted_2 : cX9_counted.data.toList.drop 60 = dktX9_counted_2 := dk_seg dksX9_counted_1 59 rfl rfl
theorem dksX9_counted_3 : cX9_counted.data.toList.drop 83 = dktX9_counted_3 := dk_seg dksX9_counted_2 23 rfl rfl
theorem dksX9_counted_4 : cX9_counted.data.toList.drop 107 = dktX9_counted_4 := dk_seg dksX9_counted_3 24 rfl rfl
theorem dksX9_counted_5 : cX9_counted.data.toList.drop 129 = dktX9_counted_5 := dk_seg dksX9_counted_4 22 rfl rfl
theorem dksX9_counted_6 : cX9_counted.data.toList.drop 153 = dktX9_counted_6 := dk_seg dksX9_counted_5 24 rfl rfl
theorem dX9_counted_0 : decode cX9_counted 0 = .ok (.iload_n 1, 1) := dk_27 (dk_at dksX9_counted_0 0 rfl rfl)
theorem dX9_counted_1 : decode cX9_counted 1 = .ok (.tableswitch 148 0 10 #[59, 66, 74, 81, 89, 98, 106, 116, 124, 140, 124], 59) := by decide +kernel
theorem dX9_counted_60 : decode cX9_counted 60 = .ok (.aload_n 0, 1) := dk_42 (dk_at dksX9_counted_2 0 rfl rfl)
theorem dX9_counted_61 : decode cX9_counted 61 = .ok (.getfield 7, 3) := dk_180 0 7 (dk_at dksX9_counted_2 1 rfl rfl)
theorem dX9_counted_64 : decode cX9_counted 64 = .ok (.iconst 4, 1) := dk_7 (dk_at dksX9_counted_2 4 rfl rfl)
theorem dX9_counted_65 : decode cX9_counted 65 = .ok (.iaload, 1) := dk_46 (dk_at dksX9_counted_2 5 rfl rfl)
theorem dX9_counted_66 : decode cX9_counted 66 = .ok (.ireturn, 1) := dk_172 (dk_at dksX9_counted_2 6 rfl rfl)
theorem dX9_counted_67 : decode cX9_counted 67 = .ok (.aload_n 0, 1) := dk_42 (dk_at dksX9_counted_2 7 rfl rfl)
theorem dX9_counted_68 : decode cX9_counted 68 = .ok (.getfield 7, 3) := dk_180 0 7 (dk_at dksX9_counted_2 8 rfl rfl)
theorem dX9_counted_71 : decode cX9_counted 71 = .ok (.bipush 6, 2) := dk_16 6 (dk_at dksX9_counted_2 11 rfl rfl)
theorem dX9_counted_73 : decode cX9_counted 73 = .ok (.iaload, 1) := dk_46 (dk_at dksX9_counted_2 13 rfl rfl)
theorem dX9_counted_74 : decode cX9_counted 74 = .ok (.ireturn, 1) := dk_172 (dk_at dksX9_counted_2 14 rfl rfl)
theorem dX9_counted_75 : decode cX9_counted 75 = .ok (.aload_n 0, 1) := dk_42 (dk_at dksX9_counted_2 15 rfl rfl)
theorem dX9_counted_76 : decode cX9_counted 76 = .ok (.getfield 7, 3) := dk_180 0 7 (dk_at dksX9_counted_2 16 rfl rfl)
theorem dX9_counted_79 : decode cX9_counted 79 = .ok (.iconst 5, 1) := dk_8 (dk_at dksX9_counted_2 19 rfl rfl)
theorem dX9_counted_80 : decode cX9_counted 80 = .ok (.iaload, 1) := dk_46 (dk_at dksX9_counted_2 20 rfl rfl)
theorem dX9_counted_81 : decode cX9_counted 81 = .ok (.ireturn, 1) := dk_172 (dk_at dksX9_counted_2 21 rfl rfl)
theorem dX9_counted_82 : decode cX9_counted 82 = .ok (.aload_n 0, 1) := dk_42 (dk_at dksX9_counted_2 22 rfl rfl)
theorem dX9_counted_83 : decode cX9_counted 83 = .ok (.getfield 7, 3) := dk_180 0 7 (dk_at dksX9_counted_3 0 rfl rfl)
theorem dX9_counted_86 : decode cX9_counted 86 = .ok (.invokestatic 203, 3) := dk_184 0 203 (dk_at dksX9_counted_3 3 rfl rfl)
theorem dX9_counted_89 : decode cX9_counted 89 = .ok (.ireturn, 1) := dk_172 (dk_at dksX9_counted_3 6 rfl rfl)
theorem dX9_counted_90 : decode cX9_counted 90 = .ok (.aload_n 0, 1) := dk_42 (dk_at dksX9_counted_3 7 rfl rfl)
theorem dX9_counted_91 : decode cX9_counted 91 = .ok (.getfield 7, 3) := dk_180 0 7 (dk_at dksX9_counted_3 8 rfl rfl)
theorem dX9_counted_94 : decode cX9_counted 94 = .ok (.iconst 2, 1) := dk_5 (dk_at dksX9_counted_3 11 rfl rfl)
theorem dX9_counted_95 : decode cX9_counted 95 = .ok (.invokestatic 206, 3) := dk_184 0 206 (dk_at dksX9_counted_3 12 rfl rfl)
theorem dX9_counted_98 : decode cX9_counted 98 = .ok (.ireturn, 1) := dk_172 (dk_at dksX9_counted_3 15 rfl rfl)
theorem dX9_counted_99 : decode cX9_counted 99 = .ok (.aload_n 0, 1) := dk_42 (dk_at dksX9_counted_3 16 rfl rfl)
theorem dX9_counted_100 : decode cX9_counted 100 = .ok (.getfield 7, 3) := dk_180 0 7 (dk_at dksX9_counted_3 17 rfl rfl)
theorem dX9_counted_103 : decode cX9_counted 103 = .ok (.invokestatic 141, 3) := dk_184 0 141 (dk_at dksX9_counted_3 20 rfl rfl)
theorem dX9_counted_106 : decode cX9_counted 106 = .ok (.ireturn, 1) := dk_172 (dk_at dksX9_counted_3 23 rfl rfl)
theorem dX9_counted_107 : decode cX9_counted 107 = .ok (.aload_n 0, 1) := dk_42 (dk_at dksX9_counted_4 0 rfl rfl)
theorem dX9_counted_108 : decode cX9_counted 108 = .ok (.getfield 7, 3) := dk_180 0 7 (dk_at dksX9_counted_4 1 rfl rfl)
theorem dX9_counted_111 : decode cX9_counted 111 = .ok (.bipush 6, 2) := dk_16 6 (dk_at dksX9_counted_4 4 rfl rfl)
theorem dX9_counted_113 : decode cX9_counted 113 = .ok (.invokestatic 206, 3) := dk_184 0 206 (dk_at dksX9_counted_4 6 rfl rfl)
theorem dX9_counted_116 : decode cX9_counted 116 = .ok (.ireturn, 1) := dk_172 (dk_at dksX9_counted_4 9 rfl rfl)
theorem dX9_counted_117 : decode cX9_counted 117 = .ok (.aload_n 0, 1) := dk_42 (dk_at dksX9_counted_4 10 rfl rfl)
theorem dX9_counted_118 : decode cX9_counted 118 = .ok (.getfield 7, 3) := dk_180 0 7 (dk_at dksX9_counted_4 11 rfl rfl)
theorem dX9_counted_121 : decode cX9_counted 121 = .ok (.invokestatic 209, 3) := dk_184 0 209 (dk_at dksX9_counted_4 14 rfl rfl)
theorem dX9_counted_124 : decode cX9_counted 124 = .ok (.ireturn, 1) := dk_172 (dk_at dksX9_counted_4 17 rfl rfl)
theorem dX9_counted_125 : decode cX9_counted 125 = .ok (.aload_n 0, 1) := dk_42 (dk_at dksX9_counted_4 18 rfl rfl)
theorem dX9_counted_126 : decode cX9_counted 126 = .ok (.iload_n 1, 1) := dk_27 (dk_at dksX9_counted_4 19 rfl rfl)
theorem dX9_counted_127 : decode cX9_counted 127 = .ok (.bipush 10, 2) := dk_16 10 (dk_at dksX9_counted_4 20 rfl rfl)
theorem dX9_counted_129 : decode cX9_counted 129 = .ok (.if_icmp .ne 7, 3) := dk_160 0 7 (dk_at dksX9_counted_5 0 rfl rfl)
theorem dX9_counted_132 : decode cX9_counted 132 = .ok (.iconst 1, 1) := dk_4 (dk_at dksX9_counted_5 3 rfl rfl)
theorem dX9_counted_133 : decode cX9_counted 133 = .ok (.goto 4, 3) := dk_167 0 4 (dk_at dksX9_counted_5 4 rfl rfl)
theorem dX9_counted_136 : decode cX9_counted 136 = .ok (.iconst 0, 1) := dk_3 (dk_at dksX9_counted_5 7 rfl rfl)
theorem dX9_counted_137 : decode cX9_counted 137 = .ok (.invokevirtual 212, 3) := dk_182 0 212 (dk_at dksX9_counted_5 8 rfl rfl)
theorem dX9_counted_140 : decode cX9_counted 140 = .ok (.ireturn, 1) := dk_172 (dk_at dksX9_counted_5 11 rfl rfl)
theorem dX9_counted_141 : decode cX9_counted 141 = .ok (.aload_n 0, 1) := dk_42 (dk_at dksX9_counted_5 12 rfl rfl)
theorem dX9_counted_142 : decode cX9_counted 142 = .ok (.getfield 7, 3) := dk_180 0 7 (dk_at dksX9_counted_5 13 rfl rfl)
theorem dX9_counted_145 : decode cX9_counted 145 = .ok (.bipush 7, 2) := dk_16 7 (dk_at dksX9_counted_5 16 rfl rfl)
theorem dX9_counted_147 : decode cX9_counted 147 = .ok (.iaload, 1) := dk_46 (dk_at dksX9_counted_5 18 rfl rfl)
theorem dX9_counted_148 : decode cX9_counted 148 = .ok (.ireturn, 1) := dk_172 (dk_at dksX9_counted_5 19 rfl rfl)
theorem dX9_counted_149 : decode cX9_counted 149 = .ok (.aload_n 0, 1) := dk_42 (dk_at dksX9_counted_5 20 rfl rfl)
theorem dX9_counted_150 : decode cX9_counted 150 = .ok (.getfield 40, 3) := dk_180 0 40 (dk_at dksX9_counted_5 21 rfl rfl)
theorem dX9_counted_153 : decode cX9_counted 153 = .ok (.ireturn, 1) := dk_172 (dk_at dksX9_counted_6 0 rfl rfl)
abbrev cX9_raised : ByteArray := prog_15_method_32_code
def yX9_raised : MethodName := ⟨RX9, "raised", "([I)I"⟩
def dkwX9_raised_1 : List UInt8 := [132, 2, 1, 167, 255, 234, 27, 172]
abbrev dktX9_raised_1 : List UInt8 := dkwX9_raised_1 ++ []
def dkwX9_raised_0 : List UInt8 := [3, 60, 3, 61, 28, 16, 6, 162, 0, 22, 27, 42, 16, 8, 6, 28, 104, 96, 4, 96, 46, 96, 60]
abbrev dktX9_raised_0 : List UInt8 := dkwX9_raised_0 ++ dktX9_raised_1
theorem dksX9_raised_0 : cX9_raised.data.toList.drop 0 = dktX9_raised_0 := by decide +kernel
theorem dksX9_raised_1 : cX9_raised.data.toList.drop 23 = dktX9_raised_1 := dk_seg dksX9_raised_0 23 rfl rfl
theorem dX9_raised_0 : decode cX9_raised 0 = .ok (.iconst 0, 1) := dk_3 (dk_at dksX9_raised_0 0 rfl rfl)
theorem dX9_raised_1 : decode cX9_raised 1 = .ok (.istore_n 1, 1) := dk_60 (dk_at dksX9_raised_0 1 rfl rfl)
theorem dX9_raised_2 : decode cX9_raised 2 = .ok (.iconst 0, 1) := dk_3 (dk_at dksX9_raised_0 2 rfl rfl)
theorem dX9_raised_3 : decode cX9_raised 3 = .ok (.istore_n 2, 1) := dk_61 (dk_at dksX9_raised_0 3 rfl rfl)
theorem dX9_raised_4 : decode cX9_raised 4 = .ok (.iload_n 2, 1) := dk_28 (dk_at dksX9_raised_0 4 rfl rfl)
theorem dX9_raised_5 : decode cX9_raised 5 = .ok (.bipush 6, 2) := dk_16 6 (dk_at dksX9_raised_0 5 rfl rfl)
theorem dX9_raised_7 : decode cX9_raised 7 = .ok (.if_icmp .ge 22, 3) := dk_162 0 22 (dk_at dksX9_raised_0 7 rfl rfl)
theorem dX9_raised_10 : decode cX9_raised 10 = .ok (.iload_n 1, 1) := dk_27 (dk_at dksX9_raised_0 10 rfl rfl)
theorem dX9_raised_11 : decode cX9_raised 11 = .ok (.aload_n 0, 1) := dk_42 (dk_at dksX9_raised_0 11 rfl rfl)
theorem dX9_raised_12 : decode cX9_raised 12 = .ok (.bipush 8, 2) := dk_16 8 (dk_at dksX9_raised_0 12 rfl rfl)
theorem dX9_raised_14 : decode cX9_raised 14 = .ok (.iconst 3, 1) := dk_6 (dk_at dksX9_raised_0 14 rfl rfl)
theorem dX9_raised_15 : decode cX9_raised 15 = .ok (.iload_n 2, 1) := dk_28 (dk_at dksX9_raised_0 15 rfl rfl)
theorem dX9_raised_16 : decode cX9_raised 16 = .ok (.imul, 1) := dk_104 (dk_at dksX9_raised_0 16 rfl rfl)
theorem dX9_raised_17 : decode cX9_raised 17 = .ok (.iadd, 1) := dk_96 (dk_at dksX9_raised_0 17 rfl rfl)
theorem dX9_raised_18 : decode cX9_raised 18 = .ok (.iconst 1, 1) := dk_4 (dk_at dksX9_raised_0 18 rfl rfl)
theorem dX9_raised_19 : decode cX9_raised 19 = .ok (.iadd, 1) := dk_96 (dk_at dksX9_raised_0 19 rfl rfl)
theorem dX9_raised_20 : decode cX9_raised 20 = .ok (.iaload, 1) := dk_46 (dk_at dksX9_raised_0 20 rfl rfl)
theorem dX9_raised_21 : decode cX9_raised 21 = .ok (.iadd, 1) := dk_96 (dk_at dksX9_raised_0 21 rfl rfl)
theorem dX9_raised_22 : decode cX9_raised 22 = .ok (.istore_n 1, 1) := dk_60 (dk_at dksX9_raised_0 22 rfl rfl)
theorem dX9_raised_23 : decode cX9_raised 23 = .ok (.iinc 2 1, 3) := dk_132 2 1 (dk_at dksX9_raised_1 0 rfl rfl)
theorem dX9_raised_26 : decode cX9_raised 26 = .ok (.goto (-22), 3) := dk_167 255 234 (dk_at dksX9_raised_1 3 rfl rfl)
theorem dX9_raised_29 : decode cX9_raised 29 = .ok (.iload_n 1, 1) := dk_27 (dk_at dksX9_raised_1 6 rfl rfl)
theorem dX9_raised_30 : decode cX9_raised 30 = .ok (.ireturn, 1) := dk_172 (dk_at dksX9_raised_1 7 rfl rfl)
abbrev cX9_ofBarges : ByteArray := prog_15_method_35_code
def yX9_ofBarges : MethodName := ⟨RX9, "ofBarges", "([II)I"⟩
def dkwX9_ofBarges_1 : List UInt8 := [167, 255, 236, 28, 172]
abbrev dktX9_ofBarges_1 : List UInt8 := dkwX9_ofBarges_1 ++ []
def dkwX9_ofBarges_0 : List UInt8 := [3, 61, 3, 62, 29, 42, 16, 6, 46, 162, 0, 18, 28, 42, 29, 27, 184, 0, 58, 96, 61, 132, 3, 1]
abbrev dktX9_ofBarges_0 : List UInt8 := dkwX9_ofBarges_0 ++ dktX9_ofBarges_1
theorem dksX9_ofBarges_0 : cX9_ofBarges.data.toList.drop 0 = dktX9_ofBarges_0 := by decide +kernel
theorem dksX9_ofBarges_1 : cX9_ofBarges.data.toList.drop 24 = dktX9_ofBarges_1 := dk_seg dksX9_ofBarges_0 24 rfl rfl
theorem dX9_ofBarges_0 : decode cX9_ofBarges 0 = .ok (.iconst 0, 1) := dk_3 (dk_at dksX9_ofBarges_0 0 rfl rfl)
theorem dX9_ofBarges_1 : decode cX9_ofBarges 1 = .ok (.istore_n 2, 1) := dk_61 (dk_at dksX9_ofBarges_0 1 rfl rfl)
theorem dX9_ofBarges_2 : decode cX9_ofBarges 2 = .ok (.iconst 0, 1) := dk_3 (dk_at dksX9_ofBarges_0 2 rfl rfl)
theorem dX9_ofBarges_3 : decode cX9_ofBarges 3 = .ok (.istore_n 3, 1) := dk_62 (dk_at dksX9_ofBarges_0 3 rfl rfl)
theorem dX9_ofBarges_4 : decode cX9_ofBarges 4 = .ok (.iload_n 3, 1) := dk_29 (dk_at dksX9_ofBarges_0 4 rfl rfl)
theorem dX9_ofBarges_5 : decode cX9_ofBarges 5 = .ok (.aload_n 0, 1) := dk_42 (dk_at dksX9_ofBarges_0 5 rfl rfl)
theorem dX9_ofBarges_6 : decode cX9_ofBarges 6 = .ok (.bipush 6, 2) := dk_16 6 (dk_at dksX9_ofBarges_0 6 rfl rfl)
theorem dX9_ofBarges_8 : decode cX9_ofBarges 8 = .ok (.iaload, 1) := dk_46 (dk_at dksX9_ofBarges_0 8 rfl rfl)
theorem dX9_ofBarges_9 : decode cX9_ofBarges 9 = .ok (.if_icmp .ge 18, 3) := dk_162 0 18 (dk_at dksX9_ofBarges_0 9 rfl rfl)
theorem dX9_ofBarges_12 : decode cX9_ofBarges 12 = .ok (.iload_n 2, 1) := dk_28 (dk_at dksX9_ofBarges_0 12 rfl rfl)
theorem dX9_ofBarges_13 : decode cX9_ofBarges 13 = .ok (.aload_n 0, 1) := dk_42 (dk_at dksX9_ofBarges_0 13 rfl rfl)
theorem dX9_ofBarges_14 : decode cX9_ofBarges 14 = .ok (.iload_n 3, 1) := dk_29 (dk_at dksX9_ofBarges_0 14 rfl rfl)
theorem dX9_ofBarges_15 : decode cX9_ofBarges 15 = .ok (.iload_n 1, 1) := dk_27 (dk_at dksX9_ofBarges_0 15 rfl rfl)
theorem dX9_ofBarges_16 : decode cX9_ofBarges 16 = .ok (.invokestatic 58, 3) := dk_184 0 58 (dk_at dksX9_ofBarges_0 16 rfl rfl)
theorem dX9_ofBarges_19 : decode cX9_ofBarges 19 = .ok (.iadd, 1) := dk_96 (dk_at dksX9_ofBarges_0 19 rfl rfl)
theorem dX9_ofBarges_20 : decode cX9_ofBarges 20 = .ok (.istore_n 2, 1) := dk_61 (dk_at dksX9_ofBarges_0 20 rfl rfl)
theorem dX9_ofBarges_21 : decode cX9_ofBarges 21 = .ok (.iinc 3 1, 3) := dk_132 3 1 (dk_at dksX9_ofBarges_0 21 rfl rfl)
theorem dX9_ofBarges_24 : decode cX9_ofBarges 24 = .ok (.goto (-20), 3) := dk_167 255 236 (dk_at dksX9_ofBarges_1 0 rfl rfl)
theorem dX9_ofBarges_27 : decode cX9_ofBarges 27 = .ok (.iload_n 2, 1) := dk_28 (dk_at dksX9_ofBarges_1 3 rfl rfl)
theorem dX9_ofBarges_28 : decode cX9_ofBarges 28 = .ok (.ireturn, 1) := dk_172 (dk_at dksX9_ofBarges_1 4 rfl rfl)
abbrev cX9_allSilt : ByteArray := prog_15_method_33_code
def yX9_allSilt : MethodName := ⟨RX9, "allSilt", "([I)I"⟩
def dkwX9_allSilt_1 : List UInt8 := [167, 255, 236, 27, 172]
abbrev dktX9_allSilt_1 : List UInt8 := dkwX9_allSilt_1 ++ []
def dkwX9_allSilt_0 : List UInt8 := [3, 60, 3, 61, 28, 16, 6, 162, 0, 20, 27, 42, 16, 8, 6, 28, 104, 96, 46, 96, 60, 132, 2, 1]
abbrev dktX9_allSilt_0 : List UInt8 := dkwX9_allSilt_0 ++ dktX9_allSilt_1
theorem dksX9_allSilt_0 : cX9_allSilt.data.toList.drop 0 = dktX9_allSilt_0 := by decide +kernel
theorem dksX9_allSilt_1 : cX9_allSilt.data.toList.drop 24 = dktX9_allSilt_1 := dk_seg dksX9_allSilt_0 24 rfl rfl
theorem dX9_allSilt_0 : decode cX9_allSilt 0 = .ok (.iconst 0, 1) := dk_3 (dk_at dksX9_allSilt_0 0 rfl rfl)
theorem dX9_allSilt_1 : decode cX9_allSilt 1 = .ok (.istore_n 1, 1) := dk_60 (dk_at dksX9_allSilt_0 1 rfl rfl)
theorem dX9_allSilt_2 : decode cX9_allSilt 2 = .ok (.iconst 0, 1) := dk_3 (dk_at dksX9_allSilt_0 2 rfl rfl)
theorem dX9_allSilt_3 : decode cX9_allSilt 3 = .ok (.istore_n 2, 1) := dk_61 (dk_at dksX9_allSilt_0 3 rfl rfl)
theorem dX9_allSilt_4 : decode cX9_allSilt 4 = .ok (.iload_n 2, 1) := dk_28 (dk_at dksX9_allSilt_0 4 rfl rfl)
theorem dX9_allSilt_5 : decode cX9_allSilt 5 = .ok (.bipush 6, 2) := dk_16 6 (dk_at dksX9_allSilt_0 5 rfl rfl)
theorem dX9_allSilt_7 : decode cX9_allSilt 7 = .ok (.if_icmp .ge 20, 3) := dk_162 0 20 (dk_at dksX9_allSilt_0 7 rfl rfl)
theorem dX9_allSilt_10 : decode cX9_allSilt 10 = .ok (.iload_n 1, 1) := dk_27 (dk_at dksX9_allSilt_0 10 rfl rfl)
theorem dX9_allSilt_11 : decode cX9_allSilt 11 = .ok (.aload_n 0, 1) := dk_42 (dk_at dksX9_allSilt_0 11 rfl rfl)
theorem dX9_allSilt_12 : decode cX9_allSilt 12 = .ok (.bipush 8, 2) := dk_16 8 (dk_at dksX9_allSilt_0 12 rfl rfl)
theorem dX9_allSilt_14 : decode cX9_allSilt 14 = .ok (.iconst 3, 1) := dk_6 (dk_at dksX9_allSilt_0 14 rfl rfl)
theorem dX9_allSilt_15 : decode cX9_allSilt 15 = .ok (.iload_n 2, 1) := dk_28 (dk_at dksX9_allSilt_0 15 rfl rfl)
theorem dX9_allSilt_16 : decode cX9_allSilt 16 = .ok (.imul, 1) := dk_104 (dk_at dksX9_allSilt_0 16 rfl rfl)
theorem dX9_allSilt_17 : decode cX9_allSilt 17 = .ok (.iadd, 1) := dk_96 (dk_at dksX9_allSilt_0 17 rfl rfl)
theorem dX9_allSilt_18 : decode cX9_allSilt 18 = .ok (.iaload, 1) := dk_46 (dk_at dksX9_allSilt_0 18 rfl rfl)
theorem dX9_allSilt_19 : decode cX9_allSilt 19 = .ok (.iadd, 1) := dk_96 (dk_at dksX9_allSilt_0 19 rfl rfl)
theorem dX9_allSilt_20 : decode cX9_allSilt 20 = .ok (.istore_n 1, 1) := dk_60 (dk_at dksX9_allSilt_0 20 rfl rfl)
theorem dX9_allSilt_21 : decode cX9_allSilt 21 = .ok (.iinc 2 1, 3) := dk_132 2 1 (dk_at dksX9_allSilt_0 21 rfl rfl)
theorem dX9_allSilt_24 : decode cX9_allSilt 24 = .ok (.goto (-20), 3) := dk_167 255 236 (dk_at dksX9_allSilt_1 0 rfl rfl)
theorem dX9_allSilt_27 : decode cX9_allSilt 27 = .ok (.iload_n 1, 1) := dk_27 (dk_at dksX9_allSilt_1 3 rfl rfl)
theorem dX9_allSilt_28 : decode cX9_allSilt 28 = .ok (.ireturn, 1) := dk_172 (dk_at dksX9_allSilt_1 4 rfl rfl)
abbrev cX9_many : ByteArray := prog_15_method_70_code
def yX9_many : MethodName := ⟨RX9, "many", "(Z)I"⟩
def dkwX9_many_3 : List UInt8 := [167, 255, 193, 28, 172]
abbrev dktX9_many_3 : List UInt8 := dkwX9_many_3 ++ []
def dkwX9_many_2 : List UInt8 := [180, 0, 7, 29, 4, 184, 0, 58, 5, 160, 0, 7, 4, 167, 0, 4, 3, 96, 61, 132, 3, 1]
abbrev dktX9_many_2 : List UInt8 := dkwX9_many_2 ++ dktX9_many_3
def dkwX9_many_1 : List UInt8 := [153, 0, 7, 4, 167, 0, 36, 3, 167, 0, 32, 29, 42, 180, 0, 7, 16, 6, 46, 162, 0, 20, 42]
abbrev dktX9_many_1 : List UInt8 := dkwX9_many_1 ++ dktX9_many_2
def dkwX9_many_0 : List UInt8 := [3, 61, 3, 62, 29, 8, 162, 0, 64, 28, 27, 153, 0, 22, 42, 180, 0, 7, 29, 184, 0, 78]
abbrev dktX9_many_0 : List UInt8 := dkwX9_many_0 ++ dktX9_many_1
theorem dksX9_many_0 : cX9_many.data.toList.drop 0 = dktX9_many_0 := by decide +kernel
theorem dksX9_many_1 : cX9_many.data.toList.drop 22 = dktX9_many_1 := dk_seg dksX9_many_0 22 rfl rfl
theorem dksX9_many_2 : cX9_many.data.toList.drop 45 = dktX9_many_2 := dk_seg dksX9_many_1 23 rfl rfl
theorem dksX9_many_3 : cX9_many.data.toList.drop 67 = dktX9_many_3 := dk_seg dksX9_many_2 22 rfl rfl
theorem dX9_many_0 : decode cX9_many 0 = .ok (.iconst 0, 1) := dk_3 (dk_at dksX9_many_0 0 rfl rfl)
theorem dX9_many_1 : decode cX9_many 1 = .ok (.istore_n 2, 1) := dk_61 (dk_at dksX9_many_0 1 rfl rfl)
theorem dX9_many_2 : decode cX9_many 2 = .ok (.iconst 0, 1) := dk_3 (dk_at dksX9_many_0 2 rfl rfl)
theorem dX9_many_3 : decode cX9_many 3 = .ok (.istore_n 3, 1) := dk_62 (dk_at dksX9_many_0 3 rfl rfl)
theorem dX9_many_4 : decode cX9_many 4 = .ok (.iload_n 3, 1) := dk_29 (dk_at dksX9_many_0 4 rfl rfl)
theorem dX9_many_5 : decode cX9_many 5 = .ok (.iconst 5, 1) := dk_8 (dk_at dksX9_many_0 5 rfl rfl)
theorem dX9_many_6 : decode cX9_many 6 = .ok (.if_icmp .ge 64, 3) := dk_162 0 64 (dk_at dksX9_many_0 6 rfl rfl)
theorem dX9_many_9 : decode cX9_many 9 = .ok (.iload_n 2, 1) := dk_28 (dk_at dksX9_many_0 9 rfl rfl)
theorem dX9_many_10 : decode cX9_many 10 = .ok (.iload_n 1, 1) := dk_27 (dk_at dksX9_many_0 10 rfl rfl)
theorem dX9_many_11 : decode cX9_many 11 = .ok (.ifCond .eq 22, 3) := dk_153 0 22 (dk_at dksX9_many_0 11 rfl rfl)
theorem dX9_many_14 : decode cX9_many 14 = .ok (.aload_n 0, 1) := dk_42 (dk_at dksX9_many_0 14 rfl rfl)
theorem dX9_many_15 : decode cX9_many 15 = .ok (.getfield 7, 3) := dk_180 0 7 (dk_at dksX9_many_0 15 rfl rfl)
theorem dX9_many_18 : decode cX9_many 18 = .ok (.iload_n 3, 1) := dk_29 (dk_at dksX9_many_0 18 rfl rfl)
theorem dX9_many_19 : decode cX9_many 19 = .ok (.invokestatic 78, 3) := dk_184 0 78 (dk_at dksX9_many_0 19 rfl rfl)
theorem dX9_many_22 : decode cX9_many 22 = .ok (.ifCond .eq 7, 3) := dk_153 0 7 (dk_at dksX9_many_1 0 rfl rfl)
theorem dX9_many_25 : decode cX9_many 25 = .ok (.iconst 1, 1) := dk_4 (dk_at dksX9_many_1 3 rfl rfl)
theorem dX9_many_26 : decode cX9_many 26 = .ok (.goto 36, 3) := dk_167 0 36 (dk_at dksX9_many_1 4 rfl rfl)
theorem dX9_many_29 : decode cX9_many 29 = .ok (.iconst 0, 1) := dk_3 (dk_at dksX9_many_1 7 rfl rfl)
theorem dX9_many_30 : decode cX9_many 30 = .ok (.goto 32, 3) := dk_167 0 32 (dk_at dksX9_many_1 8 rfl rfl)
theorem dX9_many_33 : decode cX9_many 33 = .ok (.iload_n 3, 1) := dk_29 (dk_at dksX9_many_1 11 rfl rfl)
theorem dX9_many_34 : decode cX9_many 34 = .ok (.aload_n 0, 1) := dk_42 (dk_at dksX9_many_1 12 rfl rfl)
theorem dX9_many_35 : decode cX9_many 35 = .ok (.getfield 7, 3) := dk_180 0 7 (dk_at dksX9_many_1 13 rfl rfl)
theorem dX9_many_38 : decode cX9_many 38 = .ok (.bipush 6, 2) := dk_16 6 (dk_at dksX9_many_1 16 rfl rfl)
theorem dX9_many_40 : decode cX9_many 40 = .ok (.iaload, 1) := dk_46 (dk_at dksX9_many_1 18 rfl rfl)
theorem dX9_many_41 : decode cX9_many 41 = .ok (.if_icmp .ge 20, 3) := dk_162 0 20 (dk_at dksX9_many_1 19 rfl rfl)
theorem dX9_many_44 : decode cX9_many 44 = .ok (.aload_n 0, 1) := dk_42 (dk_at dksX9_many_1 22 rfl rfl)
theorem dX9_many_45 : decode cX9_many 45 = .ok (.getfield 7, 3) := dk_180 0 7 (dk_at dksX9_many_2 0 rfl rfl)
theorem dX9_many_48 : decode cX9_many 48 = .ok (.iload_n 3, 1) := dk_29 (dk_at dksX9_many_2 3 rfl rfl)
theorem dX9_many_49 : decode cX9_many 49 = .ok (.iconst 1, 1) := dk_4 (dk_at dksX9_many_2 4 rfl rfl)
theorem dX9_many_50 : decode cX9_many 50 = .ok (.invokestatic 58, 3) := dk_184 0 58 (dk_at dksX9_many_2 5 rfl rfl)
theorem dX9_many_53 : decode cX9_many 53 = .ok (.iconst 2, 1) := dk_5 (dk_at dksX9_many_2 8 rfl rfl)
theorem dX9_many_54 : decode cX9_many 54 = .ok (.if_icmp .ne 7, 3) := dk_160 0 7 (dk_at dksX9_many_2 9 rfl rfl)
theorem dX9_many_57 : decode cX9_many 57 = .ok (.iconst 1, 1) := dk_4 (dk_at dksX9_many_2 12 rfl rfl)
theorem dX9_many_58 : decode cX9_many 58 = .ok (.goto 4, 3) := dk_167 0 4 (dk_at dksX9_many_2 13 rfl rfl)
theorem dX9_many_61 : decode cX9_many 61 = .ok (.iconst 0, 1) := dk_3 (dk_at dksX9_many_2 16 rfl rfl)
theorem dX9_many_62 : decode cX9_many 62 = .ok (.iadd, 1) := dk_96 (dk_at dksX9_many_2 17 rfl rfl)
theorem dX9_many_63 : decode cX9_many 63 = .ok (.istore_n 2, 1) := dk_61 (dk_at dksX9_many_2 18 rfl rfl)
theorem dX9_many_64 : decode cX9_many 64 = .ok (.iinc 3 1, 3) := dk_132 3 1 (dk_at dksX9_many_2 19 rfl rfl)
theorem dX9_many_67 : decode cX9_many 67 = .ok (.goto (-63), 3) := dk_167 255 193 (dk_at dksX9_many_3 0 rfl rfl)
theorem dX9_many_70 : decode cX9_many 70 = .ok (.iload_n 2, 1) := dk_28 (dk_at dksX9_many_3 3 rfl rfl)
theorem dX9_many_71 : decode cX9_many 71 = .ok (.ireturn, 1) := dk_172 (dk_at dksX9_many_3 4 rfl rfl)
abbrev cX9_setting : ByteArray := prog_15_method_73_code
def yX9_setting : MethodName := ⟨RX9, "setting", "(I)I"⟩
def dkwX9_setting_1 : List UInt8 := [4, 182, 0, 47, 172]
abbrev dktX9_setting_1 : List UInt8 := dkwX9_setting_1 ++ []
def dkwX9_setting_0 : List UInt8 := [42, 3, 181, 0, 32, 27, 3, 6, 184, 0, 36, 153, 0, 12, 42, 180, 0, 7, 27, 46, 167, 0, 8, 42]
abbrev dktX9_setting_0 : List UInt8 := dkwX9_setting_0 ++ dktX9_setting_1
theorem dksX9_setting_0 : cX9_setting.data.toList.drop 0 = dktX9_setting_0 := by decide +kernel
theorem dksX9_setting_1 : cX9_setting.data.toList.drop 24 = dktX9_setting_1 := dk_seg dksX9_setting_0 24 rfl rfl
theorem dX9_setting_0 : decode cX9_setting 0 = .ok (.aload_n 0, 1) := dk_42 (dk_at dksX9_setting_0 0 rfl rfl)
theorem dX9_setting_1 : decode cX9_setting 1 = .ok (.iconst 0, 1) := dk_3 (dk_at dksX9_setting_0 1 rfl rfl)
theorem dX9_setting_2 : decode cX9_setting 2 = .ok (.putfield 32, 3) := dk_181 0 32 (dk_at dksX9_setting_0 2 rfl rfl)
theorem dX9_setting_5 : decode cX9_setting 5 = .ok (.iload_n 1, 1) := dk_27 (dk_at dksX9_setting_0 5 rfl rfl)
theorem dX9_setting_6 : decode cX9_setting 6 = .ok (.iconst 0, 1) := dk_3 (dk_at dksX9_setting_0 6 rfl rfl)
theorem dX9_setting_7 : decode cX9_setting 7 = .ok (.iconst 3, 1) := dk_6 (dk_at dksX9_setting_0 7 rfl rfl)
theorem dX9_setting_8 : decode cX9_setting 8 = .ok (.invokestatic 36, 3) := dk_184 0 36 (dk_at dksX9_setting_0 8 rfl rfl)
theorem dX9_setting_11 : decode cX9_setting 11 = .ok (.ifCond .eq 12, 3) := dk_153 0 12 (dk_at dksX9_setting_0 11 rfl rfl)
theorem dX9_setting_14 : decode cX9_setting 14 = .ok (.aload_n 0, 1) := dk_42 (dk_at dksX9_setting_0 14 rfl rfl)
theorem dX9_setting_15 : decode cX9_setting 15 = .ok (.getfield 7, 3) := dk_180 0 7 (dk_at dksX9_setting_0 15 rfl rfl)
theorem dX9_setting_18 : decode cX9_setting 18 = .ok (.iload_n 1, 1) := dk_27 (dk_at dksX9_setting_0 18 rfl rfl)
theorem dX9_setting_19 : decode cX9_setting 19 = .ok (.iaload, 1) := dk_46 (dk_at dksX9_setting_0 19 rfl rfl)
theorem dX9_setting_20 : decode cX9_setting 20 = .ok (.goto 8, 3) := dk_167 0 8 (dk_at dksX9_setting_0 20 rfl rfl)
theorem dX9_setting_23 : decode cX9_setting 23 = .ok (.aload_n 0, 1) := dk_42 (dk_at dksX9_setting_0 23 rfl rfl)
theorem dX9_setting_24 : decode cX9_setting 24 = .ok (.iconst 1, 1) := dk_4 (dk_at dksX9_setting_1 0 rfl rfl)
theorem dX9_setting_25 : decode cX9_setting 25 = .ok (.invokevirtual 47, 3) := dk_182 0 47 (dk_at dksX9_setting_1 1 rfl rfl)
theorem dX9_setting_28 : decode cX9_setting 28 = .ok (.ireturn, 1) := dk_172 (dk_at dksX9_setting_1 4 rfl rfl)
abbrev cX9_ifPassed : ByteArray := prog_15_method_75_code
def yX9_ifPassed : MethodName := ⟨RX9, "ifPassed", "(II)I"⟩
def dkwX9_ifPassed_1 : List UInt8 := [42, 42, 180, 0, 7, 8, 46, 27, 28, 182, 0, 219, 167, 0, 8, 42, 4, 182, 0, 47, 172]
abbrev dktX9_ifPassed_1 : List UInt8 := dkwX9_ifPassed_1 ++ []
def dkwX9_ifPassed_0 : List UInt8 := [42, 3, 181, 0, 32, 27, 4, 16, 60, 184, 0, 36, 153, 0, 27, 28, 3, 7, 184, 0, 36, 153, 0, 18]
abbrev dktX9_ifPassed_0 : List UInt8 := dkwX9_ifPassed_0 ++ dktX9_ifPassed_1
theorem dksX9_ifPassed_0 : cX9_ifPassed.data.toList.drop 0 = dktX9_ifPassed_0 := by decide +kernel
theorem dksX9_ifPassed_1 : cX9_ifPassed.data.toList.drop 24 = dktX9_ifPassed_1 := dk_seg dksX9_ifPassed_0 24 rfl rfl
theorem dX9_ifPassed_0 : decode cX9_ifPassed 0 = .ok (.aload_n 0, 1) := dk_42 (dk_at dksX9_ifPassed_0 0 rfl rfl)
theorem dX9_ifPassed_1 : decode cX9_ifPassed 1 = .ok (.iconst 0, 1) := dk_3 (dk_at dksX9_ifPassed_0 1 rfl rfl)
theorem dX9_ifPassed_2 : decode cX9_ifPassed 2 = .ok (.putfield 32, 3) := dk_181 0 32 (dk_at dksX9_ifPassed_0 2 rfl rfl)
theorem dX9_ifPassed_5 : decode cX9_ifPassed 5 = .ok (.iload_n 1, 1) := dk_27 (dk_at dksX9_ifPassed_0 5 rfl rfl)
theorem dX9_ifPassed_6 : decode cX9_ifPassed 6 = .ok (.iconst 1, 1) := dk_4 (dk_at dksX9_ifPassed_0 6 rfl rfl)
theorem dX9_ifPassed_7 : decode cX9_ifPassed 7 = .ok (.bipush 60, 2) := dk_16 60 (dk_at dksX9_ifPassed_0 7 rfl rfl)
theorem dX9_ifPassed_9 : decode cX9_ifPassed 9 = .ok (.invokestatic 36, 3) := dk_184 0 36 (dk_at dksX9_ifPassed_0 9 rfl rfl)
theorem dX9_ifPassed_12 : decode cX9_ifPassed 12 = .ok (.ifCond .eq 27, 3) := dk_153 0 27 (dk_at dksX9_ifPassed_0 12 rfl rfl)
theorem dX9_ifPassed_15 : decode cX9_ifPassed 15 = .ok (.iload_n 2, 1) := dk_28 (dk_at dksX9_ifPassed_0 15 rfl rfl)
theorem dX9_ifPassed_16 : decode cX9_ifPassed 16 = .ok (.iconst 0, 1) := dk_3 (dk_at dksX9_ifPassed_0 16 rfl rfl)
theorem dX9_ifPassed_17 : decode cX9_ifPassed 17 = .ok (.iconst 4, 1) := dk_7 (dk_at dksX9_ifPassed_0 17 rfl rfl)
theorem dX9_ifPassed_18 : decode cX9_ifPassed 18 = .ok (.invokestatic 36, 3) := dk_184 0 36 (dk_at dksX9_ifPassed_0 18 rfl rfl)
theorem dX9_ifPassed_21 : decode cX9_ifPassed 21 = .ok (.ifCond .eq 18, 3) := dk_153 0 18 (dk_at dksX9_ifPassed_0 21 rfl rfl)
theorem dX9_ifPassed_24 : decode cX9_ifPassed 24 = .ok (.aload_n 0, 1) := dk_42 (dk_at dksX9_ifPassed_1 0 rfl rfl)
theorem dX9_ifPassed_25 : decode cX9_ifPassed 25 = .ok (.aload_n 0, 1) := dk_42 (dk_at dksX9_ifPassed_1 1 rfl rfl)
theorem dX9_ifPassed_26 : decode cX9_ifPassed 26 = .ok (.getfield 7, 3) := dk_180 0 7 (dk_at dksX9_ifPassed_1 2 rfl rfl)
theorem dX9_ifPassed_29 : decode cX9_ifPassed 29 = .ok (.iconst 5, 1) := dk_8 (dk_at dksX9_ifPassed_1 5 rfl rfl)
theorem dX9_ifPassed_30 : decode cX9_ifPassed 30 = .ok (.iaload, 1) := dk_46 (dk_at dksX9_ifPassed_1 6 rfl rfl)
theorem dX9_ifPassed_31 : decode cX9_ifPassed 31 = .ok (.iload_n 1, 1) := dk_27 (dk_at dksX9_ifPassed_1 7 rfl rfl)
theorem dX9_ifPassed_32 : decode cX9_ifPassed 32 = .ok (.iload_n 2, 1) := dk_28 (dk_at dksX9_ifPassed_1 8 rfl rfl)
theorem dX9_ifPassed_33 : decode cX9_ifPassed 33 = .ok (.invokevirtual 219, 3) := dk_182 0 219 (dk_at dksX9_ifPassed_1 9 rfl rfl)
theorem dX9_ifPassed_36 : decode cX9_ifPassed 36 = .ok (.goto 8, 3) := dk_167 0 8 (dk_at dksX9_ifPassed_1 12 rfl rfl)
theorem dX9_ifPassed_39 : decode cX9_ifPassed 39 = .ok (.aload_n 0, 1) := dk_42 (dk_at dksX9_ifPassed_1 15 rfl rfl)
theorem dX9_ifPassed_40 : decode cX9_ifPassed 40 = .ok (.iconst 1, 1) := dk_4 (dk_at dksX9_ifPassed_1 16 rfl rfl)
theorem dX9_ifPassed_41 : decode cX9_ifPassed 41 = .ok (.invokevirtual 47, 3) := dk_182 0 47 (dk_at dksX9_ifPassed_1 17 rfl rfl)
theorem dX9_ifPassed_44 : decode cX9_ifPassed 44 = .ok (.ireturn, 1) := dk_172 (dk_at dksX9_ifPassed_1 20 rfl rfl)
abbrev cX9_byPassing : ByteArray := prog_15_method_74_code
def yX9_byPassing : MethodName := ⟨RX9, "byPassing", "(III)I"⟩
def dkwX9_byPassing_5 : List UInt8 := [42, 180, 0, 7, 16, 7, 46, 100, 172, 42, 180, 0, 13, 184, 0, 209, 172]
abbrev dktX9_byPassing_5 : List UInt8 := dkwX9_byPassing_5 ++ []
def dkwX9_byPassing_4 : List UInt8 := [180, 0, 7, 184, 0, 141, 100, 172, 42, 180, 0, 13, 5, 184, 0, 206, 172, 42, 180, 0, 13, 16, 7, 46]
abbrev dktX9_byPassing_4 : List UInt8 := dkwX9_byPassing_4 ++ dktX9_byPassing_5
def dkwX9_byPassing_3 : List UInt8 := [42, 180, 0, 13, 184, 0, 203, 42, 180, 0, 7, 184, 0, 203, 100, 172, 42, 180, 0, 13, 184, 0, 141, 42]
abbrev dktX9_byPassing_3 : List UInt8 := dkwX9_byPassing_3 ++ dktX9_byPassing_4
def dkwX9_byPassing_2 : List UInt8 := [170, 0, 0, 0, 0, 87, 0, 0, 0, 0, 0, 0, 0, 3, 0, 0, 0, 30, 0, 0, 0, 46, 0, 0, 0, 62, 0, 0, 0, 71]
abbrev dktX9_byPassing_2 : List UInt8 := dkwX9_byPassing_2 ++ dktX9_byPassing_3
def dkwX9_byPassing_1 : List UInt8 := [180, 0, 13, 28, 182, 0, 144, 29]
abbrev dktX9_byPassing_1 : List UInt8 := dkwX9_byPassing_1 ++ dktX9_byPassing_2
def dkwX9_byPassing_0 : List UInt8 := [42, 180, 0, 7, 3, 42, 180, 0, 13, 3, 184, 0, 43, 42, 180, 0, 13, 8, 27, 79, 42, 42]
abbrev dktX9_byPassing_0 : List UInt8 := dkwX9_byPassing_0 ++ dktX9_byPassing_1
theorem dksX9_byPassing_0 : cX9_byPassing.data.toList.drop 0 = dktX9_byPassing_0 := by decide +kernel
theorem dksX9_byPassing_1 : cX9_byPassing.data.toList.drop 22 = dktX9_byPassing_1 := dk_seg dksX9_byPassing_0 22 rfl rfl
theorem dksX9_byPassing_2 : cX9_byPassing.data.toList.drop 30 = dktX9_byPassing_2 := dk_seg dksX9_byPassing_1 8 rfl rfl
theorem dksX9_byPassing_3 : cX9_byPassing.data.toList.drop 60 = dktX9_byPassing_3 := dk_seg dksX9_byPassing_2 30 rfl rfl
theorem dksX9_byPassing_4 : cX9_byPassing.data.toList.drop 84 = dktX9_byPassing_4 := dk_seg dksX9_byPassing_3 24 rfl rfl
theorem dksX9_byPassing_5 : cX9_byPassing.data.toList.drop 108 = dktX9_byPassing_5 := dk_seg dksX9_byPassing_4 24 rfl rfl
theorem dX9_byPassing_0 : decode cX9_byPassing 0 = .ok (.aload_n 0, 1) := dk_42 (dk_at dksX9_byPassing_0 0 rfl rfl)
theorem dX9_byPassing_1 : decode cX9_byPassing 1 = .ok (.getfield 7, 3) := dk_180 0 7 (dk_at dksX9_byPassing_0 1 rfl rfl)
theorem dX9_byPassing_4 : decode cX9_byPassing 4 = .ok (.iconst 0, 1) := dk_3 (dk_at dksX9_byPassing_0 4 rfl rfl)
theorem dX9_byPassing_5 : decode cX9_byPassing 5 = .ok (.aload_n 0, 1) := dk_42 (dk_at dksX9_byPassing_0 5 rfl rfl)
theorem dX9_byPassing_6 : decode cX9_byPassing 6 = .ok (.getfield 13, 3) := dk_180 0 13 (dk_at dksX9_byPassing_0 6 rfl rfl)
theorem dX9_byPassing_9 : decode cX9_byPassing 9 = .ok (.iconst 0, 1) := dk_3 (dk_at dksX9_byPassing_0 9 rfl rfl)
theorem dX9_byPassing_10 : decode cX9_byPassing 10 = .ok (.invokestatic 43, 3) := dk_184 0 43 (dk_at dksX9_byPassing_0 10 rfl rfl)
theorem dX9_byPassing_13 : decode cX9_byPassing 13 = .ok (.aload_n 0, 1) := dk_42 (dk_at dksX9_byPassing_0 13 rfl rfl)
theorem dX9_byPassing_14 : decode cX9_byPassing 14 = .ok (.getfield 13, 3) := dk_180 0 13 (dk_at dksX9_byPassing_0 14 rfl rfl)
theorem dX9_byPassing_17 : decode cX9_byPassing 17 = .ok (.iconst 5, 1) := dk_8 (dk_at dksX9_byPassing_0 17 rfl rfl)
theorem dX9_byPassing_18 : decode cX9_byPassing 18 = .ok (.iload_n 1, 1) := dk_27 (dk_at dksX9_byPassing_0 18 rfl rfl)
theorem dX9_byPassing_19 : decode cX9_byPassing 19 = .ok (.iastore, 1) := dk_79 (dk_at dksX9_byPassing_0 19 rfl rfl)
theorem dX9_byPassing_20 : decode cX9_byPassing 20 = .ok (.aload_n 0, 1) := dk_42 (dk_at dksX9_byPassing_0 20 rfl rfl)
theorem dX9_byPassing_21 : decode cX9_byPassing 21 = .ok (.aload_n 0, 1) := dk_42 (dk_at dksX9_byPassing_0 21 rfl rfl)
theorem dX9_byPassing_22 : decode cX9_byPassing 22 = .ok (.getfield 13, 3) := dk_180 0 13 (dk_at dksX9_byPassing_1 0 rfl rfl)
theorem dX9_byPassing_25 : decode cX9_byPassing 25 = .ok (.iload_n 2, 1) := dk_28 (dk_at dksX9_byPassing_1 3 rfl rfl)
theorem dX9_byPassing_26 : decode cX9_byPassing 26 = .ok (.invokevirtual 144, 3) := dk_182 0 144 (dk_at dksX9_byPassing_1 4 rfl rfl)
theorem dX9_byPassing_29 : decode cX9_byPassing 29 = .ok (.iload_n 3, 1) := dk_29 (dk_at dksX9_byPassing_1 7 rfl rfl)
theorem dX9_byPassing_30 : decode cX9_byPassing 30 = .ok (.tableswitch 87 0 3 #[30, 46, 62, 71], 30) := by decide +kernel
theorem dX9_byPassing_60 : decode cX9_byPassing 60 = .ok (.aload_n 0, 1) := dk_42 (dk_at dksX9_byPassing_3 0 rfl rfl)
theorem dX9_byPassing_61 : decode cX9_byPassing 61 = .ok (.getfield 13, 3) := dk_180 0 13 (dk_at dksX9_byPassing_3 1 rfl rfl)
theorem dX9_byPassing_64 : decode cX9_byPassing 64 = .ok (.invokestatic 203, 3) := dk_184 0 203 (dk_at dksX9_byPassing_3 4 rfl rfl)
theorem dX9_byPassing_67 : decode cX9_byPassing 67 = .ok (.aload_n 0, 1) := dk_42 (dk_at dksX9_byPassing_3 7 rfl rfl)
theorem dX9_byPassing_68 : decode cX9_byPassing 68 = .ok (.getfield 7, 3) := dk_180 0 7 (dk_at dksX9_byPassing_3 8 rfl rfl)
theorem dX9_byPassing_71 : decode cX9_byPassing 71 = .ok (.invokestatic 203, 3) := dk_184 0 203 (dk_at dksX9_byPassing_3 11 rfl rfl)
theorem dX9_byPassing_74 : decode cX9_byPassing 74 = .ok (.isub, 1) := dk_100 (dk_at dksX9_byPassing_3 14 rfl rfl)
theorem dX9_byPassing_75 : decode cX9_byPassing 75 = .ok (.ireturn, 1) := dk_172 (dk_at dksX9_byPassing_3 15 rfl rfl)
theorem dX9_byPassing_76 : decode cX9_byPassing 76 = .ok (.aload_n 0, 1) := dk_42 (dk_at dksX9_byPassing_3 16 rfl rfl)
theorem dX9_byPassing_77 : decode cX9_byPassing 77 = .ok (.getfield 13, 3) := dk_180 0 13 (dk_at dksX9_byPassing_3 17 rfl rfl)
theorem dX9_byPassing_80 : decode cX9_byPassing 80 = .ok (.invokestatic 141, 3) := dk_184 0 141 (dk_at dksX9_byPassing_3 20 rfl rfl)
theorem dX9_byPassing_83 : decode cX9_byPassing 83 = .ok (.aload_n 0, 1) := dk_42 (dk_at dksX9_byPassing_3 23 rfl rfl)
theorem dX9_byPassing_84 : decode cX9_byPassing 84 = .ok (.getfield 7, 3) := dk_180 0 7 (dk_at dksX9_byPassing_4 0 rfl rfl)
theorem dX9_byPassing_87 : decode cX9_byPassing 87 = .ok (.invokestatic 141, 3) := dk_184 0 141 (dk_at dksX9_byPassing_4 3 rfl rfl)
theorem dX9_byPassing_90 : decode cX9_byPassing 90 = .ok (.isub, 1) := dk_100 (dk_at dksX9_byPassing_4 6 rfl rfl)
theorem dX9_byPassing_91 : decode cX9_byPassing 91 = .ok (.ireturn, 1) := dk_172 (dk_at dksX9_byPassing_4 7 rfl rfl)
theorem dX9_byPassing_92 : decode cX9_byPassing 92 = .ok (.aload_n 0, 1) := dk_42 (dk_at dksX9_byPassing_4 8 rfl rfl)
theorem dX9_byPassing_93 : decode cX9_byPassing 93 = .ok (.getfield 13, 3) := dk_180 0 13 (dk_at dksX9_byPassing_4 9 rfl rfl)
theorem dX9_byPassing_96 : decode cX9_byPassing 96 = .ok (.iconst 2, 1) := dk_5 (dk_at dksX9_byPassing_4 12 rfl rfl)
theorem dX9_byPassing_97 : decode cX9_byPassing 97 = .ok (.invokestatic 206, 3) := dk_184 0 206 (dk_at dksX9_byPassing_4 13 rfl rfl)
theorem dX9_byPassing_100 : decode cX9_byPassing 100 = .ok (.ireturn, 1) := dk_172 (dk_at dksX9_byPassing_4 16 rfl rfl)
theorem dX9_byPassing_101 : decode cX9_byPassing 101 = .ok (.aload_n 0, 1) := dk_42 (dk_at dksX9_byPassing_4 17 rfl rfl)
theorem dX9_byPassing_102 : decode cX9_byPassing 102 = .ok (.getfield 13, 3) := dk_180 0 13 (dk_at dksX9_byPassing_4 18 rfl rfl)
theorem dX9_byPassing_105 : decode cX9_byPassing 105 = .ok (.bipush 7, 2) := dk_16 7 (dk_at dksX9_byPassing_4 21 rfl rfl)
theorem dX9_byPassing_107 : decode cX9_byPassing 107 = .ok (.iaload, 1) := dk_46 (dk_at dksX9_byPassing_4 23 rfl rfl)
theorem dX9_byPassing_108 : decode cX9_byPassing 108 = .ok (.aload_n 0, 1) := dk_42 (dk_at dksX9_byPassing_5 0 rfl rfl)
theorem dX9_byPassing_109 : decode cX9_byPassing 109 = .ok (.getfield 7, 3) := dk_180 0 7 (dk_at dksX9_byPassing_5 1 rfl rfl)
theorem dX9_byPassing_112 : decode cX9_byPassing 112 = .ok (.bipush 7, 2) := dk_16 7 (dk_at dksX9_byPassing_5 4 rfl rfl)
theorem dX9_byPassing_114 : decode cX9_byPassing 114 = .ok (.iaload, 1) := dk_46 (dk_at dksX9_byPassing_5 6 rfl rfl)
theorem dX9_byPassing_115 : decode cX9_byPassing 115 = .ok (.isub, 1) := dk_100 (dk_at dksX9_byPassing_5 7 rfl rfl)
theorem dX9_byPassing_116 : decode cX9_byPassing 116 = .ok (.ireturn, 1) := dk_172 (dk_at dksX9_byPassing_5 8 rfl rfl)
theorem dX9_byPassing_117 : decode cX9_byPassing 117 = .ok (.aload_n 0, 1) := dk_42 (dk_at dksX9_byPassing_5 9 rfl rfl)
theorem dX9_byPassing_118 : decode cX9_byPassing 118 = .ok (.getfield 13, 3) := dk_180 0 13 (dk_at dksX9_byPassing_5 10 rfl rfl)
theorem dX9_byPassing_121 : decode cX9_byPassing 121 = .ok (.invokestatic 209, 3) := dk_184 0 209 (dk_at dksX9_byPassing_5 13 rfl rfl)
theorem dX9_byPassing_124 : decode cX9_byPassing 124 = .ok (.ireturn, 1) := dk_172 (dk_at dksX9_byPassing_5 16 rfl rfl)
abbrev cX9_best : ByteArray := prog_15_method_76_code
def yX9_best : MethodName := ⟨RX9, "best", "()I"⟩
def dkwX9_best_0 : List UInt8 := [42, 3, 181, 0, 32, 42, 180, 0, 7, 184, 0, 85, 172]
abbrev dktX9_best_0 : List UInt8 := dkwX9_best_0 ++ []
theorem dksX9_best_0 : cX9_best.data.toList.drop 0 = dktX9_best_0 := by decide +kernel
theorem dX9_best_0 : decode cX9_best 0 = .ok (.aload_n 0, 1) := dk_42 (dk_at dksX9_best_0 0 rfl rfl)
theorem dX9_best_1 : decode cX9_best 1 = .ok (.iconst 0, 1) := dk_3 (dk_at dksX9_best_0 1 rfl rfl)
theorem dX9_best_2 : decode cX9_best 2 = .ok (.putfield 32, 3) := dk_181 0 32 (dk_at dksX9_best_0 2 rfl rfl)
theorem dX9_best_5 : decode cX9_best 5 = .ok (.aload_n 0, 1) := dk_42 (dk_at dksX9_best_0 5 rfl rfl)
theorem dX9_best_6 : decode cX9_best 6 = .ok (.getfield 7, 3) := dk_180 0 7 (dk_at dksX9_best_0 6 rfl rfl)
theorem dX9_best_9 : decode cX9_best 9 = .ok (.invokestatic 85, 3) := dk_184 0 85 (dk_at dksX9_best_0 9 rfl rfl)
theorem dX9_best_12 : decode cX9_best 12 = .ok (.ireturn, 1) := dk_172 (dk_at dksX9_best_0 12 rfl rfl)
abbrev cX9_clearIn : ByteArray := prog_15_method_78_code
def yX9_clearIn : MethodName := ⟨RX9, "clearIn", "()I"⟩
def dkwX9_clearIn_0 : List UInt8 := [42, 3, 181, 0, 32, 42, 182, 0, 223, 172]
abbrev dktX9_clearIn_0 : List UInt8 := dkwX9_clearIn_0 ++ []
theorem dksX9_clearIn_0 : cX9_clearIn.data.toList.drop 0 = dktX9_clearIn_0 := by decide +kernel
theorem dX9_clearIn_0 : decode cX9_clearIn 0 = .ok (.aload_n 0, 1) := dk_42 (dk_at dksX9_clearIn_0 0 rfl rfl)
theorem dX9_clearIn_1 : decode cX9_clearIn 1 = .ok (.iconst 0, 1) := dk_3 (dk_at dksX9_clearIn_0 1 rfl rfl)
theorem dX9_clearIn_2 : decode cX9_clearIn 2 = .ok (.putfield 32, 3) := dk_181 0 32 (dk_at dksX9_clearIn_0 2 rfl rfl)
theorem dX9_clearIn_5 : decode cX9_clearIn 5 = .ok (.aload_n 0, 1) := dk_42 (dk_at dksX9_clearIn_0 5 rfl rfl)
theorem dX9_clearIn_6 : decode cX9_clearIn 6 = .ok (.invokevirtual 223, 3) := dk_182 0 223 (dk_at dksX9_clearIn_0 6 rfl rfl)
theorem dX9_clearIn_9 : decode cX9_clearIn 9 = .ok (.ireturn, 1) := dk_172 (dk_at dksX9_clearIn_0 9 rfl rfl)
abbrev cX9_clears : ByteArray := prog_15_method_77_code
def yX9_clears : MethodName := ⟨RX9, "clears", "()I"⟩
def dkwX9_clears_2 : List UInt8 := [153, 0, 5, 27, 172, 132, 1, 1, 167, 255, 229, 2, 172]
abbrev dktX9_clears_2 : List UInt8 := dkwX9_clears_2 ++ []
def dkwX9_clears_1 : List UInt8 := [184, 0, 43, 4, 60, 27, 17, 0, 200, 163, 0, 26, 42, 42, 180, 0, 13, 182, 0, 114, 42, 180, 0, 104]
abbrev dktX9_clears_1 : List UInt8 := dkwX9_clears_1 ++ dktX9_clears_2
def dkwX9_clears_0 : List UInt8 := [42, 180, 0, 7, 184, 0, 81, 154, 0, 5, 3, 172, 42, 180, 0, 7, 3, 42, 180, 0, 13, 3]
abbrev dktX9_clears_0 : List UInt8 := dkwX9_clears_0 ++ dktX9_clears_1
theorem dksX9_clears_0 : cX9_clears.data.toList.drop 0 = dktX9_clears_0 := by decide +kernel
theorem dksX9_clears_1 : cX9_clears.data.toList.drop 22 = dktX9_clears_1 := dk_seg dksX9_clears_0 22 rfl rfl
theorem dksX9_clears_2 : cX9_clears.data.toList.drop 46 = dktX9_clears_2 := dk_seg dksX9_clears_1 24 rfl rfl
theorem dX9_clears_0 : decode cX9_clears 0 = .ok (.aload_n 0, 1) := dk_42 (dk_at dksX9_clears_0 0 rfl rfl)
theorem dX9_clears_1 : decode cX9_clears 1 = .ok (.getfield 7, 3) := dk_180 0 7 (dk_at dksX9_clears_0 1 rfl rfl)
theorem dX9_clears_4 : decode cX9_clears 4 = .ok (.invokestatic 81, 3) := dk_184 0 81 (dk_at dksX9_clears_0 4 rfl rfl)
theorem dX9_clears_7 : decode cX9_clears 7 = .ok (.ifCond .ne 5, 3) := dk_154 0 5 (dk_at dksX9_clears_0 7 rfl rfl)
theorem dX9_clears_10 : decode cX9_clears 10 = .ok (.iconst 0, 1) := dk_3 (dk_at dksX9_clears_0 10 rfl rfl)
theorem dX9_clears_11 : decode cX9_clears 11 = .ok (.ireturn, 1) := dk_172 (dk_at dksX9_clears_0 11 rfl rfl)
theorem dX9_clears_12 : decode cX9_clears 12 = .ok (.aload_n 0, 1) := dk_42 (dk_at dksX9_clears_0 12 rfl rfl)
theorem dX9_clears_13 : decode cX9_clears 13 = .ok (.getfield 7, 3) := dk_180 0 7 (dk_at dksX9_clears_0 13 rfl rfl)
theorem dX9_clears_16 : decode cX9_clears 16 = .ok (.iconst 0, 1) := dk_3 (dk_at dksX9_clears_0 16 rfl rfl)
theorem dX9_clears_17 : decode cX9_clears 17 = .ok (.aload_n 0, 1) := dk_42 (dk_at dksX9_clears_0 17 rfl rfl)
theorem dX9_clears_18 : decode cX9_clears 18 = .ok (.getfield 13, 3) := dk_180 0 13 (dk_at dksX9_clears_0 18 rfl rfl)
theorem dX9_clears_21 : decode cX9_clears 21 = .ok (.iconst 0, 1) := dk_3 (dk_at dksX9_clears_0 21 rfl rfl)
theorem dX9_clears_22 : decode cX9_clears 22 = .ok (.invokestatic 43, 3) := dk_184 0 43 (dk_at dksX9_clears_1 0 rfl rfl)
theorem dX9_clears_25 : decode cX9_clears 25 = .ok (.iconst 1, 1) := dk_4 (dk_at dksX9_clears_1 3 rfl rfl)
theorem dX9_clears_26 : decode cX9_clears 26 = .ok (.istore_n 1, 1) := dk_60 (dk_at dksX9_clears_1 4 rfl rfl)
theorem dX9_clears_27 : decode cX9_clears 27 = .ok (.iload_n 1, 1) := dk_27 (dk_at dksX9_clears_1 5 rfl rfl)
theorem dX9_clears_28 : decode cX9_clears 28 = .ok (.sipush 200, 3) := dk_17 0 200 (dk_at dksX9_clears_1 6 rfl rfl)
theorem dX9_clears_31 : decode cX9_clears 31 = .ok (.if_icmp .gt 26, 3) := dk_163 0 26 (dk_at dksX9_clears_1 9 rfl rfl)
theorem dX9_clears_34 : decode cX9_clears 34 = .ok (.aload_n 0, 1) := dk_42 (dk_at dksX9_clears_1 12 rfl rfl)
theorem dX9_clears_35 : decode cX9_clears 35 = .ok (.aload_n 0, 1) := dk_42 (dk_at dksX9_clears_1 13 rfl rfl)
theorem dX9_clears_36 : decode cX9_clears 36 = .ok (.getfield 13, 3) := dk_180 0 13 (dk_at dksX9_clears_1 14 rfl rfl)
theorem dX9_clears_39 : decode cX9_clears 39 = .ok (.invokevirtual 114, 3) := dk_182 0 114 (dk_at dksX9_clears_1 17 rfl rfl)
theorem dX9_clears_42 : decode cX9_clears 42 = .ok (.aload_n 0, 1) := dk_42 (dk_at dksX9_clears_1 20 rfl rfl)
theorem dX9_clears_43 : decode cX9_clears 43 = .ok (.getfield 104, 3) := dk_180 0 104 (dk_at dksX9_clears_1 21 rfl rfl)
theorem dX9_clears_46 : decode cX9_clears 46 = .ok (.ifCond .eq 5, 3) := dk_153 0 5 (dk_at dksX9_clears_2 0 rfl rfl)
theorem dX9_clears_49 : decode cX9_clears 49 = .ok (.iload_n 1, 1) := dk_27 (dk_at dksX9_clears_2 3 rfl rfl)
theorem dX9_clears_50 : decode cX9_clears 50 = .ok (.ireturn, 1) := dk_172 (dk_at dksX9_clears_2 4 rfl rfl)
theorem dX9_clears_51 : decode cX9_clears 51 = .ok (.iinc 1 1, 3) := dk_132 1 1 (dk_at dksX9_clears_2 5 rfl rfl)
theorem dX9_clears_54 : decode cX9_clears 54 = .ok (.goto (-27), 3) := dk_167 255 229 (dk_at dksX9_clears_2 8 rfl rfl)
theorem dX9_clears_57 : decode cX9_clears 57 = .ok (.iconst (-1), 1) := dk_2 (dk_at dksX9_clears_2 11 rfl rfl)
theorem dX9_clears_58 : decode cX9_clears 58 = .ok (.ireturn, 1) := dk_172 (dk_at dksX9_clears_2 12 rfl rfl)
abbrev cX9_bestReach : ByteArray := prog_15_method_80_code
def yX9_bestReach : MethodName := ⟨RX9, "bestReach", "(I)I"⟩
def dkwX9_bestReach_1 : List UInt8 := [4, 182, 0, 47, 172]
abbrev dktX9_bestReach_1 : List UInt8 := dkwX9_bestReach_1 ++ []
def dkwX9_bestReach_0 : List UInt8 := [42, 3, 181, 0, 32, 27, 4, 16, 60, 184, 0, 36, 153, 0, 11, 42, 27, 182, 0, 227, 167, 0, 8, 42]
abbrev dktX9_bestReach_0 : List UInt8 := dkwX9_bestReach_0 ++ dktX9_bestReach_1
theorem dksX9_bestReach_0 : cX9_bestReach.data.toList.drop 0 = dktX9_bestReach_0 := by decide +kernel
theorem dksX9_bestReach_1 : cX9_bestReach.data.toList.drop 24 = dktX9_bestReach_1 := dk_seg dksX9_bestReach_0 24 rfl rfl
theorem dX9_bestReach_0 : decode cX9_bestReach 0 = .ok (.aload_n 0, 1) := dk_42 (dk_at dksX9_bestReach_0 0 rfl rfl)
theorem dX9_bestReach_1 : decode cX9_bestReach 1 = .ok (.iconst 0, 1) := dk_3 (dk_at dksX9_bestReach_0 1 rfl rfl)
theorem dX9_bestReach_2 : decode cX9_bestReach 2 = .ok (.putfield 32, 3) := dk_181 0 32 (dk_at dksX9_bestReach_0 2 rfl rfl)
theorem dX9_bestReach_5 : decode cX9_bestReach 5 = .ok (.iload_n 1, 1) := dk_27 (dk_at dksX9_bestReach_0 5 rfl rfl)
theorem dX9_bestReach_6 : decode cX9_bestReach 6 = .ok (.iconst 1, 1) := dk_4 (dk_at dksX9_bestReach_0 6 rfl rfl)
theorem dX9_bestReach_7 : decode cX9_bestReach 7 = .ok (.bipush 60, 2) := dk_16 60 (dk_at dksX9_bestReach_0 7 rfl rfl)
theorem dX9_bestReach_9 : decode cX9_bestReach 9 = .ok (.invokestatic 36, 3) := dk_184 0 36 (dk_at dksX9_bestReach_0 9 rfl rfl)
theorem dX9_bestReach_12 : decode cX9_bestReach 12 = .ok (.ifCond .eq 11, 3) := dk_153 0 11 (dk_at dksX9_bestReach_0 12 rfl rfl)
theorem dX9_bestReach_15 : decode cX9_bestReach 15 = .ok (.aload_n 0, 1) := dk_42 (dk_at dksX9_bestReach_0 15 rfl rfl)
theorem dX9_bestReach_16 : decode cX9_bestReach 16 = .ok (.iload_n 1, 1) := dk_27 (dk_at dksX9_bestReach_0 16 rfl rfl)
theorem dX9_bestReach_17 : decode cX9_bestReach 17 = .ok (.invokevirtual 227, 3) := dk_182 0 227 (dk_at dksX9_bestReach_0 17 rfl rfl)
theorem dX9_bestReach_20 : decode cX9_bestReach 20 = .ok (.goto 8, 3) := dk_167 0 8 (dk_at dksX9_bestReach_0 20 rfl rfl)
theorem dX9_bestReach_23 : decode cX9_bestReach 23 = .ok (.aload_n 0, 1) := dk_42 (dk_at dksX9_bestReach_0 23 rfl rfl)
theorem dX9_bestReach_24 : decode cX9_bestReach 24 = .ok (.iconst 1, 1) := dk_4 (dk_at dksX9_bestReach_1 0 rfl rfl)
theorem dX9_bestReach_25 : decode cX9_bestReach 25 = .ok (.invokevirtual 47, 3) := dk_182 0 47 (dk_at dksX9_bestReach_1 1 rfl rfl)
theorem dX9_bestReach_28 : decode cX9_bestReach 28 = .ok (.ireturn, 1) := dk_172 (dk_at dksX9_bestReach_1 4 rfl rfl)
abbrev cX9_most : ByteArray := prog_15_method_79_code
def yX9_most : MethodName := ⟨RX9, "most", "(I)I"⟩
def dkwX9_most_2 : List UInt8 := [29, 62, 132, 4, 1, 167, 255, 210, 28, 172]
abbrev dktX9_most_2 : List UInt8 := dkwX9_most_2 ++ []
def dkwX9_most_1 : List UInt8 := [21, 5, 29, 164, 0, 8, 21, 4, 167, 0, 4, 28, 61, 21, 5, 29, 164, 0, 8, 21, 5, 167, 0, 4]
abbrev dktX9_most_1 : List UInt8 := dkwX9_most_1 ++ dktX9_most_2
def dkwX9_most_0 : List UInt8 := [3, 61, 2, 62, 3, 54, 4, 21, 4, 16, 6, 162, 0, 45, 42, 21, 4, 27, 3, 182, 0, 219, 54, 5]
abbrev dktX9_most_0 : List UInt8 := dkwX9_most_0 ++ dktX9_most_1
theorem dksX9_most_0 : cX9_most.data.toList.drop 0 = dktX9_most_0 := by decide +kernel
theorem dksX9_most_1 : cX9_most.data.toList.drop 24 = dktX9_most_1 := dk_seg dksX9_most_0 24 rfl rfl
theorem dksX9_most_2 : cX9_most.data.toList.drop 48 = dktX9_most_2 := dk_seg dksX9_most_1 24 rfl rfl
theorem dX9_most_0 : decode cX9_most 0 = .ok (.iconst 0, 1) := dk_3 (dk_at dksX9_most_0 0 rfl rfl)
theorem dX9_most_1 : decode cX9_most 1 = .ok (.istore_n 2, 1) := dk_61 (dk_at dksX9_most_0 1 rfl rfl)
theorem dX9_most_2 : decode cX9_most 2 = .ok (.iconst (-1), 1) := dk_2 (dk_at dksX9_most_0 2 rfl rfl)
theorem dX9_most_3 : decode cX9_most 3 = .ok (.istore_n 3, 1) := dk_62 (dk_at dksX9_most_0 3 rfl rfl)
theorem dX9_most_4 : decode cX9_most 4 = .ok (.iconst 0, 1) := dk_3 (dk_at dksX9_most_0 4 rfl rfl)
theorem dX9_most_5 : decode cX9_most 5 = .ok (.istore 4, 2) := dk_54 4 (dk_at dksX9_most_0 5 rfl rfl)
theorem dX9_most_7 : decode cX9_most 7 = .ok (.iload 4, 2) := dk_21 4 (dk_at dksX9_most_0 7 rfl rfl)
theorem dX9_most_9 : decode cX9_most 9 = .ok (.bipush 6, 2) := dk_16 6 (dk_at dksX9_most_0 9 rfl rfl)
theorem dX9_most_11 : decode cX9_most 11 = .ok (.if_icmp .ge 45, 3) := dk_162 0 45 (dk_at dksX9_most_0 11 rfl rfl)
theorem dX9_most_14 : decode cX9_most 14 = .ok (.aload_n 0, 1) := dk_42 (dk_at dksX9_most_0 14 rfl rfl)
theorem dX9_most_15 : decode cX9_most 15 = .ok (.iload 4, 2) := dk_21 4 (dk_at dksX9_most_0 15 rfl rfl)
theorem dX9_most_17 : decode cX9_most 17 = .ok (.iload_n 1, 1) := dk_27 (dk_at dksX9_most_0 17 rfl rfl)
theorem dX9_most_18 : decode cX9_most 18 = .ok (.iconst 0, 1) := dk_3 (dk_at dksX9_most_0 18 rfl rfl)
theorem dX9_most_19 : decode cX9_most 19 = .ok (.invokevirtual 219, 3) := dk_182 0 219 (dk_at dksX9_most_0 19 rfl rfl)
theorem dX9_most_22 : decode cX9_most 22 = .ok (.istore 5, 2) := dk_54 5 (dk_at dksX9_most_0 22 rfl rfl)
theorem dX9_most_24 : decode cX9_most 24 = .ok (.iload 5, 2) := dk_21 5 (dk_at dksX9_most_1 0 rfl rfl)
theorem dX9_most_26 : decode cX9_most 26 = .ok (.iload_n 3, 1) := dk_29 (dk_at dksX9_most_1 2 rfl rfl)
theorem dX9_most_27 : decode cX9_most 27 = .ok (.if_icmp .le 8, 3) := dk_164 0 8 (dk_at dksX9_most_1 3 rfl rfl)
theorem dX9_most_30 : decode cX9_most 30 = .ok (.iload 4, 2) := dk_21 4 (dk_at dksX9_most_1 6 rfl rfl)
theorem dX9_most_32 : decode cX9_most 32 = .ok (.goto 4, 3) := dk_167 0 4 (dk_at dksX9_most_1 8 rfl rfl)
theorem dX9_most_35 : decode cX9_most 35 = .ok (.iload_n 2, 1) := dk_28 (dk_at dksX9_most_1 11 rfl rfl)
theorem dX9_most_36 : decode cX9_most 36 = .ok (.istore_n 2, 1) := dk_61 (dk_at dksX9_most_1 12 rfl rfl)
theorem dX9_most_37 : decode cX9_most 37 = .ok (.iload 5, 2) := dk_21 5 (dk_at dksX9_most_1 13 rfl rfl)
theorem dX9_most_39 : decode cX9_most 39 = .ok (.iload_n 3, 1) := dk_29 (dk_at dksX9_most_1 15 rfl rfl)
theorem dX9_most_40 : decode cX9_most 40 = .ok (.if_icmp .le 8, 3) := dk_164 0 8 (dk_at dksX9_most_1 16 rfl rfl)
theorem dX9_most_43 : decode cX9_most 43 = .ok (.iload 5, 2) := dk_21 5 (dk_at dksX9_most_1 19 rfl rfl)
theorem dX9_most_45 : decode cX9_most 45 = .ok (.goto 4, 3) := dk_167 0 4 (dk_at dksX9_most_1 21 rfl rfl)
theorem dX9_most_48 : decode cX9_most 48 = .ok (.iload_n 3, 1) := dk_29 (dk_at dksX9_most_2 0 rfl rfl)
theorem dX9_most_49 : decode cX9_most 49 = .ok (.istore_n 3, 1) := dk_62 (dk_at dksX9_most_2 1 rfl rfl)
theorem dX9_most_50 : decode cX9_most 50 = .ok (.iinc 4 1, 3) := dk_132 4 1 (dk_at dksX9_most_2 2 rfl rfl)
theorem dX9_most_53 : decode cX9_most 53 = .ok (.goto (-46), 3) := dk_167 255 210 (dk_at dksX9_most_2 5 rfl rfl)
theorem dX9_most_56 : decode cX9_most 56 = .ok (.iload_n 2, 1) := dk_28 (dk_at dksX9_most_2 8 rfl rfl)
theorem dX9_most_57 : decode cX9_most 57 = .ok (.ireturn, 1) := dk_172 (dk_at dksX9_most_2 9 rfl rfl)
abbrev cX9_laidShare : ByteArray := prog_15_method_82_code
def yX9_laidShare : MethodName := ⟨RX9, "laidShare", "()D"⟩
def dkwX9_laidShare_0 : List UInt8 := [42, 3, 181, 0, 32, 42, 182, 0, 230, 175]
abbrev dktX9_laidShare_0 : List UInt8 := dkwX9_laidShare_0 ++ []
theorem dksX9_laidShare_0 : cX9_laidShare.data.toList.drop 0 = dktX9_laidShare_0 := by decide +kernel
theorem dX9_laidShare_0 : decode cX9_laidShare 0 = .ok (.aload_n 0, 1) := dk_42 (dk_at dksX9_laidShare_0 0 rfl rfl)
theorem dX9_laidShare_1 : decode cX9_laidShare 1 = .ok (.iconst 0, 1) := dk_3 (dk_at dksX9_laidShare_0 1 rfl rfl)
theorem dX9_laidShare_2 : decode cX9_laidShare 2 = .ok (.putfield 32, 3) := dk_181 0 32 (dk_at dksX9_laidShare_0 2 rfl rfl)
theorem dX9_laidShare_5 : decode cX9_laidShare 5 = .ok (.aload_n 0, 1) := dk_42 (dk_at dksX9_laidShare_0 5 rfl rfl)
theorem dX9_laidShare_6 : decode cX9_laidShare 6 = .ok (.invokevirtual 230, 3) := dk_182 0 230 (dk_at dksX9_laidShare_0 6 rfl rfl)
theorem dX9_laidShare_9 : decode cX9_laidShare 9 = .ok (.dreturn, 1) := dk_175 (dk_at dksX9_laidShare_0 9 rfl rfl)
abbrev cX9_share : ByteArray := prog_15_method_81_code
def yX9_share : MethodName := ⟨RX9, "share", "()D"⟩
def dkwX9_share_1 : List UInt8 := [27, 135, 111, 175]
abbrev dktX9_share_1 : List UInt8 := dkwX9_share_1 ++ []
def dkwX9_share_0 : List UInt8 := [42, 180, 0, 7, 184, 0, 203, 60, 27, 154, 0, 7, 15, 167, 0, 14, 42, 180, 0, 7, 184, 0, 141, 135]
abbrev dktX9_share_0 : List UInt8 := dkwX9_share_0 ++ dktX9_share_1
theorem dksX9_share_0 : cX9_share.data.toList.drop 0 = dktX9_share_0 := by decide +kernel
theorem dksX9_share_1 : cX9_share.data.toList.drop 24 = dktX9_share_1 := dk_seg dksX9_share_0 24 rfl rfl
theorem dX9_share_0 : decode cX9_share 0 = .ok (.aload_n 0, 1) := dk_42 (dk_at dksX9_share_0 0 rfl rfl)
theorem dX9_share_1 : decode cX9_share 1 = .ok (.getfield 7, 3) := dk_180 0 7 (dk_at dksX9_share_0 1 rfl rfl)
theorem dX9_share_4 : decode cX9_share 4 = .ok (.invokestatic 203, 3) := dk_184 0 203 (dk_at dksX9_share_0 4 rfl rfl)
theorem dX9_share_7 : decode cX9_share 7 = .ok (.istore_n 1, 1) := dk_60 (dk_at dksX9_share_0 7 rfl rfl)
theorem dX9_share_8 : decode cX9_share 8 = .ok (.iload_n 1, 1) := dk_27 (dk_at dksX9_share_0 8 rfl rfl)
theorem dX9_share_9 : decode cX9_share 9 = .ok (.ifCond .ne 7, 3) := dk_154 0 7 (dk_at dksX9_share_0 9 rfl rfl)
theorem dX9_share_12 : decode cX9_share 12 = .ok (.dconst 1, 1) := dk_15 (dk_at dksX9_share_0 12 rfl rfl)
theorem dX9_share_13 : decode cX9_share 13 = .ok (.goto 14, 3) := dk_167 0 14 (dk_at dksX9_share_0 13 rfl rfl)
theorem dX9_share_16 : decode cX9_share 16 = .ok (.aload_n 0, 1) := dk_42 (dk_at dksX9_share_0 16 rfl rfl)
theorem dX9_share_17 : decode cX9_share 17 = .ok (.getfield 7, 3) := dk_180 0 7 (dk_at dksX9_share_0 17 rfl rfl)
theorem dX9_share_20 : decode cX9_share 20 = .ok (.invokestatic 141, 3) := dk_184 0 141 (dk_at dksX9_share_0 20 rfl rfl)
theorem dX9_share_23 : decode cX9_share 23 = .ok (.i2d, 1) := dk_135 (dk_at dksX9_share_0 23 rfl rfl)
theorem dX9_share_24 : decode cX9_share 24 = .ok (.iload_n 1, 1) := dk_27 (dk_at dksX9_share_1 0 rfl rfl)
theorem dX9_share_25 : decode cX9_share 25 = .ok (.i2d, 1) := dk_135 (dk_at dksX9_share_1 1 rfl rfl)
theorem dX9_share_26 : decode cX9_share 26 = .ok (.ddiv, 1) := dk_111 (dk_at dksX9_share_1 2 rfl rfl)
theorem dX9_share_27 : decode cX9_share 27 = .ok (.dreturn, 1) := dk_175 (dk_at dksX9_share_1 3 rfl rfl)
abbrev cX9_digest : ByteArray := prog_15_method_83_code
def yX9_digest : MethodName := ⟨RX9, "digest", "()J"⟩
def dkwX9_digest_14 : List UInt8 := [167, 255, 231, 31, 173]
abbrev dktX9_digest_14 : List UInt8 := dkwX9_digest_14 ++ []
def dkwX9_digest_13 : List UInt8 := [42, 180, 0, 151, 162, 0, 23, 20, 0, 236, 31, 105, 42, 180, 0, 26, 29, 46, 133, 97, 64, 132, 3, 1]
abbrev dktX9_digest_13 : List UInt8 := dkwX9_digest_13 ++ dktX9_digest_14
def dkwX9_digest_12 : List UInt8 := [133, 97, 64, 132, 3, 1, 167, 255, 226, 20, 0, 236, 31, 105, 42, 180, 0, 151, 133, 97, 64, 3, 62, 29]
abbrev dktX9_digest_12 : List UInt8 := dkwX9_digest_12 ++ dktX9_digest_13
def dkwX9_digest_11 : List UInt8 := [29, 5, 162, 0, 31, 20, 0, 236, 31, 105, 42, 180, 0, 22, 29, 51, 153, 0, 7, 4, 167, 0, 4, 3]
abbrev dktX9_digest_11 : List UInt8 := dkwX9_digest_11 ++ dktX9_digest_12
def dkwX9_digest_10 : List UInt8 := [16, 15, 182, 0, 227, 133, 97, 64, 20, 0, 236, 31, 105, 42, 182, 0, 230, 184, 0, 238, 97, 64, 3, 62]
abbrev dktX9_digest_10 : List UInt8 := dkwX9_digest_10 ++ dktX9_digest_11
def dkwX9_digest_9 : List UInt8 := [20, 0, 236, 31, 105, 42, 180, 0, 7, 184, 0, 85, 133, 97, 105, 42, 182, 0, 223, 133, 97, 105, 42]
abbrev dktX9_digest_9 : List UInt8 := dkwX9_digest_9 ++ dktX9_digest_10
def dkwX9_digest_8 : List UInt8 := [46, 16, 20, 29, 182, 0, 219, 133, 97, 64, 132, 3, 1, 167, 255, 227, 20, 0, 236, 20, 0, 236]
abbrev dktX9_digest_8 : List UInt8 := dkwX9_digest_8 ++ dktX9_digest_9
def dkwX9_digest_7 : List UInt8 := [132, 3, 1, 167, 255, 227, 3, 62, 29, 8, 162, 0, 30, 20, 0, 236, 31, 105, 42, 42, 180, 0, 7, 8]
abbrev dktX9_digest_7 : List UInt8 := dkwX9_digest_7 ++ dktX9_digest_8
def dkwX9_digest_6 : List UInt8 := [162, 0, 29, 20, 0, 236, 31, 105, 42, 29, 16, 9, 108, 29, 16, 9, 112, 182, 0, 200, 133, 97, 64]
abbrev dktX9_digest_6 : List UInt8 := dkwX9_digest_6 ++ dktX9_digest_7
def dkwX9_digest_5 : List UInt8 := [108, 29, 16, 8, 112, 182, 0, 197, 133, 97, 64, 132, 3, 1, 167, 255, 219, 3, 62, 29, 16, 45]
abbrev dktX9_digest_5 : List UInt8 := dkwX9_digest_5 ++ dktX9_digest_6
def dkwX9_digest_4 : List UInt8 := [62, 29, 16, 8, 42, 180, 0, 7, 16, 6, 46, 104, 162, 0, 29, 20, 0, 236, 31, 105, 42, 29, 16, 8]
abbrev dktX9_digest_4 : List UInt8 := dkwX9_digest_4 ++ dktX9_digest_5
def dkwX9_digest_3 : List UInt8 := [20, 0, 236, 31, 105, 42, 180, 0, 7, 16, 8, 29, 96, 46, 133, 97, 64, 132, 3, 1, 167, 255, 230, 3]
abbrev dktX9_digest_3 : List UInt8 := dkwX9_digest_3 ++ dktX9_digest_4
def dkwX9_digest_2 : List UInt8 := [42, 180, 0, 7, 29, 46, 133, 97, 64, 132, 3, 1, 167, 255, 234, 3, 62, 29, 16, 18, 162, 0, 26]
abbrev dktX9_digest_2 : List UInt8 := dkwX9_digest_2 ++ dktX9_digest_3
def dkwX9_digest_1 : List UInt8 := [182, 0, 216, 133, 97, 64, 132, 3, 1, 167, 255, 234, 3, 62, 29, 7, 162, 0, 23, 20, 0, 236, 31, 105]
abbrev dktX9_digest_1 : List UInt8 := dkwX9_digest_1 ++ dktX9_digest_2
def dkwX9_digest_0 : List UInt8 := [42, 3, 181, 0, 32, 20, 0, 234, 64, 3, 62, 29, 16, 12, 162, 0, 22, 20, 0, 236, 31, 105, 42, 29]
abbrev dktX9_digest_0 : List UInt8 := dkwX9_digest_0 ++ dktX9_digest_1
theorem dksX9_digest_0 : cX9_digest.data.toList.drop 0 = dktX9_digest_0 := by decide +kernel
theorem dksX9_digest_1 : cX9_digest.data.toList.drop 24 = dktX9_digest_1 := dk_seg dksX9_digest_0 24 rfl rfl
theorem dksX9_digest_2 : cX9_digest.data.toList.drop 48 = dktX9_digest_2 := dk_seg dksX9_digest_1 24 rfl rfl
theorem dksX9_digest_3 : cX9_digest.data.toList.drop 71 = dktX9_digest_3 := dk_seg dksX9_digest_2 23 rfl rfl
theorem dksX9_digest_4 : cX9_digest.data.toList.drop 95 = dktX9_digest_4 := dk_seg dksX9_digest_3 24 rfl rfl
theorem dksX9_digest_5 : cX9_digest.data.toList.drop 119 = dktX9_digest_5 := dk_seg dksX9_digest_4 24 rfl rfl
theorem dksX9_digest_6 : cX9_digest.data.toList.drop 141 = dktX9_digest_6 := dk_seg dksX9_digest_5 22 rfl rfl
theorem dksX9_digest_7 : cX9_digest.data.toList.drop 164 = dktX9_digest_7 := dk_seg dksX9_digest_6 23 rfl rfl
theorem dksX9_digest_8 : cX9_digest.data.toList.drop 188 = dktX9_digest_8 := dk_seg dksX9_digest_7 24 rfl rfl
theorem dksX9_digest_9 : cX9_digest.data.toList.drop 210 = dktX9_digest_9 := dk_seg dksX9_digest_8 22 rfl rfl
theorem dksX9_digest_10 : cX9_digest.data.toList.drop 233 = dktX9_digest_10 := dk_seg dksX9_digest_9 23 rfl rfl
theorem dksX9_digest_11 : cX9_digest.data.toList.drop 257 = dktX9_digest_11 := dk_seg dksX9_digest_10 24 rfl rfl
theorem dksX9_digest_12 : cX9_digest.data.toList.drop 281 = dktX9_digest_12 := dk_seg dksX9_digest_11 24 rfl rfl
theorem dksX9_digest_13 : cX9_digest.data.toList.drop 305 = dktX9_digest_13 := dk_seg dksX9_digest_12 24 rfl rfl
theorem dksX9_digest_14 : cX9_digest.data.toList.drop 329 = dktX9_digest_14 := dk_seg dksX9_digest_13 24 rfl rfl
theorem dX9_digest_0 : decode cX9_digest 0 = .ok (.aload_n 0, 1) := dk_42 (dk_at dksX9_digest_0 0 rfl rfl)
theorem dX9_digest_1 : decode cX9_digest 1 = .ok (.iconst 0, 1) := dk_3 (dk_at dksX9_digest_0 1 rfl rfl)
theorem dX9_digest_2 : decode cX9_digest 2 = .ok (.putfield 32, 3) := dk_181 0 32 (dk_at dksX9_digest_0 2 rfl rfl)
theorem dX9_digest_5 : decode cX9_digest 5 = .ok (.ldc2_w 234, 3) := dk_20 0 234 (dk_at dksX9_digest_0 5 rfl rfl)
theorem dX9_digest_8 : decode cX9_digest 8 = .ok (.lstore_n 1, 1) := dk_64 (dk_at dksX9_digest_0 8 rfl rfl)
theorem dX9_digest_9 : decode cX9_digest 9 = .ok (.iconst 0, 1) := dk_3 (dk_at dksX9_digest_0 9 rfl rfl)
theorem dX9_digest_10 : decode cX9_digest 10 = .ok (.istore_n 3, 1) := dk_62 (dk_at dksX9_digest_0 10 rfl rfl)
theorem dX9_digest_11 : decode cX9_digest 11 = .ok (.iload_n 3, 1) := dk_29 (dk_at dksX9_digest_0 11 rfl rfl)
theorem dX9_digest_12 : decode cX9_digest 12 = .ok (.bipush 12, 2) := dk_16 12 (dk_at dksX9_digest_0 12 rfl rfl)
theorem dX9_digest_14 : decode cX9_digest 14 = .ok (.if_icmp .ge 22, 3) := dk_162 0 22 (dk_at dksX9_digest_0 14 rfl rfl)
theorem dX9_digest_17 : decode cX9_digest 17 = .ok (.ldc2_w 236, 3) := dk_20 0 236 (dk_at dksX9_digest_0 17 rfl rfl)
theorem dX9_digest_20 : decode cX9_digest 20 = .ok (.lload_n 1, 1) := dk_31 (dk_at dksX9_digest_0 20 rfl rfl)
theorem dX9_digest_21 : decode cX9_digest 21 = .ok (.lmul, 1) := dk_105 (dk_at dksX9_digest_0 21 rfl rfl)
theorem dX9_digest_22 : decode cX9_digest 22 = .ok (.aload_n 0, 1) := dk_42 (dk_at dksX9_digest_0 22 rfl rfl)
theorem dX9_digest_23 : decode cX9_digest 23 = .ok (.iload_n 3, 1) := dk_29 (dk_at dksX9_digest_0 23 rfl rfl)
theorem dX9_digest_24 : decode cX9_digest 24 = .ok (.invokevirtual 216, 3) := dk_182 0 216 (dk_at dksX9_digest_1 0 rfl rfl)
theorem dX9_digest_27 : decode cX9_digest 27 = .ok (.i2l, 1) := dk_133 (dk_at dksX9_digest_1 3 rfl rfl)
theorem dX9_digest_28 : decode cX9_digest 28 = .ok (.ladd, 1) := dk_97 (dk_at dksX9_digest_1 4 rfl rfl)
theorem dX9_digest_29 : decode cX9_digest 29 = .ok (.lstore_n 1, 1) := dk_64 (dk_at dksX9_digest_1 5 rfl rfl)
theorem dX9_digest_30 : decode cX9_digest 30 = .ok (.iinc 3 1, 3) := dk_132 3 1 (dk_at dksX9_digest_1 6 rfl rfl)
theorem dX9_digest_33 : decode cX9_digest 33 = .ok (.goto (-22), 3) := dk_167 255 234 (dk_at dksX9_digest_1 9 rfl rfl)
theorem dX9_digest_36 : decode cX9_digest 36 = .ok (.iconst 0, 1) := dk_3 (dk_at dksX9_digest_1 12 rfl rfl)
theorem dX9_digest_37 : decode cX9_digest 37 = .ok (.istore_n 3, 1) := dk_62 (dk_at dksX9_digest_1 13 rfl rfl)
theorem dX9_digest_38 : decode cX9_digest 38 = .ok (.iload_n 3, 1) := dk_29 (dk_at dksX9_digest_1 14 rfl rfl)
theorem dX9_digest_39 : decode cX9_digest 39 = .ok (.iconst 4, 1) := dk_7 (dk_at dksX9_digest_1 15 rfl rfl)
theorem dX9_digest_40 : decode cX9_digest 40 = .ok (.if_icmp .ge 23, 3) := dk_162 0 23 (dk_at dksX9_digest_1 16 rfl rfl)
theorem dX9_digest_43 : decode cX9_digest 43 = .ok (.ldc2_w 236, 3) := dk_20 0 236 (dk_at dksX9_digest_1 19 rfl rfl)
theorem dX9_digest_46 : decode cX9_digest 46 = .ok (.lload_n 1, 1) := dk_31 (dk_at dksX9_digest_1 22 rfl rfl)
theorem dX9_digest_47 : decode cX9_digest 47 = .ok (.lmul, 1) := dk_105 (dk_at dksX9_digest_1 23 rfl rfl)
theorem dX9_digest_48 : decode cX9_digest 48 = .ok (.aload_n 0, 1) := dk_42 (dk_at dksX9_digest_2 0 rfl rfl)
theorem dX9_digest_49 : decode cX9_digest 49 = .ok (.getfield 7, 3) := dk_180 0 7 (dk_at dksX9_digest_2 1 rfl rfl)
theorem dX9_digest_52 : decode cX9_digest 52 = .ok (.iload_n 3, 1) := dk_29 (dk_at dksX9_digest_2 4 rfl rfl)
theorem dX9_digest_53 : decode cX9_digest 53 = .ok (.iaload, 1) := dk_46 (dk_at dksX9_digest_2 5 rfl rfl)
theorem dX9_digest_54 : decode cX9_digest 54 = .ok (.i2l, 1) := dk_133 (dk_at dksX9_digest_2 6 rfl rfl)
theorem dX9_digest_55 : decode cX9_digest 55 = .ok (.ladd, 1) := dk_97 (dk_at dksX9_digest_2 7 rfl rfl)
theorem dX9_digest_56 : decode cX9_digest 56 = .ok (.lstore_n 1, 1) := dk_64 (dk_at dksX9_digest_2 8 rfl rfl)
theorem dX9_digest_57 : decode cX9_digest 57 = .ok (.iinc 3 1, 3) := dk_132 3 1 (dk_at dksX9_digest_2 9 rfl rfl)
theorem dX9_digest_60 : decode cX9_digest 60 = .ok (.goto (-22), 3) := dk_167 255 234 (dk_at dksX9_digest_2 12 rfl rfl)
theorem dX9_digest_63 : decode cX9_digest 63 = .ok (.iconst 0, 1) := dk_3 (dk_at dksX9_digest_2 15 rfl rfl)
theorem dX9_digest_64 : decode cX9_digest 64 = .ok (.istore_n 3, 1) := dk_62 (dk_at dksX9_digest_2 16 rfl rfl)
theorem dX9_digest_65 : decode cX9_digest 65 = .ok (.iload_n 3, 1) := dk_29 (dk_at dksX9_digest_2 17 rfl rfl)
theorem dX9_digest_66 : decode cX9_digest 66 = .ok (.bipush 18, 2) := dk_16 18 (dk_at dksX9_digest_2 18 rfl rfl)
theorem dX9_digest_68 : decode cX9_digest 68 = .ok (.if_icmp .ge 26, 3) := dk_162 0 26 (dk_at dksX9_digest_2 20 rfl rfl)
theorem dX9_digest_71 : decode cX9_digest 71 = .ok (.ldc2_w 236, 3) := dk_20 0 236 (dk_at dksX9_digest_3 0 rfl rfl)
theorem dX9_digest_74 : decode cX9_digest 74 = .ok (.lload_n 1, 1) := dk_31 (dk_at dksX9_digest_3 3 rfl rfl)
theorem dX9_digest_75 : decode cX9_digest 75 = .ok (.lmul, 1) := dk_105 (dk_at dksX9_digest_3 4 rfl rfl)
theorem dX9_digest_76 : decode cX9_digest 76 = .ok (.aload_n 0, 1) := dk_42 (dk_at dksX9_digest_3 5 rfl rfl)
theorem dX9_digest_77 : decode cX9_digest 77 = .ok (.getfield 7, 3) := dk_180 0 7 (dk_at dksX9_digest_3 6 rfl rfl)
theorem dX9_digest_80 : decode cX9_digest 80 = .ok (.bipush 8, 2) := dk_16 8 (dk_at dksX9_digest_3 9 rfl rfl)
theorem dX9_digest_82 : decode cX9_digest 82 = .ok (.iload_n 3, 1) := dk_29 (dk_at dksX9_digest_3 11 rfl rfl)
theorem dX9_digest_83 : decode cX9_digest 83 = .ok (.iadd, 1) := dk_96 (dk_at dksX9_digest_3 12 rfl rfl)
theorem dX9_digest_84 : decode cX9_digest 84 = .ok (.iaload, 1) := dk_46 (dk_at dksX9_digest_3 13 rfl rfl)
theorem dX9_digest_85 : decode cX9_digest 85 = .ok (.i2l, 1) := dk_133 (dk_at dksX9_digest_3 14 rfl rfl)
theorem dX9_digest_86 : decode cX9_digest 86 = .ok (.ladd, 1) := dk_97 (dk_at dksX9_digest_3 15 rfl rfl)
theorem dX9_digest_87 : decode cX9_digest 87 = .ok (.lstore_n 1, 1) := dk_64 (dk_at dksX9_digest_3 16 rfl rfl)
theorem dX9_digest_88 : decode cX9_digest 88 = .ok (.iinc 3 1, 3) := dk_132 3 1 (dk_at dksX9_digest_3 17 rfl rfl)
theorem dX9_digest_91 : decode cX9_digest 91 = .ok (.goto (-26), 3) := dk_167 255 230 (dk_at dksX9_digest_3 20 rfl rfl)
theorem dX9_digest_94 : decode cX9_digest 94 = .ok (.iconst 0, 1) := dk_3 (dk_at dksX9_digest_3 23 rfl rfl)
theorem dX9_digest_95 : decode cX9_digest 95 = .ok (.istore_n 3, 1) := dk_62 (dk_at dksX9_digest_4 0 rfl rfl)
theorem dX9_digest_96 : decode cX9_digest 96 = .ok (.iload_n 3, 1) := dk_29 (dk_at dksX9_digest_4 1 rfl rfl)
theorem dX9_digest_97 : decode cX9_digest 97 = .ok (.bipush 8, 2) := dk_16 8 (dk_at dksX9_digest_4 2 rfl rfl)
theorem dX9_digest_99 : decode cX9_digest 99 = .ok (.aload_n 0, 1) := dk_42 (dk_at dksX9_digest_4 4 rfl rfl)
theorem dX9_digest_100 : decode cX9_digest 100 = .ok (.getfield 7, 3) := dk_180 0 7 (dk_at dksX9_digest_4 5 rfl rfl)
theorem dX9_digest_103 : decode cX9_digest 103 = .ok (.bipush 6, 2) := dk_16 6 (dk_at dksX9_digest_4 8 rfl rfl)
theorem dX9_digest_105 : decode cX9_digest 105 = .ok (.iaload, 1) := dk_46 (dk_at dksX9_digest_4 10 rfl rfl)
theorem dX9_digest_106 : decode cX9_digest 106 = .ok (.imul, 1) := dk_104 (dk_at dksX9_digest_4 11 rfl rfl)
theorem dX9_digest_107 : decode cX9_digest 107 = .ok (.if_icmp .ge 29, 3) := dk_162 0 29 (dk_at dksX9_digest_4 12 rfl rfl)
theorem dX9_digest_110 : decode cX9_digest 110 = .ok (.ldc2_w 236, 3) := dk_20 0 236 (dk_at dksX9_digest_4 15 rfl rfl)
theorem dX9_digest_113 : decode cX9_digest 113 = .ok (.lload_n 1, 1) := dk_31 (dk_at dksX9_digest_4 18 rfl rfl)
theorem dX9_digest_114 : decode cX9_digest 114 = .ok (.lmul, 1) := dk_105 (dk_at dksX9_digest_4 19 rfl rfl)
theorem dX9_digest_115 : decode cX9_digest 115 = .ok (.aload_n 0, 1) := dk_42 (dk_at dksX9_digest_4 20 rfl rfl)
theorem dX9_digest_116 : decode cX9_digest 116 = .ok (.iload_n 3, 1) := dk_29 (dk_at dksX9_digest_4 21 rfl rfl)
theorem dX9_digest_117 : decode cX9_digest 117 = .ok (.bipush 8, 2) := dk_16 8 (dk_at dksX9_digest_4 22 rfl rfl)
theorem dX9_digest_119 : decode cX9_digest 119 = .ok (.idiv, 1) := dk_108 (dk_at dksX9_digest_5 0 rfl rfl)
theorem dX9_digest_120 : decode cX9_digest 120 = .ok (.iload_n 3, 1) := dk_29 (dk_at dksX9_digest_5 1 rfl rfl)
theorem dX9_digest_121 : decode cX9_digest 121 = .ok (.bipush 8, 2) := dk_16 8 (dk_at dksX9_digest_5 2 rfl rfl)
theorem dX9_digest_123 : decode cX9_digest 123 = .ok (.irem, 1) := dk_112 (dk_at dksX9_digest_5 4 rfl rfl)
theorem dX9_digest_124 : decode cX9_digest 124 = .ok (.invokevirtual 197, 3) := dk_182 0 197 (dk_at dksX9_digest_5 5 rfl rfl)
theorem dX9_digest_127 : decode cX9_digest 127 = .ok (.i2l, 1) := dk_133 (dk_at dksX9_digest_5 8 rfl rfl)
theorem dX9_digest_128 : decode cX9_digest 128 = .ok (.ladd, 1) := dk_97 (dk_at dksX9_digest_5 9 rfl rfl)
theorem dX9_digest_129 : decode cX9_digest 129 = .ok (.lstore_n 1, 1) := dk_64 (dk_at dksX9_digest_5 10 rfl rfl)
theorem dX9_digest_130 : decode cX9_digest 130 = .ok (.iinc 3 1, 3) := dk_132 3 1 (dk_at dksX9_digest_5 11 rfl rfl)
theorem dX9_digest_133 : decode cX9_digest 133 = .ok (.goto (-37), 3) := dk_167 255 219 (dk_at dksX9_digest_5 14 rfl rfl)
theorem dX9_digest_136 : decode cX9_digest 136 = .ok (.iconst 0, 1) := dk_3 (dk_at dksX9_digest_5 17 rfl rfl)
theorem dX9_digest_137 : decode cX9_digest 137 = .ok (.istore_n 3, 1) := dk_62 (dk_at dksX9_digest_5 18 rfl rfl)
theorem dX9_digest_138 : decode cX9_digest 138 = .ok (.iload_n 3, 1) := dk_29 (dk_at dksX9_digest_5 19 rfl rfl)
theorem dX9_digest_139 : decode cX9_digest 139 = .ok (.bipush 45, 2) := dk_16 45 (dk_at dksX9_digest_5 20 rfl rfl)
theorem dX9_digest_141 : decode cX9_digest 141 = .ok (.if_icmp .ge 29, 3) := dk_162 0 29 (dk_at dksX9_digest_6 0 rfl rfl)
theorem dX9_digest_144 : decode cX9_digest 144 = .ok (.ldc2_w 236, 3) := dk_20 0 236 (dk_at dksX9_digest_6 3 rfl rfl)
theorem dX9_digest_147 : decode cX9_digest 147 = .ok (.lload_n 1, 1) := dk_31 (dk_at dksX9_digest_6 6 rfl rfl)
theorem dX9_digest_148 : decode cX9_digest 148 = .ok (.lmul, 1) := dk_105 (dk_at dksX9_digest_6 7 rfl rfl)
theorem dX9_digest_149 : decode cX9_digest 149 = .ok (.aload_n 0, 1) := dk_42 (dk_at dksX9_digest_6 8 rfl rfl)
theorem dX9_digest_150 : decode cX9_digest 150 = .ok (.iload_n 3, 1) := dk_29 (dk_at dksX9_digest_6 9 rfl rfl)
theorem dX9_digest_151 : decode cX9_digest 151 = .ok (.bipush 9, 2) := dk_16 9 (dk_at dksX9_digest_6 10 rfl rfl)
theorem dX9_digest_153 : decode cX9_digest 153 = .ok (.idiv, 1) := dk_108 (dk_at dksX9_digest_6 12 rfl rfl)
theorem dX9_digest_154 : decode cX9_digest 154 = .ok (.iload_n 3, 1) := dk_29 (dk_at dksX9_digest_6 13 rfl rfl)
theorem dX9_digest_155 : decode cX9_digest 155 = .ok (.bipush 9, 2) := dk_16 9 (dk_at dksX9_digest_6 14 rfl rfl)
theorem dX9_digest_157 : decode cX9_digest 157 = .ok (.irem, 1) := dk_112 (dk_at dksX9_digest_6 16 rfl rfl)
theorem dX9_digest_158 : decode cX9_digest 158 = .ok (.invokevirtual 200, 3) := dk_182 0 200 (dk_at dksX9_digest_6 17 rfl rfl)
theorem dX9_digest_161 : decode cX9_digest 161 = .ok (.i2l, 1) := dk_133 (dk_at dksX9_digest_6 20 rfl rfl)
theorem dX9_digest_162 : decode cX9_digest 162 = .ok (.ladd, 1) := dk_97 (dk_at dksX9_digest_6 21 rfl rfl)
theorem dX9_digest_163 : decode cX9_digest 163 = .ok (.lstore_n 1, 1) := dk_64 (dk_at dksX9_digest_6 22 rfl rfl)
theorem dX9_digest_164 : decode cX9_digest 164 = .ok (.iinc 3 1, 3) := dk_132 3 1 (dk_at dksX9_digest_7 0 rfl rfl)
theorem dX9_digest_167 : decode cX9_digest 167 = .ok (.goto (-29), 3) := dk_167 255 227 (dk_at dksX9_digest_7 3 rfl rfl)
theorem dX9_digest_170 : decode cX9_digest 170 = .ok (.iconst 0, 1) := dk_3 (dk_at dksX9_digest_7 6 rfl rfl)
theorem dX9_digest_171 : decode cX9_digest 171 = .ok (.istore_n 3, 1) := dk_62 (dk_at dksX9_digest_7 7 rfl rfl)
theorem dX9_digest_172 : decode cX9_digest 172 = .ok (.iload_n 3, 1) := dk_29 (dk_at dksX9_digest_7 8 rfl rfl)
theorem dX9_digest_173 : decode cX9_digest 173 = .ok (.iconst 5, 1) := dk_8 (dk_at dksX9_digest_7 9 rfl rfl)
theorem dX9_digest_174 : decode cX9_digest 174 = .ok (.if_icmp .ge 30, 3) := dk_162 0 30 (dk_at dksX9_digest_7 10 rfl rfl)
theorem dX9_digest_177 : decode cX9_digest 177 = .ok (.ldc2_w 236, 3) := dk_20 0 236 (dk_at dksX9_digest_7 13 rfl rfl)
theorem dX9_digest_180 : decode cX9_digest 180 = .ok (.lload_n 1, 1) := dk_31 (dk_at dksX9_digest_7 16 rfl rfl)
theorem dX9_digest_181 : decode cX9_digest 181 = .ok (.lmul, 1) := dk_105 (dk_at dksX9_digest_7 17 rfl rfl)
theorem dX9_digest_182 : decode cX9_digest 182 = .ok (.aload_n 0, 1) := dk_42 (dk_at dksX9_digest_7 18 rfl rfl)
theorem dX9_digest_183 : decode cX9_digest 183 = .ok (.aload_n 0, 1) := dk_42 (dk_at dksX9_digest_7 19 rfl rfl)
theorem dX9_digest_184 : decode cX9_digest 184 = .ok (.getfield 7, 3) := dk_180 0 7 (dk_at dksX9_digest_7 20 rfl rfl)
theorem dX9_digest_187 : decode cX9_digest 187 = .ok (.iconst 5, 1) := dk_8 (dk_at dksX9_digest_7 23 rfl rfl)
theorem dX9_digest_188 : decode cX9_digest 188 = .ok (.iaload, 1) := dk_46 (dk_at dksX9_digest_8 0 rfl rfl)
theorem dX9_digest_189 : decode cX9_digest 189 = .ok (.bipush 20, 2) := dk_16 20 (dk_at dksX9_digest_8 1 rfl rfl)
theorem dX9_digest_191 : decode cX9_digest 191 = .ok (.iload_n 3, 1) := dk_29 (dk_at dksX9_digest_8 3 rfl rfl)
theorem dX9_digest_192 : decode cX9_digest 192 = .ok (.invokevirtual 219, 3) := dk_182 0 219 (dk_at dksX9_digest_8 4 rfl rfl)
theorem dX9_digest_195 : decode cX9_digest 195 = .ok (.i2l, 1) := dk_133 (dk_at dksX9_digest_8 7 rfl rfl)
theorem dX9_digest_196 : decode cX9_digest 196 = .ok (.ladd, 1) := dk_97 (dk_at dksX9_digest_8 8 rfl rfl)
theorem dX9_digest_197 : decode cX9_digest 197 = .ok (.lstore_n 1, 1) := dk_64 (dk_at dksX9_digest_8 9 rfl rfl)
theorem dX9_digest_198 : decode cX9_digest 198 = .ok (.iinc 3 1, 3) := dk_132 3 1 (dk_at dksX9_digest_8 10 rfl rfl)
theorem dX9_digest_201 : decode cX9_digest 201 = .ok (.goto (-29), 3) := dk_167 255 227 (dk_at dksX9_digest_8 13 rfl rfl)
theorem dX9_digest_204 : decode cX9_digest 204 = .ok (.ldc2_w 236, 3) := dk_20 0 236 (dk_at dksX9_digest_8 16 rfl rfl)
theorem dX9_digest_207 : decode cX9_digest 207 = .ok (.ldc2_w 236, 3) := dk_20 0 236 (dk_at dksX9_digest_8 19 rfl rfl)
theorem dX9_digest_210 : decode cX9_digest 210 = .ok (.ldc2_w 236, 3) := dk_20 0 236 (dk_at dksX9_digest_9 0 rfl rfl)
theorem dX9_digest_213 : decode cX9_digest 213 = .ok (.lload_n 1, 1) := dk_31 (dk_at dksX9_digest_9 3 rfl rfl)
theorem dX9_digest_214 : decode cX9_digest 214 = .ok (.lmul, 1) := dk_105 (dk_at dksX9_digest_9 4 rfl rfl)
theorem dX9_digest_215 : decode cX9_digest 215 = .ok (.aload_n 0, 1) := dk_42 (dk_at dksX9_digest_9 5 rfl rfl)
theorem dX9_digest_216 : decode cX9_digest 216 = .ok (.getfield 7, 3) := dk_180 0 7 (dk_at dksX9_digest_9 6 rfl rfl)
theorem dX9_digest_219 : decode cX9_digest 219 = .ok (.invokestatic 85, 3) := dk_184 0 85 (dk_at dksX9_digest_9 9 rfl rfl)
theorem dX9_digest_222 : decode cX9_digest 222 = .ok (.i2l, 1) := dk_133 (dk_at dksX9_digest_9 12 rfl rfl)
theorem dX9_digest_223 : decode cX9_digest 223 = .ok (.ladd, 1) := dk_97 (dk_at dksX9_digest_9 13 rfl rfl)
theorem dX9_digest_224 : decode cX9_digest 224 = .ok (.lmul, 1) := dk_105 (dk_at dksX9_digest_9 14 rfl rfl)
theorem dX9_digest_225 : decode cX9_digest 225 = .ok (.aload_n 0, 1) := dk_42 (dk_at dksX9_digest_9 15 rfl rfl)
theorem dX9_digest_226 : decode cX9_digest 226 = .ok (.invokevirtual 223, 3) := dk_182 0 223 (dk_at dksX9_digest_9 16 rfl rfl)
theorem dX9_digest_229 : decode cX9_digest 229 = .ok (.i2l, 1) := dk_133 (dk_at dksX9_digest_9 19 rfl rfl)
theorem dX9_digest_230 : decode cX9_digest 230 = .ok (.ladd, 1) := dk_97 (dk_at dksX9_digest_9 20 rfl rfl)
theorem dX9_digest_231 : decode cX9_digest 231 = .ok (.lmul, 1) := dk_105 (dk_at dksX9_digest_9 21 rfl rfl)
theorem dX9_digest_232 : decode cX9_digest 232 = .ok (.aload_n 0, 1) := dk_42 (dk_at dksX9_digest_9 22 rfl rfl)
theorem dX9_digest_233 : decode cX9_digest 233 = .ok (.bipush 15, 2) := dk_16 15 (dk_at dksX9_digest_10 0 rfl rfl)
theorem dX9_digest_235 : decode cX9_digest 235 = .ok (.invokevirtual 227, 3) := dk_182 0 227 (dk_at dksX9_digest_10 2 rfl rfl)
theorem dX9_digest_238 : decode cX9_digest 238 = .ok (.i2l, 1) := dk_133 (dk_at dksX9_digest_10 5 rfl rfl)
theorem dX9_digest_239 : decode cX9_digest 239 = .ok (.ladd, 1) := dk_97 (dk_at dksX9_digest_10 6 rfl rfl)
theorem dX9_digest_240 : decode cX9_digest 240 = .ok (.lstore_n 1, 1) := dk_64 (dk_at dksX9_digest_10 7 rfl rfl)
theorem dX9_digest_241 : decode cX9_digest 241 = .ok (.ldc2_w 236, 3) := dk_20 0 236 (dk_at dksX9_digest_10 8 rfl rfl)
theorem dX9_digest_244 : decode cX9_digest 244 = .ok (.lload_n 1, 1) := dk_31 (dk_at dksX9_digest_10 11 rfl rfl)
theorem dX9_digest_245 : decode cX9_digest 245 = .ok (.lmul, 1) := dk_105 (dk_at dksX9_digest_10 12 rfl rfl)
theorem dX9_digest_246 : decode cX9_digest 246 = .ok (.aload_n 0, 1) := dk_42 (dk_at dksX9_digest_10 13 rfl rfl)
theorem dX9_digest_247 : decode cX9_digest 247 = .ok (.invokevirtual 230, 3) := dk_182 0 230 (dk_at dksX9_digest_10 14 rfl rfl)
theorem dX9_digest_250 : decode cX9_digest 250 = .ok (.invokestatic 238, 3) := dk_184 0 238 (dk_at dksX9_digest_10 17 rfl rfl)
theorem dX9_digest_253 : decode cX9_digest 253 = .ok (.ladd, 1) := dk_97 (dk_at dksX9_digest_10 20 rfl rfl)
theorem dX9_digest_254 : decode cX9_digest 254 = .ok (.lstore_n 1, 1) := dk_64 (dk_at dksX9_digest_10 21 rfl rfl)
theorem dX9_digest_255 : decode cX9_digest 255 = .ok (.iconst 0, 1) := dk_3 (dk_at dksX9_digest_10 22 rfl rfl)
theorem dX9_digest_256 : decode cX9_digest 256 = .ok (.istore_n 3, 1) := dk_62 (dk_at dksX9_digest_10 23 rfl rfl)
theorem dX9_digest_257 : decode cX9_digest 257 = .ok (.iload_n 3, 1) := dk_29 (dk_at dksX9_digest_11 0 rfl rfl)
theorem dX9_digest_258 : decode cX9_digest 258 = .ok (.iconst 2, 1) := dk_5 (dk_at dksX9_digest_11 1 rfl rfl)
theorem dX9_digest_259 : decode cX9_digest 259 = .ok (.if_icmp .ge 31, 3) := dk_162 0 31 (dk_at dksX9_digest_11 2 rfl rfl)
theorem dX9_digest_262 : decode cX9_digest 262 = .ok (.ldc2_w 236, 3) := dk_20 0 236 (dk_at dksX9_digest_11 5 rfl rfl)
theorem dX9_digest_265 : decode cX9_digest 265 = .ok (.lload_n 1, 1) := dk_31 (dk_at dksX9_digest_11 8 rfl rfl)
theorem dX9_digest_266 : decode cX9_digest 266 = .ok (.lmul, 1) := dk_105 (dk_at dksX9_digest_11 9 rfl rfl)
theorem dX9_digest_267 : decode cX9_digest 267 = .ok (.aload_n 0, 1) := dk_42 (dk_at dksX9_digest_11 10 rfl rfl)
theorem dX9_digest_268 : decode cX9_digest 268 = .ok (.getfield 22, 3) := dk_180 0 22 (dk_at dksX9_digest_11 11 rfl rfl)
theorem dX9_digest_271 : decode cX9_digest 271 = .ok (.iload_n 3, 1) := dk_29 (dk_at dksX9_digest_11 14 rfl rfl)
theorem dX9_digest_272 : decode cX9_digest 272 = .ok (.baload, 1) := dk_51 (dk_at dksX9_digest_11 15 rfl rfl)
theorem dX9_digest_273 : decode cX9_digest 273 = .ok (.ifCond .eq 7, 3) := dk_153 0 7 (dk_at dksX9_digest_11 16 rfl rfl)
theorem dX9_digest_276 : decode cX9_digest 276 = .ok (.iconst 1, 1) := dk_4 (dk_at dksX9_digest_11 19 rfl rfl)
theorem dX9_digest_277 : decode cX9_digest 277 = .ok (.goto 4, 3) := dk_167 0 4 (dk_at dksX9_digest_11 20 rfl rfl)
theorem dX9_digest_280 : decode cX9_digest 280 = .ok (.iconst 0, 1) := dk_3 (dk_at dksX9_digest_11 23 rfl rfl)
theorem dX9_digest_281 : decode cX9_digest 281 = .ok (.i2l, 1) := dk_133 (dk_at dksX9_digest_12 0 rfl rfl)
theorem dX9_digest_282 : decode cX9_digest 282 = .ok (.ladd, 1) := dk_97 (dk_at dksX9_digest_12 1 rfl rfl)
theorem dX9_digest_283 : decode cX9_digest 283 = .ok (.lstore_n 1, 1) := dk_64 (dk_at dksX9_digest_12 2 rfl rfl)
theorem dX9_digest_284 : decode cX9_digest 284 = .ok (.iinc 3 1, 3) := dk_132 3 1 (dk_at dksX9_digest_12 3 rfl rfl)
theorem dX9_digest_287 : decode cX9_digest 287 = .ok (.goto (-30), 3) := dk_167 255 226 (dk_at dksX9_digest_12 6 rfl rfl)
theorem dX9_digest_290 : decode cX9_digest 290 = .ok (.ldc2_w 236, 3) := dk_20 0 236 (dk_at dksX9_digest_12 9 rfl rfl)
theorem dX9_digest_293 : decode cX9_digest 293 = .ok (.lload_n 1, 1) := dk_31 (dk_at dksX9_digest_12 12 rfl rfl)
theorem dX9_digest_294 : decode cX9_digest 294 = .ok (.lmul, 1) := dk_105 (dk_at dksX9_digest_12 13 rfl rfl)
theorem dX9_digest_295 : decode cX9_digest 295 = .ok (.aload_n 0, 1) := dk_42 (dk_at dksX9_digest_12 14 rfl rfl)
theorem dX9_digest_296 : decode cX9_digest 296 = .ok (.getfield 151, 3) := dk_180 0 151 (dk_at dksX9_digest_12 15 rfl rfl)
theorem dX9_digest_299 : decode cX9_digest 299 = .ok (.i2l, 1) := dk_133 (dk_at dksX9_digest_12 18 rfl rfl)
theorem dX9_digest_300 : decode cX9_digest 300 = .ok (.ladd, 1) := dk_97 (dk_at dksX9_digest_12 19 rfl rfl)
theorem dX9_digest_301 : decode cX9_digest 301 = .ok (.lstore_n 1, 1) := dk_64 (dk_at dksX9_digest_12 20 rfl rfl)
theorem dX9_digest_302 : decode cX9_digest 302 = .ok (.iconst 0, 1) := dk_3 (dk_at dksX9_digest_12 21 rfl rfl)
theorem dX9_digest_303 : decode cX9_digest 303 = .ok (.istore_n 3, 1) := dk_62 (dk_at dksX9_digest_12 22 rfl rfl)
theorem dX9_digest_304 : decode cX9_digest 304 = .ok (.iload_n 3, 1) := dk_29 (dk_at dksX9_digest_12 23 rfl rfl)
theorem dX9_digest_305 : decode cX9_digest 305 = .ok (.aload_n 0, 1) := dk_42 (dk_at dksX9_digest_13 0 rfl rfl)
theorem dX9_digest_306 : decode cX9_digest 306 = .ok (.getfield 151, 3) := dk_180 0 151 (dk_at dksX9_digest_13 1 rfl rfl)
theorem dX9_digest_309 : decode cX9_digest 309 = .ok (.if_icmp .ge 23, 3) := dk_162 0 23 (dk_at dksX9_digest_13 4 rfl rfl)
theorem dX9_digest_312 : decode cX9_digest 312 = .ok (.ldc2_w 236, 3) := dk_20 0 236 (dk_at dksX9_digest_13 7 rfl rfl)
theorem dX9_digest_315 : decode cX9_digest 315 = .ok (.lload_n 1, 1) := dk_31 (dk_at dksX9_digest_13 10 rfl rfl)
theorem dX9_digest_316 : decode cX9_digest 316 = .ok (.lmul, 1) := dk_105 (dk_at dksX9_digest_13 11 rfl rfl)
theorem dX9_digest_317 : decode cX9_digest 317 = .ok (.aload_n 0, 1) := dk_42 (dk_at dksX9_digest_13 12 rfl rfl)
theorem dX9_digest_318 : decode cX9_digest 318 = .ok (.getfield 26, 3) := dk_180 0 26 (dk_at dksX9_digest_13 13 rfl rfl)
theorem dX9_digest_321 : decode cX9_digest 321 = .ok (.iload_n 3, 1) := dk_29 (dk_at dksX9_digest_13 16 rfl rfl)
theorem dX9_digest_322 : decode cX9_digest 322 = .ok (.iaload, 1) := dk_46 (dk_at dksX9_digest_13 17 rfl rfl)
theorem dX9_digest_323 : decode cX9_digest 323 = .ok (.i2l, 1) := dk_133 (dk_at dksX9_digest_13 18 rfl rfl)
theorem dX9_digest_324 : decode cX9_digest 324 = .ok (.ladd, 1) := dk_97 (dk_at dksX9_digest_13 19 rfl rfl)
theorem dX9_digest_325 : decode cX9_digest 325 = .ok (.lstore_n 1, 1) := dk_64 (dk_at dksX9_digest_13 20 rfl rfl)
theorem dX9_digest_326 : decode cX9_digest 326 = .ok (.iinc 3 1, 3) := dk_132 3 1 (dk_at dksX9_digest_13 21 rfl rfl)
theorem dX9_digest_329 : decode cX9_digest 329 = .ok (.goto (-25), 3) := dk_167 255 231 (dk_at dksX9_digest_14 0 rfl rfl)
theorem dX9_digest_332 : decode cX9_digest 332 = .ok (.lload_n 1, 1) := dk_31 (dk_at dksX9_digest_14 3 rfl rfl)
theorem dX9_digest_333 : decode cX9_digest 333 = .ok (.lreturn, 1) := dk_173 (dk_at dksX9_digest_14 4 rfl rfl)
theorem q103 : (Jvm.Cond.initialized "SpoilMeadowsModel") ∈ lw_all := lw_g (lw_at lw_m1 30 rfl) rfl
theorem q590 : (Jvm.Cond.selects "SpoilMeadowsModel" ({ cls := "java/lang/Object", name := "getClass", desc := "()Ljava/lang/Class;" } : Jvm.MethodName) ({ cls := "java/lang/Object", name := "getClass", desc := "()Ljava/lang/Class;" } : Jvm.MethodName)) ∈ lw_all := lw_g (lw_at lw_m3 37 rfl) rfl
theorem q1597 : (Jvm.Cond.instantiable "SpoilMeadowsModel" (15 : Nat)) ∈ lw_all := lw_g (lw_at lw_m7 84 rfl) rfl
theorem q1599 : (Jvm.Cond.instanceMethod ({ cls := "SpoilMeadowsModel", name := "<init>", desc := "()V" } : Jvm.MethodName)) ∈ lw_all := lw_g (lw_at lw_m7 86 rfl) rfl
theorem q1600 : (Jvm.Cond.code ({ cls := "SpoilMeadowsModel", name := "<init>", desc := "()V" } : Jvm.MethodName) prog_15_method_1_code (2 : Nat) (Option.none : Option Jvm.ClassFile.FieldType)) ∈ lw_all := lw_g (lw_at lw_m7 87 rfl) rfl
theorem q1601 : (Jvm.Cond.methodLink "SpoilMeadowsModel" (1 : Nat) ({ cls := "java/lang/Object", name := "<init>", desc := "()V" } : Jvm.MethodName)) ∈ lw_all := lw_g (lw_at lw_m7 88 rfl) rfl
theorem q1602 : (Jvm.Cond.fieldLink "SpoilMeadowsModel" (7 : Nat) "SpoilMeadowsModel" "now" "[I") ∈ lw_all := lw_g (lw_at lw_m7 89 rfl) rfl
theorem q1603 : (Jvm.Cond.fieldLink "SpoilMeadowsModel" (13 : Nat) "SpoilMeadowsModel" "then" "[I") ∈ lw_all := lw_g (lw_at lw_m7 90 rfl) rfl
theorem q1604 : (Jvm.Cond.fieldLink "SpoilMeadowsModel" (16 : Nat) "SpoilMeadowsModel" "past" "[I") ∈ lw_all := lw_g (lw_at lw_m7 91 rfl) rfl
theorem q1605 : (Jvm.Cond.fieldLink "SpoilMeadowsModel" (40 : Nat) "SpoilMeadowsModel" "kept" "I") ∈ lw_all := lw_g (lw_at lw_m7 92 rfl) rfl
theorem q1606 : (Jvm.Cond.fieldLink "SpoilMeadowsModel" (19 : Nat) "SpoilMeadowsModel" "slots" "[I") ∈ lw_all := lw_g (lw_at lw_m7 93 rfl) rfl
theorem q1607 : (Jvm.Cond.fieldLink "SpoilMeadowsModel" (22 : Nat) "SpoilMeadowsModel" "filled" "[Z") ∈ lw_all := lw_g (lw_at lw_m7 94 rfl) rfl
theorem q1608 : (Jvm.Cond.fieldLink "SpoilMeadowsModel" (26 : Nat) "SpoilMeadowsModel" "text" "[I") ∈ lw_all := lw_g (lw_at lw_m7 95 rfl) rfl
theorem q1609 : (Jvm.Cond.fieldLink "SpoilMeadowsModel" (151 : Nat) "SpoilMeadowsModel" "typed" "I") ∈ lw_all := lw_g (lw_at lw_m7 96 rfl) rfl
theorem q1610 : (Jvm.Cond.fieldLink "SpoilMeadowsModel" (32 : Nat) "SpoilMeadowsModel" "thrown" "I") ∈ lw_all := lw_g (lw_at lw_m7 97 rfl) rfl
theorem q1611 : (Jvm.Cond.fieldLink "SpoilMeadowsModel" (154 : Nat) "SpoilMeadowsModel" "at" "I") ∈ lw_all := lw_g (lw_at lw_m7 98 rfl) rfl
theorem q1612 : (Jvm.Cond.fieldLink "SpoilMeadowsModel" (157 : Nat) "SpoilMeadowsModel" "isFault" "Z") ∈ lw_all := lw_g (lw_at lw_m7 99 rfl) rfl
theorem q1613 : (Jvm.Cond.fieldLink "SpoilMeadowsModel" (170 : Nat) "SpoilMeadowsModel" "value" "I") ∈ lw_all := lw_g (lw_at lw_m7 100 rfl) rfl
theorem q1614 : (Jvm.Cond.fieldLink "SpoilMeadowsModel" (29 : Nat) "SpoilMeadowsModel" "told" "[I") ∈ lw_all := lw_g (lw_at lw_m7 101 rfl) rfl
theorem q1615 : (Jvm.Cond.fieldLink "SpoilMeadowsModel" (167 : Nat) "SpoilMeadowsModel" "tolds" "I") ∈ lw_all := lw_g (lw_at lw_m7 102 rfl) rfl
theorem q1616 : (Jvm.Cond.fieldLink "SpoilMeadowsModel" (104 : Nat) "SpoilMeadowsModel" "isClear" "Z") ∈ lw_all := lw_g (lw_at lw_m7 103 rfl) rfl
theorem q1617 : (Jvm.Cond.laysFinal "SpoilMeadowsModel" "SpoilMeadowsModel" "now" "[I") ∈ lw_all := lw_g (lw_at lw_m7 104 rfl) rfl
theorem q1618 : (Jvm.Cond.soleField "SpoilMeadowsModel" "now") ∈ lw_all := lw_g (lw_at lw_m7 105 rfl) rfl
theorem q1619 : (Jvm.Cond.laysFinal "SpoilMeadowsModel" "SpoilMeadowsModel" "then" "[I") ∈ lw_all := lw_g (lw_at lw_m7 106 rfl) rfl
theorem q1620 : (Jvm.Cond.soleField "SpoilMeadowsModel" "then") ∈ lw_all := lw_g (lw_at lw_m7 107 rfl) rfl
theorem q1621 : (Jvm.Cond.laysFinal "SpoilMeadowsModel" "SpoilMeadowsModel" "past" "[I") ∈ lw_all := lw_g (lw_at lw_m7 108 rfl) rfl
theorem q1622 : (Jvm.Cond.soleField "SpoilMeadowsModel" "past") ∈ lw_all := lw_g (lw_at lw_m7 109 rfl) rfl
theorem q1623 : (Jvm.Cond.lays "SpoilMeadowsModel" "SpoilMeadowsModel" "kept" "I") ∈ lw_all := lw_g (lw_at lw_m7 110 rfl) rfl
theorem q1624 : (Jvm.Cond.soleField "SpoilMeadowsModel" "kept") ∈ lw_all := lw_g (lw_at lw_m7 111 rfl) rfl
theorem q1625 : (Jvm.Cond.laysFinal "SpoilMeadowsModel" "SpoilMeadowsModel" "slots" "[I") ∈ lw_all := lw_g (lw_at lw_m7 112 rfl) rfl
theorem q1626 : (Jvm.Cond.soleField "SpoilMeadowsModel" "slots") ∈ lw_all := lw_g (lw_at lw_m7 113 rfl) rfl
theorem q1627 : (Jvm.Cond.laysFinal "SpoilMeadowsModel" "SpoilMeadowsModel" "filled" "[Z") ∈ lw_all := lw_g (lw_at lw_m7 114 rfl) rfl
theorem q1628 : (Jvm.Cond.soleField "SpoilMeadowsModel" "filled") ∈ lw_all := lw_g (lw_at lw_m7 115 rfl) rfl
theorem q1629 : (Jvm.Cond.laysFinal "SpoilMeadowsModel" "SpoilMeadowsModel" "text" "[I") ∈ lw_all := lw_g (lw_at lw_m7 116 rfl) rfl
theorem q1630 : (Jvm.Cond.soleField "SpoilMeadowsModel" "text") ∈ lw_all := lw_g (lw_at lw_m7 117 rfl) rfl
theorem q1631 : (Jvm.Cond.lays "SpoilMeadowsModel" "SpoilMeadowsModel" "typed" "I") ∈ lw_all := lw_g (lw_at lw_m7 118 rfl) rfl
theorem q1632 : (Jvm.Cond.soleField "SpoilMeadowsModel" "typed") ∈ lw_all := lw_g (lw_at lw_m7 119 rfl) rfl
theorem q1633 : (Jvm.Cond.lays "SpoilMeadowsModel" "SpoilMeadowsModel" "thrown" "I") ∈ lw_all := lw_g (lw_at lw_m7 120 rfl) rfl
theorem q1634 : (Jvm.Cond.soleField "SpoilMeadowsModel" "thrown") ∈ lw_all := lw_g (lw_at lw_m7 121 rfl) rfl
theorem q1635 : (Jvm.Cond.lays "SpoilMeadowsModel" "SpoilMeadowsModel" "at" "I") ∈ lw_all := lw_g (lw_at lw_m7 122 rfl) rfl
theorem q1636 : (Jvm.Cond.soleField "SpoilMeadowsModel" "at") ∈ lw_all := lw_g (lw_at lw_m7 123 rfl) rfl
theorem q1637 : (Jvm.Cond.lays "SpoilMeadowsModel" "SpoilMeadowsModel" "isFault" "Z") ∈ lw_all := lw_g (lw_at lw_m7 124 rfl) rfl
theorem q1638 : (Jvm.Cond.soleField "SpoilMeadowsModel" "isFault") ∈ lw_all := lw_g (lw_at lw_m7 125 rfl) rfl
theorem q1639 : (Jvm.Cond.lays "SpoilMeadowsModel" "SpoilMeadowsModel" "value" "I") ∈ lw_all := lw_g (lw_at lw_m7 126 rfl) rfl
theorem q1640 : (Jvm.Cond.soleField "SpoilMeadowsModel" "value") ∈ lw_all := lw_g (lw_at lw_m7 127 rfl) rfl
theorem q1641 : (Jvm.Cond.laysFinal "SpoilMeadowsModel" "SpoilMeadowsModel" "told" "[I") ∈ lw_all := lw_g (lw_at lw_m7 128 rfl) rfl
theorem q1642 : (Jvm.Cond.soleField "SpoilMeadowsModel" "told") ∈ lw_all := lw_g (lw_at lw_m7 129 rfl) rfl
theorem q1643 : (Jvm.Cond.lays "SpoilMeadowsModel" "SpoilMeadowsModel" "tolds" "I") ∈ lw_all := lw_g (lw_at lw_m7 130 rfl) rfl
theorem q1644 : (Jvm.Cond.soleField "SpoilMeadowsModel" "tolds") ∈ lw_all := lw_g (lw_at lw_m7 131 rfl) rfl
theorem q1645 : (Jvm.Cond.lays "SpoilMeadowsModel" "SpoilMeadowsModel" "isClear" "Z") ∈ lw_all := lw_g (lw_at lw_m7 132 rfl) rfl
theorem q1646 : (Jvm.Cond.soleField "SpoilMeadowsModel" "isClear") ∈ lw_all := lw_g (lw_at lw_m7 133 rfl) rfl
theorem q1647 : (Jvm.Cond.superclass "SpoilMeadowsModel" "java/lang/Object") ∈ lw_all := lw_g (lw_at lw_m7 134 rfl) rfl
theorem q1650 : (Jvm.Cond.instanceMethod ({ cls := "SpoilMeadowsModel", name := "thrown", desc := "()I" } : Jvm.MethodName)) ∈ lw_all := lw_g (lw_at lw_m7 137 rfl) rfl
theorem q1651 : (Jvm.Cond.selects "SpoilMeadowsModel" ({ cls := "SpoilMeadowsModel", name := "thrown", desc := "()I" } : Jvm.MethodName) ({ cls := "SpoilMeadowsModel", name := "thrown", desc := "()I" } : Jvm.MethodName)) ∈ lw_all := lw_g (lw_at lw_m7 138 rfl) rfl
theorem q1652 : (Jvm.Cond.code ({ cls := "SpoilMeadowsModel", name := "thrown", desc := "()I" } : Jvm.MethodName) prog_15_method_2_code (1 : Nat) (Option.some Jvm.ClassFile.FieldType.int)) ∈ lw_all := lw_g (lw_at lw_m7 139 rfl) rfl
theorem q1654 : (Jvm.Cond.instanceMethod ({ cls := "SpoilMeadowsModel", name := "undo", desc := "()I" } : Jvm.MethodName)) ∈ lw_all := lw_g (lw_at lw_m7 141 rfl) rfl
theorem q1655 : (Jvm.Cond.selects "SpoilMeadowsModel" ({ cls := "SpoilMeadowsModel", name := "undo", desc := "()I" } : Jvm.MethodName) ({ cls := "SpoilMeadowsModel", name := "undo", desc := "()I" } : Jvm.MethodName)) ∈ lw_all := lw_g (lw_at lw_m7 142 rfl) rfl
theorem q1656 : (Jvm.Cond.code ({ cls := "SpoilMeadowsModel", name := "undo", desc := "()I" } : Jvm.MethodName) prog_15_method_12_code (1 : Nat) (Option.some Jvm.ClassFile.FieldType.int)) ∈ lw_all := lw_g (lw_at lw_m7 143 rfl) rfl
theorem q1657 : (Jvm.Cond.methodLink "SpoilMeadowsModel" (47 : Nat) ({ cls := "SpoilMeadowsModel", name := "fails", desc := "(I)I" } : Jvm.MethodName)) ∈ lw_all := lw_g (lw_at lw_m7 144 rfl) rfl
theorem q1658 : (Jvm.Cond.privateMethod ({ cls := "SpoilMeadowsModel", name := "fails", desc := "(I)I" } : Jvm.MethodName)) ∈ lw_tbl := lw_at lw_m7 145 rfl
theorem q1659 : (Jvm.Cond.instanceMethod ({ cls := "SpoilMeadowsModel", name := "fails", desc := "(I)I" } : Jvm.MethodName)) ∈ lw_all := lw_g (lw_at lw_m7 146 rfl) rfl
theorem q1660 : (Jvm.Cond.code ({ cls := "SpoilMeadowsModel", name := "fails", desc := "(I)I" } : Jvm.MethodName) prog_15_method_3_code (2 : Nat) (Option.some Jvm.ClassFile.FieldType.int)) ∈ lw_all := lw_g (lw_at lw_m7 147 rfl) rfl
theorem q1661 : (Jvm.Cond.methodLink "SpoilMeadowsModel" (43 : Nat) ({ cls := "SpoilMeadowsModel", name := "copies", desc := "([II[II)V" } : Jvm.MethodName)) ∈ lw_all := lw_g (lw_at lw_m7 148 rfl) rfl
theorem q1662 : (Jvm.Cond.static ({ cls := "SpoilMeadowsModel", name := "copies", desc := "([II[II)V" } : Jvm.MethodName)) ∈ lw_all := lw_g (lw_at lw_m7 149 rfl) rfl
theorem q1663 : (Jvm.Cond.code ({ cls := "SpoilMeadowsModel", name := "copies", desc := "([II[II)V" } : Jvm.MethodName) prog_15_method_10_code (5 : Nat) (Option.none : Option Jvm.ClassFile.FieldType)) ∈ lw_all := lw_g (lw_at lw_m7 150 rfl) rfl
theorem q1665 : (Jvm.Cond.instanceMethod ({ cls := "SpoilMeadowsModel", name := "keep", desc := "(I)I" } : Jvm.MethodName)) ∈ lw_all := lw_g (lw_at lw_m7 152 rfl) rfl
theorem q1666 : (Jvm.Cond.selects "SpoilMeadowsModel" ({ cls := "SpoilMeadowsModel", name := "keep", desc := "(I)I" } : Jvm.MethodName) ({ cls := "SpoilMeadowsModel", name := "keep", desc := "(I)I" } : Jvm.MethodName)) ∈ lw_all := lw_g (lw_at lw_m7 153 rfl) rfl
theorem q1667 : (Jvm.Cond.code ({ cls := "SpoilMeadowsModel", name := "keep", desc := "(I)I" } : Jvm.MethodName) prog_15_method_13_code (2 : Nat) (Option.some Jvm.ClassFile.FieldType.int)) ∈ lw_all := lw_g (lw_at lw_m7 154 rfl) rfl
theorem q1668 : (Jvm.Cond.methodLink "SpoilMeadowsModel" (36 : Nat) ({ cls := "SpoilMeadowsModel", name := "in", desc := "(III)Z" } : Jvm.MethodName)) ∈ lw_all := lw_g (lw_at lw_m7 155 rfl) rfl
theorem q1669 : (Jvm.Cond.static ({ cls := "SpoilMeadowsModel", name := "in", desc := "(III)Z" } : Jvm.MethodName)) ∈ lw_all := lw_g (lw_at lw_m7 156 rfl) rfl
theorem q1670 : (Jvm.Cond.code ({ cls := "SpoilMeadowsModel", name := "in", desc := "(III)Z" } : Jvm.MethodName) prog_15_method_4_code (3 : Nat) (Option.some Jvm.ClassFile.FieldType.boolean)) ∈ lw_all := lw_g (lw_at lw_m7 157 rfl) rfl
theorem q1672 : (Jvm.Cond.instanceMethod ({ cls := "SpoilMeadowsModel", name := "goBack", desc := "(I)I" } : Jvm.MethodName)) ∈ lw_all := lw_g (lw_at lw_m7 159 rfl) rfl
theorem q1673 : (Jvm.Cond.selects "SpoilMeadowsModel" ({ cls := "SpoilMeadowsModel", name := "goBack", desc := "(I)I" } : Jvm.MethodName) ({ cls := "SpoilMeadowsModel", name := "goBack", desc := "(I)I" } : Jvm.MethodName)) ∈ lw_all := lw_g (lw_at lw_m7 160 rfl) rfl
theorem q1674 : (Jvm.Cond.code ({ cls := "SpoilMeadowsModel", name := "goBack", desc := "(I)I" } : Jvm.MethodName) prog_15_method_14_code (2 : Nat) (Option.some Jvm.ClassFile.FieldType.int)) ∈ lw_all := lw_g (lw_at lw_m7 161 rfl) rfl
theorem q1675 : (Jvm.Cond.methodLink "SpoilMeadowsModel" (51 : Nat) ({ cls := "SpoilMeadowsModel", name := "saves", desc := "()V" } : Jvm.MethodName)) ∈ lw_all := lw_g (lw_at lw_m7 162 rfl) rfl
theorem q1676 : (Jvm.Cond.privateMethod ({ cls := "SpoilMeadowsModel", name := "saves", desc := "()V" } : Jvm.MethodName)) ∈ lw_tbl := lw_at lw_m7 163 rfl
theorem q1677 : (Jvm.Cond.instanceMethod ({ cls := "SpoilMeadowsModel", name := "saves", desc := "()V" } : Jvm.MethodName)) ∈ lw_all := lw_g (lw_at lw_m7 164 rfl) rfl
theorem q1678 : (Jvm.Cond.code ({ cls := "SpoilMeadowsModel", name := "saves", desc := "()V" } : Jvm.MethodName) prog_15_method_11_code (2 : Nat) (Option.none : Option Jvm.ClassFile.FieldType)) ∈ lw_all := lw_g (lw_at lw_m7 165 rfl) rfl
theorem q1680 : (Jvm.Cond.instanceMethod ({ cls := "SpoilMeadowsModel", name := "barge", desc := "(I)I" } : Jvm.MethodName)) ∈ lw_all := lw_g (lw_at lw_m7 167 rfl) rfl
theorem q1681 : (Jvm.Cond.selects "SpoilMeadowsModel" ({ cls := "SpoilMeadowsModel", name := "barge", desc := "(I)I" } : Jvm.MethodName) ({ cls := "SpoilMeadowsModel", name := "barge", desc := "(I)I" } : Jvm.MethodName)) ∈ lw_all := lw_g (lw_at lw_m7 168 rfl) rfl
theorem q1682 : (Jvm.Cond.code ({ cls := "SpoilMeadowsModel", name := "barge", desc := "(I)I" } : Jvm.MethodName) prog_15_method_37_code (4 : Nat) (Option.some Jvm.ClassFile.FieldType.int)) ∈ lw_all := lw_g (lw_at lw_m7 169 rfl) rfl
theorem q1684 : (Jvm.Cond.instanceMethod ({ cls := "SpoilMeadowsModel", name := "order", desc := "(II)I" } : Jvm.MethodName)) ∈ lw_all := lw_g (lw_at lw_m7 171 rfl) rfl
theorem q1685 : (Jvm.Cond.selects "SpoilMeadowsModel" ({ cls := "SpoilMeadowsModel", name := "order", desc := "(II)I" } : Jvm.MethodName) ({ cls := "SpoilMeadowsModel", name := "order", desc := "(II)I" } : Jvm.MethodName)) ∈ lw_all := lw_g (lw_at lw_m7 172 rfl) rfl
theorem q1686 : (Jvm.Cond.code ({ cls := "SpoilMeadowsModel", name := "order", desc := "(II)I" } : Jvm.MethodName) prog_15_method_38_code (3 : Nat) (Option.some Jvm.ClassFile.FieldType.int)) ∈ lw_all := lw_g (lw_at lw_m7 173 rfl) rfl
theorem q1687 : (Jvm.Cond.methodLink "SpoilMeadowsModel" (118 : Nat) ({ cls := "SpoilMeadowsModel", name := "isBarge", desc := "(I)Z" } : Jvm.MethodName)) ∈ lw_all := lw_g (lw_at lw_m7 174 rfl) rfl
theorem q1688 : (Jvm.Cond.privateMethod ({ cls := "SpoilMeadowsModel", name := "isBarge", desc := "(I)Z" } : Jvm.MethodName)) ∈ lw_tbl := lw_at lw_m7 175 rfl
theorem q1689 : (Jvm.Cond.instanceMethod ({ cls := "SpoilMeadowsModel", name := "isBarge", desc := "(I)Z" } : Jvm.MethodName)) ∈ lw_all := lw_g (lw_at lw_m7 176 rfl) rfl
theorem q1690 : (Jvm.Cond.code ({ cls := "SpoilMeadowsModel", name := "isBarge", desc := "(I)Z" } : Jvm.MethodName) prog_15_method_7_code (2 : Nat) (Option.some Jvm.ClassFile.FieldType.boolean)) ∈ lw_all := lw_g (lw_at lw_m7 177 rfl) rfl
theorem q1691 : (Jvm.Cond.methodLink "SpoilMeadowsModel" (122 : Nat) ({ cls := "SpoilMeadowsModel", name := "changes", desc := "(II)I" } : Jvm.MethodName)) ∈ lw_all := lw_g (lw_at lw_m7 178 rfl) rfl
theorem q1692 : (Jvm.Cond.privateMethod ({ cls := "SpoilMeadowsModel", name := "changes", desc := "(II)I" } : Jvm.MethodName)) ∈ lw_tbl := lw_at lw_m7 179 rfl
theorem q1693 : (Jvm.Cond.instanceMethod ({ cls := "SpoilMeadowsModel", name := "changes", desc := "(II)I" } : Jvm.MethodName)) ∈ lw_all := lw_g (lw_at lw_m7 180 rfl) rfl
theorem q1694 : (Jvm.Cond.code ({ cls := "SpoilMeadowsModel", name := "changes", desc := "(II)I" } : Jvm.MethodName) prog_15_method_36_code (4 : Nat) (Option.some Jvm.ClassFile.FieldType.int)) ∈ lw_all := lw_g (lw_at lw_m7 181 rfl) rfl
theorem q1696 : (Jvm.Cond.instanceMethod ({ cls := "SpoilMeadowsModel", name := "move", desc := "(I)I" } : Jvm.MethodName)) ∈ lw_all := lw_g (lw_at lw_m7 183 rfl) rfl
theorem q1697 : (Jvm.Cond.selects "SpoilMeadowsModel" ({ cls := "SpoilMeadowsModel", name := "move", desc := "(I)I" } : Jvm.MethodName) ({ cls := "SpoilMeadowsModel", name := "move", desc := "(I)I" } : Jvm.MethodName)) ∈ lw_all := lw_g (lw_at lw_m7 184 rfl) rfl
theorem q1698 : (Jvm.Cond.code ({ cls := "SpoilMeadowsModel", name := "move", desc := "(I)I" } : Jvm.MethodName) prog_15_method_39_code (2 : Nat) (Option.some Jvm.ClassFile.FieldType.int)) ∈ lw_all := lw_g (lw_at lw_m7 185 rfl) rfl
theorem q1699 : (Jvm.Cond.methodLink "SpoilMeadowsModel" (126 : Nat) ({ cls := "SpoilMeadowsModel", name := "isReach", desc := "(I)Z" } : Jvm.MethodName)) ∈ lw_all := lw_g (lw_at lw_m7 186 rfl) rfl
theorem q1700 : (Jvm.Cond.static ({ cls := "SpoilMeadowsModel", name := "isReach", desc := "(I)Z" } : Jvm.MethodName)) ∈ lw_all := lw_g (lw_at lw_m7 187 rfl) rfl
theorem q1701 : (Jvm.Cond.code ({ cls := "SpoilMeadowsModel", name := "isReach", desc := "(I)Z" } : Jvm.MethodName) prog_15_method_5_code (1 : Nat) (Option.some Jvm.ClassFile.FieldType.boolean)) ∈ lw_all := lw_g (lw_at lw_m7 188 rfl) rfl
theorem q1703 : (Jvm.Cond.instanceMethod ({ cls := "SpoilMeadowsModel", name := "silt", desc := "(II)I" } : Jvm.MethodName)) ∈ lw_all := lw_g (lw_at lw_m7 190 rfl) rfl
theorem q1704 : (Jvm.Cond.selects "SpoilMeadowsModel" ({ cls := "SpoilMeadowsModel", name := "silt", desc := "(II)I" } : Jvm.MethodName) ({ cls := "SpoilMeadowsModel", name := "silt", desc := "(II)I" } : Jvm.MethodName)) ∈ lw_all := lw_g (lw_at lw_m7 191 rfl) rfl
theorem q1705 : (Jvm.Cond.code ({ cls := "SpoilMeadowsModel", name := "silt", desc := "(II)I" } : Jvm.MethodName) prog_15_method_40_code (3 : Nat) (Option.some Jvm.ClassFile.FieldType.int)) ∈ lw_all := lw_g (lw_at lw_m7 192 rfl) rfl
theorem q1707 : (Jvm.Cond.instanceMethod ({ cls := "SpoilMeadowsModel", name := "bound", desc := "(II)I" } : Jvm.MethodName)) ∈ lw_all := lw_g (lw_at lw_m7 194 rfl) rfl
theorem q1708 : (Jvm.Cond.selects "SpoilMeadowsModel" ({ cls := "SpoilMeadowsModel", name := "bound", desc := "(II)I" } : Jvm.MethodName) ({ cls := "SpoilMeadowsModel", name := "bound", desc := "(II)I" } : Jvm.MethodName)) ∈ lw_all := lw_g (lw_at lw_m7 195 rfl) rfl
theorem q1709 : (Jvm.Cond.code ({ cls := "SpoilMeadowsModel", name := "bound", desc := "(II)I" } : Jvm.MethodName) prog_15_method_41_code (3 : Nat) (Option.some Jvm.ClassFile.FieldType.int)) ∈ lw_all := lw_g (lw_at lw_m7 196 rfl) rfl
theorem q1710 : (Jvm.Cond.methodLink "SpoilMeadowsModel" (129 : Nat) ({ cls := "SpoilMeadowsModel", name := "isMeadow", desc := "(I)Z" } : Jvm.MethodName)) ∈ lw_all := lw_g (lw_at lw_m7 197 rfl) rfl
theorem q1711 : (Jvm.Cond.static ({ cls := "SpoilMeadowsModel", name := "isMeadow", desc := "(I)Z" } : Jvm.MethodName)) ∈ lw_all := lw_g (lw_at lw_m7 198 rfl) rfl
theorem q1712 : (Jvm.Cond.code ({ cls := "SpoilMeadowsModel", name := "isMeadow", desc := "(I)Z" } : Jvm.MethodName) prog_15_method_6_code (1 : Nat) (Option.some Jvm.ClassFile.FieldType.boolean)) ∈ lw_all := lw_g (lw_at lw_m7 199 rfl) rfl
theorem q1714 : (Jvm.Cond.instanceMethod ({ cls := "SpoilMeadowsModel", name := "consent", desc := "(III)I" } : Jvm.MethodName)) ∈ lw_all := lw_g (lw_at lw_m7 201 rfl) rfl
theorem q1715 : (Jvm.Cond.selects "SpoilMeadowsModel" ({ cls := "SpoilMeadowsModel", name := "consent", desc := "(III)I" } : Jvm.MethodName) ({ cls := "SpoilMeadowsModel", name := "consent", desc := "(III)I" } : Jvm.MethodName)) ∈ lw_all := lw_g (lw_at lw_m7 202 rfl) rfl
theorem q1716 : (Jvm.Cond.code ({ cls := "SpoilMeadowsModel", name := "consent", desc := "(III)I" } : Jvm.MethodName) prog_15_method_42_code (6 : Nat) (Option.some Jvm.ClassFile.FieldType.int)) ∈ lw_all := lw_g (lw_at lw_m7 203 rfl) rfl
theorem q1717 : (Jvm.Cond.methodLink "SpoilMeadowsModel" (61 : Nat) ({ cls := "SpoilMeadowsModel", name := "runs", desc := "([II)Z" } : Jvm.MethodName)) ∈ lw_all := lw_g (lw_at lw_m7 204 rfl) rfl
theorem q1718 : (Jvm.Cond.static ({ cls := "SpoilMeadowsModel", name := "runs", desc := "([II)Z" } : Jvm.MethodName)) ∈ lw_all := lw_g (lw_at lw_m7 205 rfl) rfl
theorem q1719 : (Jvm.Cond.code ({ cls := "SpoilMeadowsModel", name := "runs", desc := "([II)Z" } : Jvm.MethodName) prog_15_method_15_code (2 : Nat) (Option.some Jvm.ClassFile.FieldType.boolean)) ∈ lw_all := lw_g (lw_at lw_m7 206 rfl) rfl
theorem q1720 : (Jvm.Cond.methodLink "SpoilMeadowsModel" (54 : Nat) ({ cls := "SpoilMeadowsModel", name := "meadowIn", desc := "([III)I" } : Jvm.MethodName)) ∈ lw_all := lw_g (lw_at lw_m7 207 rfl) rfl
theorem q1721 : (Jvm.Cond.static ({ cls := "SpoilMeadowsModel", name := "meadowIn", desc := "([III)I" } : Jvm.MethodName)) ∈ lw_all := lw_g (lw_at lw_m7 208 rfl) rfl
theorem q1722 : (Jvm.Cond.code ({ cls := "SpoilMeadowsModel", name := "meadowIn", desc := "([III)I" } : Jvm.MethodName) prog_15_method_9_code (3 : Nat) (Option.some Jvm.ClassFile.FieldType.int)) ∈ lw_all := lw_g (lw_at lw_m7 209 rfl) rfl
theorem q1724 : (Jvm.Cond.instanceMethod ({ cls := "SpoilMeadowsModel", name := "complain", desc := "(II)I" } : Jvm.MethodName)) ∈ lw_all := lw_g (lw_at lw_m7 211 rfl) rfl
theorem q1725 : (Jvm.Cond.selects "SpoilMeadowsModel" ({ cls := "SpoilMeadowsModel", name := "complain", desc := "(II)I" } : Jvm.MethodName) ({ cls := "SpoilMeadowsModel", name := "complain", desc := "(II)I" } : Jvm.MethodName)) ∈ lw_all := lw_g (lw_at lw_m7 212 rfl) rfl
theorem q1726 : (Jvm.Cond.code ({ cls := "SpoilMeadowsModel", name := "complain", desc := "(II)I" } : Jvm.MethodName) prog_15_method_45_code (3 : Nat) (Option.some Jvm.ClassFile.FieldType.int)) ∈ lw_all := lw_g (lw_at lw_m7 213 rfl) rfl
theorem q1727 : (Jvm.Cond.methodLink "SpoilMeadowsModel" (135 : Nat) ({ cls := "SpoilMeadowsModel", name := "stopsFor", desc := "(II)I" } : Jvm.MethodName)) ∈ lw_all := lw_g (lw_at lw_m7 214 rfl) rfl
theorem q1728 : (Jvm.Cond.privateMethod ({ cls := "SpoilMeadowsModel", name := "stopsFor", desc := "(II)I" } : Jvm.MethodName)) ∈ lw_tbl := lw_at lw_m7 215 rfl
theorem q1729 : (Jvm.Cond.instanceMethod ({ cls := "SpoilMeadowsModel", name := "stopsFor", desc := "(II)I" } : Jvm.MethodName)) ∈ lw_all := lw_g (lw_at lw_m7 216 rfl) rfl
theorem q1730 : (Jvm.Cond.code ({ cls := "SpoilMeadowsModel", name := "stopsFor", desc := "(II)I" } : Jvm.MethodName) prog_15_method_44_code (5 : Nat) (Option.some Jvm.ClassFile.FieldType.int)) ∈ lw_all := lw_g (lw_at lw_m7 217 rfl) rfl
theorem q1731 : (Jvm.Cond.methodLink "SpoilMeadowsModel" (132 : Nat) ({ cls := "SpoilMeadowsModel", name := "stoppedFor", desc := "(I)I" } : Jvm.MethodName)) ∈ lw_all := lw_g (lw_at lw_m7 218 rfl) rfl
theorem q1732 : (Jvm.Cond.privateMethod ({ cls := "SpoilMeadowsModel", name := "stoppedFor", desc := "(I)I" } : Jvm.MethodName)) ∈ lw_tbl := lw_at lw_m7 219 rfl
theorem q1733 : (Jvm.Cond.instanceMethod ({ cls := "SpoilMeadowsModel", name := "stoppedFor", desc := "(I)I" } : Jvm.MethodName)) ∈ lw_all := lw_g (lw_at lw_m7 220 rfl) rfl
theorem q1734 : (Jvm.Cond.code ({ cls := "SpoilMeadowsModel", name := "stoppedFor", desc := "(I)I" } : Jvm.MethodName) prog_15_method_43_code (2 : Nat) (Option.some Jvm.ClassFile.FieldType.int)) ∈ lw_all := lw_g (lw_at lw_m7 221 rfl) rfl
theorem q1735 : (Jvm.Cond.methodLink "SpoilMeadowsModel" (65 : Nat) ({ cls := "SpoilMeadowsModel", name := "isStopped", desc := "([II)Z" } : Jvm.MethodName)) ∈ lw_all := lw_g (lw_at lw_m7 222 rfl) rfl
theorem q1736 : (Jvm.Cond.static ({ cls := "SpoilMeadowsModel", name := "isStopped", desc := "([II)Z" } : Jvm.MethodName)) ∈ lw_all := lw_g (lw_at lw_m7 223 rfl) rfl
theorem q1737 : (Jvm.Cond.code ({ cls := "SpoilMeadowsModel", name := "isStopped", desc := "([II)Z" } : Jvm.MethodName) prog_15_method_16_code (2 : Nat) (Option.some Jvm.ClassFile.FieldType.boolean)) ∈ lw_all := lw_g (lw_at lw_m7 224 rfl) rfl
theorem q1739 : (Jvm.Cond.instanceMethod ({ cls := "SpoilMeadowsModel", name := "shift", desc := "(II)I" } : Jvm.MethodName)) ∈ lw_all := lw_g (lw_at lw_m7 226 rfl) rfl
theorem q1740 : (Jvm.Cond.selects "SpoilMeadowsModel" ({ cls := "SpoilMeadowsModel", name := "shift", desc := "(II)I" } : Jvm.MethodName) ({ cls := "SpoilMeadowsModel", name := "shift", desc := "(II)I" } : Jvm.MethodName)) ∈ lw_all := lw_g (lw_at lw_m7 227 rfl) rfl
theorem q1741 : (Jvm.Cond.code ({ cls := "SpoilMeadowsModel", name := "shift", desc := "(II)I" } : Jvm.MethodName) prog_15_method_46_code (3 : Nat) (Option.some Jvm.ClassFile.FieldType.int)) ∈ lw_all := lw_g (lw_at lw_m7 228 rfl) rfl
theorem q1743 : (Jvm.Cond.instanceMethod ({ cls := "SpoilMeadowsModel", name := "pass", desc := "(I)I" } : Jvm.MethodName)) ∈ lw_all := lw_g (lw_at lw_m7 230 rfl) rfl
theorem q1744 : (Jvm.Cond.selects "SpoilMeadowsModel" ({ cls := "SpoilMeadowsModel", name := "pass", desc := "(I)I" } : Jvm.MethodName) ({ cls := "SpoilMeadowsModel", name := "pass", desc := "(I)I" } : Jvm.MethodName)) ∈ lw_all := lw_g (lw_at lw_m7 231 rfl) rfl
theorem q1745 : (Jvm.Cond.code ({ cls := "SpoilMeadowsModel", name := "pass", desc := "(I)I" } : Jvm.MethodName) prog_15_method_48_code (3 : Nat) (Option.some Jvm.ClassFile.FieldType.int)) ∈ lw_all := lw_g (lw_at lw_m7 232 rfl) rfl
theorem q1746 : (Jvm.Cond.methodLink "SpoilMeadowsModel" (138 : Nat) ({ cls := "SpoilMeadowsModel", name := "mayPass", desc := "(I)Z" } : Jvm.MethodName)) ∈ lw_all := lw_g (lw_at lw_m7 233 rfl) rfl
theorem q1747 : (Jvm.Cond.privateMethod ({ cls := "SpoilMeadowsModel", name := "mayPass", desc := "(I)Z" } : Jvm.MethodName)) ∈ lw_tbl := lw_at lw_m7 234 rfl
theorem q1748 : (Jvm.Cond.instanceMethod ({ cls := "SpoilMeadowsModel", name := "mayPass", desc := "(I)Z" } : Jvm.MethodName)) ∈ lw_all := lw_g (lw_at lw_m7 235 rfl) rfl
theorem q1749 : (Jvm.Cond.code ({ cls := "SpoilMeadowsModel", name := "mayPass", desc := "(I)Z" } : Jvm.MethodName) prog_15_method_47_code (2 : Nat) (Option.some Jvm.ClassFile.FieldType.boolean)) ∈ lw_all := lw_g (lw_at lw_m7 236 rfl) rfl
theorem q1750 : (Jvm.Cond.methodLink "SpoilMeadowsModel" (141 : Nat) ({ cls := "SpoilMeadowsModel", name := "onMeadows", desc := "([I)I" } : Jvm.MethodName)) ∈ lw_all := lw_g (lw_at lw_m7 237 rfl) rfl
theorem q1751 : (Jvm.Cond.static ({ cls := "SpoilMeadowsModel", name := "onMeadows", desc := "([I)I" } : Jvm.MethodName)) ∈ lw_all := lw_g (lw_at lw_m7 238 rfl) rfl
theorem q1752 : (Jvm.Cond.code ({ cls := "SpoilMeadowsModel", name := "onMeadows", desc := "([I)I" } : Jvm.MethodName) prog_15_method_34_code (3 : Nat) (Option.some Jvm.ClassFile.FieldType.int)) ∈ lw_all := lw_g (lw_at lw_m7 239 rfl) rfl
theorem q1753 : (Jvm.Cond.methodLink "SpoilMeadowsModel" (144 : Nat) ({ cls := "SpoilMeadowsModel", name := "days", desc := "([II)V" } : Jvm.MethodName)) ∈ lw_all := lw_g (lw_at lw_m8 0 rfl) rfl
theorem q1754 : (Jvm.Cond.privateMethod ({ cls := "SpoilMeadowsModel", name := "days", desc := "([II)V" } : Jvm.MethodName)) ∈ lw_tbl := lw_at lw_m8 1 rfl
theorem q1755 : (Jvm.Cond.instanceMethod ({ cls := "SpoilMeadowsModel", name := "days", desc := "([II)V" } : Jvm.MethodName)) ∈ lw_all := lw_g (lw_at lw_m8 2 rfl) rfl
theorem q1756 : (Jvm.Cond.code ({ cls := "SpoilMeadowsModel", name := "days", desc := "([II)V" } : Jvm.MethodName) prog_15_method_31_code (4 : Nat) (Option.none : Option Jvm.ClassFile.FieldType)) ∈ lw_all := lw_g (lw_at lw_m8 3 rfl) rfl
theorem q1757 : (Jvm.Cond.methodLink "SpoilMeadowsModel" (114 : Nat) ({ cls := "SpoilMeadowsModel", name := "day", desc := "([I)V" } : Jvm.MethodName)) ∈ lw_all := lw_g (lw_at lw_m8 4 rfl) rfl
theorem q1758 : (Jvm.Cond.privateMethod ({ cls := "SpoilMeadowsModel", name := "day", desc := "([I)V" } : Jvm.MethodName)) ∈ lw_tbl := lw_at lw_m8 5 rfl
theorem q1759 : (Jvm.Cond.instanceMethod ({ cls := "SpoilMeadowsModel", name := "day", desc := "([I)V" } : Jvm.MethodName)) ∈ lw_all := lw_g (lw_at lw_m8 6 rfl) rfl
theorem q1760 : (Jvm.Cond.code ({ cls := "SpoilMeadowsModel", name := "day", desc := "([I)V" } : Jvm.MethodName) prog_15_method_30_code (6 : Nat) (Option.none : Option Jvm.ClassFile.FieldType)) ∈ lw_all := lw_g (lw_at lw_m8 7 rfl) rfl
theorem q1761 : (Jvm.Cond.methodLink "SpoilMeadowsModel" (91 : Nat) ({ cls := "SpoilMeadowsModel", name := "dries", desc := "([II)V" } : Jvm.MethodName)) ∈ lw_all := lw_g (lw_at lw_m8 8 rfl) rfl
theorem q1762 : (Jvm.Cond.static ({ cls := "SpoilMeadowsModel", name := "dries", desc := "([II)V" } : Jvm.MethodName)) ∈ lw_all := lw_g (lw_at lw_m8 9 rfl) rfl
theorem q1763 : (Jvm.Cond.code ({ cls := "SpoilMeadowsModel", name := "dries", desc := "([II)V" } : Jvm.MethodName) prog_15_method_23_code (4 : Nat) (Option.none : Option Jvm.ClassFile.FieldType)) ∈ lw_all := lw_g (lw_at lw_m8 10 rfl) rfl
theorem q1764 : (Jvm.Cond.methodLink "SpoilMeadowsModel" (95 : Nat) ({ cls := "SpoilMeadowsModel", name := "comesNearer", desc := "([II)V" } : Jvm.MethodName)) ∈ lw_all := lw_g (lw_at lw_m8 11 rfl) rfl
theorem q1765 : (Jvm.Cond.static ({ cls := "SpoilMeadowsModel", name := "comesNearer", desc := "([II)V" } : Jvm.MethodName)) ∈ lw_all := lw_g (lw_at lw_m8 12 rfl) rfl
theorem q1766 : (Jvm.Cond.code ({ cls := "SpoilMeadowsModel", name := "comesNearer", desc := "([II)V" } : Jvm.MethodName) prog_15_method_24_code (4 : Nat) (Option.none : Option Jvm.ClassFile.FieldType)) ∈ lw_all := lw_g (lw_at lw_m8 13 rfl) rfl
theorem q1767 : (Jvm.Cond.methodLink "SpoilMeadowsModel" (58 : Nat) ({ cls := "SpoilMeadowsModel", name := "bargeIn", desc := "([III)I" } : Jvm.MethodName)) ∈ lw_all := lw_g (lw_at lw_m8 14 rfl) rfl
theorem q1768 : (Jvm.Cond.static ({ cls := "SpoilMeadowsModel", name := "bargeIn", desc := "([III)I" } : Jvm.MethodName)) ∈ lw_all := lw_g (lw_at lw_m8 15 rfl) rfl
theorem q1769 : (Jvm.Cond.code ({ cls := "SpoilMeadowsModel", name := "bargeIn", desc := "([III)I" } : Jvm.MethodName) prog_15_method_8_code (3 : Nat) (Option.some Jvm.ClassFile.FieldType.int)) ∈ lw_all := lw_g (lw_at lw_m8 16 rfl) rfl
theorem q1770 : (Jvm.Cond.methodLink "SpoilMeadowsModel" (98 : Nat) ({ cls := "SpoilMeadowsModel", name := "lays", desc := "([III)I" } : Jvm.MethodName)) ∈ lw_all := lw_g (lw_at lw_m8 17 rfl) rfl
theorem q1771 : (Jvm.Cond.static ({ cls := "SpoilMeadowsModel", name := "lays", desc := "([III)I" } : Jvm.MethodName)) ∈ lw_all := lw_g (lw_at lw_m8 18 rfl) rfl
theorem q1772 : (Jvm.Cond.code ({ cls := "SpoilMeadowsModel", name := "lays", desc := "([III)I" } : Jvm.MethodName) prog_15_method_25_code (8 : Nat) (Option.some Jvm.ClassFile.FieldType.int)) ∈ lw_all := lw_g (lw_at lw_m8 19 rfl) rfl
theorem q1773 : (Jvm.Cond.methodLink "SpoilMeadowsModel" (78 : Nat) ({ cls := "SpoilMeadowsModel", name := "isOpen", desc := "([II)Z" } : Jvm.MethodName)) ∈ lw_all := lw_g (lw_at lw_m8 20 rfl) rfl
theorem q1774 : (Jvm.Cond.static ({ cls := "SpoilMeadowsModel", name := "isOpen", desc := "([II)Z" } : Jvm.MethodName)) ∈ lw_all := lw_g (lw_at lw_m8 21 rfl) rfl
theorem q1775 : (Jvm.Cond.code ({ cls := "SpoilMeadowsModel", name := "isOpen", desc := "([II)Z" } : Jvm.MethodName) prog_15_method_21_code (2 : Nat) (Option.some Jvm.ClassFile.FieldType.boolean)) ∈ lw_all := lw_g (lw_at lw_m8 22 rfl) rfl
theorem q1776 : (Jvm.Cond.methodLink "SpoilMeadowsModel" (75 : Nat) ({ cls := "SpoilMeadowsModel", name := "isTooWet", desc := "([II)Z" } : Jvm.MethodName)) ∈ lw_all := lw_g (lw_at lw_m8 23 rfl) rfl
theorem q1777 : (Jvm.Cond.static ({ cls := "SpoilMeadowsModel", name := "isTooWet", desc := "([II)Z" } : Jvm.MethodName)) ∈ lw_all := lw_g (lw_at lw_m8 24 rfl) rfl
theorem q1778 : (Jvm.Cond.code ({ cls := "SpoilMeadowsModel", name := "isTooWet", desc := "([II)Z" } : Jvm.MethodName) prog_15_method_17_code (2 : Nat) (Option.some Jvm.ClassFile.FieldType.boolean)) ∈ lw_all := lw_g (lw_at lw_m8 25 rfl) rfl
theorem q1779 : (Jvm.Cond.methodLink "SpoilMeadowsModel" (72 : Nat) ({ cls := "SpoilMeadowsModel", name := "way", desc := "([II)I" } : Jvm.MethodName)) ∈ lw_all := lw_g (lw_at lw_m8 26 rfl) rfl
theorem q1780 : (Jvm.Cond.static ({ cls := "SpoilMeadowsModel", name := "way", desc := "([II)I" } : Jvm.MethodName)) ∈ lw_all := lw_g (lw_at lw_m8 27 rfl) rfl
theorem q1781 : (Jvm.Cond.code ({ cls := "SpoilMeadowsModel", name := "way", desc := "([II)I" } : Jvm.MethodName) prog_15_method_18_code (3 : Nat) (Option.some Jvm.ClassFile.FieldType.int)) ∈ lw_all := lw_g (lw_at lw_m8 28 rfl) rfl
theorem q1782 : (Jvm.Cond.methodLink "SpoilMeadowsModel" (101 : Nat) ({ cls := "SpoilMeadowsModel", name := "raises", desc := "([III)I" } : Jvm.MethodName)) ∈ lw_all := lw_g (lw_at lw_m8 29 rfl) rfl
theorem q1783 : (Jvm.Cond.static ({ cls := "SpoilMeadowsModel", name := "raises", desc := "([III)I" } : Jvm.MethodName)) ∈ lw_all := lw_g (lw_at lw_m8 30 rfl) rfl
theorem q1784 : (Jvm.Cond.code ({ cls := "SpoilMeadowsModel", name := "raises", desc := "([III)I" } : Jvm.MethodName) prog_15_method_26_code (5 : Nat) (Option.some Jvm.ClassFile.FieldType.int)) ∈ lw_all := lw_g (lw_at lw_m8 31 rfl) rfl
theorem q1785 : (Jvm.Cond.methodLink "SpoilMeadowsModel" (81 : Nat) ({ cls := "SpoilMeadowsModel", name := "siltIn", desc := "([I)I" } : Jvm.MethodName)) ∈ lw_all := lw_g (lw_at lw_m8 32 rfl) rfl
theorem q1786 : (Jvm.Cond.static ({ cls := "SpoilMeadowsModel", name := "siltIn", desc := "([I)I" } : Jvm.MethodName)) ∈ lw_all := lw_g (lw_at lw_m8 33 rfl) rfl
theorem q1787 : (Jvm.Cond.code ({ cls := "SpoilMeadowsModel", name := "siltIn", desc := "([I)I" } : Jvm.MethodName) prog_15_method_22_code (1 : Nat) (Option.some Jvm.ClassFile.FieldType.int)) ∈ lw_all := lw_g (lw_at lw_m8 34 rfl) rfl
theorem q1788 : (Jvm.Cond.methodLink "SpoilMeadowsModel" (108 : Nat) ({ cls := "SpoilMeadowsModel", name := "wantsToGo", desc := "([II)Z" } : Jvm.MethodName)) ∈ lw_all := lw_g (lw_at lw_m8 35 rfl) rfl
theorem q1789 : (Jvm.Cond.static ({ cls := "SpoilMeadowsModel", name := "wantsToGo", desc := "([II)Z" } : Jvm.MethodName)) ∈ lw_all := lw_g (lw_at lw_m8 36 rfl) rfl
theorem q1790 : (Jvm.Cond.code ({ cls := "SpoilMeadowsModel", name := "wantsToGo", desc := "([II)Z" } : Jvm.MethodName) prog_15_method_27_code (3 : Nat) (Option.some Jvm.ClassFile.FieldType.boolean)) ∈ lw_all := lw_g (lw_at lw_m8 37 rfl) rfl
theorem q1791 : (Jvm.Cond.methodLink "SpoilMeadowsModel" (111 : Nat) ({ cls := "SpoilMeadowsModel", name := "goes", desc := "([II)V" } : Jvm.MethodName)) ∈ lw_all := lw_g (lw_at lw_m8 38 rfl) rfl
theorem q1792 : (Jvm.Cond.static ({ cls := "SpoilMeadowsModel", name := "goes", desc := "([II)V" } : Jvm.MethodName)) ∈ lw_all := lw_g (lw_at lw_m8 39 rfl) rfl
theorem q1793 : (Jvm.Cond.code ({ cls := "SpoilMeadowsModel", name := "goes", desc := "([II)V" } : Jvm.MethodName) prog_15_method_29_code (4 : Nat) (Option.none : Option Jvm.ClassFile.FieldType)) ∈ lw_all := lw_g (lw_at lw_m8 40 rfl) rfl
theorem q1794 : (Jvm.Cond.methodLink "SpoilMeadowsModel" (88 : Nat) ({ cls := "SpoilMeadowsModel", name := "goal", desc := "([II)I" } : Jvm.MethodName)) ∈ lw_all := lw_g (lw_at lw_m8 41 rfl) rfl
theorem q1795 : (Jvm.Cond.static ({ cls := "SpoilMeadowsModel", name := "goal", desc := "([II)I" } : Jvm.MethodName)) ∈ lw_all := lw_g (lw_at lw_m8 42 rfl) rfl
theorem q1796 : (Jvm.Cond.code ({ cls := "SpoilMeadowsModel", name := "goal", desc := "([II)I" } : Jvm.MethodName) prog_15_method_28_code (2 : Nat) (Option.some Jvm.ClassFile.FieldType.int)) ∈ lw_all := lw_g (lw_at lw_m8 43 rfl) rfl
theorem q1797 : (Jvm.Cond.methodLink "SpoilMeadowsModel" (85 : Nat) ({ cls := "SpoilMeadowsModel", name := "bestOf", desc := "([I)I" } : Jvm.MethodName)) ∈ lw_all := lw_g (lw_at lw_m8 44 rfl) rfl
theorem q1798 : (Jvm.Cond.static ({ cls := "SpoilMeadowsModel", name := "bestOf", desc := "([I)I" } : Jvm.MethodName)) ∈ lw_all := lw_g (lw_at lw_m8 45 rfl) rfl
theorem q1799 : (Jvm.Cond.code ({ cls := "SpoilMeadowsModel", name := "bestOf", desc := "([I)I" } : Jvm.MethodName) prog_15_method_20_code (4 : Nat) (Option.some Jvm.ClassFile.FieldType.int)) ∈ lw_all := lw_g (lw_at lw_m8 46 rfl) rfl
theorem q1800 : (Jvm.Cond.methodLink "SpoilMeadowsModel" (68 : Nat) ({ cls := "SpoilMeadowsModel", name := "room", desc := "([II)I" } : Jvm.MethodName)) ∈ lw_all := lw_g (lw_at lw_m8 47 rfl) rfl
theorem q1801 : (Jvm.Cond.static ({ cls := "SpoilMeadowsModel", name := "room", desc := "([II)I" } : Jvm.MethodName)) ∈ lw_all := lw_g (lw_at lw_m8 48 rfl) rfl
theorem q1802 : (Jvm.Cond.code ({ cls := "SpoilMeadowsModel", name := "room", desc := "([II)I" } : Jvm.MethodName) prog_15_method_19_code (4 : Nat) (Option.some Jvm.ClassFile.FieldType.int)) ∈ lw_all := lw_g (lw_at lw_m8 49 rfl) rfl
theorem q1804 : (Jvm.Cond.instanceMethod ({ cls := "SpoilMeadowsModel", name := "set", desc := "(II)I" } : Jvm.MethodName)) ∈ lw_all := lw_g (lw_at lw_m8 51 rfl) rfl
theorem q1805 : (Jvm.Cond.selects "SpoilMeadowsModel" ({ cls := "SpoilMeadowsModel", name := "set", desc := "(II)I" } : Jvm.MethodName) ({ cls := "SpoilMeadowsModel", name := "set", desc := "(II)I" } : Jvm.MethodName)) ∈ lw_all := lw_g (lw_at lw_m8 52 rfl) rfl
theorem q1806 : (Jvm.Cond.code ({ cls := "SpoilMeadowsModel", name := "set", desc := "(II)I" } : Jvm.MethodName) prog_15_method_50_code (3 : Nat) (Option.some Jvm.ClassFile.FieldType.int)) ∈ lw_all := lw_g (lw_at lw_m8 53 rfl) rfl
theorem q1807 : (Jvm.Cond.methodLink "SpoilMeadowsModel" (147 : Nat) ({ cls := "SpoilMeadowsModel", name := "isFor", desc := "(II)Z" } : Jvm.MethodName)) ∈ lw_all := lw_g (lw_at lw_m8 54 rfl) rfl
theorem q1808 : (Jvm.Cond.static ({ cls := "SpoilMeadowsModel", name := "isFor", desc := "(II)Z" } : Jvm.MethodName)) ∈ lw_all := lw_g (lw_at lw_m8 55 rfl) rfl
theorem q1809 : (Jvm.Cond.code ({ cls := "SpoilMeadowsModel", name := "isFor", desc := "(II)Z" } : Jvm.MethodName) prog_15_method_49_code (2 : Nat) (Option.some Jvm.ClassFile.FieldType.boolean)) ∈ lw_all := lw_g (lw_at lw_m8 56 rfl) rfl
theorem q1811 : (Jvm.Cond.instanceMethod ({ cls := "SpoilMeadowsModel", name := "append", desc := "(I)I" } : Jvm.MethodName)) ∈ lw_all := lw_g (lw_at lw_m8 58 rfl) rfl
theorem q1812 : (Jvm.Cond.selects "SpoilMeadowsModel" ({ cls := "SpoilMeadowsModel", name := "append", desc := "(I)I" } : Jvm.MethodName) ({ cls := "SpoilMeadowsModel", name := "append", desc := "(I)I" } : Jvm.MethodName)) ∈ lw_all := lw_g (lw_at lw_m8 59 rfl) rfl
theorem q1813 : (Jvm.Cond.code ({ cls := "SpoilMeadowsModel", name := "append", desc := "(I)I" } : Jvm.MethodName) prog_15_method_51_code (2 : Nat) (Option.some Jvm.ClassFile.FieldType.int)) ∈ lw_all := lw_g (lw_at lw_m8 60 rfl) rfl
theorem q1815 : (Jvm.Cond.instanceMethod ({ cls := "SpoilMeadowsModel", name := "clearBuffer", desc := "()I" } : Jvm.MethodName)) ∈ lw_all := lw_g (lw_at lw_m8 62 rfl) rfl
theorem q1816 : (Jvm.Cond.selects "SpoilMeadowsModel" ({ cls := "SpoilMeadowsModel", name := "clearBuffer", desc := "()I" } : Jvm.MethodName) ({ cls := "SpoilMeadowsModel", name := "clearBuffer", desc := "()I" } : Jvm.MethodName)) ∈ lw_all := lw_g (lw_at lw_m8 63 rfl) rfl
theorem q1817 : (Jvm.Cond.code ({ cls := "SpoilMeadowsModel", name := "clearBuffer", desc := "()I" } : Jvm.MethodName) prog_15_method_52_code (2 : Nat) (Option.some Jvm.ClassFile.FieldType.int)) ∈ lw_all := lw_g (lw_at lw_m8 64 rfl) rfl
theorem q1819 : (Jvm.Cond.instanceMethod ({ cls := "SpoilMeadowsModel", name := "firstError", desc := "()I" } : Jvm.MethodName)) ∈ lw_all := lw_g (lw_at lw_m8 66 rfl) rfl
theorem q1820 : (Jvm.Cond.selects "SpoilMeadowsModel" ({ cls := "SpoilMeadowsModel", name := "firstError", desc := "()I" } : Jvm.MethodName) ({ cls := "SpoilMeadowsModel", name := "firstError", desc := "()I" } : Jvm.MethodName)) ∈ lw_all := lw_g (lw_at lw_m8 67 rfl) rfl
theorem q1821 : (Jvm.Cond.code ({ cls := "SpoilMeadowsModel", name := "firstError", desc := "()I" } : Jvm.MethodName) prog_15_method_61_code (2 : Nat) (Option.some Jvm.ClassFile.FieldType.int)) ∈ lw_all := lw_g (lw_at lw_m8 68 rfl) rfl
theorem q1822 : (Jvm.Cond.methodLink "SpoilMeadowsModel" (188 : Nat) ({ cls := "SpoilMeadowsModel", name := "isText", desc := "()Z" } : Jvm.MethodName)) ∈ lw_all := lw_g (lw_at lw_m8 69 rfl) rfl
theorem q1823 : (Jvm.Cond.privateMethod ({ cls := "SpoilMeadowsModel", name := "isText", desc := "()Z" } : Jvm.MethodName)) ∈ lw_tbl := lw_at lw_m8 70 rfl
theorem q1824 : (Jvm.Cond.instanceMethod ({ cls := "SpoilMeadowsModel", name := "isText", desc := "()Z" } : Jvm.MethodName)) ∈ lw_all := lw_g (lw_at lw_m8 71 rfl) rfl
theorem q1825 : (Jvm.Cond.code ({ cls := "SpoilMeadowsModel", name := "isText", desc := "()Z" } : Jvm.MethodName) prog_15_method_60_code (2 : Nat) (Option.some Jvm.ClassFile.FieldType.boolean)) ∈ lw_all := lw_g (lw_at lw_m8 72 rfl) rfl
theorem q1826 : (Jvm.Cond.methodLink "SpoilMeadowsModel" (185 : Nat) ({ cls := "SpoilMeadowsModel", name := "isPart", desc := "()Z" } : Jvm.MethodName)) ∈ lw_all := lw_g (lw_at lw_m8 73 rfl) rfl
theorem q1827 : (Jvm.Cond.privateMethod ({ cls := "SpoilMeadowsModel", name := "isPart", desc := "()Z" } : Jvm.MethodName)) ∈ lw_tbl := lw_at lw_m8 74 rfl
theorem q1828 : (Jvm.Cond.instanceMethod ({ cls := "SpoilMeadowsModel", name := "isPart", desc := "()Z" } : Jvm.MethodName)) ∈ lw_all := lw_g (lw_at lw_m8 75 rfl) rfl
theorem q1829 : (Jvm.Cond.code ({ cls := "SpoilMeadowsModel", name := "isPart", desc := "()Z" } : Jvm.MethodName) prog_15_method_59_code (2 : Nat) (Option.some Jvm.ClassFile.FieldType.boolean)) ∈ lw_all := lw_g (lw_at lw_m8 76 rfl) rfl
theorem q1830 : (Jvm.Cond.methodLink "SpoilMeadowsModel" (179 : Nat) ({ cls := "SpoilMeadowsModel", name := "isToldOrder", desc := "()Z" } : Jvm.MethodName)) ∈ lw_all := lw_g (lw_at lw_m8 77 rfl) rfl
theorem q1831 : (Jvm.Cond.privateMethod ({ cls := "SpoilMeadowsModel", name := "isToldOrder", desc := "()Z" } : Jvm.MethodName)) ∈ lw_tbl := lw_at lw_m8 78 rfl
theorem q1832 : (Jvm.Cond.instanceMethod ({ cls := "SpoilMeadowsModel", name := "isToldOrder", desc := "()Z" } : Jvm.MethodName)) ∈ lw_all := lw_g (lw_at lw_m8 79 rfl) rfl
theorem q1833 : (Jvm.Cond.code ({ cls := "SpoilMeadowsModel", name := "isToldOrder", desc := "()Z" } : Jvm.MethodName) prog_15_method_57_code (1 : Nat) (Option.some Jvm.ClassFile.FieldType.boolean)) ∈ lw_all := lw_g (lw_at lw_m8 80 rfl) rfl
theorem q1834 : (Jvm.Cond.methodLink "SpoilMeadowsModel" (173 : Nat) ({ cls := "SpoilMeadowsModel", name := "isDigit", desc := "(II)Z" } : Jvm.MethodName)) ∈ lw_all := lw_g (lw_at lw_m8 81 rfl) rfl
theorem q1835 : (Jvm.Cond.privateMethod ({ cls := "SpoilMeadowsModel", name := "isDigit", desc := "(II)Z" } : Jvm.MethodName)) ∈ lw_tbl := lw_at lw_m8 82 rfl
theorem q1836 : (Jvm.Cond.instanceMethod ({ cls := "SpoilMeadowsModel", name := "isDigit", desc := "(II)Z" } : Jvm.MethodName)) ∈ lw_all := lw_g (lw_at lw_m8 83 rfl) rfl
theorem q1837 : (Jvm.Cond.code ({ cls := "SpoilMeadowsModel", name := "isDigit", desc := "(II)Z" } : Jvm.MethodName) prog_15_method_55_code (3 : Nat) (Option.some Jvm.ClassFile.FieldType.boolean)) ∈ lw_all := lw_g (lw_at lw_m8 84 rfl) rfl
theorem q1838 : (Jvm.Cond.methodLink "SpoilMeadowsModel" (160 : Nat) ({ cls := "SpoilMeadowsModel", name := "isAt", desc := "(II)Z" } : Jvm.MethodName)) ∈ lw_all := lw_g (lw_at lw_m8 85 rfl) rfl
theorem q1839 : (Jvm.Cond.privateMethod ({ cls := "SpoilMeadowsModel", name := "isAt", desc := "(II)Z" } : Jvm.MethodName)) ∈ lw_tbl := lw_at lw_m8 86 rfl
theorem q1840 : (Jvm.Cond.instanceMethod ({ cls := "SpoilMeadowsModel", name := "isAt", desc := "(II)Z" } : Jvm.MethodName)) ∈ lw_all := lw_g (lw_at lw_m8 87 rfl) rfl
theorem q1841 : (Jvm.Cond.code ({ cls := "SpoilMeadowsModel", name := "isAt", desc := "(II)Z" } : Jvm.MethodName) prog_15_method_53_code (3 : Nat) (Option.some Jvm.ClassFile.FieldType.boolean)) ∈ lw_all := lw_g (lw_at lw_m8 88 rfl) rfl
theorem q1842 : (Jvm.Cond.methodLink "SpoilMeadowsModel" (163 : Nat) ({ cls := "SpoilMeadowsModel", name := "stops", desc := "()Z" } : Jvm.MethodName)) ∈ lw_all := lw_g (lw_at lw_m8 89 rfl) rfl
theorem q1843 : (Jvm.Cond.privateMethod ({ cls := "SpoilMeadowsModel", name := "stops", desc := "()Z" } : Jvm.MethodName)) ∈ lw_tbl := lw_at lw_m8 90 rfl
theorem q1844 : (Jvm.Cond.instanceMethod ({ cls := "SpoilMeadowsModel", name := "stops", desc := "()Z" } : Jvm.MethodName)) ∈ lw_all := lw_g (lw_at lw_m8 91 rfl) rfl
theorem q1845 : (Jvm.Cond.code ({ cls := "SpoilMeadowsModel", name := "stops", desc := "()Z" } : Jvm.MethodName) prog_15_method_54_code (1 : Nat) (Option.some Jvm.ClassFile.FieldType.boolean)) ∈ lw_all := lw_g (lw_at lw_m8 92 rfl) rfl
theorem q1846 : (Jvm.Cond.methodLink "SpoilMeadowsModel" (182 : Nat) ({ cls := "SpoilMeadowsModel", name := "isComplaint", desc := "()Z" } : Jvm.MethodName)) ∈ lw_all := lw_g (lw_at lw_m8 93 rfl) rfl
theorem q1847 : (Jvm.Cond.privateMethod ({ cls := "SpoilMeadowsModel", name := "isComplaint", desc := "()Z" } : Jvm.MethodName)) ∈ lw_tbl := lw_at lw_m8 94 rfl
theorem q1848 : (Jvm.Cond.instanceMethod ({ cls := "SpoilMeadowsModel", name := "isComplaint", desc := "()Z" } : Jvm.MethodName)) ∈ lw_all := lw_g (lw_at lw_m8 95 rfl) rfl
theorem q1849 : (Jvm.Cond.code ({ cls := "SpoilMeadowsModel", name := "isComplaint", desc := "()Z" } : Jvm.MethodName) prog_15_method_58_code (1 : Nat) (Option.some Jvm.ClassFile.FieldType.boolean)) ∈ lw_all := lw_g (lw_at lw_m8 96 rfl) rfl
theorem q1850 : (Jvm.Cond.methodLink "SpoilMeadowsModel" (176 : Nat) ({ cls := "SpoilMeadowsModel", name := "areDays", desc := "(I)Z" } : Jvm.MethodName)) ∈ lw_all := lw_g (lw_at lw_m8 97 rfl) rfl
theorem q1851 : (Jvm.Cond.privateMethod ({ cls := "SpoilMeadowsModel", name := "areDays", desc := "(I)Z" } : Jvm.MethodName)) ∈ lw_tbl := lw_at lw_m8 98 rfl
theorem q1852 : (Jvm.Cond.instanceMethod ({ cls := "SpoilMeadowsModel", name := "areDays", desc := "(I)Z" } : Jvm.MethodName)) ∈ lw_all := lw_g (lw_at lw_m8 99 rfl) rfl
theorem q1853 : (Jvm.Cond.code ({ cls := "SpoilMeadowsModel", name := "areDays", desc := "(I)Z" } : Jvm.MethodName) prog_15_method_56_code (2 : Nat) (Option.some Jvm.ClassFile.FieldType.boolean)) ∈ lw_all := lw_g (lw_at lw_m8 100 rfl) rfl
theorem q1855 : (Jvm.Cond.instanceMethod ({ cls := "SpoilMeadowsModel", name := "work", desc := "()I" } : Jvm.MethodName)) ∈ lw_all := lw_g (lw_at lw_m8 102 rfl) rfl
theorem q1856 : (Jvm.Cond.selects "SpoilMeadowsModel" ({ cls := "SpoilMeadowsModel", name := "work", desc := "()I" } : Jvm.MethodName) ({ cls := "SpoilMeadowsModel", name := "work", desc := "()I" } : Jvm.MethodName)) ∈ lw_all := lw_g (lw_at lw_m8 103 rfl) rfl
theorem q1857 : (Jvm.Cond.code ({ cls := "SpoilMeadowsModel", name := "work", desc := "()I" } : Jvm.MethodName) prog_15_method_63_code (2 : Nat) (Option.some Jvm.ClassFile.FieldType.int)) ∈ lw_all := lw_g (lw_at lw_m8 104 rfl) rfl
theorem q1858 : (Jvm.Cond.methodLink "SpoilMeadowsModel" (191 : Nat) ({ cls := "SpoilMeadowsModel", name := "does", desc := "(I)Z" } : Jvm.MethodName)) ∈ lw_all := lw_g (lw_at lw_m8 105 rfl) rfl
theorem q1859 : (Jvm.Cond.privateMethod ({ cls := "SpoilMeadowsModel", name := "does", desc := "(I)Z" } : Jvm.MethodName)) ∈ lw_tbl := lw_at lw_m8 106 rfl
theorem q1860 : (Jvm.Cond.instanceMethod ({ cls := "SpoilMeadowsModel", name := "does", desc := "(I)Z" } : Jvm.MethodName)) ∈ lw_all := lw_g (lw_at lw_m8 107 rfl) rfl
theorem q1861 : (Jvm.Cond.code ({ cls := "SpoilMeadowsModel", name := "does", desc := "(I)Z" } : Jvm.MethodName) prog_15_method_62_code (3 : Nat) (Option.some Jvm.ClassFile.FieldType.boolean)) ∈ lw_all := lw_g (lw_at lw_m8 108 rfl) rfl
theorem q1863 : (Jvm.Cond.instanceMethod ({ cls := "SpoilMeadowsModel", name := "reach", desc := "(II)I" } : Jvm.MethodName)) ∈ lw_all := lw_g (lw_at lw_m8 110 rfl) rfl
theorem q1864 : (Jvm.Cond.selects "SpoilMeadowsModel" ({ cls := "SpoilMeadowsModel", name := "reach", desc := "(II)I" } : Jvm.MethodName) ({ cls := "SpoilMeadowsModel", name := "reach", desc := "(II)I" } : Jvm.MethodName)) ∈ lw_all := lw_g (lw_at lw_m8 111 rfl) rfl
theorem q1865 : (Jvm.Cond.code ({ cls := "SpoilMeadowsModel", name := "reach", desc := "(II)I" } : Jvm.MethodName) prog_15_method_64_code (3 : Nat) (Option.some Jvm.ClassFile.FieldType.int)) ∈ lw_all := lw_g (lw_at lw_m8 112 rfl) rfl
theorem q1867 : (Jvm.Cond.instanceMethod ({ cls := "SpoilMeadowsModel", name := "bargeOf", desc := "(II)I" } : Jvm.MethodName)) ∈ lw_all := lw_g (lw_at lw_m8 114 rfl) rfl
theorem q1868 : (Jvm.Cond.selects "SpoilMeadowsModel" ({ cls := "SpoilMeadowsModel", name := "bargeOf", desc := "(II)I" } : Jvm.MethodName) ({ cls := "SpoilMeadowsModel", name := "bargeOf", desc := "(II)I" } : Jvm.MethodName)) ∈ lw_all := lw_g (lw_at lw_m8 115 rfl) rfl
theorem q1869 : (Jvm.Cond.code ({ cls := "SpoilMeadowsModel", name := "bargeOf", desc := "(II)I" } : Jvm.MethodName) prog_15_method_67_code (3 : Nat) (Option.some Jvm.ClassFile.FieldType.int)) ∈ lw_all := lw_g (lw_at lw_m8 116 rfl) rfl
theorem q1870 : (Jvm.Cond.methodLink "SpoilMeadowsModel" (197 : Nat) ({ cls := "SpoilMeadowsModel", name := "ofBarge", desc := "(II)I" } : Jvm.MethodName)) ∈ lw_all := lw_g (lw_at lw_m8 117 rfl) rfl
theorem q1871 : (Jvm.Cond.privateMethod ({ cls := "SpoilMeadowsModel", name := "ofBarge", desc := "(II)I" } : Jvm.MethodName)) ∈ lw_tbl := lw_at lw_m8 118 rfl
theorem q1872 : (Jvm.Cond.instanceMethod ({ cls := "SpoilMeadowsModel", name := "ofBarge", desc := "(II)I" } : Jvm.MethodName)) ∈ lw_all := lw_g (lw_at lw_m8 119 rfl) rfl
theorem q1873 : (Jvm.Cond.code ({ cls := "SpoilMeadowsModel", name := "ofBarge", desc := "(II)I" } : Jvm.MethodName) prog_15_method_66_code (3 : Nat) (Option.some Jvm.ClassFile.FieldType.int)) ∈ lw_all := lw_g (lw_at lw_m8 120 rfl) rfl
theorem q1874 : (Jvm.Cond.methodLink "SpoilMeadowsModel" (194 : Nat) ({ cls := "SpoilMeadowsModel", name := "reason", desc := "(I)I" } : Jvm.MethodName)) ∈ lw_all := lw_g (lw_at lw_m8 121 rfl) rfl
theorem q1875 : (Jvm.Cond.privateMethod ({ cls := "SpoilMeadowsModel", name := "reason", desc := "(I)I" } : Jvm.MethodName)) ∈ lw_tbl := lw_at lw_m8 122 rfl
theorem q1876 : (Jvm.Cond.instanceMethod ({ cls := "SpoilMeadowsModel", name := "reason", desc := "(I)I" } : Jvm.MethodName)) ∈ lw_all := lw_g (lw_at lw_m8 123 rfl) rfl
theorem q1877 : (Jvm.Cond.code ({ cls := "SpoilMeadowsModel", name := "reason", desc := "(I)I" } : Jvm.MethodName) prog_15_method_65_code (4 : Nat) (Option.some Jvm.ClassFile.FieldType.int)) ∈ lw_all := lw_g (lw_at lw_m8 124 rfl) rfl
theorem q1879 : (Jvm.Cond.instanceMethod ({ cls := "SpoilMeadowsModel", name := "meadow", desc := "(II)I" } : Jvm.MethodName)) ∈ lw_all := lw_g (lw_at lw_m8 126 rfl) rfl
theorem q1880 : (Jvm.Cond.selects "SpoilMeadowsModel" ({ cls := "SpoilMeadowsModel", name := "meadow", desc := "(II)I" } : Jvm.MethodName) ({ cls := "SpoilMeadowsModel", name := "meadow", desc := "(II)I" } : Jvm.MethodName)) ∈ lw_all := lw_g (lw_at lw_m8 127 rfl) rfl
theorem q1881 : (Jvm.Cond.code ({ cls := "SpoilMeadowsModel", name := "meadow", desc := "(II)I" } : Jvm.MethodName) prog_15_method_69_code (3 : Nat) (Option.some Jvm.ClassFile.FieldType.int)) ∈ lw_all := lw_g (lw_at lw_m8 128 rfl) rfl
theorem q1882 : (Jvm.Cond.methodLink "SpoilMeadowsModel" (200 : Nat) ({ cls := "SpoilMeadowsModel", name := "ofMeadow", desc := "(II)I" } : Jvm.MethodName)) ∈ lw_all := lw_g (lw_at lw_m8 129 rfl) rfl
theorem q1883 : (Jvm.Cond.privateMethod ({ cls := "SpoilMeadowsModel", name := "ofMeadow", desc := "(II)I" } : Jvm.MethodName)) ∈ lw_tbl := lw_at lw_m8 130 rfl
theorem q1884 : (Jvm.Cond.instanceMethod ({ cls := "SpoilMeadowsModel", name := "ofMeadow", desc := "(II)I" } : Jvm.MethodName)) ∈ lw_all := lw_g (lw_at lw_m8 131 rfl) rfl
theorem q1885 : (Jvm.Cond.code ({ cls := "SpoilMeadowsModel", name := "ofMeadow", desc := "(II)I" } : Jvm.MethodName) prog_15_method_68_code (3 : Nat) (Option.some Jvm.ClassFile.FieldType.int)) ∈ lw_all := lw_g (lw_at lw_m8 132 rfl) rfl
theorem q1887 : (Jvm.Cond.instanceMethod ({ cls := "SpoilMeadowsModel", name := "count", desc := "(I)I" } : Jvm.MethodName)) ∈ lw_all := lw_g (lw_at lw_m8 134 rfl) rfl
theorem q1888 : (Jvm.Cond.selects "SpoilMeadowsModel" ({ cls := "SpoilMeadowsModel", name := "count", desc := "(I)I" } : Jvm.MethodName) ({ cls := "SpoilMeadowsModel", name := "count", desc := "(I)I" } : Jvm.MethodName)) ∈ lw_all := lw_g (lw_at lw_m8 135 rfl) rfl
theorem q1889 : (Jvm.Cond.code ({ cls := "SpoilMeadowsModel", name := "count", desc := "(I)I" } : Jvm.MethodName) prog_15_method_72_code (2 : Nat) (Option.some Jvm.ClassFile.FieldType.int)) ∈ lw_all := lw_g (lw_at lw_m8 136 rfl) rfl
theorem q1890 : (Jvm.Cond.methodLink "SpoilMeadowsModel" (216 : Nat) ({ cls := "SpoilMeadowsModel", name := "counted", desc := "(I)I" } : Jvm.MethodName)) ∈ lw_all := lw_g (lw_at lw_m8 137 rfl) rfl
theorem q1891 : (Jvm.Cond.privateMethod ({ cls := "SpoilMeadowsModel", name := "counted", desc := "(I)I" } : Jvm.MethodName)) ∈ lw_tbl := lw_at lw_m8 138 rfl
theorem q1892 : (Jvm.Cond.instanceMethod ({ cls := "SpoilMeadowsModel", name := "counted", desc := "(I)I" } : Jvm.MethodName)) ∈ lw_all := lw_g (lw_at lw_m8 139 rfl) rfl
theorem q1893 : (Jvm.Cond.code ({ cls := "SpoilMeadowsModel", name := "counted", desc := "(I)I" } : Jvm.MethodName) prog_15_method_71_code (2 : Nat) (Option.some Jvm.ClassFile.FieldType.int)) ∈ lw_all := lw_g (lw_at lw_m8 140 rfl) rfl
theorem q1894 : (Jvm.Cond.methodLink "SpoilMeadowsModel" (203 : Nat) ({ cls := "SpoilMeadowsModel", name := "raised", desc := "([I)I" } : Jvm.MethodName)) ∈ lw_all := lw_g (lw_at lw_m8 141 rfl) rfl
theorem q1895 : (Jvm.Cond.static ({ cls := "SpoilMeadowsModel", name := "raised", desc := "([I)I" } : Jvm.MethodName)) ∈ lw_all := lw_g (lw_at lw_m8 142 rfl) rfl
theorem q1896 : (Jvm.Cond.code ({ cls := "SpoilMeadowsModel", name := "raised", desc := "([I)I" } : Jvm.MethodName) prog_15_method_32_code (3 : Nat) (Option.some Jvm.ClassFile.FieldType.int)) ∈ lw_all := lw_g (lw_at lw_m8 143 rfl) rfl
theorem q1897 : (Jvm.Cond.methodLink "SpoilMeadowsModel" (206 : Nat) ({ cls := "SpoilMeadowsModel", name := "ofBarges", desc := "([II)I" } : Jvm.MethodName)) ∈ lw_all := lw_g (lw_at lw_m8 144 rfl) rfl
theorem q1898 : (Jvm.Cond.static ({ cls := "SpoilMeadowsModel", name := "ofBarges", desc := "([II)I" } : Jvm.MethodName)) ∈ lw_all := lw_g (lw_at lw_m8 145 rfl) rfl
theorem q1899 : (Jvm.Cond.code ({ cls := "SpoilMeadowsModel", name := "ofBarges", desc := "([II)I" } : Jvm.MethodName) prog_15_method_35_code (4 : Nat) (Option.some Jvm.ClassFile.FieldType.int)) ∈ lw_all := lw_g (lw_at lw_m8 146 rfl) rfl
theorem q1900 : (Jvm.Cond.methodLink "SpoilMeadowsModel" (209 : Nat) ({ cls := "SpoilMeadowsModel", name := "allSilt", desc := "([I)I" } : Jvm.MethodName)) ∈ lw_all := lw_g (lw_at lw_m8 147 rfl) rfl
theorem q1901 : (Jvm.Cond.static ({ cls := "SpoilMeadowsModel", name := "allSilt", desc := "([I)I" } : Jvm.MethodName)) ∈ lw_all := lw_g (lw_at lw_m8 148 rfl) rfl
theorem q1902 : (Jvm.Cond.code ({ cls := "SpoilMeadowsModel", name := "allSilt", desc := "([I)I" } : Jvm.MethodName) prog_15_method_33_code (3 : Nat) (Option.some Jvm.ClassFile.FieldType.int)) ∈ lw_all := lw_g (lw_at lw_m8 149 rfl) rfl
theorem q1903 : (Jvm.Cond.methodLink "SpoilMeadowsModel" (212 : Nat) ({ cls := "SpoilMeadowsModel", name := "many", desc := "(Z)I" } : Jvm.MethodName)) ∈ lw_all := lw_g (lw_at lw_m8 150 rfl) rfl
theorem q1904 : (Jvm.Cond.privateMethod ({ cls := "SpoilMeadowsModel", name := "many", desc := "(Z)I" } : Jvm.MethodName)) ∈ lw_tbl := lw_at lw_m8 151 rfl
theorem q1905 : (Jvm.Cond.instanceMethod ({ cls := "SpoilMeadowsModel", name := "many", desc := "(Z)I" } : Jvm.MethodName)) ∈ lw_all := lw_g (lw_at lw_m8 152 rfl) rfl
theorem q1906 : (Jvm.Cond.code ({ cls := "SpoilMeadowsModel", name := "many", desc := "(Z)I" } : Jvm.MethodName) prog_15_method_70_code (4 : Nat) (Option.some Jvm.ClassFile.FieldType.int)) ∈ lw_all := lw_g (lw_at lw_m8 153 rfl) rfl
theorem q1908 : (Jvm.Cond.instanceMethod ({ cls := "SpoilMeadowsModel", name := "setting", desc := "(I)I" } : Jvm.MethodName)) ∈ lw_all := lw_g (lw_at lw_m8 155 rfl) rfl
theorem q1909 : (Jvm.Cond.selects "SpoilMeadowsModel" ({ cls := "SpoilMeadowsModel", name := "setting", desc := "(I)I" } : Jvm.MethodName) ({ cls := "SpoilMeadowsModel", name := "setting", desc := "(I)I" } : Jvm.MethodName)) ∈ lw_all := lw_g (lw_at lw_m8 156 rfl) rfl
theorem q1910 : (Jvm.Cond.code ({ cls := "SpoilMeadowsModel", name := "setting", desc := "(I)I" } : Jvm.MethodName) prog_15_method_73_code (2 : Nat) (Option.some Jvm.ClassFile.FieldType.int)) ∈ lw_all := lw_g (lw_at lw_m8 157 rfl) rfl
theorem q1912 : (Jvm.Cond.instanceMethod ({ cls := "SpoilMeadowsModel", name := "ifPassed", desc := "(II)I" } : Jvm.MethodName)) ∈ lw_all := lw_g (lw_at lw_m8 159 rfl) rfl
theorem q1913 : (Jvm.Cond.selects "SpoilMeadowsModel" ({ cls := "SpoilMeadowsModel", name := "ifPassed", desc := "(II)I" } : Jvm.MethodName) ({ cls := "SpoilMeadowsModel", name := "ifPassed", desc := "(II)I" } : Jvm.MethodName)) ∈ lw_all := lw_g (lw_at lw_m8 160 rfl) rfl
theorem q1914 : (Jvm.Cond.code ({ cls := "SpoilMeadowsModel", name := "ifPassed", desc := "(II)I" } : Jvm.MethodName) prog_15_method_75_code (3 : Nat) (Option.some Jvm.ClassFile.FieldType.int)) ∈ lw_all := lw_g (lw_at lw_m8 161 rfl) rfl
theorem q1915 : (Jvm.Cond.methodLink "SpoilMeadowsModel" (219 : Nat) ({ cls := "SpoilMeadowsModel", name := "byPassing", desc := "(III)I" } : Jvm.MethodName)) ∈ lw_all := lw_g (lw_at lw_m8 162 rfl) rfl
theorem q1916 : (Jvm.Cond.privateMethod ({ cls := "SpoilMeadowsModel", name := "byPassing", desc := "(III)I" } : Jvm.MethodName)) ∈ lw_tbl := lw_at lw_m8 163 rfl
theorem q1917 : (Jvm.Cond.instanceMethod ({ cls := "SpoilMeadowsModel", name := "byPassing", desc := "(III)I" } : Jvm.MethodName)) ∈ lw_all := lw_g (lw_at lw_m8 164 rfl) rfl
theorem q1918 : (Jvm.Cond.code ({ cls := "SpoilMeadowsModel", name := "byPassing", desc := "(III)I" } : Jvm.MethodName) prog_15_method_74_code (4 : Nat) (Option.some Jvm.ClassFile.FieldType.int)) ∈ lw_all := lw_g (lw_at lw_m8 165 rfl) rfl
theorem q1920 : (Jvm.Cond.instanceMethod ({ cls := "SpoilMeadowsModel", name := "best", desc := "()I" } : Jvm.MethodName)) ∈ lw_all := lw_g (lw_at lw_m8 167 rfl) rfl
theorem q1921 : (Jvm.Cond.selects "SpoilMeadowsModel" ({ cls := "SpoilMeadowsModel", name := "best", desc := "()I" } : Jvm.MethodName) ({ cls := "SpoilMeadowsModel", name := "best", desc := "()I" } : Jvm.MethodName)) ∈ lw_all := lw_g (lw_at lw_m8 168 rfl) rfl
theorem q1922 : (Jvm.Cond.code ({ cls := "SpoilMeadowsModel", name := "best", desc := "()I" } : Jvm.MethodName) prog_15_method_76_code (1 : Nat) (Option.some Jvm.ClassFile.FieldType.int)) ∈ lw_all := lw_g (lw_at lw_m8 169 rfl) rfl
theorem q1924 : (Jvm.Cond.instanceMethod ({ cls := "SpoilMeadowsModel", name := "clearIn", desc := "()I" } : Jvm.MethodName)) ∈ lw_all := lw_g (lw_at lw_m8 171 rfl) rfl
theorem q1925 : (Jvm.Cond.selects "SpoilMeadowsModel" ({ cls := "SpoilMeadowsModel", name := "clearIn", desc := "()I" } : Jvm.MethodName) ({ cls := "SpoilMeadowsModel", name := "clearIn", desc := "()I" } : Jvm.MethodName)) ∈ lw_all := lw_g (lw_at lw_m8 172 rfl) rfl
theorem q1926 : (Jvm.Cond.code ({ cls := "SpoilMeadowsModel", name := "clearIn", desc := "()I" } : Jvm.MethodName) prog_15_method_78_code (1 : Nat) (Option.some Jvm.ClassFile.FieldType.int)) ∈ lw_all := lw_g (lw_at lw_m8 173 rfl) rfl
theorem q1927 : (Jvm.Cond.methodLink "SpoilMeadowsModel" (223 : Nat) ({ cls := "SpoilMeadowsModel", name := "clears", desc := "()I" } : Jvm.MethodName)) ∈ lw_all := lw_g (lw_at lw_m8 174 rfl) rfl
theorem q1928 : (Jvm.Cond.privateMethod ({ cls := "SpoilMeadowsModel", name := "clears", desc := "()I" } : Jvm.MethodName)) ∈ lw_tbl := lw_at lw_m8 175 rfl
theorem q1929 : (Jvm.Cond.instanceMethod ({ cls := "SpoilMeadowsModel", name := "clears", desc := "()I" } : Jvm.MethodName)) ∈ lw_all := lw_g (lw_at lw_m8 176 rfl) rfl
theorem q1930 : (Jvm.Cond.code ({ cls := "SpoilMeadowsModel", name := "clears", desc := "()I" } : Jvm.MethodName) prog_15_method_77_code (2 : Nat) (Option.some Jvm.ClassFile.FieldType.int)) ∈ lw_all := lw_g (lw_at lw_m8 177 rfl) rfl
theorem q1932 : (Jvm.Cond.instanceMethod ({ cls := "SpoilMeadowsModel", name := "bestReach", desc := "(I)I" } : Jvm.MethodName)) ∈ lw_all := lw_g (lw_at lw_m8 179 rfl) rfl
theorem q1933 : (Jvm.Cond.selects "SpoilMeadowsModel" ({ cls := "SpoilMeadowsModel", name := "bestReach", desc := "(I)I" } : Jvm.MethodName) ({ cls := "SpoilMeadowsModel", name := "bestReach", desc := "(I)I" } : Jvm.MethodName)) ∈ lw_all := lw_g (lw_at lw_m8 180 rfl) rfl
theorem q1934 : (Jvm.Cond.code ({ cls := "SpoilMeadowsModel", name := "bestReach", desc := "(I)I" } : Jvm.MethodName) prog_15_method_80_code (2 : Nat) (Option.some Jvm.ClassFile.FieldType.int)) ∈ lw_all := lw_g (lw_at lw_m8 181 rfl) rfl
theorem q1935 : (Jvm.Cond.methodLink "SpoilMeadowsModel" (227 : Nat) ({ cls := "SpoilMeadowsModel", name := "most", desc := "(I)I" } : Jvm.MethodName)) ∈ lw_all := lw_g (lw_at lw_m8 182 rfl) rfl
theorem q1936 : (Jvm.Cond.privateMethod ({ cls := "SpoilMeadowsModel", name := "most", desc := "(I)I" } : Jvm.MethodName)) ∈ lw_tbl := lw_at lw_m8 183 rfl
theorem q1937 : (Jvm.Cond.instanceMethod ({ cls := "SpoilMeadowsModel", name := "most", desc := "(I)I" } : Jvm.MethodName)) ∈ lw_all := lw_g (lw_at lw_m8 184 rfl) rfl
theorem q1938 : (Jvm.Cond.code ({ cls := "SpoilMeadowsModel", name := "most", desc := "(I)I" } : Jvm.MethodName) prog_15_method_79_code (6 : Nat) (Option.some Jvm.ClassFile.FieldType.int)) ∈ lw_all := lw_g (lw_at lw_m8 185 rfl) rfl
theorem q1940 : (Jvm.Cond.instanceMethod ({ cls := "SpoilMeadowsModel", name := "laidShare", desc := "()D" } : Jvm.MethodName)) ∈ lw_all := lw_g (lw_at lw_m8 187 rfl) rfl
theorem q1941 : (Jvm.Cond.selects "SpoilMeadowsModel" ({ cls := "SpoilMeadowsModel", name := "laidShare", desc := "()D" } : Jvm.MethodName) ({ cls := "SpoilMeadowsModel", name := "laidShare", desc := "()D" } : Jvm.MethodName)) ∈ lw_all := lw_g (lw_at lw_m8 188 rfl) rfl
theorem q1942 : (Jvm.Cond.code ({ cls := "SpoilMeadowsModel", name := "laidShare", desc := "()D" } : Jvm.MethodName) prog_15_method_82_code (1 : Nat) (Option.some Jvm.ClassFile.FieldType.double)) ∈ lw_all := lw_g (lw_at lw_m8 189 rfl) rfl
theorem q1943 : (Jvm.Cond.methodLink "SpoilMeadowsModel" (230 : Nat) ({ cls := "SpoilMeadowsModel", name := "share", desc := "()D" } : Jvm.MethodName)) ∈ lw_all := lw_g (lw_at lw_m8 190 rfl) rfl
theorem q1944 : (Jvm.Cond.privateMethod ({ cls := "SpoilMeadowsModel", name := "share", desc := "()D" } : Jvm.MethodName)) ∈ lw_tbl := lw_at lw_m8 191 rfl
theorem q1945 : (Jvm.Cond.instanceMethod ({ cls := "SpoilMeadowsModel", name := "share", desc := "()D" } : Jvm.MethodName)) ∈ lw_all := lw_g (lw_at lw_m8 192 rfl) rfl
theorem q1946 : (Jvm.Cond.code ({ cls := "SpoilMeadowsModel", name := "share", desc := "()D" } : Jvm.MethodName) prog_15_method_81_code (2 : Nat) (Option.some Jvm.ClassFile.FieldType.double)) ∈ lw_all := lw_g (lw_at lw_m8 193 rfl) rfl
theorem q1948 : (Jvm.Cond.instanceMethod ({ cls := "SpoilMeadowsModel", name := "digest", desc := "()J" } : Jvm.MethodName)) ∈ lw_all := lw_g (lw_at lw_m8 195 rfl) rfl
theorem q1949 : (Jvm.Cond.selects "SpoilMeadowsModel" ({ cls := "SpoilMeadowsModel", name := "digest", desc := "()J" } : Jvm.MethodName) ({ cls := "SpoilMeadowsModel", name := "digest", desc := "()J" } : Jvm.MethodName)) ∈ lw_all := lw_g (lw_at lw_m8 196 rfl) rfl
theorem q1950 : (Jvm.Cond.code ({ cls := "SpoilMeadowsModel", name := "digest", desc := "()J" } : Jvm.MethodName) prog_15_method_83_code (4 : Nat) (Option.some Jvm.ClassFile.FieldType.long)) ∈ lw_all := lw_g (lw_at lw_m8 197 rfl) rfl
theorem q1951 : (Jvm.Cond.constantLong "SpoilMeadowsModel" (234 : Nat) (3137 : Int64)) ∈ lw_all := lw_g (lw_at lw_m8 198 rfl) rfl
theorem q1952 : (Jvm.Cond.constantLong "SpoilMeadowsModel" (236 : Nat) (31 : Int64)) ∈ lw_all := lw_g (lw_at lw_m8 199 rfl) rfl
theorem q1953 : (Jvm.Cond.methodLink "SpoilMeadowsModel" (238 : Nat) ({ cls := "java/lang/Double", name := "doubleToLongBits", desc := "(D)J" } : Jvm.MethodName)) ∈ lw_all := lw_g (lw_at lw_m8 200 rfl) rfl
theorem q1983 : (Jvm.Cond.castable "SpoilMeadowsModel" "java/lang/Object") ∈ lw_tbl := lw_at lw_m8 230 rfl
theorem in_X9 : ∀ w ∈ wsX90, w ∈ lw_all := lw_in wsX90 [1617, 1619, 1621, 1623, 1625, 1627, 1629, 1631, 1633, 1635, 1637, 1639, 1641, 1643, 1645] (by decide +kernel) (by decide +kernel)
