/-! HiredByLongingModel -/
set_option maxRecDepth 100000
def RX4 : String := "HiredByLongingModel"
def TX4 : u_T := fun k => match k with
  | 0 => ("HiredByLongingModel", "horses", "I", false)
  | 1 => ("HiredByLongingModel", "kinds", "[I", true)
  | 2 => ("HiredByLongingModel", "figures", "[I", true)
  | 3 => ("HiredByLongingModel", "homes0", "[I", true)
  | 4 => ("HiredByLongingModel", "at0", "[I", true)
  | 5 => ("HiredByLongingModel", "longing", "[I", true)
  | 6 => ("HiredByLongingModel", "oats", "I", false)
  | 7 => ("HiredByLongingModel", "today", "I", false)
  | 8 => ("HiredByLongingModel", "holdsWhat", "[I", true)
  | 9 => ("HiredByLongingModel", "keptKind", "[I", true)
  | 10 => ("HiredByLongingModel", "keptFigure", "[I", true)
  | 11 => ("HiredByLongingModel", "rowSort", "[I", true)
  | 12 => ("HiredByLongingModel", "rowMany", "[I", true)
  | 13 => ("HiredByLongingModel", "rows", "[J", true)
  | 14 => ("HiredByLongingModel", "thrown", "I", false)
  | 15 => ("HiredByLongingModel", "reading", "I", false)
  | 16 => ("HiredByLongingModel", "place", "I", false)
  | 17 => ("HiredByLongingModel", "isBad", "Z", false)
  | 18 => ("HiredByLongingModel", "statements", "I", false)
  | 19 => ("HiredByLongingModel", "placeIn", "[I", true)
  | 20 => ("HiredByLongingModel", "letterOf", "[I", true)
  | 21 => ("HiredByLongingModel", "told", "[I", true)
  | 22 => ("HiredByLongingModel", "kept", "[I", true)
  | 23 => ("HiredByLongingModel", "kept1", "[I", true)
  | 24 => ("HiredByLongingModel", "kept2", "[I", true)
  | 25 => ("HiredByLongingModel", "imaged", "[I", true)
  | 26 => ("HiredByLongingModel", "hasImage", "Z", false)
  | 27 => ("HiredByLongingModel", "place0", "I", false)
  | 28 => ("HiredByLongingModel", "isTaking", "Z", false)
  | 29 => ("HiredByLongingModel", "keptIn", "[I", false)
  | 30 => ("HiredByLongingModel", "chainDays", "I", false)
  | 31 => ("HiredByLongingModel", "chainFirst", "I", false)
  | 32 => ("HiredByLongingModel", "thereBy", "[I", true)
  | 33 => ("HiredByLongingModel", "seed", "I", false)
  | _ => ("HiredByLongingModel", "between", "[J", true)
def tyX4 : Nat → FieldType := fun k => match k with
  | 0 => .int
  | 1 => .array .int
  | 2 => .array .int
  | 3 => .array .int
  | 4 => .array .int
  | 5 => .array .int
  | 6 => .int
  | 7 => .int
  | 8 => .array .int
  | 9 => .array .int
  | 10 => .array .int
  | 11 => .array .int
  | 12 => .array .int
  | 13 => .array .long
  | 14 => .int
  | 15 => .int
  | 16 => .int
  | 17 => .boolean
  | 18 => .int
  | 19 => .array .int
  | 20 => .array .int
  | 21 => .array .int
  | 22 => .array .int
  | 23 => .array .int
  | 24 => .array .int
  | 25 => .array .int
  | 26 => .boolean
  | 27 => .int
  | 28 => .boolean
  | 29 => .array .int
  | 30 => .int
  | 31 => .int
  | 32 => .array .int
  | 33 => .int
  | _ => .array .long
abbrev wsX40 : List Cond := u_ws RX4 TX4 35
set_option maxRecDepth 100000 in
theorem nmX4 : ∀ a, a < 35 → ∀ b, b < 35 → a ≠ b → (TX4 a).2.1 ≠ (TX4 b).2.1 := by decide +kernel
set_option maxRecDepth 100000 in
theorem tyX4_ok : ∀ k, k < 35 → parseFieldDescriptor (TX4 k).2.2.1 = some (tyX4 k) := by decide +kernel
abbrev cX4_init : ByteArray := prog_21_method_1_code
def yX4_init : MethodName := ⟨RX4, "<init>", "()V"⟩
def dkwX4_init_7 : List UInt8 := [3, 181, 0, 71, 177]
abbrev dktX4_init_7 : List UInt8 := dkwX4_init_7 ++ []
def dkwX4_init_6 : List UInt8 := [42, 16, 38, 188, 10, 181, 0, 62, 42, 7, 188, 10, 181, 0, 65, 42, 16, 100, 188, 11, 181, 0, 68, 42]
abbrev dktX4_init_6 : List UInt8 := dkwX4_init_6 ++ dktX4_init_7
def dkwX4_init_5 : List UInt8 := [42, 16, 38, 188, 10, 181, 0, 53, 42, 16, 38, 188, 10, 181, 0, 56, 42, 16, 38, 188, 10, 181, 0, 59]
abbrev dktX4_init_5 : List UInt8 := dkwX4_init_5 ++ dktX4_init_6
def dkwX4_init_4 : List UInt8 := [16, 51, 188, 10, 181, 0, 44, 42, 16, 51, 188, 10, 181, 0, 47, 42, 17, 0, 204, 188, 10, 181, 0, 50]
abbrev dktX4_init_4 : List UInt8 := dkwX4_init_4 ++ dktX4_init_5
def dkwX4_init_3 : List UInt8 := [188, 10, 181, 0, 34, 42, 16, 8, 188, 10, 181, 0, 37, 42, 17, 3, 32, 188, 11, 181, 0, 40, 42]
abbrev dktX4_init_3 : List UInt8 := dkwX4_init_3 ++ dktX4_init_4
def dkwX4_init_2 : List UInt8 := [188, 10, 181, 0, 25, 42, 16, 8, 188, 10, 181, 0, 28, 42, 16, 8, 188, 10, 181, 0, 31, 42, 16, 8]
abbrev dktX4_init_2 : List UInt8 := dkwX4_init_2 ++ dktX4_init_3
def dkwX4_init_1 : List UInt8 := [188, 10, 181, 0, 16, 42, 16, 7, 188, 10, 181, 0, 19, 42, 16, 7, 188, 10, 181, 0, 22, 42, 16, 8]
abbrev dktX4_init_1 : List UInt8 := dkwX4_init_1 ++ dktX4_init_2
def dkwX4_init_0 : List UInt8 := [42, 183, 0, 1, 42, 16, 7, 188, 10, 181, 0, 7, 42, 16, 7, 188, 10, 181, 0, 13, 42, 16, 7]
abbrev dktX4_init_0 : List UInt8 := dkwX4_init_0 ++ dktX4_init_1
theorem dksX4_init_0 : cX4_init.data.toList.drop 0 = dktX4_init_0 := by decide +kernel
theorem dksX4_init_1 : cX4_init.data.toList.drop 23 = dktX4_init_1 := dk_seg dksX4_init_0 23 rfl rfl
theorem dksX4_init_2 : cX4_init.data.toList.drop 47 = dktX4_init_2 := dk_seg dksX4_init_1 24 rfl rfl
theorem dksX4_init_3 : cX4_init.data.toList.drop 71 = dktX4_init_3 := dk_seg dksX4_init_2 24 rfl rfl
theorem dksX4_init_4 : cX4_init.data.toList.drop 94 = dktX4_init_4 := dk_seg dksX4_init_3 23 rfl rfl
theorem dksX4_init_5 : cX4_init.data.toList.drop 118 = dktX4_init_5 := dk_seg dksX4_init_4 24 rfl rfl
theorem dksX4_init_6 : cX4_init.data.toList.drop 142 = dktX4_init_6 := dk_seg dksX4_init_5 24 rfl rfl
theorem dksX4_init_7 : cX4_init.data.toList.drop 166 = dktX4_init_7 := dk_seg dksX4_init_6 24 rfl rfl
theorem dX4_init_0 : decode cX4_init 0 = .ok (.aload_n 0, 1) := dk_42 (dk_at dksX4_init_0 0 rfl rfl)
theorem dX4_init_1 : decode cX4_init 1 = .ok (.invokespecial 1, 3) := dk_183 0 1 (dk_at dksX4_init_0 1 rfl rfl)
theorem dX4_init_4 : decode cX4_init 4 = .ok (.aload_n 0, 1) := dk_42 (dk_at dksX4_init_0 4 rfl rfl)
theorem dX4_init_5 : decode cX4_init 5 = .ok (.bipush 7, 2) := dk_16 7 (dk_at dksX4_init_0 5 rfl rfl)
theorem dX4_init_7 : decode cX4_init 7 = .ok (.newarray .int, 2) := dk_188_10 (dk_at dksX4_init_0 7 rfl rfl)
theorem dX4_init_9 : decode cX4_init 9 = .ok (.putfield 7, 3) := dk_181 0 7 (dk_at dksX4_init_0 9 rfl rfl)
theorem dX4_init_12 : decode cX4_init 12 = .ok (.aload_n 0, 1) := dk_42 (dk_at dksX4_init_0 12 rfl rfl)
theorem dX4_init_13 : decode cX4_init 13 = .ok (.bipush 7, 2) := dk_16 7 (dk_at dksX4_init_0 13 rfl rfl)
theorem dX4_init_15 : decode cX4_init 15 = .ok (.newarray .int, 2) := dk_188_10 (dk_at dksX4_init_0 15 rfl rfl)
theorem dX4_init_17 : decode cX4_init 17 = .ok (.putfield 13, 3) := dk_181 0 13 (dk_at dksX4_init_0 17 rfl rfl)
theorem dX4_init_20 : decode cX4_init 20 = .ok (.aload_n 0, 1) := dk_42 (dk_at dksX4_init_0 20 rfl rfl)
theorem dX4_init_21 : decode cX4_init 21 = .ok (.bipush 7, 2) := dk_16 7 (dk_at dksX4_init_0 21 rfl rfl)
theorem dX4_init_23 : decode cX4_init 23 = .ok (.newarray .int, 2) := dk_188_10 (dk_at dksX4_init_1 0 rfl rfl)
theorem dX4_init_25 : decode cX4_init 25 = .ok (.putfield 16, 3) := dk_181 0 16 (dk_at dksX4_init_1 2 rfl rfl)
theorem dX4_init_28 : decode cX4_init 28 = .ok (.aload_n 0, 1) := dk_42 (dk_at dksX4_init_1 5 rfl rfl)
theorem dX4_init_29 : decode cX4_init 29 = .ok (.bipush 7, 2) := dk_16 7 (dk_at dksX4_init_1 6 rfl rfl)
theorem dX4_init_31 : decode cX4_init 31 = .ok (.newarray .int, 2) := dk_188_10 (dk_at dksX4_init_1 8 rfl rfl)
theorem dX4_init_33 : decode cX4_init 33 = .ok (.putfield 19, 3) := dk_181 0 19 (dk_at dksX4_init_1 10 rfl rfl)
theorem dX4_init_36 : decode cX4_init 36 = .ok (.aload_n 0, 1) := dk_42 (dk_at dksX4_init_1 13 rfl rfl)
theorem dX4_init_37 : decode cX4_init 37 = .ok (.bipush 7, 2) := dk_16 7 (dk_at dksX4_init_1 14 rfl rfl)
theorem dX4_init_39 : decode cX4_init 39 = .ok (.newarray .int, 2) := dk_188_10 (dk_at dksX4_init_1 16 rfl rfl)
theorem dX4_init_41 : decode cX4_init 41 = .ok (.putfield 22, 3) := dk_181 0 22 (dk_at dksX4_init_1 18 rfl rfl)
theorem dX4_init_44 : decode cX4_init 44 = .ok (.aload_n 0, 1) := dk_42 (dk_at dksX4_init_1 21 rfl rfl)
theorem dX4_init_45 : decode cX4_init 45 = .ok (.bipush 8, 2) := dk_16 8 (dk_at dksX4_init_1 22 rfl rfl)
theorem dX4_init_47 : decode cX4_init 47 = .ok (.newarray .int, 2) := dk_188_10 (dk_at dksX4_init_2 0 rfl rfl)
theorem dX4_init_49 : decode cX4_init 49 = .ok (.putfield 25, 3) := dk_181 0 25 (dk_at dksX4_init_2 2 rfl rfl)
theorem dX4_init_52 : decode cX4_init 52 = .ok (.aload_n 0, 1) := dk_42 (dk_at dksX4_init_2 5 rfl rfl)
theorem dX4_init_53 : decode cX4_init 53 = .ok (.bipush 8, 2) := dk_16 8 (dk_at dksX4_init_2 6 rfl rfl)
theorem dX4_init_55 : decode cX4_init 55 = .ok (.newarray .int, 2) := dk_188_10 (dk_at dksX4_init_2 8 rfl rfl)
theorem dX4_init_57 : decode cX4_init 57 = .ok (.putfield 28, 3) := dk_181 0 28 (dk_at dksX4_init_2 10 rfl rfl)
theorem dX4_init_60 : decode cX4_init 60 = .ok (.aload_n 0, 1) := dk_42 (dk_at dksX4_init_2 13 rfl rfl)
theorem dX4_init_61 : decode cX4_init 61 = .ok (.bipush 8, 2) := dk_16 8 (dk_at dksX4_init_2 14 rfl rfl)
theorem dX4_init_63 : decode cX4_init 63 = .ok (.newarray .int, 2) := dk_188_10 (dk_at dksX4_init_2 16 rfl rfl)
theorem dX4_init_65 : decode cX4_init 65 = .ok (.putfield 31, 3) := dk_181 0 31 (dk_at dksX4_init_2 18 rfl rfl)
theorem dX4_init_68 : decode cX4_init 68 = .ok (.aload_n 0, 1) := dk_42 (dk_at dksX4_init_2 21 rfl rfl)
theorem dX4_init_69 : decode cX4_init 69 = .ok (.bipush 8, 2) := dk_16 8 (dk_at dksX4_init_2 22 rfl rfl)
theorem dX4_init_71 : decode cX4_init 71 = .ok (.newarray .int, 2) := dk_188_10 (dk_at dksX4_init_3 0 rfl rfl)
theorem dX4_init_73 : decode cX4_init 73 = .ok (.putfield 34, 3) := dk_181 0 34 (dk_at dksX4_init_3 2 rfl rfl)
theorem dX4_init_76 : decode cX4_init 76 = .ok (.aload_n 0, 1) := dk_42 (dk_at dksX4_init_3 5 rfl rfl)
theorem dX4_init_77 : decode cX4_init 77 = .ok (.bipush 8, 2) := dk_16 8 (dk_at dksX4_init_3 6 rfl rfl)
theorem dX4_init_79 : decode cX4_init 79 = .ok (.newarray .int, 2) := dk_188_10 (dk_at dksX4_init_3 8 rfl rfl)
theorem dX4_init_81 : decode cX4_init 81 = .ok (.putfield 37, 3) := dk_181 0 37 (dk_at dksX4_init_3 10 rfl rfl)
theorem dX4_init_84 : decode cX4_init 84 = .ok (.aload_n 0, 1) := dk_42 (dk_at dksX4_init_3 13 rfl rfl)
theorem dX4_init_85 : decode cX4_init 85 = .ok (.sipush 800, 3) := dk_17 3 32 (dk_at dksX4_init_3 14 rfl rfl)
theorem dX4_init_88 : decode cX4_init 88 = .ok (.newarray .long, 2) := dk_188_11 (dk_at dksX4_init_3 17 rfl rfl)
theorem dX4_init_90 : decode cX4_init 90 = .ok (.putfield 40, 3) := dk_181 0 40 (dk_at dksX4_init_3 19 rfl rfl)
theorem dX4_init_93 : decode cX4_init 93 = .ok (.aload_n 0, 1) := dk_42 (dk_at dksX4_init_3 22 rfl rfl)
theorem dX4_init_94 : decode cX4_init 94 = .ok (.bipush 51, 2) := dk_16 51 (dk_at dksX4_init_4 0 rfl rfl)
theorem dX4_init_96 : decode cX4_init 96 = .ok (.newarray .int, 2) := dk_188_10 (dk_at dksX4_init_4 2 rfl rfl)
theorem dX4_init_98 : decode cX4_init 98 = .ok (.putfield 44, 3) := dk_181 0 44 (dk_at dksX4_init_4 4 rfl rfl)
theorem dX4_init_101 : decode cX4_init 101 = .ok (.aload_n 0, 1) := dk_42 (dk_at dksX4_init_4 7 rfl rfl)
theorem dX4_init_102 : decode cX4_init 102 = .ok (.bipush 51, 2) := dk_16 51 (dk_at dksX4_init_4 8 rfl rfl)
theorem dX4_init_104 : decode cX4_init 104 = .ok (.newarray .int, 2) := dk_188_10 (dk_at dksX4_init_4 10 rfl rfl)
theorem dX4_init_106 : decode cX4_init 106 = .ok (.putfield 47, 3) := dk_181 0 47 (dk_at dksX4_init_4 12 rfl rfl)
theorem dX4_init_109 : decode cX4_init 109 = .ok (.aload_n 0, 1) := dk_42 (dk_at dksX4_init_4 15 rfl rfl)
theorem dX4_init_110 : decode cX4_init 110 = .ok (.sipush 204, 3) := dk_17 0 204 (dk_at dksX4_init_4 16 rfl rfl)
theorem dX4_init_113 : decode cX4_init 113 = .ok (.newarray .int, 2) := dk_188_10 (dk_at dksX4_init_4 19 rfl rfl)
theorem dX4_init_115 : decode cX4_init 115 = .ok (.putfield 50, 3) := dk_181 0 50 (dk_at dksX4_init_4 21 rfl rfl)
theorem dX4_init_118 : decode cX4_init 118 = .ok (.aload_n 0, 1) := dk_42 (dk_at dksX4_init_5 0 rfl rfl)
theorem dX4_init_119 : decode cX4_init 119 = .ok (.bipush 38, 2) := dk_16 38 (dk_at dksX4_init_5 1 rfl rfl)
theorem dX4_init_121 : decode cX4_init 121 = .ok (.newarray .int, 2) := dk_188_10 (dk_at dksX4_init_5 3 rfl rfl)
theorem dX4_init_123 : decode cX4_init 123 = .ok (.putfield 53, 3) := dk_181 0 53 (dk_at dksX4_init_5 5 rfl rfl)
theorem dX4_init_126 : decode cX4_init 126 = .ok (.aload_n 0, 1) := dk_42 (dk_at dksX4_init_5 8 rfl rfl)
theorem dX4_init_127 : decode cX4_init 127 = .ok (.bipush 38, 2) := dk_16 38 (dk_at dksX4_init_5 9 rfl rfl)
theorem dX4_init_129 : decode cX4_init 129 = .ok (.newarray .int, 2) := dk_188_10 (dk_at dksX4_init_5 11 rfl rfl)
theorem dX4_init_131 : decode cX4_init 131 = .ok (.putfield 56, 3) := dk_181 0 56 (dk_at dksX4_init_5 13 rfl rfl)
theorem dX4_init_134 : decode cX4_init 134 = .ok (.aload_n 0, 1) := dk_42 (dk_at dksX4_init_5 16 rfl rfl)
theorem dX4_init_135 : decode cX4_init 135 = .ok (.bipush 38, 2) := dk_16 38 (dk_at dksX4_init_5 17 rfl rfl)
theorem dX4_init_137 : decode cX4_init 137 = .ok (.newarray .int, 2) := dk_188_10 (dk_at dksX4_init_5 19 rfl rfl)
theorem dX4_init_139 : decode cX4_init 139 = .ok (.putfield 59, 3) := dk_181 0 59 (dk_at dksX4_init_5 21 rfl rfl)
theorem dX4_init_142 : decode cX4_init 142 = .ok (.aload_n 0, 1) := dk_42 (dk_at dksX4_init_6 0 rfl rfl)
theorem dX4_init_143 : decode cX4_init 143 = .ok (.bipush 38, 2) := dk_16 38 (dk_at dksX4_init_6 1 rfl rfl)
theorem dX4_init_145 : decode cX4_init 145 = .ok (.newarray .int, 2) := dk_188_10 (dk_at dksX4_init_6 3 rfl rfl)
theorem dX4_init_147 : decode cX4_init 147 = .ok (.putfield 62, 3) := dk_181 0 62 (dk_at dksX4_init_6 5 rfl rfl)
theorem dX4_init_150 : decode cX4_init 150 = .ok (.aload_n 0, 1) := dk_42 (dk_at dksX4_init_6 8 rfl rfl)
theorem dX4_init_151 : decode cX4_init 151 = .ok (.iconst 4, 1) := dk_7 (dk_at dksX4_init_6 9 rfl rfl)
theorem dX4_init_152 : decode cX4_init 152 = .ok (.newarray .int, 2) := dk_188_10 (dk_at dksX4_init_6 10 rfl rfl)
theorem dX4_init_154 : decode cX4_init 154 = .ok (.putfield 65, 3) := dk_181 0 65 (dk_at dksX4_init_6 12 rfl rfl)
theorem dX4_init_157 : decode cX4_init 157 = .ok (.aload_n 0, 1) := dk_42 (dk_at dksX4_init_6 15 rfl rfl)
theorem dX4_init_158 : decode cX4_init 158 = .ok (.bipush 100, 2) := dk_16 100 (dk_at dksX4_init_6 16 rfl rfl)
theorem dX4_init_160 : decode cX4_init 160 = .ok (.newarray .long, 2) := dk_188_11 (dk_at dksX4_init_6 18 rfl rfl)
theorem dX4_init_162 : decode cX4_init 162 = .ok (.putfield 68, 3) := dk_181 0 68 (dk_at dksX4_init_6 20 rfl rfl)
theorem dX4_init_165 : decode cX4_init 165 = .ok (.aload_n 0, 1) := dk_42 (dk_at dksX4_init_6 23 rfl rfl)
theorem dX4_init_166 : decode cX4_init 166 = .ok (.iconst 0, 1) := dk_3 (dk_at dksX4_init_7 0 rfl rfl)
theorem dX4_init_167 : decode cX4_init 167 = .ok (.putfield 71, 3) := dk_181 0 71 (dk_at dksX4_init_7 1 rfl rfl)
theorem dX4_init_170 : decode cX4_init 170 = .ok (.return_, 1) := dk_177 (dk_at dksX4_init_7 4 rfl rfl)
abbrev cX4_thrown : ByteArray := prog_21_method_2_code
def yX4_thrown : MethodName := ⟨RX4, "thrown", "()I"⟩
theorem dX4_thrown_0 : decode cX4_thrown 0 = .ok (.aload_n 0, 1) := by decide +kernel
theorem dX4_thrown_1 : decode cX4_thrown 1 = .ok (.getfield 71, 3) := by decide +kernel
theorem dX4_thrown_4 : decode cX4_thrown 4 = .ok (.ireturn, 1) := by decide +kernel
abbrev cX4_land : ByteArray := prog_21_method_27_code
def yX4_land : MethodName := ⟨RX4, "land", "(I)I"⟩
def dkwX4_land_6 : List UInt8 := [100, 172, 132, 3, 1, 167, 255, 222, 42, 180, 0, 139, 172]
abbrev dktX4_land_6 : List UInt8 := dkwX4_land_6 ++ []
def dkwX4_land_5 : List UInt8 := [162, 0, 32, 42, 29, 182, 0, 180, 154, 0, 18, 42, 182, 0, 183, 17, 248, 48, 42, 180, 0, 44, 29, 46]
abbrev dktX4_land_5 : List UInt8 := dkwX4_land_5 ++ dktX4_land_6
def dkwX4_land_4 : List UInt8 := [153, 0, 12, 17, 252, 24, 42, 180, 0, 118, 100, 172, 42, 182, 0, 177, 3, 62, 29, 42, 180, 0, 139]
abbrev dktX4_land_4 : List UInt8 := dkwX4_land_4 ++ dktX4_land_5
def dkwX4_land_3 : List UInt8 := [180, 0, 118, 42, 180, 0, 37, 27, 46, 162, 0, 10, 42, 182, 0, 174, 167, 255, 225, 42, 180, 0, 124]
abbrev dktX4_land_3 : List UInt8 := dkwX4_land_3 ++ dktX4_land_4
def dkwX4_land_2 : List UInt8 := [3, 181, 0, 124, 42, 3, 181, 0, 139, 42, 180, 0, 124, 154, 0, 30, 42, 180, 0, 139, 153, 0, 16, 42]
abbrev dktX4_land_2 : List UInt8 := dkwX4_land_2 ++ dktX4_land_3
def dkwX4_land_1 : List UInt8 := [16, 244, 167, 0, 4, 28, 61, 28, 156, 0, 5, 28, 172, 42, 27, 181, 0, 121, 42, 3, 181, 0, 118, 42]
abbrev dktX4_land_1 : List UInt8 := dkwX4_land_1 ++ dktX4_land_2
def dkwX4_land_0 : List UInt8 := [42, 3, 181, 0, 71, 42, 27, 182, 0, 171, 61, 28, 154, 0, 17, 42, 180, 0, 34, 27, 46, 153, 0, 8]
abbrev dktX4_land_0 : List UInt8 := dkwX4_land_0 ++ dktX4_land_1
theorem dksX4_land_0 : cX4_land.data.toList.drop 0 = dktX4_land_0 := by decide +kernel
theorem dksX4_land_1 : cX4_land.data.toList.drop 24 = dktX4_land_1 := dk_seg dksX4_land_0 24 rfl rfl
theorem dksX4_land_2 : cX4_land.data.toList.drop 48 = dktX4_land_2 := dk_seg dksX4_land_1 24 rfl rfl
theorem dksX4_land_3 : cX4_land.data.toList.drop 72 = dktX4_land_3 := dk_seg dksX4_land_2 24 rfl rfl
theorem dksX4_land_4 : cX4_land.data.toList.drop 95 = dktX4_land_4 := dk_seg dksX4_land_3 23 rfl rfl
theorem dksX4_land_5 : cX4_land.data.toList.drop 118 = dktX4_land_5 := dk_seg dksX4_land_4 23 rfl rfl
theorem dksX4_land_6 : cX4_land.data.toList.drop 142 = dktX4_land_6 := dk_seg dksX4_land_5 24 rfl rfl
theorem dX4_land_0 : decode cX4_land 0 = .ok (.aload_n 0, 1) := dk_42 (dk_at dksX4_land_0 0 rfl rfl)
theorem dX4_land_1 : decode cX4_land 1 = .ok (.iconst 0, 1) := dk_3 (dk_at dksX4_land_0 1 rfl rfl)
theorem dX4_land_2 : decode cX4_land 2 = .ok (.putfield 71, 3) := dk_181 0 71 (dk_at dksX4_land_0 2 rfl rfl)
theorem dX4_land_5 : decode cX4_land 5 = .ok (.aload_n 0, 1) := dk_42 (dk_at dksX4_land_0 5 rfl rfl)
theorem dX4_land_6 : decode cX4_land 6 = .ok (.iload_n 1, 1) := dk_27 (dk_at dksX4_land_0 6 rfl rfl)
theorem dX4_land_7 : decode cX4_land 7 = .ok (.invokevirtual 171, 3) := dk_182 0 171 (dk_at dksX4_land_0 7 rfl rfl)
theorem dX4_land_10 : decode cX4_land 10 = .ok (.istore_n 2, 1) := dk_61 (dk_at dksX4_land_0 10 rfl rfl)
theorem dX4_land_11 : decode cX4_land 11 = .ok (.iload_n 2, 1) := dk_28 (dk_at dksX4_land_0 11 rfl rfl)
theorem dX4_land_12 : decode cX4_land 12 = .ok (.ifCond .ne 17, 3) := dk_154 0 17 (dk_at dksX4_land_0 12 rfl rfl)
theorem dX4_land_15 : decode cX4_land 15 = .ok (.aload_n 0, 1) := dk_42 (dk_at dksX4_land_0 15 rfl rfl)
theorem dX4_land_16 : decode cX4_land 16 = .ok (.getfield 34, 3) := dk_180 0 34 (dk_at dksX4_land_0 16 rfl rfl)
theorem dX4_land_19 : decode cX4_land 19 = .ok (.iload_n 1, 1) := dk_27 (dk_at dksX4_land_0 19 rfl rfl)
theorem dX4_land_20 : decode cX4_land 20 = .ok (.iaload, 1) := dk_46 (dk_at dksX4_land_0 20 rfl rfl)
theorem dX4_land_21 : decode cX4_land 21 = .ok (.ifCond .eq 8, 3) := dk_153 0 8 (dk_at dksX4_land_0 21 rfl rfl)
theorem dX4_land_24 : decode cX4_land 24 = .ok (.bipush (-12), 2) := dk_16 244 (dk_at dksX4_land_1 0 rfl rfl)
theorem dX4_land_26 : decode cX4_land 26 = .ok (.goto 4, 3) := dk_167 0 4 (dk_at dksX4_land_1 2 rfl rfl)
theorem dX4_land_29 : decode cX4_land 29 = .ok (.iload_n 2, 1) := dk_28 (dk_at dksX4_land_1 5 rfl rfl)
theorem dX4_land_30 : decode cX4_land 30 = .ok (.istore_n 2, 1) := dk_61 (dk_at dksX4_land_1 6 rfl rfl)
theorem dX4_land_31 : decode cX4_land 31 = .ok (.iload_n 2, 1) := dk_28 (dk_at dksX4_land_1 7 rfl rfl)
theorem dX4_land_32 : decode cX4_land 32 = .ok (.ifCond .ge 5, 3) := dk_156 0 5 (dk_at dksX4_land_1 8 rfl rfl)
theorem dX4_land_35 : decode cX4_land 35 = .ok (.iload_n 2, 1) := dk_28 (dk_at dksX4_land_1 11 rfl rfl)
theorem dX4_land_36 : decode cX4_land 36 = .ok (.ireturn, 1) := dk_172 (dk_at dksX4_land_1 12 rfl rfl)
theorem dX4_land_37 : decode cX4_land 37 = .ok (.aload_n 0, 1) := dk_42 (dk_at dksX4_land_1 13 rfl rfl)
theorem dX4_land_38 : decode cX4_land 38 = .ok (.iload_n 1, 1) := dk_27 (dk_at dksX4_land_1 14 rfl rfl)
theorem dX4_land_39 : decode cX4_land 39 = .ok (.putfield 121, 3) := dk_181 0 121 (dk_at dksX4_land_1 15 rfl rfl)
theorem dX4_land_42 : decode cX4_land 42 = .ok (.aload_n 0, 1) := dk_42 (dk_at dksX4_land_1 18 rfl rfl)
theorem dX4_land_43 : decode cX4_land 43 = .ok (.iconst 0, 1) := dk_3 (dk_at dksX4_land_1 19 rfl rfl)
theorem dX4_land_44 : decode cX4_land 44 = .ok (.putfield 118, 3) := dk_181 0 118 (dk_at dksX4_land_1 20 rfl rfl)
theorem dX4_land_47 : decode cX4_land 47 = .ok (.aload_n 0, 1) := dk_42 (dk_at dksX4_land_1 23 rfl rfl)
theorem dX4_land_48 : decode cX4_land 48 = .ok (.iconst 0, 1) := dk_3 (dk_at dksX4_land_2 0 rfl rfl)
theorem dX4_land_49 : decode cX4_land 49 = .ok (.putfield 124, 3) := dk_181 0 124 (dk_at dksX4_land_2 1 rfl rfl)
theorem dX4_land_52 : decode cX4_land 52 = .ok (.aload_n 0, 1) := dk_42 (dk_at dksX4_land_2 4 rfl rfl)
theorem dX4_land_53 : decode cX4_land 53 = .ok (.iconst 0, 1) := dk_3 (dk_at dksX4_land_2 5 rfl rfl)
theorem dX4_land_54 : decode cX4_land 54 = .ok (.putfield 139, 3) := dk_181 0 139 (dk_at dksX4_land_2 6 rfl rfl)
theorem dX4_land_57 : decode cX4_land 57 = .ok (.aload_n 0, 1) := dk_42 (dk_at dksX4_land_2 9 rfl rfl)
theorem dX4_land_58 : decode cX4_land 58 = .ok (.getfield 124, 3) := dk_180 0 124 (dk_at dksX4_land_2 10 rfl rfl)
theorem dX4_land_61 : decode cX4_land 61 = .ok (.ifCond .ne 30, 3) := dk_154 0 30 (dk_at dksX4_land_2 13 rfl rfl)
theorem dX4_land_64 : decode cX4_land 64 = .ok (.aload_n 0, 1) := dk_42 (dk_at dksX4_land_2 16 rfl rfl)
theorem dX4_land_65 : decode cX4_land 65 = .ok (.getfield 139, 3) := dk_180 0 139 (dk_at dksX4_land_2 17 rfl rfl)
theorem dX4_land_68 : decode cX4_land 68 = .ok (.ifCond .eq 16, 3) := dk_153 0 16 (dk_at dksX4_land_2 20 rfl rfl)
theorem dX4_land_71 : decode cX4_land 71 = .ok (.aload_n 0, 1) := dk_42 (dk_at dksX4_land_2 23 rfl rfl)
theorem dX4_land_72 : decode cX4_land 72 = .ok (.getfield 118, 3) := dk_180 0 118 (dk_at dksX4_land_3 0 rfl rfl)
theorem dX4_land_75 : decode cX4_land 75 = .ok (.aload_n 0, 1) := dk_42 (dk_at dksX4_land_3 3 rfl rfl)
theorem dX4_land_76 : decode cX4_land 76 = .ok (.getfield 37, 3) := dk_180 0 37 (dk_at dksX4_land_3 4 rfl rfl)
theorem dX4_land_79 : decode cX4_land 79 = .ok (.iload_n 1, 1) := dk_27 (dk_at dksX4_land_3 7 rfl rfl)
theorem dX4_land_80 : decode cX4_land 80 = .ok (.iaload, 1) := dk_46 (dk_at dksX4_land_3 8 rfl rfl)
theorem dX4_land_81 : decode cX4_land 81 = .ok (.if_icmp .ge 10, 3) := dk_162 0 10 (dk_at dksX4_land_3 9 rfl rfl)
theorem dX4_land_84 : decode cX4_land 84 = .ok (.aload_n 0, 1) := dk_42 (dk_at dksX4_land_3 12 rfl rfl)
theorem dX4_land_85 : decode cX4_land 85 = .ok (.invokevirtual 174, 3) := dk_182 0 174 (dk_at dksX4_land_3 13 rfl rfl)
theorem dX4_land_88 : decode cX4_land 88 = .ok (.goto (-31), 3) := dk_167 255 225 (dk_at dksX4_land_3 16 rfl rfl)
theorem dX4_land_91 : decode cX4_land 91 = .ok (.aload_n 0, 1) := dk_42 (dk_at dksX4_land_3 19 rfl rfl)
theorem dX4_land_92 : decode cX4_land 92 = .ok (.getfield 124, 3) := dk_180 0 124 (dk_at dksX4_land_3 20 rfl rfl)
theorem dX4_land_95 : decode cX4_land 95 = .ok (.ifCond .eq 12, 3) := dk_153 0 12 (dk_at dksX4_land_4 0 rfl rfl)
theorem dX4_land_98 : decode cX4_land 98 = .ok (.sipush (-1000), 3) := dk_17 252 24 (dk_at dksX4_land_4 3 rfl rfl)
theorem dX4_land_101 : decode cX4_land 101 = .ok (.aload_n 0, 1) := dk_42 (dk_at dksX4_land_4 6 rfl rfl)
theorem dX4_land_102 : decode cX4_land 102 = .ok (.getfield 118, 3) := dk_180 0 118 (dk_at dksX4_land_4 7 rfl rfl)
theorem dX4_land_105 : decode cX4_land 105 = .ok (.isub, 1) := dk_100 (dk_at dksX4_land_4 10 rfl rfl)
theorem dX4_land_106 : decode cX4_land 106 = .ok (.ireturn, 1) := dk_172 (dk_at dksX4_land_4 11 rfl rfl)
theorem dX4_land_107 : decode cX4_land 107 = .ok (.aload_n 0, 1) := dk_42 (dk_at dksX4_land_4 12 rfl rfl)
theorem dX4_land_108 : decode cX4_land 108 = .ok (.invokevirtual 177, 3) := dk_182 0 177 (dk_at dksX4_land_4 13 rfl rfl)
theorem dX4_land_111 : decode cX4_land 111 = .ok (.iconst 0, 1) := dk_3 (dk_at dksX4_land_4 16 rfl rfl)
theorem dX4_land_112 : decode cX4_land 112 = .ok (.istore_n 3, 1) := dk_62 (dk_at dksX4_land_4 17 rfl rfl)
theorem dX4_land_113 : decode cX4_land 113 = .ok (.iload_n 3, 1) := dk_29 (dk_at dksX4_land_4 18 rfl rfl)
theorem dX4_land_114 : decode cX4_land 114 = .ok (.aload_n 0, 1) := dk_42 (dk_at dksX4_land_4 19 rfl rfl)
theorem dX4_land_115 : decode cX4_land 115 = .ok (.getfield 139, 3) := dk_180 0 139 (dk_at dksX4_land_4 20 rfl rfl)
theorem dX4_land_118 : decode cX4_land 118 = .ok (.if_icmp .ge 32, 3) := dk_162 0 32 (dk_at dksX4_land_5 0 rfl rfl)
theorem dX4_land_121 : decode cX4_land 121 = .ok (.aload_n 0, 1) := dk_42 (dk_at dksX4_land_5 3 rfl rfl)
theorem dX4_land_122 : decode cX4_land 122 = .ok (.iload_n 3, 1) := dk_29 (dk_at dksX4_land_5 4 rfl rfl)
theorem dX4_land_123 : decode cX4_land 123 = .ok (.invokevirtual 180, 3) := dk_182 0 180 (dk_at dksX4_land_5 5 rfl rfl)
theorem dX4_land_126 : decode cX4_land 126 = .ok (.ifCond .ne 18, 3) := dk_154 0 18 (dk_at dksX4_land_5 8 rfl rfl)
theorem dX4_land_129 : decode cX4_land 129 = .ok (.aload_n 0, 1) := dk_42 (dk_at dksX4_land_5 11 rfl rfl)
theorem dX4_land_130 : decode cX4_land 130 = .ok (.invokevirtual 183, 3) := dk_182 0 183 (dk_at dksX4_land_5 12 rfl rfl)
theorem dX4_land_133 : decode cX4_land 133 = .ok (.sipush (-2000), 3) := dk_17 248 48 (dk_at dksX4_land_5 15 rfl rfl)
theorem dX4_land_136 : decode cX4_land 136 = .ok (.aload_n 0, 1) := dk_42 (dk_at dksX4_land_5 18 rfl rfl)
theorem dX4_land_137 : decode cX4_land 137 = .ok (.getfield 44, 3) := dk_180 0 44 (dk_at dksX4_land_5 19 rfl rfl)
theorem dX4_land_140 : decode cX4_land 140 = .ok (.iload_n 3, 1) := dk_29 (dk_at dksX4_land_5 22 rfl rfl)
theorem dX4_land_141 : decode cX4_land 141 = .ok (.iaload, 1) := dk_46 (dk_at dksX4_land_5 23 rfl rfl)
theorem dX4_land_142 : decode cX4_land 142 = .ok (.isub, 1) := dk_100 (dk_at dksX4_land_6 0 rfl rfl)
theorem dX4_land_143 : decode cX4_land 143 = .ok (.ireturn, 1) := dk_172 (dk_at dksX4_land_6 1 rfl rfl)
theorem dX4_land_144 : decode cX4_land 144 = .ok (.iinc 3 1, 3) := dk_132 3 1 (dk_at dksX4_land_6 2 rfl rfl)
theorem dX4_land_147 : decode cX4_land 147 = .ok (.goto (-34), 3) := dk_167 255 222 (dk_at dksX4_land_6 5 rfl rfl)
theorem dX4_land_150 : decode cX4_land 150 = .ok (.aload_n 0, 1) := dk_42 (dk_at dksX4_land_6 8 rfl rfl)
theorem dX4_land_151 : decode cX4_land 151 = .ok (.getfield 139, 3) := dk_180 0 139 (dk_at dksX4_land_6 9 rfl rfl)
theorem dX4_land_154 : decode cX4_land 154 = .ok (.ireturn, 1) := dk_172 (dk_at dksX4_land_6 12 rfl rfl)
abbrev cX4_wrongRow : ByteArray := prog_21_method_79_code
def yX4_wrongRow : MethodName := ⟨RX4, "wrongRow", "(I)I"⟩
def dkwX4_wrongRow_2 : List UInt8 := [172]
abbrev dktX4_wrongRow_2 : List UInt8 := dkwX4_wrongRow_2 ++ []
def dkwX4_wrongRow_1 : List UInt8 := [154, 0, 8, 16, 245, 167, 0, 19, 42, 180, 0, 25, 27, 46, 5, 159, 0, 8, 16, 244, 167, 0, 4, 3]
abbrev dktX4_wrongRow_1 : List UInt8 := dkwX4_wrongRow_1 ++ dktX4_wrongRow_2
def dkwX4_wrongRow_0 : List UInt8 := [27, 133, 9, 20, 0, 205, 184, 0, 77, 154, 0, 7, 2, 167, 0, 33, 42, 180, 0, 25, 27, 46]
abbrev dktX4_wrongRow_0 : List UInt8 := dkwX4_wrongRow_0 ++ dktX4_wrongRow_1
theorem dksX4_wrongRow_0 : cX4_wrongRow.data.toList.drop 0 = dktX4_wrongRow_0 := by decide +kernel
theorem dksX4_wrongRow_1 : cX4_wrongRow.data.toList.drop 22 = dktX4_wrongRow_1 := dk_seg dksX4_wrongRow_0 22 rfl rfl
theorem dksX4_wrongRow_2 : cX4_wrongRow.data.toList.drop 46 = dktX4_wrongRow_2 := dk_seg dksX4_wrongRow_1 24 rfl rfl
theorem dX4_wrongRow_0 : decode cX4_wrongRow 0 = .ok (.iload_n 1, 1) := dk_27 (dk_at dksX4_wrongRow_0 0 rfl rfl)
theorem dX4_wrongRow_1 : decode cX4_wrongRow 1 = .ok (.i2l, 1) := dk_133 (dk_at dksX4_wrongRow_0 1 rfl rfl)
theorem dX4_wrongRow_2 : decode cX4_wrongRow 2 = .ok (.lconst 0, 1) := dk_9 (dk_at dksX4_wrongRow_0 2 rfl rfl)
theorem dX4_wrongRow_3 : decode cX4_wrongRow 3 = .ok (.ldc2_w 205, 3) := dk_20 0 205 (dk_at dksX4_wrongRow_0 3 rfl rfl)
theorem dX4_wrongRow_6 : decode cX4_wrongRow 6 = .ok (.invokestatic 77, 3) := dk_184 0 77 (dk_at dksX4_wrongRow_0 6 rfl rfl)
theorem dX4_wrongRow_9 : decode cX4_wrongRow 9 = .ok (.ifCond .ne 7, 3) := dk_154 0 7 (dk_at dksX4_wrongRow_0 9 rfl rfl)
theorem dX4_wrongRow_12 : decode cX4_wrongRow 12 = .ok (.iconst (-1), 1) := dk_2 (dk_at dksX4_wrongRow_0 12 rfl rfl)
theorem dX4_wrongRow_13 : decode cX4_wrongRow 13 = .ok (.goto 33, 3) := dk_167 0 33 (dk_at dksX4_wrongRow_0 13 rfl rfl)
theorem dX4_wrongRow_16 : decode cX4_wrongRow 16 = .ok (.aload_n 0, 1) := dk_42 (dk_at dksX4_wrongRow_0 16 rfl rfl)
theorem dX4_wrongRow_17 : decode cX4_wrongRow 17 = .ok (.getfield 25, 3) := dk_180 0 25 (dk_at dksX4_wrongRow_0 17 rfl rfl)
theorem dX4_wrongRow_20 : decode cX4_wrongRow 20 = .ok (.iload_n 1, 1) := dk_27 (dk_at dksX4_wrongRow_0 20 rfl rfl)
theorem dX4_wrongRow_21 : decode cX4_wrongRow 21 = .ok (.iaload, 1) := dk_46 (dk_at dksX4_wrongRow_0 21 rfl rfl)
theorem dX4_wrongRow_22 : decode cX4_wrongRow 22 = .ok (.ifCond .ne 8, 3) := dk_154 0 8 (dk_at dksX4_wrongRow_1 0 rfl rfl)
theorem dX4_wrongRow_25 : decode cX4_wrongRow 25 = .ok (.bipush (-11), 2) := dk_16 245 (dk_at dksX4_wrongRow_1 3 rfl rfl)
theorem dX4_wrongRow_27 : decode cX4_wrongRow 27 = .ok (.goto 19, 3) := dk_167 0 19 (dk_at dksX4_wrongRow_1 5 rfl rfl)
theorem dX4_wrongRow_30 : decode cX4_wrongRow 30 = .ok (.aload_n 0, 1) := dk_42 (dk_at dksX4_wrongRow_1 8 rfl rfl)
theorem dX4_wrongRow_31 : decode cX4_wrongRow 31 = .ok (.getfield 25, 3) := dk_180 0 25 (dk_at dksX4_wrongRow_1 9 rfl rfl)
theorem dX4_wrongRow_34 : decode cX4_wrongRow 34 = .ok (.iload_n 1, 1) := dk_27 (dk_at dksX4_wrongRow_1 12 rfl rfl)
theorem dX4_wrongRow_35 : decode cX4_wrongRow 35 = .ok (.iaload, 1) := dk_46 (dk_at dksX4_wrongRow_1 13 rfl rfl)
theorem dX4_wrongRow_36 : decode cX4_wrongRow 36 = .ok (.iconst 2, 1) := dk_5 (dk_at dksX4_wrongRow_1 14 rfl rfl)
theorem dX4_wrongRow_37 : decode cX4_wrongRow 37 = .ok (.if_icmp .eq 8, 3) := dk_159 0 8 (dk_at dksX4_wrongRow_1 15 rfl rfl)
theorem dX4_wrongRow_40 : decode cX4_wrongRow 40 = .ok (.bipush (-12), 2) := dk_16 244 (dk_at dksX4_wrongRow_1 18 rfl rfl)
theorem dX4_wrongRow_42 : decode cX4_wrongRow 42 = .ok (.goto 4, 3) := dk_167 0 4 (dk_at dksX4_wrongRow_1 20 rfl rfl)
theorem dX4_wrongRow_45 : decode cX4_wrongRow 45 = .ok (.iconst 0, 1) := dk_3 (dk_at dksX4_wrongRow_1 23 rfl rfl)
theorem dX4_wrongRow_46 : decode cX4_wrongRow 46 = .ok (.ireturn, 1) := dk_172 (dk_at dksX4_wrongRow_2 0 rfl rfl)
abbrev cX4_in : ByteArray := prog_21_method_3_code
def yX4_in : MethodName := ⟨RX4, "in", "(JJJ)Z"⟩
def dkwX4_in_0 : List UInt8 := [30, 32, 148, 155, 0, 14, 30, 22, 4, 148, 157, 0, 7, 4, 167, 0, 4, 3, 172]
abbrev dktX4_in_0 : List UInt8 := dkwX4_in_0 ++ []
theorem dksX4_in_0 : cX4_in.data.toList.drop 0 = dktX4_in_0 := by decide +kernel
theorem dX4_in_0 : decode cX4_in 0 = .ok (.lload_n 0, 1) := dk_30 (dk_at dksX4_in_0 0 rfl rfl)
theorem dX4_in_1 : decode cX4_in 1 = .ok (.lload_n 2, 1) := dk_32 (dk_at dksX4_in_0 1 rfl rfl)
theorem dX4_in_2 : decode cX4_in 2 = .ok (.lcmp, 1) := dk_148 (dk_at dksX4_in_0 2 rfl rfl)
theorem dX4_in_3 : decode cX4_in 3 = .ok (.ifCond .lt 14, 3) := dk_155 0 14 (dk_at dksX4_in_0 3 rfl rfl)
theorem dX4_in_6 : decode cX4_in 6 = .ok (.lload_n 0, 1) := dk_30 (dk_at dksX4_in_0 6 rfl rfl)
theorem dX4_in_7 : decode cX4_in 7 = .ok (.lload 4, 2) := dk_22 4 (dk_at dksX4_in_0 7 rfl rfl)
theorem dX4_in_9 : decode cX4_in 9 = .ok (.lcmp, 1) := dk_148 (dk_at dksX4_in_0 9 rfl rfl)
theorem dX4_in_10 : decode cX4_in 10 = .ok (.ifCond .gt 7, 3) := dk_157 0 7 (dk_at dksX4_in_0 10 rfl rfl)
theorem dX4_in_13 : decode cX4_in 13 = .ok (.iconst 1, 1) := dk_4 (dk_at dksX4_in_0 13 rfl rfl)
theorem dX4_in_14 : decode cX4_in 14 = .ok (.goto 4, 3) := dk_167 0 4 (dk_at dksX4_in_0 14 rfl rfl)
theorem dX4_in_17 : decode cX4_in 17 = .ok (.iconst 0, 1) := dk_3 (dk_at dksX4_in_0 17 rfl rfl)
theorem dX4_in_18 : decode cX4_in 18 = .ok (.ireturn, 1) := dk_172 (dk_at dksX4_in_0 18 rfl rfl)
abbrev cX4_readStatement : ByteArray := prog_21_method_23_code
def yX4_readStatement : MethodName := ⟨RX4, "readStatement", "()V"⟩
def dkwX4_readStatement_6 : List UInt8 := [181, 0, 139, 177]
abbrev dktX4_readStatement_6 : List UInt8 := dkwX4_readStatement_6 ++ []
def dkwX4_readStatement_5 : List UInt8 := [180, 0, 124, 153, 0, 7, 3, 167, 0, 4, 4, 96, 181, 0, 118, 42, 89, 180, 0, 139, 4, 96]
abbrev dktX4_readStatement_5 : List UInt8 := dkwX4_readStatement_5 ++ dktX4_readStatement_6
def dkwX4_readStatement_4 : List UInt8 := [182, 0, 128, 16, 59, 159, 0, 7, 4, 167, 0, 4, 3, 181, 0, 124, 42, 89, 180, 0, 118, 42]
abbrev dktX4_readStatement_4 : List UInt8 := dkwX4_readStatement_4 ++ dktX4_readStatement_5
def dkwX4_readStatement_3 : List UInt8 := [42, 180, 0, 124, 154, 0, 11, 42, 28, 7, 27, 104, 182, 0, 146, 42, 42, 180, 0, 124, 154, 0, 12, 42]
abbrev dktX4_readStatement_3 : List UInt8 := dkwX4_readStatement_3 ++ dktX4_readStatement_4
def dkwX4_readStatement_2 : List UInt8 := [181, 0, 124, 42, 89, 180, 0, 118, 42, 180, 0, 124, 153, 0, 7, 3, 167, 0, 4, 4, 96, 181, 0, 118]
abbrev dktX4_readStatement_2 : List UInt8 := dkwX4_readStatement_2 ++ dktX4_readStatement_3
def dkwX4_readStatement_1 : List UInt8 := [27, 28, 79, 42, 42, 180, 0, 124, 154, 0, 10, 28, 184, 0, 142, 154, 0, 7, 4, 167, 0, 4, 3]
abbrev dktX4_readStatement_1 : List UInt8 := dkwX4_readStatement_1 ++ dktX4_readStatement_2
def dkwX4_readStatement_0 : List UInt8 := [42, 180, 0, 139, 60, 42, 182, 0, 128, 61, 42, 180, 0, 44, 27, 42, 180, 0, 118, 79, 42, 180, 0, 47]
abbrev dktX4_readStatement_0 : List UInt8 := dkwX4_readStatement_0 ++ dktX4_readStatement_1
theorem dksX4_readStatement_0 : cX4_readStatement.data.toList.drop 0 = dktX4_readStatement_0 := by decide +kernel
theorem dksX4_readStatement_1 : cX4_readStatement.data.toList.drop 24 = dktX4_readStatement_1 := dk_seg dksX4_readStatement_0 24 rfl rfl
theorem dksX4_readStatement_2 : cX4_readStatement.data.toList.drop 47 = dktX4_readStatement_2 := dk_seg dksX4_readStatement_1 23 rfl rfl
theorem dksX4_readStatement_3 : cX4_readStatement.data.toList.drop 71 = dktX4_readStatement_3 := dk_seg dksX4_readStatement_2 24 rfl rfl
theorem dksX4_readStatement_4 : cX4_readStatement.data.toList.drop 95 = dktX4_readStatement_4 := dk_seg dksX4_readStatement_3 24 rfl rfl
theorem dksX4_readStatement_5 : cX4_readStatement.data.toList.drop 117 = dktX4_readStatement_5 := dk_seg dksX4_readStatement_4 22 rfl rfl
theorem dksX4_readStatement_6 : cX4_readStatement.data.toList.drop 139 = dktX4_readStatement_6 := dk_seg dksX4_readStatement_5 22 rfl rfl
theorem dX4_readStatement_0 : decode cX4_readStatement 0 = .ok (.aload_n 0, 1) := dk_42 (dk_at dksX4_readStatement_0 0 rfl rfl)
theorem dX4_readStatement_1 : decode cX4_readStatement 1 = .ok (.getfield 139, 3) := dk_180 0 139 (dk_at dksX4_readStatement_0 1 rfl rfl)
theorem dX4_readStatement_4 : decode cX4_readStatement 4 = .ok (.istore_n 1, 1) := dk_60 (dk_at dksX4_readStatement_0 4 rfl rfl)
theorem dX4_readStatement_5 : decode cX4_readStatement 5 = .ok (.aload_n 0, 1) := dk_42 (dk_at dksX4_readStatement_0 5 rfl rfl)
theorem dX4_readStatement_6 : decode cX4_readStatement 6 = .ok (.invokevirtual 128, 3) := dk_182 0 128 (dk_at dksX4_readStatement_0 6 rfl rfl)
theorem dX4_readStatement_9 : decode cX4_readStatement 9 = .ok (.istore_n 2, 1) := dk_61 (dk_at dksX4_readStatement_0 9 rfl rfl)
theorem dX4_readStatement_10 : decode cX4_readStatement 10 = .ok (.aload_n 0, 1) := dk_42 (dk_at dksX4_readStatement_0 10 rfl rfl)
theorem dX4_readStatement_11 : decode cX4_readStatement 11 = .ok (.getfield 44, 3) := dk_180 0 44 (dk_at dksX4_readStatement_0 11 rfl rfl)
theorem dX4_readStatement_14 : decode cX4_readStatement 14 = .ok (.iload_n 1, 1) := dk_27 (dk_at dksX4_readStatement_0 14 rfl rfl)
theorem dX4_readStatement_15 : decode cX4_readStatement 15 = .ok (.aload_n 0, 1) := dk_42 (dk_at dksX4_readStatement_0 15 rfl rfl)
theorem dX4_readStatement_16 : decode cX4_readStatement 16 = .ok (.getfield 118, 3) := dk_180 0 118 (dk_at dksX4_readStatement_0 16 rfl rfl)
theorem dX4_readStatement_19 : decode cX4_readStatement 19 = .ok (.iastore, 1) := dk_79 (dk_at dksX4_readStatement_0 19 rfl rfl)
theorem dX4_readStatement_20 : decode cX4_readStatement 20 = .ok (.aload_n 0, 1) := dk_42 (dk_at dksX4_readStatement_0 20 rfl rfl)
theorem dX4_readStatement_21 : decode cX4_readStatement 21 = .ok (.getfield 47, 3) := dk_180 0 47 (dk_at dksX4_readStatement_0 21 rfl rfl)
theorem dX4_readStatement_24 : decode cX4_readStatement 24 = .ok (.iload_n 1, 1) := dk_27 (dk_at dksX4_readStatement_1 0 rfl rfl)
theorem dX4_readStatement_25 : decode cX4_readStatement 25 = .ok (.iload_n 2, 1) := dk_28 (dk_at dksX4_readStatement_1 1 rfl rfl)
theorem dX4_readStatement_26 : decode cX4_readStatement 26 = .ok (.iastore, 1) := dk_79 (dk_at dksX4_readStatement_1 2 rfl rfl)
theorem dX4_readStatement_27 : decode cX4_readStatement 27 = .ok (.aload_n 0, 1) := dk_42 (dk_at dksX4_readStatement_1 3 rfl rfl)
theorem dX4_readStatement_28 : decode cX4_readStatement 28 = .ok (.aload_n 0, 1) := dk_42 (dk_at dksX4_readStatement_1 4 rfl rfl)
theorem dX4_readStatement_29 : decode cX4_readStatement 29 = .ok (.getfield 124, 3) := dk_180 0 124 (dk_at dksX4_readStatement_1 5 rfl rfl)
theorem dX4_readStatement_32 : decode cX4_readStatement 32 = .ok (.ifCond .ne 10, 3) := dk_154 0 10 (dk_at dksX4_readStatement_1 8 rfl rfl)
theorem dX4_readStatement_35 : decode cX4_readStatement 35 = .ok (.iload_n 2, 1) := dk_28 (dk_at dksX4_readStatement_1 11 rfl rfl)
theorem dX4_readStatement_36 : decode cX4_readStatement 36 = .ok (.invokestatic 142, 3) := dk_184 0 142 (dk_at dksX4_readStatement_1 12 rfl rfl)
theorem dX4_readStatement_39 : decode cX4_readStatement 39 = .ok (.ifCond .ne 7, 3) := dk_154 0 7 (dk_at dksX4_readStatement_1 15 rfl rfl)
theorem dX4_readStatement_42 : decode cX4_readStatement 42 = .ok (.iconst 1, 1) := dk_4 (dk_at dksX4_readStatement_1 18 rfl rfl)
theorem dX4_readStatement_43 : decode cX4_readStatement 43 = .ok (.goto 4, 3) := dk_167 0 4 (dk_at dksX4_readStatement_1 19 rfl rfl)
theorem dX4_readStatement_46 : decode cX4_readStatement 46 = .ok (.iconst 0, 1) := dk_3 (dk_at dksX4_readStatement_1 22 rfl rfl)
theorem dX4_readStatement_47 : decode cX4_readStatement 47 = .ok (.putfield 124, 3) := dk_181 0 124 (dk_at dksX4_readStatement_2 0 rfl rfl)
theorem dX4_readStatement_50 : decode cX4_readStatement 50 = .ok (.aload_n 0, 1) := dk_42 (dk_at dksX4_readStatement_2 3 rfl rfl)
theorem dX4_readStatement_51 : decode cX4_readStatement 51 = .ok (.dup, 1) := dk_89 (dk_at dksX4_readStatement_2 4 rfl rfl)
theorem dX4_readStatement_52 : decode cX4_readStatement 52 = .ok (.getfield 118, 3) := dk_180 0 118 (dk_at dksX4_readStatement_2 5 rfl rfl)
theorem dX4_readStatement_55 : decode cX4_readStatement 55 = .ok (.aload_n 0, 1) := dk_42 (dk_at dksX4_readStatement_2 8 rfl rfl)
theorem dX4_readStatement_56 : decode cX4_readStatement 56 = .ok (.getfield 124, 3) := dk_180 0 124 (dk_at dksX4_readStatement_2 9 rfl rfl)
theorem dX4_readStatement_59 : decode cX4_readStatement 59 = .ok (.ifCond .eq 7, 3) := dk_153 0 7 (dk_at dksX4_readStatement_2 12 rfl rfl)
theorem dX4_readStatement_62 : decode cX4_readStatement 62 = .ok (.iconst 0, 1) := dk_3 (dk_at dksX4_readStatement_2 15 rfl rfl)
theorem dX4_readStatement_63 : decode cX4_readStatement 63 = .ok (.goto 4, 3) := dk_167 0 4 (dk_at dksX4_readStatement_2 16 rfl rfl)
theorem dX4_readStatement_66 : decode cX4_readStatement 66 = .ok (.iconst 1, 1) := dk_4 (dk_at dksX4_readStatement_2 19 rfl rfl)
theorem dX4_readStatement_67 : decode cX4_readStatement 67 = .ok (.iadd, 1) := dk_96 (dk_at dksX4_readStatement_2 20 rfl rfl)
theorem dX4_readStatement_68 : decode cX4_readStatement 68 = .ok (.putfield 118, 3) := dk_181 0 118 (dk_at dksX4_readStatement_2 21 rfl rfl)
theorem dX4_readStatement_71 : decode cX4_readStatement 71 = .ok (.aload_n 0, 1) := dk_42 (dk_at dksX4_readStatement_3 0 rfl rfl)
theorem dX4_readStatement_72 : decode cX4_readStatement 72 = .ok (.getfield 124, 3) := dk_180 0 124 (dk_at dksX4_readStatement_3 1 rfl rfl)
theorem dX4_readStatement_75 : decode cX4_readStatement 75 = .ok (.ifCond .ne 11, 3) := dk_154 0 11 (dk_at dksX4_readStatement_3 4 rfl rfl)
theorem dX4_readStatement_78 : decode cX4_readStatement 78 = .ok (.aload_n 0, 1) := dk_42 (dk_at dksX4_readStatement_3 7 rfl rfl)
theorem dX4_readStatement_79 : decode cX4_readStatement 79 = .ok (.iload_n 2, 1) := dk_28 (dk_at dksX4_readStatement_3 8 rfl rfl)
theorem dX4_readStatement_80 : decode cX4_readStatement 80 = .ok (.iconst 4, 1) := dk_7 (dk_at dksX4_readStatement_3 9 rfl rfl)
theorem dX4_readStatement_81 : decode cX4_readStatement 81 = .ok (.iload_n 1, 1) := dk_27 (dk_at dksX4_readStatement_3 10 rfl rfl)
theorem dX4_readStatement_82 : decode cX4_readStatement 82 = .ok (.imul, 1) := dk_104 (dk_at dksX4_readStatement_3 11 rfl rfl)
theorem dX4_readStatement_83 : decode cX4_readStatement 83 = .ok (.invokevirtual 146, 3) := dk_182 0 146 (dk_at dksX4_readStatement_3 12 rfl rfl)
theorem dX4_readStatement_86 : decode cX4_readStatement 86 = .ok (.aload_n 0, 1) := dk_42 (dk_at dksX4_readStatement_3 15 rfl rfl)
theorem dX4_readStatement_87 : decode cX4_readStatement 87 = .ok (.aload_n 0, 1) := dk_42 (dk_at dksX4_readStatement_3 16 rfl rfl)
theorem dX4_readStatement_88 : decode cX4_readStatement 88 = .ok (.getfield 124, 3) := dk_180 0 124 (dk_at dksX4_readStatement_3 17 rfl rfl)
theorem dX4_readStatement_91 : decode cX4_readStatement 91 = .ok (.ifCond .ne 12, 3) := dk_154 0 12 (dk_at dksX4_readStatement_3 20 rfl rfl)
theorem dX4_readStatement_94 : decode cX4_readStatement 94 = .ok (.aload_n 0, 1) := dk_42 (dk_at dksX4_readStatement_3 23 rfl rfl)
theorem dX4_readStatement_95 : decode cX4_readStatement 95 = .ok (.invokevirtual 128, 3) := dk_182 0 128 (dk_at dksX4_readStatement_4 0 rfl rfl)
theorem dX4_readStatement_98 : decode cX4_readStatement 98 = .ok (.bipush 59, 2) := dk_16 59 (dk_at dksX4_readStatement_4 3 rfl rfl)
theorem dX4_readStatement_100 : decode cX4_readStatement 100 = .ok (.if_icmp .eq 7, 3) := dk_159 0 7 (dk_at dksX4_readStatement_4 5 rfl rfl)
theorem dX4_readStatement_103 : decode cX4_readStatement 103 = .ok (.iconst 1, 1) := dk_4 (dk_at dksX4_readStatement_4 8 rfl rfl)
theorem dX4_readStatement_104 : decode cX4_readStatement 104 = .ok (.goto 4, 3) := dk_167 0 4 (dk_at dksX4_readStatement_4 9 rfl rfl)
theorem dX4_readStatement_107 : decode cX4_readStatement 107 = .ok (.iconst 0, 1) := dk_3 (dk_at dksX4_readStatement_4 12 rfl rfl)
theorem dX4_readStatement_108 : decode cX4_readStatement 108 = .ok (.putfield 124, 3) := dk_181 0 124 (dk_at dksX4_readStatement_4 13 rfl rfl)
theorem dX4_readStatement_111 : decode cX4_readStatement 111 = .ok (.aload_n 0, 1) := dk_42 (dk_at dksX4_readStatement_4 16 rfl rfl)
theorem dX4_readStatement_112 : decode cX4_readStatement 112 = .ok (.dup, 1) := dk_89 (dk_at dksX4_readStatement_4 17 rfl rfl)
theorem dX4_readStatement_113 : decode cX4_readStatement 113 = .ok (.getfield 118, 3) := dk_180 0 118 (dk_at dksX4_readStatement_4 18 rfl rfl)
theorem dX4_readStatement_116 : decode cX4_readStatement 116 = .ok (.aload_n 0, 1) := dk_42 (dk_at dksX4_readStatement_4 21 rfl rfl)
theorem dX4_readStatement_117 : decode cX4_readStatement 117 = .ok (.getfield 124, 3) := dk_180 0 124 (dk_at dksX4_readStatement_5 0 rfl rfl)
theorem dX4_readStatement_120 : decode cX4_readStatement 120 = .ok (.ifCond .eq 7, 3) := dk_153 0 7 (dk_at dksX4_readStatement_5 3 rfl rfl)
theorem dX4_readStatement_123 : decode cX4_readStatement 123 = .ok (.iconst 0, 1) := dk_3 (dk_at dksX4_readStatement_5 6 rfl rfl)
theorem dX4_readStatement_124 : decode cX4_readStatement 124 = .ok (.goto 4, 3) := dk_167 0 4 (dk_at dksX4_readStatement_5 7 rfl rfl)
theorem dX4_readStatement_127 : decode cX4_readStatement 127 = .ok (.iconst 1, 1) := dk_4 (dk_at dksX4_readStatement_5 10 rfl rfl)
theorem dX4_readStatement_128 : decode cX4_readStatement 128 = .ok (.iadd, 1) := dk_96 (dk_at dksX4_readStatement_5 11 rfl rfl)
theorem dX4_readStatement_129 : decode cX4_readStatement 129 = .ok (.putfield 118, 3) := dk_181 0 118 (dk_at dksX4_readStatement_5 12 rfl rfl)
theorem dX4_readStatement_132 : decode cX4_readStatement 132 = .ok (.aload_n 0, 1) := dk_42 (dk_at dksX4_readStatement_5 15 rfl rfl)
theorem dX4_readStatement_133 : decode cX4_readStatement 133 = .ok (.dup, 1) := dk_89 (dk_at dksX4_readStatement_5 16 rfl rfl)
theorem dX4_readStatement_134 : decode cX4_readStatement 134 = .ok (.getfield 139, 3) := dk_180 0 139 (dk_at dksX4_readStatement_5 17 rfl rfl)
theorem dX4_readStatement_137 : decode cX4_readStatement 137 = .ok (.iconst 1, 1) := dk_4 (dk_at dksX4_readStatement_5 20 rfl rfl)
theorem dX4_readStatement_138 : decode cX4_readStatement 138 = .ok (.iadd, 1) := dk_96 (dk_at dksX4_readStatement_5 21 rfl rfl)
theorem dX4_readStatement_139 : decode cX4_readStatement 139 = .ok (.putfield 139, 3) := dk_181 0 139 (dk_at dksX4_readStatement_6 0 rfl rfl)
theorem dX4_readStatement_142 : decode cX4_readStatement 142 = .ok (.return_, 1) := dk_177 (dk_at dksX4_readStatement_6 3 rfl rfl)
abbrev cX4_here : ByteArray := prog_21_method_19_code
def yX4_here : MethodName := ⟨RX4, "here", "()I"⟩
def dkwX4_here_1 : List UInt8 := [180, 0, 121, 104, 42, 180, 0, 118, 96, 47, 136, 167, 0, 6, 17, 252, 25, 172]
abbrev dktX4_here_1 : List UInt8 := dkwX4_here_1 ++ []
def dkwX4_here_0 : List UInt8 := [42, 180, 0, 118, 42, 180, 0, 37, 42, 180, 0, 121, 46, 162, 0, 24, 42, 180, 0, 40, 16, 100, 42]
abbrev dktX4_here_0 : List UInt8 := dkwX4_here_0 ++ dktX4_here_1
theorem dksX4_here_0 : cX4_here.data.toList.drop 0 = dktX4_here_0 := by decide +kernel
theorem dksX4_here_1 : cX4_here.data.toList.drop 23 = dktX4_here_1 := dk_seg dksX4_here_0 23 rfl rfl
theorem dX4_here_0 : decode cX4_here 0 = .ok (.aload_n 0, 1) := dk_42 (dk_at dksX4_here_0 0 rfl rfl)
theorem dX4_here_1 : decode cX4_here 1 = .ok (.getfield 118, 3) := dk_180 0 118 (dk_at dksX4_here_0 1 rfl rfl)
theorem dX4_here_4 : decode cX4_here 4 = .ok (.aload_n 0, 1) := dk_42 (dk_at dksX4_here_0 4 rfl rfl)
theorem dX4_here_5 : decode cX4_here 5 = .ok (.getfield 37, 3) := dk_180 0 37 (dk_at dksX4_here_0 5 rfl rfl)
theorem dX4_here_8 : decode cX4_here 8 = .ok (.aload_n 0, 1) := dk_42 (dk_at dksX4_here_0 8 rfl rfl)
theorem dX4_here_9 : decode cX4_here 9 = .ok (.getfield 121, 3) := dk_180 0 121 (dk_at dksX4_here_0 9 rfl rfl)
theorem dX4_here_12 : decode cX4_here 12 = .ok (.iaload, 1) := dk_46 (dk_at dksX4_here_0 12 rfl rfl)
theorem dX4_here_13 : decode cX4_here 13 = .ok (.if_icmp .ge 24, 3) := dk_162 0 24 (dk_at dksX4_here_0 13 rfl rfl)
theorem dX4_here_16 : decode cX4_here 16 = .ok (.aload_n 0, 1) := dk_42 (dk_at dksX4_here_0 16 rfl rfl)
theorem dX4_here_17 : decode cX4_here 17 = .ok (.getfield 40, 3) := dk_180 0 40 (dk_at dksX4_here_0 17 rfl rfl)
theorem dX4_here_20 : decode cX4_here 20 = .ok (.bipush 100, 2) := dk_16 100 (dk_at dksX4_here_0 20 rfl rfl)
theorem dX4_here_22 : decode cX4_here 22 = .ok (.aload_n 0, 1) := dk_42 (dk_at dksX4_here_0 22 rfl rfl)
theorem dX4_here_23 : decode cX4_here 23 = .ok (.getfield 121, 3) := dk_180 0 121 (dk_at dksX4_here_1 0 rfl rfl)
theorem dX4_here_26 : decode cX4_here 26 = .ok (.imul, 1) := dk_104 (dk_at dksX4_here_1 3 rfl rfl)
theorem dX4_here_27 : decode cX4_here 27 = .ok (.aload_n 0, 1) := dk_42 (dk_at dksX4_here_1 4 rfl rfl)
theorem dX4_here_28 : decode cX4_here 28 = .ok (.getfield 118, 3) := dk_180 0 118 (dk_at dksX4_here_1 5 rfl rfl)
theorem dX4_here_31 : decode cX4_here 31 = .ok (.iadd, 1) := dk_96 (dk_at dksX4_here_1 8 rfl rfl)
theorem dX4_here_32 : decode cX4_here 32 = .ok (.laload, 1) := dk_47 (dk_at dksX4_here_1 9 rfl rfl)
theorem dX4_here_33 : decode cX4_here 33 = .ok (.l2i, 1) := dk_136 (dk_at dksX4_here_1 10 rfl rfl)
theorem dX4_here_34 : decode cX4_here 34 = .ok (.goto 6, 3) := dk_167 0 6 (dk_at dksX4_here_1 11 rfl rfl)
theorem dX4_here_37 : decode cX4_here 37 = .ok (.sipush (-999), 3) := dk_17 252 25 (dk_at dksX4_here_1 14 rfl rfl)
theorem dX4_here_40 : decode cX4_here 40 = .ok (.ireturn, 1) := dk_172 (dk_at dksX4_here_1 17 rfl rfl)
abbrev cX4_isLetter : ByteArray := prog_21_method_21_code
def yX4_isLetter : MethodName := ⟨RX4, "isLetter", "(I)Z"⟩
def dkwX4_isLetter_1 : List UInt8 := [26, 16, 108, 160, 0, 7, 4, 167, 0, 4, 3, 172]
abbrev dktX4_isLetter_1 : List UInt8 := dkwX4_isLetter_1 ++ []
def dkwX4_isLetter_0 : List UInt8 := [26, 16, 104, 159, 0, 27, 26, 16, 114, 159, 0, 21, 26, 16, 111, 159, 0, 15, 26, 16, 100, 159, 0, 9]
abbrev dktX4_isLetter_0 : List UInt8 := dkwX4_isLetter_0 ++ dktX4_isLetter_1
theorem dksX4_isLetter_0 : cX4_isLetter.data.toList.drop 0 = dktX4_isLetter_0 := by decide +kernel
theorem dksX4_isLetter_1 : cX4_isLetter.data.toList.drop 24 = dktX4_isLetter_1 := dk_seg dksX4_isLetter_0 24 rfl rfl
theorem dX4_isLetter_0 : decode cX4_isLetter 0 = .ok (.iload_n 0, 1) := dk_26 (dk_at dksX4_isLetter_0 0 rfl rfl)
theorem dX4_isLetter_1 : decode cX4_isLetter 1 = .ok (.bipush 104, 2) := dk_16 104 (dk_at dksX4_isLetter_0 1 rfl rfl)
theorem dX4_isLetter_3 : decode cX4_isLetter 3 = .ok (.if_icmp .eq 27, 3) := dk_159 0 27 (dk_at dksX4_isLetter_0 3 rfl rfl)
theorem dX4_isLetter_6 : decode cX4_isLetter 6 = .ok (.iload_n 0, 1) := dk_26 (dk_at dksX4_isLetter_0 6 rfl rfl)
theorem dX4_isLetter_7 : decode cX4_isLetter 7 = .ok (.bipush 114, 2) := dk_16 114 (dk_at dksX4_isLetter_0 7 rfl rfl)
theorem dX4_isLetter_9 : decode cX4_isLetter 9 = .ok (.if_icmp .eq 21, 3) := dk_159 0 21 (dk_at dksX4_isLetter_0 9 rfl rfl)
theorem dX4_isLetter_12 : decode cX4_isLetter 12 = .ok (.iload_n 0, 1) := dk_26 (dk_at dksX4_isLetter_0 12 rfl rfl)
theorem dX4_isLetter_13 : decode cX4_isLetter 13 = .ok (.bipush 111, 2) := dk_16 111 (dk_at dksX4_isLetter_0 13 rfl rfl)
theorem dX4_isLetter_15 : decode cX4_isLetter 15 = .ok (.if_icmp .eq 15, 3) := dk_159 0 15 (dk_at dksX4_isLetter_0 15 rfl rfl)
theorem dX4_isLetter_18 : decode cX4_isLetter 18 = .ok (.iload_n 0, 1) := dk_26 (dk_at dksX4_isLetter_0 18 rfl rfl)
theorem dX4_isLetter_19 : decode cX4_isLetter 19 = .ok (.bipush 100, 2) := dk_16 100 (dk_at dksX4_isLetter_0 19 rfl rfl)
theorem dX4_isLetter_21 : decode cX4_isLetter 21 = .ok (.if_icmp .eq 9, 3) := dk_159 0 9 (dk_at dksX4_isLetter_0 21 rfl rfl)
theorem dX4_isLetter_24 : decode cX4_isLetter 24 = .ok (.iload_n 0, 1) := dk_26 (dk_at dksX4_isLetter_1 0 rfl rfl)
theorem dX4_isLetter_25 : decode cX4_isLetter 25 = .ok (.bipush 108, 2) := dk_16 108 (dk_at dksX4_isLetter_1 1 rfl rfl)
theorem dX4_isLetter_27 : decode cX4_isLetter 27 = .ok (.if_icmp .ne 7, 3) := dk_160 0 7 (dk_at dksX4_isLetter_1 3 rfl rfl)
theorem dX4_isLetter_30 : decode cX4_isLetter 30 = .ok (.iconst 1, 1) := dk_4 (dk_at dksX4_isLetter_1 6 rfl rfl)
theorem dX4_isLetter_31 : decode cX4_isLetter 31 = .ok (.goto 4, 3) := dk_167 0 4 (dk_at dksX4_isLetter_1 7 rfl rfl)
theorem dX4_isLetter_34 : decode cX4_isLetter 34 = .ok (.iconst 0, 1) := dk_3 (dk_at dksX4_isLetter_1 10 rfl rfl)
theorem dX4_isLetter_35 : decode cX4_isLetter 35 = .ok (.ireturn, 1) := dk_172 (dk_at dksX4_isLetter_1 11 rfl rfl)
abbrev cX4_readNumbers : ByteArray := prog_21_method_22_code
def yX4_readNumbers : MethodName := ⟨RX4, "readNumbers", "(II)V"⟩
def dkwX4_readNumbers_4 : List UInt8 := [5, 182, 0, 136, 79, 177]
abbrev dktX4_readNumbers_4 : List UInt8 := dkwX4_readNumbers_4 ++ []
def dkwX4_readNumbers_3 : List UInt8 := [79, 167, 0, 28, 27, 16, 114, 159, 0, 9, 27, 16, 108, 160, 0, 16, 42, 180, 0, 50, 28, 4, 96, 42]
abbrev dktX4_readNumbers_3 : List UInt8 := dkwX4_readNumbers_3 ++ dktX4_readNumbers_4
def dkwX4_readNumbers_2 : List UInt8 := [180, 0, 50, 28, 5, 96, 42, 5, 182, 0, 136, 79, 42, 180, 0, 50, 28, 6, 96, 42, 5, 182, 0, 136]
abbrev dktX4_readNumbers_2 : List UInt8 := dkwX4_readNumbers_2 ++ dktX4_readNumbers_3
def dkwX4_readNumbers_1 : List UInt8 := [182, 0, 136, 79, 27, 16, 104, 160, 0, 45, 42, 180, 0, 50, 28, 4, 96, 42, 4, 182, 0, 136, 79, 42]
abbrev dktX4_readNumbers_1 : List UInt8 := dkwX4_readNumbers_1 ++ dktX4_readNumbers_2
def dkwX4_readNumbers_0 : List UInt8 := [42, 180, 0, 50, 28, 42, 27, 16, 111, 159, 0, 9, 27, 16, 100, 160, 0, 7, 5, 167, 0, 4, 4]
abbrev dktX4_readNumbers_0 : List UInt8 := dkwX4_readNumbers_0 ++ dktX4_readNumbers_1
theorem dksX4_readNumbers_0 : cX4_readNumbers.data.toList.drop 0 = dktX4_readNumbers_0 := by decide +kernel
theorem dksX4_readNumbers_1 : cX4_readNumbers.data.toList.drop 23 = dktX4_readNumbers_1 := dk_seg dksX4_readNumbers_0 23 rfl rfl
theorem dksX4_readNumbers_2 : cX4_readNumbers.data.toList.drop 47 = dktX4_readNumbers_2 := dk_seg dksX4_readNumbers_1 24 rfl rfl
theorem dksX4_readNumbers_3 : cX4_readNumbers.data.toList.drop 71 = dktX4_readNumbers_3 := dk_seg dksX4_readNumbers_2 24 rfl rfl
theorem dksX4_readNumbers_4 : cX4_readNumbers.data.toList.drop 95 = dktX4_readNumbers_4 := dk_seg dksX4_readNumbers_3 24 rfl rfl
theorem dX4_readNumbers_0 : decode cX4_readNumbers 0 = .ok (.aload_n 0, 1) := dk_42 (dk_at dksX4_readNumbers_0 0 rfl rfl)
theorem dX4_readNumbers_1 : decode cX4_readNumbers 1 = .ok (.getfield 50, 3) := dk_180 0 50 (dk_at dksX4_readNumbers_0 1 rfl rfl)
theorem dX4_readNumbers_4 : decode cX4_readNumbers 4 = .ok (.iload_n 2, 1) := dk_28 (dk_at dksX4_readNumbers_0 4 rfl rfl)
theorem dX4_readNumbers_5 : decode cX4_readNumbers 5 = .ok (.aload_n 0, 1) := dk_42 (dk_at dksX4_readNumbers_0 5 rfl rfl)
theorem dX4_readNumbers_6 : decode cX4_readNumbers 6 = .ok (.iload_n 1, 1) := dk_27 (dk_at dksX4_readNumbers_0 6 rfl rfl)
theorem dX4_readNumbers_7 : decode cX4_readNumbers 7 = .ok (.bipush 111, 2) := dk_16 111 (dk_at dksX4_readNumbers_0 7 rfl rfl)
theorem dX4_readNumbers_9 : decode cX4_readNumbers 9 = .ok (.if_icmp .eq 9, 3) := dk_159 0 9 (dk_at dksX4_readNumbers_0 9 rfl rfl)
theorem dX4_readNumbers_12 : decode cX4_readNumbers 12 = .ok (.iload_n 1, 1) := dk_27 (dk_at dksX4_readNumbers_0 12 rfl rfl)
theorem dX4_readNumbers_13 : decode cX4_readNumbers 13 = .ok (.bipush 100, 2) := dk_16 100 (dk_at dksX4_readNumbers_0 13 rfl rfl)
theorem dX4_readNumbers_15 : decode cX4_readNumbers 15 = .ok (.if_icmp .ne 7, 3) := dk_160 0 7 (dk_at dksX4_readNumbers_0 15 rfl rfl)
theorem dX4_readNumbers_18 : decode cX4_readNumbers 18 = .ok (.iconst 2, 1) := dk_5 (dk_at dksX4_readNumbers_0 18 rfl rfl)
theorem dX4_readNumbers_19 : decode cX4_readNumbers 19 = .ok (.goto 4, 3) := dk_167 0 4 (dk_at dksX4_readNumbers_0 19 rfl rfl)
theorem dX4_readNumbers_22 : decode cX4_readNumbers 22 = .ok (.iconst 1, 1) := dk_4 (dk_at dksX4_readNumbers_0 22 rfl rfl)
theorem dX4_readNumbers_23 : decode cX4_readNumbers 23 = .ok (.invokevirtual 136, 3) := dk_182 0 136 (dk_at dksX4_readNumbers_1 0 rfl rfl)
theorem dX4_readNumbers_26 : decode cX4_readNumbers 26 = .ok (.iastore, 1) := dk_79 (dk_at dksX4_readNumbers_1 3 rfl rfl)
theorem dX4_readNumbers_27 : decode cX4_readNumbers 27 = .ok (.iload_n 1, 1) := dk_27 (dk_at dksX4_readNumbers_1 4 rfl rfl)
theorem dX4_readNumbers_28 : decode cX4_readNumbers 28 = .ok (.bipush 104, 2) := dk_16 104 (dk_at dksX4_readNumbers_1 5 rfl rfl)
theorem dX4_readNumbers_30 : decode cX4_readNumbers 30 = .ok (.if_icmp .ne 45, 3) := dk_160 0 45 (dk_at dksX4_readNumbers_1 7 rfl rfl)
theorem dX4_readNumbers_33 : decode cX4_readNumbers 33 = .ok (.aload_n 0, 1) := dk_42 (dk_at dksX4_readNumbers_1 10 rfl rfl)
theorem dX4_readNumbers_34 : decode cX4_readNumbers 34 = .ok (.getfield 50, 3) := dk_180 0 50 (dk_at dksX4_readNumbers_1 11 rfl rfl)
theorem dX4_readNumbers_37 : decode cX4_readNumbers 37 = .ok (.iload_n 2, 1) := dk_28 (dk_at dksX4_readNumbers_1 14 rfl rfl)
theorem dX4_readNumbers_38 : decode cX4_readNumbers 38 = .ok (.iconst 1, 1) := dk_4 (dk_at dksX4_readNumbers_1 15 rfl rfl)
theorem dX4_readNumbers_39 : decode cX4_readNumbers 39 = .ok (.iadd, 1) := dk_96 (dk_at dksX4_readNumbers_1 16 rfl rfl)
theorem dX4_readNumbers_40 : decode cX4_readNumbers 40 = .ok (.aload_n 0, 1) := dk_42 (dk_at dksX4_readNumbers_1 17 rfl rfl)
theorem dX4_readNumbers_41 : decode cX4_readNumbers 41 = .ok (.iconst 1, 1) := dk_4 (dk_at dksX4_readNumbers_1 18 rfl rfl)
theorem dX4_readNumbers_42 : decode cX4_readNumbers 42 = .ok (.invokevirtual 136, 3) := dk_182 0 136 (dk_at dksX4_readNumbers_1 19 rfl rfl)
theorem dX4_readNumbers_45 : decode cX4_readNumbers 45 = .ok (.iastore, 1) := dk_79 (dk_at dksX4_readNumbers_1 22 rfl rfl)
theorem dX4_readNumbers_46 : decode cX4_readNumbers 46 = .ok (.aload_n 0, 1) := dk_42 (dk_at dksX4_readNumbers_1 23 rfl rfl)
theorem dX4_readNumbers_47 : decode cX4_readNumbers 47 = .ok (.getfield 50, 3) := dk_180 0 50 (dk_at dksX4_readNumbers_2 0 rfl rfl)
theorem dX4_readNumbers_50 : decode cX4_readNumbers 50 = .ok (.iload_n 2, 1) := dk_28 (dk_at dksX4_readNumbers_2 3 rfl rfl)
theorem dX4_readNumbers_51 : decode cX4_readNumbers 51 = .ok (.iconst 2, 1) := dk_5 (dk_at dksX4_readNumbers_2 4 rfl rfl)
theorem dX4_readNumbers_52 : decode cX4_readNumbers 52 = .ok (.iadd, 1) := dk_96 (dk_at dksX4_readNumbers_2 5 rfl rfl)
theorem dX4_readNumbers_53 : decode cX4_readNumbers 53 = .ok (.aload_n 0, 1) := dk_42 (dk_at dksX4_readNumbers_2 6 rfl rfl)
theorem dX4_readNumbers_54 : decode cX4_readNumbers 54 = .ok (.iconst 2, 1) := dk_5 (dk_at dksX4_readNumbers_2 7 rfl rfl)
theorem dX4_readNumbers_55 : decode cX4_readNumbers 55 = .ok (.invokevirtual 136, 3) := dk_182 0 136 (dk_at dksX4_readNumbers_2 8 rfl rfl)
theorem dX4_readNumbers_58 : decode cX4_readNumbers 58 = .ok (.iastore, 1) := dk_79 (dk_at dksX4_readNumbers_2 11 rfl rfl)
theorem dX4_readNumbers_59 : decode cX4_readNumbers 59 = .ok (.aload_n 0, 1) := dk_42 (dk_at dksX4_readNumbers_2 12 rfl rfl)
theorem dX4_readNumbers_60 : decode cX4_readNumbers 60 = .ok (.getfield 50, 3) := dk_180 0 50 (dk_at dksX4_readNumbers_2 13 rfl rfl)
theorem dX4_readNumbers_63 : decode cX4_readNumbers 63 = .ok (.iload_n 2, 1) := dk_28 (dk_at dksX4_readNumbers_2 16 rfl rfl)
theorem dX4_readNumbers_64 : decode cX4_readNumbers 64 = .ok (.iconst 3, 1) := dk_6 (dk_at dksX4_readNumbers_2 17 rfl rfl)
theorem dX4_readNumbers_65 : decode cX4_readNumbers 65 = .ok (.iadd, 1) := dk_96 (dk_at dksX4_readNumbers_2 18 rfl rfl)
theorem dX4_readNumbers_66 : decode cX4_readNumbers 66 = .ok (.aload_n 0, 1) := dk_42 (dk_at dksX4_readNumbers_2 19 rfl rfl)
theorem dX4_readNumbers_67 : decode cX4_readNumbers 67 = .ok (.iconst 2, 1) := dk_5 (dk_at dksX4_readNumbers_2 20 rfl rfl)
theorem dX4_readNumbers_68 : decode cX4_readNumbers 68 = .ok (.invokevirtual 136, 3) := dk_182 0 136 (dk_at dksX4_readNumbers_2 21 rfl rfl)
theorem dX4_readNumbers_71 : decode cX4_readNumbers 71 = .ok (.iastore, 1) := dk_79 (dk_at dksX4_readNumbers_3 0 rfl rfl)
theorem dX4_readNumbers_72 : decode cX4_readNumbers 72 = .ok (.goto 28, 3) := dk_167 0 28 (dk_at dksX4_readNumbers_3 1 rfl rfl)
theorem dX4_readNumbers_75 : decode cX4_readNumbers 75 = .ok (.iload_n 1, 1) := dk_27 (dk_at dksX4_readNumbers_3 4 rfl rfl)
theorem dX4_readNumbers_76 : decode cX4_readNumbers 76 = .ok (.bipush 114, 2) := dk_16 114 (dk_at dksX4_readNumbers_3 5 rfl rfl)
theorem dX4_readNumbers_78 : decode cX4_readNumbers 78 = .ok (.if_icmp .eq 9, 3) := dk_159 0 9 (dk_at dksX4_readNumbers_3 7 rfl rfl)
theorem dX4_readNumbers_81 : decode cX4_readNumbers 81 = .ok (.iload_n 1, 1) := dk_27 (dk_at dksX4_readNumbers_3 10 rfl rfl)
theorem dX4_readNumbers_82 : decode cX4_readNumbers 82 = .ok (.bipush 108, 2) := dk_16 108 (dk_at dksX4_readNumbers_3 11 rfl rfl)
theorem dX4_readNumbers_84 : decode cX4_readNumbers 84 = .ok (.if_icmp .ne 16, 3) := dk_160 0 16 (dk_at dksX4_readNumbers_3 13 rfl rfl)
theorem dX4_readNumbers_87 : decode cX4_readNumbers 87 = .ok (.aload_n 0, 1) := dk_42 (dk_at dksX4_readNumbers_3 16 rfl rfl)
theorem dX4_readNumbers_88 : decode cX4_readNumbers 88 = .ok (.getfield 50, 3) := dk_180 0 50 (dk_at dksX4_readNumbers_3 17 rfl rfl)
theorem dX4_readNumbers_91 : decode cX4_readNumbers 91 = .ok (.iload_n 2, 1) := dk_28 (dk_at dksX4_readNumbers_3 20 rfl rfl)
theorem dX4_readNumbers_92 : decode cX4_readNumbers 92 = .ok (.iconst 1, 1) := dk_4 (dk_at dksX4_readNumbers_3 21 rfl rfl)
theorem dX4_readNumbers_93 : decode cX4_readNumbers 93 = .ok (.iadd, 1) := dk_96 (dk_at dksX4_readNumbers_3 22 rfl rfl)
theorem dX4_readNumbers_94 : decode cX4_readNumbers 94 = .ok (.aload_n 0, 1) := dk_42 (dk_at dksX4_readNumbers_3 23 rfl rfl)
theorem dX4_readNumbers_95 : decode cX4_readNumbers 95 = .ok (.iconst 2, 1) := dk_5 (dk_at dksX4_readNumbers_4 0 rfl rfl)
theorem dX4_readNumbers_96 : decode cX4_readNumbers 96 = .ok (.invokevirtual 136, 3) := dk_182 0 136 (dk_at dksX4_readNumbers_4 1 rfl rfl)
theorem dX4_readNumbers_99 : decode cX4_readNumbers 99 = .ok (.iastore, 1) := dk_79 (dk_at dksX4_readNumbers_4 4 rfl rfl)
theorem dX4_readNumbers_100 : decode cX4_readNumbers 100 = .ok (.return_, 1) := dk_177 (dk_at dksX4_readNumbers_4 5 rfl rfl)
abbrev cX4_readDigits : ByteArray := prog_21_method_20_code
def yX4_readDigits : MethodName := ⟨RX4, "readDigits", "(I)I"⟩
def dkwX4_readDigits_4 : List UInt8 := [167, 255, 170, 28, 172]
abbrev dktX4_readDigits_4 : List UInt8 := dkwX4_readDigits_4 ++ []
def dkwX4_readDigits_3 : List UInt8 := [180, 0, 118, 42, 180, 0, 124, 153, 0, 7, 3, 167, 0, 4, 4, 96, 181, 0, 118, 132, 3, 1]
abbrev dktX4_readDigits_3 : List UInt8 := dkwX4_readDigits_3 ++ dktX4_readDigits_4
def dkwX4_readDigits_2 : List UInt8 := [153, 0, 7, 3, 167, 0, 15, 16, 10, 28, 104, 42, 182, 0, 128, 96, 16, 48, 100, 61, 42, 89]
abbrev dktX4_readDigits_2 : List UInt8 := dkwX4_readDigits_2 ++ dktX4_readDigits_3
def dkwX4_readDigits_1 : List UInt8 := [20, 0, 132, 20, 0, 134, 184, 0, 77, 154, 0, 7, 4, 167, 0, 4, 3, 181, 0, 124, 42, 180, 0, 124]
abbrev dktX4_readDigits_1 : List UInt8 := dkwX4_readDigits_1 ++ dktX4_readDigits_2
def dkwX4_readDigits_0 : List UInt8 := [3, 61, 3, 62, 29, 27, 162, 0, 87, 42, 42, 180, 0, 124, 154, 0, 20, 42, 182, 0, 128, 133]
abbrev dktX4_readDigits_0 : List UInt8 := dkwX4_readDigits_0 ++ dktX4_readDigits_1
theorem dksX4_readDigits_0 : cX4_readDigits.data.toList.drop 0 = dktX4_readDigits_0 := by decide +kernel
theorem dksX4_readDigits_1 : cX4_readDigits.data.toList.drop 22 = dktX4_readDigits_1 := dk_seg dksX4_readDigits_0 22 rfl rfl
theorem dksX4_readDigits_2 : cX4_readDigits.data.toList.drop 46 = dktX4_readDigits_2 := dk_seg dksX4_readDigits_1 24 rfl rfl
theorem dksX4_readDigits_3 : cX4_readDigits.data.toList.drop 68 = dktX4_readDigits_3 := dk_seg dksX4_readDigits_2 22 rfl rfl
theorem dksX4_readDigits_4 : cX4_readDigits.data.toList.drop 90 = dktX4_readDigits_4 := dk_seg dksX4_readDigits_3 22 rfl rfl
theorem dX4_readDigits_0 : decode cX4_readDigits 0 = .ok (.iconst 0, 1) := dk_3 (dk_at dksX4_readDigits_0 0 rfl rfl)
theorem dX4_readDigits_1 : decode cX4_readDigits 1 = .ok (.istore_n 2, 1) := dk_61 (dk_at dksX4_readDigits_0 1 rfl rfl)
theorem dX4_readDigits_2 : decode cX4_readDigits 2 = .ok (.iconst 0, 1) := dk_3 (dk_at dksX4_readDigits_0 2 rfl rfl)
theorem dX4_readDigits_3 : decode cX4_readDigits 3 = .ok (.istore_n 3, 1) := dk_62 (dk_at dksX4_readDigits_0 3 rfl rfl)
theorem dX4_readDigits_4 : decode cX4_readDigits 4 = .ok (.iload_n 3, 1) := dk_29 (dk_at dksX4_readDigits_0 4 rfl rfl)
theorem dX4_readDigits_5 : decode cX4_readDigits 5 = .ok (.iload_n 1, 1) := dk_27 (dk_at dksX4_readDigits_0 5 rfl rfl)
theorem dX4_readDigits_6 : decode cX4_readDigits 6 = .ok (.if_icmp .ge 87, 3) := dk_162 0 87 (dk_at dksX4_readDigits_0 6 rfl rfl)
theorem dX4_readDigits_9 : decode cX4_readDigits 9 = .ok (.aload_n 0, 1) := dk_42 (dk_at dksX4_readDigits_0 9 rfl rfl)
theorem dX4_readDigits_10 : decode cX4_readDigits 10 = .ok (.aload_n 0, 1) := dk_42 (dk_at dksX4_readDigits_0 10 rfl rfl)
theorem dX4_readDigits_11 : decode cX4_readDigits 11 = .ok (.getfield 124, 3) := dk_180 0 124 (dk_at dksX4_readDigits_0 11 rfl rfl)
theorem dX4_readDigits_14 : decode cX4_readDigits 14 = .ok (.ifCond .ne 20, 3) := dk_154 0 20 (dk_at dksX4_readDigits_0 14 rfl rfl)
theorem dX4_readDigits_17 : decode cX4_readDigits 17 = .ok (.aload_n 0, 1) := dk_42 (dk_at dksX4_readDigits_0 17 rfl rfl)
theorem dX4_readDigits_18 : decode cX4_readDigits 18 = .ok (.invokevirtual 128, 3) := dk_182 0 128 (dk_at dksX4_readDigits_0 18 rfl rfl)
theorem dX4_readDigits_21 : decode cX4_readDigits 21 = .ok (.i2l, 1) := dk_133 (dk_at dksX4_readDigits_0 21 rfl rfl)
theorem dX4_readDigits_22 : decode cX4_readDigits 22 = .ok (.ldc2_w 132, 3) := dk_20 0 132 (dk_at dksX4_readDigits_1 0 rfl rfl)
theorem dX4_readDigits_25 : decode cX4_readDigits 25 = .ok (.ldc2_w 134, 3) := dk_20 0 134 (dk_at dksX4_readDigits_1 3 rfl rfl)
theorem dX4_readDigits_28 : decode cX4_readDigits 28 = .ok (.invokestatic 77, 3) := dk_184 0 77 (dk_at dksX4_readDigits_1 6 rfl rfl)
theorem dX4_readDigits_31 : decode cX4_readDigits 31 = .ok (.ifCond .ne 7, 3) := dk_154 0 7 (dk_at dksX4_readDigits_1 9 rfl rfl)
theorem dX4_readDigits_34 : decode cX4_readDigits 34 = .ok (.iconst 1, 1) := dk_4 (dk_at dksX4_readDigits_1 12 rfl rfl)
theorem dX4_readDigits_35 : decode cX4_readDigits 35 = .ok (.goto 4, 3) := dk_167 0 4 (dk_at dksX4_readDigits_1 13 rfl rfl)
theorem dX4_readDigits_38 : decode cX4_readDigits 38 = .ok (.iconst 0, 1) := dk_3 (dk_at dksX4_readDigits_1 16 rfl rfl)
theorem dX4_readDigits_39 : decode cX4_readDigits 39 = .ok (.putfield 124, 3) := dk_181 0 124 (dk_at dksX4_readDigits_1 17 rfl rfl)
theorem dX4_readDigits_42 : decode cX4_readDigits 42 = .ok (.aload_n 0, 1) := dk_42 (dk_at dksX4_readDigits_1 20 rfl rfl)
theorem dX4_readDigits_43 : decode cX4_readDigits 43 = .ok (.getfield 124, 3) := dk_180 0 124 (dk_at dksX4_readDigits_1 21 rfl rfl)
theorem dX4_readDigits_46 : decode cX4_readDigits 46 = .ok (.ifCond .eq 7, 3) := dk_153 0 7 (dk_at dksX4_readDigits_2 0 rfl rfl)
theorem dX4_readDigits_49 : decode cX4_readDigits 49 = .ok (.iconst 0, 1) := dk_3 (dk_at dksX4_readDigits_2 3 rfl rfl)
theorem dX4_readDigits_50 : decode cX4_readDigits 50 = .ok (.goto 15, 3) := dk_167 0 15 (dk_at dksX4_readDigits_2 4 rfl rfl)
theorem dX4_readDigits_53 : decode cX4_readDigits 53 = .ok (.bipush 10, 2) := dk_16 10 (dk_at dksX4_readDigits_2 7 rfl rfl)
theorem dX4_readDigits_55 : decode cX4_readDigits 55 = .ok (.iload_n 2, 1) := dk_28 (dk_at dksX4_readDigits_2 9 rfl rfl)
theorem dX4_readDigits_56 : decode cX4_readDigits 56 = .ok (.imul, 1) := dk_104 (dk_at dksX4_readDigits_2 10 rfl rfl)
theorem dX4_readDigits_57 : decode cX4_readDigits 57 = .ok (.aload_n 0, 1) := dk_42 (dk_at dksX4_readDigits_2 11 rfl rfl)
theorem dX4_readDigits_58 : decode cX4_readDigits 58 = .ok (.invokevirtual 128, 3) := dk_182 0 128 (dk_at dksX4_readDigits_2 12 rfl rfl)
theorem dX4_readDigits_61 : decode cX4_readDigits 61 = .ok (.iadd, 1) := dk_96 (dk_at dksX4_readDigits_2 15 rfl rfl)
theorem dX4_readDigits_62 : decode cX4_readDigits 62 = .ok (.bipush 48, 2) := dk_16 48 (dk_at dksX4_readDigits_2 16 rfl rfl)
theorem dX4_readDigits_64 : decode cX4_readDigits 64 = .ok (.isub, 1) := dk_100 (dk_at dksX4_readDigits_2 18 rfl rfl)
theorem dX4_readDigits_65 : decode cX4_readDigits 65 = .ok (.istore_n 2, 1) := dk_61 (dk_at dksX4_readDigits_2 19 rfl rfl)
theorem dX4_readDigits_66 : decode cX4_readDigits 66 = .ok (.aload_n 0, 1) := dk_42 (dk_at dksX4_readDigits_2 20 rfl rfl)
theorem dX4_readDigits_67 : decode cX4_readDigits 67 = .ok (.dup, 1) := dk_89 (dk_at dksX4_readDigits_2 21 rfl rfl)
theorem dX4_readDigits_68 : decode cX4_readDigits 68 = .ok (.getfield 118, 3) := dk_180 0 118 (dk_at dksX4_readDigits_3 0 rfl rfl)
theorem dX4_readDigits_71 : decode cX4_readDigits 71 = .ok (.aload_n 0, 1) := dk_42 (dk_at dksX4_readDigits_3 3 rfl rfl)
theorem dX4_readDigits_72 : decode cX4_readDigits 72 = .ok (.getfield 124, 3) := dk_180 0 124 (dk_at dksX4_readDigits_3 4 rfl rfl)
theorem dX4_readDigits_75 : decode cX4_readDigits 75 = .ok (.ifCond .eq 7, 3) := dk_153 0 7 (dk_at dksX4_readDigits_3 7 rfl rfl)
theorem dX4_readDigits_78 : decode cX4_readDigits 78 = .ok (.iconst 0, 1) := dk_3 (dk_at dksX4_readDigits_3 10 rfl rfl)
theorem dX4_readDigits_79 : decode cX4_readDigits 79 = .ok (.goto 4, 3) := dk_167 0 4 (dk_at dksX4_readDigits_3 11 rfl rfl)
theorem dX4_readDigits_82 : decode cX4_readDigits 82 = .ok (.iconst 1, 1) := dk_4 (dk_at dksX4_readDigits_3 14 rfl rfl)
theorem dX4_readDigits_83 : decode cX4_readDigits 83 = .ok (.iadd, 1) := dk_96 (dk_at dksX4_readDigits_3 15 rfl rfl)
theorem dX4_readDigits_84 : decode cX4_readDigits 84 = .ok (.putfield 118, 3) := dk_181 0 118 (dk_at dksX4_readDigits_3 16 rfl rfl)
theorem dX4_readDigits_87 : decode cX4_readDigits 87 = .ok (.iinc 3 1, 3) := dk_132 3 1 (dk_at dksX4_readDigits_3 19 rfl rfl)
theorem dX4_readDigits_90 : decode cX4_readDigits 90 = .ok (.goto (-86), 3) := dk_167 255 170 (dk_at dksX4_readDigits_4 0 rfl rfl)
theorem dX4_readDigits_93 : decode cX4_readDigits 93 = .ok (.iload_n 2, 1) := dk_28 (dk_at dksX4_readDigits_4 3 rfl rfl)
theorem dX4_readDigits_94 : decode cX4_readDigits 94 = .ok (.ireturn, 1) := dk_172 (dk_at dksX4_readDigits_4 4 rfl rfl)
abbrev cX4_open : ByteArray := prog_21_method_30_code
def yX4_open : MethodName := ⟨RX4, "open", "()V"⟩
def dkwX4_open_0 : List UInt8 := [42, 42, 180, 0, 53, 4, 182, 0, 198, 177]
abbrev dktX4_open_0 : List UInt8 := dkwX4_open_0 ++ []
theorem dksX4_open_0 : cX4_open.data.toList.drop 0 = dktX4_open_0 := by decide +kernel
theorem dX4_open_0 : decode cX4_open 0 = .ok (.aload_n 0, 1) := dk_42 (dk_at dksX4_open_0 0 rfl rfl)
theorem dX4_open_1 : decode cX4_open 1 = .ok (.aload_n 0, 1) := dk_42 (dk_at dksX4_open_0 1 rfl rfl)
theorem dX4_open_2 : decode cX4_open 2 = .ok (.getfield 53, 3) := dk_180 0 53 (dk_at dksX4_open_0 2 rfl rfl)
theorem dX4_open_5 : decode cX4_open 5 = .ok (.iconst 1, 1) := dk_4 (dk_at dksX4_open_0 5 rfl rfl)
theorem dX4_open_6 : decode cX4_open 6 = .ok (.invokevirtual 198, 3) := dk_182 0 198 (dk_at dksX4_open_0 6 rfl rfl)
theorem dX4_open_9 : decode cX4_open 9 = .ok (.return_, 1) := dk_177 (dk_at dksX4_open_0 9 rfl rfl)
abbrev cX4_carryAll : ByteArray := prog_21_method_29_code
def yX4_carryAll : MethodName := ⟨RX4, "carryAll", "([IZ)V"⟩
def dkwX4_carryAll_6 : List UInt8 := [167, 255, 167, 177]
abbrev dktX4_carryAll_6 : List UInt8 := dkwX4_carryAll_6 ++ []
def dkwX4_carryAll_5 : List UInt8 := [182, 0, 195, 79, 42, 180, 0, 22, 29, 42, 42, 180, 0, 22, 29, 46, 182, 0, 195, 79, 132, 3, 1]
abbrev dktX4_carryAll_5 : List UInt8 := dkwX4_carryAll_5 ++ dktX4_carryAll_6
def dkwX4_carryAll_4 : List UInt8 := [29, 42, 42, 180, 0, 16, 29, 46, 182, 0, 195, 79, 42, 180, 0, 19, 29, 42, 42, 180, 0, 19, 29, 46]
abbrev dktX4_carryAll_4 : List UInt8 := dkwX4_carryAll_4 ++ dktX4_carryAll_5
def dkwX4_carryAll_3 : List UInt8 := [182, 0, 195, 79, 42, 180, 0, 13, 29, 42, 42, 180, 0, 13, 29, 46, 182, 0, 195, 79, 42, 180, 0, 16]
abbrev dktX4_carryAll_3 : List UInt8 := dkwX4_carryAll_3 ++ dktX4_carryAll_4
def dkwX4_carryAll_2 : List UInt8 := [181, 0, 95, 3, 62, 29, 16, 7, 162, 0, 89, 42, 180, 0, 7, 29, 42, 42, 180, 0, 7, 29, 46]
abbrev dktX4_carryAll_2 : List UInt8 := dkwX4_carryAll_2 ++ dktX4_carryAll_3
def dkwX4_carryAll_1 : List UInt8 := [181, 0, 81, 42, 42, 42, 180, 0, 88, 182, 0, 195, 181, 0, 88, 42, 42, 42, 180, 0, 95, 182, 0, 195]
abbrev dktX4_carryAll_1 : List UInt8 := dkwX4_carryAll_1 ++ dktX4_carryAll_2
def dkwX4_carryAll_0 : List UInt8 := [42, 43, 181, 0, 189, 42, 28, 181, 0, 186, 42, 3, 181, 0, 192, 42, 42, 42, 180, 0, 81, 182, 0, 195]
abbrev dktX4_carryAll_0 : List UInt8 := dkwX4_carryAll_0 ++ dktX4_carryAll_1
theorem dksX4_carryAll_0 : cX4_carryAll.data.toList.drop 0 = dktX4_carryAll_0 := by decide +kernel
theorem dksX4_carryAll_1 : cX4_carryAll.data.toList.drop 24 = dktX4_carryAll_1 := dk_seg dksX4_carryAll_0 24 rfl rfl
theorem dksX4_carryAll_2 : cX4_carryAll.data.toList.drop 48 = dktX4_carryAll_2 := dk_seg dksX4_carryAll_1 24 rfl rfl
theorem dksX4_carryAll_3 : cX4_carryAll.data.toList.drop 71 = dktX4_carryAll_3 := dk_seg dksX4_carryAll_2 23 rfl rfl
theorem dksX4_carryAll_4 : cX4_carryAll.data.toList.drop 95 = dktX4_carryAll_4 := dk_seg dksX4_carryAll_3 24 rfl rfl
theorem dksX4_carryAll_5 : cX4_carryAll.data.toList.drop 119 = dktX4_carryAll_5 := dk_seg dksX4_carryAll_4 24 rfl rfl
theorem dksX4_carryAll_6 : cX4_carryAll.data.toList.drop 142 = dktX4_carryAll_6 := dk_seg dksX4_carryAll_5 23 rfl rfl
theorem dX4_carryAll_0 : decode cX4_carryAll 0 = .ok (.aload_n 0, 1) := dk_42 (dk_at dksX4_carryAll_0 0 rfl rfl)
theorem dX4_carryAll_1 : decode cX4_carryAll 1 = .ok (.aload_n 1, 1) := dk_43 (dk_at dksX4_carryAll_0 1 rfl rfl)
theorem dX4_carryAll_2 : decode cX4_carryAll 2 = .ok (.putfield 189, 3) := dk_181 0 189 (dk_at dksX4_carryAll_0 2 rfl rfl)
theorem dX4_carryAll_5 : decode cX4_carryAll 5 = .ok (.aload_n 0, 1) := dk_42 (dk_at dksX4_carryAll_0 5 rfl rfl)
theorem dX4_carryAll_6 : decode cX4_carryAll 6 = .ok (.iload_n 2, 1) := dk_28 (dk_at dksX4_carryAll_0 6 rfl rfl)
theorem dX4_carryAll_7 : decode cX4_carryAll 7 = .ok (.putfield 186, 3) := dk_181 0 186 (dk_at dksX4_carryAll_0 7 rfl rfl)
theorem dX4_carryAll_10 : decode cX4_carryAll 10 = .ok (.aload_n 0, 1) := dk_42 (dk_at dksX4_carryAll_0 10 rfl rfl)
theorem dX4_carryAll_11 : decode cX4_carryAll 11 = .ok (.iconst 0, 1) := dk_3 (dk_at dksX4_carryAll_0 11 rfl rfl)
theorem dX4_carryAll_12 : decode cX4_carryAll 12 = .ok (.putfield 192, 3) := dk_181 0 192 (dk_at dksX4_carryAll_0 12 rfl rfl)
theorem dX4_carryAll_15 : decode cX4_carryAll 15 = .ok (.aload_n 0, 1) := dk_42 (dk_at dksX4_carryAll_0 15 rfl rfl)
theorem dX4_carryAll_16 : decode cX4_carryAll 16 = .ok (.aload_n 0, 1) := dk_42 (dk_at dksX4_carryAll_0 16 rfl rfl)
theorem dX4_carryAll_17 : decode cX4_carryAll 17 = .ok (.aload_n 0, 1) := dk_42 (dk_at dksX4_carryAll_0 17 rfl rfl)
theorem dX4_carryAll_18 : decode cX4_carryAll 18 = .ok (.getfield 81, 3) := dk_180 0 81 (dk_at dksX4_carryAll_0 18 rfl rfl)
theorem dX4_carryAll_21 : decode cX4_carryAll 21 = .ok (.invokevirtual 195, 3) := dk_182 0 195 (dk_at dksX4_carryAll_0 21 rfl rfl)
theorem dX4_carryAll_24 : decode cX4_carryAll 24 = .ok (.putfield 81, 3) := dk_181 0 81 (dk_at dksX4_carryAll_1 0 rfl rfl)
theorem dX4_carryAll_27 : decode cX4_carryAll 27 = .ok (.aload_n 0, 1) := dk_42 (dk_at dksX4_carryAll_1 3 rfl rfl)
theorem dX4_carryAll_28 : decode cX4_carryAll 28 = .ok (.aload_n 0, 1) := dk_42 (dk_at dksX4_carryAll_1 4 rfl rfl)
theorem dX4_carryAll_29 : decode cX4_carryAll 29 = .ok (.aload_n 0, 1) := dk_42 (dk_at dksX4_carryAll_1 5 rfl rfl)
theorem dX4_carryAll_30 : decode cX4_carryAll 30 = .ok (.getfield 88, 3) := dk_180 0 88 (dk_at dksX4_carryAll_1 6 rfl rfl)
theorem dX4_carryAll_33 : decode cX4_carryAll 33 = .ok (.invokevirtual 195, 3) := dk_182 0 195 (dk_at dksX4_carryAll_1 9 rfl rfl)
theorem dX4_carryAll_36 : decode cX4_carryAll 36 = .ok (.putfield 88, 3) := dk_181 0 88 (dk_at dksX4_carryAll_1 12 rfl rfl)
theorem dX4_carryAll_39 : decode cX4_carryAll 39 = .ok (.aload_n 0, 1) := dk_42 (dk_at dksX4_carryAll_1 15 rfl rfl)
theorem dX4_carryAll_40 : decode cX4_carryAll 40 = .ok (.aload_n 0, 1) := dk_42 (dk_at dksX4_carryAll_1 16 rfl rfl)
theorem dX4_carryAll_41 : decode cX4_carryAll 41 = .ok (.aload_n 0, 1) := dk_42 (dk_at dksX4_carryAll_1 17 rfl rfl)
theorem dX4_carryAll_42 : decode cX4_carryAll 42 = .ok (.getfield 95, 3) := dk_180 0 95 (dk_at dksX4_carryAll_1 18 rfl rfl)
theorem dX4_carryAll_45 : decode cX4_carryAll 45 = .ok (.invokevirtual 195, 3) := dk_182 0 195 (dk_at dksX4_carryAll_1 21 rfl rfl)
theorem dX4_carryAll_48 : decode cX4_carryAll 48 = .ok (.putfield 95, 3) := dk_181 0 95 (dk_at dksX4_carryAll_2 0 rfl rfl)
theorem dX4_carryAll_51 : decode cX4_carryAll 51 = .ok (.iconst 0, 1) := dk_3 (dk_at dksX4_carryAll_2 3 rfl rfl)
theorem dX4_carryAll_52 : decode cX4_carryAll 52 = .ok (.istore_n 3, 1) := dk_62 (dk_at dksX4_carryAll_2 4 rfl rfl)
theorem dX4_carryAll_53 : decode cX4_carryAll 53 = .ok (.iload_n 3, 1) := dk_29 (dk_at dksX4_carryAll_2 5 rfl rfl)
theorem dX4_carryAll_54 : decode cX4_carryAll 54 = .ok (.bipush 7, 2) := dk_16 7 (dk_at dksX4_carryAll_2 6 rfl rfl)
theorem dX4_carryAll_56 : decode cX4_carryAll 56 = .ok (.if_icmp .ge 89, 3) := dk_162 0 89 (dk_at dksX4_carryAll_2 8 rfl rfl)
theorem dX4_carryAll_59 : decode cX4_carryAll 59 = .ok (.aload_n 0, 1) := dk_42 (dk_at dksX4_carryAll_2 11 rfl rfl)
theorem dX4_carryAll_60 : decode cX4_carryAll 60 = .ok (.getfield 7, 3) := dk_180 0 7 (dk_at dksX4_carryAll_2 12 rfl rfl)
theorem dX4_carryAll_63 : decode cX4_carryAll 63 = .ok (.iload_n 3, 1) := dk_29 (dk_at dksX4_carryAll_2 15 rfl rfl)
theorem dX4_carryAll_64 : decode cX4_carryAll 64 = .ok (.aload_n 0, 1) := dk_42 (dk_at dksX4_carryAll_2 16 rfl rfl)
theorem dX4_carryAll_65 : decode cX4_carryAll 65 = .ok (.aload_n 0, 1) := dk_42 (dk_at dksX4_carryAll_2 17 rfl rfl)
theorem dX4_carryAll_66 : decode cX4_carryAll 66 = .ok (.getfield 7, 3) := dk_180 0 7 (dk_at dksX4_carryAll_2 18 rfl rfl)
theorem dX4_carryAll_69 : decode cX4_carryAll 69 = .ok (.iload_n 3, 1) := dk_29 (dk_at dksX4_carryAll_2 21 rfl rfl)
theorem dX4_carryAll_70 : decode cX4_carryAll 70 = .ok (.iaload, 1) := dk_46 (dk_at dksX4_carryAll_2 22 rfl rfl)
theorem dX4_carryAll_71 : decode cX4_carryAll 71 = .ok (.invokevirtual 195, 3) := dk_182 0 195 (dk_at dksX4_carryAll_3 0 rfl rfl)
theorem dX4_carryAll_74 : decode cX4_carryAll 74 = .ok (.iastore, 1) := dk_79 (dk_at dksX4_carryAll_3 3 rfl rfl)
theorem dX4_carryAll_75 : decode cX4_carryAll 75 = .ok (.aload_n 0, 1) := dk_42 (dk_at dksX4_carryAll_3 4 rfl rfl)
theorem dX4_carryAll_76 : decode cX4_carryAll 76 = .ok (.getfield 13, 3) := dk_180 0 13 (dk_at dksX4_carryAll_3 5 rfl rfl)
theorem dX4_carryAll_79 : decode cX4_carryAll 79 = .ok (.iload_n 3, 1) := dk_29 (dk_at dksX4_carryAll_3 8 rfl rfl)
theorem dX4_carryAll_80 : decode cX4_carryAll 80 = .ok (.aload_n 0, 1) := dk_42 (dk_at dksX4_carryAll_3 9 rfl rfl)
theorem dX4_carryAll_81 : decode cX4_carryAll 81 = .ok (.aload_n 0, 1) := dk_42 (dk_at dksX4_carryAll_3 10 rfl rfl)
theorem dX4_carryAll_82 : decode cX4_carryAll 82 = .ok (.getfield 13, 3) := dk_180 0 13 (dk_at dksX4_carryAll_3 11 rfl rfl)
theorem dX4_carryAll_85 : decode cX4_carryAll 85 = .ok (.iload_n 3, 1) := dk_29 (dk_at dksX4_carryAll_3 14 rfl rfl)
theorem dX4_carryAll_86 : decode cX4_carryAll 86 = .ok (.iaload, 1) := dk_46 (dk_at dksX4_carryAll_3 15 rfl rfl)
theorem dX4_carryAll_87 : decode cX4_carryAll 87 = .ok (.invokevirtual 195, 3) := dk_182 0 195 (dk_at dksX4_carryAll_3 16 rfl rfl)
theorem dX4_carryAll_90 : decode cX4_carryAll 90 = .ok (.iastore, 1) := dk_79 (dk_at dksX4_carryAll_3 19 rfl rfl)
theorem dX4_carryAll_91 : decode cX4_carryAll 91 = .ok (.aload_n 0, 1) := dk_42 (dk_at dksX4_carryAll_3 20 rfl rfl)
theorem dX4_carryAll_92 : decode cX4_carryAll 92 = .ok (.getfield 16, 3) := dk_180 0 16 (dk_at dksX4_carryAll_3 21 rfl rfl)
theorem dX4_carryAll_95 : decode cX4_carryAll 95 = .ok (.iload_n 3, 1) := dk_29 (dk_at dksX4_carryAll_4 0 rfl rfl)
theorem dX4_carryAll_96 : decode cX4_carryAll 96 = .ok (.aload_n 0, 1) := dk_42 (dk_at dksX4_carryAll_4 1 rfl rfl)
theorem dX4_carryAll_97 : decode cX4_carryAll 97 = .ok (.aload_n 0, 1) := dk_42 (dk_at dksX4_carryAll_4 2 rfl rfl)
theorem dX4_carryAll_98 : decode cX4_carryAll 98 = .ok (.getfield 16, 3) := dk_180 0 16 (dk_at dksX4_carryAll_4 3 rfl rfl)
theorem dX4_carryAll_101 : decode cX4_carryAll 101 = .ok (.iload_n 3, 1) := dk_29 (dk_at dksX4_carryAll_4 6 rfl rfl)
theorem dX4_carryAll_102 : decode cX4_carryAll 102 = .ok (.iaload, 1) := dk_46 (dk_at dksX4_carryAll_4 7 rfl rfl)
theorem dX4_carryAll_103 : decode cX4_carryAll 103 = .ok (.invokevirtual 195, 3) := dk_182 0 195 (dk_at dksX4_carryAll_4 8 rfl rfl)
theorem dX4_carryAll_106 : decode cX4_carryAll 106 = .ok (.iastore, 1) := dk_79 (dk_at dksX4_carryAll_4 11 rfl rfl)
theorem dX4_carryAll_107 : decode cX4_carryAll 107 = .ok (.aload_n 0, 1) := dk_42 (dk_at dksX4_carryAll_4 12 rfl rfl)
theorem dX4_carryAll_108 : decode cX4_carryAll 108 = .ok (.getfield 19, 3) := dk_180 0 19 (dk_at dksX4_carryAll_4 13 rfl rfl)
theorem dX4_carryAll_111 : decode cX4_carryAll 111 = .ok (.iload_n 3, 1) := dk_29 (dk_at dksX4_carryAll_4 16 rfl rfl)
theorem dX4_carryAll_112 : decode cX4_carryAll 112 = .ok (.aload_n 0, 1) := dk_42 (dk_at dksX4_carryAll_4 17 rfl rfl)
theorem dX4_carryAll_113 : decode cX4_carryAll 113 = .ok (.aload_n 0, 1) := dk_42 (dk_at dksX4_carryAll_4 18 rfl rfl)
theorem dX4_carryAll_114 : decode cX4_carryAll 114 = .ok (.getfield 19, 3) := dk_180 0 19 (dk_at dksX4_carryAll_4 19 rfl rfl)
theorem dX4_carryAll_117 : decode cX4_carryAll 117 = .ok (.iload_n 3, 1) := dk_29 (dk_at dksX4_carryAll_4 22 rfl rfl)
theorem dX4_carryAll_118 : decode cX4_carryAll 118 = .ok (.iaload, 1) := dk_46 (dk_at dksX4_carryAll_4 23 rfl rfl)
theorem dX4_carryAll_119 : decode cX4_carryAll 119 = .ok (.invokevirtual 195, 3) := dk_182 0 195 (dk_at dksX4_carryAll_5 0 rfl rfl)
theorem dX4_carryAll_122 : decode cX4_carryAll 122 = .ok (.iastore, 1) := dk_79 (dk_at dksX4_carryAll_5 3 rfl rfl)
theorem dX4_carryAll_123 : decode cX4_carryAll 123 = .ok (.aload_n 0, 1) := dk_42 (dk_at dksX4_carryAll_5 4 rfl rfl)
theorem dX4_carryAll_124 : decode cX4_carryAll 124 = .ok (.getfield 22, 3) := dk_180 0 22 (dk_at dksX4_carryAll_5 5 rfl rfl)
theorem dX4_carryAll_127 : decode cX4_carryAll 127 = .ok (.iload_n 3, 1) := dk_29 (dk_at dksX4_carryAll_5 8 rfl rfl)
theorem dX4_carryAll_128 : decode cX4_carryAll 128 = .ok (.aload_n 0, 1) := dk_42 (dk_at dksX4_carryAll_5 9 rfl rfl)
theorem dX4_carryAll_129 : decode cX4_carryAll 129 = .ok (.aload_n 0, 1) := dk_42 (dk_at dksX4_carryAll_5 10 rfl rfl)
theorem dX4_carryAll_130 : decode cX4_carryAll 130 = .ok (.getfield 22, 3) := dk_180 0 22 (dk_at dksX4_carryAll_5 11 rfl rfl)
theorem dX4_carryAll_133 : decode cX4_carryAll 133 = .ok (.iload_n 3, 1) := dk_29 (dk_at dksX4_carryAll_5 14 rfl rfl)
theorem dX4_carryAll_134 : decode cX4_carryAll 134 = .ok (.iaload, 1) := dk_46 (dk_at dksX4_carryAll_5 15 rfl rfl)
theorem dX4_carryAll_135 : decode cX4_carryAll 135 = .ok (.invokevirtual 195, 3) := dk_182 0 195 (dk_at dksX4_carryAll_5 16 rfl rfl)
theorem dX4_carryAll_138 : decode cX4_carryAll 138 = .ok (.iastore, 1) := dk_79 (dk_at dksX4_carryAll_5 19 rfl rfl)
theorem dX4_carryAll_139 : decode cX4_carryAll 139 = .ok (.iinc 3 1, 3) := dk_132 3 1 (dk_at dksX4_carryAll_5 20 rfl rfl)
theorem dX4_carryAll_142 : decode cX4_carryAll 142 = .ok (.goto (-89), 3) := dk_167 255 167 (dk_at dksX4_carryAll_6 0 rfl rfl)
theorem dX4_carryAll_145 : decode cX4_carryAll 145 = .ok (.return_, 1) := dk_177 (dk_at dksX4_carryAll_6 3 rfl rfl)
abbrev cX4_carry : ByteArray := prog_21_method_28_code
def yX4_carry : MethodName := ⟨RX4, "carry", "(I)I"⟩
def dkwX4_carry_1 : List UInt8 := [181, 0, 192, 42, 180, 0, 189, 42, 180, 0, 192, 4, 100, 46, 172]
abbrev dktX4_carry_1 : List UInt8 := dkwX4_carry_1 ++ []
def dkwX4_carry_0 : List UInt8 := [42, 180, 0, 186, 153, 0, 13, 42, 180, 0, 189, 42, 180, 0, 192, 27, 79, 42, 89, 180, 0, 192, 4, 96]
abbrev dktX4_carry_0 : List UInt8 := dkwX4_carry_0 ++ dktX4_carry_1
theorem dksX4_carry_0 : cX4_carry.data.toList.drop 0 = dktX4_carry_0 := by decide +kernel
theorem dksX4_carry_1 : cX4_carry.data.toList.drop 24 = dktX4_carry_1 := dk_seg dksX4_carry_0 24 rfl rfl
theorem dX4_carry_0 : decode cX4_carry 0 = .ok (.aload_n 0, 1) := dk_42 (dk_at dksX4_carry_0 0 rfl rfl)
theorem dX4_carry_1 : decode cX4_carry 1 = .ok (.getfield 186, 3) := dk_180 0 186 (dk_at dksX4_carry_0 1 rfl rfl)
theorem dX4_carry_4 : decode cX4_carry 4 = .ok (.ifCond .eq 13, 3) := dk_153 0 13 (dk_at dksX4_carry_0 4 rfl rfl)
theorem dX4_carry_7 : decode cX4_carry 7 = .ok (.aload_n 0, 1) := dk_42 (dk_at dksX4_carry_0 7 rfl rfl)
theorem dX4_carry_8 : decode cX4_carry 8 = .ok (.getfield 189, 3) := dk_180 0 189 (dk_at dksX4_carry_0 8 rfl rfl)
theorem dX4_carry_11 : decode cX4_carry 11 = .ok (.aload_n 0, 1) := dk_42 (dk_at dksX4_carry_0 11 rfl rfl)
theorem dX4_carry_12 : decode cX4_carry 12 = .ok (.getfield 192, 3) := dk_180 0 192 (dk_at dksX4_carry_0 12 rfl rfl)
theorem dX4_carry_15 : decode cX4_carry 15 = .ok (.iload_n 1, 1) := dk_27 (dk_at dksX4_carry_0 15 rfl rfl)
theorem dX4_carry_16 : decode cX4_carry 16 = .ok (.iastore, 1) := dk_79 (dk_at dksX4_carry_0 16 rfl rfl)
theorem dX4_carry_17 : decode cX4_carry 17 = .ok (.aload_n 0, 1) := dk_42 (dk_at dksX4_carry_0 17 rfl rfl)
theorem dX4_carry_18 : decode cX4_carry 18 = .ok (.dup, 1) := dk_89 (dk_at dksX4_carry_0 18 rfl rfl)
theorem dX4_carry_19 : decode cX4_carry 19 = .ok (.getfield 192, 3) := dk_180 0 192 (dk_at dksX4_carry_0 19 rfl rfl)
theorem dX4_carry_22 : decode cX4_carry 22 = .ok (.iconst 1, 1) := dk_4 (dk_at dksX4_carry_0 22 rfl rfl)
theorem dX4_carry_23 : decode cX4_carry 23 = .ok (.iadd, 1) := dk_96 (dk_at dksX4_carry_0 23 rfl rfl)
theorem dX4_carry_24 : decode cX4_carry 24 = .ok (.putfield 192, 3) := dk_181 0 192 (dk_at dksX4_carry_1 0 rfl rfl)
theorem dX4_carry_27 : decode cX4_carry 27 = .ok (.aload_n 0, 1) := dk_42 (dk_at dksX4_carry_1 3 rfl rfl)
theorem dX4_carry_28 : decode cX4_carry 28 = .ok (.getfield 189, 3) := dk_180 0 189 (dk_at dksX4_carry_1 4 rfl rfl)
theorem dX4_carry_31 : decode cX4_carry 31 = .ok (.aload_n 0, 1) := dk_42 (dk_at dksX4_carry_1 7 rfl rfl)
theorem dX4_carry_32 : decode cX4_carry 32 = .ok (.getfield 192, 3) := dk_180 0 192 (dk_at dksX4_carry_1 8 rfl rfl)
theorem dX4_carry_35 : decode cX4_carry 35 = .ok (.iconst 1, 1) := dk_4 (dk_at dksX4_carry_1 11 rfl rfl)
theorem dX4_carry_36 : decode cX4_carry 36 = .ok (.isub, 1) := dk_100 (dk_at dksX4_carry_1 12 rfl rfl)
theorem dX4_carry_37 : decode cX4_carry 37 = .ok (.iaload, 1) := dk_46 (dk_at dksX4_carry_1 13 rfl rfl)
theorem dX4_carry_38 : decode cX4_carry 38 = .ok (.ireturn, 1) := dk_172 (dk_at dksX4_carry_1 14 rfl rfl)
abbrev cX4_comesTold : ByteArray := prog_21_method_26_code
def yX4_comesTold : MethodName := ⟨RX4, "comesTold", "(I)Z"⟩
def dkwX4_comesTold_8 : List UInt8 := [21, 4, 172]
abbrev dktX4_comesTold_8 : List UInt8 := dkwX4_comesTold_8 ++ []
def dkwX4_comesTold_7 : List UInt8 := [182, 0, 168, 172, 42, 28, 182, 0, 162, 54, 4, 21, 4, 153, 0, 10, 42, 180, 0, 22, 28, 29, 79]
abbrev dktX4_comesTold_7 : List UInt8 := dkwX4_comesTold_7 ++ dktX4_comesTold_8
def dkwX4_comesTold_6 : List UInt8 := [54, 4, 42, 21, 4, 153, 0, 7, 28, 167, 0, 7, 42, 180, 0, 88, 181, 0, 88, 21, 4, 172, 42, 28]
abbrev dktX4_comesTold_6 : List UInt8 := dkwX4_comesTold_6 ++ dktX4_comesTold_7
def dkwX4_comesTold_5 : List UInt8 := [182, 0, 165, 87, 42, 180, 0, 95, 17, 3, 231, 163, 0, 7, 4, 167, 0, 4, 3, 172, 28, 184, 0, 149]
abbrev dktX4_comesTold_5 : List UInt8 := dkwX4_comesTold_5 ++ dktX4_comesTold_6
def dkwX4_comesTold_4 : List UInt8 := [182, 0, 158, 172, 42, 28, 182, 0, 162, 153, 0, 10, 29, 184, 0, 149, 154, 0, 5, 3, 172, 42, 28, 29]
abbrev dktX4_comesTold_4 : List UInt8 := dkwX4_comesTold_4 ++ dktX4_comesTold_5
def dkwX4_comesTold_3 : List UInt8 := [42, 28, 29, 42, 180, 0, 50, 7, 27, 104, 5, 96, 46, 42, 180, 0, 50, 7, 27, 104, 6, 96, 46]
abbrev dktX4_comesTold_3 : List UInt8 := dkwX4_comesTold_3 ++ dktX4_comesTold_4
def dkwX4_comesTold_2 : List UInt8 := [171, 0, 0, 0, 0, 0, 142, 0, 0, 0, 4, 0, 0, 0, 100, 0, 0, 0, 136, 0, 0, 0, 104, 0, 0, 0, 43, 0, 0, 0, 111, 0, 0, 0, 110, 0, 0, 0, 114, 0, 0, 0, 70]
abbrev dktX4_comesTold_2 : List UInt8 := dkwX4_comesTold_2 ++ dktX4_comesTold_3
def dkwX4_comesTold_1 : List UInt8 := [180, 0, 47, 27, 46]
abbrev dktX4_comesTold_1 : List UInt8 := dkwX4_comesTold_1 ++ dktX4_comesTold_2
def dkwX4_comesTold_0 : List UInt8 := [42, 180, 0, 50, 7, 27, 104, 46, 61, 42, 180, 0, 50, 7, 27, 104, 4, 96, 46, 62, 4, 54, 4, 42]
abbrev dktX4_comesTold_0 : List UInt8 := dkwX4_comesTold_0 ++ dktX4_comesTold_1
theorem dksX4_comesTold_0 : cX4_comesTold.data.toList.drop 0 = dktX4_comesTold_0 := by decide +kernel
theorem dksX4_comesTold_1 : cX4_comesTold.data.toList.drop 24 = dktX4_comesTold_1 := dk_seg dksX4_comesTold_0 24 rfl rfl
theorem dksX4_comesTold_2 : cX4_comesTold.data.toList.drop 29 = dktX4_comesTold_2 := dk_seg dksX4_comesTold_1 5 rfl rfl
theorem dksX4_comesTold_3 : cX4_comesTold.data.toList.drop 72 = dktX4_comesTold_3 := dk_seg dksX4_comesTold_2 43 rfl rfl
theorem dksX4_comesTold_4 : cX4_comesTold.data.toList.drop 95 = dktX4_comesTold_4 := dk_seg dksX4_comesTold_3 23 rfl rfl
theorem dksX4_comesTold_5 : cX4_comesTold.data.toList.drop 119 = dktX4_comesTold_5 := dk_seg dksX4_comesTold_4 24 rfl rfl
theorem dksX4_comesTold_6 : cX4_comesTold.data.toList.drop 143 = dktX4_comesTold_6 := dk_seg dksX4_comesTold_5 24 rfl rfl
theorem dksX4_comesTold_7 : cX4_comesTold.data.toList.drop 167 = dktX4_comesTold_7 := dk_seg dksX4_comesTold_6 24 rfl rfl
theorem dksX4_comesTold_8 : cX4_comesTold.data.toList.drop 190 = dktX4_comesTold_8 := dk_seg dksX4_comesTold_7 23 rfl rfl
theorem dX4_comesTold_0 : decode cX4_comesTold 0 = .ok (.aload_n 0, 1) := dk_42 (dk_at dksX4_comesTold_0 0 rfl rfl)
theorem dX4_comesTold_1 : decode cX4_comesTold 1 = .ok (.getfield 50, 3) := dk_180 0 50 (dk_at dksX4_comesTold_0 1 rfl rfl)
theorem dX4_comesTold_4 : decode cX4_comesTold 4 = .ok (.iconst 4, 1) := dk_7 (dk_at dksX4_comesTold_0 4 rfl rfl)
theorem dX4_comesTold_5 : decode cX4_comesTold 5 = .ok (.iload_n 1, 1) := dk_27 (dk_at dksX4_comesTold_0 5 rfl rfl)
theorem dX4_comesTold_6 : decode cX4_comesTold 6 = .ok (.imul, 1) := dk_104 (dk_at dksX4_comesTold_0 6 rfl rfl)
theorem dX4_comesTold_7 : decode cX4_comesTold 7 = .ok (.iaload, 1) := dk_46 (dk_at dksX4_comesTold_0 7 rfl rfl)
theorem dX4_comesTold_8 : decode cX4_comesTold 8 = .ok (.istore_n 2, 1) := dk_61 (dk_at dksX4_comesTold_0 8 rfl rfl)
theorem dX4_comesTold_9 : decode cX4_comesTold 9 = .ok (.aload_n 0, 1) := dk_42 (dk_at dksX4_comesTold_0 9 rfl rfl)
theorem dX4_comesTold_10 : decode cX4_comesTold 10 = .ok (.getfield 50, 3) := dk_180 0 50 (dk_at dksX4_comesTold_0 10 rfl rfl)
theorem dX4_comesTold_13 : decode cX4_comesTold 13 = .ok (.iconst 4, 1) := dk_7 (dk_at dksX4_comesTold_0 13 rfl rfl)
theorem dX4_comesTold_14 : decode cX4_comesTold 14 = .ok (.iload_n 1, 1) := dk_27 (dk_at dksX4_comesTold_0 14 rfl rfl)
theorem dX4_comesTold_15 : decode cX4_comesTold 15 = .ok (.imul, 1) := dk_104 (dk_at dksX4_comesTold_0 15 rfl rfl)
theorem dX4_comesTold_16 : decode cX4_comesTold 16 = .ok (.iconst 1, 1) := dk_4 (dk_at dksX4_comesTold_0 16 rfl rfl)
theorem dX4_comesTold_17 : decode cX4_comesTold 17 = .ok (.iadd, 1) := dk_96 (dk_at dksX4_comesTold_0 17 rfl rfl)
theorem dX4_comesTold_18 : decode cX4_comesTold 18 = .ok (.iaload, 1) := dk_46 (dk_at dksX4_comesTold_0 18 rfl rfl)
theorem dX4_comesTold_19 : decode cX4_comesTold 19 = .ok (.istore_n 3, 1) := dk_62 (dk_at dksX4_comesTold_0 19 rfl rfl)
theorem dX4_comesTold_20 : decode cX4_comesTold 20 = .ok (.iconst 1, 1) := dk_4 (dk_at dksX4_comesTold_0 20 rfl rfl)
theorem dX4_comesTold_21 : decode cX4_comesTold 21 = .ok (.istore 4, 2) := dk_54 4 (dk_at dksX4_comesTold_0 21 rfl rfl)
theorem dX4_comesTold_23 : decode cX4_comesTold 23 = .ok (.aload_n 0, 1) := dk_42 (dk_at dksX4_comesTold_0 23 rfl rfl)
theorem dX4_comesTold_24 : decode cX4_comesTold 24 = .ok (.getfield 47, 3) := dk_180 0 47 (dk_at dksX4_comesTold_1 0 rfl rfl)
theorem dX4_comesTold_27 : decode cX4_comesTold 27 = .ok (.iload_n 1, 1) := dk_27 (dk_at dksX4_comesTold_1 3 rfl rfl)
theorem dX4_comesTold_28 : decode cX4_comesTold 28 = .ok (.iaload, 1) := dk_46 (dk_at dksX4_comesTold_1 4 rfl rfl)
theorem dX4_comesTold_29 : decode cX4_comesTold 29 = .ok (.lookupswitch 142 #[(100, 136), (104, 43), (111, 110), (114, 70)], 43) := by decide +kernel
theorem dX4_comesTold_72 : decode cX4_comesTold 72 = .ok (.aload_n 0, 1) := dk_42 (dk_at dksX4_comesTold_3 0 rfl rfl)
theorem dX4_comesTold_73 : decode cX4_comesTold 73 = .ok (.iload_n 2, 1) := dk_28 (dk_at dksX4_comesTold_3 1 rfl rfl)
theorem dX4_comesTold_74 : decode cX4_comesTold 74 = .ok (.iload_n 3, 1) := dk_29 (dk_at dksX4_comesTold_3 2 rfl rfl)
theorem dX4_comesTold_75 : decode cX4_comesTold 75 = .ok (.aload_n 0, 1) := dk_42 (dk_at dksX4_comesTold_3 3 rfl rfl)
theorem dX4_comesTold_76 : decode cX4_comesTold 76 = .ok (.getfield 50, 3) := dk_180 0 50 (dk_at dksX4_comesTold_3 4 rfl rfl)
theorem dX4_comesTold_79 : decode cX4_comesTold 79 = .ok (.iconst 4, 1) := dk_7 (dk_at dksX4_comesTold_3 7 rfl rfl)
theorem dX4_comesTold_80 : decode cX4_comesTold 80 = .ok (.iload_n 1, 1) := dk_27 (dk_at dksX4_comesTold_3 8 rfl rfl)
theorem dX4_comesTold_81 : decode cX4_comesTold 81 = .ok (.imul, 1) := dk_104 (dk_at dksX4_comesTold_3 9 rfl rfl)
theorem dX4_comesTold_82 : decode cX4_comesTold 82 = .ok (.iconst 2, 1) := dk_5 (dk_at dksX4_comesTold_3 10 rfl rfl)
theorem dX4_comesTold_83 : decode cX4_comesTold 83 = .ok (.iadd, 1) := dk_96 (dk_at dksX4_comesTold_3 11 rfl rfl)
theorem dX4_comesTold_84 : decode cX4_comesTold 84 = .ok (.iaload, 1) := dk_46 (dk_at dksX4_comesTold_3 12 rfl rfl)
theorem dX4_comesTold_85 : decode cX4_comesTold 85 = .ok (.aload_n 0, 1) := dk_42 (dk_at dksX4_comesTold_3 13 rfl rfl)
theorem dX4_comesTold_86 : decode cX4_comesTold 86 = .ok (.getfield 50, 3) := dk_180 0 50 (dk_at dksX4_comesTold_3 14 rfl rfl)
theorem dX4_comesTold_89 : decode cX4_comesTold 89 = .ok (.iconst 4, 1) := dk_7 (dk_at dksX4_comesTold_3 17 rfl rfl)
theorem dX4_comesTold_90 : decode cX4_comesTold 90 = .ok (.iload_n 1, 1) := dk_27 (dk_at dksX4_comesTold_3 18 rfl rfl)
theorem dX4_comesTold_91 : decode cX4_comesTold 91 = .ok (.imul, 1) := dk_104 (dk_at dksX4_comesTold_3 19 rfl rfl)
theorem dX4_comesTold_92 : decode cX4_comesTold 92 = .ok (.iconst 3, 1) := dk_6 (dk_at dksX4_comesTold_3 20 rfl rfl)
theorem dX4_comesTold_93 : decode cX4_comesTold 93 = .ok (.iadd, 1) := dk_96 (dk_at dksX4_comesTold_3 21 rfl rfl)
theorem dX4_comesTold_94 : decode cX4_comesTold 94 = .ok (.iaload, 1) := dk_46 (dk_at dksX4_comesTold_3 22 rfl rfl)
theorem dX4_comesTold_95 : decode cX4_comesTold 95 = .ok (.invokevirtual 158, 3) := dk_182 0 158 (dk_at dksX4_comesTold_4 0 rfl rfl)
theorem dX4_comesTold_98 : decode cX4_comesTold 98 = .ok (.ireturn, 1) := dk_172 (dk_at dksX4_comesTold_4 3 rfl rfl)
theorem dX4_comesTold_99 : decode cX4_comesTold 99 = .ok (.aload_n 0, 1) := dk_42 (dk_at dksX4_comesTold_4 4 rfl rfl)
theorem dX4_comesTold_100 : decode cX4_comesTold 100 = .ok (.iload_n 2, 1) := dk_28 (dk_at dksX4_comesTold_4 5 rfl rfl)
theorem dX4_comesTold_101 : decode cX4_comesTold 101 = .ok (.invokevirtual 162, 3) := dk_182 0 162 (dk_at dksX4_comesTold_4 6 rfl rfl)
theorem dX4_comesTold_104 : decode cX4_comesTold 104 = .ok (.ifCond .eq 10, 3) := dk_153 0 10 (dk_at dksX4_comesTold_4 9 rfl rfl)
theorem dX4_comesTold_107 : decode cX4_comesTold 107 = .ok (.iload_n 3, 1) := dk_29 (dk_at dksX4_comesTold_4 12 rfl rfl)
theorem dX4_comesTold_108 : decode cX4_comesTold 108 = .ok (.invokestatic 149, 3) := dk_184 0 149 (dk_at dksX4_comesTold_4 13 rfl rfl)
theorem dX4_comesTold_111 : decode cX4_comesTold 111 = .ok (.ifCond .ne 5, 3) := dk_154 0 5 (dk_at dksX4_comesTold_4 16 rfl rfl)
theorem dX4_comesTold_114 : decode cX4_comesTold 114 = .ok (.iconst 0, 1) := dk_3 (dk_at dksX4_comesTold_4 19 rfl rfl)
theorem dX4_comesTold_115 : decode cX4_comesTold 115 = .ok (.ireturn, 1) := dk_172 (dk_at dksX4_comesTold_4 20 rfl rfl)
theorem dX4_comesTold_116 : decode cX4_comesTold 116 = .ok (.aload_n 0, 1) := dk_42 (dk_at dksX4_comesTold_4 21 rfl rfl)
theorem dX4_comesTold_117 : decode cX4_comesTold 117 = .ok (.iload_n 2, 1) := dk_28 (dk_at dksX4_comesTold_4 22 rfl rfl)
theorem dX4_comesTold_118 : decode cX4_comesTold 118 = .ok (.iload_n 3, 1) := dk_29 (dk_at dksX4_comesTold_4 23 rfl rfl)
theorem dX4_comesTold_119 : decode cX4_comesTold 119 = .ok (.invokevirtual 165, 3) := dk_182 0 165 (dk_at dksX4_comesTold_5 0 rfl rfl)
theorem dX4_comesTold_122 : decode cX4_comesTold 122 = .ok (.pop, 1) := dk_87 (dk_at dksX4_comesTold_5 3 rfl rfl)
theorem dX4_comesTold_123 : decode cX4_comesTold 123 = .ok (.aload_n 0, 1) := dk_42 (dk_at dksX4_comesTold_5 4 rfl rfl)
theorem dX4_comesTold_124 : decode cX4_comesTold 124 = .ok (.getfield 95, 3) := dk_180 0 95 (dk_at dksX4_comesTold_5 5 rfl rfl)
theorem dX4_comesTold_127 : decode cX4_comesTold 127 = .ok (.sipush 999, 3) := dk_17 3 231 (dk_at dksX4_comesTold_5 8 rfl rfl)
theorem dX4_comesTold_130 : decode cX4_comesTold 130 = .ok (.if_icmp .gt 7, 3) := dk_163 0 7 (dk_at dksX4_comesTold_5 11 rfl rfl)
theorem dX4_comesTold_133 : decode cX4_comesTold 133 = .ok (.iconst 1, 1) := dk_4 (dk_at dksX4_comesTold_5 14 rfl rfl)
theorem dX4_comesTold_134 : decode cX4_comesTold 134 = .ok (.goto 4, 3) := dk_167 0 4 (dk_at dksX4_comesTold_5 15 rfl rfl)
theorem dX4_comesTold_137 : decode cX4_comesTold 137 = .ok (.iconst 0, 1) := dk_3 (dk_at dksX4_comesTold_5 18 rfl rfl)
theorem dX4_comesTold_138 : decode cX4_comesTold 138 = .ok (.ireturn, 1) := dk_172 (dk_at dksX4_comesTold_5 19 rfl rfl)
theorem dX4_comesTold_139 : decode cX4_comesTold 139 = .ok (.iload_n 2, 1) := dk_28 (dk_at dksX4_comesTold_5 20 rfl rfl)
theorem dX4_comesTold_140 : decode cX4_comesTold 140 = .ok (.invokestatic 149, 3) := dk_184 0 149 (dk_at dksX4_comesTold_5 21 rfl rfl)
theorem dX4_comesTold_143 : decode cX4_comesTold 143 = .ok (.istore 4, 2) := dk_54 4 (dk_at dksX4_comesTold_6 0 rfl rfl)
theorem dX4_comesTold_145 : decode cX4_comesTold 145 = .ok (.aload_n 0, 1) := dk_42 (dk_at dksX4_comesTold_6 2 rfl rfl)
theorem dX4_comesTold_146 : decode cX4_comesTold 146 = .ok (.iload 4, 2) := dk_21 4 (dk_at dksX4_comesTold_6 3 rfl rfl)
theorem dX4_comesTold_148 : decode cX4_comesTold 148 = .ok (.ifCond .eq 7, 3) := dk_153 0 7 (dk_at dksX4_comesTold_6 5 rfl rfl)
theorem dX4_comesTold_151 : decode cX4_comesTold 151 = .ok (.iload_n 2, 1) := dk_28 (dk_at dksX4_comesTold_6 8 rfl rfl)
theorem dX4_comesTold_152 : decode cX4_comesTold 152 = .ok (.goto 7, 3) := dk_167 0 7 (dk_at dksX4_comesTold_6 9 rfl rfl)
theorem dX4_comesTold_155 : decode cX4_comesTold 155 = .ok (.aload_n 0, 1) := dk_42 (dk_at dksX4_comesTold_6 12 rfl rfl)
theorem dX4_comesTold_156 : decode cX4_comesTold 156 = .ok (.getfield 88, 3) := dk_180 0 88 (dk_at dksX4_comesTold_6 13 rfl rfl)
theorem dX4_comesTold_159 : decode cX4_comesTold 159 = .ok (.putfield 88, 3) := dk_181 0 88 (dk_at dksX4_comesTold_6 16 rfl rfl)
theorem dX4_comesTold_162 : decode cX4_comesTold 162 = .ok (.iload 4, 2) := dk_21 4 (dk_at dksX4_comesTold_6 19 rfl rfl)
theorem dX4_comesTold_164 : decode cX4_comesTold 164 = .ok (.ireturn, 1) := dk_172 (dk_at dksX4_comesTold_6 21 rfl rfl)
theorem dX4_comesTold_165 : decode cX4_comesTold 165 = .ok (.aload_n 0, 1) := dk_42 (dk_at dksX4_comesTold_6 22 rfl rfl)
theorem dX4_comesTold_166 : decode cX4_comesTold 166 = .ok (.iload_n 2, 1) := dk_28 (dk_at dksX4_comesTold_6 23 rfl rfl)
theorem dX4_comesTold_167 : decode cX4_comesTold 167 = .ok (.invokevirtual 168, 3) := dk_182 0 168 (dk_at dksX4_comesTold_7 0 rfl rfl)
theorem dX4_comesTold_170 : decode cX4_comesTold 170 = .ok (.ireturn, 1) := dk_172 (dk_at dksX4_comesTold_7 3 rfl rfl)
theorem dX4_comesTold_171 : decode cX4_comesTold 171 = .ok (.aload_n 0, 1) := dk_42 (dk_at dksX4_comesTold_7 4 rfl rfl)
theorem dX4_comesTold_172 : decode cX4_comesTold 172 = .ok (.iload_n 2, 1) := dk_28 (dk_at dksX4_comesTold_7 5 rfl rfl)
theorem dX4_comesTold_173 : decode cX4_comesTold 173 = .ok (.invokevirtual 162, 3) := dk_182 0 162 (dk_at dksX4_comesTold_7 6 rfl rfl)
theorem dX4_comesTold_176 : decode cX4_comesTold 176 = .ok (.istore 4, 2) := dk_54 4 (dk_at dksX4_comesTold_7 9 rfl rfl)
theorem dX4_comesTold_178 : decode cX4_comesTold 178 = .ok (.iload 4, 2) := dk_21 4 (dk_at dksX4_comesTold_7 11 rfl rfl)
theorem dX4_comesTold_180 : decode cX4_comesTold 180 = .ok (.ifCond .eq 10, 3) := dk_153 0 10 (dk_at dksX4_comesTold_7 13 rfl rfl)
theorem dX4_comesTold_183 : decode cX4_comesTold 183 = .ok (.aload_n 0, 1) := dk_42 (dk_at dksX4_comesTold_7 16 rfl rfl)
theorem dX4_comesTold_184 : decode cX4_comesTold 184 = .ok (.getfield 22, 3) := dk_180 0 22 (dk_at dksX4_comesTold_7 17 rfl rfl)
theorem dX4_comesTold_187 : decode cX4_comesTold 187 = .ok (.iload_n 2, 1) := dk_28 (dk_at dksX4_comesTold_7 20 rfl rfl)
theorem dX4_comesTold_188 : decode cX4_comesTold 188 = .ok (.iload_n 3, 1) := dk_29 (dk_at dksX4_comesTold_7 21 rfl rfl)
theorem dX4_comesTold_189 : decode cX4_comesTold 189 = .ok (.iastore, 1) := dk_79 (dk_at dksX4_comesTold_7 22 rfl rfl)
theorem dX4_comesTold_190 : decode cX4_comesTold 190 = .ok (.iload 4, 2) := dk_21 4 (dk_at dksX4_comesTold_8 0 rfl rfl)
theorem dX4_comesTold_192 : decode cX4_comesTold 192 = .ok (.ireturn, 1) := dk_172 (dk_at dksX4_comesTold_8 2 rfl rfl)
abbrev cX4_horseComes : ByteArray := prog_21_method_24_code
def yX4_horseComes : MethodName := ⟨RX4, "horseComes", "(IIII)Z"⟩
def dkwX4_horseComes_4 : List UInt8 := [89, 180, 0, 81, 4, 96, 181, 0, 81, 21, 5, 172]
abbrev dktX4_horseComes_4 : List UInt8 := dkwX4_horseComes_4 ++ []
def dkwX4_horseComes_3 : List UInt8 := [29, 79, 42, 180, 0, 19, 42, 180, 0, 81, 21, 4, 79, 42, 180, 0, 22, 42, 180, 0, 81, 3, 79, 42]
abbrev dktX4_horseComes_3 : List UInt8 := dkwX4_horseComes_3 ++ dktX4_horseComes_4
def dkwX4_horseComes_2 : List UInt8 := [42, 180, 0, 81, 27, 79, 42, 180, 0, 13, 42, 180, 0, 81, 28, 79, 42, 180, 0, 16, 42, 180, 0, 81]
abbrev dktX4_horseComes_2 : List UInt8 := dkwX4_horseComes_2 ++ dktX4_horseComes_3
def dkwX4_horseComes_1 : List UInt8 := [180, 0, 81, 16, 7, 162, 0, 7, 4, 167, 0, 4, 3, 54, 5, 21, 5, 153, 0, 64, 42, 180, 0, 7]
abbrev dktX4_horseComes_1 : List UInt8 := dkwX4_horseComes_1 ++ dktX4_horseComes_2
def dkwX4_horseComes_0 : List UInt8 := [27, 16, 8, 162, 0, 31, 29, 184, 0, 149, 153, 0, 24, 21, 4, 184, 0, 149, 153, 0, 16, 42]
abbrev dktX4_horseComes_0 : List UInt8 := dkwX4_horseComes_0 ++ dktX4_horseComes_1
theorem dksX4_horseComes_0 : cX4_horseComes.data.toList.drop 0 = dktX4_horseComes_0 := by decide +kernel
theorem dksX4_horseComes_1 : cX4_horseComes.data.toList.drop 22 = dktX4_horseComes_1 := dk_seg dksX4_horseComes_0 22 rfl rfl
theorem dksX4_horseComes_2 : cX4_horseComes.data.toList.drop 46 = dktX4_horseComes_2 := dk_seg dksX4_horseComes_1 24 rfl rfl
theorem dksX4_horseComes_3 : cX4_horseComes.data.toList.drop 70 = dktX4_horseComes_3 := dk_seg dksX4_horseComes_2 24 rfl rfl
theorem dksX4_horseComes_4 : cX4_horseComes.data.toList.drop 94 = dktX4_horseComes_4 := dk_seg dksX4_horseComes_3 24 rfl rfl
theorem dX4_horseComes_0 : decode cX4_horseComes 0 = .ok (.iload_n 1, 1) := dk_27 (dk_at dksX4_horseComes_0 0 rfl rfl)
theorem dX4_horseComes_1 : decode cX4_horseComes 1 = .ok (.bipush 8, 2) := dk_16 8 (dk_at dksX4_horseComes_0 1 rfl rfl)
theorem dX4_horseComes_3 : decode cX4_horseComes 3 = .ok (.if_icmp .ge 31, 3) := dk_162 0 31 (dk_at dksX4_horseComes_0 3 rfl rfl)
theorem dX4_horseComes_6 : decode cX4_horseComes 6 = .ok (.iload_n 3, 1) := dk_29 (dk_at dksX4_horseComes_0 6 rfl rfl)
theorem dX4_horseComes_7 : decode cX4_horseComes 7 = .ok (.invokestatic 149, 3) := dk_184 0 149 (dk_at dksX4_horseComes_0 7 rfl rfl)
theorem dX4_horseComes_10 : decode cX4_horseComes 10 = .ok (.ifCond .eq 24, 3) := dk_153 0 24 (dk_at dksX4_horseComes_0 10 rfl rfl)
theorem dX4_horseComes_13 : decode cX4_horseComes 13 = .ok (.iload 4, 2) := dk_21 4 (dk_at dksX4_horseComes_0 13 rfl rfl)
theorem dX4_horseComes_15 : decode cX4_horseComes 15 = .ok (.invokestatic 149, 3) := dk_184 0 149 (dk_at dksX4_horseComes_0 15 rfl rfl)
theorem dX4_horseComes_18 : decode cX4_horseComes 18 = .ok (.ifCond .eq 16, 3) := dk_153 0 16 (dk_at dksX4_horseComes_0 18 rfl rfl)
theorem dX4_horseComes_21 : decode cX4_horseComes 21 = .ok (.aload_n 0, 1) := dk_42 (dk_at dksX4_horseComes_0 21 rfl rfl)
theorem dX4_horseComes_22 : decode cX4_horseComes 22 = .ok (.getfield 81, 3) := dk_180 0 81 (dk_at dksX4_horseComes_1 0 rfl rfl)
theorem dX4_horseComes_25 : decode cX4_horseComes 25 = .ok (.bipush 7, 2) := dk_16 7 (dk_at dksX4_horseComes_1 3 rfl rfl)
theorem dX4_horseComes_27 : decode cX4_horseComes 27 = .ok (.if_icmp .ge 7, 3) := dk_162 0 7 (dk_at dksX4_horseComes_1 5 rfl rfl)
theorem dX4_horseComes_30 : decode cX4_horseComes 30 = .ok (.iconst 1, 1) := dk_4 (dk_at dksX4_horseComes_1 8 rfl rfl)
theorem dX4_horseComes_31 : decode cX4_horseComes 31 = .ok (.goto 4, 3) := dk_167 0 4 (dk_at dksX4_horseComes_1 9 rfl rfl)
theorem dX4_horseComes_34 : decode cX4_horseComes 34 = .ok (.iconst 0, 1) := dk_3 (dk_at dksX4_horseComes_1 12 rfl rfl)
theorem dX4_horseComes_35 : decode cX4_horseComes 35 = .ok (.istore 5, 2) := dk_54 5 (dk_at dksX4_horseComes_1 13 rfl rfl)
theorem dX4_horseComes_37 : decode cX4_horseComes 37 = .ok (.iload 5, 2) := dk_21 5 (dk_at dksX4_horseComes_1 15 rfl rfl)
theorem dX4_horseComes_39 : decode cX4_horseComes 39 = .ok (.ifCond .eq 64, 3) := dk_153 0 64 (dk_at dksX4_horseComes_1 17 rfl rfl)
theorem dX4_horseComes_42 : decode cX4_horseComes 42 = .ok (.aload_n 0, 1) := dk_42 (dk_at dksX4_horseComes_1 20 rfl rfl)
theorem dX4_horseComes_43 : decode cX4_horseComes 43 = .ok (.getfield 7, 3) := dk_180 0 7 (dk_at dksX4_horseComes_1 21 rfl rfl)
theorem dX4_horseComes_46 : decode cX4_horseComes 46 = .ok (.aload_n 0, 1) := dk_42 (dk_at dksX4_horseComes_2 0 rfl rfl)
theorem dX4_horseComes_47 : decode cX4_horseComes 47 = .ok (.getfield 81, 3) := dk_180 0 81 (dk_at dksX4_horseComes_2 1 rfl rfl)
theorem dX4_horseComes_50 : decode cX4_horseComes 50 = .ok (.iload_n 1, 1) := dk_27 (dk_at dksX4_horseComes_2 4 rfl rfl)
theorem dX4_horseComes_51 : decode cX4_horseComes 51 = .ok (.iastore, 1) := dk_79 (dk_at dksX4_horseComes_2 5 rfl rfl)
theorem dX4_horseComes_52 : decode cX4_horseComes 52 = .ok (.aload_n 0, 1) := dk_42 (dk_at dksX4_horseComes_2 6 rfl rfl)
theorem dX4_horseComes_53 : decode cX4_horseComes 53 = .ok (.getfield 13, 3) := dk_180 0 13 (dk_at dksX4_horseComes_2 7 rfl rfl)
theorem dX4_horseComes_56 : decode cX4_horseComes 56 = .ok (.aload_n 0, 1) := dk_42 (dk_at dksX4_horseComes_2 10 rfl rfl)
theorem dX4_horseComes_57 : decode cX4_horseComes 57 = .ok (.getfield 81, 3) := dk_180 0 81 (dk_at dksX4_horseComes_2 11 rfl rfl)
theorem dX4_horseComes_60 : decode cX4_horseComes 60 = .ok (.iload_n 2, 1) := dk_28 (dk_at dksX4_horseComes_2 14 rfl rfl)
theorem dX4_horseComes_61 : decode cX4_horseComes 61 = .ok (.iastore, 1) := dk_79 (dk_at dksX4_horseComes_2 15 rfl rfl)
theorem dX4_horseComes_62 : decode cX4_horseComes 62 = .ok (.aload_n 0, 1) := dk_42 (dk_at dksX4_horseComes_2 16 rfl rfl)
theorem dX4_horseComes_63 : decode cX4_horseComes 63 = .ok (.getfield 16, 3) := dk_180 0 16 (dk_at dksX4_horseComes_2 17 rfl rfl)
theorem dX4_horseComes_66 : decode cX4_horseComes 66 = .ok (.aload_n 0, 1) := dk_42 (dk_at dksX4_horseComes_2 20 rfl rfl)
theorem dX4_horseComes_67 : decode cX4_horseComes 67 = .ok (.getfield 81, 3) := dk_180 0 81 (dk_at dksX4_horseComes_2 21 rfl rfl)
theorem dX4_horseComes_70 : decode cX4_horseComes 70 = .ok (.iload_n 3, 1) := dk_29 (dk_at dksX4_horseComes_3 0 rfl rfl)
theorem dX4_horseComes_71 : decode cX4_horseComes 71 = .ok (.iastore, 1) := dk_79 (dk_at dksX4_horseComes_3 1 rfl rfl)
theorem dX4_horseComes_72 : decode cX4_horseComes 72 = .ok (.aload_n 0, 1) := dk_42 (dk_at dksX4_horseComes_3 2 rfl rfl)
theorem dX4_horseComes_73 : decode cX4_horseComes 73 = .ok (.getfield 19, 3) := dk_180 0 19 (dk_at dksX4_horseComes_3 3 rfl rfl)
theorem dX4_horseComes_76 : decode cX4_horseComes 76 = .ok (.aload_n 0, 1) := dk_42 (dk_at dksX4_horseComes_3 6 rfl rfl)
theorem dX4_horseComes_77 : decode cX4_horseComes 77 = .ok (.getfield 81, 3) := dk_180 0 81 (dk_at dksX4_horseComes_3 7 rfl rfl)
theorem dX4_horseComes_80 : decode cX4_horseComes 80 = .ok (.iload 4, 2) := dk_21 4 (dk_at dksX4_horseComes_3 10 rfl rfl)
theorem dX4_horseComes_82 : decode cX4_horseComes 82 = .ok (.iastore, 1) := dk_79 (dk_at dksX4_horseComes_3 12 rfl rfl)
theorem dX4_horseComes_83 : decode cX4_horseComes 83 = .ok (.aload_n 0, 1) := dk_42 (dk_at dksX4_horseComes_3 13 rfl rfl)
theorem dX4_horseComes_84 : decode cX4_horseComes 84 = .ok (.getfield 22, 3) := dk_180 0 22 (dk_at dksX4_horseComes_3 14 rfl rfl)
theorem dX4_horseComes_87 : decode cX4_horseComes 87 = .ok (.aload_n 0, 1) := dk_42 (dk_at dksX4_horseComes_3 17 rfl rfl)
theorem dX4_horseComes_88 : decode cX4_horseComes 88 = .ok (.getfield 81, 3) := dk_180 0 81 (dk_at dksX4_horseComes_3 18 rfl rfl)
theorem dX4_horseComes_91 : decode cX4_horseComes 91 = .ok (.iconst 0, 1) := dk_3 (dk_at dksX4_horseComes_3 21 rfl rfl)
theorem dX4_horseComes_92 : decode cX4_horseComes 92 = .ok (.iastore, 1) := dk_79 (dk_at dksX4_horseComes_3 22 rfl rfl)
theorem dX4_horseComes_93 : decode cX4_horseComes 93 = .ok (.aload_n 0, 1) := dk_42 (dk_at dksX4_horseComes_3 23 rfl rfl)
theorem dX4_horseComes_94 : decode cX4_horseComes 94 = .ok (.dup, 1) := dk_89 (dk_at dksX4_horseComes_4 0 rfl rfl)
theorem dX4_horseComes_95 : decode cX4_horseComes 95 = .ok (.getfield 81, 3) := dk_180 0 81 (dk_at dksX4_horseComes_4 1 rfl rfl)
theorem dX4_horseComes_98 : decode cX4_horseComes 98 = .ok (.iconst 1, 1) := dk_4 (dk_at dksX4_horseComes_4 4 rfl rfl)
theorem dX4_horseComes_99 : decode cX4_horseComes 99 = .ok (.iadd, 1) := dk_96 (dk_at dksX4_horseComes_4 5 rfl rfl)
theorem dX4_horseComes_100 : decode cX4_horseComes 100 = .ok (.putfield 81, 3) := dk_181 0 81 (dk_at dksX4_horseComes_4 6 rfl rfl)
theorem dX4_horseComes_103 : decode cX4_horseComes 103 = .ok (.iload 5, 2) := dk_21 5 (dk_at dksX4_horseComes_4 9 rfl rfl)
theorem dX4_horseComes_105 : decode cX4_horseComes 105 = .ok (.ireturn, 1) := dk_172 (dk_at dksX4_horseComes_4 11 rfl rfl)
abbrev cX4_isYard : ByteArray := prog_21_method_5_code
def yX4_isYard : MethodName := ⟨RX4, "isYard", "(I)Z"⟩
def dkwX4_isYard_0 : List UInt8 := [26, 133, 9, 20, 0, 75, 184, 0, 77, 172]
abbrev dktX4_isYard_0 : List UInt8 := dkwX4_isYard_0 ++ []
theorem dksX4_isYard_0 : cX4_isYard.data.toList.drop 0 = dktX4_isYard_0 := by decide +kernel
theorem dX4_isYard_0 : decode cX4_isYard 0 = .ok (.iload_n 0, 1) := dk_26 (dk_at dksX4_isYard_0 0 rfl rfl)
theorem dX4_isYard_1 : decode cX4_isYard 1 = .ok (.i2l, 1) := dk_133 (dk_at dksX4_isYard_0 1 rfl rfl)
theorem dX4_isYard_2 : decode cX4_isYard 2 = .ok (.lconst 0, 1) := dk_9 (dk_at dksX4_isYard_0 2 rfl rfl)
theorem dX4_isYard_3 : decode cX4_isYard 3 = .ok (.ldc2_w 75, 3) := dk_20 0 75 (dk_at dksX4_isYard_0 3 rfl rfl)
theorem dX4_isYard_6 : decode cX4_isYard 6 = .ok (.invokestatic 77, 3) := dk_184 0 77 (dk_at dksX4_isYard_0 6 rfl rfl)
theorem dX4_isYard_9 : decode cX4_isYard 9 = .ok (.ireturn, 1) := dk_172 (dk_at dksX4_isYard_0 9 rfl rfl)
abbrev cX4_isHorse : ByteArray := prog_21_method_6_code
def yX4_isHorse : MethodName := ⟨RX4, "isHorse", "(I)Z"⟩
def dkwX4_isHorse_0 : List UInt8 := [27, 133, 9, 42, 180, 0, 81, 4, 100, 133, 184, 0, 77, 172]
abbrev dktX4_isHorse_0 : List UInt8 := dkwX4_isHorse_0 ++ []
theorem dksX4_isHorse_0 : cX4_isHorse.data.toList.drop 0 = dktX4_isHorse_0 := by decide +kernel
theorem dX4_isHorse_0 : decode cX4_isHorse 0 = .ok (.iload_n 1, 1) := dk_27 (dk_at dksX4_isHorse_0 0 rfl rfl)
theorem dX4_isHorse_1 : decode cX4_isHorse 1 = .ok (.i2l, 1) := dk_133 (dk_at dksX4_isHorse_0 1 rfl rfl)
theorem dX4_isHorse_2 : decode cX4_isHorse 2 = .ok (.lconst 0, 1) := dk_9 (dk_at dksX4_isHorse_0 2 rfl rfl)
theorem dX4_isHorse_3 : decode cX4_isHorse 3 = .ok (.aload_n 0, 1) := dk_42 (dk_at dksX4_isHorse_0 3 rfl rfl)
theorem dX4_isHorse_4 : decode cX4_isHorse 4 = .ok (.getfield 81, 3) := dk_180 0 81 (dk_at dksX4_isHorse_0 4 rfl rfl)
theorem dX4_isHorse_7 : decode cX4_isHorse 7 = .ok (.iconst 1, 1) := dk_4 (dk_at dksX4_isHorse_0 7 rfl rfl)
theorem dX4_isHorse_8 : decode cX4_isHorse 8 = .ok (.isub, 1) := dk_100 (dk_at dksX4_isHorse_0 8 rfl rfl)
theorem dX4_isHorse_9 : decode cX4_isHorse 9 = .ok (.i2l, 1) := dk_133 (dk_at dksX4_isHorse_0 9 rfl rfl)
theorem dX4_isHorse_10 : decode cX4_isHorse 10 = .ok (.invokestatic 77, 3) := dk_184 0 77 (dk_at dksX4_isHorse_0 10 rfl rfl)
theorem dX4_isHorse_13 : decode cX4_isHorse 13 = .ok (.ireturn, 1) := dk_172 (dk_at dksX4_isHorse_0 13 rfl rfl)
abbrev cX4_ride : ByteArray := prog_21_method_16_code
def yX4_ride : MethodName := ⟨RX4, "ride", "(II)I"⟩
def dkwX4_ride_1 : List UInt8 := [29, 172]
abbrev dktX4_ride_1 : List UInt8 := dkwX4_ride_1 ++ []
def dkwX4_ride_0 : List UInt8 := [3, 62, 42, 180, 0, 19, 27, 46, 28, 159, 0, 15, 42, 27, 28, 182, 0, 114, 132, 3, 1, 167, 255, 237]
abbrev dktX4_ride_0 : List UInt8 := dkwX4_ride_0 ++ dktX4_ride_1
theorem dksX4_ride_0 : cX4_ride.data.toList.drop 0 = dktX4_ride_0 := by decide +kernel
theorem dksX4_ride_1 : cX4_ride.data.toList.drop 24 = dktX4_ride_1 := dk_seg dksX4_ride_0 24 rfl rfl
theorem dX4_ride_0 : decode cX4_ride 0 = .ok (.iconst 0, 1) := dk_3 (dk_at dksX4_ride_0 0 rfl rfl)
theorem dX4_ride_1 : decode cX4_ride 1 = .ok (.istore_n 3, 1) := dk_62 (dk_at dksX4_ride_0 1 rfl rfl)
theorem dX4_ride_2 : decode cX4_ride 2 = .ok (.aload_n 0, 1) := dk_42 (dk_at dksX4_ride_0 2 rfl rfl)
theorem dX4_ride_3 : decode cX4_ride 3 = .ok (.getfield 19, 3) := dk_180 0 19 (dk_at dksX4_ride_0 3 rfl rfl)
theorem dX4_ride_6 : decode cX4_ride 6 = .ok (.iload_n 1, 1) := dk_27 (dk_at dksX4_ride_0 6 rfl rfl)
theorem dX4_ride_7 : decode cX4_ride 7 = .ok (.iaload, 1) := dk_46 (dk_at dksX4_ride_0 7 rfl rfl)
theorem dX4_ride_8 : decode cX4_ride 8 = .ok (.iload_n 2, 1) := dk_28 (dk_at dksX4_ride_0 8 rfl rfl)
theorem dX4_ride_9 : decode cX4_ride 9 = .ok (.if_icmp .eq 15, 3) := dk_159 0 15 (dk_at dksX4_ride_0 9 rfl rfl)
theorem dX4_ride_12 : decode cX4_ride 12 = .ok (.aload_n 0, 1) := dk_42 (dk_at dksX4_ride_0 12 rfl rfl)
theorem dX4_ride_13 : decode cX4_ride 13 = .ok (.iload_n 1, 1) := dk_27 (dk_at dksX4_ride_0 13 rfl rfl)
theorem dX4_ride_14 : decode cX4_ride 14 = .ok (.iload_n 2, 1) := dk_28 (dk_at dksX4_ride_0 14 rfl rfl)
theorem dX4_ride_15 : decode cX4_ride 15 = .ok (.invokevirtual 114, 3) := dk_182 0 114 (dk_at dksX4_ride_0 15 rfl rfl)
theorem dX4_ride_18 : decode cX4_ride 18 = .ok (.iinc 3 1, 3) := dk_132 3 1 (dk_at dksX4_ride_0 18 rfl rfl)
theorem dX4_ride_21 : decode cX4_ride 21 = .ok (.goto (-19), 3) := dk_167 255 237 (dk_at dksX4_ride_0 21 rfl rfl)
theorem dX4_ride_24 : decode cX4_ride 24 = .ok (.iload_n 3, 1) := dk_29 (dk_at dksX4_ride_1 0 rfl rfl)
theorem dX4_ride_25 : decode cX4_ride 25 = .ok (.ireturn, 1) := dk_172 (dk_at dksX4_ride_1 1 rfl rfl)
abbrev cX4_rideOn : ByteArray := prog_21_method_15_code
def yX4_rideOn : MethodName := ⟨RX4, "rideOn", "(II)V"⟩
def dkwX4_rideOn_5 : List UInt8 := [3, 182, 0, 104, 177]
abbrev dktX4_rideOn_5 : List UInt8 := dkwX4_rideOn_5 ++ []
def dkwX4_rideOn_4 : List UInt8 := [42, 27, 182, 0, 111, 184, 0, 101, 54, 7, 42, 180, 0, 19, 27, 29, 21, 5, 21, 7, 104, 96, 79, 42]
abbrev dktX4_rideOn_4 : List UInt8 := dkwX4_rideOn_4 ++ dktX4_rideOn_5
def dkwX4_rideOn_3 : List UInt8 := [42, 27, 182, 0, 108, 29, 21, 4, 184, 0, 84, 184, 0, 101, 184, 0, 101, 54, 7, 167, 0, 15, 21, 7]
abbrev dktX4_rideOn_3 : List UInt8 := dkwX4_rideOn_3 ++ dktX4_rideOn_4
def dkwX4_rideOn_2 : List UInt8 := [162, 0, 7, 4, 167, 0, 4, 3, 54, 6, 29, 28, 184, 0, 84, 54, 7, 21, 6, 153, 0, 27, 21, 7]
abbrev dktX4_rideOn_2 : List UInt8 := dkwX4_rideOn_2 ++ dktX4_rideOn_3
def dkwX4_rideOn_1 : List UInt8 := [54, 5, 21, 5, 158, 0, 17, 21, 4, 29, 164, 0, 7, 4, 167, 0, 18, 3, 167, 0, 14, 21, 4, 29]
abbrev dktX4_rideOn_1 : List UInt8 := dkwX4_rideOn_1 ++ dktX4_rideOn_2
def dkwX4_rideOn_0 : List UInt8 := [42, 180, 0, 19, 27, 46, 62, 42, 27, 182, 0, 91, 54, 4, 28, 29, 164, 0, 7, 4, 167, 0, 4, 2]
abbrev dktX4_rideOn_0 : List UInt8 := dkwX4_rideOn_0 ++ dktX4_rideOn_1
theorem dksX4_rideOn_0 : cX4_rideOn.data.toList.drop 0 = dktX4_rideOn_0 := by decide +kernel
theorem dksX4_rideOn_1 : cX4_rideOn.data.toList.drop 24 = dktX4_rideOn_1 := dk_seg dksX4_rideOn_0 24 rfl rfl
theorem dksX4_rideOn_2 : cX4_rideOn.data.toList.drop 48 = dktX4_rideOn_2 := dk_seg dksX4_rideOn_1 24 rfl rfl
theorem dksX4_rideOn_3 : cX4_rideOn.data.toList.drop 72 = dktX4_rideOn_3 := dk_seg dksX4_rideOn_2 24 rfl rfl
theorem dksX4_rideOn_4 : cX4_rideOn.data.toList.drop 96 = dktX4_rideOn_4 := dk_seg dksX4_rideOn_3 24 rfl rfl
theorem dksX4_rideOn_5 : cX4_rideOn.data.toList.drop 120 = dktX4_rideOn_5 := dk_seg dksX4_rideOn_4 24 rfl rfl
theorem dX4_rideOn_0 : decode cX4_rideOn 0 = .ok (.aload_n 0, 1) := dk_42 (dk_at dksX4_rideOn_0 0 rfl rfl)
theorem dX4_rideOn_1 : decode cX4_rideOn 1 = .ok (.getfield 19, 3) := dk_180 0 19 (dk_at dksX4_rideOn_0 1 rfl rfl)
theorem dX4_rideOn_4 : decode cX4_rideOn 4 = .ok (.iload_n 1, 1) := dk_27 (dk_at dksX4_rideOn_0 4 rfl rfl)
theorem dX4_rideOn_5 : decode cX4_rideOn 5 = .ok (.iaload, 1) := dk_46 (dk_at dksX4_rideOn_0 5 rfl rfl)
theorem dX4_rideOn_6 : decode cX4_rideOn 6 = .ok (.istore_n 3, 1) := dk_62 (dk_at dksX4_rideOn_0 6 rfl rfl)
theorem dX4_rideOn_7 : decode cX4_rideOn 7 = .ok (.aload_n 0, 1) := dk_42 (dk_at dksX4_rideOn_0 7 rfl rfl)
theorem dX4_rideOn_8 : decode cX4_rideOn 8 = .ok (.iload_n 1, 1) := dk_27 (dk_at dksX4_rideOn_0 8 rfl rfl)
theorem dX4_rideOn_9 : decode cX4_rideOn 9 = .ok (.invokevirtual 91, 3) := dk_182 0 91 (dk_at dksX4_rideOn_0 9 rfl rfl)
theorem dX4_rideOn_12 : decode cX4_rideOn 12 = .ok (.istore 4, 2) := dk_54 4 (dk_at dksX4_rideOn_0 12 rfl rfl)
theorem dX4_rideOn_14 : decode cX4_rideOn 14 = .ok (.iload_n 2, 1) := dk_28 (dk_at dksX4_rideOn_0 14 rfl rfl)
theorem dX4_rideOn_15 : decode cX4_rideOn 15 = .ok (.iload_n 3, 1) := dk_29 (dk_at dksX4_rideOn_0 15 rfl rfl)
theorem dX4_rideOn_16 : decode cX4_rideOn 16 = .ok (.if_icmp .le 7, 3) := dk_164 0 7 (dk_at dksX4_rideOn_0 16 rfl rfl)
theorem dX4_rideOn_19 : decode cX4_rideOn 19 = .ok (.iconst 1, 1) := dk_4 (dk_at dksX4_rideOn_0 19 rfl rfl)
theorem dX4_rideOn_20 : decode cX4_rideOn 20 = .ok (.goto 4, 3) := dk_167 0 4 (dk_at dksX4_rideOn_0 20 rfl rfl)
theorem dX4_rideOn_23 : decode cX4_rideOn 23 = .ok (.iconst (-1), 1) := dk_2 (dk_at dksX4_rideOn_0 23 rfl rfl)
theorem dX4_rideOn_24 : decode cX4_rideOn 24 = .ok (.istore 5, 2) := dk_54 5 (dk_at dksX4_rideOn_1 0 rfl rfl)
theorem dX4_rideOn_26 : decode cX4_rideOn 26 = .ok (.iload 5, 2) := dk_21 5 (dk_at dksX4_rideOn_1 2 rfl rfl)
theorem dX4_rideOn_28 : decode cX4_rideOn 28 = .ok (.ifCond .le 17, 3) := dk_158 0 17 (dk_at dksX4_rideOn_1 4 rfl rfl)
theorem dX4_rideOn_31 : decode cX4_rideOn 31 = .ok (.iload 4, 2) := dk_21 4 (dk_at dksX4_rideOn_1 7 rfl rfl)
theorem dX4_rideOn_33 : decode cX4_rideOn 33 = .ok (.iload_n 3, 1) := dk_29 (dk_at dksX4_rideOn_1 9 rfl rfl)
theorem dX4_rideOn_34 : decode cX4_rideOn 34 = .ok (.if_icmp .le 7, 3) := dk_164 0 7 (dk_at dksX4_rideOn_1 10 rfl rfl)
theorem dX4_rideOn_37 : decode cX4_rideOn 37 = .ok (.iconst 1, 1) := dk_4 (dk_at dksX4_rideOn_1 13 rfl rfl)
theorem dX4_rideOn_38 : decode cX4_rideOn 38 = .ok (.goto 18, 3) := dk_167 0 18 (dk_at dksX4_rideOn_1 14 rfl rfl)
theorem dX4_rideOn_41 : decode cX4_rideOn 41 = .ok (.iconst 0, 1) := dk_3 (dk_at dksX4_rideOn_1 17 rfl rfl)
theorem dX4_rideOn_42 : decode cX4_rideOn 42 = .ok (.goto 14, 3) := dk_167 0 14 (dk_at dksX4_rideOn_1 18 rfl rfl)
theorem dX4_rideOn_45 : decode cX4_rideOn 45 = .ok (.iload 4, 2) := dk_21 4 (dk_at dksX4_rideOn_1 21 rfl rfl)
theorem dX4_rideOn_47 : decode cX4_rideOn 47 = .ok (.iload_n 3, 1) := dk_29 (dk_at dksX4_rideOn_1 23 rfl rfl)
theorem dX4_rideOn_48 : decode cX4_rideOn 48 = .ok (.if_icmp .ge 7, 3) := dk_162 0 7 (dk_at dksX4_rideOn_2 0 rfl rfl)
theorem dX4_rideOn_51 : decode cX4_rideOn 51 = .ok (.iconst 1, 1) := dk_4 (dk_at dksX4_rideOn_2 3 rfl rfl)
theorem dX4_rideOn_52 : decode cX4_rideOn 52 = .ok (.goto 4, 3) := dk_167 0 4 (dk_at dksX4_rideOn_2 4 rfl rfl)
theorem dX4_rideOn_55 : decode cX4_rideOn 55 = .ok (.iconst 0, 1) := dk_3 (dk_at dksX4_rideOn_2 7 rfl rfl)
theorem dX4_rideOn_56 : decode cX4_rideOn 56 = .ok (.istore 6, 2) := dk_54 6 (dk_at dksX4_rideOn_2 8 rfl rfl)
theorem dX4_rideOn_58 : decode cX4_rideOn 58 = .ok (.iload_n 3, 1) := dk_29 (dk_at dksX4_rideOn_2 10 rfl rfl)
theorem dX4_rideOn_59 : decode cX4_rideOn 59 = .ok (.iload_n 2, 1) := dk_28 (dk_at dksX4_rideOn_2 11 rfl rfl)
theorem dX4_rideOn_60 : decode cX4_rideOn 60 = .ok (.invokestatic 84, 3) := dk_184 0 84 (dk_at dksX4_rideOn_2 12 rfl rfl)
theorem dX4_rideOn_63 : decode cX4_rideOn 63 = .ok (.istore 7, 2) := dk_54 7 (dk_at dksX4_rideOn_2 15 rfl rfl)
theorem dX4_rideOn_65 : decode cX4_rideOn 65 = .ok (.iload 6, 2) := dk_21 6 (dk_at dksX4_rideOn_2 17 rfl rfl)
theorem dX4_rideOn_67 : decode cX4_rideOn 67 = .ok (.ifCond .eq 27, 3) := dk_153 0 27 (dk_at dksX4_rideOn_2 19 rfl rfl)
theorem dX4_rideOn_70 : decode cX4_rideOn 70 = .ok (.iload 7, 2) := dk_21 7 (dk_at dksX4_rideOn_2 22 rfl rfl)
theorem dX4_rideOn_72 : decode cX4_rideOn 72 = .ok (.aload_n 0, 1) := dk_42 (dk_at dksX4_rideOn_3 0 rfl rfl)
theorem dX4_rideOn_73 : decode cX4_rideOn 73 = .ok (.iload_n 1, 1) := dk_27 (dk_at dksX4_rideOn_3 1 rfl rfl)
theorem dX4_rideOn_74 : decode cX4_rideOn 74 = .ok (.invokevirtual 108, 3) := dk_182 0 108 (dk_at dksX4_rideOn_3 2 rfl rfl)
theorem dX4_rideOn_77 : decode cX4_rideOn 77 = .ok (.iload_n 3, 1) := dk_29 (dk_at dksX4_rideOn_3 5 rfl rfl)
theorem dX4_rideOn_78 : decode cX4_rideOn 78 = .ok (.iload 4, 2) := dk_21 4 (dk_at dksX4_rideOn_3 6 rfl rfl)
theorem dX4_rideOn_80 : decode cX4_rideOn 80 = .ok (.invokestatic 84, 3) := dk_184 0 84 (dk_at dksX4_rideOn_3 8 rfl rfl)
theorem dX4_rideOn_83 : decode cX4_rideOn 83 = .ok (.invokestatic 101, 3) := dk_184 0 101 (dk_at dksX4_rideOn_3 11 rfl rfl)
theorem dX4_rideOn_86 : decode cX4_rideOn 86 = .ok (.invokestatic 101, 3) := dk_184 0 101 (dk_at dksX4_rideOn_3 14 rfl rfl)
theorem dX4_rideOn_89 : decode cX4_rideOn 89 = .ok (.istore 7, 2) := dk_54 7 (dk_at dksX4_rideOn_3 17 rfl rfl)
theorem dX4_rideOn_91 : decode cX4_rideOn 91 = .ok (.goto 15, 3) := dk_167 0 15 (dk_at dksX4_rideOn_3 19 rfl rfl)
theorem dX4_rideOn_94 : decode cX4_rideOn 94 = .ok (.iload 7, 2) := dk_21 7 (dk_at dksX4_rideOn_3 22 rfl rfl)
theorem dX4_rideOn_96 : decode cX4_rideOn 96 = .ok (.aload_n 0, 1) := dk_42 (dk_at dksX4_rideOn_4 0 rfl rfl)
theorem dX4_rideOn_97 : decode cX4_rideOn 97 = .ok (.iload_n 1, 1) := dk_27 (dk_at dksX4_rideOn_4 1 rfl rfl)
theorem dX4_rideOn_98 : decode cX4_rideOn 98 = .ok (.invokevirtual 111, 3) := dk_182 0 111 (dk_at dksX4_rideOn_4 2 rfl rfl)
theorem dX4_rideOn_101 : decode cX4_rideOn 101 = .ok (.invokestatic 101, 3) := dk_184 0 101 (dk_at dksX4_rideOn_4 5 rfl rfl)
theorem dX4_rideOn_104 : decode cX4_rideOn 104 = .ok (.istore 7, 2) := dk_54 7 (dk_at dksX4_rideOn_4 8 rfl rfl)
theorem dX4_rideOn_106 : decode cX4_rideOn 106 = .ok (.aload_n 0, 1) := dk_42 (dk_at dksX4_rideOn_4 10 rfl rfl)
theorem dX4_rideOn_107 : decode cX4_rideOn 107 = .ok (.getfield 19, 3) := dk_180 0 19 (dk_at dksX4_rideOn_4 11 rfl rfl)
theorem dX4_rideOn_110 : decode cX4_rideOn 110 = .ok (.iload_n 1, 1) := dk_27 (dk_at dksX4_rideOn_4 14 rfl rfl)
theorem dX4_rideOn_111 : decode cX4_rideOn 111 = .ok (.iload_n 3, 1) := dk_29 (dk_at dksX4_rideOn_4 15 rfl rfl)
theorem dX4_rideOn_112 : decode cX4_rideOn 112 = .ok (.iload 5, 2) := dk_21 5 (dk_at dksX4_rideOn_4 16 rfl rfl)
theorem dX4_rideOn_114 : decode cX4_rideOn 114 = .ok (.iload 7, 2) := dk_21 7 (dk_at dksX4_rideOn_4 18 rfl rfl)
theorem dX4_rideOn_116 : decode cX4_rideOn 116 = .ok (.imul, 1) := dk_104 (dk_at dksX4_rideOn_4 20 rfl rfl)
theorem dX4_rideOn_117 : decode cX4_rideOn 117 = .ok (.iadd, 1) := dk_96 (dk_at dksX4_rideOn_4 21 rfl rfl)
theorem dX4_rideOn_118 : decode cX4_rideOn 118 = .ok (.iastore, 1) := dk_79 (dk_at dksX4_rideOn_4 22 rfl rfl)
theorem dX4_rideOn_119 : decode cX4_rideOn 119 = .ok (.aload_n 0, 1) := dk_42 (dk_at dksX4_rideOn_4 23 rfl rfl)
theorem dX4_rideOn_120 : decode cX4_rideOn 120 = .ok (.iconst 0, 1) := dk_3 (dk_at dksX4_rideOn_5 0 rfl rfl)
theorem dX4_rideOn_121 : decode cX4_rideOn 121 = .ok (.invokevirtual 104, 3) := dk_182 0 104 (dk_at dksX4_rideOn_5 1 rfl rfl)
theorem dX4_rideOn_124 : decode cX4_rideOn 124 = .ok (.return_, 1) := dk_177 (dk_at dksX4_rideOn_5 4 rfl rfl)
abbrev cX4_goalOf : ByteArray := prog_21_method_9_code
def yX4_goalOf : MethodName := ⟨RX4, "goalOf", "(I)I"⟩
def dkwX4_goalOf_4 : List UInt8 := [180, 0, 88, 172, 21, 5, 21, 4, 164, 0, 7, 29, 167, 0, 4, 28, 172, 28, 172]
abbrev dktX4_goalOf_4 : List UInt8 := dkwX4_goalOf_4 ++ []
def dkwX4_goalOf_3 : List UInt8 := [42, 180, 0, 19, 27, 46, 172, 29, 172, 21, 5, 21, 4, 162, 0, 7, 29, 167, 0, 4, 28, 172, 42]
abbrev dktX4_goalOf_3 : List UInt8 := dkwX4_goalOf_3 ++ dktX4_goalOf_4
def dkwX4_goalOf_2 : List UInt8 := [170, 0, 0, 0, 0, 82, 0, 0, 0, 1, 0, 0, 0, 7, 0, 0, 0, 42, 0, 0, 0, 49, 0, 0, 0, 51, 0, 0, 0, 82, 0, 0, 0, 64, 0, 0, 0, 69, 0, 0, 0, 42]
abbrev dktX4_goalOf_2 : List UInt8 := dkwX4_goalOf_2 ++ dktX4_goalOf_3
def dkwX4_goalOf_1 : List UInt8 := [42, 180, 0, 19, 27, 46, 29, 184, 0, 84, 54, 5, 42, 180, 0, 7, 27, 46]
abbrev dktX4_goalOf_1 : List UInt8 := dkwX4_goalOf_1 ++ dktX4_goalOf_2
def dkwX4_goalOf_0 : List UInt8 := [42, 180, 0, 16, 27, 46, 61, 16, 20, 28, 100, 62, 42, 180, 0, 19, 27, 46, 28, 184, 0, 84, 54, 4]
abbrev dktX4_goalOf_0 : List UInt8 := dkwX4_goalOf_0 ++ dktX4_goalOf_1
theorem dksX4_goalOf_0 : cX4_goalOf.data.toList.drop 0 = dktX4_goalOf_0 := by decide +kernel
theorem dksX4_goalOf_1 : cX4_goalOf.data.toList.drop 24 = dktX4_goalOf_1 := dk_seg dksX4_goalOf_0 24 rfl rfl
theorem dksX4_goalOf_2 : cX4_goalOf.data.toList.drop 42 = dktX4_goalOf_2 := dk_seg dksX4_goalOf_1 18 rfl rfl
theorem dksX4_goalOf_3 : cX4_goalOf.data.toList.drop 84 = dktX4_goalOf_3 := dk_seg dksX4_goalOf_2 42 rfl rfl
theorem dksX4_goalOf_4 : cX4_goalOf.data.toList.drop 107 = dktX4_goalOf_4 := dk_seg dksX4_goalOf_3 23 rfl rfl
theorem dX4_goalOf_0 : decode cX4_goalOf 0 = .ok (.aload_n 0, 1) := dk_42 (dk_at dksX4_goalOf_0 0 rfl rfl)
theorem dX4_goalOf_1 : decode cX4_goalOf 1 = .ok (.getfield 16, 3) := dk_180 0 16 (dk_at dksX4_goalOf_0 1 rfl rfl)
theorem dX4_goalOf_4 : decode cX4_goalOf 4 = .ok (.iload_n 1, 1) := dk_27 (dk_at dksX4_goalOf_0 4 rfl rfl)
theorem dX4_goalOf_5 : decode cX4_goalOf 5 = .ok (.iaload, 1) := dk_46 (dk_at dksX4_goalOf_0 5 rfl rfl)
theorem dX4_goalOf_6 : decode cX4_goalOf 6 = .ok (.istore_n 2, 1) := dk_61 (dk_at dksX4_goalOf_0 6 rfl rfl)
theorem dX4_goalOf_7 : decode cX4_goalOf 7 = .ok (.bipush 20, 2) := dk_16 20 (dk_at dksX4_goalOf_0 7 rfl rfl)
theorem dX4_goalOf_9 : decode cX4_goalOf 9 = .ok (.iload_n 2, 1) := dk_28 (dk_at dksX4_goalOf_0 9 rfl rfl)
theorem dX4_goalOf_10 : decode cX4_goalOf 10 = .ok (.isub, 1) := dk_100 (dk_at dksX4_goalOf_0 10 rfl rfl)
theorem dX4_goalOf_11 : decode cX4_goalOf 11 = .ok (.istore_n 3, 1) := dk_62 (dk_at dksX4_goalOf_0 11 rfl rfl)
theorem dX4_goalOf_12 : decode cX4_goalOf 12 = .ok (.aload_n 0, 1) := dk_42 (dk_at dksX4_goalOf_0 12 rfl rfl)
theorem dX4_goalOf_13 : decode cX4_goalOf 13 = .ok (.getfield 19, 3) := dk_180 0 19 (dk_at dksX4_goalOf_0 13 rfl rfl)
theorem dX4_goalOf_16 : decode cX4_goalOf 16 = .ok (.iload_n 1, 1) := dk_27 (dk_at dksX4_goalOf_0 16 rfl rfl)
theorem dX4_goalOf_17 : decode cX4_goalOf 17 = .ok (.iaload, 1) := dk_46 (dk_at dksX4_goalOf_0 17 rfl rfl)
theorem dX4_goalOf_18 : decode cX4_goalOf 18 = .ok (.iload_n 2, 1) := dk_28 (dk_at dksX4_goalOf_0 18 rfl rfl)
theorem dX4_goalOf_19 : decode cX4_goalOf 19 = .ok (.invokestatic 84, 3) := dk_184 0 84 (dk_at dksX4_goalOf_0 19 rfl rfl)
theorem dX4_goalOf_22 : decode cX4_goalOf 22 = .ok (.istore 4, 2) := dk_54 4 (dk_at dksX4_goalOf_0 22 rfl rfl)
theorem dX4_goalOf_24 : decode cX4_goalOf 24 = .ok (.aload_n 0, 1) := dk_42 (dk_at dksX4_goalOf_1 0 rfl rfl)
theorem dX4_goalOf_25 : decode cX4_goalOf 25 = .ok (.getfield 19, 3) := dk_180 0 19 (dk_at dksX4_goalOf_1 1 rfl rfl)
theorem dX4_goalOf_28 : decode cX4_goalOf 28 = .ok (.iload_n 1, 1) := dk_27 (dk_at dksX4_goalOf_1 4 rfl rfl)
theorem dX4_goalOf_29 : decode cX4_goalOf 29 = .ok (.iaload, 1) := dk_46 (dk_at dksX4_goalOf_1 5 rfl rfl)
theorem dX4_goalOf_30 : decode cX4_goalOf 30 = .ok (.iload_n 3, 1) := dk_29 (dk_at dksX4_goalOf_1 6 rfl rfl)
theorem dX4_goalOf_31 : decode cX4_goalOf 31 = .ok (.invokestatic 84, 3) := dk_184 0 84 (dk_at dksX4_goalOf_1 7 rfl rfl)
theorem dX4_goalOf_34 : decode cX4_goalOf 34 = .ok (.istore 5, 2) := dk_54 5 (dk_at dksX4_goalOf_1 10 rfl rfl)
theorem dX4_goalOf_36 : decode cX4_goalOf 36 = .ok (.aload_n 0, 1) := dk_42 (dk_at dksX4_goalOf_1 12 rfl rfl)
theorem dX4_goalOf_37 : decode cX4_goalOf 37 = .ok (.getfield 7, 3) := dk_180 0 7 (dk_at dksX4_goalOf_1 13 rfl rfl)
theorem dX4_goalOf_40 : decode cX4_goalOf 40 = .ok (.iload_n 1, 1) := dk_27 (dk_at dksX4_goalOf_1 16 rfl rfl)
theorem dX4_goalOf_41 : decode cX4_goalOf 41 = .ok (.iaload, 1) := dk_46 (dk_at dksX4_goalOf_1 17 rfl rfl)
theorem dX4_goalOf_42 : decode cX4_goalOf 42 = .ok (.tableswitch 82 1 7 #[42, 49, 51, 82, 64, 69, 42], 42) := by decide +kernel
theorem dX4_goalOf_84 : decode cX4_goalOf 84 = .ok (.aload_n 0, 1) := dk_42 (dk_at dksX4_goalOf_3 0 rfl rfl)
theorem dX4_goalOf_85 : decode cX4_goalOf 85 = .ok (.getfield 19, 3) := dk_180 0 19 (dk_at dksX4_goalOf_3 1 rfl rfl)
theorem dX4_goalOf_88 : decode cX4_goalOf 88 = .ok (.iload_n 1, 1) := dk_27 (dk_at dksX4_goalOf_3 4 rfl rfl)
theorem dX4_goalOf_89 : decode cX4_goalOf 89 = .ok (.iaload, 1) := dk_46 (dk_at dksX4_goalOf_3 5 rfl rfl)
theorem dX4_goalOf_90 : decode cX4_goalOf 90 = .ok (.ireturn, 1) := dk_172 (dk_at dksX4_goalOf_3 6 rfl rfl)
theorem dX4_goalOf_91 : decode cX4_goalOf 91 = .ok (.iload_n 3, 1) := dk_29 (dk_at dksX4_goalOf_3 7 rfl rfl)
theorem dX4_goalOf_92 : decode cX4_goalOf 92 = .ok (.ireturn, 1) := dk_172 (dk_at dksX4_goalOf_3 8 rfl rfl)
theorem dX4_goalOf_93 : decode cX4_goalOf 93 = .ok (.iload 5, 2) := dk_21 5 (dk_at dksX4_goalOf_3 9 rfl rfl)
theorem dX4_goalOf_95 : decode cX4_goalOf 95 = .ok (.iload 4, 2) := dk_21 4 (dk_at dksX4_goalOf_3 11 rfl rfl)
theorem dX4_goalOf_97 : decode cX4_goalOf 97 = .ok (.if_icmp .ge 7, 3) := dk_162 0 7 (dk_at dksX4_goalOf_3 13 rfl rfl)
theorem dX4_goalOf_100 : decode cX4_goalOf 100 = .ok (.iload_n 3, 1) := dk_29 (dk_at dksX4_goalOf_3 16 rfl rfl)
theorem dX4_goalOf_101 : decode cX4_goalOf 101 = .ok (.goto 4, 3) := dk_167 0 4 (dk_at dksX4_goalOf_3 17 rfl rfl)
theorem dX4_goalOf_104 : decode cX4_goalOf 104 = .ok (.iload_n 2, 1) := dk_28 (dk_at dksX4_goalOf_3 20 rfl rfl)
theorem dX4_goalOf_105 : decode cX4_goalOf 105 = .ok (.ireturn, 1) := dk_172 (dk_at dksX4_goalOf_3 21 rfl rfl)
theorem dX4_goalOf_106 : decode cX4_goalOf 106 = .ok (.aload_n 0, 1) := dk_42 (dk_at dksX4_goalOf_3 22 rfl rfl)
theorem dX4_goalOf_107 : decode cX4_goalOf 107 = .ok (.getfield 88, 3) := dk_180 0 88 (dk_at dksX4_goalOf_4 0 rfl rfl)
theorem dX4_goalOf_110 : decode cX4_goalOf 110 = .ok (.ireturn, 1) := dk_172 (dk_at dksX4_goalOf_4 3 rfl rfl)
theorem dX4_goalOf_111 : decode cX4_goalOf 111 = .ok (.iload 5, 2) := dk_21 5 (dk_at dksX4_goalOf_4 4 rfl rfl)
theorem dX4_goalOf_113 : decode cX4_goalOf 113 = .ok (.iload 4, 2) := dk_21 4 (dk_at dksX4_goalOf_4 6 rfl rfl)
theorem dX4_goalOf_115 : decode cX4_goalOf 115 = .ok (.if_icmp .le 7, 3) := dk_164 0 7 (dk_at dksX4_goalOf_4 8 rfl rfl)
theorem dX4_goalOf_118 : decode cX4_goalOf 118 = .ok (.iload_n 3, 1) := dk_29 (dk_at dksX4_goalOf_4 11 rfl rfl)
theorem dX4_goalOf_119 : decode cX4_goalOf 119 = .ok (.goto 4, 3) := dk_167 0 4 (dk_at dksX4_goalOf_4 12 rfl rfl)
theorem dX4_goalOf_122 : decode cX4_goalOf 122 = .ok (.iload_n 2, 1) := dk_28 (dk_at dksX4_goalOf_4 15 rfl rfl)
theorem dX4_goalOf_123 : decode cX4_goalOf 123 = .ok (.ireturn, 1) := dk_172 (dk_at dksX4_goalOf_4 16 rfl rfl)
theorem dX4_goalOf_124 : decode cX4_goalOf 124 = .ok (.iload_n 2, 1) := dk_28 (dk_at dksX4_goalOf_4 17 rfl rfl)
theorem dX4_goalOf_125 : decode cX4_goalOf 125 = .ok (.ireturn, 1) := dk_172 (dk_at dksX4_goalOf_4 18 rfl rfl)
abbrev cX4_apart : ByteArray := prog_21_method_8_code
def yX4_apart : MethodName := ⟨RX4, "apart", "(II)I"⟩
def dkwX4_apart_0 : List UInt8 := [26, 27, 164, 0, 9, 26, 27, 100, 167, 0, 6, 27, 26, 100, 172]
abbrev dktX4_apart_0 : List UInt8 := dkwX4_apart_0 ++ []
theorem dksX4_apart_0 : cX4_apart.data.toList.drop 0 = dktX4_apart_0 := by decide +kernel
theorem dX4_apart_0 : decode cX4_apart 0 = .ok (.iload_n 0, 1) := dk_26 (dk_at dksX4_apart_0 0 rfl rfl)
theorem dX4_apart_1 : decode cX4_apart 1 = .ok (.iload_n 1, 1) := dk_27 (dk_at dksX4_apart_0 1 rfl rfl)
theorem dX4_apart_2 : decode cX4_apart 2 = .ok (.if_icmp .le 9, 3) := dk_164 0 9 (dk_at dksX4_apart_0 2 rfl rfl)
theorem dX4_apart_5 : decode cX4_apart 5 = .ok (.iload_n 0, 1) := dk_26 (dk_at dksX4_apart_0 5 rfl rfl)
theorem dX4_apart_6 : decode cX4_apart 6 = .ok (.iload_n 1, 1) := dk_27 (dk_at dksX4_apart_0 6 rfl rfl)
theorem dX4_apart_7 : decode cX4_apart 7 = .ok (.isub, 1) := dk_100 (dk_at dksX4_apart_0 7 rfl rfl)
theorem dX4_apart_8 : decode cX4_apart 8 = .ok (.goto 6, 3) := dk_167 0 6 (dk_at dksX4_apart_0 8 rfl rfl)
theorem dX4_apart_11 : decode cX4_apart 11 = .ok (.iload_n 1, 1) := dk_27 (dk_at dksX4_apart_0 11 rfl rfl)
theorem dX4_apart_12 : decode cX4_apart 12 = .ok (.iload_n 0, 1) := dk_26 (dk_at dksX4_apart_0 12 rfl rfl)
theorem dX4_apart_13 : decode cX4_apart 13 = .ok (.isub, 1) := dk_100 (dk_at dksX4_apart_0 13 rfl rfl)
theorem dX4_apart_14 : decode cX4_apart 14 = .ok (.ireturn, 1) := dk_172 (dk_at dksX4_apart_0 14 rfl rfl)
abbrev cX4_paceOf : ByteArray := prog_21_method_11_code
def yX4_paceOf : MethodName := ⟨RX4, "paceOf", "(I)I"⟩
def dkwX4_paceOf_3 : List UInt8 := [6, 108, 96, 172, 6, 172, 28, 172]
abbrev dktX4_paceOf_3 : List UInt8 := dkwX4_paceOf_3 ++ []
def dkwX4_paceOf_2 : List UInt8 := [5, 172, 4, 42, 180, 0, 22, 27, 46, 5, 108, 96, 172, 28, 4, 96, 172, 28, 42, 180, 0, 13, 27, 46]
abbrev dktX4_paceOf_2 : List UInt8 := dkwX4_paceOf_2 ++ dktX4_paceOf_3
def dkwX4_paceOf_1 : List UInt8 := [170, 0, 0, 0, 0, 0, 73, 0, 0, 0, 1, 0, 0, 0, 7, 0, 0, 0, 43, 0, 0, 0, 45, 0, 0, 0, 73, 0, 0, 0, 73, 0, 0, 0, 56, 0, 0, 0, 60, 0, 0, 0, 71]
abbrev dktX4_paceOf_1 : List UInt8 := dkwX4_paceOf_1 ++ dktX4_paceOf_2
def dkwX4_paceOf_0 : List UInt8 := [4, 42, 180, 0, 22, 27, 46, 7, 108, 96, 61, 42, 180, 0, 7, 27, 46]
abbrev dktX4_paceOf_0 : List UInt8 := dkwX4_paceOf_0 ++ dktX4_paceOf_1
theorem dksX4_paceOf_0 : cX4_paceOf.data.toList.drop 0 = dktX4_paceOf_0 := by decide +kernel
theorem dksX4_paceOf_1 : cX4_paceOf.data.toList.drop 17 = dktX4_paceOf_1 := dk_seg dksX4_paceOf_0 17 rfl rfl
theorem dksX4_paceOf_2 : cX4_paceOf.data.toList.drop 60 = dktX4_paceOf_2 := dk_seg dksX4_paceOf_1 43 rfl rfl
theorem dksX4_paceOf_3 : cX4_paceOf.data.toList.drop 84 = dktX4_paceOf_3 := dk_seg dksX4_paceOf_2 24 rfl rfl
theorem dX4_paceOf_0 : decode cX4_paceOf 0 = .ok (.iconst 1, 1) := dk_4 (dk_at dksX4_paceOf_0 0 rfl rfl)
theorem dX4_paceOf_1 : decode cX4_paceOf 1 = .ok (.aload_n 0, 1) := dk_42 (dk_at dksX4_paceOf_0 1 rfl rfl)
theorem dX4_paceOf_2 : decode cX4_paceOf 2 = .ok (.getfield 22, 3) := dk_180 0 22 (dk_at dksX4_paceOf_0 2 rfl rfl)
theorem dX4_paceOf_5 : decode cX4_paceOf 5 = .ok (.iload_n 1, 1) := dk_27 (dk_at dksX4_paceOf_0 5 rfl rfl)
theorem dX4_paceOf_6 : decode cX4_paceOf 6 = .ok (.iaload, 1) := dk_46 (dk_at dksX4_paceOf_0 6 rfl rfl)
theorem dX4_paceOf_7 : decode cX4_paceOf 7 = .ok (.iconst 4, 1) := dk_7 (dk_at dksX4_paceOf_0 7 rfl rfl)
theorem dX4_paceOf_8 : decode cX4_paceOf 8 = .ok (.idiv, 1) := dk_108 (dk_at dksX4_paceOf_0 8 rfl rfl)
theorem dX4_paceOf_9 : decode cX4_paceOf 9 = .ok (.iadd, 1) := dk_96 (dk_at dksX4_paceOf_0 9 rfl rfl)
theorem dX4_paceOf_10 : decode cX4_paceOf 10 = .ok (.istore_n 2, 1) := dk_61 (dk_at dksX4_paceOf_0 10 rfl rfl)
theorem dX4_paceOf_11 : decode cX4_paceOf 11 = .ok (.aload_n 0, 1) := dk_42 (dk_at dksX4_paceOf_0 11 rfl rfl)
theorem dX4_paceOf_12 : decode cX4_paceOf 12 = .ok (.getfield 7, 3) := dk_180 0 7 (dk_at dksX4_paceOf_0 12 rfl rfl)
theorem dX4_paceOf_15 : decode cX4_paceOf 15 = .ok (.iload_n 1, 1) := dk_27 (dk_at dksX4_paceOf_0 15 rfl rfl)
theorem dX4_paceOf_16 : decode cX4_paceOf 16 = .ok (.iaload, 1) := dk_46 (dk_at dksX4_paceOf_0 16 rfl rfl)
theorem dX4_paceOf_17 : decode cX4_paceOf 17 = .ok (.tableswitch 73 1 7 #[43, 45, 73, 73, 56, 60, 71], 43) := by decide +kernel
theorem dX4_paceOf_60 : decode cX4_paceOf 60 = .ok (.iconst 2, 1) := dk_5 (dk_at dksX4_paceOf_2 0 rfl rfl)
theorem dX4_paceOf_61 : decode cX4_paceOf 61 = .ok (.ireturn, 1) := dk_172 (dk_at dksX4_paceOf_2 1 rfl rfl)
theorem dX4_paceOf_62 : decode cX4_paceOf 62 = .ok (.iconst 1, 1) := dk_4 (dk_at dksX4_paceOf_2 2 rfl rfl)
theorem dX4_paceOf_63 : decode cX4_paceOf 63 = .ok (.aload_n 0, 1) := dk_42 (dk_at dksX4_paceOf_2 3 rfl rfl)
theorem dX4_paceOf_64 : decode cX4_paceOf 64 = .ok (.getfield 22, 3) := dk_180 0 22 (dk_at dksX4_paceOf_2 4 rfl rfl)
theorem dX4_paceOf_67 : decode cX4_paceOf 67 = .ok (.iload_n 1, 1) := dk_27 (dk_at dksX4_paceOf_2 7 rfl rfl)
theorem dX4_paceOf_68 : decode cX4_paceOf 68 = .ok (.iaload, 1) := dk_46 (dk_at dksX4_paceOf_2 8 rfl rfl)
theorem dX4_paceOf_69 : decode cX4_paceOf 69 = .ok (.iconst 2, 1) := dk_5 (dk_at dksX4_paceOf_2 9 rfl rfl)
theorem dX4_paceOf_70 : decode cX4_paceOf 70 = .ok (.idiv, 1) := dk_108 (dk_at dksX4_paceOf_2 10 rfl rfl)
theorem dX4_paceOf_71 : decode cX4_paceOf 71 = .ok (.iadd, 1) := dk_96 (dk_at dksX4_paceOf_2 11 rfl rfl)
theorem dX4_paceOf_72 : decode cX4_paceOf 72 = .ok (.ireturn, 1) := dk_172 (dk_at dksX4_paceOf_2 12 rfl rfl)
theorem dX4_paceOf_73 : decode cX4_paceOf 73 = .ok (.iload_n 2, 1) := dk_28 (dk_at dksX4_paceOf_2 13 rfl rfl)
theorem dX4_paceOf_74 : decode cX4_paceOf 74 = .ok (.iconst 1, 1) := dk_4 (dk_at dksX4_paceOf_2 14 rfl rfl)
theorem dX4_paceOf_75 : decode cX4_paceOf 75 = .ok (.iadd, 1) := dk_96 (dk_at dksX4_paceOf_2 15 rfl rfl)
theorem dX4_paceOf_76 : decode cX4_paceOf 76 = .ok (.ireturn, 1) := dk_172 (dk_at dksX4_paceOf_2 16 rfl rfl)
theorem dX4_paceOf_77 : decode cX4_paceOf 77 = .ok (.iload_n 2, 1) := dk_28 (dk_at dksX4_paceOf_2 17 rfl rfl)
theorem dX4_paceOf_78 : decode cX4_paceOf 78 = .ok (.aload_n 0, 1) := dk_42 (dk_at dksX4_paceOf_2 18 rfl rfl)
theorem dX4_paceOf_79 : decode cX4_paceOf 79 = .ok (.getfield 13, 3) := dk_180 0 13 (dk_at dksX4_paceOf_2 19 rfl rfl)
theorem dX4_paceOf_82 : decode cX4_paceOf 82 = .ok (.iload_n 1, 1) := dk_27 (dk_at dksX4_paceOf_2 22 rfl rfl)
theorem dX4_paceOf_83 : decode cX4_paceOf 83 = .ok (.iaload, 1) := dk_46 (dk_at dksX4_paceOf_2 23 rfl rfl)
theorem dX4_paceOf_84 : decode cX4_paceOf 84 = .ok (.iconst 3, 1) := dk_6 (dk_at dksX4_paceOf_3 0 rfl rfl)
theorem dX4_paceOf_85 : decode cX4_paceOf 85 = .ok (.idiv, 1) := dk_108 (dk_at dksX4_paceOf_3 1 rfl rfl)
theorem dX4_paceOf_86 : decode cX4_paceOf 86 = .ok (.iadd, 1) := dk_96 (dk_at dksX4_paceOf_3 2 rfl rfl)
theorem dX4_paceOf_87 : decode cX4_paceOf 87 = .ok (.ireturn, 1) := dk_172 (dk_at dksX4_paceOf_3 3 rfl rfl)
theorem dX4_paceOf_88 : decode cX4_paceOf 88 = .ok (.iconst 3, 1) := dk_6 (dk_at dksX4_paceOf_3 4 rfl rfl)
theorem dX4_paceOf_89 : decode cX4_paceOf 89 = .ok (.ireturn, 1) := dk_172 (dk_at dksX4_paceOf_3 5 rfl rfl)
theorem dX4_paceOf_90 : decode cX4_paceOf 90 = .ok (.iload_n 2, 1) := dk_28 (dk_at dksX4_paceOf_3 6 rfl rfl)
theorem dX4_paceOf_91 : decode cX4_paceOf 91 = .ok (.ireturn, 1) := dk_172 (dk_at dksX4_paceOf_3 7 rfl rfl)
abbrev cX4_least : ByteArray := prog_21_method_7_code
def yX4_least : MethodName := ⟨RX4, "least", "(II)I"⟩
def dkwX4_least_0 : List UInt8 := [26, 27, 162, 0, 7, 26, 167, 0, 4, 27, 172]
abbrev dktX4_least_0 : List UInt8 := dkwX4_least_0 ++ []
theorem dksX4_least_0 : cX4_least.data.toList.drop 0 = dktX4_least_0 := by decide +kernel
theorem dX4_least_0 : decode cX4_least 0 = .ok (.iload_n 0, 1) := dk_26 (dk_at dksX4_least_0 0 rfl rfl)
theorem dX4_least_1 : decode cX4_least 1 = .ok (.iload_n 1, 1) := dk_27 (dk_at dksX4_least_0 1 rfl rfl)
theorem dX4_least_2 : decode cX4_least 2 = .ok (.if_icmp .ge 7, 3) := dk_162 0 7 (dk_at dksX4_least_0 2 rfl rfl)
theorem dX4_least_5 : decode cX4_least 5 = .ok (.iload_n 0, 1) := dk_26 (dk_at dksX4_least_0 5 rfl rfl)
theorem dX4_least_6 : decode cX4_least 6 = .ok (.goto 4, 3) := dk_167 0 4 (dk_at dksX4_least_0 6 rfl rfl)
theorem dX4_least_9 : decode cX4_least 9 = .ok (.iload_n 1, 1) := dk_27 (dk_at dksX4_least_0 9 rfl rfl)
theorem dX4_least_10 : decode cX4_least 10 = .ok (.ireturn, 1) := dk_172 (dk_at dksX4_least_0 10 rfl rfl)
abbrev cX4_walkOf : ByteArray := prog_21_method_12_code
def yX4_walkOf : MethodName := ⟨RX4, "walkOf", "(I)I"⟩
def dkwX4_walkOf_1 : List UInt8 := [159, 0, 14, 42, 180, 0, 7, 27, 46, 16, 6, 160, 0, 7, 5, 167, 0, 4, 4, 172]
abbrev dktX4_walkOf_1 : List UInt8 := dkwX4_walkOf_1 ++ []
def dkwX4_walkOf_0 : List UInt8 := [42, 180, 0, 7, 27, 46, 16, 7, 160, 0, 7, 6, 167, 0, 29, 42, 180, 0, 7, 27, 46, 4]
abbrev dktX4_walkOf_0 : List UInt8 := dkwX4_walkOf_0 ++ dktX4_walkOf_1
theorem dksX4_walkOf_0 : cX4_walkOf.data.toList.drop 0 = dktX4_walkOf_0 := by decide +kernel
theorem dksX4_walkOf_1 : cX4_walkOf.data.toList.drop 22 = dktX4_walkOf_1 := dk_seg dksX4_walkOf_0 22 rfl rfl
theorem dX4_walkOf_0 : decode cX4_walkOf 0 = .ok (.aload_n 0, 1) := dk_42 (dk_at dksX4_walkOf_0 0 rfl rfl)
theorem dX4_walkOf_1 : decode cX4_walkOf 1 = .ok (.getfield 7, 3) := dk_180 0 7 (dk_at dksX4_walkOf_0 1 rfl rfl)
theorem dX4_walkOf_4 : decode cX4_walkOf 4 = .ok (.iload_n 1, 1) := dk_27 (dk_at dksX4_walkOf_0 4 rfl rfl)
theorem dX4_walkOf_5 : decode cX4_walkOf 5 = .ok (.iaload, 1) := dk_46 (dk_at dksX4_walkOf_0 5 rfl rfl)
theorem dX4_walkOf_6 : decode cX4_walkOf 6 = .ok (.bipush 7, 2) := dk_16 7 (dk_at dksX4_walkOf_0 6 rfl rfl)
theorem dX4_walkOf_8 : decode cX4_walkOf 8 = .ok (.if_icmp .ne 7, 3) := dk_160 0 7 (dk_at dksX4_walkOf_0 8 rfl rfl)
theorem dX4_walkOf_11 : decode cX4_walkOf 11 = .ok (.iconst 3, 1) := dk_6 (dk_at dksX4_walkOf_0 11 rfl rfl)
theorem dX4_walkOf_12 : decode cX4_walkOf 12 = .ok (.goto 29, 3) := dk_167 0 29 (dk_at dksX4_walkOf_0 12 rfl rfl)
theorem dX4_walkOf_15 : decode cX4_walkOf 15 = .ok (.aload_n 0, 1) := dk_42 (dk_at dksX4_walkOf_0 15 rfl rfl)
theorem dX4_walkOf_16 : decode cX4_walkOf 16 = .ok (.getfield 7, 3) := dk_180 0 7 (dk_at dksX4_walkOf_0 16 rfl rfl)
theorem dX4_walkOf_19 : decode cX4_walkOf 19 = .ok (.iload_n 1, 1) := dk_27 (dk_at dksX4_walkOf_0 19 rfl rfl)
theorem dX4_walkOf_20 : decode cX4_walkOf 20 = .ok (.iaload, 1) := dk_46 (dk_at dksX4_walkOf_0 20 rfl rfl)
theorem dX4_walkOf_21 : decode cX4_walkOf 21 = .ok (.iconst 1, 1) := dk_4 (dk_at dksX4_walkOf_0 21 rfl rfl)
theorem dX4_walkOf_22 : decode cX4_walkOf 22 = .ok (.if_icmp .eq 14, 3) := dk_159 0 14 (dk_at dksX4_walkOf_1 0 rfl rfl)
theorem dX4_walkOf_25 : decode cX4_walkOf 25 = .ok (.aload_n 0, 1) := dk_42 (dk_at dksX4_walkOf_1 3 rfl rfl)
theorem dX4_walkOf_26 : decode cX4_walkOf 26 = .ok (.getfield 7, 3) := dk_180 0 7 (dk_at dksX4_walkOf_1 4 rfl rfl)
theorem dX4_walkOf_29 : decode cX4_walkOf 29 = .ok (.iload_n 1, 1) := dk_27 (dk_at dksX4_walkOf_1 7 rfl rfl)
theorem dX4_walkOf_30 : decode cX4_walkOf 30 = .ok (.iaload, 1) := dk_46 (dk_at dksX4_walkOf_1 8 rfl rfl)
theorem dX4_walkOf_31 : decode cX4_walkOf 31 = .ok (.bipush 6, 2) := dk_16 6 (dk_at dksX4_walkOf_1 9 rfl rfl)
theorem dX4_walkOf_33 : decode cX4_walkOf 33 = .ok (.if_icmp .ne 7, 3) := dk_160 0 7 (dk_at dksX4_walkOf_1 11 rfl rfl)
theorem dX4_walkOf_36 : decode cX4_walkOf 36 = .ok (.iconst 2, 1) := dk_5 (dk_at dksX4_walkOf_1 14 rfl rfl)
theorem dX4_walkOf_37 : decode cX4_walkOf 37 = .ok (.goto 4, 3) := dk_167 0 4 (dk_at dksX4_walkOf_1 15 rfl rfl)
theorem dX4_walkOf_40 : decode cX4_walkOf 40 = .ok (.iconst 1, 1) := dk_4 (dk_at dksX4_walkOf_1 18 rfl rfl)
theorem dX4_walkOf_41 : decode cX4_walkOf 41 = .ok (.ireturn, 1) := dk_172 (dk_at dksX4_walkOf_1 19 rfl rfl)
abbrev cX4_dayBy : ByteArray := prog_21_method_13_code
def yX4_dayBy : MethodName := ⟨RX4, "dayBy", "(Z)V"⟩
def dkwX4_dayBy_3 : List UInt8 := [42, 28, 182, 0, 98, 96, 184, 0, 101, 79, 132, 2, 1, 167, 255, 183, 177]
abbrev dktX4_dayBy_3 : List UInt8 := dkwX4_dayBy_3 ++ []
def dkwX4_dayBy_2 : List UInt8 := [28, 29, 153, 0, 14, 42, 180, 0, 22, 28, 46, 5, 108, 167, 0, 20, 16, 99, 42, 180, 0, 22, 28, 46]
abbrev dktX4_dayBy_2 : List UInt8 := dkwX4_dayBy_2 ++ dktX4_dayBy_3
def dkwX4_dayBy_1 : List UInt8 := [42, 180, 0, 19, 28, 46, 42, 28, 182, 0, 91, 160, 0, 7, 4, 167, 0, 4, 3, 62, 42, 180, 0, 22]
abbrev dktX4_dayBy_1 : List UInt8 := dkwX4_dayBy_1 ++ dktX4_dayBy_2
def dkwX4_dayBy_0 : List UInt8 := [42, 89, 180, 0, 95, 4, 96, 181, 0, 95, 3, 61, 28, 42, 180, 0, 81, 162, 0, 71, 27, 154, 0, 67]
abbrev dktX4_dayBy_0 : List UInt8 := dkwX4_dayBy_0 ++ dktX4_dayBy_1
theorem dksX4_dayBy_0 : cX4_dayBy.data.toList.drop 0 = dktX4_dayBy_0 := by decide +kernel
theorem dksX4_dayBy_1 : cX4_dayBy.data.toList.drop 24 = dktX4_dayBy_1 := dk_seg dksX4_dayBy_0 24 rfl rfl
theorem dksX4_dayBy_2 : cX4_dayBy.data.toList.drop 48 = dktX4_dayBy_2 := dk_seg dksX4_dayBy_1 24 rfl rfl
theorem dksX4_dayBy_3 : cX4_dayBy.data.toList.drop 72 = dktX4_dayBy_3 := dk_seg dksX4_dayBy_2 24 rfl rfl
theorem dX4_dayBy_0 : decode cX4_dayBy 0 = .ok (.aload_n 0, 1) := dk_42 (dk_at dksX4_dayBy_0 0 rfl rfl)
theorem dX4_dayBy_1 : decode cX4_dayBy 1 = .ok (.dup, 1) := dk_89 (dk_at dksX4_dayBy_0 1 rfl rfl)
theorem dX4_dayBy_2 : decode cX4_dayBy 2 = .ok (.getfield 95, 3) := dk_180 0 95 (dk_at dksX4_dayBy_0 2 rfl rfl)
theorem dX4_dayBy_5 : decode cX4_dayBy 5 = .ok (.iconst 1, 1) := dk_4 (dk_at dksX4_dayBy_0 5 rfl rfl)
theorem dX4_dayBy_6 : decode cX4_dayBy 6 = .ok (.iadd, 1) := dk_96 (dk_at dksX4_dayBy_0 6 rfl rfl)
theorem dX4_dayBy_7 : decode cX4_dayBy 7 = .ok (.putfield 95, 3) := dk_181 0 95 (dk_at dksX4_dayBy_0 7 rfl rfl)
theorem dX4_dayBy_10 : decode cX4_dayBy 10 = .ok (.iconst 0, 1) := dk_3 (dk_at dksX4_dayBy_0 10 rfl rfl)
theorem dX4_dayBy_11 : decode cX4_dayBy 11 = .ok (.istore_n 2, 1) := dk_61 (dk_at dksX4_dayBy_0 11 rfl rfl)
theorem dX4_dayBy_12 : decode cX4_dayBy 12 = .ok (.iload_n 2, 1) := dk_28 (dk_at dksX4_dayBy_0 12 rfl rfl)
theorem dX4_dayBy_13 : decode cX4_dayBy 13 = .ok (.aload_n 0, 1) := dk_42 (dk_at dksX4_dayBy_0 13 rfl rfl)
theorem dX4_dayBy_14 : decode cX4_dayBy 14 = .ok (.getfield 81, 3) := dk_180 0 81 (dk_at dksX4_dayBy_0 14 rfl rfl)
theorem dX4_dayBy_17 : decode cX4_dayBy 17 = .ok (.if_icmp .ge 71, 3) := dk_162 0 71 (dk_at dksX4_dayBy_0 17 rfl rfl)
theorem dX4_dayBy_20 : decode cX4_dayBy 20 = .ok (.iload_n 1, 1) := dk_27 (dk_at dksX4_dayBy_0 20 rfl rfl)
theorem dX4_dayBy_21 : decode cX4_dayBy 21 = .ok (.ifCond .ne 67, 3) := dk_154 0 67 (dk_at dksX4_dayBy_0 21 rfl rfl)
theorem dX4_dayBy_24 : decode cX4_dayBy 24 = .ok (.aload_n 0, 1) := dk_42 (dk_at dksX4_dayBy_1 0 rfl rfl)
theorem dX4_dayBy_25 : decode cX4_dayBy 25 = .ok (.getfield 19, 3) := dk_180 0 19 (dk_at dksX4_dayBy_1 1 rfl rfl)
theorem dX4_dayBy_28 : decode cX4_dayBy 28 = .ok (.iload_n 2, 1) := dk_28 (dk_at dksX4_dayBy_1 4 rfl rfl)
theorem dX4_dayBy_29 : decode cX4_dayBy 29 = .ok (.iaload, 1) := dk_46 (dk_at dksX4_dayBy_1 5 rfl rfl)
theorem dX4_dayBy_30 : decode cX4_dayBy 30 = .ok (.aload_n 0, 1) := dk_42 (dk_at dksX4_dayBy_1 6 rfl rfl)
theorem dX4_dayBy_31 : decode cX4_dayBy 31 = .ok (.iload_n 2, 1) := dk_28 (dk_at dksX4_dayBy_1 7 rfl rfl)
theorem dX4_dayBy_32 : decode cX4_dayBy 32 = .ok (.invokevirtual 91, 3) := dk_182 0 91 (dk_at dksX4_dayBy_1 8 rfl rfl)
theorem dX4_dayBy_35 : decode cX4_dayBy 35 = .ok (.if_icmp .ne 7, 3) := dk_160 0 7 (dk_at dksX4_dayBy_1 11 rfl rfl)
theorem dX4_dayBy_38 : decode cX4_dayBy 38 = .ok (.iconst 1, 1) := dk_4 (dk_at dksX4_dayBy_1 14 rfl rfl)
theorem dX4_dayBy_39 : decode cX4_dayBy 39 = .ok (.goto 4, 3) := dk_167 0 4 (dk_at dksX4_dayBy_1 15 rfl rfl)
theorem dX4_dayBy_42 : decode cX4_dayBy 42 = .ok (.iconst 0, 1) := dk_3 (dk_at dksX4_dayBy_1 18 rfl rfl)
theorem dX4_dayBy_43 : decode cX4_dayBy 43 = .ok (.istore_n 3, 1) := dk_62 (dk_at dksX4_dayBy_1 19 rfl rfl)
theorem dX4_dayBy_44 : decode cX4_dayBy 44 = .ok (.aload_n 0, 1) := dk_42 (dk_at dksX4_dayBy_1 20 rfl rfl)
theorem dX4_dayBy_45 : decode cX4_dayBy 45 = .ok (.getfield 22, 3) := dk_180 0 22 (dk_at dksX4_dayBy_1 21 rfl rfl)
theorem dX4_dayBy_48 : decode cX4_dayBy 48 = .ok (.iload_n 2, 1) := dk_28 (dk_at dksX4_dayBy_2 0 rfl rfl)
theorem dX4_dayBy_49 : decode cX4_dayBy 49 = .ok (.iload_n 3, 1) := dk_29 (dk_at dksX4_dayBy_2 1 rfl rfl)
theorem dX4_dayBy_50 : decode cX4_dayBy 50 = .ok (.ifCond .eq 14, 3) := dk_153 0 14 (dk_at dksX4_dayBy_2 2 rfl rfl)
theorem dX4_dayBy_53 : decode cX4_dayBy 53 = .ok (.aload_n 0, 1) := dk_42 (dk_at dksX4_dayBy_2 5 rfl rfl)
theorem dX4_dayBy_54 : decode cX4_dayBy 54 = .ok (.getfield 22, 3) := dk_180 0 22 (dk_at dksX4_dayBy_2 6 rfl rfl)
theorem dX4_dayBy_57 : decode cX4_dayBy 57 = .ok (.iload_n 2, 1) := dk_28 (dk_at dksX4_dayBy_2 9 rfl rfl)
theorem dX4_dayBy_58 : decode cX4_dayBy 58 = .ok (.iaload, 1) := dk_46 (dk_at dksX4_dayBy_2 10 rfl rfl)
theorem dX4_dayBy_59 : decode cX4_dayBy 59 = .ok (.iconst 2, 1) := dk_5 (dk_at dksX4_dayBy_2 11 rfl rfl)
theorem dX4_dayBy_60 : decode cX4_dayBy 60 = .ok (.idiv, 1) := dk_108 (dk_at dksX4_dayBy_2 12 rfl rfl)
theorem dX4_dayBy_61 : decode cX4_dayBy 61 = .ok (.goto 20, 3) := dk_167 0 20 (dk_at dksX4_dayBy_2 13 rfl rfl)
theorem dX4_dayBy_64 : decode cX4_dayBy 64 = .ok (.bipush 99, 2) := dk_16 99 (dk_at dksX4_dayBy_2 16 rfl rfl)
theorem dX4_dayBy_66 : decode cX4_dayBy 66 = .ok (.aload_n 0, 1) := dk_42 (dk_at dksX4_dayBy_2 18 rfl rfl)
theorem dX4_dayBy_67 : decode cX4_dayBy 67 = .ok (.getfield 22, 3) := dk_180 0 22 (dk_at dksX4_dayBy_2 19 rfl rfl)
theorem dX4_dayBy_70 : decode cX4_dayBy 70 = .ok (.iload_n 2, 1) := dk_28 (dk_at dksX4_dayBy_2 22 rfl rfl)
theorem dX4_dayBy_71 : decode cX4_dayBy 71 = .ok (.iaload, 1) := dk_46 (dk_at dksX4_dayBy_2 23 rfl rfl)
theorem dX4_dayBy_72 : decode cX4_dayBy 72 = .ok (.aload_n 0, 1) := dk_42 (dk_at dksX4_dayBy_3 0 rfl rfl)
theorem dX4_dayBy_73 : decode cX4_dayBy 73 = .ok (.iload_n 2, 1) := dk_28 (dk_at dksX4_dayBy_3 1 rfl rfl)
theorem dX4_dayBy_74 : decode cX4_dayBy 74 = .ok (.invokevirtual 98, 3) := dk_182 0 98 (dk_at dksX4_dayBy_3 2 rfl rfl)
theorem dX4_dayBy_77 : decode cX4_dayBy 77 = .ok (.iadd, 1) := dk_96 (dk_at dksX4_dayBy_3 5 rfl rfl)
theorem dX4_dayBy_78 : decode cX4_dayBy 78 = .ok (.invokestatic 101, 3) := dk_184 0 101 (dk_at dksX4_dayBy_3 6 rfl rfl)
theorem dX4_dayBy_81 : decode cX4_dayBy 81 = .ok (.iastore, 1) := dk_79 (dk_at dksX4_dayBy_3 9 rfl rfl)
theorem dX4_dayBy_82 : decode cX4_dayBy 82 = .ok (.iinc 2 1, 3) := dk_132 2 1 (dk_at dksX4_dayBy_3 10 rfl rfl)
theorem dX4_dayBy_85 : decode cX4_dayBy 85 = .ok (.goto (-73), 3) := dk_167 255 183 (dk_at dksX4_dayBy_3 13 rfl rfl)
theorem dX4_dayBy_88 : decode cX4_dayBy 88 = .ok (.return_, 1) := dk_177 (dk_at dksX4_dayBy_3 16 rfl rfl)
abbrev cX4_pinesOf : ByteArray := prog_21_method_10_code
def yX4_pinesOf : MethodName := ⟨RX4, "pinesOf", "(I)I"⟩
def dkwX4_pinesOf_4 : List UInt8 := [96, 172, 28, 4, 96, 172, 28, 172]
abbrev dktX4_pinesOf_4 : List UInt8 := dkwX4_pinesOf_4 ++ []
def dkwX4_pinesOf_3 : List UInt8 := [3, 172, 5, 28, 104, 172, 28, 42, 180, 0, 13, 27, 46, 96, 172, 28, 42, 180, 0, 13, 27, 46, 5, 108]
abbrev dktX4_pinesOf_3 : List UInt8 := dkwX4_pinesOf_3 ++ dktX4_pinesOf_4
def dkwX4_pinesOf_2 : List UInt8 := [170, 0, 0, 0, 0, 0, 73, 0, 0, 0, 1, 0, 0, 0, 7, 0, 0, 0, 43, 0, 0, 0, 45, 0, 0, 0, 73, 0, 0, 0, 49, 0, 0, 0, 58, 0, 0, 0, 69, 0, 0, 0, 43]
abbrev dktX4_pinesOf_2 : List UInt8 := dkwX4_pinesOf_2 ++ dktX4_pinesOf_3
def dkwX4_pinesOf_1 : List UInt8 := [46]
abbrev dktX4_pinesOf_1 : List UInt8 := dkwX4_pinesOf_1 ++ dktX4_pinesOf_2
def dkwX4_pinesOf_0 : List UInt8 := [4, 42, 180, 0, 19, 27, 46, 42, 27, 182, 0, 91, 184, 0, 84, 8, 108, 96, 61, 42, 180, 0, 7, 27]
abbrev dktX4_pinesOf_0 : List UInt8 := dkwX4_pinesOf_0 ++ dktX4_pinesOf_1
theorem dksX4_pinesOf_0 : cX4_pinesOf.data.toList.drop 0 = dktX4_pinesOf_0 := by decide +kernel
theorem dksX4_pinesOf_1 : cX4_pinesOf.data.toList.drop 24 = dktX4_pinesOf_1 := dk_seg dksX4_pinesOf_0 24 rfl rfl
theorem dksX4_pinesOf_2 : cX4_pinesOf.data.toList.drop 25 = dktX4_pinesOf_2 := dk_seg dksX4_pinesOf_1 1 rfl rfl
theorem dksX4_pinesOf_3 : cX4_pinesOf.data.toList.drop 68 = dktX4_pinesOf_3 := dk_seg dksX4_pinesOf_2 43 rfl rfl
theorem dksX4_pinesOf_4 : cX4_pinesOf.data.toList.drop 92 = dktX4_pinesOf_4 := dk_seg dksX4_pinesOf_3 24 rfl rfl
theorem dX4_pinesOf_0 : decode cX4_pinesOf 0 = .ok (.iconst 1, 1) := dk_4 (dk_at dksX4_pinesOf_0 0 rfl rfl)
theorem dX4_pinesOf_1 : decode cX4_pinesOf 1 = .ok (.aload_n 0, 1) := dk_42 (dk_at dksX4_pinesOf_0 1 rfl rfl)
theorem dX4_pinesOf_2 : decode cX4_pinesOf 2 = .ok (.getfield 19, 3) := dk_180 0 19 (dk_at dksX4_pinesOf_0 2 rfl rfl)
theorem dX4_pinesOf_5 : decode cX4_pinesOf 5 = .ok (.iload_n 1, 1) := dk_27 (dk_at dksX4_pinesOf_0 5 rfl rfl)
theorem dX4_pinesOf_6 : decode cX4_pinesOf 6 = .ok (.iaload, 1) := dk_46 (dk_at dksX4_pinesOf_0 6 rfl rfl)
theorem dX4_pinesOf_7 : decode cX4_pinesOf 7 = .ok (.aload_n 0, 1) := dk_42 (dk_at dksX4_pinesOf_0 7 rfl rfl)
theorem dX4_pinesOf_8 : decode cX4_pinesOf 8 = .ok (.iload_n 1, 1) := dk_27 (dk_at dksX4_pinesOf_0 8 rfl rfl)
theorem dX4_pinesOf_9 : decode cX4_pinesOf 9 = .ok (.invokevirtual 91, 3) := dk_182 0 91 (dk_at dksX4_pinesOf_0 9 rfl rfl)
theorem dX4_pinesOf_12 : decode cX4_pinesOf 12 = .ok (.invokestatic 84, 3) := dk_184 0 84 (dk_at dksX4_pinesOf_0 12 rfl rfl)
theorem dX4_pinesOf_15 : decode cX4_pinesOf 15 = .ok (.iconst 5, 1) := dk_8 (dk_at dksX4_pinesOf_0 15 rfl rfl)
theorem dX4_pinesOf_16 : decode cX4_pinesOf 16 = .ok (.idiv, 1) := dk_108 (dk_at dksX4_pinesOf_0 16 rfl rfl)
theorem dX4_pinesOf_17 : decode cX4_pinesOf 17 = .ok (.iadd, 1) := dk_96 (dk_at dksX4_pinesOf_0 17 rfl rfl)
theorem dX4_pinesOf_18 : decode cX4_pinesOf 18 = .ok (.istore_n 2, 1) := dk_61 (dk_at dksX4_pinesOf_0 18 rfl rfl)
theorem dX4_pinesOf_19 : decode cX4_pinesOf 19 = .ok (.aload_n 0, 1) := dk_42 (dk_at dksX4_pinesOf_0 19 rfl rfl)
theorem dX4_pinesOf_20 : decode cX4_pinesOf 20 = .ok (.getfield 7, 3) := dk_180 0 7 (dk_at dksX4_pinesOf_0 20 rfl rfl)
theorem dX4_pinesOf_23 : decode cX4_pinesOf 23 = .ok (.iload_n 1, 1) := dk_27 (dk_at dksX4_pinesOf_0 23 rfl rfl)
theorem dX4_pinesOf_24 : decode cX4_pinesOf 24 = .ok (.iaload, 1) := dk_46 (dk_at dksX4_pinesOf_1 0 rfl rfl)
theorem dX4_pinesOf_25 : decode cX4_pinesOf 25 = .ok (.tableswitch 73 1 7 #[43, 45, 73, 49, 58, 69, 43], 43) := by decide +kernel
theorem dX4_pinesOf_68 : decode cX4_pinesOf 68 = .ok (.iconst 0, 1) := dk_3 (dk_at dksX4_pinesOf_3 0 rfl rfl)
theorem dX4_pinesOf_69 : decode cX4_pinesOf 69 = .ok (.ireturn, 1) := dk_172 (dk_at dksX4_pinesOf_3 1 rfl rfl)
theorem dX4_pinesOf_70 : decode cX4_pinesOf 70 = .ok (.iconst 2, 1) := dk_5 (dk_at dksX4_pinesOf_3 2 rfl rfl)
theorem dX4_pinesOf_71 : decode cX4_pinesOf 71 = .ok (.iload_n 2, 1) := dk_28 (dk_at dksX4_pinesOf_3 3 rfl rfl)
theorem dX4_pinesOf_72 : decode cX4_pinesOf 72 = .ok (.imul, 1) := dk_104 (dk_at dksX4_pinesOf_3 4 rfl rfl)
theorem dX4_pinesOf_73 : decode cX4_pinesOf 73 = .ok (.ireturn, 1) := dk_172 (dk_at dksX4_pinesOf_3 5 rfl rfl)
theorem dX4_pinesOf_74 : decode cX4_pinesOf 74 = .ok (.iload_n 2, 1) := dk_28 (dk_at dksX4_pinesOf_3 6 rfl rfl)
theorem dX4_pinesOf_75 : decode cX4_pinesOf 75 = .ok (.aload_n 0, 1) := dk_42 (dk_at dksX4_pinesOf_3 7 rfl rfl)
theorem dX4_pinesOf_76 : decode cX4_pinesOf 76 = .ok (.getfield 13, 3) := dk_180 0 13 (dk_at dksX4_pinesOf_3 8 rfl rfl)
theorem dX4_pinesOf_79 : decode cX4_pinesOf 79 = .ok (.iload_n 1, 1) := dk_27 (dk_at dksX4_pinesOf_3 11 rfl rfl)
theorem dX4_pinesOf_80 : decode cX4_pinesOf 80 = .ok (.iaload, 1) := dk_46 (dk_at dksX4_pinesOf_3 12 rfl rfl)
theorem dX4_pinesOf_81 : decode cX4_pinesOf 81 = .ok (.iadd, 1) := dk_96 (dk_at dksX4_pinesOf_3 13 rfl rfl)
theorem dX4_pinesOf_82 : decode cX4_pinesOf 82 = .ok (.ireturn, 1) := dk_172 (dk_at dksX4_pinesOf_3 14 rfl rfl)
theorem dX4_pinesOf_83 : decode cX4_pinesOf 83 = .ok (.iload_n 2, 1) := dk_28 (dk_at dksX4_pinesOf_3 15 rfl rfl)
theorem dX4_pinesOf_84 : decode cX4_pinesOf 84 = .ok (.aload_n 0, 1) := dk_42 (dk_at dksX4_pinesOf_3 16 rfl rfl)
theorem dX4_pinesOf_85 : decode cX4_pinesOf 85 = .ok (.getfield 13, 3) := dk_180 0 13 (dk_at dksX4_pinesOf_3 17 rfl rfl)
theorem dX4_pinesOf_88 : decode cX4_pinesOf 88 = .ok (.iload_n 1, 1) := dk_27 (dk_at dksX4_pinesOf_3 20 rfl rfl)
theorem dX4_pinesOf_89 : decode cX4_pinesOf 89 = .ok (.iaload, 1) := dk_46 (dk_at dksX4_pinesOf_3 21 rfl rfl)
theorem dX4_pinesOf_90 : decode cX4_pinesOf 90 = .ok (.iconst 2, 1) := dk_5 (dk_at dksX4_pinesOf_3 22 rfl rfl)
theorem dX4_pinesOf_91 : decode cX4_pinesOf 91 = .ok (.idiv, 1) := dk_108 (dk_at dksX4_pinesOf_3 23 rfl rfl)
theorem dX4_pinesOf_92 : decode cX4_pinesOf 92 = .ok (.iadd, 1) := dk_96 (dk_at dksX4_pinesOf_4 0 rfl rfl)
theorem dX4_pinesOf_93 : decode cX4_pinesOf 93 = .ok (.ireturn, 1) := dk_172 (dk_at dksX4_pinesOf_4 1 rfl rfl)
theorem dX4_pinesOf_94 : decode cX4_pinesOf 94 = .ok (.iload_n 2, 1) := dk_28 (dk_at dksX4_pinesOf_4 2 rfl rfl)
theorem dX4_pinesOf_95 : decode cX4_pinesOf 95 = .ok (.iconst 1, 1) := dk_4 (dk_at dksX4_pinesOf_4 3 rfl rfl)
theorem dX4_pinesOf_96 : decode cX4_pinesOf 96 = .ok (.iadd, 1) := dk_96 (dk_at dksX4_pinesOf_4 4 rfl rfl)
theorem dX4_pinesOf_97 : decode cX4_pinesOf 97 = .ok (.ireturn, 1) := dk_172 (dk_at dksX4_pinesOf_4 5 rfl rfl)
theorem dX4_pinesOf_98 : decode cX4_pinesOf 98 = .ok (.iload_n 2, 1) := dk_28 (dk_at dksX4_pinesOf_4 6 rfl rfl)
theorem dX4_pinesOf_99 : decode cX4_pinesOf 99 = .ok (.ireturn, 1) := dk_172 (dk_at dksX4_pinesOf_4 7 rfl rfl)
abbrev cX4_daysCome : ByteArray := prog_21_method_25_code
def yX4_daysCome : MethodName := ⟨RX4, "daysCome", "(I)Z"⟩
def dkwX4_daysCome_1 : List UInt8 := [4, 167, 0, 4, 3, 61, 28, 153, 0, 8, 42, 27, 182, 0, 154, 28, 172]
abbrev dktX4_daysCome_1 : List UInt8 := dkwX4_daysCome_1 ++ []
def dkwX4_daysCome_0 : List UInt8 := [27, 133, 10, 20, 0, 152, 184, 0, 77, 153, 0, 19, 42, 180, 0, 95, 27, 96, 17, 3, 231, 163, 0, 7]
abbrev dktX4_daysCome_0 : List UInt8 := dkwX4_daysCome_0 ++ dktX4_daysCome_1
theorem dksX4_daysCome_0 : cX4_daysCome.data.toList.drop 0 = dktX4_daysCome_0 := by decide +kernel
theorem dksX4_daysCome_1 : cX4_daysCome.data.toList.drop 24 = dktX4_daysCome_1 := dk_seg dksX4_daysCome_0 24 rfl rfl
theorem dX4_daysCome_0 : decode cX4_daysCome 0 = .ok (.iload_n 1, 1) := dk_27 (dk_at dksX4_daysCome_0 0 rfl rfl)
theorem dX4_daysCome_1 : decode cX4_daysCome 1 = .ok (.i2l, 1) := dk_133 (dk_at dksX4_daysCome_0 1 rfl rfl)
theorem dX4_daysCome_2 : decode cX4_daysCome 2 = .ok (.lconst 1, 1) := dk_10 (dk_at dksX4_daysCome_0 2 rfl rfl)
theorem dX4_daysCome_3 : decode cX4_daysCome 3 = .ok (.ldc2_w 152, 3) := dk_20 0 152 (dk_at dksX4_daysCome_0 3 rfl rfl)
theorem dX4_daysCome_6 : decode cX4_daysCome 6 = .ok (.invokestatic 77, 3) := dk_184 0 77 (dk_at dksX4_daysCome_0 6 rfl rfl)
theorem dX4_daysCome_9 : decode cX4_daysCome 9 = .ok (.ifCond .eq 19, 3) := dk_153 0 19 (dk_at dksX4_daysCome_0 9 rfl rfl)
theorem dX4_daysCome_12 : decode cX4_daysCome 12 = .ok (.aload_n 0, 1) := dk_42 (dk_at dksX4_daysCome_0 12 rfl rfl)
theorem dX4_daysCome_13 : decode cX4_daysCome 13 = .ok (.getfield 95, 3) := dk_180 0 95 (dk_at dksX4_daysCome_0 13 rfl rfl)
theorem dX4_daysCome_16 : decode cX4_daysCome 16 = .ok (.iload_n 1, 1) := dk_27 (dk_at dksX4_daysCome_0 16 rfl rfl)
theorem dX4_daysCome_17 : decode cX4_daysCome 17 = .ok (.iadd, 1) := dk_96 (dk_at dksX4_daysCome_0 17 rfl rfl)
theorem dX4_daysCome_18 : decode cX4_daysCome 18 = .ok (.sipush 999, 3) := dk_17 3 231 (dk_at dksX4_daysCome_0 18 rfl rfl)
theorem dX4_daysCome_21 : decode cX4_daysCome 21 = .ok (.if_icmp .gt 7, 3) := dk_163 0 7 (dk_at dksX4_daysCome_0 21 rfl rfl)
theorem dX4_daysCome_24 : decode cX4_daysCome 24 = .ok (.iconst 1, 1) := dk_4 (dk_at dksX4_daysCome_1 0 rfl rfl)
theorem dX4_daysCome_25 : decode cX4_daysCome 25 = .ok (.goto 4, 3) := dk_167 0 4 (dk_at dksX4_daysCome_1 1 rfl rfl)
theorem dX4_daysCome_28 : decode cX4_daysCome 28 = .ok (.iconst 0, 1) := dk_3 (dk_at dksX4_daysCome_1 4 rfl rfl)
theorem dX4_daysCome_29 : decode cX4_daysCome 29 = .ok (.istore_n 2, 1) := dk_61 (dk_at dksX4_daysCome_1 5 rfl rfl)
theorem dX4_daysCome_30 : decode cX4_daysCome 30 = .ok (.iload_n 2, 1) := dk_28 (dk_at dksX4_daysCome_1 6 rfl rfl)
theorem dX4_daysCome_31 : decode cX4_daysCome 31 = .ok (.ifCond .eq 8, 3) := dk_153 0 8 (dk_at dksX4_daysCome_1 7 rfl rfl)
theorem dX4_daysCome_34 : decode cX4_daysCome 34 = .ok (.aload_n 0, 1) := dk_42 (dk_at dksX4_daysCome_1 10 rfl rfl)
theorem dX4_daysCome_35 : decode cX4_daysCome 35 = .ok (.iload_n 1, 1) := dk_27 (dk_at dksX4_daysCome_1 11 rfl rfl)
theorem dX4_daysCome_36 : decode cX4_daysCome 36 = .ok (.invokevirtual 154, 3) := dk_182 0 154 (dk_at dksX4_daysCome_1 12 rfl rfl)
theorem dX4_daysCome_39 : decode cX4_daysCome 39 = .ok (.iload_n 2, 1) := dk_28 (dk_at dksX4_daysCome_1 15 rfl rfl)
theorem dX4_daysCome_40 : decode cX4_daysCome 40 = .ok (.ireturn, 1) := dk_172 (dk_at dksX4_daysCome_1 16 rfl rfl)
abbrev cX4_goDays : ByteArray := prog_21_method_14_code
def yX4_goDays : MethodName := ⟨RX4, "goDays", "(I)V"⟩
def dkwX4_goDays_0 : List UInt8 := [3, 61, 28, 27, 162, 0, 14, 42, 3, 182, 0, 104, 132, 2, 1, 167, 255, 243, 177]
abbrev dktX4_goDays_0 : List UInt8 := dkwX4_goDays_0 ++ []
theorem dksX4_goDays_0 : cX4_goDays.data.toList.drop 0 = dktX4_goDays_0 := by decide +kernel
theorem dX4_goDays_0 : decode cX4_goDays 0 = .ok (.iconst 0, 1) := dk_3 (dk_at dksX4_goDays_0 0 rfl rfl)
theorem dX4_goDays_1 : decode cX4_goDays 1 = .ok (.istore_n 2, 1) := dk_61 (dk_at dksX4_goDays_0 1 rfl rfl)
theorem dX4_goDays_2 : decode cX4_goDays 2 = .ok (.iload_n 2, 1) := dk_28 (dk_at dksX4_goDays_0 2 rfl rfl)
theorem dX4_goDays_3 : decode cX4_goDays 3 = .ok (.iload_n 1, 1) := dk_27 (dk_at dksX4_goDays_0 3 rfl rfl)
theorem dX4_goDays_4 : decode cX4_goDays 4 = .ok (.if_icmp .ge 14, 3) := dk_162 0 14 (dk_at dksX4_goDays_0 4 rfl rfl)
theorem dX4_goDays_7 : decode cX4_goDays 7 = .ok (.aload_n 0, 1) := dk_42 (dk_at dksX4_goDays_0 7 rfl rfl)
theorem dX4_goDays_8 : decode cX4_goDays 8 = .ok (.iconst 0, 1) := dk_3 (dk_at dksX4_goDays_0 8 rfl rfl)
theorem dX4_goDays_9 : decode cX4_goDays 9 = .ok (.invokevirtual 104, 3) := dk_182 0 104 (dk_at dksX4_goDays_0 9 rfl rfl)
theorem dX4_goDays_12 : decode cX4_goDays 12 = .ok (.iinc 2 1, 3) := dk_132 2 1 (dk_at dksX4_goDays_0 12 rfl rfl)
theorem dX4_goDays_15 : decode cX4_goDays 15 = .ok (.goto (-13), 3) := dk_167 255 243 (dk_at dksX4_goDays_0 15 rfl rfl)
theorem dX4_goDays_18 : decode cX4_goDays 18 = .ok (.return_, 1) := dk_177 (dk_at dksX4_goDays_0 18 rfl rfl)
abbrev cX4_close : ByteArray := prog_21_method_31_code
def yX4_close : MethodName := ⟨RX4, "close", "()V"⟩
def dkwX4_close_0 : List UInt8 := [42, 42, 180, 0, 53, 3, 182, 0, 198, 177]
abbrev dktX4_close_0 : List UInt8 := dkwX4_close_0 ++ []
theorem dksX4_close_0 : cX4_close.data.toList.drop 0 = dktX4_close_0 := by decide +kernel
theorem dX4_close_0 : decode cX4_close 0 = .ok (.aload_n 0, 1) := dk_42 (dk_at dksX4_close_0 0 rfl rfl)
theorem dX4_close_1 : decode cX4_close 1 = .ok (.aload_n 0, 1) := dk_42 (dk_at dksX4_close_0 1 rfl rfl)
theorem dX4_close_2 : decode cX4_close 2 = .ok (.getfield 53, 3) := dk_180 0 53 (dk_at dksX4_close_0 2 rfl rfl)
theorem dX4_close_5 : decode cX4_close 5 = .ok (.iconst 0, 1) := dk_3 (dk_at dksX4_close_0 5 rfl rfl)
theorem dX4_close_6 : decode cX4_close 6 = .ok (.invokevirtual 198, 3) := dk_182 0 198 (dk_at dksX4_close_0 6 rfl rfl)
theorem dX4_close_9 : decode cX4_close 9 = .ok (.return_, 1) := dk_177 (dk_at dksX4_close_0 9 rfl rfl)
abbrev cX4_image : ByteArray := prog_21_method_32_code
def yX4_image : MethodName := ⟨RX4, "image", "()I"⟩
def dkwX4_image_0 : List UInt8 := [42, 3, 181, 0, 71, 42, 4, 181, 0, 202, 42, 42, 180, 0, 62, 4, 182, 0, 198, 42, 180, 0, 95, 172]
abbrev dktX4_image_0 : List UInt8 := dkwX4_image_0 ++ []
theorem dksX4_image_0 : cX4_image.data.toList.drop 0 = dktX4_image_0 := by decide +kernel
theorem dX4_image_0 : decode cX4_image 0 = .ok (.aload_n 0, 1) := dk_42 (dk_at dksX4_image_0 0 rfl rfl)
theorem dX4_image_1 : decode cX4_image 1 = .ok (.iconst 0, 1) := dk_3 (dk_at dksX4_image_0 1 rfl rfl)
theorem dX4_image_2 : decode cX4_image 2 = .ok (.putfield 71, 3) := dk_181 0 71 (dk_at dksX4_image_0 2 rfl rfl)
theorem dX4_image_5 : decode cX4_image 5 = .ok (.aload_n 0, 1) := dk_42 (dk_at dksX4_image_0 5 rfl rfl)
theorem dX4_image_6 : decode cX4_image 6 = .ok (.iconst 1, 1) := dk_4 (dk_at dksX4_image_0 6 rfl rfl)
theorem dX4_image_7 : decode cX4_image 7 = .ok (.putfield 202, 3) := dk_181 0 202 (dk_at dksX4_image_0 7 rfl rfl)
theorem dX4_image_10 : decode cX4_image 10 = .ok (.aload_n 0, 1) := dk_42 (dk_at dksX4_image_0 10 rfl rfl)
theorem dX4_image_11 : decode cX4_image 11 = .ok (.aload_n 0, 1) := dk_42 (dk_at dksX4_image_0 11 rfl rfl)
theorem dX4_image_12 : decode cX4_image 12 = .ok (.getfield 62, 3) := dk_180 0 62 (dk_at dksX4_image_0 12 rfl rfl)
theorem dX4_image_15 : decode cX4_image 15 = .ok (.iconst 1, 1) := dk_4 (dk_at dksX4_image_0 15 rfl rfl)
theorem dX4_image_16 : decode cX4_image 16 = .ok (.invokevirtual 198, 3) := dk_182 0 198 (dk_at dksX4_image_0 16 rfl rfl)
theorem dX4_image_19 : decode cX4_image 19 = .ok (.aload_n 0, 1) := dk_42 (dk_at dksX4_image_0 19 rfl rfl)
theorem dX4_image_20 : decode cX4_image 20 = .ok (.getfield 95, 3) := dk_180 0 95 (dk_at dksX4_image_0 20 rfl rfl)
theorem dX4_image_23 : decode cX4_image 23 = .ok (.ireturn, 1) := dk_172 (dk_at dksX4_image_0 23 rfl rfl)
abbrev cX4_restore : ByteArray := prog_21_method_33_code
def yX4_restore : MethodName := ⟨RX4, "restore", "()I"⟩
def dkwX4_restore_1 : List UInt8 := [42, 180, 0, 95, 172]
abbrev dktX4_restore_1 : List UInt8 := dkwX4_restore_1 ++ []
def dkwX4_restore_0 : List UInt8 := [42, 3, 181, 0, 71, 42, 180, 0, 202, 154, 0, 6, 16, 253, 172, 42, 42, 180, 0, 62, 3, 182, 0, 198]
abbrev dktX4_restore_0 : List UInt8 := dkwX4_restore_0 ++ dktX4_restore_1
theorem dksX4_restore_0 : cX4_restore.data.toList.drop 0 = dktX4_restore_0 := by decide +kernel
theorem dksX4_restore_1 : cX4_restore.data.toList.drop 24 = dktX4_restore_1 := dk_seg dksX4_restore_0 24 rfl rfl
theorem dX4_restore_0 : decode cX4_restore 0 = .ok (.aload_n 0, 1) := dk_42 (dk_at dksX4_restore_0 0 rfl rfl)
theorem dX4_restore_1 : decode cX4_restore 1 = .ok (.iconst 0, 1) := dk_3 (dk_at dksX4_restore_0 1 rfl rfl)
theorem dX4_restore_2 : decode cX4_restore 2 = .ok (.putfield 71, 3) := dk_181 0 71 (dk_at dksX4_restore_0 2 rfl rfl)
theorem dX4_restore_5 : decode cX4_restore 5 = .ok (.aload_n 0, 1) := dk_42 (dk_at dksX4_restore_0 5 rfl rfl)
theorem dX4_restore_6 : decode cX4_restore 6 = .ok (.getfield 202, 3) := dk_180 0 202 (dk_at dksX4_restore_0 6 rfl rfl)
theorem dX4_restore_9 : decode cX4_restore 9 = .ok (.ifCond .ne 6, 3) := dk_154 0 6 (dk_at dksX4_restore_0 9 rfl rfl)
theorem dX4_restore_12 : decode cX4_restore 12 = .ok (.bipush (-3), 2) := dk_16 253 (dk_at dksX4_restore_0 12 rfl rfl)
theorem dX4_restore_14 : decode cX4_restore 14 = .ok (.ireturn, 1) := dk_172 (dk_at dksX4_restore_0 14 rfl rfl)
theorem dX4_restore_15 : decode cX4_restore 15 = .ok (.aload_n 0, 1) := dk_42 (dk_at dksX4_restore_0 15 rfl rfl)
theorem dX4_restore_16 : decode cX4_restore 16 = .ok (.aload_n 0, 1) := dk_42 (dk_at dksX4_restore_0 16 rfl rfl)
theorem dX4_restore_17 : decode cX4_restore 17 = .ok (.getfield 62, 3) := dk_180 0 62 (dk_at dksX4_restore_0 17 rfl rfl)
theorem dX4_restore_20 : decode cX4_restore 20 = .ok (.iconst 0, 1) := dk_3 (dk_at dksX4_restore_0 20 rfl rfl)
theorem dX4_restore_21 : decode cX4_restore 21 = .ok (.invokevirtual 198, 3) := dk_182 0 198 (dk_at dksX4_restore_0 21 rfl rfl)
theorem dX4_restore_24 : decode cX4_restore 24 = .ok (.aload_n 0, 1) := dk_42 (dk_at dksX4_restore_1 0 rfl rfl)
theorem dX4_restore_25 : decode cX4_restore 25 = .ok (.getfield 95, 3) := dk_180 0 95 (dk_at dksX4_restore_1 1 rfl rfl)
theorem dX4_restore_28 : decode cX4_restore 28 = .ok (.ireturn, 1) := dk_172 (dk_at dksX4_restore_1 4 rfl rfl)
abbrev cX4_horse : ByteArray := prog_21_method_34_code
def yX4_horse : MethodName := ⟨RX4, "horse", "(II)I"⟩
def dkwX4_horse_4 : List UInt8 := [172, 42, 27, 182, 0, 111, 172, 2, 172]
abbrev dktX4_horse_4 : List UInt8 := dkwX4_horse_4 ++ []
def dkwX4_horse_3 : List UInt8 := [180, 0, 19, 27, 46, 172, 42, 180, 0, 22, 27, 46, 172, 42, 27, 182, 0, 91, 172, 42, 27, 182, 0, 108]
abbrev dktX4_horse_3 : List UInt8 := dkwX4_horse_3 ++ dktX4_horse_4
def dkwX4_horse_2 : List UInt8 := [42, 180, 0, 7, 27, 46, 172, 42, 180, 0, 13, 27, 46, 172, 42, 180, 0, 16, 27, 46, 172, 42]
abbrev dktX4_horse_2 : List UInt8 := dkwX4_horse_2 ++ dktX4_horse_3
def dkwX4_horse_1 : List UInt8 := [170, 0, 0, 0, 0, 0, 0, 101, 0, 0, 0, 0, 0, 0, 0, 7, 0, 0, 0, 48, 0, 0, 0, 55, 0, 0, 0, 62, 0, 0, 0, 69, 0, 0, 0, 76, 0, 0, 0, 83, 0, 0, 0, 89, 0, 0, 0, 95]
abbrev dktX4_horse_1 : List UInt8 := dkwX4_horse_1 ++ dktX4_horse_2
def dkwX4_horse_0 : List UInt8 := [42, 3, 181, 0, 71, 42, 27, 182, 0, 162, 154, 0, 5, 2, 172, 28]
abbrev dktX4_horse_0 : List UInt8 := dkwX4_horse_0 ++ dktX4_horse_1
theorem dksX4_horse_0 : cX4_horse.data.toList.drop 0 = dktX4_horse_0 := by decide +kernel
theorem dksX4_horse_1 : cX4_horse.data.toList.drop 16 = dktX4_horse_1 := dk_seg dksX4_horse_0 16 rfl rfl
theorem dksX4_horse_2 : cX4_horse.data.toList.drop 64 = dktX4_horse_2 := dk_seg dksX4_horse_1 48 rfl rfl
theorem dksX4_horse_3 : cX4_horse.data.toList.drop 86 = dktX4_horse_3 := dk_seg dksX4_horse_2 22 rfl rfl
theorem dksX4_horse_4 : cX4_horse.data.toList.drop 110 = dktX4_horse_4 := dk_seg dksX4_horse_3 24 rfl rfl
theorem dX4_horse_0 : decode cX4_horse 0 = .ok (.aload_n 0, 1) := dk_42 (dk_at dksX4_horse_0 0 rfl rfl)
theorem dX4_horse_1 : decode cX4_horse 1 = .ok (.iconst 0, 1) := dk_3 (dk_at dksX4_horse_0 1 rfl rfl)
theorem dX4_horse_2 : decode cX4_horse 2 = .ok (.putfield 71, 3) := dk_181 0 71 (dk_at dksX4_horse_0 2 rfl rfl)
theorem dX4_horse_5 : decode cX4_horse 5 = .ok (.aload_n 0, 1) := dk_42 (dk_at dksX4_horse_0 5 rfl rfl)
theorem dX4_horse_6 : decode cX4_horse 6 = .ok (.iload_n 1, 1) := dk_27 (dk_at dksX4_horse_0 6 rfl rfl)
theorem dX4_horse_7 : decode cX4_horse 7 = .ok (.invokevirtual 162, 3) := dk_182 0 162 (dk_at dksX4_horse_0 7 rfl rfl)
theorem dX4_horse_10 : decode cX4_horse 10 = .ok (.ifCond .ne 5, 3) := dk_154 0 5 (dk_at dksX4_horse_0 10 rfl rfl)
theorem dX4_horse_13 : decode cX4_horse 13 = .ok (.iconst (-1), 1) := dk_2 (dk_at dksX4_horse_0 13 rfl rfl)
theorem dX4_horse_14 : decode cX4_horse 14 = .ok (.ireturn, 1) := dk_172 (dk_at dksX4_horse_0 14 rfl rfl)
theorem dX4_horse_15 : decode cX4_horse 15 = .ok (.iload_n 2, 1) := dk_28 (dk_at dksX4_horse_0 15 rfl rfl)
theorem dX4_horse_16 : decode cX4_horse 16 = .ok (.tableswitch 101 0 7 #[48, 55, 62, 69, 76, 83, 89, 95], 48) := by decide +kernel
theorem dX4_horse_64 : decode cX4_horse 64 = .ok (.aload_n 0, 1) := dk_42 (dk_at dksX4_horse_2 0 rfl rfl)
theorem dX4_horse_65 : decode cX4_horse 65 = .ok (.getfield 7, 3) := dk_180 0 7 (dk_at dksX4_horse_2 1 rfl rfl)
theorem dX4_horse_68 : decode cX4_horse 68 = .ok (.iload_n 1, 1) := dk_27 (dk_at dksX4_horse_2 4 rfl rfl)
theorem dX4_horse_69 : decode cX4_horse 69 = .ok (.iaload, 1) := dk_46 (dk_at dksX4_horse_2 5 rfl rfl)
theorem dX4_horse_70 : decode cX4_horse 70 = .ok (.ireturn, 1) := dk_172 (dk_at dksX4_horse_2 6 rfl rfl)
theorem dX4_horse_71 : decode cX4_horse 71 = .ok (.aload_n 0, 1) := dk_42 (dk_at dksX4_horse_2 7 rfl rfl)
theorem dX4_horse_72 : decode cX4_horse 72 = .ok (.getfield 13, 3) := dk_180 0 13 (dk_at dksX4_horse_2 8 rfl rfl)
theorem dX4_horse_75 : decode cX4_horse 75 = .ok (.iload_n 1, 1) := dk_27 (dk_at dksX4_horse_2 11 rfl rfl)
theorem dX4_horse_76 : decode cX4_horse 76 = .ok (.iaload, 1) := dk_46 (dk_at dksX4_horse_2 12 rfl rfl)
theorem dX4_horse_77 : decode cX4_horse 77 = .ok (.ireturn, 1) := dk_172 (dk_at dksX4_horse_2 13 rfl rfl)
theorem dX4_horse_78 : decode cX4_horse 78 = .ok (.aload_n 0, 1) := dk_42 (dk_at dksX4_horse_2 14 rfl rfl)
theorem dX4_horse_79 : decode cX4_horse 79 = .ok (.getfield 16, 3) := dk_180 0 16 (dk_at dksX4_horse_2 15 rfl rfl)
theorem dX4_horse_82 : decode cX4_horse 82 = .ok (.iload_n 1, 1) := dk_27 (dk_at dksX4_horse_2 18 rfl rfl)
theorem dX4_horse_83 : decode cX4_horse 83 = .ok (.iaload, 1) := dk_46 (dk_at dksX4_horse_2 19 rfl rfl)
theorem dX4_horse_84 : decode cX4_horse 84 = .ok (.ireturn, 1) := dk_172 (dk_at dksX4_horse_2 20 rfl rfl)
theorem dX4_horse_85 : decode cX4_horse 85 = .ok (.aload_n 0, 1) := dk_42 (dk_at dksX4_horse_2 21 rfl rfl)
theorem dX4_horse_86 : decode cX4_horse 86 = .ok (.getfield 19, 3) := dk_180 0 19 (dk_at dksX4_horse_3 0 rfl rfl)
theorem dX4_horse_89 : decode cX4_horse 89 = .ok (.iload_n 1, 1) := dk_27 (dk_at dksX4_horse_3 3 rfl rfl)
theorem dX4_horse_90 : decode cX4_horse 90 = .ok (.iaload, 1) := dk_46 (dk_at dksX4_horse_3 4 rfl rfl)
theorem dX4_horse_91 : decode cX4_horse 91 = .ok (.ireturn, 1) := dk_172 (dk_at dksX4_horse_3 5 rfl rfl)
theorem dX4_horse_92 : decode cX4_horse 92 = .ok (.aload_n 0, 1) := dk_42 (dk_at dksX4_horse_3 6 rfl rfl)
theorem dX4_horse_93 : decode cX4_horse 93 = .ok (.getfield 22, 3) := dk_180 0 22 (dk_at dksX4_horse_3 7 rfl rfl)
theorem dX4_horse_96 : decode cX4_horse 96 = .ok (.iload_n 1, 1) := dk_27 (dk_at dksX4_horse_3 10 rfl rfl)
theorem dX4_horse_97 : decode cX4_horse 97 = .ok (.iaload, 1) := dk_46 (dk_at dksX4_horse_3 11 rfl rfl)
theorem dX4_horse_98 : decode cX4_horse 98 = .ok (.ireturn, 1) := dk_172 (dk_at dksX4_horse_3 12 rfl rfl)
theorem dX4_horse_99 : decode cX4_horse 99 = .ok (.aload_n 0, 1) := dk_42 (dk_at dksX4_horse_3 13 rfl rfl)
theorem dX4_horse_100 : decode cX4_horse 100 = .ok (.iload_n 1, 1) := dk_27 (dk_at dksX4_horse_3 14 rfl rfl)
theorem dX4_horse_101 : decode cX4_horse 101 = .ok (.invokevirtual 91, 3) := dk_182 0 91 (dk_at dksX4_horse_3 15 rfl rfl)
theorem dX4_horse_104 : decode cX4_horse 104 = .ok (.ireturn, 1) := dk_172 (dk_at dksX4_horse_3 18 rfl rfl)
theorem dX4_horse_105 : decode cX4_horse 105 = .ok (.aload_n 0, 1) := dk_42 (dk_at dksX4_horse_3 19 rfl rfl)
theorem dX4_horse_106 : decode cX4_horse 106 = .ok (.iload_n 1, 1) := dk_27 (dk_at dksX4_horse_3 20 rfl rfl)
theorem dX4_horse_107 : decode cX4_horse 107 = .ok (.invokevirtual 108, 3) := dk_182 0 108 (dk_at dksX4_horse_3 21 rfl rfl)
theorem dX4_horse_110 : decode cX4_horse 110 = .ok (.ireturn, 1) := dk_172 (dk_at dksX4_horse_4 0 rfl rfl)
theorem dX4_horse_111 : decode cX4_horse 111 = .ok (.aload_n 0, 1) := dk_42 (dk_at dksX4_horse_4 1 rfl rfl)
theorem dX4_horse_112 : decode cX4_horse 112 = .ok (.iload_n 1, 1) := dk_27 (dk_at dksX4_horse_4 2 rfl rfl)
theorem dX4_horse_113 : decode cX4_horse 113 = .ok (.invokevirtual 111, 3) := dk_182 0 111 (dk_at dksX4_horse_4 3 rfl rfl)
theorem dX4_horse_116 : decode cX4_horse 116 = .ok (.ireturn, 1) := dk_172 (dk_at dksX4_horse_4 6 rfl rfl)
theorem dX4_horse_117 : decode cX4_horse 117 = .ok (.iconst (-1), 1) := dk_2 (dk_at dksX4_horse_4 7 rfl rfl)
theorem dX4_horse_118 : decode cX4_horse 118 = .ok (.ireturn, 1) := dk_172 (dk_at dksX4_horse_4 8 rfl rfl)
abbrev cX4_comes : ByteArray := prog_21_method_36_code
def yX4_comes : MethodName := ⟨RX4, "comes", "(III)I"⟩
def dkwX4_comes_3 : List UInt8 := [172]
abbrev dktX4_comes_3 : List UInt8 := dkwX4_comes_3 ++ []
def dkwX4_comes_2 : List UInt8 := [180, 0, 31, 27, 46, 28, 29, 182, 0, 158, 153, 0, 12, 42, 180, 0, 81, 4, 100, 167, 0, 5, 16, 254]
abbrev dktX4_comes_2 : List UInt8 := dkwX4_comes_2 ++ dktX4_comes_3
def dkwX4_comes_1 : List UInt8 := [167, 0, 4, 2, 54, 4, 21, 4, 156, 0, 6, 21, 4, 172, 42, 42, 180, 0, 28, 27, 46, 42]
abbrev dktX4_comes_1 : List UInt8 := dkwX4_comes_1 ++ dktX4_comes_2
def dkwX4_comes_0 : List UInt8 := [42, 3, 181, 0, 71, 28, 184, 0, 149, 153, 0, 18, 29, 184, 0, 149, 153, 0, 11, 42, 27, 182, 0, 207]
abbrev dktX4_comes_0 : List UInt8 := dkwX4_comes_0 ++ dktX4_comes_1
theorem dksX4_comes_0 : cX4_comes.data.toList.drop 0 = dktX4_comes_0 := by decide +kernel
theorem dksX4_comes_1 : cX4_comes.data.toList.drop 24 = dktX4_comes_1 := dk_seg dksX4_comes_0 24 rfl rfl
theorem dksX4_comes_2 : cX4_comes.data.toList.drop 46 = dktX4_comes_2 := dk_seg dksX4_comes_1 22 rfl rfl
theorem dksX4_comes_3 : cX4_comes.data.toList.drop 70 = dktX4_comes_3 := dk_seg dksX4_comes_2 24 rfl rfl
theorem dX4_comes_0 : decode cX4_comes 0 = .ok (.aload_n 0, 1) := dk_42 (dk_at dksX4_comes_0 0 rfl rfl)
theorem dX4_comes_1 : decode cX4_comes 1 = .ok (.iconst 0, 1) := dk_3 (dk_at dksX4_comes_0 1 rfl rfl)
theorem dX4_comes_2 : decode cX4_comes 2 = .ok (.putfield 71, 3) := dk_181 0 71 (dk_at dksX4_comes_0 2 rfl rfl)
theorem dX4_comes_5 : decode cX4_comes 5 = .ok (.iload_n 2, 1) := dk_28 (dk_at dksX4_comes_0 5 rfl rfl)
theorem dX4_comes_6 : decode cX4_comes 6 = .ok (.invokestatic 149, 3) := dk_184 0 149 (dk_at dksX4_comes_0 6 rfl rfl)
theorem dX4_comes_9 : decode cX4_comes 9 = .ok (.ifCond .eq 18, 3) := dk_153 0 18 (dk_at dksX4_comes_0 9 rfl rfl)
theorem dX4_comes_12 : decode cX4_comes 12 = .ok (.iload_n 3, 1) := dk_29 (dk_at dksX4_comes_0 12 rfl rfl)
theorem dX4_comes_13 : decode cX4_comes 13 = .ok (.invokestatic 149, 3) := dk_184 0 149 (dk_at dksX4_comes_0 13 rfl rfl)
theorem dX4_comes_16 : decode cX4_comes 16 = .ok (.ifCond .eq 11, 3) := dk_153 0 11 (dk_at dksX4_comes_0 16 rfl rfl)
theorem dX4_comes_19 : decode cX4_comes 19 = .ok (.aload_n 0, 1) := dk_42 (dk_at dksX4_comes_0 19 rfl rfl)
theorem dX4_comes_20 : decode cX4_comes 20 = .ok (.iload_n 1, 1) := dk_27 (dk_at dksX4_comes_0 20 rfl rfl)
theorem dX4_comes_21 : decode cX4_comes 21 = .ok (.invokevirtual 207, 3) := dk_182 0 207 (dk_at dksX4_comes_0 21 rfl rfl)
theorem dX4_comes_24 : decode cX4_comes 24 = .ok (.goto 4, 3) := dk_167 0 4 (dk_at dksX4_comes_1 0 rfl rfl)
theorem dX4_comes_27 : decode cX4_comes 27 = .ok (.iconst (-1), 1) := dk_2 (dk_at dksX4_comes_1 3 rfl rfl)
theorem dX4_comes_28 : decode cX4_comes 28 = .ok (.istore 4, 2) := dk_54 4 (dk_at dksX4_comes_1 4 rfl rfl)
theorem dX4_comes_30 : decode cX4_comes 30 = .ok (.iload 4, 2) := dk_21 4 (dk_at dksX4_comes_1 6 rfl rfl)
theorem dX4_comes_32 : decode cX4_comes 32 = .ok (.ifCond .ge 6, 3) := dk_156 0 6 (dk_at dksX4_comes_1 8 rfl rfl)
theorem dX4_comes_35 : decode cX4_comes 35 = .ok (.iload 4, 2) := dk_21 4 (dk_at dksX4_comes_1 11 rfl rfl)
theorem dX4_comes_37 : decode cX4_comes 37 = .ok (.ireturn, 1) := dk_172 (dk_at dksX4_comes_1 13 rfl rfl)
theorem dX4_comes_38 : decode cX4_comes 38 = .ok (.aload_n 0, 1) := dk_42 (dk_at dksX4_comes_1 14 rfl rfl)
theorem dX4_comes_39 : decode cX4_comes 39 = .ok (.aload_n 0, 1) := dk_42 (dk_at dksX4_comes_1 15 rfl rfl)
theorem dX4_comes_40 : decode cX4_comes 40 = .ok (.getfield 28, 3) := dk_180 0 28 (dk_at dksX4_comes_1 16 rfl rfl)
theorem dX4_comes_43 : decode cX4_comes 43 = .ok (.iload_n 1, 1) := dk_27 (dk_at dksX4_comes_1 19 rfl rfl)
theorem dX4_comes_44 : decode cX4_comes 44 = .ok (.iaload, 1) := dk_46 (dk_at dksX4_comes_1 20 rfl rfl)
theorem dX4_comes_45 : decode cX4_comes 45 = .ok (.aload_n 0, 1) := dk_42 (dk_at dksX4_comes_1 21 rfl rfl)
theorem dX4_comes_46 : decode cX4_comes 46 = .ok (.getfield 31, 3) := dk_180 0 31 (dk_at dksX4_comes_2 0 rfl rfl)
theorem dX4_comes_49 : decode cX4_comes 49 = .ok (.iload_n 1, 1) := dk_27 (dk_at dksX4_comes_2 3 rfl rfl)
theorem dX4_comes_50 : decode cX4_comes 50 = .ok (.iaload, 1) := dk_46 (dk_at dksX4_comes_2 4 rfl rfl)
theorem dX4_comes_51 : decode cX4_comes 51 = .ok (.iload_n 2, 1) := dk_28 (dk_at dksX4_comes_2 5 rfl rfl)
theorem dX4_comes_52 : decode cX4_comes 52 = .ok (.iload_n 3, 1) := dk_29 (dk_at dksX4_comes_2 6 rfl rfl)
theorem dX4_comes_53 : decode cX4_comes 53 = .ok (.invokevirtual 158, 3) := dk_182 0 158 (dk_at dksX4_comes_2 7 rfl rfl)
theorem dX4_comes_56 : decode cX4_comes 56 = .ok (.ifCond .eq 12, 3) := dk_153 0 12 (dk_at dksX4_comes_2 10 rfl rfl)
theorem dX4_comes_59 : decode cX4_comes 59 = .ok (.aload_n 0, 1) := dk_42 (dk_at dksX4_comes_2 13 rfl rfl)
theorem dX4_comes_60 : decode cX4_comes 60 = .ok (.getfield 81, 3) := dk_180 0 81 (dk_at dksX4_comes_2 14 rfl rfl)
theorem dX4_comes_63 : decode cX4_comes 63 = .ok (.iconst 1, 1) := dk_4 (dk_at dksX4_comes_2 17 rfl rfl)
theorem dX4_comes_64 : decode cX4_comes 64 = .ok (.isub, 1) := dk_100 (dk_at dksX4_comes_2 18 rfl rfl)
theorem dX4_comes_65 : decode cX4_comes 65 = .ok (.goto 5, 3) := dk_167 0 5 (dk_at dksX4_comes_2 19 rfl rfl)
theorem dX4_comes_68 : decode cX4_comes 68 = .ok (.bipush (-2), 2) := dk_16 254 (dk_at dksX4_comes_2 22 rfl rfl)
theorem dX4_comes_70 : decode cX4_comes 70 = .ok (.ireturn, 1) := dk_172 (dk_at dksX4_comes_3 0 rfl rfl)
abbrev cX4_wrongKept : ByteArray := prog_21_method_35_code
def yX4_wrongKept : MethodName := ⟨RX4, "wrongKept", "(I)I"⟩
def dkwX4_wrongKept_2 : List UInt8 := [172]
abbrev dktX4_wrongKept_2 : List UInt8 := dkwX4_wrongKept_2 ++ []
def dkwX4_wrongKept_1 : List UInt8 := [154, 0, 8, 16, 245, 167, 0, 19, 42, 180, 0, 25, 27, 46, 4, 159, 0, 8, 16, 244, 167, 0, 4, 3]
abbrev dktX4_wrongKept_1 : List UInt8 := dkwX4_wrongKept_1 ++ dktX4_wrongKept_2
def dkwX4_wrongKept_0 : List UInt8 := [27, 133, 9, 20, 0, 205, 184, 0, 77, 154, 0, 7, 2, 167, 0, 33, 42, 180, 0, 25, 27, 46]
abbrev dktX4_wrongKept_0 : List UInt8 := dkwX4_wrongKept_0 ++ dktX4_wrongKept_1
theorem dksX4_wrongKept_0 : cX4_wrongKept.data.toList.drop 0 = dktX4_wrongKept_0 := by decide +kernel
theorem dksX4_wrongKept_1 : cX4_wrongKept.data.toList.drop 22 = dktX4_wrongKept_1 := dk_seg dksX4_wrongKept_0 22 rfl rfl
theorem dksX4_wrongKept_2 : cX4_wrongKept.data.toList.drop 46 = dktX4_wrongKept_2 := dk_seg dksX4_wrongKept_1 24 rfl rfl
theorem dX4_wrongKept_0 : decode cX4_wrongKept 0 = .ok (.iload_n 1, 1) := dk_27 (dk_at dksX4_wrongKept_0 0 rfl rfl)
theorem dX4_wrongKept_1 : decode cX4_wrongKept 1 = .ok (.i2l, 1) := dk_133 (dk_at dksX4_wrongKept_0 1 rfl rfl)
theorem dX4_wrongKept_2 : decode cX4_wrongKept 2 = .ok (.lconst 0, 1) := dk_9 (dk_at dksX4_wrongKept_0 2 rfl rfl)
theorem dX4_wrongKept_3 : decode cX4_wrongKept 3 = .ok (.ldc2_w 205, 3) := dk_20 0 205 (dk_at dksX4_wrongKept_0 3 rfl rfl)
theorem dX4_wrongKept_6 : decode cX4_wrongKept 6 = .ok (.invokestatic 77, 3) := dk_184 0 77 (dk_at dksX4_wrongKept_0 6 rfl rfl)
theorem dX4_wrongKept_9 : decode cX4_wrongKept 9 = .ok (.ifCond .ne 7, 3) := dk_154 0 7 (dk_at dksX4_wrongKept_0 9 rfl rfl)
theorem dX4_wrongKept_12 : decode cX4_wrongKept 12 = .ok (.iconst (-1), 1) := dk_2 (dk_at dksX4_wrongKept_0 12 rfl rfl)
theorem dX4_wrongKept_13 : decode cX4_wrongKept 13 = .ok (.goto 33, 3) := dk_167 0 33 (dk_at dksX4_wrongKept_0 13 rfl rfl)
theorem dX4_wrongKept_16 : decode cX4_wrongKept 16 = .ok (.aload_n 0, 1) := dk_42 (dk_at dksX4_wrongKept_0 16 rfl rfl)
theorem dX4_wrongKept_17 : decode cX4_wrongKept 17 = .ok (.getfield 25, 3) := dk_180 0 25 (dk_at dksX4_wrongKept_0 17 rfl rfl)
theorem dX4_wrongKept_20 : decode cX4_wrongKept 20 = .ok (.iload_n 1, 1) := dk_27 (dk_at dksX4_wrongKept_0 20 rfl rfl)
theorem dX4_wrongKept_21 : decode cX4_wrongKept 21 = .ok (.iaload, 1) := dk_46 (dk_at dksX4_wrongKept_0 21 rfl rfl)
theorem dX4_wrongKept_22 : decode cX4_wrongKept 22 = .ok (.ifCond .ne 8, 3) := dk_154 0 8 (dk_at dksX4_wrongKept_1 0 rfl rfl)
theorem dX4_wrongKept_25 : decode cX4_wrongKept 25 = .ok (.bipush (-11), 2) := dk_16 245 (dk_at dksX4_wrongKept_1 3 rfl rfl)
theorem dX4_wrongKept_27 : decode cX4_wrongKept 27 = .ok (.goto 19, 3) := dk_167 0 19 (dk_at dksX4_wrongKept_1 5 rfl rfl)
theorem dX4_wrongKept_30 : decode cX4_wrongKept 30 = .ok (.aload_n 0, 1) := dk_42 (dk_at dksX4_wrongKept_1 8 rfl rfl)
theorem dX4_wrongKept_31 : decode cX4_wrongKept 31 = .ok (.getfield 25, 3) := dk_180 0 25 (dk_at dksX4_wrongKept_1 9 rfl rfl)
theorem dX4_wrongKept_34 : decode cX4_wrongKept 34 = .ok (.iload_n 1, 1) := dk_27 (dk_at dksX4_wrongKept_1 12 rfl rfl)
theorem dX4_wrongKept_35 : decode cX4_wrongKept 35 = .ok (.iaload, 1) := dk_46 (dk_at dksX4_wrongKept_1 13 rfl rfl)
theorem dX4_wrongKept_36 : decode cX4_wrongKept 36 = .ok (.iconst 1, 1) := dk_4 (dk_at dksX4_wrongKept_1 14 rfl rfl)
theorem dX4_wrongKept_37 : decode cX4_wrongKept 37 = .ok (.if_icmp .eq 8, 3) := dk_159 0 8 (dk_at dksX4_wrongKept_1 15 rfl rfl)
theorem dX4_wrongKept_40 : decode cX4_wrongKept 40 = .ok (.bipush (-12), 2) := dk_16 244 (dk_at dksX4_wrongKept_1 18 rfl rfl)
theorem dX4_wrongKept_42 : decode cX4_wrongKept 42 = .ok (.goto 4, 3) := dk_167 0 4 (dk_at dksX4_wrongKept_1 20 rfl rfl)
theorem dX4_wrongKept_45 : decode cX4_wrongKept 45 = .ok (.iconst 0, 1) := dk_3 (dk_at dksX4_wrongKept_1 23 rfl rfl)
theorem dX4_wrongKept_46 : decode cX4_wrongKept 46 = .ok (.ireturn, 1) := dk_172 (dk_at dksX4_wrongKept_2 0 rfl rfl)
abbrev cX4_rides : ByteArray := prog_21_method_37_code
def yX4_rides : MethodName := ⟨RX4, "rides", "(II)I"⟩
def dkwX4_rides_2 : List UInt8 := [16, 253, 172, 29, 172]
abbrev dktX4_rides_2 : List UInt8 := dkwX4_rides_2 ++ []
def dkwX4_rides_1 : List UInt8 := [182, 0, 177, 42, 27, 28, 182, 0, 165, 62, 42, 180, 0, 95, 17, 3, 231, 164, 0, 10, 42, 182, 0, 183]
abbrev dktX4_rides_1 : List UInt8 := dkwX4_rides_1 ++ dktX4_rides_2
def dkwX4_rides_0 : List UInt8 := [42, 3, 181, 0, 71, 42, 27, 182, 0, 162, 153, 0, 10, 28, 184, 0, 149, 154, 0, 5, 2, 172, 42]
abbrev dktX4_rides_0 : List UInt8 := dkwX4_rides_0 ++ dktX4_rides_1
theorem dksX4_rides_0 : cX4_rides.data.toList.drop 0 = dktX4_rides_0 := by decide +kernel
theorem dksX4_rides_1 : cX4_rides.data.toList.drop 23 = dktX4_rides_1 := dk_seg dksX4_rides_0 23 rfl rfl
theorem dksX4_rides_2 : cX4_rides.data.toList.drop 47 = dktX4_rides_2 := dk_seg dksX4_rides_1 24 rfl rfl
theorem dX4_rides_0 : decode cX4_rides 0 = .ok (.aload_n 0, 1) := dk_42 (dk_at dksX4_rides_0 0 rfl rfl)
theorem dX4_rides_1 : decode cX4_rides 1 = .ok (.iconst 0, 1) := dk_3 (dk_at dksX4_rides_0 1 rfl rfl)
theorem dX4_rides_2 : decode cX4_rides 2 = .ok (.putfield 71, 3) := dk_181 0 71 (dk_at dksX4_rides_0 2 rfl rfl)
theorem dX4_rides_5 : decode cX4_rides 5 = .ok (.aload_n 0, 1) := dk_42 (dk_at dksX4_rides_0 5 rfl rfl)
theorem dX4_rides_6 : decode cX4_rides 6 = .ok (.iload_n 1, 1) := dk_27 (dk_at dksX4_rides_0 6 rfl rfl)
theorem dX4_rides_7 : decode cX4_rides 7 = .ok (.invokevirtual 162, 3) := dk_182 0 162 (dk_at dksX4_rides_0 7 rfl rfl)
theorem dX4_rides_10 : decode cX4_rides 10 = .ok (.ifCond .eq 10, 3) := dk_153 0 10 (dk_at dksX4_rides_0 10 rfl rfl)
theorem dX4_rides_13 : decode cX4_rides 13 = .ok (.iload_n 2, 1) := dk_28 (dk_at dksX4_rides_0 13 rfl rfl)
theorem dX4_rides_14 : decode cX4_rides 14 = .ok (.invokestatic 149, 3) := dk_184 0 149 (dk_at dksX4_rides_0 14 rfl rfl)
theorem dX4_rides_17 : decode cX4_rides 17 = .ok (.ifCond .ne 5, 3) := dk_154 0 5 (dk_at dksX4_rides_0 17 rfl rfl)
theorem dX4_rides_20 : decode cX4_rides 20 = .ok (.iconst (-1), 1) := dk_2 (dk_at dksX4_rides_0 20 rfl rfl)
theorem dX4_rides_21 : decode cX4_rides 21 = .ok (.ireturn, 1) := dk_172 (dk_at dksX4_rides_0 21 rfl rfl)
theorem dX4_rides_22 : decode cX4_rides 22 = .ok (.aload_n 0, 1) := dk_42 (dk_at dksX4_rides_0 22 rfl rfl)
theorem dX4_rides_23 : decode cX4_rides 23 = .ok (.invokevirtual 177, 3) := dk_182 0 177 (dk_at dksX4_rides_1 0 rfl rfl)
theorem dX4_rides_26 : decode cX4_rides 26 = .ok (.aload_n 0, 1) := dk_42 (dk_at dksX4_rides_1 3 rfl rfl)
theorem dX4_rides_27 : decode cX4_rides 27 = .ok (.iload_n 1, 1) := dk_27 (dk_at dksX4_rides_1 4 rfl rfl)
theorem dX4_rides_28 : decode cX4_rides 28 = .ok (.iload_n 2, 1) := dk_28 (dk_at dksX4_rides_1 5 rfl rfl)
theorem dX4_rides_29 : decode cX4_rides 29 = .ok (.invokevirtual 165, 3) := dk_182 0 165 (dk_at dksX4_rides_1 6 rfl rfl)
theorem dX4_rides_32 : decode cX4_rides 32 = .ok (.istore_n 3, 1) := dk_62 (dk_at dksX4_rides_1 9 rfl rfl)
theorem dX4_rides_33 : decode cX4_rides 33 = .ok (.aload_n 0, 1) := dk_42 (dk_at dksX4_rides_1 10 rfl rfl)
theorem dX4_rides_34 : decode cX4_rides 34 = .ok (.getfield 95, 3) := dk_180 0 95 (dk_at dksX4_rides_1 11 rfl rfl)
theorem dX4_rides_37 : decode cX4_rides 37 = .ok (.sipush 999, 3) := dk_17 3 231 (dk_at dksX4_rides_1 14 rfl rfl)
theorem dX4_rides_40 : decode cX4_rides 40 = .ok (.if_icmp .le 10, 3) := dk_164 0 10 (dk_at dksX4_rides_1 17 rfl rfl)
theorem dX4_rides_43 : decode cX4_rides 43 = .ok (.aload_n 0, 1) := dk_42 (dk_at dksX4_rides_1 20 rfl rfl)
theorem dX4_rides_44 : decode cX4_rides 44 = .ok (.invokevirtual 183, 3) := dk_182 0 183 (dk_at dksX4_rides_1 21 rfl rfl)
theorem dX4_rides_47 : decode cX4_rides 47 = .ok (.bipush (-3), 2) := dk_16 253 (dk_at dksX4_rides_2 0 rfl rfl)
theorem dX4_rides_49 : decode cX4_rides 49 = .ok (.ireturn, 1) := dk_172 (dk_at dksX4_rides_2 2 rfl rfl)
theorem dX4_rides_50 : decode cX4_rides 50 = .ok (.iload_n 3, 1) := dk_29 (dk_at dksX4_rides_2 3 rfl rfl)
theorem dX4_rides_51 : decode cX4_rides 51 = .ok (.ireturn, 1) := dk_172 (dk_at dksX4_rides_2 4 rfl rfl)
abbrev cX4_taken : ByteArray := prog_21_method_38_code
def yX4_taken : MethodName := ⟨RX4, "taken", "(II)I"⟩
def dkwX4_taken_1 : List UInt8 := [180, 0, 19, 27, 46, 62, 42, 180, 0, 19, 27, 28, 79, 29, 172]
abbrev dktX4_taken_1 : List UInt8 := dkwX4_taken_1 ++ []
def dkwX4_taken_0 : List UInt8 := [42, 3, 181, 0, 71, 42, 27, 182, 0, 162, 153, 0, 10, 28, 184, 0, 149, 154, 0, 5, 2, 172, 42]
abbrev dktX4_taken_0 : List UInt8 := dkwX4_taken_0 ++ dktX4_taken_1
theorem dksX4_taken_0 : cX4_taken.data.toList.drop 0 = dktX4_taken_0 := by decide +kernel
theorem dksX4_taken_1 : cX4_taken.data.toList.drop 23 = dktX4_taken_1 := dk_seg dksX4_taken_0 23 rfl rfl
theorem dX4_taken_0 : decode cX4_taken 0 = .ok (.aload_n 0, 1) := dk_42 (dk_at dksX4_taken_0 0 rfl rfl)
theorem dX4_taken_1 : decode cX4_taken 1 = .ok (.iconst 0, 1) := dk_3 (dk_at dksX4_taken_0 1 rfl rfl)
theorem dX4_taken_2 : decode cX4_taken 2 = .ok (.putfield 71, 3) := dk_181 0 71 (dk_at dksX4_taken_0 2 rfl rfl)
theorem dX4_taken_5 : decode cX4_taken 5 = .ok (.aload_n 0, 1) := dk_42 (dk_at dksX4_taken_0 5 rfl rfl)
theorem dX4_taken_6 : decode cX4_taken 6 = .ok (.iload_n 1, 1) := dk_27 (dk_at dksX4_taken_0 6 rfl rfl)
theorem dX4_taken_7 : decode cX4_taken 7 = .ok (.invokevirtual 162, 3) := dk_182 0 162 (dk_at dksX4_taken_0 7 rfl rfl)
theorem dX4_taken_10 : decode cX4_taken 10 = .ok (.ifCond .eq 10, 3) := dk_153 0 10 (dk_at dksX4_taken_0 10 rfl rfl)
theorem dX4_taken_13 : decode cX4_taken 13 = .ok (.iload_n 2, 1) := dk_28 (dk_at dksX4_taken_0 13 rfl rfl)
theorem dX4_taken_14 : decode cX4_taken 14 = .ok (.invokestatic 149, 3) := dk_184 0 149 (dk_at dksX4_taken_0 14 rfl rfl)
theorem dX4_taken_17 : decode cX4_taken 17 = .ok (.ifCond .ne 5, 3) := dk_154 0 5 (dk_at dksX4_taken_0 17 rfl rfl)
theorem dX4_taken_20 : decode cX4_taken 20 = .ok (.iconst (-1), 1) := dk_2 (dk_at dksX4_taken_0 20 rfl rfl)
theorem dX4_taken_21 : decode cX4_taken 21 = .ok (.ireturn, 1) := dk_172 (dk_at dksX4_taken_0 21 rfl rfl)
theorem dX4_taken_22 : decode cX4_taken 22 = .ok (.aload_n 0, 1) := dk_42 (dk_at dksX4_taken_0 22 rfl rfl)
theorem dX4_taken_23 : decode cX4_taken 23 = .ok (.getfield 19, 3) := dk_180 0 19 (dk_at dksX4_taken_1 0 rfl rfl)
theorem dX4_taken_26 : decode cX4_taken 26 = .ok (.iload_n 1, 1) := dk_27 (dk_at dksX4_taken_1 3 rfl rfl)
theorem dX4_taken_27 : decode cX4_taken 27 = .ok (.iaload, 1) := dk_46 (dk_at dksX4_taken_1 4 rfl rfl)
theorem dX4_taken_28 : decode cX4_taken 28 = .ok (.istore_n 3, 1) := dk_62 (dk_at dksX4_taken_1 5 rfl rfl)
theorem dX4_taken_29 : decode cX4_taken 29 = .ok (.aload_n 0, 1) := dk_42 (dk_at dksX4_taken_1 6 rfl rfl)
theorem dX4_taken_30 : decode cX4_taken 30 = .ok (.getfield 19, 3) := dk_180 0 19 (dk_at dksX4_taken_1 7 rfl rfl)
theorem dX4_taken_33 : decode cX4_taken 33 = .ok (.iload_n 1, 1) := dk_27 (dk_at dksX4_taken_1 10 rfl rfl)
theorem dX4_taken_34 : decode cX4_taken 34 = .ok (.iload_n 2, 1) := dk_28 (dk_at dksX4_taken_1 11 rfl rfl)
theorem dX4_taken_35 : decode cX4_taken 35 = .ok (.iastore, 1) := dk_79 (dk_at dksX4_taken_1 12 rfl rfl)
theorem dX4_taken_36 : decode cX4_taken 36 = .ok (.iload_n 3, 1) := dk_29 (dk_at dksX4_taken_1 13 rfl rfl)
theorem dX4_taken_37 : decode cX4_taken 37 = .ok (.ireturn, 1) := dk_172 (dk_at dksX4_taken_1 14 rfl rfl)
abbrev cX4_longs : ByteArray := prog_21_method_39_code
def yX4_longs : MethodName := ⟨RX4, "longs", "(II)I"⟩
def dkwX4_longs_1 : List UInt8 := [154, 0, 5, 2, 172, 42, 180, 0, 22, 27, 46, 62, 42, 180, 0, 22, 27, 28, 79, 29, 172]
abbrev dktX4_longs_1 : List UInt8 := dkwX4_longs_1 ++ []
def dkwX4_longs_0 : List UInt8 := [42, 3, 181, 0, 71, 42, 27, 182, 0, 162, 153, 0, 15, 28, 133, 9, 20, 0, 210, 184, 0, 77]
abbrev dktX4_longs_0 : List UInt8 := dkwX4_longs_0 ++ dktX4_longs_1
theorem dksX4_longs_0 : cX4_longs.data.toList.drop 0 = dktX4_longs_0 := by decide +kernel
theorem dksX4_longs_1 : cX4_longs.data.toList.drop 22 = dktX4_longs_1 := dk_seg dksX4_longs_0 22 rfl rfl
theorem dX4_longs_0 : decode cX4_longs 0 = .ok (.aload_n 0, 1) := dk_42 (dk_at dksX4_longs_0 0 rfl rfl)
theorem dX4_longs_1 : decode cX4_longs 1 = .ok (.iconst 0, 1) := dk_3 (dk_at dksX4_longs_0 1 rfl rfl)
theorem dX4_longs_2 : decode cX4_longs 2 = .ok (.putfield 71, 3) := dk_181 0 71 (dk_at dksX4_longs_0 2 rfl rfl)
theorem dX4_longs_5 : decode cX4_longs 5 = .ok (.aload_n 0, 1) := dk_42 (dk_at dksX4_longs_0 5 rfl rfl)
theorem dX4_longs_6 : decode cX4_longs 6 = .ok (.iload_n 1, 1) := dk_27 (dk_at dksX4_longs_0 6 rfl rfl)
theorem dX4_longs_7 : decode cX4_longs 7 = .ok (.invokevirtual 162, 3) := dk_182 0 162 (dk_at dksX4_longs_0 7 rfl rfl)
theorem dX4_longs_10 : decode cX4_longs 10 = .ok (.ifCond .eq 15, 3) := dk_153 0 15 (dk_at dksX4_longs_0 10 rfl rfl)
theorem dX4_longs_13 : decode cX4_longs 13 = .ok (.iload_n 2, 1) := dk_28 (dk_at dksX4_longs_0 13 rfl rfl)
theorem dX4_longs_14 : decode cX4_longs 14 = .ok (.i2l, 1) := dk_133 (dk_at dksX4_longs_0 14 rfl rfl)
theorem dX4_longs_15 : decode cX4_longs 15 = .ok (.lconst 0, 1) := dk_9 (dk_at dksX4_longs_0 15 rfl rfl)
theorem dX4_longs_16 : decode cX4_longs 16 = .ok (.ldc2_w 210, 3) := dk_20 0 210 (dk_at dksX4_longs_0 16 rfl rfl)
theorem dX4_longs_19 : decode cX4_longs 19 = .ok (.invokestatic 77, 3) := dk_184 0 77 (dk_at dksX4_longs_0 19 rfl rfl)
theorem dX4_longs_22 : decode cX4_longs 22 = .ok (.ifCond .ne 5, 3) := dk_154 0 5 (dk_at dksX4_longs_1 0 rfl rfl)
theorem dX4_longs_25 : decode cX4_longs 25 = .ok (.iconst (-1), 1) := dk_2 (dk_at dksX4_longs_1 3 rfl rfl)
theorem dX4_longs_26 : decode cX4_longs 26 = .ok (.ireturn, 1) := dk_172 (dk_at dksX4_longs_1 4 rfl rfl)
theorem dX4_longs_27 : decode cX4_longs 27 = .ok (.aload_n 0, 1) := dk_42 (dk_at dksX4_longs_1 5 rfl rfl)
theorem dX4_longs_28 : decode cX4_longs 28 = .ok (.getfield 22, 3) := dk_180 0 22 (dk_at dksX4_longs_1 6 rfl rfl)
theorem dX4_longs_31 : decode cX4_longs 31 = .ok (.iload_n 1, 1) := dk_27 (dk_at dksX4_longs_1 9 rfl rfl)
theorem dX4_longs_32 : decode cX4_longs 32 = .ok (.iaload, 1) := dk_46 (dk_at dksX4_longs_1 10 rfl rfl)
theorem dX4_longs_33 : decode cX4_longs 33 = .ok (.istore_n 3, 1) := dk_62 (dk_at dksX4_longs_1 11 rfl rfl)
theorem dX4_longs_34 : decode cX4_longs 34 = .ok (.aload_n 0, 1) := dk_42 (dk_at dksX4_longs_1 12 rfl rfl)
theorem dX4_longs_35 : decode cX4_longs 35 = .ok (.getfield 22, 3) := dk_180 0 22 (dk_at dksX4_longs_1 13 rfl rfl)
theorem dX4_longs_38 : decode cX4_longs 38 = .ok (.iload_n 1, 1) := dk_27 (dk_at dksX4_longs_1 16 rfl rfl)
theorem dX4_longs_39 : decode cX4_longs 39 = .ok (.iload_n 2, 1) := dk_28 (dk_at dksX4_longs_1 17 rfl rfl)
theorem dX4_longs_40 : decode cX4_longs 40 = .ok (.iastore, 1) := dk_79 (dk_at dksX4_longs_1 18 rfl rfl)
theorem dX4_longs_41 : decode cX4_longs 41 = .ok (.iload_n 3, 1) := dk_29 (dk_at dksX4_longs_1 19 rfl rfl)
theorem dX4_longs_42 : decode cX4_longs 42 = .ok (.ireturn, 1) := dk_172 (dk_at dksX4_longs_1 20 rfl rfl)
abbrev cX4_hangs : ByteArray := prog_21_method_40_code
def yX4_hangs : MethodName := ⟨RX4, "hangs", "(I)I"⟩
def dkwX4_hangs_1 : List UInt8 := [28, 172]
abbrev dktX4_hangs_1 : List UInt8 := dkwX4_hangs_1 ++ []
def dkwX4_hangs_0 : List UInt8 := [42, 3, 181, 0, 71, 27, 184, 0, 149, 154, 0, 5, 2, 172, 42, 180, 0, 88, 61, 42, 27, 181, 0, 88]
abbrev dktX4_hangs_0 : List UInt8 := dkwX4_hangs_0 ++ dktX4_hangs_1
theorem dksX4_hangs_0 : cX4_hangs.data.toList.drop 0 = dktX4_hangs_0 := by decide +kernel
theorem dksX4_hangs_1 : cX4_hangs.data.toList.drop 24 = dktX4_hangs_1 := dk_seg dksX4_hangs_0 24 rfl rfl
theorem dX4_hangs_0 : decode cX4_hangs 0 = .ok (.aload_n 0, 1) := dk_42 (dk_at dksX4_hangs_0 0 rfl rfl)
theorem dX4_hangs_1 : decode cX4_hangs 1 = .ok (.iconst 0, 1) := dk_3 (dk_at dksX4_hangs_0 1 rfl rfl)
theorem dX4_hangs_2 : decode cX4_hangs 2 = .ok (.putfield 71, 3) := dk_181 0 71 (dk_at dksX4_hangs_0 2 rfl rfl)
theorem dX4_hangs_5 : decode cX4_hangs 5 = .ok (.iload_n 1, 1) := dk_27 (dk_at dksX4_hangs_0 5 rfl rfl)
theorem dX4_hangs_6 : decode cX4_hangs 6 = .ok (.invokestatic 149, 3) := dk_184 0 149 (dk_at dksX4_hangs_0 6 rfl rfl)
theorem dX4_hangs_9 : decode cX4_hangs 9 = .ok (.ifCond .ne 5, 3) := dk_154 0 5 (dk_at dksX4_hangs_0 9 rfl rfl)
theorem dX4_hangs_12 : decode cX4_hangs 12 = .ok (.iconst (-1), 1) := dk_2 (dk_at dksX4_hangs_0 12 rfl rfl)
theorem dX4_hangs_13 : decode cX4_hangs 13 = .ok (.ireturn, 1) := dk_172 (dk_at dksX4_hangs_0 13 rfl rfl)
theorem dX4_hangs_14 : decode cX4_hangs 14 = .ok (.aload_n 0, 1) := dk_42 (dk_at dksX4_hangs_0 14 rfl rfl)
theorem dX4_hangs_15 : decode cX4_hangs 15 = .ok (.getfield 88, 3) := dk_180 0 88 (dk_at dksX4_hangs_0 15 rfl rfl)
theorem dX4_hangs_18 : decode cX4_hangs 18 = .ok (.istore_n 2, 1) := dk_61 (dk_at dksX4_hangs_0 18 rfl rfl)
theorem dX4_hangs_19 : decode cX4_hangs 19 = .ok (.aload_n 0, 1) := dk_42 (dk_at dksX4_hangs_0 19 rfl rfl)
theorem dX4_hangs_20 : decode cX4_hangs 20 = .ok (.iload_n 1, 1) := dk_27 (dk_at dksX4_hangs_0 20 rfl rfl)
theorem dX4_hangs_21 : decode cX4_hangs 21 = .ok (.putfield 88, 3) := dk_181 0 88 (dk_at dksX4_hangs_0 21 rfl rfl)
theorem dX4_hangs_24 : decode cX4_hangs 24 = .ok (.iload_n 2, 1) := dk_28 (dk_at dksX4_hangs_1 0 rfl rfl)
theorem dX4_hangs_25 : decode cX4_hangs 25 = .ok (.ireturn, 1) := dk_172 (dk_at dksX4_hangs_1 1 rfl rfl)
abbrev cX4_days : ByteArray := prog_21_method_41_code
def yX4_days : MethodName := ⟨RX4, "days", "(I)I"⟩
def dkwX4_days_1 : List UInt8 := [153, 0, 10, 42, 182, 0, 212, 167, 0, 5, 16, 253, 172]
abbrev dktX4_days_1 : List UInt8 := dkwX4_days_1 ++ []
def dkwX4_days_0 : List UInt8 := [42, 3, 181, 0, 71, 27, 133, 10, 20, 0, 152, 184, 0, 77, 154, 0, 5, 2, 172, 42, 27, 182, 0, 168]
abbrev dktX4_days_0 : List UInt8 := dkwX4_days_0 ++ dktX4_days_1
theorem dksX4_days_0 : cX4_days.data.toList.drop 0 = dktX4_days_0 := by decide +kernel
theorem dksX4_days_1 : cX4_days.data.toList.drop 24 = dktX4_days_1 := dk_seg dksX4_days_0 24 rfl rfl
theorem dX4_days_0 : decode cX4_days 0 = .ok (.aload_n 0, 1) := dk_42 (dk_at dksX4_days_0 0 rfl rfl)
theorem dX4_days_1 : decode cX4_days 1 = .ok (.iconst 0, 1) := dk_3 (dk_at dksX4_days_0 1 rfl rfl)
theorem dX4_days_2 : decode cX4_days 2 = .ok (.putfield 71, 3) := dk_181 0 71 (dk_at dksX4_days_0 2 rfl rfl)
theorem dX4_days_5 : decode cX4_days 5 = .ok (.iload_n 1, 1) := dk_27 (dk_at dksX4_days_0 5 rfl rfl)
theorem dX4_days_6 : decode cX4_days 6 = .ok (.i2l, 1) := dk_133 (dk_at dksX4_days_0 6 rfl rfl)
theorem dX4_days_7 : decode cX4_days 7 = .ok (.lconst 1, 1) := dk_10 (dk_at dksX4_days_0 7 rfl rfl)
theorem dX4_days_8 : decode cX4_days 8 = .ok (.ldc2_w 152, 3) := dk_20 0 152 (dk_at dksX4_days_0 8 rfl rfl)
theorem dX4_days_11 : decode cX4_days 11 = .ok (.invokestatic 77, 3) := dk_184 0 77 (dk_at dksX4_days_0 11 rfl rfl)
theorem dX4_days_14 : decode cX4_days 14 = .ok (.ifCond .ne 5, 3) := dk_154 0 5 (dk_at dksX4_days_0 14 rfl rfl)
theorem dX4_days_17 : decode cX4_days 17 = .ok (.iconst (-1), 1) := dk_2 (dk_at dksX4_days_0 17 rfl rfl)
theorem dX4_days_18 : decode cX4_days 18 = .ok (.ireturn, 1) := dk_172 (dk_at dksX4_days_0 18 rfl rfl)
theorem dX4_days_19 : decode cX4_days 19 = .ok (.aload_n 0, 1) := dk_42 (dk_at dksX4_days_0 19 rfl rfl)
theorem dX4_days_20 : decode cX4_days 20 = .ok (.iload_n 1, 1) := dk_27 (dk_at dksX4_days_0 20 rfl rfl)
theorem dX4_days_21 : decode cX4_days 21 = .ok (.invokevirtual 168, 3) := dk_182 0 168 (dk_at dksX4_days_0 21 rfl rfl)
theorem dX4_days_24 : decode cX4_days 24 = .ok (.ifCond .eq 10, 3) := dk_153 0 10 (dk_at dksX4_days_1 0 rfl rfl)
theorem dX4_days_27 : decode cX4_days 27 = .ok (.aload_n 0, 1) := dk_42 (dk_at dksX4_days_1 3 rfl rfl)
theorem dX4_days_28 : decode cX4_days 28 = .ok (.invokevirtual 212, 3) := dk_182 0 212 (dk_at dksX4_days_1 4 rfl rfl)
theorem dX4_days_31 : decode cX4_days 31 = .ok (.goto 5, 3) := dk_167 0 5 (dk_at dksX4_days_1 7 rfl rfl)
theorem dX4_days_34 : decode cX4_days 34 = .ok (.bipush (-3), 2) := dk_16 253 (dk_at dksX4_days_1 10 rfl rfl)
theorem dX4_days_36 : decode cX4_days 36 = .ok (.ireturn, 1) := dk_172 (dk_at dksX4_days_1 12 rfl rfl)
abbrev cX4_allLonging : ByteArray := prog_21_method_17_code
def yX4_allLonging : MethodName := ⟨RX4, "allLonging", "()I"⟩
def dkwX4_allLonging_1 : List UInt8 := [167, 255, 236, 27, 172]
abbrev dktX4_allLonging_1 : List UInt8 := dkwX4_allLonging_1 ++ []
def dkwX4_allLonging_0 : List UInt8 := [3, 60, 3, 61, 28, 42, 180, 0, 81, 162, 0, 18, 27, 42, 180, 0, 22, 28, 46, 96, 60, 132, 2, 1]
abbrev dktX4_allLonging_0 : List UInt8 := dkwX4_allLonging_0 ++ dktX4_allLonging_1
theorem dksX4_allLonging_0 : cX4_allLonging.data.toList.drop 0 = dktX4_allLonging_0 := by decide +kernel
theorem dksX4_allLonging_1 : cX4_allLonging.data.toList.drop 24 = dktX4_allLonging_1 := dk_seg dksX4_allLonging_0 24 rfl rfl
theorem dX4_allLonging_0 : decode cX4_allLonging 0 = .ok (.iconst 0, 1) := dk_3 (dk_at dksX4_allLonging_0 0 rfl rfl)
theorem dX4_allLonging_1 : decode cX4_allLonging 1 = .ok (.istore_n 1, 1) := dk_60 (dk_at dksX4_allLonging_0 1 rfl rfl)
theorem dX4_allLonging_2 : decode cX4_allLonging 2 = .ok (.iconst 0, 1) := dk_3 (dk_at dksX4_allLonging_0 2 rfl rfl)
theorem dX4_allLonging_3 : decode cX4_allLonging 3 = .ok (.istore_n 2, 1) := dk_61 (dk_at dksX4_allLonging_0 3 rfl rfl)
theorem dX4_allLonging_4 : decode cX4_allLonging 4 = .ok (.iload_n 2, 1) := dk_28 (dk_at dksX4_allLonging_0 4 rfl rfl)
theorem dX4_allLonging_5 : decode cX4_allLonging 5 = .ok (.aload_n 0, 1) := dk_42 (dk_at dksX4_allLonging_0 5 rfl rfl)
theorem dX4_allLonging_6 : decode cX4_allLonging 6 = .ok (.getfield 81, 3) := dk_180 0 81 (dk_at dksX4_allLonging_0 6 rfl rfl)
theorem dX4_allLonging_9 : decode cX4_allLonging 9 = .ok (.if_icmp .ge 18, 3) := dk_162 0 18 (dk_at dksX4_allLonging_0 9 rfl rfl)
theorem dX4_allLonging_12 : decode cX4_allLonging 12 = .ok (.iload_n 1, 1) := dk_27 (dk_at dksX4_allLonging_0 12 rfl rfl)
theorem dX4_allLonging_13 : decode cX4_allLonging 13 = .ok (.aload_n 0, 1) := dk_42 (dk_at dksX4_allLonging_0 13 rfl rfl)
theorem dX4_allLonging_14 : decode cX4_allLonging 14 = .ok (.getfield 22, 3) := dk_180 0 22 (dk_at dksX4_allLonging_0 14 rfl rfl)
theorem dX4_allLonging_17 : decode cX4_allLonging 17 = .ok (.iload_n 2, 1) := dk_28 (dk_at dksX4_allLonging_0 17 rfl rfl)
theorem dX4_allLonging_18 : decode cX4_allLonging 18 = .ok (.iaload, 1) := dk_46 (dk_at dksX4_allLonging_0 18 rfl rfl)
theorem dX4_allLonging_19 : decode cX4_allLonging 19 = .ok (.iadd, 1) := dk_96 (dk_at dksX4_allLonging_0 19 rfl rfl)
theorem dX4_allLonging_20 : decode cX4_allLonging 20 = .ok (.istore_n 1, 1) := dk_60 (dk_at dksX4_allLonging_0 20 rfl rfl)
theorem dX4_allLonging_21 : decode cX4_allLonging 21 = .ok (.iinc 2 1, 3) := dk_132 2 1 (dk_at dksX4_allLonging_0 21 rfl rfl)
theorem dX4_allLonging_24 : decode cX4_allLonging 24 = .ok (.goto (-20), 3) := dk_167 255 236 (dk_at dksX4_allLonging_1 0 rfl rfl)
theorem dX4_allLonging_27 : decode cX4_allLonging 27 = .ok (.iload_n 1, 1) := dk_27 (dk_at dksX4_allLonging_1 3 rfl rfl)
theorem dX4_allLonging_28 : decode cX4_allLonging 28 = .ok (.ireturn, 1) := dk_172 (dk_at dksX4_allLonging_1 4 rfl rfl)
abbrev cX4_howLong : ByteArray := prog_21_method_43_code
def yX4_howLong : MethodName := ⟨RX4, "howLong", "(II)I"⟩
def dkwX4_howLong_1 : List UInt8 := [182, 0, 215, 167, 0, 4, 2, 172]
abbrev dktX4_howLong_1 : List UInt8 := dkwX4_howLong_1 ++ []
def dkwX4_howLong_0 : List UInt8 := [42, 3, 181, 0, 71, 42, 27, 182, 0, 162, 153, 0, 19, 28, 184, 0, 149, 153, 0, 12, 42, 27, 28]
abbrev dktX4_howLong_0 : List UInt8 := dkwX4_howLong_0 ++ dktX4_howLong_1
theorem dksX4_howLong_0 : cX4_howLong.data.toList.drop 0 = dktX4_howLong_0 := by decide +kernel
theorem dksX4_howLong_1 : cX4_howLong.data.toList.drop 23 = dktX4_howLong_1 := dk_seg dksX4_howLong_0 23 rfl rfl
theorem dX4_howLong_0 : decode cX4_howLong 0 = .ok (.aload_n 0, 1) := dk_42 (dk_at dksX4_howLong_0 0 rfl rfl)
theorem dX4_howLong_1 : decode cX4_howLong 1 = .ok (.iconst 0, 1) := dk_3 (dk_at dksX4_howLong_0 1 rfl rfl)
theorem dX4_howLong_2 : decode cX4_howLong 2 = .ok (.putfield 71, 3) := dk_181 0 71 (dk_at dksX4_howLong_0 2 rfl rfl)
theorem dX4_howLong_5 : decode cX4_howLong 5 = .ok (.aload_n 0, 1) := dk_42 (dk_at dksX4_howLong_0 5 rfl rfl)
theorem dX4_howLong_6 : decode cX4_howLong 6 = .ok (.iload_n 1, 1) := dk_27 (dk_at dksX4_howLong_0 6 rfl rfl)
theorem dX4_howLong_7 : decode cX4_howLong 7 = .ok (.invokevirtual 162, 3) := dk_182 0 162 (dk_at dksX4_howLong_0 7 rfl rfl)
theorem dX4_howLong_10 : decode cX4_howLong 10 = .ok (.ifCond .eq 19, 3) := dk_153 0 19 (dk_at dksX4_howLong_0 10 rfl rfl)
theorem dX4_howLong_13 : decode cX4_howLong 13 = .ok (.iload_n 2, 1) := dk_28 (dk_at dksX4_howLong_0 13 rfl rfl)
theorem dX4_howLong_14 : decode cX4_howLong 14 = .ok (.invokestatic 149, 3) := dk_184 0 149 (dk_at dksX4_howLong_0 14 rfl rfl)
theorem dX4_howLong_17 : decode cX4_howLong 17 = .ok (.ifCond .eq 12, 3) := dk_153 0 12 (dk_at dksX4_howLong_0 17 rfl rfl)
theorem dX4_howLong_20 : decode cX4_howLong 20 = .ok (.aload_n 0, 1) := dk_42 (dk_at dksX4_howLong_0 20 rfl rfl)
theorem dX4_howLong_21 : decode cX4_howLong 21 = .ok (.iload_n 1, 1) := dk_27 (dk_at dksX4_howLong_0 21 rfl rfl)
theorem dX4_howLong_22 : decode cX4_howLong 22 = .ok (.iload_n 2, 1) := dk_28 (dk_at dksX4_howLong_0 22 rfl rfl)
theorem dX4_howLong_23 : decode cX4_howLong 23 = .ok (.invokevirtual 215, 3) := dk_182 0 215 (dk_at dksX4_howLong_1 0 rfl rfl)
theorem dX4_howLong_26 : decode cX4_howLong 26 = .ok (.goto 4, 3) := dk_167 0 4 (dk_at dksX4_howLong_1 3 rfl rfl)
theorem dX4_howLong_29 : decode cX4_howLong 29 = .ok (.iconst (-1), 1) := dk_2 (dk_at dksX4_howLong_1 6 rfl rfl)
theorem dX4_howLong_30 : decode cX4_howLong 30 = .ok (.ireturn, 1) := dk_172 (dk_at dksX4_howLong_1 7 rfl rfl)
abbrev cX4_ownRide : ByteArray := prog_21_method_42_code
def yX4_ownRide : MethodName := ⟨RX4, "ownRide", "(II)I"⟩
def dkwX4_ownRide_0 : List UInt8 := [42, 182, 0, 177, 42, 27, 28, 182, 0, 165, 62, 42, 182, 0, 183, 29, 172]
abbrev dktX4_ownRide_0 : List UInt8 := dkwX4_ownRide_0 ++ []
theorem dksX4_ownRide_0 : cX4_ownRide.data.toList.drop 0 = dktX4_ownRide_0 := by decide +kernel
theorem dX4_ownRide_0 : decode cX4_ownRide 0 = .ok (.aload_n 0, 1) := dk_42 (dk_at dksX4_ownRide_0 0 rfl rfl)
theorem dX4_ownRide_1 : decode cX4_ownRide 1 = .ok (.invokevirtual 177, 3) := dk_182 0 177 (dk_at dksX4_ownRide_0 1 rfl rfl)
theorem dX4_ownRide_4 : decode cX4_ownRide 4 = .ok (.aload_n 0, 1) := dk_42 (dk_at dksX4_ownRide_0 4 rfl rfl)
theorem dX4_ownRide_5 : decode cX4_ownRide 5 = .ok (.iload_n 1, 1) := dk_27 (dk_at dksX4_ownRide_0 5 rfl rfl)
theorem dX4_ownRide_6 : decode cX4_ownRide 6 = .ok (.iload_n 2, 1) := dk_28 (dk_at dksX4_ownRide_0 6 rfl rfl)
theorem dX4_ownRide_7 : decode cX4_ownRide 7 = .ok (.invokevirtual 165, 3) := dk_182 0 165 (dk_at dksX4_ownRide_0 7 rfl rfl)
theorem dX4_ownRide_10 : decode cX4_ownRide 10 = .ok (.istore_n 3, 1) := dk_62 (dk_at dksX4_ownRide_0 10 rfl rfl)
theorem dX4_ownRide_11 : decode cX4_ownRide 11 = .ok (.aload_n 0, 1) := dk_42 (dk_at dksX4_ownRide_0 11 rfl rfl)
theorem dX4_ownRide_12 : decode cX4_ownRide 12 = .ok (.invokevirtual 183, 3) := dk_182 0 183 (dk_at dksX4_ownRide_0 12 rfl rfl)
theorem dX4_ownRide_15 : decode cX4_ownRide 15 = .ok (.iload_n 3, 1) := dk_29 (dk_at dksX4_ownRide_0 15 rfl rfl)
theorem dX4_ownRide_16 : decode cX4_ownRide 16 = .ok (.ireturn, 1) := dk_172 (dk_at dksX4_ownRide_0 16 rfl rfl)
abbrev cX4_behind : ByteArray := prog_21_method_44_code
def yX4_behind : MethodName := ⟨RX4, "behind", "(III)I"⟩
def dkwX4_behind_3 : List UInt8 := [21, 4, 172]
abbrev dktX4_behind_3 : List UInt8 := dkwX4_behind_3 ++ []
def dkwX4_behind_2 : List UInt8 := [29, 154, 0, 12, 42, 180, 0, 22, 27, 46, 167, 0, 8, 42, 27, 182, 0, 108, 54, 4, 42, 182, 0, 183]
abbrev dktX4_behind_2 : List UInt8 := dkwX4_behind_2 ++ dktX4_behind_3
def dkwX4_behind_1 : List UInt8 := [153, 0, 13, 29, 133, 9, 10, 184, 0, 77, 154, 0, 5, 2, 172, 42, 182, 0, 177, 42, 28, 182, 0, 154]
abbrev dktX4_behind_1 : List UInt8 := dkwX4_behind_1 ++ dktX4_behind_2
def dkwX4_behind_0 : List UInt8 := [42, 3, 181, 0, 71, 42, 27, 182, 0, 162, 153, 0, 25, 28, 133, 9, 20, 0, 152, 184, 0, 77]
abbrev dktX4_behind_0 : List UInt8 := dkwX4_behind_0 ++ dktX4_behind_1
theorem dksX4_behind_0 : cX4_behind.data.toList.drop 0 = dktX4_behind_0 := by decide +kernel
theorem dksX4_behind_1 : cX4_behind.data.toList.drop 22 = dktX4_behind_1 := dk_seg dksX4_behind_0 22 rfl rfl
theorem dksX4_behind_2 : cX4_behind.data.toList.drop 46 = dktX4_behind_2 := dk_seg dksX4_behind_1 24 rfl rfl
theorem dksX4_behind_3 : cX4_behind.data.toList.drop 70 = dktX4_behind_3 := dk_seg dksX4_behind_2 24 rfl rfl
theorem dX4_behind_0 : decode cX4_behind 0 = .ok (.aload_n 0, 1) := dk_42 (dk_at dksX4_behind_0 0 rfl rfl)
theorem dX4_behind_1 : decode cX4_behind 1 = .ok (.iconst 0, 1) := dk_3 (dk_at dksX4_behind_0 1 rfl rfl)
theorem dX4_behind_2 : decode cX4_behind 2 = .ok (.putfield 71, 3) := dk_181 0 71 (dk_at dksX4_behind_0 2 rfl rfl)
theorem dX4_behind_5 : decode cX4_behind 5 = .ok (.aload_n 0, 1) := dk_42 (dk_at dksX4_behind_0 5 rfl rfl)
theorem dX4_behind_6 : decode cX4_behind 6 = .ok (.iload_n 1, 1) := dk_27 (dk_at dksX4_behind_0 6 rfl rfl)
theorem dX4_behind_7 : decode cX4_behind 7 = .ok (.invokevirtual 162, 3) := dk_182 0 162 (dk_at dksX4_behind_0 7 rfl rfl)
theorem dX4_behind_10 : decode cX4_behind 10 = .ok (.ifCond .eq 25, 3) := dk_153 0 25 (dk_at dksX4_behind_0 10 rfl rfl)
theorem dX4_behind_13 : decode cX4_behind 13 = .ok (.iload_n 2, 1) := dk_28 (dk_at dksX4_behind_0 13 rfl rfl)
theorem dX4_behind_14 : decode cX4_behind 14 = .ok (.i2l, 1) := dk_133 (dk_at dksX4_behind_0 14 rfl rfl)
theorem dX4_behind_15 : decode cX4_behind 15 = .ok (.lconst 0, 1) := dk_9 (dk_at dksX4_behind_0 15 rfl rfl)
theorem dX4_behind_16 : decode cX4_behind 16 = .ok (.ldc2_w 152, 3) := dk_20 0 152 (dk_at dksX4_behind_0 16 rfl rfl)
theorem dX4_behind_19 : decode cX4_behind 19 = .ok (.invokestatic 77, 3) := dk_184 0 77 (dk_at dksX4_behind_0 19 rfl rfl)
theorem dX4_behind_22 : decode cX4_behind 22 = .ok (.ifCond .eq 13, 3) := dk_153 0 13 (dk_at dksX4_behind_1 0 rfl rfl)
theorem dX4_behind_25 : decode cX4_behind 25 = .ok (.iload_n 3, 1) := dk_29 (dk_at dksX4_behind_1 3 rfl rfl)
theorem dX4_behind_26 : decode cX4_behind 26 = .ok (.i2l, 1) := dk_133 (dk_at dksX4_behind_1 4 rfl rfl)
theorem dX4_behind_27 : decode cX4_behind 27 = .ok (.lconst 0, 1) := dk_9 (dk_at dksX4_behind_1 5 rfl rfl)
theorem dX4_behind_28 : decode cX4_behind 28 = .ok (.lconst 1, 1) := dk_10 (dk_at dksX4_behind_1 6 rfl rfl)
theorem dX4_behind_29 : decode cX4_behind 29 = .ok (.invokestatic 77, 3) := dk_184 0 77 (dk_at dksX4_behind_1 7 rfl rfl)
theorem dX4_behind_32 : decode cX4_behind 32 = .ok (.ifCond .ne 5, 3) := dk_154 0 5 (dk_at dksX4_behind_1 10 rfl rfl)
theorem dX4_behind_35 : decode cX4_behind 35 = .ok (.iconst (-1), 1) := dk_2 (dk_at dksX4_behind_1 13 rfl rfl)
theorem dX4_behind_36 : decode cX4_behind 36 = .ok (.ireturn, 1) := dk_172 (dk_at dksX4_behind_1 14 rfl rfl)
theorem dX4_behind_37 : decode cX4_behind 37 = .ok (.aload_n 0, 1) := dk_42 (dk_at dksX4_behind_1 15 rfl rfl)
theorem dX4_behind_38 : decode cX4_behind 38 = .ok (.invokevirtual 177, 3) := dk_182 0 177 (dk_at dksX4_behind_1 16 rfl rfl)
theorem dX4_behind_41 : decode cX4_behind 41 = .ok (.aload_n 0, 1) := dk_42 (dk_at dksX4_behind_1 19 rfl rfl)
theorem dX4_behind_42 : decode cX4_behind 42 = .ok (.iload_n 2, 1) := dk_28 (dk_at dksX4_behind_1 20 rfl rfl)
theorem dX4_behind_43 : decode cX4_behind 43 = .ok (.invokevirtual 154, 3) := dk_182 0 154 (dk_at dksX4_behind_1 21 rfl rfl)
theorem dX4_behind_46 : decode cX4_behind 46 = .ok (.iload_n 3, 1) := dk_29 (dk_at dksX4_behind_2 0 rfl rfl)
theorem dX4_behind_47 : decode cX4_behind 47 = .ok (.ifCond .ne 12, 3) := dk_154 0 12 (dk_at dksX4_behind_2 1 rfl rfl)
theorem dX4_behind_50 : decode cX4_behind 50 = .ok (.aload_n 0, 1) := dk_42 (dk_at dksX4_behind_2 4 rfl rfl)
theorem dX4_behind_51 : decode cX4_behind 51 = .ok (.getfield 22, 3) := dk_180 0 22 (dk_at dksX4_behind_2 5 rfl rfl)
theorem dX4_behind_54 : decode cX4_behind 54 = .ok (.iload_n 1, 1) := dk_27 (dk_at dksX4_behind_2 8 rfl rfl)
theorem dX4_behind_55 : decode cX4_behind 55 = .ok (.iaload, 1) := dk_46 (dk_at dksX4_behind_2 9 rfl rfl)
theorem dX4_behind_56 : decode cX4_behind 56 = .ok (.goto 8, 3) := dk_167 0 8 (dk_at dksX4_behind_2 10 rfl rfl)
theorem dX4_behind_59 : decode cX4_behind 59 = .ok (.aload_n 0, 1) := dk_42 (dk_at dksX4_behind_2 13 rfl rfl)
theorem dX4_behind_60 : decode cX4_behind 60 = .ok (.iload_n 1, 1) := dk_27 (dk_at dksX4_behind_2 14 rfl rfl)
theorem dX4_behind_61 : decode cX4_behind 61 = .ok (.invokevirtual 108, 3) := dk_182 0 108 (dk_at dksX4_behind_2 15 rfl rfl)
theorem dX4_behind_64 : decode cX4_behind 64 = .ok (.istore 4, 2) := dk_54 4 (dk_at dksX4_behind_2 18 rfl rfl)
theorem dX4_behind_66 : decode cX4_behind 66 = .ok (.aload_n 0, 1) := dk_42 (dk_at dksX4_behind_2 20 rfl rfl)
theorem dX4_behind_67 : decode cX4_behind 67 = .ok (.invokevirtual 183, 3) := dk_182 0 183 (dk_at dksX4_behind_2 21 rfl rfl)
theorem dX4_behind_70 : decode cX4_behind 70 = .ok (.iload 4, 2) := dk_21 4 (dk_at dksX4_behind_3 0 rfl rfl)
theorem dX4_behind_72 : decode cX4_behind 72 = .ok (.ireturn, 1) := dk_172 (dk_at dksX4_behind_3 2 rfl rfl)
abbrev cX4_chain : ByteArray := prog_21_method_48_code
def yX4_chain : MethodName := ⟨RX4, "chain", "(III)I"⟩
def dkwX4_chain_7 : List UInt8 := [167, 0, 7, 42, 180, 0, 221, 172]
abbrev dktX4_chain_7 : List UInt8 := dkwX4_chain_7 ++ []
def dkwX4_chain_6 : List UInt8 := [21, 5, 182, 0, 231, 42, 182, 0, 183, 132, 4, 1, 167, 255, 164, 29, 154, 0, 10, 42, 180, 0, 218]
abbrev dktX4_chain_6 : List UInt8 := dkwX4_chain_6 ++ dktX4_chain_7
def dkwX4_chain_5 : List UInt8 := [21, 6, 28, 160, 0, 14, 42, 21, 7, 21, 5, 182, 0, 224, 167, 0, 14, 42, 21, 6, 28, 21, 7]
abbrev dktX4_chain_5 : List UInt8 := dkwX4_chain_5 ++ dktX4_chain_6
def dkwX4_chain_4 : List UInt8 := [27, 160, 0, 55, 21, 6, 27, 159, 0, 49, 42, 182, 0, 177, 42, 21, 5, 21, 6, 182, 0, 165, 54, 7]
abbrev dktX4_chain_4 : List UInt8 := dkwX4_chain_4 ++ dktX4_chain_5
def dkwX4_chain_3 : List UInt8 := [162, 0, 86, 21, 4, 16, 21, 108, 54, 5, 21, 4, 16, 21, 112, 54, 6, 42, 180, 0, 19, 21, 5, 46]
abbrev dktX4_chain_3 : List UInt8 := dkwX4_chain_3 ++ dktX4_chain_4
def dkwX4_chain_2 : List UInt8 := [42, 16, 252, 181, 0, 218, 42, 16, 252, 181, 0, 221, 3, 54, 4, 21, 4, 16, 21, 42, 180, 0, 81, 104]
abbrev dktX4_chain_2 : List UInt8 := dkwX4_chain_2 ++ dktX4_chain_3
def dkwX4_chain_1 : List UInt8 := [184, 0, 77, 154, 0, 5, 2, 172, 27, 28, 160, 0, 14, 29, 154, 0, 7, 3, 167, 0, 5, 16, 252, 172]
abbrev dktX4_chain_1 : List UInt8 := dkwX4_chain_1 ++ dktX4_chain_2
def dkwX4_chain_0 : List UInt8 := [42, 3, 181, 0, 71, 27, 184, 0, 149, 153, 0, 20, 28, 184, 0, 149, 153, 0, 13, 29, 133, 9, 10]
abbrev dktX4_chain_0 : List UInt8 := dkwX4_chain_0 ++ dktX4_chain_1
theorem dksX4_chain_0 : cX4_chain.data.toList.drop 0 = dktX4_chain_0 := by decide +kernel
theorem dksX4_chain_1 : cX4_chain.data.toList.drop 23 = dktX4_chain_1 := dk_seg dksX4_chain_0 23 rfl rfl
theorem dksX4_chain_2 : cX4_chain.data.toList.drop 47 = dktX4_chain_2 := dk_seg dksX4_chain_1 24 rfl rfl
theorem dksX4_chain_3 : cX4_chain.data.toList.drop 71 = dktX4_chain_3 := dk_seg dksX4_chain_2 24 rfl rfl
theorem dksX4_chain_4 : cX4_chain.data.toList.drop 95 = dktX4_chain_4 := dk_seg dksX4_chain_3 24 rfl rfl
theorem dksX4_chain_5 : cX4_chain.data.toList.drop 119 = dktX4_chain_5 := dk_seg dksX4_chain_4 24 rfl rfl
theorem dksX4_chain_6 : cX4_chain.data.toList.drop 142 = dktX4_chain_6 := dk_seg dksX4_chain_5 23 rfl rfl
theorem dksX4_chain_7 : cX4_chain.data.toList.drop 165 = dktX4_chain_7 := dk_seg dksX4_chain_6 23 rfl rfl
theorem dX4_chain_0 : decode cX4_chain 0 = .ok (.aload_n 0, 1) := dk_42 (dk_at dksX4_chain_0 0 rfl rfl)
theorem dX4_chain_1 : decode cX4_chain 1 = .ok (.iconst 0, 1) := dk_3 (dk_at dksX4_chain_0 1 rfl rfl)
theorem dX4_chain_2 : decode cX4_chain 2 = .ok (.putfield 71, 3) := dk_181 0 71 (dk_at dksX4_chain_0 2 rfl rfl)
theorem dX4_chain_5 : decode cX4_chain 5 = .ok (.iload_n 1, 1) := dk_27 (dk_at dksX4_chain_0 5 rfl rfl)
theorem dX4_chain_6 : decode cX4_chain 6 = .ok (.invokestatic 149, 3) := dk_184 0 149 (dk_at dksX4_chain_0 6 rfl rfl)
theorem dX4_chain_9 : decode cX4_chain 9 = .ok (.ifCond .eq 20, 3) := dk_153 0 20 (dk_at dksX4_chain_0 9 rfl rfl)
theorem dX4_chain_12 : decode cX4_chain 12 = .ok (.iload_n 2, 1) := dk_28 (dk_at dksX4_chain_0 12 rfl rfl)
theorem dX4_chain_13 : decode cX4_chain 13 = .ok (.invokestatic 149, 3) := dk_184 0 149 (dk_at dksX4_chain_0 13 rfl rfl)
theorem dX4_chain_16 : decode cX4_chain 16 = .ok (.ifCond .eq 13, 3) := dk_153 0 13 (dk_at dksX4_chain_0 16 rfl rfl)
theorem dX4_chain_19 : decode cX4_chain 19 = .ok (.iload_n 3, 1) := dk_29 (dk_at dksX4_chain_0 19 rfl rfl)
theorem dX4_chain_20 : decode cX4_chain 20 = .ok (.i2l, 1) := dk_133 (dk_at dksX4_chain_0 20 rfl rfl)
theorem dX4_chain_21 : decode cX4_chain 21 = .ok (.lconst 0, 1) := dk_9 (dk_at dksX4_chain_0 21 rfl rfl)
theorem dX4_chain_22 : decode cX4_chain 22 = .ok (.lconst 1, 1) := dk_10 (dk_at dksX4_chain_0 22 rfl rfl)
theorem dX4_chain_23 : decode cX4_chain 23 = .ok (.invokestatic 77, 3) := dk_184 0 77 (dk_at dksX4_chain_1 0 rfl rfl)
theorem dX4_chain_26 : decode cX4_chain 26 = .ok (.ifCond .ne 5, 3) := dk_154 0 5 (dk_at dksX4_chain_1 3 rfl rfl)
theorem dX4_chain_29 : decode cX4_chain 29 = .ok (.iconst (-1), 1) := dk_2 (dk_at dksX4_chain_1 6 rfl rfl)
theorem dX4_chain_30 : decode cX4_chain 30 = .ok (.ireturn, 1) := dk_172 (dk_at dksX4_chain_1 7 rfl rfl)
theorem dX4_chain_31 : decode cX4_chain 31 = .ok (.iload_n 1, 1) := dk_27 (dk_at dksX4_chain_1 8 rfl rfl)
theorem dX4_chain_32 : decode cX4_chain 32 = .ok (.iload_n 2, 1) := dk_28 (dk_at dksX4_chain_1 9 rfl rfl)
theorem dX4_chain_33 : decode cX4_chain 33 = .ok (.if_icmp .ne 14, 3) := dk_160 0 14 (dk_at dksX4_chain_1 10 rfl rfl)
theorem dX4_chain_36 : decode cX4_chain 36 = .ok (.iload_n 3, 1) := dk_29 (dk_at dksX4_chain_1 13 rfl rfl)
theorem dX4_chain_37 : decode cX4_chain 37 = .ok (.ifCond .ne 7, 3) := dk_154 0 7 (dk_at dksX4_chain_1 14 rfl rfl)
theorem dX4_chain_40 : decode cX4_chain 40 = .ok (.iconst 0, 1) := dk_3 (dk_at dksX4_chain_1 17 rfl rfl)
theorem dX4_chain_41 : decode cX4_chain 41 = .ok (.goto 5, 3) := dk_167 0 5 (dk_at dksX4_chain_1 18 rfl rfl)
theorem dX4_chain_44 : decode cX4_chain 44 = .ok (.bipush (-4), 2) := dk_16 252 (dk_at dksX4_chain_1 21 rfl rfl)
theorem dX4_chain_46 : decode cX4_chain 46 = .ok (.ireturn, 1) := dk_172 (dk_at dksX4_chain_1 23 rfl rfl)
theorem dX4_chain_47 : decode cX4_chain 47 = .ok (.aload_n 0, 1) := dk_42 (dk_at dksX4_chain_2 0 rfl rfl)
theorem dX4_chain_48 : decode cX4_chain 48 = .ok (.bipush (-4), 2) := dk_16 252 (dk_at dksX4_chain_2 1 rfl rfl)
theorem dX4_chain_50 : decode cX4_chain 50 = .ok (.putfield 218, 3) := dk_181 0 218 (dk_at dksX4_chain_2 3 rfl rfl)
theorem dX4_chain_53 : decode cX4_chain 53 = .ok (.aload_n 0, 1) := dk_42 (dk_at dksX4_chain_2 6 rfl rfl)
theorem dX4_chain_54 : decode cX4_chain 54 = .ok (.bipush (-4), 2) := dk_16 252 (dk_at dksX4_chain_2 7 rfl rfl)
theorem dX4_chain_56 : decode cX4_chain 56 = .ok (.putfield 221, 3) := dk_181 0 221 (dk_at dksX4_chain_2 9 rfl rfl)
theorem dX4_chain_59 : decode cX4_chain 59 = .ok (.iconst 0, 1) := dk_3 (dk_at dksX4_chain_2 12 rfl rfl)
theorem dX4_chain_60 : decode cX4_chain 60 = .ok (.istore 4, 2) := dk_54 4 (dk_at dksX4_chain_2 13 rfl rfl)
theorem dX4_chain_62 : decode cX4_chain 62 = .ok (.iload 4, 2) := dk_21 4 (dk_at dksX4_chain_2 15 rfl rfl)
theorem dX4_chain_64 : decode cX4_chain 64 = .ok (.bipush 21, 2) := dk_16 21 (dk_at dksX4_chain_2 17 rfl rfl)
theorem dX4_chain_66 : decode cX4_chain 66 = .ok (.aload_n 0, 1) := dk_42 (dk_at dksX4_chain_2 19 rfl rfl)
theorem dX4_chain_67 : decode cX4_chain 67 = .ok (.getfield 81, 3) := dk_180 0 81 (dk_at dksX4_chain_2 20 rfl rfl)
theorem dX4_chain_70 : decode cX4_chain 70 = .ok (.imul, 1) := dk_104 (dk_at dksX4_chain_2 23 rfl rfl)
theorem dX4_chain_71 : decode cX4_chain 71 = .ok (.if_icmp .ge 86, 3) := dk_162 0 86 (dk_at dksX4_chain_3 0 rfl rfl)
theorem dX4_chain_74 : decode cX4_chain 74 = .ok (.iload 4, 2) := dk_21 4 (dk_at dksX4_chain_3 3 rfl rfl)
theorem dX4_chain_76 : decode cX4_chain 76 = .ok (.bipush 21, 2) := dk_16 21 (dk_at dksX4_chain_3 5 rfl rfl)
theorem dX4_chain_78 : decode cX4_chain 78 = .ok (.idiv, 1) := dk_108 (dk_at dksX4_chain_3 7 rfl rfl)
theorem dX4_chain_79 : decode cX4_chain 79 = .ok (.istore 5, 2) := dk_54 5 (dk_at dksX4_chain_3 8 rfl rfl)
theorem dX4_chain_81 : decode cX4_chain 81 = .ok (.iload 4, 2) := dk_21 4 (dk_at dksX4_chain_3 10 rfl rfl)
theorem dX4_chain_83 : decode cX4_chain 83 = .ok (.bipush 21, 2) := dk_16 21 (dk_at dksX4_chain_3 12 rfl rfl)
theorem dX4_chain_85 : decode cX4_chain 85 = .ok (.irem, 1) := dk_112 (dk_at dksX4_chain_3 14 rfl rfl)
theorem dX4_chain_86 : decode cX4_chain 86 = .ok (.istore 6, 2) := dk_54 6 (dk_at dksX4_chain_3 15 rfl rfl)
theorem dX4_chain_88 : decode cX4_chain 88 = .ok (.aload_n 0, 1) := dk_42 (dk_at dksX4_chain_3 17 rfl rfl)
theorem dX4_chain_89 : decode cX4_chain 89 = .ok (.getfield 19, 3) := dk_180 0 19 (dk_at dksX4_chain_3 18 rfl rfl)
theorem dX4_chain_92 : decode cX4_chain 92 = .ok (.iload 5, 2) := dk_21 5 (dk_at dksX4_chain_3 21 rfl rfl)
theorem dX4_chain_94 : decode cX4_chain 94 = .ok (.iaload, 1) := dk_46 (dk_at dksX4_chain_3 23 rfl rfl)
theorem dX4_chain_95 : decode cX4_chain 95 = .ok (.iload_n 1, 1) := dk_27 (dk_at dksX4_chain_4 0 rfl rfl)
theorem dX4_chain_96 : decode cX4_chain 96 = .ok (.if_icmp .ne 55, 3) := dk_160 0 55 (dk_at dksX4_chain_4 1 rfl rfl)
theorem dX4_chain_99 : decode cX4_chain 99 = .ok (.iload 6, 2) := dk_21 6 (dk_at dksX4_chain_4 4 rfl rfl)
theorem dX4_chain_101 : decode cX4_chain 101 = .ok (.iload_n 1, 1) := dk_27 (dk_at dksX4_chain_4 6 rfl rfl)
theorem dX4_chain_102 : decode cX4_chain 102 = .ok (.if_icmp .eq 49, 3) := dk_159 0 49 (dk_at dksX4_chain_4 7 rfl rfl)
theorem dX4_chain_105 : decode cX4_chain 105 = .ok (.aload_n 0, 1) := dk_42 (dk_at dksX4_chain_4 10 rfl rfl)
theorem dX4_chain_106 : decode cX4_chain 106 = .ok (.invokevirtual 177, 3) := dk_182 0 177 (dk_at dksX4_chain_4 11 rfl rfl)
theorem dX4_chain_109 : decode cX4_chain 109 = .ok (.aload_n 0, 1) := dk_42 (dk_at dksX4_chain_4 14 rfl rfl)
theorem dX4_chain_110 : decode cX4_chain 110 = .ok (.iload 5, 2) := dk_21 5 (dk_at dksX4_chain_4 15 rfl rfl)
theorem dX4_chain_112 : decode cX4_chain 112 = .ok (.iload 6, 2) := dk_21 6 (dk_at dksX4_chain_4 17 rfl rfl)
theorem dX4_chain_114 : decode cX4_chain 114 = .ok (.invokevirtual 165, 3) := dk_182 0 165 (dk_at dksX4_chain_4 19 rfl rfl)
theorem dX4_chain_117 : decode cX4_chain 117 = .ok (.istore 7, 2) := dk_54 7 (dk_at dksX4_chain_4 22 rfl rfl)
theorem dX4_chain_119 : decode cX4_chain 119 = .ok (.iload 6, 2) := dk_21 6 (dk_at dksX4_chain_5 0 rfl rfl)
theorem dX4_chain_121 : decode cX4_chain 121 = .ok (.iload_n 2, 1) := dk_28 (dk_at dksX4_chain_5 2 rfl rfl)
theorem dX4_chain_122 : decode cX4_chain 122 = .ok (.if_icmp .ne 14, 3) := dk_160 0 14 (dk_at dksX4_chain_5 3 rfl rfl)
theorem dX4_chain_125 : decode cX4_chain 125 = .ok (.aload_n 0, 1) := dk_42 (dk_at dksX4_chain_5 6 rfl rfl)
theorem dX4_chain_126 : decode cX4_chain 126 = .ok (.iload 7, 2) := dk_21 7 (dk_at dksX4_chain_5 7 rfl rfl)
theorem dX4_chain_128 : decode cX4_chain 128 = .ok (.iload 5, 2) := dk_21 5 (dk_at dksX4_chain_5 9 rfl rfl)
theorem dX4_chain_130 : decode cX4_chain 130 = .ok (.invokevirtual 224, 3) := dk_182 0 224 (dk_at dksX4_chain_5 11 rfl rfl)
theorem dX4_chain_133 : decode cX4_chain 133 = .ok (.goto 14, 3) := dk_167 0 14 (dk_at dksX4_chain_5 14 rfl rfl)
theorem dX4_chain_136 : decode cX4_chain 136 = .ok (.aload_n 0, 1) := dk_42 (dk_at dksX4_chain_5 17 rfl rfl)
theorem dX4_chain_137 : decode cX4_chain 137 = .ok (.iload 6, 2) := dk_21 6 (dk_at dksX4_chain_5 18 rfl rfl)
theorem dX4_chain_139 : decode cX4_chain 139 = .ok (.iload_n 2, 1) := dk_28 (dk_at dksX4_chain_5 20 rfl rfl)
theorem dX4_chain_140 : decode cX4_chain 140 = .ok (.iload 7, 2) := dk_21 7 (dk_at dksX4_chain_5 21 rfl rfl)
theorem dX4_chain_142 : decode cX4_chain 142 = .ok (.iload 5, 2) := dk_21 5 (dk_at dksX4_chain_6 0 rfl rfl)
theorem dX4_chain_144 : decode cX4_chain 144 = .ok (.invokevirtual 231, 3) := dk_182 0 231 (dk_at dksX4_chain_6 2 rfl rfl)
theorem dX4_chain_147 : decode cX4_chain 147 = .ok (.aload_n 0, 1) := dk_42 (dk_at dksX4_chain_6 5 rfl rfl)
theorem dX4_chain_148 : decode cX4_chain 148 = .ok (.invokevirtual 183, 3) := dk_182 0 183 (dk_at dksX4_chain_6 6 rfl rfl)
theorem dX4_chain_151 : decode cX4_chain 151 = .ok (.iinc 4 1, 3) := dk_132 4 1 (dk_at dksX4_chain_6 9 rfl rfl)
theorem dX4_chain_154 : decode cX4_chain 154 = .ok (.goto (-92), 3) := dk_167 255 164 (dk_at dksX4_chain_6 12 rfl rfl)
theorem dX4_chain_157 : decode cX4_chain 157 = .ok (.iload_n 3, 1) := dk_29 (dk_at dksX4_chain_6 15 rfl rfl)
theorem dX4_chain_158 : decode cX4_chain 158 = .ok (.ifCond .ne 10, 3) := dk_154 0 10 (dk_at dksX4_chain_6 16 rfl rfl)
theorem dX4_chain_161 : decode cX4_chain 161 = .ok (.aload_n 0, 1) := dk_42 (dk_at dksX4_chain_6 19 rfl rfl)
theorem dX4_chain_162 : decode cX4_chain 162 = .ok (.getfield 218, 3) := dk_180 0 218 (dk_at dksX4_chain_6 20 rfl rfl)
theorem dX4_chain_165 : decode cX4_chain 165 = .ok (.goto 7, 3) := dk_167 0 7 (dk_at dksX4_chain_7 0 rfl rfl)
theorem dX4_chain_168 : decode cX4_chain 168 = .ok (.aload_n 0, 1) := dk_42 (dk_at dksX4_chain_7 3 rfl rfl)
theorem dX4_chain_169 : decode cX4_chain 169 = .ok (.getfield 221, 3) := dk_180 0 221 (dk_at dksX4_chain_7 4 rfl rfl)
theorem dX4_chain_172 : decode cX4_chain 172 = .ok (.ireturn, 1) := dk_172 (dk_at dksX4_chain_7 7 rfl rfl)
abbrev cX4_takeChain : ByteArray := prog_21_method_45_code
def yX4_takeChain : MethodName := ⟨RX4, "takeChain", "(II)V"⟩
def dkwX4_takeChain_1 : List UInt8 := [181, 0, 221, 177]
abbrev dktX4_takeChain_1 : List UInt8 := dkwX4_takeChain_1 ++ []
def dkwX4_takeChain_0 : List UInt8 := [42, 180, 0, 218, 155, 0, 11, 27, 42, 180, 0, 218, 162, 0, 13, 42, 27, 181, 0, 218, 42, 28]
abbrev dktX4_takeChain_0 : List UInt8 := dkwX4_takeChain_0 ++ dktX4_takeChain_1
theorem dksX4_takeChain_0 : cX4_takeChain.data.toList.drop 0 = dktX4_takeChain_0 := by decide +kernel
theorem dksX4_takeChain_1 : cX4_takeChain.data.toList.drop 22 = dktX4_takeChain_1 := dk_seg dksX4_takeChain_0 22 rfl rfl
theorem dX4_takeChain_0 : decode cX4_takeChain 0 = .ok (.aload_n 0, 1) := dk_42 (dk_at dksX4_takeChain_0 0 rfl rfl)
theorem dX4_takeChain_1 : decode cX4_takeChain 1 = .ok (.getfield 218, 3) := dk_180 0 218 (dk_at dksX4_takeChain_0 1 rfl rfl)
theorem dX4_takeChain_4 : decode cX4_takeChain 4 = .ok (.ifCond .lt 11, 3) := dk_155 0 11 (dk_at dksX4_takeChain_0 4 rfl rfl)
theorem dX4_takeChain_7 : decode cX4_takeChain 7 = .ok (.iload_n 1, 1) := dk_27 (dk_at dksX4_takeChain_0 7 rfl rfl)
theorem dX4_takeChain_8 : decode cX4_takeChain 8 = .ok (.aload_n 0, 1) := dk_42 (dk_at dksX4_takeChain_0 8 rfl rfl)
theorem dX4_takeChain_9 : decode cX4_takeChain 9 = .ok (.getfield 218, 3) := dk_180 0 218 (dk_at dksX4_takeChain_0 9 rfl rfl)
theorem dX4_takeChain_12 : decode cX4_takeChain 12 = .ok (.if_icmp .ge 13, 3) := dk_162 0 13 (dk_at dksX4_takeChain_0 12 rfl rfl)
theorem dX4_takeChain_15 : decode cX4_takeChain 15 = .ok (.aload_n 0, 1) := dk_42 (dk_at dksX4_takeChain_0 15 rfl rfl)
theorem dX4_takeChain_16 : decode cX4_takeChain 16 = .ok (.iload_n 1, 1) := dk_27 (dk_at dksX4_takeChain_0 16 rfl rfl)
theorem dX4_takeChain_17 : decode cX4_takeChain 17 = .ok (.putfield 218, 3) := dk_181 0 218 (dk_at dksX4_takeChain_0 17 rfl rfl)
theorem dX4_takeChain_20 : decode cX4_takeChain 20 = .ok (.aload_n 0, 1) := dk_42 (dk_at dksX4_takeChain_0 20 rfl rfl)
theorem dX4_takeChain_21 : decode cX4_takeChain 21 = .ok (.iload_n 2, 1) := dk_28 (dk_at dksX4_takeChain_0 21 rfl rfl)
theorem dX4_takeChain_22 : decode cX4_takeChain 22 = .ok (.putfield 221, 3) := dk_181 0 221 (dk_at dksX4_takeChain_1 0 rfl rfl)
theorem dX4_takeChain_25 : decode cX4_takeChain 25 = .ok (.return_, 1) := dk_177 (dk_at dksX4_takeChain_1 3 rfl rfl)
abbrev cX4_secondRides : ByteArray := prog_21_method_47_code
def yX4_secondRides : MethodName := ⟨RX4, "secondRides", "(IIII)V"⟩
def dkwX4_secondRides_5 : List UInt8 := [177]
abbrev dktX4_secondRides_5 : List UInt8 := dkwX4_secondRides_5 ++ []
def dkwX4_secondRides_4 : List UInt8 := [21, 8, 21, 4, 21, 6, 182, 0, 227, 42, 42, 180, 0, 56, 3, 182, 0, 198, 132, 5, 1, 167, 255, 143]
abbrev dktX4_secondRides_4 : List UInt8 := dkwX4_secondRides_4 ++ dktX4_secondRides_5
def dkwX4_secondRides_3 : List UInt8 := [96, 54, 8, 21, 7, 28, 160, 0, 14, 42, 21, 8, 21, 4, 182, 0, 224, 167, 0, 16, 42, 21, 7, 28]
abbrev dktX4_secondRides_3 : List UInt8 := dkwX4_secondRides_3 ++ dktX4_secondRides_4
def dkwX4_secondRides_2 : List UInt8 := [21, 7, 27, 159, 0, 63, 42, 42, 180, 0, 56, 4, 182, 0, 198, 29, 42, 21, 6, 21, 7, 182, 0, 165]
abbrev dktX4_secondRides_2 : List UInt8 := dkwX4_secondRides_2 ++ dktX4_secondRides_3
def dkwX4_secondRides_1 : List UInt8 := [16, 21, 112, 54, 7, 21, 6, 21, 4, 159, 0, 80, 42, 180, 0, 19, 21, 6, 46, 27, 160, 0, 69]
abbrev dktX4_secondRides_1 : List UInt8 := dkwX4_secondRides_1 ++ dktX4_secondRides_2
def dkwX4_secondRides_0 : List UInt8 := [3, 54, 5, 21, 5, 16, 21, 42, 180, 0, 81, 104, 162, 0, 107, 21, 5, 16, 21, 108, 54, 6, 21, 5]
abbrev dktX4_secondRides_0 : List UInt8 := dkwX4_secondRides_0 ++ dktX4_secondRides_1
theorem dksX4_secondRides_0 : cX4_secondRides.data.toList.drop 0 = dktX4_secondRides_0 := by decide +kernel
theorem dksX4_secondRides_1 : cX4_secondRides.data.toList.drop 24 = dktX4_secondRides_1 := dk_seg dksX4_secondRides_0 24 rfl rfl
theorem dksX4_secondRides_2 : cX4_secondRides.data.toList.drop 47 = dktX4_secondRides_2 := dk_seg dksX4_secondRides_1 23 rfl rfl
theorem dksX4_secondRides_3 : cX4_secondRides.data.toList.drop 71 = dktX4_secondRides_3 := dk_seg dksX4_secondRides_2 24 rfl rfl
theorem dksX4_secondRides_4 : cX4_secondRides.data.toList.drop 95 = dktX4_secondRides_4 := dk_seg dksX4_secondRides_3 24 rfl rfl
theorem dksX4_secondRides_5 : cX4_secondRides.data.toList.drop 119 = dktX4_secondRides_5 := dk_seg dksX4_secondRides_4 24 rfl rfl
theorem dX4_secondRides_0 : decode cX4_secondRides 0 = .ok (.iconst 0, 1) := dk_3 (dk_at dksX4_secondRides_0 0 rfl rfl)
theorem dX4_secondRides_1 : decode cX4_secondRides 1 = .ok (.istore 5, 2) := dk_54 5 (dk_at dksX4_secondRides_0 1 rfl rfl)
theorem dX4_secondRides_3 : decode cX4_secondRides 3 = .ok (.iload 5, 2) := dk_21 5 (dk_at dksX4_secondRides_0 3 rfl rfl)
theorem dX4_secondRides_5 : decode cX4_secondRides 5 = .ok (.bipush 21, 2) := dk_16 21 (dk_at dksX4_secondRides_0 5 rfl rfl)
theorem dX4_secondRides_7 : decode cX4_secondRides 7 = .ok (.aload_n 0, 1) := dk_42 (dk_at dksX4_secondRides_0 7 rfl rfl)
theorem dX4_secondRides_8 : decode cX4_secondRides 8 = .ok (.getfield 81, 3) := dk_180 0 81 (dk_at dksX4_secondRides_0 8 rfl rfl)
theorem dX4_secondRides_11 : decode cX4_secondRides 11 = .ok (.imul, 1) := dk_104 (dk_at dksX4_secondRides_0 11 rfl rfl)
theorem dX4_secondRides_12 : decode cX4_secondRides 12 = .ok (.if_icmp .ge 107, 3) := dk_162 0 107 (dk_at dksX4_secondRides_0 12 rfl rfl)
theorem dX4_secondRides_15 : decode cX4_secondRides 15 = .ok (.iload 5, 2) := dk_21 5 (dk_at dksX4_secondRides_0 15 rfl rfl)
theorem dX4_secondRides_17 : decode cX4_secondRides 17 = .ok (.bipush 21, 2) := dk_16 21 (dk_at dksX4_secondRides_0 17 rfl rfl)
theorem dX4_secondRides_19 : decode cX4_secondRides 19 = .ok (.idiv, 1) := dk_108 (dk_at dksX4_secondRides_0 19 rfl rfl)
theorem dX4_secondRides_20 : decode cX4_secondRides 20 = .ok (.istore 6, 2) := dk_54 6 (dk_at dksX4_secondRides_0 20 rfl rfl)
theorem dX4_secondRides_22 : decode cX4_secondRides 22 = .ok (.iload 5, 2) := dk_21 5 (dk_at dksX4_secondRides_0 22 rfl rfl)
theorem dX4_secondRides_24 : decode cX4_secondRides 24 = .ok (.bipush 21, 2) := dk_16 21 (dk_at dksX4_secondRides_1 0 rfl rfl)
theorem dX4_secondRides_26 : decode cX4_secondRides 26 = .ok (.irem, 1) := dk_112 (dk_at dksX4_secondRides_1 2 rfl rfl)
theorem dX4_secondRides_27 : decode cX4_secondRides 27 = .ok (.istore 7, 2) := dk_54 7 (dk_at dksX4_secondRides_1 3 rfl rfl)
theorem dX4_secondRides_29 : decode cX4_secondRides 29 = .ok (.iload 6, 2) := dk_21 6 (dk_at dksX4_secondRides_1 5 rfl rfl)
theorem dX4_secondRides_31 : decode cX4_secondRides 31 = .ok (.iload 4, 2) := dk_21 4 (dk_at dksX4_secondRides_1 7 rfl rfl)
theorem dX4_secondRides_33 : decode cX4_secondRides 33 = .ok (.if_icmp .eq 80, 3) := dk_159 0 80 (dk_at dksX4_secondRides_1 9 rfl rfl)
theorem dX4_secondRides_36 : decode cX4_secondRides 36 = .ok (.aload_n 0, 1) := dk_42 (dk_at dksX4_secondRides_1 12 rfl rfl)
theorem dX4_secondRides_37 : decode cX4_secondRides 37 = .ok (.getfield 19, 3) := dk_180 0 19 (dk_at dksX4_secondRides_1 13 rfl rfl)
theorem dX4_secondRides_40 : decode cX4_secondRides 40 = .ok (.iload 6, 2) := dk_21 6 (dk_at dksX4_secondRides_1 16 rfl rfl)
theorem dX4_secondRides_42 : decode cX4_secondRides 42 = .ok (.iaload, 1) := dk_46 (dk_at dksX4_secondRides_1 18 rfl rfl)
theorem dX4_secondRides_43 : decode cX4_secondRides 43 = .ok (.iload_n 1, 1) := dk_27 (dk_at dksX4_secondRides_1 19 rfl rfl)
theorem dX4_secondRides_44 : decode cX4_secondRides 44 = .ok (.if_icmp .ne 69, 3) := dk_160 0 69 (dk_at dksX4_secondRides_1 20 rfl rfl)
theorem dX4_secondRides_47 : decode cX4_secondRides 47 = .ok (.iload 7, 2) := dk_21 7 (dk_at dksX4_secondRides_2 0 rfl rfl)
theorem dX4_secondRides_49 : decode cX4_secondRides 49 = .ok (.iload_n 1, 1) := dk_27 (dk_at dksX4_secondRides_2 2 rfl rfl)
theorem dX4_secondRides_50 : decode cX4_secondRides 50 = .ok (.if_icmp .eq 63, 3) := dk_159 0 63 (dk_at dksX4_secondRides_2 3 rfl rfl)
theorem dX4_secondRides_53 : decode cX4_secondRides 53 = .ok (.aload_n 0, 1) := dk_42 (dk_at dksX4_secondRides_2 6 rfl rfl)
theorem dX4_secondRides_54 : decode cX4_secondRides 54 = .ok (.aload_n 0, 1) := dk_42 (dk_at dksX4_secondRides_2 7 rfl rfl)
theorem dX4_secondRides_55 : decode cX4_secondRides 55 = .ok (.getfield 56, 3) := dk_180 0 56 (dk_at dksX4_secondRides_2 8 rfl rfl)
theorem dX4_secondRides_58 : decode cX4_secondRides 58 = .ok (.iconst 1, 1) := dk_4 (dk_at dksX4_secondRides_2 11 rfl rfl)
theorem dX4_secondRides_59 : decode cX4_secondRides 59 = .ok (.invokevirtual 198, 3) := dk_182 0 198 (dk_at dksX4_secondRides_2 12 rfl rfl)
theorem dX4_secondRides_62 : decode cX4_secondRides 62 = .ok (.iload_n 3, 1) := dk_29 (dk_at dksX4_secondRides_2 15 rfl rfl)
theorem dX4_secondRides_63 : decode cX4_secondRides 63 = .ok (.aload_n 0, 1) := dk_42 (dk_at dksX4_secondRides_2 16 rfl rfl)
theorem dX4_secondRides_64 : decode cX4_secondRides 64 = .ok (.iload 6, 2) := dk_21 6 (dk_at dksX4_secondRides_2 17 rfl rfl)
theorem dX4_secondRides_66 : decode cX4_secondRides 66 = .ok (.iload 7, 2) := dk_21 7 (dk_at dksX4_secondRides_2 19 rfl rfl)
theorem dX4_secondRides_68 : decode cX4_secondRides 68 = .ok (.invokevirtual 165, 3) := dk_182 0 165 (dk_at dksX4_secondRides_2 21 rfl rfl)
theorem dX4_secondRides_71 : decode cX4_secondRides 71 = .ok (.iadd, 1) := dk_96 (dk_at dksX4_secondRides_3 0 rfl rfl)
theorem dX4_secondRides_72 : decode cX4_secondRides 72 = .ok (.istore 8, 2) := dk_54 8 (dk_at dksX4_secondRides_3 1 rfl rfl)
theorem dX4_secondRides_74 : decode cX4_secondRides 74 = .ok (.iload 7, 2) := dk_21 7 (dk_at dksX4_secondRides_3 3 rfl rfl)
theorem dX4_secondRides_76 : decode cX4_secondRides 76 = .ok (.iload_n 2, 1) := dk_28 (dk_at dksX4_secondRides_3 5 rfl rfl)
theorem dX4_secondRides_77 : decode cX4_secondRides 77 = .ok (.if_icmp .ne 14, 3) := dk_160 0 14 (dk_at dksX4_secondRides_3 6 rfl rfl)
theorem dX4_secondRides_80 : decode cX4_secondRides 80 = .ok (.aload_n 0, 1) := dk_42 (dk_at dksX4_secondRides_3 9 rfl rfl)
theorem dX4_secondRides_81 : decode cX4_secondRides 81 = .ok (.iload 8, 2) := dk_21 8 (dk_at dksX4_secondRides_3 10 rfl rfl)
theorem dX4_secondRides_83 : decode cX4_secondRides 83 = .ok (.iload 4, 2) := dk_21 4 (dk_at dksX4_secondRides_3 12 rfl rfl)
theorem dX4_secondRides_85 : decode cX4_secondRides 85 = .ok (.invokevirtual 224, 3) := dk_182 0 224 (dk_at dksX4_secondRides_3 14 rfl rfl)
theorem dX4_secondRides_88 : decode cX4_secondRides 88 = .ok (.goto 16, 3) := dk_167 0 16 (dk_at dksX4_secondRides_3 17 rfl rfl)
theorem dX4_secondRides_91 : decode cX4_secondRides 91 = .ok (.aload_n 0, 1) := dk_42 (dk_at dksX4_secondRides_3 20 rfl rfl)
theorem dX4_secondRides_92 : decode cX4_secondRides 92 = .ok (.iload 7, 2) := dk_21 7 (dk_at dksX4_secondRides_3 21 rfl rfl)
theorem dX4_secondRides_94 : decode cX4_secondRides 94 = .ok (.iload_n 2, 1) := dk_28 (dk_at dksX4_secondRides_3 23 rfl rfl)
theorem dX4_secondRides_95 : decode cX4_secondRides 95 = .ok (.iload 8, 2) := dk_21 8 (dk_at dksX4_secondRides_4 0 rfl rfl)
theorem dX4_secondRides_97 : decode cX4_secondRides 97 = .ok (.iload 4, 2) := dk_21 4 (dk_at dksX4_secondRides_4 2 rfl rfl)
theorem dX4_secondRides_99 : decode cX4_secondRides 99 = .ok (.iload 6, 2) := dk_21 6 (dk_at dksX4_secondRides_4 4 rfl rfl)
theorem dX4_secondRides_101 : decode cX4_secondRides 101 = .ok (.invokevirtual 227, 3) := dk_182 0 227 (dk_at dksX4_secondRides_4 6 rfl rfl)
theorem dX4_secondRides_104 : decode cX4_secondRides 104 = .ok (.aload_n 0, 1) := dk_42 (dk_at dksX4_secondRides_4 9 rfl rfl)
theorem dX4_secondRides_105 : decode cX4_secondRides 105 = .ok (.aload_n 0, 1) := dk_42 (dk_at dksX4_secondRides_4 10 rfl rfl)
theorem dX4_secondRides_106 : decode cX4_secondRides 106 = .ok (.getfield 56, 3) := dk_180 0 56 (dk_at dksX4_secondRides_4 11 rfl rfl)
theorem dX4_secondRides_109 : decode cX4_secondRides 109 = .ok (.iconst 0, 1) := dk_3 (dk_at dksX4_secondRides_4 14 rfl rfl)
theorem dX4_secondRides_110 : decode cX4_secondRides 110 = .ok (.invokevirtual 198, 3) := dk_182 0 198 (dk_at dksX4_secondRides_4 15 rfl rfl)
theorem dX4_secondRides_113 : decode cX4_secondRides 113 = .ok (.iinc 5 1, 3) := dk_132 5 1 (dk_at dksX4_secondRides_4 18 rfl rfl)
theorem dX4_secondRides_116 : decode cX4_secondRides 116 = .ok (.goto (-113), 3) := dk_167 255 143 (dk_at dksX4_secondRides_4 21 rfl rfl)
theorem dX4_secondRides_119 : decode cX4_secondRides 119 = .ok (.return_, 1) := dk_177 (dk_at dksX4_secondRides_5 0 rfl rfl)
abbrev cX4_thirdRides : ByteArray := prog_21_method_46_code
def yX4_thirdRides : MethodName := ⟨RX4, "thirdRides", "(IIIII)V"⟩
def dkwX4_thirdRides_3 : List UInt8 := [132, 6, 1, 167, 255, 186, 177]
abbrev dktX4_thirdRides_3 : List UInt8 := dkwX4_thirdRides_3 ++ []
def dkwX4_thirdRides_2 : List UInt8 := [29, 42, 21, 6, 28, 182, 0, 165, 96, 21, 4, 182, 0, 224, 42, 42, 180, 0, 59, 3, 182, 0, 198]
abbrev dktX4_thirdRides_2 : List UInt8 := dkwX4_thirdRides_2 ++ dktX4_thirdRides_3
def dkwX4_thirdRides_1 : List UInt8 := [159, 0, 47, 42, 180, 0, 19, 21, 6, 46, 27, 160, 0, 36, 42, 42, 180, 0, 59, 4, 182, 0, 198, 42]
abbrev dktX4_thirdRides_1 : List UInt8 := dkwX4_thirdRides_1 ++ dktX4_thirdRides_2
def dkwX4_thirdRides_0 : List UInt8 := [3, 54, 6, 21, 6, 42, 180, 0, 81, 162, 0, 67, 21, 6, 21, 4, 159, 0, 54, 21, 6, 21, 5]
abbrev dktX4_thirdRides_0 : List UInt8 := dkwX4_thirdRides_0 ++ dktX4_thirdRides_1
theorem dksX4_thirdRides_0 : cX4_thirdRides.data.toList.drop 0 = dktX4_thirdRides_0 := by decide +kernel
theorem dksX4_thirdRides_1 : cX4_thirdRides.data.toList.drop 23 = dktX4_thirdRides_1 := dk_seg dksX4_thirdRides_0 23 rfl rfl
theorem dksX4_thirdRides_2 : cX4_thirdRides.data.toList.drop 47 = dktX4_thirdRides_2 := dk_seg dksX4_thirdRides_1 24 rfl rfl
theorem dksX4_thirdRides_3 : cX4_thirdRides.data.toList.drop 70 = dktX4_thirdRides_3 := dk_seg dksX4_thirdRides_2 23 rfl rfl
theorem dX4_thirdRides_0 : decode cX4_thirdRides 0 = .ok (.iconst 0, 1) := dk_3 (dk_at dksX4_thirdRides_0 0 rfl rfl)
theorem dX4_thirdRides_1 : decode cX4_thirdRides 1 = .ok (.istore 6, 2) := dk_54 6 (dk_at dksX4_thirdRides_0 1 rfl rfl)
theorem dX4_thirdRides_3 : decode cX4_thirdRides 3 = .ok (.iload 6, 2) := dk_21 6 (dk_at dksX4_thirdRides_0 3 rfl rfl)
theorem dX4_thirdRides_5 : decode cX4_thirdRides 5 = .ok (.aload_n 0, 1) := dk_42 (dk_at dksX4_thirdRides_0 5 rfl rfl)
theorem dX4_thirdRides_6 : decode cX4_thirdRides 6 = .ok (.getfield 81, 3) := dk_180 0 81 (dk_at dksX4_thirdRides_0 6 rfl rfl)
theorem dX4_thirdRides_9 : decode cX4_thirdRides 9 = .ok (.if_icmp .ge 67, 3) := dk_162 0 67 (dk_at dksX4_thirdRides_0 9 rfl rfl)
theorem dX4_thirdRides_12 : decode cX4_thirdRides 12 = .ok (.iload 6, 2) := dk_21 6 (dk_at dksX4_thirdRides_0 12 rfl rfl)
theorem dX4_thirdRides_14 : decode cX4_thirdRides 14 = .ok (.iload 4, 2) := dk_21 4 (dk_at dksX4_thirdRides_0 14 rfl rfl)
theorem dX4_thirdRides_16 : decode cX4_thirdRides 16 = .ok (.if_icmp .eq 54, 3) := dk_159 0 54 (dk_at dksX4_thirdRides_0 16 rfl rfl)
theorem dX4_thirdRides_19 : decode cX4_thirdRides 19 = .ok (.iload 6, 2) := dk_21 6 (dk_at dksX4_thirdRides_0 19 rfl rfl)
theorem dX4_thirdRides_21 : decode cX4_thirdRides 21 = .ok (.iload 5, 2) := dk_21 5 (dk_at dksX4_thirdRides_0 21 rfl rfl)
theorem dX4_thirdRides_23 : decode cX4_thirdRides 23 = .ok (.if_icmp .eq 47, 3) := dk_159 0 47 (dk_at dksX4_thirdRides_1 0 rfl rfl)
theorem dX4_thirdRides_26 : decode cX4_thirdRides 26 = .ok (.aload_n 0, 1) := dk_42 (dk_at dksX4_thirdRides_1 3 rfl rfl)
theorem dX4_thirdRides_27 : decode cX4_thirdRides 27 = .ok (.getfield 19, 3) := dk_180 0 19 (dk_at dksX4_thirdRides_1 4 rfl rfl)
theorem dX4_thirdRides_30 : decode cX4_thirdRides 30 = .ok (.iload 6, 2) := dk_21 6 (dk_at dksX4_thirdRides_1 7 rfl rfl)
theorem dX4_thirdRides_32 : decode cX4_thirdRides 32 = .ok (.iaload, 1) := dk_46 (dk_at dksX4_thirdRides_1 9 rfl rfl)
theorem dX4_thirdRides_33 : decode cX4_thirdRides 33 = .ok (.iload_n 1, 1) := dk_27 (dk_at dksX4_thirdRides_1 10 rfl rfl)
theorem dX4_thirdRides_34 : decode cX4_thirdRides 34 = .ok (.if_icmp .ne 36, 3) := dk_160 0 36 (dk_at dksX4_thirdRides_1 11 rfl rfl)
theorem dX4_thirdRides_37 : decode cX4_thirdRides 37 = .ok (.aload_n 0, 1) := dk_42 (dk_at dksX4_thirdRides_1 14 rfl rfl)
theorem dX4_thirdRides_38 : decode cX4_thirdRides 38 = .ok (.aload_n 0, 1) := dk_42 (dk_at dksX4_thirdRides_1 15 rfl rfl)
theorem dX4_thirdRides_39 : decode cX4_thirdRides 39 = .ok (.getfield 59, 3) := dk_180 0 59 (dk_at dksX4_thirdRides_1 16 rfl rfl)
theorem dX4_thirdRides_42 : decode cX4_thirdRides 42 = .ok (.iconst 1, 1) := dk_4 (dk_at dksX4_thirdRides_1 19 rfl rfl)
theorem dX4_thirdRides_43 : decode cX4_thirdRides 43 = .ok (.invokevirtual 198, 3) := dk_182 0 198 (dk_at dksX4_thirdRides_1 20 rfl rfl)
theorem dX4_thirdRides_46 : decode cX4_thirdRides 46 = .ok (.aload_n 0, 1) := dk_42 (dk_at dksX4_thirdRides_1 23 rfl rfl)
theorem dX4_thirdRides_47 : decode cX4_thirdRides 47 = .ok (.iload_n 3, 1) := dk_29 (dk_at dksX4_thirdRides_2 0 rfl rfl)
theorem dX4_thirdRides_48 : decode cX4_thirdRides 48 = .ok (.aload_n 0, 1) := dk_42 (dk_at dksX4_thirdRides_2 1 rfl rfl)
theorem dX4_thirdRides_49 : decode cX4_thirdRides 49 = .ok (.iload 6, 2) := dk_21 6 (dk_at dksX4_thirdRides_2 2 rfl rfl)
theorem dX4_thirdRides_51 : decode cX4_thirdRides 51 = .ok (.iload_n 2, 1) := dk_28 (dk_at dksX4_thirdRides_2 4 rfl rfl)
theorem dX4_thirdRides_52 : decode cX4_thirdRides 52 = .ok (.invokevirtual 165, 3) := dk_182 0 165 (dk_at dksX4_thirdRides_2 5 rfl rfl)
theorem dX4_thirdRides_55 : decode cX4_thirdRides 55 = .ok (.iadd, 1) := dk_96 (dk_at dksX4_thirdRides_2 8 rfl rfl)
theorem dX4_thirdRides_56 : decode cX4_thirdRides 56 = .ok (.iload 4, 2) := dk_21 4 (dk_at dksX4_thirdRides_2 9 rfl rfl)
theorem dX4_thirdRides_58 : decode cX4_thirdRides 58 = .ok (.invokevirtual 224, 3) := dk_182 0 224 (dk_at dksX4_thirdRides_2 11 rfl rfl)
theorem dX4_thirdRides_61 : decode cX4_thirdRides 61 = .ok (.aload_n 0, 1) := dk_42 (dk_at dksX4_thirdRides_2 14 rfl rfl)
theorem dX4_thirdRides_62 : decode cX4_thirdRides 62 = .ok (.aload_n 0, 1) := dk_42 (dk_at dksX4_thirdRides_2 15 rfl rfl)
theorem dX4_thirdRides_63 : decode cX4_thirdRides 63 = .ok (.getfield 59, 3) := dk_180 0 59 (dk_at dksX4_thirdRides_2 16 rfl rfl)
theorem dX4_thirdRides_66 : decode cX4_thirdRides 66 = .ok (.iconst 0, 1) := dk_3 (dk_at dksX4_thirdRides_2 19 rfl rfl)
theorem dX4_thirdRides_67 : decode cX4_thirdRides 67 = .ok (.invokevirtual 198, 3) := dk_182 0 198 (dk_at dksX4_thirdRides_2 20 rfl rfl)
theorem dX4_thirdRides_70 : decode cX4_thirdRides 70 = .ok (.iinc 6 1, 3) := dk_132 6 1 (dk_at dksX4_thirdRides_3 0 rfl rfl)
theorem dX4_thirdRides_73 : decode cX4_thirdRides 73 = .ok (.goto (-70), 3) := dk_167 255 186 (dk_at dksX4_thirdRides_3 3 rfl rfl)
theorem dX4_thirdRides_76 : decode cX4_thirdRides 76 = .ok (.return_, 1) := dk_177 (dk_at dksX4_thirdRides_3 6 rfl rfl)
abbrev cX4_hurry : ByteArray := prog_21_method_49_code
def yX4_hurry : MethodName := ⟨RX4, "hurry", "(II)I"⟩
def dkwX4_hurry_4 : List UInt8 := [167, 255, 195, 28, 154, 0, 7, 29, 167, 0, 5, 21, 4, 172]
abbrev dktX4_hurry_4 : List UInt8 := dkwX4_hurry_4 ++ []
def dkwX4_hurry_3 : List UInt8 := [21, 4, 155, 0, 10, 21, 6, 21, 4, 162, 0, 8, 21, 6, 167, 0, 5, 21, 4, 54, 4, 132, 5, 1]
abbrev dktX4_hurry_3 : List UInt8 := dkwX4_hurry_3 ++ dktX4_hurry_4
def dkwX4_hurry_2 : List UInt8 := [182, 0, 215, 54, 6, 21, 4, 155, 0, 10, 21, 6, 21, 4, 162, 0, 8, 21, 5, 167, 0, 4, 29, 62]
abbrev dktX4_hurry_2 : List UInt8 := dkwX4_hurry_2 ++ dktX4_hurry_3
def dkwX4_hurry_1 : List UInt8 := [16, 252, 62, 16, 252, 54, 4, 3, 54, 5, 21, 5, 42, 180, 0, 81, 162, 0, 58, 42, 21, 5, 27]
abbrev dktX4_hurry_1 : List UInt8 := dkwX4_hurry_1 ++ dktX4_hurry_2
def dkwX4_hurry_0 : List UInt8 := [42, 3, 181, 0, 71, 27, 184, 0, 149, 153, 0, 13, 28, 133, 9, 10, 184, 0, 77, 154, 0, 5, 2, 172]
abbrev dktX4_hurry_0 : List UInt8 := dkwX4_hurry_0 ++ dktX4_hurry_1
theorem dksX4_hurry_0 : cX4_hurry.data.toList.drop 0 = dktX4_hurry_0 := by decide +kernel
theorem dksX4_hurry_1 : cX4_hurry.data.toList.drop 24 = dktX4_hurry_1 := dk_seg dksX4_hurry_0 24 rfl rfl
theorem dksX4_hurry_2 : cX4_hurry.data.toList.drop 47 = dktX4_hurry_2 := dk_seg dksX4_hurry_1 23 rfl rfl
theorem dksX4_hurry_3 : cX4_hurry.data.toList.drop 71 = dktX4_hurry_3 := dk_seg dksX4_hurry_2 24 rfl rfl
theorem dksX4_hurry_4 : cX4_hurry.data.toList.drop 95 = dktX4_hurry_4 := dk_seg dksX4_hurry_3 24 rfl rfl
theorem dX4_hurry_0 : decode cX4_hurry 0 = .ok (.aload_n 0, 1) := dk_42 (dk_at dksX4_hurry_0 0 rfl rfl)
theorem dX4_hurry_1 : decode cX4_hurry 1 = .ok (.iconst 0, 1) := dk_3 (dk_at dksX4_hurry_0 1 rfl rfl)
theorem dX4_hurry_2 : decode cX4_hurry 2 = .ok (.putfield 71, 3) := dk_181 0 71 (dk_at dksX4_hurry_0 2 rfl rfl)
theorem dX4_hurry_5 : decode cX4_hurry 5 = .ok (.iload_n 1, 1) := dk_27 (dk_at dksX4_hurry_0 5 rfl rfl)
theorem dX4_hurry_6 : decode cX4_hurry 6 = .ok (.invokestatic 149, 3) := dk_184 0 149 (dk_at dksX4_hurry_0 6 rfl rfl)
theorem dX4_hurry_9 : decode cX4_hurry 9 = .ok (.ifCond .eq 13, 3) := dk_153 0 13 (dk_at dksX4_hurry_0 9 rfl rfl)
theorem dX4_hurry_12 : decode cX4_hurry 12 = .ok (.iload_n 2, 1) := dk_28 (dk_at dksX4_hurry_0 12 rfl rfl)
theorem dX4_hurry_13 : decode cX4_hurry 13 = .ok (.i2l, 1) := dk_133 (dk_at dksX4_hurry_0 13 rfl rfl)
theorem dX4_hurry_14 : decode cX4_hurry 14 = .ok (.lconst 0, 1) := dk_9 (dk_at dksX4_hurry_0 14 rfl rfl)
theorem dX4_hurry_15 : decode cX4_hurry 15 = .ok (.lconst 1, 1) := dk_10 (dk_at dksX4_hurry_0 15 rfl rfl)
theorem dX4_hurry_16 : decode cX4_hurry 16 = .ok (.invokestatic 77, 3) := dk_184 0 77 (dk_at dksX4_hurry_0 16 rfl rfl)
theorem dX4_hurry_19 : decode cX4_hurry 19 = .ok (.ifCond .ne 5, 3) := dk_154 0 5 (dk_at dksX4_hurry_0 19 rfl rfl)
theorem dX4_hurry_22 : decode cX4_hurry 22 = .ok (.iconst (-1), 1) := dk_2 (dk_at dksX4_hurry_0 22 rfl rfl)
theorem dX4_hurry_23 : decode cX4_hurry 23 = .ok (.ireturn, 1) := dk_172 (dk_at dksX4_hurry_0 23 rfl rfl)
theorem dX4_hurry_24 : decode cX4_hurry 24 = .ok (.bipush (-4), 2) := dk_16 252 (dk_at dksX4_hurry_1 0 rfl rfl)
theorem dX4_hurry_26 : decode cX4_hurry 26 = .ok (.istore_n 3, 1) := dk_62 (dk_at dksX4_hurry_1 2 rfl rfl)
theorem dX4_hurry_27 : decode cX4_hurry 27 = .ok (.bipush (-4), 2) := dk_16 252 (dk_at dksX4_hurry_1 3 rfl rfl)
theorem dX4_hurry_29 : decode cX4_hurry 29 = .ok (.istore 4, 2) := dk_54 4 (dk_at dksX4_hurry_1 5 rfl rfl)
theorem dX4_hurry_31 : decode cX4_hurry 31 = .ok (.iconst 0, 1) := dk_3 (dk_at dksX4_hurry_1 7 rfl rfl)
theorem dX4_hurry_32 : decode cX4_hurry 32 = .ok (.istore 5, 2) := dk_54 5 (dk_at dksX4_hurry_1 8 rfl rfl)
theorem dX4_hurry_34 : decode cX4_hurry 34 = .ok (.iload 5, 2) := dk_21 5 (dk_at dksX4_hurry_1 10 rfl rfl)
theorem dX4_hurry_36 : decode cX4_hurry 36 = .ok (.aload_n 0, 1) := dk_42 (dk_at dksX4_hurry_1 12 rfl rfl)
theorem dX4_hurry_37 : decode cX4_hurry 37 = .ok (.getfield 81, 3) := dk_180 0 81 (dk_at dksX4_hurry_1 13 rfl rfl)
theorem dX4_hurry_40 : decode cX4_hurry 40 = .ok (.if_icmp .ge 58, 3) := dk_162 0 58 (dk_at dksX4_hurry_1 16 rfl rfl)
theorem dX4_hurry_43 : decode cX4_hurry 43 = .ok (.aload_n 0, 1) := dk_42 (dk_at dksX4_hurry_1 19 rfl rfl)
theorem dX4_hurry_44 : decode cX4_hurry 44 = .ok (.iload 5, 2) := dk_21 5 (dk_at dksX4_hurry_1 20 rfl rfl)
theorem dX4_hurry_46 : decode cX4_hurry 46 = .ok (.iload_n 1, 1) := dk_27 (dk_at dksX4_hurry_1 22 rfl rfl)
theorem dX4_hurry_47 : decode cX4_hurry 47 = .ok (.invokevirtual 215, 3) := dk_182 0 215 (dk_at dksX4_hurry_2 0 rfl rfl)
theorem dX4_hurry_50 : decode cX4_hurry 50 = .ok (.istore 6, 2) := dk_54 6 (dk_at dksX4_hurry_2 3 rfl rfl)
theorem dX4_hurry_52 : decode cX4_hurry 52 = .ok (.iload 4, 2) := dk_21 4 (dk_at dksX4_hurry_2 5 rfl rfl)
theorem dX4_hurry_54 : decode cX4_hurry 54 = .ok (.ifCond .lt 10, 3) := dk_155 0 10 (dk_at dksX4_hurry_2 7 rfl rfl)
theorem dX4_hurry_57 : decode cX4_hurry 57 = .ok (.iload 6, 2) := dk_21 6 (dk_at dksX4_hurry_2 10 rfl rfl)
theorem dX4_hurry_59 : decode cX4_hurry 59 = .ok (.iload 4, 2) := dk_21 4 (dk_at dksX4_hurry_2 12 rfl rfl)
theorem dX4_hurry_61 : decode cX4_hurry 61 = .ok (.if_icmp .ge 8, 3) := dk_162 0 8 (dk_at dksX4_hurry_2 14 rfl rfl)
theorem dX4_hurry_64 : decode cX4_hurry 64 = .ok (.iload 5, 2) := dk_21 5 (dk_at dksX4_hurry_2 17 rfl rfl)
theorem dX4_hurry_66 : decode cX4_hurry 66 = .ok (.goto 4, 3) := dk_167 0 4 (dk_at dksX4_hurry_2 19 rfl rfl)
theorem dX4_hurry_69 : decode cX4_hurry 69 = .ok (.iload_n 3, 1) := dk_29 (dk_at dksX4_hurry_2 22 rfl rfl)
theorem dX4_hurry_70 : decode cX4_hurry 70 = .ok (.istore_n 3, 1) := dk_62 (dk_at dksX4_hurry_2 23 rfl rfl)
theorem dX4_hurry_71 : decode cX4_hurry 71 = .ok (.iload 4, 2) := dk_21 4 (dk_at dksX4_hurry_3 0 rfl rfl)
theorem dX4_hurry_73 : decode cX4_hurry 73 = .ok (.ifCond .lt 10, 3) := dk_155 0 10 (dk_at dksX4_hurry_3 2 rfl rfl)
theorem dX4_hurry_76 : decode cX4_hurry 76 = .ok (.iload 6, 2) := dk_21 6 (dk_at dksX4_hurry_3 5 rfl rfl)
theorem dX4_hurry_78 : decode cX4_hurry 78 = .ok (.iload 4, 2) := dk_21 4 (dk_at dksX4_hurry_3 7 rfl rfl)
theorem dX4_hurry_80 : decode cX4_hurry 80 = .ok (.if_icmp .ge 8, 3) := dk_162 0 8 (dk_at dksX4_hurry_3 9 rfl rfl)
theorem dX4_hurry_83 : decode cX4_hurry 83 = .ok (.iload 6, 2) := dk_21 6 (dk_at dksX4_hurry_3 12 rfl rfl)
theorem dX4_hurry_85 : decode cX4_hurry 85 = .ok (.goto 5, 3) := dk_167 0 5 (dk_at dksX4_hurry_3 14 rfl rfl)
theorem dX4_hurry_88 : decode cX4_hurry 88 = .ok (.iload 4, 2) := dk_21 4 (dk_at dksX4_hurry_3 17 rfl rfl)
theorem dX4_hurry_90 : decode cX4_hurry 90 = .ok (.istore 4, 2) := dk_54 4 (dk_at dksX4_hurry_3 19 rfl rfl)
theorem dX4_hurry_92 : decode cX4_hurry 92 = .ok (.iinc 5 1, 3) := dk_132 5 1 (dk_at dksX4_hurry_3 21 rfl rfl)
theorem dX4_hurry_95 : decode cX4_hurry 95 = .ok (.goto (-61), 3) := dk_167 255 195 (dk_at dksX4_hurry_4 0 rfl rfl)
theorem dX4_hurry_98 : decode cX4_hurry 98 = .ok (.iload_n 2, 1) := dk_28 (dk_at dksX4_hurry_4 3 rfl rfl)
theorem dX4_hurry_99 : decode cX4_hurry 99 = .ok (.ifCond .ne 7, 3) := dk_154 0 7 (dk_at dksX4_hurry_4 4 rfl rfl)
theorem dX4_hurry_102 : decode cX4_hurry 102 = .ok (.iload_n 3, 1) := dk_29 (dk_at dksX4_hurry_4 7 rfl rfl)
theorem dX4_hurry_103 : decode cX4_hurry 103 = .ok (.goto 5, 3) := dk_167 0 5 (dk_at dksX4_hurry_4 8 rfl rfl)
theorem dX4_hurry_106 : decode cX4_hurry 106 = .ok (.iload 4, 2) := dk_21 4 (dk_at dksX4_hurry_4 11 rfl rfl)
theorem dX4_hurry_108 : decode cX4_hurry 108 = .ok (.ireturn, 1) := dk_172 (dk_at dksX4_hurry_4 13 rfl rfl)
abbrev cX4_fastest : ByteArray := prog_21_method_50_code
def yX4_fastest : MethodName := ⟨RX4, "fastest", "(I)I"⟩
def dkwX4_fastest_3 : List UInt8 := [182, 0, 183, 28, 172]
abbrev dktX4_fastest_3 : List UInt8 := dkwX4_fastest_3 ++ []
def dkwX4_fastest_2 : List UInt8 := [182, 0, 108, 42, 28, 182, 0, 108, 164, 0, 7, 29, 167, 0, 4, 28, 61, 132, 3, 1, 167, 255, 222, 42]
abbrev dktX4_fastest_2 : List UInt8 := dkwX4_fastest_2 ++ dktX4_fastest_3
def dkwX4_fastest_1 : List UInt8 := [27, 182, 0, 154, 16, 252, 61, 3, 62, 29, 42, 180, 0, 81, 162, 0, 32, 28, 155, 0, 16, 42, 29]
abbrev dktX4_fastest_1 : List UInt8 := dkwX4_fastest_1 ++ dktX4_fastest_2
def dkwX4_fastest_0 : List UInt8 := [42, 3, 181, 0, 71, 27, 133, 9, 20, 0, 152, 184, 0, 77, 154, 0, 5, 2, 172, 42, 182, 0, 177, 42]
abbrev dktX4_fastest_0 : List UInt8 := dkwX4_fastest_0 ++ dktX4_fastest_1
theorem dksX4_fastest_0 : cX4_fastest.data.toList.drop 0 = dktX4_fastest_0 := by decide +kernel
theorem dksX4_fastest_1 : cX4_fastest.data.toList.drop 24 = dktX4_fastest_1 := dk_seg dksX4_fastest_0 24 rfl rfl
theorem dksX4_fastest_2 : cX4_fastest.data.toList.drop 47 = dktX4_fastest_2 := dk_seg dksX4_fastest_1 23 rfl rfl
theorem dksX4_fastest_3 : cX4_fastest.data.toList.drop 71 = dktX4_fastest_3 := dk_seg dksX4_fastest_2 24 rfl rfl
theorem dX4_fastest_0 : decode cX4_fastest 0 = .ok (.aload_n 0, 1) := dk_42 (dk_at dksX4_fastest_0 0 rfl rfl)
theorem dX4_fastest_1 : decode cX4_fastest 1 = .ok (.iconst 0, 1) := dk_3 (dk_at dksX4_fastest_0 1 rfl rfl)
theorem dX4_fastest_2 : decode cX4_fastest 2 = .ok (.putfield 71, 3) := dk_181 0 71 (dk_at dksX4_fastest_0 2 rfl rfl)
theorem dX4_fastest_5 : decode cX4_fastest 5 = .ok (.iload_n 1, 1) := dk_27 (dk_at dksX4_fastest_0 5 rfl rfl)
theorem dX4_fastest_6 : decode cX4_fastest 6 = .ok (.i2l, 1) := dk_133 (dk_at dksX4_fastest_0 6 rfl rfl)
theorem dX4_fastest_7 : decode cX4_fastest 7 = .ok (.lconst 0, 1) := dk_9 (dk_at dksX4_fastest_0 7 rfl rfl)
theorem dX4_fastest_8 : decode cX4_fastest 8 = .ok (.ldc2_w 152, 3) := dk_20 0 152 (dk_at dksX4_fastest_0 8 rfl rfl)
theorem dX4_fastest_11 : decode cX4_fastest 11 = .ok (.invokestatic 77, 3) := dk_184 0 77 (dk_at dksX4_fastest_0 11 rfl rfl)
theorem dX4_fastest_14 : decode cX4_fastest 14 = .ok (.ifCond .ne 5, 3) := dk_154 0 5 (dk_at dksX4_fastest_0 14 rfl rfl)
theorem dX4_fastest_17 : decode cX4_fastest 17 = .ok (.iconst (-1), 1) := dk_2 (dk_at dksX4_fastest_0 17 rfl rfl)
theorem dX4_fastest_18 : decode cX4_fastest 18 = .ok (.ireturn, 1) := dk_172 (dk_at dksX4_fastest_0 18 rfl rfl)
theorem dX4_fastest_19 : decode cX4_fastest 19 = .ok (.aload_n 0, 1) := dk_42 (dk_at dksX4_fastest_0 19 rfl rfl)
theorem dX4_fastest_20 : decode cX4_fastest 20 = .ok (.invokevirtual 177, 3) := dk_182 0 177 (dk_at dksX4_fastest_0 20 rfl rfl)
theorem dX4_fastest_23 : decode cX4_fastest 23 = .ok (.aload_n 0, 1) := dk_42 (dk_at dksX4_fastest_0 23 rfl rfl)
theorem dX4_fastest_24 : decode cX4_fastest 24 = .ok (.iload_n 1, 1) := dk_27 (dk_at dksX4_fastest_1 0 rfl rfl)
theorem dX4_fastest_25 : decode cX4_fastest 25 = .ok (.invokevirtual 154, 3) := dk_182 0 154 (dk_at dksX4_fastest_1 1 rfl rfl)
theorem dX4_fastest_28 : decode cX4_fastest 28 = .ok (.bipush (-4), 2) := dk_16 252 (dk_at dksX4_fastest_1 4 rfl rfl)
theorem dX4_fastest_30 : decode cX4_fastest 30 = .ok (.istore_n 2, 1) := dk_61 (dk_at dksX4_fastest_1 6 rfl rfl)
theorem dX4_fastest_31 : decode cX4_fastest 31 = .ok (.iconst 0, 1) := dk_3 (dk_at dksX4_fastest_1 7 rfl rfl)
theorem dX4_fastest_32 : decode cX4_fastest 32 = .ok (.istore_n 3, 1) := dk_62 (dk_at dksX4_fastest_1 8 rfl rfl)
theorem dX4_fastest_33 : decode cX4_fastest 33 = .ok (.iload_n 3, 1) := dk_29 (dk_at dksX4_fastest_1 9 rfl rfl)
theorem dX4_fastest_34 : decode cX4_fastest 34 = .ok (.aload_n 0, 1) := dk_42 (dk_at dksX4_fastest_1 10 rfl rfl)
theorem dX4_fastest_35 : decode cX4_fastest 35 = .ok (.getfield 81, 3) := dk_180 0 81 (dk_at dksX4_fastest_1 11 rfl rfl)
theorem dX4_fastest_38 : decode cX4_fastest 38 = .ok (.if_icmp .ge 32, 3) := dk_162 0 32 (dk_at dksX4_fastest_1 14 rfl rfl)
theorem dX4_fastest_41 : decode cX4_fastest 41 = .ok (.iload_n 2, 1) := dk_28 (dk_at dksX4_fastest_1 17 rfl rfl)
theorem dX4_fastest_42 : decode cX4_fastest 42 = .ok (.ifCond .lt 16, 3) := dk_155 0 16 (dk_at dksX4_fastest_1 18 rfl rfl)
theorem dX4_fastest_45 : decode cX4_fastest 45 = .ok (.aload_n 0, 1) := dk_42 (dk_at dksX4_fastest_1 21 rfl rfl)
theorem dX4_fastest_46 : decode cX4_fastest 46 = .ok (.iload_n 3, 1) := dk_29 (dk_at dksX4_fastest_1 22 rfl rfl)
theorem dX4_fastest_47 : decode cX4_fastest 47 = .ok (.invokevirtual 108, 3) := dk_182 0 108 (dk_at dksX4_fastest_2 0 rfl rfl)
theorem dX4_fastest_50 : decode cX4_fastest 50 = .ok (.aload_n 0, 1) := dk_42 (dk_at dksX4_fastest_2 3 rfl rfl)
theorem dX4_fastest_51 : decode cX4_fastest 51 = .ok (.iload_n 2, 1) := dk_28 (dk_at dksX4_fastest_2 4 rfl rfl)
theorem dX4_fastest_52 : decode cX4_fastest 52 = .ok (.invokevirtual 108, 3) := dk_182 0 108 (dk_at dksX4_fastest_2 5 rfl rfl)
theorem dX4_fastest_55 : decode cX4_fastest 55 = .ok (.if_icmp .le 7, 3) := dk_164 0 7 (dk_at dksX4_fastest_2 8 rfl rfl)
theorem dX4_fastest_58 : decode cX4_fastest 58 = .ok (.iload_n 3, 1) := dk_29 (dk_at dksX4_fastest_2 11 rfl rfl)
theorem dX4_fastest_59 : decode cX4_fastest 59 = .ok (.goto 4, 3) := dk_167 0 4 (dk_at dksX4_fastest_2 12 rfl rfl)
theorem dX4_fastest_62 : decode cX4_fastest 62 = .ok (.iload_n 2, 1) := dk_28 (dk_at dksX4_fastest_2 15 rfl rfl)
theorem dX4_fastest_63 : decode cX4_fastest 63 = .ok (.istore_n 2, 1) := dk_61 (dk_at dksX4_fastest_2 16 rfl rfl)
theorem dX4_fastest_64 : decode cX4_fastest 64 = .ok (.iinc 3 1, 3) := dk_132 3 1 (dk_at dksX4_fastest_2 17 rfl rfl)
theorem dX4_fastest_67 : decode cX4_fastest 67 = .ok (.goto (-34), 3) := dk_167 255 222 (dk_at dksX4_fastest_2 20 rfl rfl)
theorem dX4_fastest_70 : decode cX4_fastest 70 = .ok (.aload_n 0, 1) := dk_42 (dk_at dksX4_fastest_2 23 rfl rfl)
theorem dX4_fastest_71 : decode cX4_fastest 71 = .ok (.invokevirtual 183, 3) := dk_182 0 183 (dk_at dksX4_fastest_3 0 rfl rfl)
theorem dX4_fastest_74 : decode cX4_fastest 74 = .ok (.iload_n 2, 1) := dk_28 (dk_at dksX4_fastest_3 3 rfl rfl)
theorem dX4_fastest_75 : decode cX4_fastest 75 = .ok (.ireturn, 1) := dk_172 (dk_at dksX4_fastest_3 4 rfl rfl)
abbrev cX4_away : ByteArray := prog_21_method_51_code
def yX4_away : MethodName := ⟨RX4, "away", "()I"⟩
def dkwX4_away_2 : List UInt8 := [172]
abbrev dktX4_away_2 : List UInt8 := dkwX4_away_2 ++ []
def dkwX4_away_1 : List UInt8 := [42, 28, 182, 0, 91, 159, 0, 9, 4, 28, 120, 167, 0, 4, 3, 128, 60, 132, 2, 1, 167, 255, 221, 27]
abbrev dktX4_away_1 : List UInt8 := dkwX4_away_1 ++ dktX4_away_2
def dkwX4_away_0 : List UInt8 := [42, 3, 181, 0, 71, 3, 60, 3, 61, 28, 42, 180, 0, 81, 162, 0, 33, 27, 42, 180, 0, 19, 28, 46]
abbrev dktX4_away_0 : List UInt8 := dkwX4_away_0 ++ dktX4_away_1
theorem dksX4_away_0 : cX4_away.data.toList.drop 0 = dktX4_away_0 := by decide +kernel
theorem dksX4_away_1 : cX4_away.data.toList.drop 24 = dktX4_away_1 := dk_seg dksX4_away_0 24 rfl rfl
theorem dksX4_away_2 : cX4_away.data.toList.drop 48 = dktX4_away_2 := dk_seg dksX4_away_1 24 rfl rfl
theorem dX4_away_0 : decode cX4_away 0 = .ok (.aload_n 0, 1) := dk_42 (dk_at dksX4_away_0 0 rfl rfl)
theorem dX4_away_1 : decode cX4_away 1 = .ok (.iconst 0, 1) := dk_3 (dk_at dksX4_away_0 1 rfl rfl)
theorem dX4_away_2 : decode cX4_away 2 = .ok (.putfield 71, 3) := dk_181 0 71 (dk_at dksX4_away_0 2 rfl rfl)
theorem dX4_away_5 : decode cX4_away 5 = .ok (.iconst 0, 1) := dk_3 (dk_at dksX4_away_0 5 rfl rfl)
theorem dX4_away_6 : decode cX4_away 6 = .ok (.istore_n 1, 1) := dk_60 (dk_at dksX4_away_0 6 rfl rfl)
theorem dX4_away_7 : decode cX4_away 7 = .ok (.iconst 0, 1) := dk_3 (dk_at dksX4_away_0 7 rfl rfl)
theorem dX4_away_8 : decode cX4_away 8 = .ok (.istore_n 2, 1) := dk_61 (dk_at dksX4_away_0 8 rfl rfl)
theorem dX4_away_9 : decode cX4_away 9 = .ok (.iload_n 2, 1) := dk_28 (dk_at dksX4_away_0 9 rfl rfl)
theorem dX4_away_10 : decode cX4_away 10 = .ok (.aload_n 0, 1) := dk_42 (dk_at dksX4_away_0 10 rfl rfl)
theorem dX4_away_11 : decode cX4_away 11 = .ok (.getfield 81, 3) := dk_180 0 81 (dk_at dksX4_away_0 11 rfl rfl)
theorem dX4_away_14 : decode cX4_away 14 = .ok (.if_icmp .ge 33, 3) := dk_162 0 33 (dk_at dksX4_away_0 14 rfl rfl)
theorem dX4_away_17 : decode cX4_away 17 = .ok (.iload_n 1, 1) := dk_27 (dk_at dksX4_away_0 17 rfl rfl)
theorem dX4_away_18 : decode cX4_away 18 = .ok (.aload_n 0, 1) := dk_42 (dk_at dksX4_away_0 18 rfl rfl)
theorem dX4_away_19 : decode cX4_away 19 = .ok (.getfield 19, 3) := dk_180 0 19 (dk_at dksX4_away_0 19 rfl rfl)
theorem dX4_away_22 : decode cX4_away 22 = .ok (.iload_n 2, 1) := dk_28 (dk_at dksX4_away_0 22 rfl rfl)
theorem dX4_away_23 : decode cX4_away 23 = .ok (.iaload, 1) := dk_46 (dk_at dksX4_away_0 23 rfl rfl)
theorem dX4_away_24 : decode cX4_away 24 = .ok (.aload_n 0, 1) := dk_42 (dk_at dksX4_away_1 0 rfl rfl)
theorem dX4_away_25 : decode cX4_away 25 = .ok (.iload_n 2, 1) := dk_28 (dk_at dksX4_away_1 1 rfl rfl)
theorem dX4_away_26 : decode cX4_away 26 = .ok (.invokevirtual 91, 3) := dk_182 0 91 (dk_at dksX4_away_1 2 rfl rfl)
theorem dX4_away_29 : decode cX4_away 29 = .ok (.if_icmp .eq 9, 3) := dk_159 0 9 (dk_at dksX4_away_1 5 rfl rfl)
theorem dX4_away_32 : decode cX4_away 32 = .ok (.iconst 1, 1) := dk_4 (dk_at dksX4_away_1 8 rfl rfl)
theorem dX4_away_33 : decode cX4_away 33 = .ok (.iload_n 2, 1) := dk_28 (dk_at dksX4_away_1 9 rfl rfl)
theorem dX4_away_34 : decode cX4_away 34 = .ok (.ishl, 1) := dk_120 (dk_at dksX4_away_1 10 rfl rfl)
theorem dX4_away_35 : decode cX4_away 35 = .ok (.goto 4, 3) := dk_167 0 4 (dk_at dksX4_away_1 11 rfl rfl)
theorem dX4_away_38 : decode cX4_away 38 = .ok (.iconst 0, 1) := dk_3 (dk_at dksX4_away_1 14 rfl rfl)
theorem dX4_away_39 : decode cX4_away 39 = .ok (.ior, 1) := dk_128 (dk_at dksX4_away_1 15 rfl rfl)
theorem dX4_away_40 : decode cX4_away 40 = .ok (.istore_n 1, 1) := dk_60 (dk_at dksX4_away_1 16 rfl rfl)
theorem dX4_away_41 : decode cX4_away 41 = .ok (.iinc 2 1, 3) := dk_132 2 1 (dk_at dksX4_away_1 17 rfl rfl)
theorem dX4_away_44 : decode cX4_away 44 = .ok (.goto (-35), 3) := dk_167 255 221 (dk_at dksX4_away_1 20 rfl rfl)
theorem dX4_away_47 : decode cX4_away 47 = .ok (.iload_n 1, 1) := dk_27 (dk_at dksX4_away_1 23 rfl rfl)
theorem dX4_away_48 : decode cX4_away 48 = .ok (.ireturn, 1) := dk_172 (dk_at dksX4_away_2 0 rfl rfl)
abbrev cX4_ripe : ByteArray := prog_21_method_52_code
def yX4_ripe : MethodName := ⟨RX4, "ripe", "(II)I"⟩
def dkwX4_ripe_3 : List UInt8 := [182, 0, 104, 132, 4, 1, 167, 255, 220, 42, 182, 0, 183, 29, 172]
abbrev dktX4_ripe_3 : List UInt8 := dkwX4_ripe_3 ++ []
def dkwX4_ripe_2 : List UInt8 := [156, 0, 31, 42, 27, 182, 0, 108, 28, 161, 0, 8, 21, 4, 167, 0, 5, 16, 252, 62, 42, 3]
abbrev dktX4_ripe_2 : List UInt8 := dkwX4_ripe_2 ++ dktX4_ripe_3
def dkwX4_ripe_1 : List UInt8 := [154, 0, 5, 2, 172, 16, 252, 62, 42, 182, 0, 177, 3, 54, 4, 21, 4, 16, 60, 163, 0, 35, 29]
abbrev dktX4_ripe_1 : List UInt8 := dkwX4_ripe_1 ++ dktX4_ripe_2
def dkwX4_ripe_0 : List UInt8 := [42, 3, 181, 0, 71, 42, 27, 182, 0, 162, 153, 0, 15, 28, 133, 10, 20, 0, 152, 184, 0, 77]
abbrev dktX4_ripe_0 : List UInt8 := dkwX4_ripe_0 ++ dktX4_ripe_1
theorem dksX4_ripe_0 : cX4_ripe.data.toList.drop 0 = dktX4_ripe_0 := by decide +kernel
theorem dksX4_ripe_1 : cX4_ripe.data.toList.drop 22 = dktX4_ripe_1 := dk_seg dksX4_ripe_0 22 rfl rfl
theorem dksX4_ripe_2 : cX4_ripe.data.toList.drop 45 = dktX4_ripe_2 := dk_seg dksX4_ripe_1 23 rfl rfl
theorem dksX4_ripe_3 : cX4_ripe.data.toList.drop 67 = dktX4_ripe_3 := dk_seg dksX4_ripe_2 22 rfl rfl
theorem dX4_ripe_0 : decode cX4_ripe 0 = .ok (.aload_n 0, 1) := dk_42 (dk_at dksX4_ripe_0 0 rfl rfl)
theorem dX4_ripe_1 : decode cX4_ripe 1 = .ok (.iconst 0, 1) := dk_3 (dk_at dksX4_ripe_0 1 rfl rfl)
theorem dX4_ripe_2 : decode cX4_ripe 2 = .ok (.putfield 71, 3) := dk_181 0 71 (dk_at dksX4_ripe_0 2 rfl rfl)
theorem dX4_ripe_5 : decode cX4_ripe 5 = .ok (.aload_n 0, 1) := dk_42 (dk_at dksX4_ripe_0 5 rfl rfl)
theorem dX4_ripe_6 : decode cX4_ripe 6 = .ok (.iload_n 1, 1) := dk_27 (dk_at dksX4_ripe_0 6 rfl rfl)
theorem dX4_ripe_7 : decode cX4_ripe 7 = .ok (.invokevirtual 162, 3) := dk_182 0 162 (dk_at dksX4_ripe_0 7 rfl rfl)
theorem dX4_ripe_10 : decode cX4_ripe 10 = .ok (.ifCond .eq 15, 3) := dk_153 0 15 (dk_at dksX4_ripe_0 10 rfl rfl)
theorem dX4_ripe_13 : decode cX4_ripe 13 = .ok (.iload_n 2, 1) := dk_28 (dk_at dksX4_ripe_0 13 rfl rfl)
theorem dX4_ripe_14 : decode cX4_ripe 14 = .ok (.i2l, 1) := dk_133 (dk_at dksX4_ripe_0 14 rfl rfl)
theorem dX4_ripe_15 : decode cX4_ripe 15 = .ok (.lconst 1, 1) := dk_10 (dk_at dksX4_ripe_0 15 rfl rfl)
theorem dX4_ripe_16 : decode cX4_ripe 16 = .ok (.ldc2_w 152, 3) := dk_20 0 152 (dk_at dksX4_ripe_0 16 rfl rfl)
theorem dX4_ripe_19 : decode cX4_ripe 19 = .ok (.invokestatic 77, 3) := dk_184 0 77 (dk_at dksX4_ripe_0 19 rfl rfl)
theorem dX4_ripe_22 : decode cX4_ripe 22 = .ok (.ifCond .ne 5, 3) := dk_154 0 5 (dk_at dksX4_ripe_1 0 rfl rfl)
theorem dX4_ripe_25 : decode cX4_ripe 25 = .ok (.iconst (-1), 1) := dk_2 (dk_at dksX4_ripe_1 3 rfl rfl)
theorem dX4_ripe_26 : decode cX4_ripe 26 = .ok (.ireturn, 1) := dk_172 (dk_at dksX4_ripe_1 4 rfl rfl)
theorem dX4_ripe_27 : decode cX4_ripe 27 = .ok (.bipush (-4), 2) := dk_16 252 (dk_at dksX4_ripe_1 5 rfl rfl)
theorem dX4_ripe_29 : decode cX4_ripe 29 = .ok (.istore_n 3, 1) := dk_62 (dk_at dksX4_ripe_1 7 rfl rfl)
theorem dX4_ripe_30 : decode cX4_ripe 30 = .ok (.aload_n 0, 1) := dk_42 (dk_at dksX4_ripe_1 8 rfl rfl)
theorem dX4_ripe_31 : decode cX4_ripe 31 = .ok (.invokevirtual 177, 3) := dk_182 0 177 (dk_at dksX4_ripe_1 9 rfl rfl)
theorem dX4_ripe_34 : decode cX4_ripe 34 = .ok (.iconst 0, 1) := dk_3 (dk_at dksX4_ripe_1 12 rfl rfl)
theorem dX4_ripe_35 : decode cX4_ripe 35 = .ok (.istore 4, 2) := dk_54 4 (dk_at dksX4_ripe_1 13 rfl rfl)
theorem dX4_ripe_37 : decode cX4_ripe 37 = .ok (.iload 4, 2) := dk_21 4 (dk_at dksX4_ripe_1 15 rfl rfl)
theorem dX4_ripe_39 : decode cX4_ripe 39 = .ok (.bipush 60, 2) := dk_16 60 (dk_at dksX4_ripe_1 17 rfl rfl)
theorem dX4_ripe_41 : decode cX4_ripe 41 = .ok (.if_icmp .gt 35, 3) := dk_163 0 35 (dk_at dksX4_ripe_1 19 rfl rfl)
theorem dX4_ripe_44 : decode cX4_ripe 44 = .ok (.iload_n 3, 1) := dk_29 (dk_at dksX4_ripe_1 22 rfl rfl)
theorem dX4_ripe_45 : decode cX4_ripe 45 = .ok (.ifCond .ge 31, 3) := dk_156 0 31 (dk_at dksX4_ripe_2 0 rfl rfl)
theorem dX4_ripe_48 : decode cX4_ripe 48 = .ok (.aload_n 0, 1) := dk_42 (dk_at dksX4_ripe_2 3 rfl rfl)
theorem dX4_ripe_49 : decode cX4_ripe 49 = .ok (.iload_n 1, 1) := dk_27 (dk_at dksX4_ripe_2 4 rfl rfl)
theorem dX4_ripe_50 : decode cX4_ripe 50 = .ok (.invokevirtual 108, 3) := dk_182 0 108 (dk_at dksX4_ripe_2 5 rfl rfl)
theorem dX4_ripe_53 : decode cX4_ripe 53 = .ok (.iload_n 2, 1) := dk_28 (dk_at dksX4_ripe_2 8 rfl rfl)
theorem dX4_ripe_54 : decode cX4_ripe 54 = .ok (.if_icmp .lt 8, 3) := dk_161 0 8 (dk_at dksX4_ripe_2 9 rfl rfl)
theorem dX4_ripe_57 : decode cX4_ripe 57 = .ok (.iload 4, 2) := dk_21 4 (dk_at dksX4_ripe_2 12 rfl rfl)
theorem dX4_ripe_59 : decode cX4_ripe 59 = .ok (.goto 5, 3) := dk_167 0 5 (dk_at dksX4_ripe_2 14 rfl rfl)
theorem dX4_ripe_62 : decode cX4_ripe 62 = .ok (.bipush (-4), 2) := dk_16 252 (dk_at dksX4_ripe_2 17 rfl rfl)
theorem dX4_ripe_64 : decode cX4_ripe 64 = .ok (.istore_n 3, 1) := dk_62 (dk_at dksX4_ripe_2 19 rfl rfl)
theorem dX4_ripe_65 : decode cX4_ripe 65 = .ok (.aload_n 0, 1) := dk_42 (dk_at dksX4_ripe_2 20 rfl rfl)
theorem dX4_ripe_66 : decode cX4_ripe 66 = .ok (.iconst 0, 1) := dk_3 (dk_at dksX4_ripe_2 21 rfl rfl)
theorem dX4_ripe_67 : decode cX4_ripe 67 = .ok (.invokevirtual 104, 3) := dk_182 0 104 (dk_at dksX4_ripe_3 0 rfl rfl)
theorem dX4_ripe_70 : decode cX4_ripe 70 = .ok (.iinc 4 1, 3) := dk_132 4 1 (dk_at dksX4_ripe_3 3 rfl rfl)
theorem dX4_ripe_73 : decode cX4_ripe 73 = .ok (.goto (-36), 3) := dk_167 255 220 (dk_at dksX4_ripe_3 6 rfl rfl)
theorem dX4_ripe_76 : decode cX4_ripe 76 = .ok (.aload_n 0, 1) := dk_42 (dk_at dksX4_ripe_3 9 rfl rfl)
theorem dX4_ripe_77 : decode cX4_ripe 77 = .ok (.invokevirtual 183, 3) := dk_182 0 183 (dk_at dksX4_ripe_3 10 rfl rfl)
theorem dX4_ripe_80 : decode cX4_ripe 80 = .ok (.iload_n 3, 1) := dk_29 (dk_at dksX4_ripe_3 13 rfl rfl)
theorem dX4_ripe_81 : decode cX4_ripe 81 = .ok (.ireturn, 1) := dk_172 (dk_at dksX4_ripe_3 14 rfl rfl)
abbrev cX4_leastLonging : ByteArray := prog_21_method_53_code
def yX4_leastLonging : MethodName := ⟨RX4, "leastLonging", "(III)I"⟩
def dkwX4_leastLonging_4 : List UInt8 := [21, 4, 172]
abbrev dktX4_leastLonging_4 : List UInt8 := dkwX4_leastLonging_4 ++ []
def dkwX4_leastLonging_3 : List UInt8 := [29, 163, 0, 8, 21, 5, 167, 0, 5, 16, 252, 54, 4, 42, 182, 0, 183, 132, 5, 1, 167, 255, 210]
abbrev dktX4_leastLonging_3 : List UInt8 := dkwX4_leastLonging_3 ++ dktX4_leastLonging_4
def dkwX4_leastLonging_2 : List UInt8 := [16, 99, 163, 0, 45, 21, 4, 156, 0, 40, 42, 180, 0, 22, 27, 21, 5, 79, 42, 27, 28, 182, 0, 165]
abbrev dktX4_leastLonging_2 : List UInt8 := dkwX4_leastLonging_2 ++ dktX4_leastLonging_3
def dkwX4_leastLonging_1 : List UInt8 := [20, 0, 75, 184, 0, 77, 154, 0, 5, 2, 172, 16, 252, 54, 4, 42, 182, 0, 177, 3, 54, 5, 21, 5]
abbrev dktX4_leastLonging_1 : List UInt8 := dkwX4_leastLonging_1 ++ dktX4_leastLonging_2
def dkwX4_leastLonging_0 : List UInt8 := [42, 3, 181, 0, 71, 42, 27, 182, 0, 162, 153, 0, 22, 28, 184, 0, 149, 153, 0, 15, 29, 133, 9]
abbrev dktX4_leastLonging_0 : List UInt8 := dkwX4_leastLonging_0 ++ dktX4_leastLonging_1
theorem dksX4_leastLonging_0 : cX4_leastLonging.data.toList.drop 0 = dktX4_leastLonging_0 := by decide +kernel
theorem dksX4_leastLonging_1 : cX4_leastLonging.data.toList.drop 23 = dktX4_leastLonging_1 := dk_seg dksX4_leastLonging_0 23 rfl rfl
theorem dksX4_leastLonging_2 : cX4_leastLonging.data.toList.drop 47 = dktX4_leastLonging_2 := dk_seg dksX4_leastLonging_1 24 rfl rfl
theorem dksX4_leastLonging_3 : cX4_leastLonging.data.toList.drop 71 = dktX4_leastLonging_3 := dk_seg dksX4_leastLonging_2 24 rfl rfl
theorem dksX4_leastLonging_4 : cX4_leastLonging.data.toList.drop 94 = dktX4_leastLonging_4 := dk_seg dksX4_leastLonging_3 23 rfl rfl
theorem dX4_leastLonging_0 : decode cX4_leastLonging 0 = .ok (.aload_n 0, 1) := dk_42 (dk_at dksX4_leastLonging_0 0 rfl rfl)
theorem dX4_leastLonging_1 : decode cX4_leastLonging 1 = .ok (.iconst 0, 1) := dk_3 (dk_at dksX4_leastLonging_0 1 rfl rfl)
theorem dX4_leastLonging_2 : decode cX4_leastLonging 2 = .ok (.putfield 71, 3) := dk_181 0 71 (dk_at dksX4_leastLonging_0 2 rfl rfl)
theorem dX4_leastLonging_5 : decode cX4_leastLonging 5 = .ok (.aload_n 0, 1) := dk_42 (dk_at dksX4_leastLonging_0 5 rfl rfl)
theorem dX4_leastLonging_6 : decode cX4_leastLonging 6 = .ok (.iload_n 1, 1) := dk_27 (dk_at dksX4_leastLonging_0 6 rfl rfl)
theorem dX4_leastLonging_7 : decode cX4_leastLonging 7 = .ok (.invokevirtual 162, 3) := dk_182 0 162 (dk_at dksX4_leastLonging_0 7 rfl rfl)
theorem dX4_leastLonging_10 : decode cX4_leastLonging 10 = .ok (.ifCond .eq 22, 3) := dk_153 0 22 (dk_at dksX4_leastLonging_0 10 rfl rfl)
theorem dX4_leastLonging_13 : decode cX4_leastLonging 13 = .ok (.iload_n 2, 1) := dk_28 (dk_at dksX4_leastLonging_0 13 rfl rfl)
theorem dX4_leastLonging_14 : decode cX4_leastLonging 14 = .ok (.invokestatic 149, 3) := dk_184 0 149 (dk_at dksX4_leastLonging_0 14 rfl rfl)
theorem dX4_leastLonging_17 : decode cX4_leastLonging 17 = .ok (.ifCond .eq 15, 3) := dk_153 0 15 (dk_at dksX4_leastLonging_0 17 rfl rfl)
theorem dX4_leastLonging_20 : decode cX4_leastLonging 20 = .ok (.iload_n 3, 1) := dk_29 (dk_at dksX4_leastLonging_0 20 rfl rfl)
theorem dX4_leastLonging_21 : decode cX4_leastLonging 21 = .ok (.i2l, 1) := dk_133 (dk_at dksX4_leastLonging_0 21 rfl rfl)
theorem dX4_leastLonging_22 : decode cX4_leastLonging 22 = .ok (.lconst 0, 1) := dk_9 (dk_at dksX4_leastLonging_0 22 rfl rfl)
theorem dX4_leastLonging_23 : decode cX4_leastLonging 23 = .ok (.ldc2_w 75, 3) := dk_20 0 75 (dk_at dksX4_leastLonging_1 0 rfl rfl)
theorem dX4_leastLonging_26 : decode cX4_leastLonging 26 = .ok (.invokestatic 77, 3) := dk_184 0 77 (dk_at dksX4_leastLonging_1 3 rfl rfl)
theorem dX4_leastLonging_29 : decode cX4_leastLonging 29 = .ok (.ifCond .ne 5, 3) := dk_154 0 5 (dk_at dksX4_leastLonging_1 6 rfl rfl)
theorem dX4_leastLonging_32 : decode cX4_leastLonging 32 = .ok (.iconst (-1), 1) := dk_2 (dk_at dksX4_leastLonging_1 9 rfl rfl)
theorem dX4_leastLonging_33 : decode cX4_leastLonging 33 = .ok (.ireturn, 1) := dk_172 (dk_at dksX4_leastLonging_1 10 rfl rfl)
theorem dX4_leastLonging_34 : decode cX4_leastLonging 34 = .ok (.bipush (-4), 2) := dk_16 252 (dk_at dksX4_leastLonging_1 11 rfl rfl)
theorem dX4_leastLonging_36 : decode cX4_leastLonging 36 = .ok (.istore 4, 2) := dk_54 4 (dk_at dksX4_leastLonging_1 13 rfl rfl)
theorem dX4_leastLonging_38 : decode cX4_leastLonging 38 = .ok (.aload_n 0, 1) := dk_42 (dk_at dksX4_leastLonging_1 15 rfl rfl)
theorem dX4_leastLonging_39 : decode cX4_leastLonging 39 = .ok (.invokevirtual 177, 3) := dk_182 0 177 (dk_at dksX4_leastLonging_1 16 rfl rfl)
theorem dX4_leastLonging_42 : decode cX4_leastLonging 42 = .ok (.iconst 0, 1) := dk_3 (dk_at dksX4_leastLonging_1 19 rfl rfl)
theorem dX4_leastLonging_43 : decode cX4_leastLonging 43 = .ok (.istore 5, 2) := dk_54 5 (dk_at dksX4_leastLonging_1 20 rfl rfl)
theorem dX4_leastLonging_45 : decode cX4_leastLonging 45 = .ok (.iload 5, 2) := dk_21 5 (dk_at dksX4_leastLonging_1 22 rfl rfl)
theorem dX4_leastLonging_47 : decode cX4_leastLonging 47 = .ok (.bipush 99, 2) := dk_16 99 (dk_at dksX4_leastLonging_2 0 rfl rfl)
theorem dX4_leastLonging_49 : decode cX4_leastLonging 49 = .ok (.if_icmp .gt 45, 3) := dk_163 0 45 (dk_at dksX4_leastLonging_2 2 rfl rfl)
theorem dX4_leastLonging_52 : decode cX4_leastLonging 52 = .ok (.iload 4, 2) := dk_21 4 (dk_at dksX4_leastLonging_2 5 rfl rfl)
theorem dX4_leastLonging_54 : decode cX4_leastLonging 54 = .ok (.ifCond .ge 40, 3) := dk_156 0 40 (dk_at dksX4_leastLonging_2 7 rfl rfl)
theorem dX4_leastLonging_57 : decode cX4_leastLonging 57 = .ok (.aload_n 0, 1) := dk_42 (dk_at dksX4_leastLonging_2 10 rfl rfl)
theorem dX4_leastLonging_58 : decode cX4_leastLonging 58 = .ok (.getfield 22, 3) := dk_180 0 22 (dk_at dksX4_leastLonging_2 11 rfl rfl)
theorem dX4_leastLonging_61 : decode cX4_leastLonging 61 = .ok (.iload_n 1, 1) := dk_27 (dk_at dksX4_leastLonging_2 14 rfl rfl)
theorem dX4_leastLonging_62 : decode cX4_leastLonging 62 = .ok (.iload 5, 2) := dk_21 5 (dk_at dksX4_leastLonging_2 15 rfl rfl)
theorem dX4_leastLonging_64 : decode cX4_leastLonging 64 = .ok (.iastore, 1) := dk_79 (dk_at dksX4_leastLonging_2 17 rfl rfl)
theorem dX4_leastLonging_65 : decode cX4_leastLonging 65 = .ok (.aload_n 0, 1) := dk_42 (dk_at dksX4_leastLonging_2 18 rfl rfl)
theorem dX4_leastLonging_66 : decode cX4_leastLonging 66 = .ok (.iload_n 1, 1) := dk_27 (dk_at dksX4_leastLonging_2 19 rfl rfl)
theorem dX4_leastLonging_67 : decode cX4_leastLonging 67 = .ok (.iload_n 2, 1) := dk_28 (dk_at dksX4_leastLonging_2 20 rfl rfl)
theorem dX4_leastLonging_68 : decode cX4_leastLonging 68 = .ok (.invokevirtual 165, 3) := dk_182 0 165 (dk_at dksX4_leastLonging_2 21 rfl rfl)
theorem dX4_leastLonging_71 : decode cX4_leastLonging 71 = .ok (.iload_n 3, 1) := dk_29 (dk_at dksX4_leastLonging_3 0 rfl rfl)
theorem dX4_leastLonging_72 : decode cX4_leastLonging 72 = .ok (.if_icmp .gt 8, 3) := dk_163 0 8 (dk_at dksX4_leastLonging_3 1 rfl rfl)
theorem dX4_leastLonging_75 : decode cX4_leastLonging 75 = .ok (.iload 5, 2) := dk_21 5 (dk_at dksX4_leastLonging_3 4 rfl rfl)
theorem dX4_leastLonging_77 : decode cX4_leastLonging 77 = .ok (.goto 5, 3) := dk_167 0 5 (dk_at dksX4_leastLonging_3 6 rfl rfl)
theorem dX4_leastLonging_80 : decode cX4_leastLonging 80 = .ok (.bipush (-4), 2) := dk_16 252 (dk_at dksX4_leastLonging_3 9 rfl rfl)
theorem dX4_leastLonging_82 : decode cX4_leastLonging 82 = .ok (.istore 4, 2) := dk_54 4 (dk_at dksX4_leastLonging_3 11 rfl rfl)
theorem dX4_leastLonging_84 : decode cX4_leastLonging 84 = .ok (.aload_n 0, 1) := dk_42 (dk_at dksX4_leastLonging_3 13 rfl rfl)
theorem dX4_leastLonging_85 : decode cX4_leastLonging 85 = .ok (.invokevirtual 183, 3) := dk_182 0 183 (dk_at dksX4_leastLonging_3 14 rfl rfl)
theorem dX4_leastLonging_88 : decode cX4_leastLonging 88 = .ok (.iinc 5 1, 3) := dk_132 5 1 (dk_at dksX4_leastLonging_3 17 rfl rfl)
theorem dX4_leastLonging_91 : decode cX4_leastLonging 91 = .ok (.goto (-46), 3) := dk_167 255 210 (dk_at dksX4_leastLonging_3 20 rfl rfl)
theorem dX4_leastLonging_94 : decode cX4_leastLonging 94 = .ok (.iload 4, 2) := dk_21 4 (dk_at dksX4_leastLonging_4 0 rfl rfl)
theorem dX4_leastLonging_96 : decode cX4_leastLonging 96 = .ok (.ireturn, 1) := dk_172 (dk_at dksX4_leastLonging_4 2 rfl rfl)
abbrev cX4_soonest : ByteArray := prog_21_method_54_code
def yX4_soonest : MethodName := ⟨RX4, "soonest", "(III)I"⟩
def dkwX4_soonest_5 : List UInt8 := [167, 255, 183, 29, 154, 0, 8, 21, 4, 167, 0, 5, 21, 5, 172]
abbrev dktX4_soonest_5 : List UInt8 := dkwX4_soonest_5 ++ []
def dkwX4_soonest_4 : List UInt8 := [21, 5, 155, 0, 10, 21, 7, 21, 5, 162, 0, 8, 21, 7, 167, 0, 5, 21, 5, 54, 5, 132, 6, 1]
abbrev dktX4_soonest_4 : List UInt8 := dkwX4_soonest_4 ++ dktX4_soonest_5
def dkwX4_soonest_3 : List UInt8 := [182, 0, 183, 21, 5, 155, 0, 10, 21, 7, 21, 5, 162, 0, 8, 21, 6, 167, 0, 5, 21, 4, 54, 4]
abbrev dktX4_soonest_3 : List UInt8 := dkwX4_soonest_3 ++ dktX4_soonest_4
def dkwX4_soonest_2 : List UInt8 := [16, 30, 163, 0, 72, 42, 21, 6, 182, 0, 154, 21, 6, 42, 27, 28, 182, 0, 165, 96, 54, 7, 42]
abbrev dktX4_soonest_2 : List UInt8 := dkwX4_soonest_2 ++ dktX4_soonest_3
def dkwX4_soonest_1 : List UInt8 := [184, 0, 77, 154, 0, 5, 2, 172, 3, 54, 4, 2, 54, 5, 42, 182, 0, 177, 3, 54, 6, 21, 6]
abbrev dktX4_soonest_1 : List UInt8 := dkwX4_soonest_1 ++ dktX4_soonest_2
def dkwX4_soonest_0 : List UInt8 := [42, 3, 181, 0, 71, 42, 27, 182, 0, 162, 153, 0, 20, 28, 184, 0, 149, 153, 0, 13, 29, 133, 9, 10]
abbrev dktX4_soonest_0 : List UInt8 := dkwX4_soonest_0 ++ dktX4_soonest_1
theorem dksX4_soonest_0 : cX4_soonest.data.toList.drop 0 = dktX4_soonest_0 := by decide +kernel
theorem dksX4_soonest_1 : cX4_soonest.data.toList.drop 24 = dktX4_soonest_1 := dk_seg dksX4_soonest_0 24 rfl rfl
theorem dksX4_soonest_2 : cX4_soonest.data.toList.drop 47 = dktX4_soonest_2 := dk_seg dksX4_soonest_1 23 rfl rfl
theorem dksX4_soonest_3 : cX4_soonest.data.toList.drop 70 = dktX4_soonest_3 := dk_seg dksX4_soonest_2 23 rfl rfl
theorem dksX4_soonest_4 : cX4_soonest.data.toList.drop 94 = dktX4_soonest_4 := dk_seg dksX4_soonest_3 24 rfl rfl
theorem dksX4_soonest_5 : cX4_soonest.data.toList.drop 118 = dktX4_soonest_5 := dk_seg dksX4_soonest_4 24 rfl rfl
theorem dX4_soonest_0 : decode cX4_soonest 0 = .ok (.aload_n 0, 1) := dk_42 (dk_at dksX4_soonest_0 0 rfl rfl)
theorem dX4_soonest_1 : decode cX4_soonest 1 = .ok (.iconst 0, 1) := dk_3 (dk_at dksX4_soonest_0 1 rfl rfl)
theorem dX4_soonest_2 : decode cX4_soonest 2 = .ok (.putfield 71, 3) := dk_181 0 71 (dk_at dksX4_soonest_0 2 rfl rfl)
theorem dX4_soonest_5 : decode cX4_soonest 5 = .ok (.aload_n 0, 1) := dk_42 (dk_at dksX4_soonest_0 5 rfl rfl)
theorem dX4_soonest_6 : decode cX4_soonest 6 = .ok (.iload_n 1, 1) := dk_27 (dk_at dksX4_soonest_0 6 rfl rfl)
theorem dX4_soonest_7 : decode cX4_soonest 7 = .ok (.invokevirtual 162, 3) := dk_182 0 162 (dk_at dksX4_soonest_0 7 rfl rfl)
theorem dX4_soonest_10 : decode cX4_soonest 10 = .ok (.ifCond .eq 20, 3) := dk_153 0 20 (dk_at dksX4_soonest_0 10 rfl rfl)
theorem dX4_soonest_13 : decode cX4_soonest 13 = .ok (.iload_n 2, 1) := dk_28 (dk_at dksX4_soonest_0 13 rfl rfl)
theorem dX4_soonest_14 : decode cX4_soonest 14 = .ok (.invokestatic 149, 3) := dk_184 0 149 (dk_at dksX4_soonest_0 14 rfl rfl)
theorem dX4_soonest_17 : decode cX4_soonest 17 = .ok (.ifCond .eq 13, 3) := dk_153 0 13 (dk_at dksX4_soonest_0 17 rfl rfl)
theorem dX4_soonest_20 : decode cX4_soonest 20 = .ok (.iload_n 3, 1) := dk_29 (dk_at dksX4_soonest_0 20 rfl rfl)
theorem dX4_soonest_21 : decode cX4_soonest 21 = .ok (.i2l, 1) := dk_133 (dk_at dksX4_soonest_0 21 rfl rfl)
theorem dX4_soonest_22 : decode cX4_soonest 22 = .ok (.lconst 0, 1) := dk_9 (dk_at dksX4_soonest_0 22 rfl rfl)
theorem dX4_soonest_23 : decode cX4_soonest 23 = .ok (.lconst 1, 1) := dk_10 (dk_at dksX4_soonest_0 23 rfl rfl)
theorem dX4_soonest_24 : decode cX4_soonest 24 = .ok (.invokestatic 77, 3) := dk_184 0 77 (dk_at dksX4_soonest_1 0 rfl rfl)
theorem dX4_soonest_27 : decode cX4_soonest 27 = .ok (.ifCond .ne 5, 3) := dk_154 0 5 (dk_at dksX4_soonest_1 3 rfl rfl)
theorem dX4_soonest_30 : decode cX4_soonest 30 = .ok (.iconst (-1), 1) := dk_2 (dk_at dksX4_soonest_1 6 rfl rfl)
theorem dX4_soonest_31 : decode cX4_soonest 31 = .ok (.ireturn, 1) := dk_172 (dk_at dksX4_soonest_1 7 rfl rfl)
theorem dX4_soonest_32 : decode cX4_soonest 32 = .ok (.iconst 0, 1) := dk_3 (dk_at dksX4_soonest_1 8 rfl rfl)
theorem dX4_soonest_33 : decode cX4_soonest 33 = .ok (.istore 4, 2) := dk_54 4 (dk_at dksX4_soonest_1 9 rfl rfl)
theorem dX4_soonest_35 : decode cX4_soonest 35 = .ok (.iconst (-1), 1) := dk_2 (dk_at dksX4_soonest_1 11 rfl rfl)
theorem dX4_soonest_36 : decode cX4_soonest 36 = .ok (.istore 5, 2) := dk_54 5 (dk_at dksX4_soonest_1 12 rfl rfl)
theorem dX4_soonest_38 : decode cX4_soonest 38 = .ok (.aload_n 0, 1) := dk_42 (dk_at dksX4_soonest_1 14 rfl rfl)
theorem dX4_soonest_39 : decode cX4_soonest 39 = .ok (.invokevirtual 177, 3) := dk_182 0 177 (dk_at dksX4_soonest_1 15 rfl rfl)
theorem dX4_soonest_42 : decode cX4_soonest 42 = .ok (.iconst 0, 1) := dk_3 (dk_at dksX4_soonest_1 18 rfl rfl)
theorem dX4_soonest_43 : decode cX4_soonest 43 = .ok (.istore 6, 2) := dk_54 6 (dk_at dksX4_soonest_1 19 rfl rfl)
theorem dX4_soonest_45 : decode cX4_soonest 45 = .ok (.iload 6, 2) := dk_21 6 (dk_at dksX4_soonest_1 21 rfl rfl)
theorem dX4_soonest_47 : decode cX4_soonest 47 = .ok (.bipush 30, 2) := dk_16 30 (dk_at dksX4_soonest_2 0 rfl rfl)
theorem dX4_soonest_49 : decode cX4_soonest 49 = .ok (.if_icmp .gt 72, 3) := dk_163 0 72 (dk_at dksX4_soonest_2 2 rfl rfl)
theorem dX4_soonest_52 : decode cX4_soonest 52 = .ok (.aload_n 0, 1) := dk_42 (dk_at dksX4_soonest_2 5 rfl rfl)
theorem dX4_soonest_53 : decode cX4_soonest 53 = .ok (.iload 6, 2) := dk_21 6 (dk_at dksX4_soonest_2 6 rfl rfl)
theorem dX4_soonest_55 : decode cX4_soonest 55 = .ok (.invokevirtual 154, 3) := dk_182 0 154 (dk_at dksX4_soonest_2 8 rfl rfl)
theorem dX4_soonest_58 : decode cX4_soonest 58 = .ok (.iload 6, 2) := dk_21 6 (dk_at dksX4_soonest_2 11 rfl rfl)
theorem dX4_soonest_60 : decode cX4_soonest 60 = .ok (.aload_n 0, 1) := dk_42 (dk_at dksX4_soonest_2 13 rfl rfl)
theorem dX4_soonest_61 : decode cX4_soonest 61 = .ok (.iload_n 1, 1) := dk_27 (dk_at dksX4_soonest_2 14 rfl rfl)
theorem dX4_soonest_62 : decode cX4_soonest 62 = .ok (.iload_n 2, 1) := dk_28 (dk_at dksX4_soonest_2 15 rfl rfl)
theorem dX4_soonest_63 : decode cX4_soonest 63 = .ok (.invokevirtual 165, 3) := dk_182 0 165 (dk_at dksX4_soonest_2 16 rfl rfl)
theorem dX4_soonest_66 : decode cX4_soonest 66 = .ok (.iadd, 1) := dk_96 (dk_at dksX4_soonest_2 19 rfl rfl)
theorem dX4_soonest_67 : decode cX4_soonest 67 = .ok (.istore 7, 2) := dk_54 7 (dk_at dksX4_soonest_2 20 rfl rfl)
theorem dX4_soonest_69 : decode cX4_soonest 69 = .ok (.aload_n 0, 1) := dk_42 (dk_at dksX4_soonest_2 22 rfl rfl)
theorem dX4_soonest_70 : decode cX4_soonest 70 = .ok (.invokevirtual 183, 3) := dk_182 0 183 (dk_at dksX4_soonest_3 0 rfl rfl)
theorem dX4_soonest_73 : decode cX4_soonest 73 = .ok (.iload 5, 2) := dk_21 5 (dk_at dksX4_soonest_3 3 rfl rfl)
theorem dX4_soonest_75 : decode cX4_soonest 75 = .ok (.ifCond .lt 10, 3) := dk_155 0 10 (dk_at dksX4_soonest_3 5 rfl rfl)
theorem dX4_soonest_78 : decode cX4_soonest 78 = .ok (.iload 7, 2) := dk_21 7 (dk_at dksX4_soonest_3 8 rfl rfl)
theorem dX4_soonest_80 : decode cX4_soonest 80 = .ok (.iload 5, 2) := dk_21 5 (dk_at dksX4_soonest_3 10 rfl rfl)
theorem dX4_soonest_82 : decode cX4_soonest 82 = .ok (.if_icmp .ge 8, 3) := dk_162 0 8 (dk_at dksX4_soonest_3 12 rfl rfl)
theorem dX4_soonest_85 : decode cX4_soonest 85 = .ok (.iload 6, 2) := dk_21 6 (dk_at dksX4_soonest_3 15 rfl rfl)
theorem dX4_soonest_87 : decode cX4_soonest 87 = .ok (.goto 5, 3) := dk_167 0 5 (dk_at dksX4_soonest_3 17 rfl rfl)
theorem dX4_soonest_90 : decode cX4_soonest 90 = .ok (.iload 4, 2) := dk_21 4 (dk_at dksX4_soonest_3 20 rfl rfl)
theorem dX4_soonest_92 : decode cX4_soonest 92 = .ok (.istore 4, 2) := dk_54 4 (dk_at dksX4_soonest_3 22 rfl rfl)
theorem dX4_soonest_94 : decode cX4_soonest 94 = .ok (.iload 5, 2) := dk_21 5 (dk_at dksX4_soonest_4 0 rfl rfl)
theorem dX4_soonest_96 : decode cX4_soonest 96 = .ok (.ifCond .lt 10, 3) := dk_155 0 10 (dk_at dksX4_soonest_4 2 rfl rfl)
theorem dX4_soonest_99 : decode cX4_soonest 99 = .ok (.iload 7, 2) := dk_21 7 (dk_at dksX4_soonest_4 5 rfl rfl)
theorem dX4_soonest_101 : decode cX4_soonest 101 = .ok (.iload 5, 2) := dk_21 5 (dk_at dksX4_soonest_4 7 rfl rfl)
theorem dX4_soonest_103 : decode cX4_soonest 103 = .ok (.if_icmp .ge 8, 3) := dk_162 0 8 (dk_at dksX4_soonest_4 9 rfl rfl)
theorem dX4_soonest_106 : decode cX4_soonest 106 = .ok (.iload 7, 2) := dk_21 7 (dk_at dksX4_soonest_4 12 rfl rfl)
theorem dX4_soonest_108 : decode cX4_soonest 108 = .ok (.goto 5, 3) := dk_167 0 5 (dk_at dksX4_soonest_4 14 rfl rfl)
theorem dX4_soonest_111 : decode cX4_soonest 111 = .ok (.iload 5, 2) := dk_21 5 (dk_at dksX4_soonest_4 17 rfl rfl)
theorem dX4_soonest_113 : decode cX4_soonest 113 = .ok (.istore 5, 2) := dk_54 5 (dk_at dksX4_soonest_4 19 rfl rfl)
theorem dX4_soonest_115 : decode cX4_soonest 115 = .ok (.iinc 6 1, 3) := dk_132 6 1 (dk_at dksX4_soonest_4 21 rfl rfl)
theorem dX4_soonest_118 : decode cX4_soonest 118 = .ok (.goto (-73), 3) := dk_167 255 183 (dk_at dksX4_soonest_5 0 rfl rfl)
theorem dX4_soonest_121 : decode cX4_soonest 121 = .ok (.iload_n 3, 1) := dk_29 (dk_at dksX4_soonest_5 3 rfl rfl)
theorem dX4_soonest_122 : decode cX4_soonest 122 = .ok (.ifCond .ne 8, 3) := dk_154 0 8 (dk_at dksX4_soonest_5 4 rfl rfl)
theorem dX4_soonest_125 : decode cX4_soonest 125 = .ok (.iload 4, 2) := dk_21 4 (dk_at dksX4_soonest_5 7 rfl rfl)
theorem dX4_soonest_127 : decode cX4_soonest 127 = .ok (.goto 5, 3) := dk_167 0 5 (dk_at dksX4_soonest_5 9 rfl rfl)
theorem dX4_soonest_130 : decode cX4_soonest 130 = .ok (.iload 5, 2) := dk_21 5 (dk_at dksX4_soonest_5 12 rfl rfl)
theorem dX4_soonest_132 : decode cX4_soonest 132 = .ok (.ireturn, 1) := dk_172 (dk_at dksX4_soonest_5 14 rfl rfl)
abbrev cX4_race : ByteArray := prog_21_method_55_code
def yX4_race : MethodName := ⟨RX4, "race", "(III)I"⟩
def dkwX4_race_3 : List UInt8 := [27, 167, 0, 4, 28, 172]
abbrev dktX4_race_3 : List UInt8 := dkwX4_race_3 ++ []
def dkwX4_race_2 : List UInt8 := [182, 0, 215, 54, 5, 21, 4, 21, 5, 160, 0, 8, 16, 252, 167, 0, 15, 21, 4, 21, 5, 162, 0, 7]
abbrev dktX4_race_2 : List UInt8 := dkwX4_race_2 ++ dktX4_race_3
def dkwX4_race_1 : List UInt8 := [159, 0, 10, 29, 184, 0, 149, 154, 0, 5, 2, 172, 42, 27, 29, 182, 0, 215, 54, 4, 42, 28, 29]
abbrev dktX4_race_1 : List UInt8 := dkwX4_race_1 ++ dktX4_race_2
def dkwX4_race_0 : List UInt8 := [42, 3, 181, 0, 71, 42, 27, 182, 0, 162, 153, 0, 23, 42, 28, 182, 0, 162, 153, 0, 15, 27, 28]
abbrev dktX4_race_0 : List UInt8 := dkwX4_race_0 ++ dktX4_race_1
theorem dksX4_race_0 : cX4_race.data.toList.drop 0 = dktX4_race_0 := by decide +kernel
theorem dksX4_race_1 : cX4_race.data.toList.drop 23 = dktX4_race_1 := dk_seg dksX4_race_0 23 rfl rfl
theorem dksX4_race_2 : cX4_race.data.toList.drop 46 = dktX4_race_2 := dk_seg dksX4_race_1 23 rfl rfl
theorem dksX4_race_3 : cX4_race.data.toList.drop 70 = dktX4_race_3 := dk_seg dksX4_race_2 24 rfl rfl
theorem dX4_race_0 : decode cX4_race 0 = .ok (.aload_n 0, 1) := dk_42 (dk_at dksX4_race_0 0 rfl rfl)
theorem dX4_race_1 : decode cX4_race 1 = .ok (.iconst 0, 1) := dk_3 (dk_at dksX4_race_0 1 rfl rfl)
theorem dX4_race_2 : decode cX4_race 2 = .ok (.putfield 71, 3) := dk_181 0 71 (dk_at dksX4_race_0 2 rfl rfl)
theorem dX4_race_5 : decode cX4_race 5 = .ok (.aload_n 0, 1) := dk_42 (dk_at dksX4_race_0 5 rfl rfl)
theorem dX4_race_6 : decode cX4_race 6 = .ok (.iload_n 1, 1) := dk_27 (dk_at dksX4_race_0 6 rfl rfl)
theorem dX4_race_7 : decode cX4_race 7 = .ok (.invokevirtual 162, 3) := dk_182 0 162 (dk_at dksX4_race_0 7 rfl rfl)
theorem dX4_race_10 : decode cX4_race 10 = .ok (.ifCond .eq 23, 3) := dk_153 0 23 (dk_at dksX4_race_0 10 rfl rfl)
theorem dX4_race_13 : decode cX4_race 13 = .ok (.aload_n 0, 1) := dk_42 (dk_at dksX4_race_0 13 rfl rfl)
theorem dX4_race_14 : decode cX4_race 14 = .ok (.iload_n 2, 1) := dk_28 (dk_at dksX4_race_0 14 rfl rfl)
theorem dX4_race_15 : decode cX4_race 15 = .ok (.invokevirtual 162, 3) := dk_182 0 162 (dk_at dksX4_race_0 15 rfl rfl)
theorem dX4_race_18 : decode cX4_race 18 = .ok (.ifCond .eq 15, 3) := dk_153 0 15 (dk_at dksX4_race_0 18 rfl rfl)
theorem dX4_race_21 : decode cX4_race 21 = .ok (.iload_n 1, 1) := dk_27 (dk_at dksX4_race_0 21 rfl rfl)
theorem dX4_race_22 : decode cX4_race 22 = .ok (.iload_n 2, 1) := dk_28 (dk_at dksX4_race_0 22 rfl rfl)
theorem dX4_race_23 : decode cX4_race 23 = .ok (.if_icmp .eq 10, 3) := dk_159 0 10 (dk_at dksX4_race_1 0 rfl rfl)
theorem dX4_race_26 : decode cX4_race 26 = .ok (.iload_n 3, 1) := dk_29 (dk_at dksX4_race_1 3 rfl rfl)
theorem dX4_race_27 : decode cX4_race 27 = .ok (.invokestatic 149, 3) := dk_184 0 149 (dk_at dksX4_race_1 4 rfl rfl)
theorem dX4_race_30 : decode cX4_race 30 = .ok (.ifCond .ne 5, 3) := dk_154 0 5 (dk_at dksX4_race_1 7 rfl rfl)
theorem dX4_race_33 : decode cX4_race 33 = .ok (.iconst (-1), 1) := dk_2 (dk_at dksX4_race_1 10 rfl rfl)
theorem dX4_race_34 : decode cX4_race 34 = .ok (.ireturn, 1) := dk_172 (dk_at dksX4_race_1 11 rfl rfl)
theorem dX4_race_35 : decode cX4_race 35 = .ok (.aload_n 0, 1) := dk_42 (dk_at dksX4_race_1 12 rfl rfl)
theorem dX4_race_36 : decode cX4_race 36 = .ok (.iload_n 1, 1) := dk_27 (dk_at dksX4_race_1 13 rfl rfl)
theorem dX4_race_37 : decode cX4_race 37 = .ok (.iload_n 3, 1) := dk_29 (dk_at dksX4_race_1 14 rfl rfl)
theorem dX4_race_38 : decode cX4_race 38 = .ok (.invokevirtual 215, 3) := dk_182 0 215 (dk_at dksX4_race_1 15 rfl rfl)
theorem dX4_race_41 : decode cX4_race 41 = .ok (.istore 4, 2) := dk_54 4 (dk_at dksX4_race_1 18 rfl rfl)
theorem dX4_race_43 : decode cX4_race 43 = .ok (.aload_n 0, 1) := dk_42 (dk_at dksX4_race_1 20 rfl rfl)
theorem dX4_race_44 : decode cX4_race 44 = .ok (.iload_n 2, 1) := dk_28 (dk_at dksX4_race_1 21 rfl rfl)
theorem dX4_race_45 : decode cX4_race 45 = .ok (.iload_n 3, 1) := dk_29 (dk_at dksX4_race_1 22 rfl rfl)
theorem dX4_race_46 : decode cX4_race 46 = .ok (.invokevirtual 215, 3) := dk_182 0 215 (dk_at dksX4_race_2 0 rfl rfl)
theorem dX4_race_49 : decode cX4_race 49 = .ok (.istore 5, 2) := dk_54 5 (dk_at dksX4_race_2 3 rfl rfl)
theorem dX4_race_51 : decode cX4_race 51 = .ok (.iload 4, 2) := dk_21 4 (dk_at dksX4_race_2 5 rfl rfl)
theorem dX4_race_53 : decode cX4_race 53 = .ok (.iload 5, 2) := dk_21 5 (dk_at dksX4_race_2 7 rfl rfl)
theorem dX4_race_55 : decode cX4_race 55 = .ok (.if_icmp .ne 8, 3) := dk_160 0 8 (dk_at dksX4_race_2 9 rfl rfl)
theorem dX4_race_58 : decode cX4_race 58 = .ok (.bipush (-4), 2) := dk_16 252 (dk_at dksX4_race_2 12 rfl rfl)
theorem dX4_race_60 : decode cX4_race 60 = .ok (.goto 15, 3) := dk_167 0 15 (dk_at dksX4_race_2 14 rfl rfl)
theorem dX4_race_63 : decode cX4_race 63 = .ok (.iload 4, 2) := dk_21 4 (dk_at dksX4_race_2 17 rfl rfl)
theorem dX4_race_65 : decode cX4_race 65 = .ok (.iload 5, 2) := dk_21 5 (dk_at dksX4_race_2 19 rfl rfl)
theorem dX4_race_67 : decode cX4_race 67 = .ok (.if_icmp .ge 7, 3) := dk_162 0 7 (dk_at dksX4_race_2 21 rfl rfl)
theorem dX4_race_70 : decode cX4_race 70 = .ok (.iload_n 1, 1) := dk_27 (dk_at dksX4_race_3 0 rfl rfl)
theorem dX4_race_71 : decode cX4_race 71 = .ok (.goto 4, 3) := dk_167 0 4 (dk_at dksX4_race_3 1 rfl rfl)
theorem dX4_race_74 : decode cX4_race 74 = .ok (.iload_n 2, 1) := dk_28 (dk_at dksX4_race_3 4 rfl rfl)
theorem dX4_race_75 : decode cX4_race 75 = .ok (.ireturn, 1) := dk_172 (dk_at dksX4_race_3 5 rfl rfl)
abbrev cX4_walkAhead : ByteArray := prog_21_method_56_code
def yX4_walkAhead : MethodName := ⟨RX4, "walkAhead", "(IIII)I"⟩
def dkwX4_walkAhead_6 : List UInt8 := [154, 0, 8, 21, 5, 167, 0, 5, 21, 6, 172]
abbrev dktX4_walkAhead_6 : List UInt8 := dkwX4_walkAhead_6 ++ []
def dkwX4_walkAhead_5 : List UInt8 := [21, 8, 21, 6, 162, 0, 8, 21, 8, 167, 0, 5, 21, 6, 54, 6, 132, 7, 1, 167, 255, 179, 21, 4]
abbrev dktX4_walkAhead_5 : List UInt8 := dkwX4_walkAhead_5 ++ dktX4_walkAhead_6
def dkwX4_walkAhead_4 : List UInt8 := [155, 0, 10, 21, 8, 21, 6, 162, 0, 8, 21, 7, 167, 0, 5, 21, 5, 54, 5, 21, 6, 155, 0, 10]
abbrev dktX4_walkAhead_4 : List UInt8 := dkwX4_walkAhead_4 ++ dktX4_walkAhead_5
def dkwX4_walkAhead_3 : List UInt8 := [21, 7, 79, 42, 29, 182, 0, 154, 42, 27, 28, 182, 0, 165, 54, 8, 42, 182, 0, 183, 21, 6]
abbrev dktX4_walkAhead_3 : List UInt8 := dkwX4_walkAhead_3 ++ dktX4_walkAhead_4
def dkwX4_walkAhead_2 : List UInt8 := [54, 5, 2, 54, 6, 42, 182, 0, 177, 3, 54, 7, 21, 7, 16, 20, 163, 0, 76, 42, 180, 0, 19, 27]
abbrev dktX4_walkAhead_2 : List UInt8 := dkwX4_walkAhead_2 ++ dktX4_walkAhead_3
def dkwX4_walkAhead_1 : List UInt8 := [20, 0, 235, 184, 0, 77, 153, 0, 14, 21, 4, 133, 9, 10, 184, 0, 77, 154, 0, 5, 2, 172, 3]
abbrev dktX4_walkAhead_1 : List UInt8 := dkwX4_walkAhead_1 ++ dktX4_walkAhead_2
def dkwX4_walkAhead_0 : List UInt8 := [42, 3, 181, 0, 71, 42, 27, 182, 0, 162, 153, 0, 33, 28, 184, 0, 149, 153, 0, 26, 29, 133, 9]
abbrev dktX4_walkAhead_0 : List UInt8 := dkwX4_walkAhead_0 ++ dktX4_walkAhead_1
theorem dksX4_walkAhead_0 : cX4_walkAhead.data.toList.drop 0 = dktX4_walkAhead_0 := by decide +kernel
theorem dksX4_walkAhead_1 : cX4_walkAhead.data.toList.drop 23 = dktX4_walkAhead_1 := dk_seg dksX4_walkAhead_0 23 rfl rfl
theorem dksX4_walkAhead_2 : cX4_walkAhead.data.toList.drop 46 = dktX4_walkAhead_2 := dk_seg dksX4_walkAhead_1 23 rfl rfl
theorem dksX4_walkAhead_3 : cX4_walkAhead.data.toList.drop 70 = dktX4_walkAhead_3 := dk_seg dksX4_walkAhead_2 24 rfl rfl
theorem dksX4_walkAhead_4 : cX4_walkAhead.data.toList.drop 92 = dktX4_walkAhead_4 := dk_seg dksX4_walkAhead_3 22 rfl rfl
theorem dksX4_walkAhead_5 : cX4_walkAhead.data.toList.drop 116 = dktX4_walkAhead_5 := dk_seg dksX4_walkAhead_4 24 rfl rfl
theorem dksX4_walkAhead_6 : cX4_walkAhead.data.toList.drop 140 = dktX4_walkAhead_6 := dk_seg dksX4_walkAhead_5 24 rfl rfl
theorem dX4_walkAhead_0 : decode cX4_walkAhead 0 = .ok (.aload_n 0, 1) := dk_42 (dk_at dksX4_walkAhead_0 0 rfl rfl)
theorem dX4_walkAhead_1 : decode cX4_walkAhead 1 = .ok (.iconst 0, 1) := dk_3 (dk_at dksX4_walkAhead_0 1 rfl rfl)
theorem dX4_walkAhead_2 : decode cX4_walkAhead 2 = .ok (.putfield 71, 3) := dk_181 0 71 (dk_at dksX4_walkAhead_0 2 rfl rfl)
theorem dX4_walkAhead_5 : decode cX4_walkAhead 5 = .ok (.aload_n 0, 1) := dk_42 (dk_at dksX4_walkAhead_0 5 rfl rfl)
theorem dX4_walkAhead_6 : decode cX4_walkAhead 6 = .ok (.iload_n 1, 1) := dk_27 (dk_at dksX4_walkAhead_0 6 rfl rfl)
theorem dX4_walkAhead_7 : decode cX4_walkAhead 7 = .ok (.invokevirtual 162, 3) := dk_182 0 162 (dk_at dksX4_walkAhead_0 7 rfl rfl)
theorem dX4_walkAhead_10 : decode cX4_walkAhead 10 = .ok (.ifCond .eq 33, 3) := dk_153 0 33 (dk_at dksX4_walkAhead_0 10 rfl rfl)
theorem dX4_walkAhead_13 : decode cX4_walkAhead 13 = .ok (.iload_n 2, 1) := dk_28 (dk_at dksX4_walkAhead_0 13 rfl rfl)
theorem dX4_walkAhead_14 : decode cX4_walkAhead 14 = .ok (.invokestatic 149, 3) := dk_184 0 149 (dk_at dksX4_walkAhead_0 14 rfl rfl)
theorem dX4_walkAhead_17 : decode cX4_walkAhead 17 = .ok (.ifCond .eq 26, 3) := dk_153 0 26 (dk_at dksX4_walkAhead_0 17 rfl rfl)
theorem dX4_walkAhead_20 : decode cX4_walkAhead 20 = .ok (.iload_n 3, 1) := dk_29 (dk_at dksX4_walkAhead_0 20 rfl rfl)
theorem dX4_walkAhead_21 : decode cX4_walkAhead 21 = .ok (.i2l, 1) := dk_133 (dk_at dksX4_walkAhead_0 21 rfl rfl)
theorem dX4_walkAhead_22 : decode cX4_walkAhead 22 = .ok (.lconst 0, 1) := dk_9 (dk_at dksX4_walkAhead_0 22 rfl rfl)
theorem dX4_walkAhead_23 : decode cX4_walkAhead 23 = .ok (.ldc2_w 235, 3) := dk_20 0 235 (dk_at dksX4_walkAhead_1 0 rfl rfl)
theorem dX4_walkAhead_26 : decode cX4_walkAhead 26 = .ok (.invokestatic 77, 3) := dk_184 0 77 (dk_at dksX4_walkAhead_1 3 rfl rfl)
theorem dX4_walkAhead_29 : decode cX4_walkAhead 29 = .ok (.ifCond .eq 14, 3) := dk_153 0 14 (dk_at dksX4_walkAhead_1 6 rfl rfl)
theorem dX4_walkAhead_32 : decode cX4_walkAhead 32 = .ok (.iload 4, 2) := dk_21 4 (dk_at dksX4_walkAhead_1 9 rfl rfl)
theorem dX4_walkAhead_34 : decode cX4_walkAhead 34 = .ok (.i2l, 1) := dk_133 (dk_at dksX4_walkAhead_1 11 rfl rfl)
theorem dX4_walkAhead_35 : decode cX4_walkAhead 35 = .ok (.lconst 0, 1) := dk_9 (dk_at dksX4_walkAhead_1 12 rfl rfl)
theorem dX4_walkAhead_36 : decode cX4_walkAhead 36 = .ok (.lconst 1, 1) := dk_10 (dk_at dksX4_walkAhead_1 13 rfl rfl)
theorem dX4_walkAhead_37 : decode cX4_walkAhead 37 = .ok (.invokestatic 77, 3) := dk_184 0 77 (dk_at dksX4_walkAhead_1 14 rfl rfl)
theorem dX4_walkAhead_40 : decode cX4_walkAhead 40 = .ok (.ifCond .ne 5, 3) := dk_154 0 5 (dk_at dksX4_walkAhead_1 17 rfl rfl)
theorem dX4_walkAhead_43 : decode cX4_walkAhead 43 = .ok (.iconst (-1), 1) := dk_2 (dk_at dksX4_walkAhead_1 20 rfl rfl)
theorem dX4_walkAhead_44 : decode cX4_walkAhead 44 = .ok (.ireturn, 1) := dk_172 (dk_at dksX4_walkAhead_1 21 rfl rfl)
theorem dX4_walkAhead_45 : decode cX4_walkAhead 45 = .ok (.iconst 0, 1) := dk_3 (dk_at dksX4_walkAhead_1 22 rfl rfl)
theorem dX4_walkAhead_46 : decode cX4_walkAhead 46 = .ok (.istore 5, 2) := dk_54 5 (dk_at dksX4_walkAhead_2 0 rfl rfl)
theorem dX4_walkAhead_48 : decode cX4_walkAhead 48 = .ok (.iconst (-1), 1) := dk_2 (dk_at dksX4_walkAhead_2 2 rfl rfl)
theorem dX4_walkAhead_49 : decode cX4_walkAhead 49 = .ok (.istore 6, 2) := dk_54 6 (dk_at dksX4_walkAhead_2 3 rfl rfl)
theorem dX4_walkAhead_51 : decode cX4_walkAhead 51 = .ok (.aload_n 0, 1) := dk_42 (dk_at dksX4_walkAhead_2 5 rfl rfl)
theorem dX4_walkAhead_52 : decode cX4_walkAhead 52 = .ok (.invokevirtual 177, 3) := dk_182 0 177 (dk_at dksX4_walkAhead_2 6 rfl rfl)
theorem dX4_walkAhead_55 : decode cX4_walkAhead 55 = .ok (.iconst 0, 1) := dk_3 (dk_at dksX4_walkAhead_2 9 rfl rfl)
theorem dX4_walkAhead_56 : decode cX4_walkAhead 56 = .ok (.istore 7, 2) := dk_54 7 (dk_at dksX4_walkAhead_2 10 rfl rfl)
theorem dX4_walkAhead_58 : decode cX4_walkAhead 58 = .ok (.iload 7, 2) := dk_21 7 (dk_at dksX4_walkAhead_2 12 rfl rfl)
theorem dX4_walkAhead_60 : decode cX4_walkAhead 60 = .ok (.bipush 20, 2) := dk_16 20 (dk_at dksX4_walkAhead_2 14 rfl rfl)
theorem dX4_walkAhead_62 : decode cX4_walkAhead 62 = .ok (.if_icmp .gt 76, 3) := dk_163 0 76 (dk_at dksX4_walkAhead_2 16 rfl rfl)
theorem dX4_walkAhead_65 : decode cX4_walkAhead 65 = .ok (.aload_n 0, 1) := dk_42 (dk_at dksX4_walkAhead_2 19 rfl rfl)
theorem dX4_walkAhead_66 : decode cX4_walkAhead 66 = .ok (.getfield 19, 3) := dk_180 0 19 (dk_at dksX4_walkAhead_2 20 rfl rfl)
theorem dX4_walkAhead_69 : decode cX4_walkAhead 69 = .ok (.iload_n 1, 1) := dk_27 (dk_at dksX4_walkAhead_2 23 rfl rfl)
theorem dX4_walkAhead_70 : decode cX4_walkAhead 70 = .ok (.iload 7, 2) := dk_21 7 (dk_at dksX4_walkAhead_3 0 rfl rfl)
theorem dX4_walkAhead_72 : decode cX4_walkAhead 72 = .ok (.iastore, 1) := dk_79 (dk_at dksX4_walkAhead_3 2 rfl rfl)
theorem dX4_walkAhead_73 : decode cX4_walkAhead 73 = .ok (.aload_n 0, 1) := dk_42 (dk_at dksX4_walkAhead_3 3 rfl rfl)
theorem dX4_walkAhead_74 : decode cX4_walkAhead 74 = .ok (.iload_n 3, 1) := dk_29 (dk_at dksX4_walkAhead_3 4 rfl rfl)
theorem dX4_walkAhead_75 : decode cX4_walkAhead 75 = .ok (.invokevirtual 154, 3) := dk_182 0 154 (dk_at dksX4_walkAhead_3 5 rfl rfl)
theorem dX4_walkAhead_78 : decode cX4_walkAhead 78 = .ok (.aload_n 0, 1) := dk_42 (dk_at dksX4_walkAhead_3 8 rfl rfl)
theorem dX4_walkAhead_79 : decode cX4_walkAhead 79 = .ok (.iload_n 1, 1) := dk_27 (dk_at dksX4_walkAhead_3 9 rfl rfl)
theorem dX4_walkAhead_80 : decode cX4_walkAhead 80 = .ok (.iload_n 2, 1) := dk_28 (dk_at dksX4_walkAhead_3 10 rfl rfl)
theorem dX4_walkAhead_81 : decode cX4_walkAhead 81 = .ok (.invokevirtual 165, 3) := dk_182 0 165 (dk_at dksX4_walkAhead_3 11 rfl rfl)
theorem dX4_walkAhead_84 : decode cX4_walkAhead 84 = .ok (.istore 8, 2) := dk_54 8 (dk_at dksX4_walkAhead_3 14 rfl rfl)
theorem dX4_walkAhead_86 : decode cX4_walkAhead 86 = .ok (.aload_n 0, 1) := dk_42 (dk_at dksX4_walkAhead_3 16 rfl rfl)
theorem dX4_walkAhead_87 : decode cX4_walkAhead 87 = .ok (.invokevirtual 183, 3) := dk_182 0 183 (dk_at dksX4_walkAhead_3 17 rfl rfl)
theorem dX4_walkAhead_90 : decode cX4_walkAhead 90 = .ok (.iload 6, 2) := dk_21 6 (dk_at dksX4_walkAhead_3 20 rfl rfl)
theorem dX4_walkAhead_92 : decode cX4_walkAhead 92 = .ok (.ifCond .lt 10, 3) := dk_155 0 10 (dk_at dksX4_walkAhead_4 0 rfl rfl)
theorem dX4_walkAhead_95 : decode cX4_walkAhead 95 = .ok (.iload 8, 2) := dk_21 8 (dk_at dksX4_walkAhead_4 3 rfl rfl)
theorem dX4_walkAhead_97 : decode cX4_walkAhead 97 = .ok (.iload 6, 2) := dk_21 6 (dk_at dksX4_walkAhead_4 5 rfl rfl)
theorem dX4_walkAhead_99 : decode cX4_walkAhead 99 = .ok (.if_icmp .ge 8, 3) := dk_162 0 8 (dk_at dksX4_walkAhead_4 7 rfl rfl)
theorem dX4_walkAhead_102 : decode cX4_walkAhead 102 = .ok (.iload 7, 2) := dk_21 7 (dk_at dksX4_walkAhead_4 10 rfl rfl)
theorem dX4_walkAhead_104 : decode cX4_walkAhead 104 = .ok (.goto 5, 3) := dk_167 0 5 (dk_at dksX4_walkAhead_4 12 rfl rfl)
theorem dX4_walkAhead_107 : decode cX4_walkAhead 107 = .ok (.iload 5, 2) := dk_21 5 (dk_at dksX4_walkAhead_4 15 rfl rfl)
theorem dX4_walkAhead_109 : decode cX4_walkAhead 109 = .ok (.istore 5, 2) := dk_54 5 (dk_at dksX4_walkAhead_4 17 rfl rfl)
theorem dX4_walkAhead_111 : decode cX4_walkAhead 111 = .ok (.iload 6, 2) := dk_21 6 (dk_at dksX4_walkAhead_4 19 rfl rfl)
theorem dX4_walkAhead_113 : decode cX4_walkAhead 113 = .ok (.ifCond .lt 10, 3) := dk_155 0 10 (dk_at dksX4_walkAhead_4 21 rfl rfl)
theorem dX4_walkAhead_116 : decode cX4_walkAhead 116 = .ok (.iload 8, 2) := dk_21 8 (dk_at dksX4_walkAhead_5 0 rfl rfl)
theorem dX4_walkAhead_118 : decode cX4_walkAhead 118 = .ok (.iload 6, 2) := dk_21 6 (dk_at dksX4_walkAhead_5 2 rfl rfl)
theorem dX4_walkAhead_120 : decode cX4_walkAhead 120 = .ok (.if_icmp .ge 8, 3) := dk_162 0 8 (dk_at dksX4_walkAhead_5 4 rfl rfl)
theorem dX4_walkAhead_123 : decode cX4_walkAhead 123 = .ok (.iload 8, 2) := dk_21 8 (dk_at dksX4_walkAhead_5 7 rfl rfl)
theorem dX4_walkAhead_125 : decode cX4_walkAhead 125 = .ok (.goto 5, 3) := dk_167 0 5 (dk_at dksX4_walkAhead_5 9 rfl rfl)
theorem dX4_walkAhead_128 : decode cX4_walkAhead 128 = .ok (.iload 6, 2) := dk_21 6 (dk_at dksX4_walkAhead_5 12 rfl rfl)
theorem dX4_walkAhead_130 : decode cX4_walkAhead 130 = .ok (.istore 6, 2) := dk_54 6 (dk_at dksX4_walkAhead_5 14 rfl rfl)
theorem dX4_walkAhead_132 : decode cX4_walkAhead 132 = .ok (.iinc 7 1, 3) := dk_132 7 1 (dk_at dksX4_walkAhead_5 16 rfl rfl)
theorem dX4_walkAhead_135 : decode cX4_walkAhead 135 = .ok (.goto (-77), 3) := dk_167 255 179 (dk_at dksX4_walkAhead_5 19 rfl rfl)
theorem dX4_walkAhead_138 : decode cX4_walkAhead 138 = .ok (.iload 4, 2) := dk_21 4 (dk_at dksX4_walkAhead_5 22 rfl rfl)
theorem dX4_walkAhead_140 : decode cX4_walkAhead 140 = .ok (.ifCond .ne 8, 3) := dk_154 0 8 (dk_at dksX4_walkAhead_6 0 rfl rfl)
theorem dX4_walkAhead_143 : decode cX4_walkAhead 143 = .ok (.iload 5, 2) := dk_21 5 (dk_at dksX4_walkAhead_6 3 rfl rfl)
theorem dX4_walkAhead_145 : decode cX4_walkAhead 145 = .ok (.goto 5, 3) := dk_167 0 5 (dk_at dksX4_walkAhead_6 5 rfl rfl)
theorem dX4_walkAhead_148 : decode cX4_walkAhead 148 = .ok (.iload 6, 2) := dk_21 6 (dk_at dksX4_walkAhead_6 8 rfl rfl)
theorem dX4_walkAhead_150 : decode cX4_walkAhead 150 = .ok (.ireturn, 1) := dk_172 (dk_at dksX4_walkAhead_6 10 rfl rfl)
abbrev cX4_hang : ByteArray := prog_21_method_57_code
def yX4_hang : MethodName := ⟨RX4, "hang", "(II)I"⟩
def dkwX4_hang_4 : List UInt8 := [21, 4, 54, 4, 132, 5, 1, 167, 255, 195, 28, 154, 0, 7, 29, 167, 0, 5, 21, 4, 172]
abbrev dktX4_hang_4 : List UInt8 := dkwX4_hang_4 ++ []
def dkwX4_hang_3 : List UInt8 := [21, 4, 164, 0, 8, 21, 5, 167, 0, 4, 29, 62, 21, 6, 21, 4, 164, 0, 8, 21, 6, 167, 0, 5]
abbrev dktX4_hang_3 : List UInt8 := dkwX4_hang_3 ++ dktX4_hang_4
def dkwX4_hang_2 : List UInt8 := [42, 21, 5, 181, 0, 88, 42, 27, 182, 0, 154, 42, 182, 0, 212, 54, 6, 42, 182, 0, 183, 21, 6]
abbrev dktX4_hang_2 : List UInt8 := dkwX4_hang_2 ++ dktX4_hang_3
def dkwX4_hang_1 : List UInt8 := [154, 0, 5, 2, 172, 3, 62, 2, 54, 4, 42, 182, 0, 177, 3, 54, 5, 21, 5, 16, 20, 163, 0, 60]
abbrev dktX4_hang_1 : List UInt8 := dkwX4_hang_1 ++ dktX4_hang_2
def dkwX4_hang_0 : List UInt8 := [42, 3, 181, 0, 71, 27, 133, 9, 20, 0, 152, 184, 0, 77, 153, 0, 13, 28, 133, 9, 10, 184, 0, 77]
abbrev dktX4_hang_0 : List UInt8 := dkwX4_hang_0 ++ dktX4_hang_1
theorem dksX4_hang_0 : cX4_hang.data.toList.drop 0 = dktX4_hang_0 := by decide +kernel
theorem dksX4_hang_1 : cX4_hang.data.toList.drop 24 = dktX4_hang_1 := dk_seg dksX4_hang_0 24 rfl rfl
theorem dksX4_hang_2 : cX4_hang.data.toList.drop 48 = dktX4_hang_2 := dk_seg dksX4_hang_1 24 rfl rfl
theorem dksX4_hang_3 : cX4_hang.data.toList.drop 71 = dktX4_hang_3 := dk_seg dksX4_hang_2 23 rfl rfl
theorem dksX4_hang_4 : cX4_hang.data.toList.drop 95 = dktX4_hang_4 := dk_seg dksX4_hang_3 24 rfl rfl
theorem dX4_hang_0 : decode cX4_hang 0 = .ok (.aload_n 0, 1) := dk_42 (dk_at dksX4_hang_0 0 rfl rfl)
theorem dX4_hang_1 : decode cX4_hang 1 = .ok (.iconst 0, 1) := dk_3 (dk_at dksX4_hang_0 1 rfl rfl)
theorem dX4_hang_2 : decode cX4_hang 2 = .ok (.putfield 71, 3) := dk_181 0 71 (dk_at dksX4_hang_0 2 rfl rfl)
theorem dX4_hang_5 : decode cX4_hang 5 = .ok (.iload_n 1, 1) := dk_27 (dk_at dksX4_hang_0 5 rfl rfl)
theorem dX4_hang_6 : decode cX4_hang 6 = .ok (.i2l, 1) := dk_133 (dk_at dksX4_hang_0 6 rfl rfl)
theorem dX4_hang_7 : decode cX4_hang 7 = .ok (.lconst 0, 1) := dk_9 (dk_at dksX4_hang_0 7 rfl rfl)
theorem dX4_hang_8 : decode cX4_hang 8 = .ok (.ldc2_w 152, 3) := dk_20 0 152 (dk_at dksX4_hang_0 8 rfl rfl)
theorem dX4_hang_11 : decode cX4_hang 11 = .ok (.invokestatic 77, 3) := dk_184 0 77 (dk_at dksX4_hang_0 11 rfl rfl)
theorem dX4_hang_14 : decode cX4_hang 14 = .ok (.ifCond .eq 13, 3) := dk_153 0 13 (dk_at dksX4_hang_0 14 rfl rfl)
theorem dX4_hang_17 : decode cX4_hang 17 = .ok (.iload_n 2, 1) := dk_28 (dk_at dksX4_hang_0 17 rfl rfl)
theorem dX4_hang_18 : decode cX4_hang 18 = .ok (.i2l, 1) := dk_133 (dk_at dksX4_hang_0 18 rfl rfl)
theorem dX4_hang_19 : decode cX4_hang 19 = .ok (.lconst 0, 1) := dk_9 (dk_at dksX4_hang_0 19 rfl rfl)
theorem dX4_hang_20 : decode cX4_hang 20 = .ok (.lconst 1, 1) := dk_10 (dk_at dksX4_hang_0 20 rfl rfl)
theorem dX4_hang_21 : decode cX4_hang 21 = .ok (.invokestatic 77, 3) := dk_184 0 77 (dk_at dksX4_hang_0 21 rfl rfl)
theorem dX4_hang_24 : decode cX4_hang 24 = .ok (.ifCond .ne 5, 3) := dk_154 0 5 (dk_at dksX4_hang_1 0 rfl rfl)
theorem dX4_hang_27 : decode cX4_hang 27 = .ok (.iconst (-1), 1) := dk_2 (dk_at dksX4_hang_1 3 rfl rfl)
theorem dX4_hang_28 : decode cX4_hang 28 = .ok (.ireturn, 1) := dk_172 (dk_at dksX4_hang_1 4 rfl rfl)
theorem dX4_hang_29 : decode cX4_hang 29 = .ok (.iconst 0, 1) := dk_3 (dk_at dksX4_hang_1 5 rfl rfl)
theorem dX4_hang_30 : decode cX4_hang 30 = .ok (.istore_n 3, 1) := dk_62 (dk_at dksX4_hang_1 6 rfl rfl)
theorem dX4_hang_31 : decode cX4_hang 31 = .ok (.iconst (-1), 1) := dk_2 (dk_at dksX4_hang_1 7 rfl rfl)
theorem dX4_hang_32 : decode cX4_hang 32 = .ok (.istore 4, 2) := dk_54 4 (dk_at dksX4_hang_1 8 rfl rfl)
theorem dX4_hang_34 : decode cX4_hang 34 = .ok (.aload_n 0, 1) := dk_42 (dk_at dksX4_hang_1 10 rfl rfl)
theorem dX4_hang_35 : decode cX4_hang 35 = .ok (.invokevirtual 177, 3) := dk_182 0 177 (dk_at dksX4_hang_1 11 rfl rfl)
theorem dX4_hang_38 : decode cX4_hang 38 = .ok (.iconst 0, 1) := dk_3 (dk_at dksX4_hang_1 14 rfl rfl)
theorem dX4_hang_39 : decode cX4_hang 39 = .ok (.istore 5, 2) := dk_54 5 (dk_at dksX4_hang_1 15 rfl rfl)
theorem dX4_hang_41 : decode cX4_hang 41 = .ok (.iload 5, 2) := dk_21 5 (dk_at dksX4_hang_1 17 rfl rfl)
theorem dX4_hang_43 : decode cX4_hang 43 = .ok (.bipush 20, 2) := dk_16 20 (dk_at dksX4_hang_1 19 rfl rfl)
theorem dX4_hang_45 : decode cX4_hang 45 = .ok (.if_icmp .gt 60, 3) := dk_163 0 60 (dk_at dksX4_hang_1 21 rfl rfl)
theorem dX4_hang_48 : decode cX4_hang 48 = .ok (.aload_n 0, 1) := dk_42 (dk_at dksX4_hang_2 0 rfl rfl)
theorem dX4_hang_49 : decode cX4_hang 49 = .ok (.iload 5, 2) := dk_21 5 (dk_at dksX4_hang_2 1 rfl rfl)
theorem dX4_hang_51 : decode cX4_hang 51 = .ok (.putfield 88, 3) := dk_181 0 88 (dk_at dksX4_hang_2 3 rfl rfl)
theorem dX4_hang_54 : decode cX4_hang 54 = .ok (.aload_n 0, 1) := dk_42 (dk_at dksX4_hang_2 6 rfl rfl)
theorem dX4_hang_55 : decode cX4_hang 55 = .ok (.iload_n 1, 1) := dk_27 (dk_at dksX4_hang_2 7 rfl rfl)
theorem dX4_hang_56 : decode cX4_hang 56 = .ok (.invokevirtual 154, 3) := dk_182 0 154 (dk_at dksX4_hang_2 8 rfl rfl)
theorem dX4_hang_59 : decode cX4_hang 59 = .ok (.aload_n 0, 1) := dk_42 (dk_at dksX4_hang_2 11 rfl rfl)
theorem dX4_hang_60 : decode cX4_hang 60 = .ok (.invokevirtual 212, 3) := dk_182 0 212 (dk_at dksX4_hang_2 12 rfl rfl)
theorem dX4_hang_63 : decode cX4_hang 63 = .ok (.istore 6, 2) := dk_54 6 (dk_at dksX4_hang_2 15 rfl rfl)
theorem dX4_hang_65 : decode cX4_hang 65 = .ok (.aload_n 0, 1) := dk_42 (dk_at dksX4_hang_2 17 rfl rfl)
theorem dX4_hang_66 : decode cX4_hang 66 = .ok (.invokevirtual 183, 3) := dk_182 0 183 (dk_at dksX4_hang_2 18 rfl rfl)
theorem dX4_hang_69 : decode cX4_hang 69 = .ok (.iload 6, 2) := dk_21 6 (dk_at dksX4_hang_2 21 rfl rfl)
theorem dX4_hang_71 : decode cX4_hang 71 = .ok (.iload 4, 2) := dk_21 4 (dk_at dksX4_hang_3 0 rfl rfl)
theorem dX4_hang_73 : decode cX4_hang 73 = .ok (.if_icmp .le 8, 3) := dk_164 0 8 (dk_at dksX4_hang_3 2 rfl rfl)
theorem dX4_hang_76 : decode cX4_hang 76 = .ok (.iload 5, 2) := dk_21 5 (dk_at dksX4_hang_3 5 rfl rfl)
theorem dX4_hang_78 : decode cX4_hang 78 = .ok (.goto 4, 3) := dk_167 0 4 (dk_at dksX4_hang_3 7 rfl rfl)
theorem dX4_hang_81 : decode cX4_hang 81 = .ok (.iload_n 3, 1) := dk_29 (dk_at dksX4_hang_3 10 rfl rfl)
theorem dX4_hang_82 : decode cX4_hang 82 = .ok (.istore_n 3, 1) := dk_62 (dk_at dksX4_hang_3 11 rfl rfl)
theorem dX4_hang_83 : decode cX4_hang 83 = .ok (.iload 6, 2) := dk_21 6 (dk_at dksX4_hang_3 12 rfl rfl)
theorem dX4_hang_85 : decode cX4_hang 85 = .ok (.iload 4, 2) := dk_21 4 (dk_at dksX4_hang_3 14 rfl rfl)
theorem dX4_hang_87 : decode cX4_hang 87 = .ok (.if_icmp .le 8, 3) := dk_164 0 8 (dk_at dksX4_hang_3 16 rfl rfl)
theorem dX4_hang_90 : decode cX4_hang 90 = .ok (.iload 6, 2) := dk_21 6 (dk_at dksX4_hang_3 19 rfl rfl)
theorem dX4_hang_92 : decode cX4_hang 92 = .ok (.goto 5, 3) := dk_167 0 5 (dk_at dksX4_hang_3 21 rfl rfl)
theorem dX4_hang_95 : decode cX4_hang 95 = .ok (.iload 4, 2) := dk_21 4 (dk_at dksX4_hang_4 0 rfl rfl)
theorem dX4_hang_97 : decode cX4_hang 97 = .ok (.istore 4, 2) := dk_54 4 (dk_at dksX4_hang_4 2 rfl rfl)
theorem dX4_hang_99 : decode cX4_hang 99 = .ok (.iinc 5 1, 3) := dk_132 5 1 (dk_at dksX4_hang_4 4 rfl rfl)
theorem dX4_hang_102 : decode cX4_hang 102 = .ok (.goto (-61), 3) := dk_167 255 195 (dk_at dksX4_hang_4 7 rfl rfl)
theorem dX4_hang_105 : decode cX4_hang 105 = .ok (.iload_n 2, 1) := dk_28 (dk_at dksX4_hang_4 10 rfl rfl)
theorem dX4_hang_106 : decode cX4_hang 106 = .ok (.ifCond .ne 7, 3) := dk_154 0 7 (dk_at dksX4_hang_4 11 rfl rfl)
theorem dX4_hang_109 : decode cX4_hang 109 = .ok (.iload_n 3, 1) := dk_29 (dk_at dksX4_hang_4 14 rfl rfl)
theorem dX4_hang_110 : decode cX4_hang 110 = .ok (.goto 5, 3) := dk_167 0 5 (dk_at dksX4_hang_4 15 rfl rfl)
theorem dX4_hang_113 : decode cX4_hang 113 = .ok (.iload 4, 2) := dk_21 4 (dk_at dksX4_hang_4 18 rfl rfl)
theorem dX4_hang_115 : decode cX4_hang 115 = .ok (.ireturn, 1) := dk_172 (dk_at dksX4_hang_4 20 rfl rfl)
abbrev cX4_meet : ByteArray := prog_21_method_58_code
def yX4_meet : MethodName := ⟨RX4, "meet", "(I)I"⟩
def dkwX4_meet_4 : List UInt8 := [167, 0, 4, 29, 62, 132, 4, 1, 167, 255, 178, 27, 154, 0, 7, 28, 167, 0, 4, 29, 172]
abbrev dktX4_meet_4 : List UInt8 := dkwX4_meet_4 ++ []
def dkwX4_meet_3 : List UInt8 := [162, 0, 8, 21, 4, 167, 0, 4, 28, 61, 29, 155, 0, 9, 21, 5, 29, 162, 0, 8, 21, 5]
abbrev dktX4_meet_3 : List UInt8 := dkwX4_meet_3 ++ dktX4_meet_4
def dkwX4_meet_2 : List UInt8 := [42, 21, 6, 21, 4, 182, 0, 215, 96, 54, 5, 132, 6, 1, 167, 255, 231, 29, 155, 0, 9, 21, 5, 29]
abbrev dktX4_meet_2 : List UInt8 := dkwX4_meet_2 ++ dktX4_meet_3
def dkwX4_meet_1 : List UInt8 := [21, 4, 16, 20, 163, 0, 77, 3, 54, 5, 3, 54, 6, 21, 6, 42, 180, 0, 81, 162, 0, 22, 21, 5]
abbrev dktX4_meet_1 : List UInt8 := dkwX4_meet_1 ++ dktX4_meet_2
def dkwX4_meet_0 : List UInt8 := [42, 3, 181, 0, 71, 27, 133, 9, 10, 184, 0, 77, 154, 0, 5, 2, 172, 3, 61, 2, 62, 3, 54, 4]
abbrev dktX4_meet_0 : List UInt8 := dkwX4_meet_0 ++ dktX4_meet_1
theorem dksX4_meet_0 : cX4_meet.data.toList.drop 0 = dktX4_meet_0 := by decide +kernel
theorem dksX4_meet_1 : cX4_meet.data.toList.drop 24 = dktX4_meet_1 := dk_seg dksX4_meet_0 24 rfl rfl
theorem dksX4_meet_2 : cX4_meet.data.toList.drop 48 = dktX4_meet_2 := dk_seg dksX4_meet_1 24 rfl rfl
theorem dksX4_meet_3 : cX4_meet.data.toList.drop 72 = dktX4_meet_3 := dk_seg dksX4_meet_2 24 rfl rfl
theorem dksX4_meet_4 : cX4_meet.data.toList.drop 94 = dktX4_meet_4 := dk_seg dksX4_meet_3 22 rfl rfl
theorem dX4_meet_0 : decode cX4_meet 0 = .ok (.aload_n 0, 1) := dk_42 (dk_at dksX4_meet_0 0 rfl rfl)
theorem dX4_meet_1 : decode cX4_meet 1 = .ok (.iconst 0, 1) := dk_3 (dk_at dksX4_meet_0 1 rfl rfl)
theorem dX4_meet_2 : decode cX4_meet 2 = .ok (.putfield 71, 3) := dk_181 0 71 (dk_at dksX4_meet_0 2 rfl rfl)
theorem dX4_meet_5 : decode cX4_meet 5 = .ok (.iload_n 1, 1) := dk_27 (dk_at dksX4_meet_0 5 rfl rfl)
theorem dX4_meet_6 : decode cX4_meet 6 = .ok (.i2l, 1) := dk_133 (dk_at dksX4_meet_0 6 rfl rfl)
theorem dX4_meet_7 : decode cX4_meet 7 = .ok (.lconst 0, 1) := dk_9 (dk_at dksX4_meet_0 7 rfl rfl)
theorem dX4_meet_8 : decode cX4_meet 8 = .ok (.lconst 1, 1) := dk_10 (dk_at dksX4_meet_0 8 rfl rfl)
theorem dX4_meet_9 : decode cX4_meet 9 = .ok (.invokestatic 77, 3) := dk_184 0 77 (dk_at dksX4_meet_0 9 rfl rfl)
theorem dX4_meet_12 : decode cX4_meet 12 = .ok (.ifCond .ne 5, 3) := dk_154 0 5 (dk_at dksX4_meet_0 12 rfl rfl)
theorem dX4_meet_15 : decode cX4_meet 15 = .ok (.iconst (-1), 1) := dk_2 (dk_at dksX4_meet_0 15 rfl rfl)
theorem dX4_meet_16 : decode cX4_meet 16 = .ok (.ireturn, 1) := dk_172 (dk_at dksX4_meet_0 16 rfl rfl)
theorem dX4_meet_17 : decode cX4_meet 17 = .ok (.iconst 0, 1) := dk_3 (dk_at dksX4_meet_0 17 rfl rfl)
theorem dX4_meet_18 : decode cX4_meet 18 = .ok (.istore_n 2, 1) := dk_61 (dk_at dksX4_meet_0 18 rfl rfl)
theorem dX4_meet_19 : decode cX4_meet 19 = .ok (.iconst (-1), 1) := dk_2 (dk_at dksX4_meet_0 19 rfl rfl)
theorem dX4_meet_20 : decode cX4_meet 20 = .ok (.istore_n 3, 1) := dk_62 (dk_at dksX4_meet_0 20 rfl rfl)
theorem dX4_meet_21 : decode cX4_meet 21 = .ok (.iconst 0, 1) := dk_3 (dk_at dksX4_meet_0 21 rfl rfl)
theorem dX4_meet_22 : decode cX4_meet 22 = .ok (.istore 4, 2) := dk_54 4 (dk_at dksX4_meet_0 22 rfl rfl)
theorem dX4_meet_24 : decode cX4_meet 24 = .ok (.iload 4, 2) := dk_21 4 (dk_at dksX4_meet_1 0 rfl rfl)
theorem dX4_meet_26 : decode cX4_meet 26 = .ok (.bipush 20, 2) := dk_16 20 (dk_at dksX4_meet_1 2 rfl rfl)
theorem dX4_meet_28 : decode cX4_meet 28 = .ok (.if_icmp .gt 77, 3) := dk_163 0 77 (dk_at dksX4_meet_1 4 rfl rfl)
theorem dX4_meet_31 : decode cX4_meet 31 = .ok (.iconst 0, 1) := dk_3 (dk_at dksX4_meet_1 7 rfl rfl)
theorem dX4_meet_32 : decode cX4_meet 32 = .ok (.istore 5, 2) := dk_54 5 (dk_at dksX4_meet_1 8 rfl rfl)
theorem dX4_meet_34 : decode cX4_meet 34 = .ok (.iconst 0, 1) := dk_3 (dk_at dksX4_meet_1 10 rfl rfl)
theorem dX4_meet_35 : decode cX4_meet 35 = .ok (.istore 6, 2) := dk_54 6 (dk_at dksX4_meet_1 11 rfl rfl)
theorem dX4_meet_37 : decode cX4_meet 37 = .ok (.iload 6, 2) := dk_21 6 (dk_at dksX4_meet_1 13 rfl rfl)
theorem dX4_meet_39 : decode cX4_meet 39 = .ok (.aload_n 0, 1) := dk_42 (dk_at dksX4_meet_1 15 rfl rfl)
theorem dX4_meet_40 : decode cX4_meet 40 = .ok (.getfield 81, 3) := dk_180 0 81 (dk_at dksX4_meet_1 16 rfl rfl)
theorem dX4_meet_43 : decode cX4_meet 43 = .ok (.if_icmp .ge 22, 3) := dk_162 0 22 (dk_at dksX4_meet_1 19 rfl rfl)
theorem dX4_meet_46 : decode cX4_meet 46 = .ok (.iload 5, 2) := dk_21 5 (dk_at dksX4_meet_1 22 rfl rfl)
theorem dX4_meet_48 : decode cX4_meet 48 = .ok (.aload_n 0, 1) := dk_42 (dk_at dksX4_meet_2 0 rfl rfl)
theorem dX4_meet_49 : decode cX4_meet 49 = .ok (.iload 6, 2) := dk_21 6 (dk_at dksX4_meet_2 1 rfl rfl)
theorem dX4_meet_51 : decode cX4_meet 51 = .ok (.iload 4, 2) := dk_21 4 (dk_at dksX4_meet_2 3 rfl rfl)
theorem dX4_meet_53 : decode cX4_meet 53 = .ok (.invokevirtual 215, 3) := dk_182 0 215 (dk_at dksX4_meet_2 5 rfl rfl)
theorem dX4_meet_56 : decode cX4_meet 56 = .ok (.iadd, 1) := dk_96 (dk_at dksX4_meet_2 8 rfl rfl)
theorem dX4_meet_57 : decode cX4_meet 57 = .ok (.istore 5, 2) := dk_54 5 (dk_at dksX4_meet_2 9 rfl rfl)
theorem dX4_meet_59 : decode cX4_meet 59 = .ok (.iinc 6 1, 3) := dk_132 6 1 (dk_at dksX4_meet_2 11 rfl rfl)
theorem dX4_meet_62 : decode cX4_meet 62 = .ok (.goto (-25), 3) := dk_167 255 231 (dk_at dksX4_meet_2 14 rfl rfl)
theorem dX4_meet_65 : decode cX4_meet 65 = .ok (.iload_n 3, 1) := dk_29 (dk_at dksX4_meet_2 17 rfl rfl)
theorem dX4_meet_66 : decode cX4_meet 66 = .ok (.ifCond .lt 9, 3) := dk_155 0 9 (dk_at dksX4_meet_2 18 rfl rfl)
theorem dX4_meet_69 : decode cX4_meet 69 = .ok (.iload 5, 2) := dk_21 5 (dk_at dksX4_meet_2 21 rfl rfl)
theorem dX4_meet_71 : decode cX4_meet 71 = .ok (.iload_n 3, 1) := dk_29 (dk_at dksX4_meet_2 23 rfl rfl)
theorem dX4_meet_72 : decode cX4_meet 72 = .ok (.if_icmp .ge 8, 3) := dk_162 0 8 (dk_at dksX4_meet_3 0 rfl rfl)
theorem dX4_meet_75 : decode cX4_meet 75 = .ok (.iload 4, 2) := dk_21 4 (dk_at dksX4_meet_3 3 rfl rfl)
theorem dX4_meet_77 : decode cX4_meet 77 = .ok (.goto 4, 3) := dk_167 0 4 (dk_at dksX4_meet_3 5 rfl rfl)
theorem dX4_meet_80 : decode cX4_meet 80 = .ok (.iload_n 2, 1) := dk_28 (dk_at dksX4_meet_3 8 rfl rfl)
theorem dX4_meet_81 : decode cX4_meet 81 = .ok (.istore_n 2, 1) := dk_61 (dk_at dksX4_meet_3 9 rfl rfl)
theorem dX4_meet_82 : decode cX4_meet 82 = .ok (.iload_n 3, 1) := dk_29 (dk_at dksX4_meet_3 10 rfl rfl)
theorem dX4_meet_83 : decode cX4_meet 83 = .ok (.ifCond .lt 9, 3) := dk_155 0 9 (dk_at dksX4_meet_3 11 rfl rfl)
theorem dX4_meet_86 : decode cX4_meet 86 = .ok (.iload 5, 2) := dk_21 5 (dk_at dksX4_meet_3 14 rfl rfl)
theorem dX4_meet_88 : decode cX4_meet 88 = .ok (.iload_n 3, 1) := dk_29 (dk_at dksX4_meet_3 16 rfl rfl)
theorem dX4_meet_89 : decode cX4_meet 89 = .ok (.if_icmp .ge 8, 3) := dk_162 0 8 (dk_at dksX4_meet_3 17 rfl rfl)
theorem dX4_meet_92 : decode cX4_meet 92 = .ok (.iload 5, 2) := dk_21 5 (dk_at dksX4_meet_3 20 rfl rfl)
theorem dX4_meet_94 : decode cX4_meet 94 = .ok (.goto 4, 3) := dk_167 0 4 (dk_at dksX4_meet_4 0 rfl rfl)
theorem dX4_meet_97 : decode cX4_meet 97 = .ok (.iload_n 3, 1) := dk_29 (dk_at dksX4_meet_4 3 rfl rfl)
theorem dX4_meet_98 : decode cX4_meet 98 = .ok (.istore_n 3, 1) := dk_62 (dk_at dksX4_meet_4 4 rfl rfl)
theorem dX4_meet_99 : decode cX4_meet 99 = .ok (.iinc 4 1, 3) := dk_132 4 1 (dk_at dksX4_meet_4 5 rfl rfl)
theorem dX4_meet_102 : decode cX4_meet 102 = .ok (.goto (-78), 3) := dk_167 255 178 (dk_at dksX4_meet_4 8 rfl rfl)
theorem dX4_meet_105 : decode cX4_meet 105 = .ok (.iload_n 1, 1) := dk_27 (dk_at dksX4_meet_4 11 rfl rfl)
theorem dX4_meet_106 : decode cX4_meet 106 = .ok (.ifCond .ne 7, 3) := dk_154 0 7 (dk_at dksX4_meet_4 12 rfl rfl)
theorem dX4_meet_109 : decode cX4_meet 109 = .ok (.iload_n 2, 1) := dk_28 (dk_at dksX4_meet_4 15 rfl rfl)
theorem dX4_meet_110 : decode cX4_meet 110 = .ok (.goto 4, 3) := dk_167 0 4 (dk_at dksX4_meet_4 16 rfl rfl)
theorem dX4_meet_113 : decode cX4_meet 113 = .ok (.iload_n 3, 1) := dk_29 (dk_at dksX4_meet_4 19 rfl rfl)
theorem dX4_meet_114 : decode cX4_meet 114 = .ok (.ireturn, 1) := dk_172 (dk_at dksX4_meet_4 20 rfl rfl)
abbrev cX4_spread : ByteArray := prog_21_method_59_code
def yX4_spread : MethodName := ⟨RX4, "spread", "()I"⟩
def dkwX4_spread_4 : List UInt8 := [167, 255, 176, 27, 172]
abbrev dktX4_spread_4 : List UInt8 := dkwX4_spread_4 ++ []
def dkwX4_spread_3 : List UInt8 := [21, 5, 28, 164, 0, 8, 21, 5, 167, 0, 4, 28, 61, 132, 4, 1, 167, 255, 195, 132, 3, 1]
abbrev dktX4_spread_3 : List UInt8 := dkwX4_spread_3 ++ dktX4_spread_4
def dkwX4_spread_2 : List UInt8 := [184, 0, 84, 54, 5, 21, 5, 28, 164, 0, 13, 16, 10, 29, 104, 21, 4, 96, 167, 0, 4, 27, 60]
abbrev dktX4_spread_2 : List UInt8 := dkwX4_spread_2 ++ dktX4_spread_3
def dkwX4_spread_1 : List UInt8 := [54, 4, 21, 4, 42, 180, 0, 81, 162, 0, 58, 42, 180, 0, 19, 29, 46, 42, 180, 0, 19, 21, 4, 46]
abbrev dktX4_spread_1 : List UInt8 := dkwX4_spread_1 ++ dktX4_spread_2
def dkwX4_spread_0 : List UInt8 := [42, 3, 181, 0, 71, 16, 252, 60, 2, 61, 3, 62, 29, 42, 180, 0, 81, 162, 0, 78, 29, 4, 96]
abbrev dktX4_spread_0 : List UInt8 := dkwX4_spread_0 ++ dktX4_spread_1
theorem dksX4_spread_0 : cX4_spread.data.toList.drop 0 = dktX4_spread_0 := by decide +kernel
theorem dksX4_spread_1 : cX4_spread.data.toList.drop 23 = dktX4_spread_1 := dk_seg dksX4_spread_0 23 rfl rfl
theorem dksX4_spread_2 : cX4_spread.data.toList.drop 47 = dktX4_spread_2 := dk_seg dksX4_spread_1 24 rfl rfl
theorem dksX4_spread_3 : cX4_spread.data.toList.drop 70 = dktX4_spread_3 := dk_seg dksX4_spread_2 23 rfl rfl
theorem dksX4_spread_4 : cX4_spread.data.toList.drop 92 = dktX4_spread_4 := dk_seg dksX4_spread_3 22 rfl rfl
theorem dX4_spread_0 : decode cX4_spread 0 = .ok (.aload_n 0, 1) := dk_42 (dk_at dksX4_spread_0 0 rfl rfl)
theorem dX4_spread_1 : decode cX4_spread 1 = .ok (.iconst 0, 1) := dk_3 (dk_at dksX4_spread_0 1 rfl rfl)
theorem dX4_spread_2 : decode cX4_spread 2 = .ok (.putfield 71, 3) := dk_181 0 71 (dk_at dksX4_spread_0 2 rfl rfl)
theorem dX4_spread_5 : decode cX4_spread 5 = .ok (.bipush (-4), 2) := dk_16 252 (dk_at dksX4_spread_0 5 rfl rfl)
theorem dX4_spread_7 : decode cX4_spread 7 = .ok (.istore_n 1, 1) := dk_60 (dk_at dksX4_spread_0 7 rfl rfl)
theorem dX4_spread_8 : decode cX4_spread 8 = .ok (.iconst (-1), 1) := dk_2 (dk_at dksX4_spread_0 8 rfl rfl)
theorem dX4_spread_9 : decode cX4_spread 9 = .ok (.istore_n 2, 1) := dk_61 (dk_at dksX4_spread_0 9 rfl rfl)
theorem dX4_spread_10 : decode cX4_spread 10 = .ok (.iconst 0, 1) := dk_3 (dk_at dksX4_spread_0 10 rfl rfl)
theorem dX4_spread_11 : decode cX4_spread 11 = .ok (.istore_n 3, 1) := dk_62 (dk_at dksX4_spread_0 11 rfl rfl)
theorem dX4_spread_12 : decode cX4_spread 12 = .ok (.iload_n 3, 1) := dk_29 (dk_at dksX4_spread_0 12 rfl rfl)
theorem dX4_spread_13 : decode cX4_spread 13 = .ok (.aload_n 0, 1) := dk_42 (dk_at dksX4_spread_0 13 rfl rfl)
theorem dX4_spread_14 : decode cX4_spread 14 = .ok (.getfield 81, 3) := dk_180 0 81 (dk_at dksX4_spread_0 14 rfl rfl)
theorem dX4_spread_17 : decode cX4_spread 17 = .ok (.if_icmp .ge 78, 3) := dk_162 0 78 (dk_at dksX4_spread_0 17 rfl rfl)
theorem dX4_spread_20 : decode cX4_spread 20 = .ok (.iload_n 3, 1) := dk_29 (dk_at dksX4_spread_0 20 rfl rfl)
theorem dX4_spread_21 : decode cX4_spread 21 = .ok (.iconst 1, 1) := dk_4 (dk_at dksX4_spread_0 21 rfl rfl)
theorem dX4_spread_22 : decode cX4_spread 22 = .ok (.iadd, 1) := dk_96 (dk_at dksX4_spread_0 22 rfl rfl)
theorem dX4_spread_23 : decode cX4_spread 23 = .ok (.istore 4, 2) := dk_54 4 (dk_at dksX4_spread_1 0 rfl rfl)
theorem dX4_spread_25 : decode cX4_spread 25 = .ok (.iload 4, 2) := dk_21 4 (dk_at dksX4_spread_1 2 rfl rfl)
theorem dX4_spread_27 : decode cX4_spread 27 = .ok (.aload_n 0, 1) := dk_42 (dk_at dksX4_spread_1 4 rfl rfl)
theorem dX4_spread_28 : decode cX4_spread 28 = .ok (.getfield 81, 3) := dk_180 0 81 (dk_at dksX4_spread_1 5 rfl rfl)
theorem dX4_spread_31 : decode cX4_spread 31 = .ok (.if_icmp .ge 58, 3) := dk_162 0 58 (dk_at dksX4_spread_1 8 rfl rfl)
theorem dX4_spread_34 : decode cX4_spread 34 = .ok (.aload_n 0, 1) := dk_42 (dk_at dksX4_spread_1 11 rfl rfl)
theorem dX4_spread_35 : decode cX4_spread 35 = .ok (.getfield 19, 3) := dk_180 0 19 (dk_at dksX4_spread_1 12 rfl rfl)
theorem dX4_spread_38 : decode cX4_spread 38 = .ok (.iload_n 3, 1) := dk_29 (dk_at dksX4_spread_1 15 rfl rfl)
theorem dX4_spread_39 : decode cX4_spread 39 = .ok (.iaload, 1) := dk_46 (dk_at dksX4_spread_1 16 rfl rfl)
theorem dX4_spread_40 : decode cX4_spread 40 = .ok (.aload_n 0, 1) := dk_42 (dk_at dksX4_spread_1 17 rfl rfl)
theorem dX4_spread_41 : decode cX4_spread 41 = .ok (.getfield 19, 3) := dk_180 0 19 (dk_at dksX4_spread_1 18 rfl rfl)
theorem dX4_spread_44 : decode cX4_spread 44 = .ok (.iload 4, 2) := dk_21 4 (dk_at dksX4_spread_1 21 rfl rfl)
theorem dX4_spread_46 : decode cX4_spread 46 = .ok (.iaload, 1) := dk_46 (dk_at dksX4_spread_1 23 rfl rfl)
theorem dX4_spread_47 : decode cX4_spread 47 = .ok (.invokestatic 84, 3) := dk_184 0 84 (dk_at dksX4_spread_2 0 rfl rfl)
theorem dX4_spread_50 : decode cX4_spread 50 = .ok (.istore 5, 2) := dk_54 5 (dk_at dksX4_spread_2 3 rfl rfl)
theorem dX4_spread_52 : decode cX4_spread 52 = .ok (.iload 5, 2) := dk_21 5 (dk_at dksX4_spread_2 5 rfl rfl)
theorem dX4_spread_54 : decode cX4_spread 54 = .ok (.iload_n 2, 1) := dk_28 (dk_at dksX4_spread_2 7 rfl rfl)
theorem dX4_spread_55 : decode cX4_spread 55 = .ok (.if_icmp .le 13, 3) := dk_164 0 13 (dk_at dksX4_spread_2 8 rfl rfl)
theorem dX4_spread_58 : decode cX4_spread 58 = .ok (.bipush 10, 2) := dk_16 10 (dk_at dksX4_spread_2 11 rfl rfl)
theorem dX4_spread_60 : decode cX4_spread 60 = .ok (.iload_n 3, 1) := dk_29 (dk_at dksX4_spread_2 13 rfl rfl)
theorem dX4_spread_61 : decode cX4_spread 61 = .ok (.imul, 1) := dk_104 (dk_at dksX4_spread_2 14 rfl rfl)
theorem dX4_spread_62 : decode cX4_spread 62 = .ok (.iload 4, 2) := dk_21 4 (dk_at dksX4_spread_2 15 rfl rfl)
theorem dX4_spread_64 : decode cX4_spread 64 = .ok (.iadd, 1) := dk_96 (dk_at dksX4_spread_2 17 rfl rfl)
theorem dX4_spread_65 : decode cX4_spread 65 = .ok (.goto 4, 3) := dk_167 0 4 (dk_at dksX4_spread_2 18 rfl rfl)
theorem dX4_spread_68 : decode cX4_spread 68 = .ok (.iload_n 1, 1) := dk_27 (dk_at dksX4_spread_2 21 rfl rfl)
theorem dX4_spread_69 : decode cX4_spread 69 = .ok (.istore_n 1, 1) := dk_60 (dk_at dksX4_spread_2 22 rfl rfl)
theorem dX4_spread_70 : decode cX4_spread 70 = .ok (.iload 5, 2) := dk_21 5 (dk_at dksX4_spread_3 0 rfl rfl)
theorem dX4_spread_72 : decode cX4_spread 72 = .ok (.iload_n 2, 1) := dk_28 (dk_at dksX4_spread_3 2 rfl rfl)
theorem dX4_spread_73 : decode cX4_spread 73 = .ok (.if_icmp .le 8, 3) := dk_164 0 8 (dk_at dksX4_spread_3 3 rfl rfl)
theorem dX4_spread_76 : decode cX4_spread 76 = .ok (.iload 5, 2) := dk_21 5 (dk_at dksX4_spread_3 6 rfl rfl)
theorem dX4_spread_78 : decode cX4_spread 78 = .ok (.goto 4, 3) := dk_167 0 4 (dk_at dksX4_spread_3 8 rfl rfl)
theorem dX4_spread_81 : decode cX4_spread 81 = .ok (.iload_n 2, 1) := dk_28 (dk_at dksX4_spread_3 11 rfl rfl)
theorem dX4_spread_82 : decode cX4_spread 82 = .ok (.istore_n 2, 1) := dk_61 (dk_at dksX4_spread_3 12 rfl rfl)
theorem dX4_spread_83 : decode cX4_spread 83 = .ok (.iinc 4 1, 3) := dk_132 4 1 (dk_at dksX4_spread_3 13 rfl rfl)
theorem dX4_spread_86 : decode cX4_spread 86 = .ok (.goto (-61), 3) := dk_167 255 195 (dk_at dksX4_spread_3 16 rfl rfl)
theorem dX4_spread_89 : decode cX4_spread 89 = .ok (.iinc 3 1, 3) := dk_132 3 1 (dk_at dksX4_spread_3 19 rfl rfl)
theorem dX4_spread_92 : decode cX4_spread 92 = .ok (.goto (-80), 3) := dk_167 255 176 (dk_at dksX4_spread_4 0 rfl rfl)
theorem dX4_spread_95 : decode cX4_spread 95 = .ok (.iload_n 1, 1) := dk_27 (dk_at dksX4_spread_4 3 rfl rfl)
theorem dX4_spread_96 : decode cX4_spread 96 = .ok (.ireturn, 1) := dk_172 (dk_at dksX4_spread_4 4 rfl rfl)
abbrev cX4_fees : ByteArray := prog_21_method_61_code
def yX4_fees : MethodName := ⟨RX4, "fees", "(II)I"⟩
def dkwX4_fees_3 : List UInt8 := [28, 182, 0, 242, 162, 0, 8, 21, 4, 167, 0, 4, 29, 62, 132, 4, 1, 167, 255, 217, 29, 172]
abbrev dktX4_fees_3 : List UInt8 := dkwX4_fees_3 ++ []
def dkwX4_fees_2 : List UInt8 := [54, 4, 21, 4, 42, 180, 0, 81, 162, 0, 36, 29, 155, 0, 19, 42, 21, 4, 28, 182, 0, 242, 42, 29]
abbrev dktX4_fees_2 : List UInt8 := dkwX4_fees_2 ++ dktX4_fees_3
def dkwX4_fees_1 : List UInt8 := [184, 0, 149, 154, 0, 5, 2, 172, 27, 155, 0, 10, 42, 27, 28, 182, 0, 242, 172, 16, 252, 62, 3]
abbrev dktX4_fees_1 : List UInt8 := dkwX4_fees_1 ++ dktX4_fees_2
def dkwX4_fees_0 : List UInt8 := [42, 3, 181, 0, 71, 27, 133, 20, 0, 240, 42, 180, 0, 81, 4, 100, 133, 184, 0, 77, 153, 0, 10, 28]
abbrev dktX4_fees_0 : List UInt8 := dkwX4_fees_0 ++ dktX4_fees_1
theorem dksX4_fees_0 : cX4_fees.data.toList.drop 0 = dktX4_fees_0 := by decide +kernel
theorem dksX4_fees_1 : cX4_fees.data.toList.drop 24 = dktX4_fees_1 := dk_seg dksX4_fees_0 24 rfl rfl
theorem dksX4_fees_2 : cX4_fees.data.toList.drop 47 = dktX4_fees_2 := dk_seg dksX4_fees_1 23 rfl rfl
theorem dksX4_fees_3 : cX4_fees.data.toList.drop 71 = dktX4_fees_3 := dk_seg dksX4_fees_2 24 rfl rfl
theorem dX4_fees_0 : decode cX4_fees 0 = .ok (.aload_n 0, 1) := dk_42 (dk_at dksX4_fees_0 0 rfl rfl)
theorem dX4_fees_1 : decode cX4_fees 1 = .ok (.iconst 0, 1) := dk_3 (dk_at dksX4_fees_0 1 rfl rfl)
theorem dX4_fees_2 : decode cX4_fees 2 = .ok (.putfield 71, 3) := dk_181 0 71 (dk_at dksX4_fees_0 2 rfl rfl)
theorem dX4_fees_5 : decode cX4_fees 5 = .ok (.iload_n 1, 1) := dk_27 (dk_at dksX4_fees_0 5 rfl rfl)
theorem dX4_fees_6 : decode cX4_fees 6 = .ok (.i2l, 1) := dk_133 (dk_at dksX4_fees_0 6 rfl rfl)
theorem dX4_fees_7 : decode cX4_fees 7 = .ok (.ldc2_w 240, 3) := dk_20 0 240 (dk_at dksX4_fees_0 7 rfl rfl)
theorem dX4_fees_10 : decode cX4_fees 10 = .ok (.aload_n 0, 1) := dk_42 (dk_at dksX4_fees_0 10 rfl rfl)
theorem dX4_fees_11 : decode cX4_fees 11 = .ok (.getfield 81, 3) := dk_180 0 81 (dk_at dksX4_fees_0 11 rfl rfl)
theorem dX4_fees_14 : decode cX4_fees 14 = .ok (.iconst 1, 1) := dk_4 (dk_at dksX4_fees_0 14 rfl rfl)
theorem dX4_fees_15 : decode cX4_fees 15 = .ok (.isub, 1) := dk_100 (dk_at dksX4_fees_0 15 rfl rfl)
theorem dX4_fees_16 : decode cX4_fees 16 = .ok (.i2l, 1) := dk_133 (dk_at dksX4_fees_0 16 rfl rfl)
theorem dX4_fees_17 : decode cX4_fees 17 = .ok (.invokestatic 77, 3) := dk_184 0 77 (dk_at dksX4_fees_0 17 rfl rfl)
theorem dX4_fees_20 : decode cX4_fees 20 = .ok (.ifCond .eq 10, 3) := dk_153 0 10 (dk_at dksX4_fees_0 20 rfl rfl)
theorem dX4_fees_23 : decode cX4_fees 23 = .ok (.iload_n 2, 1) := dk_28 (dk_at dksX4_fees_0 23 rfl rfl)
theorem dX4_fees_24 : decode cX4_fees 24 = .ok (.invokestatic 149, 3) := dk_184 0 149 (dk_at dksX4_fees_1 0 rfl rfl)
theorem dX4_fees_27 : decode cX4_fees 27 = .ok (.ifCond .ne 5, 3) := dk_154 0 5 (dk_at dksX4_fees_1 3 rfl rfl)
theorem dX4_fees_30 : decode cX4_fees 30 = .ok (.iconst (-1), 1) := dk_2 (dk_at dksX4_fees_1 6 rfl rfl)
theorem dX4_fees_31 : decode cX4_fees 31 = .ok (.ireturn, 1) := dk_172 (dk_at dksX4_fees_1 7 rfl rfl)
theorem dX4_fees_32 : decode cX4_fees 32 = .ok (.iload_n 1, 1) := dk_27 (dk_at dksX4_fees_1 8 rfl rfl)
theorem dX4_fees_33 : decode cX4_fees 33 = .ok (.ifCond .lt 10, 3) := dk_155 0 10 (dk_at dksX4_fees_1 9 rfl rfl)
theorem dX4_fees_36 : decode cX4_fees 36 = .ok (.aload_n 0, 1) := dk_42 (dk_at dksX4_fees_1 12 rfl rfl)
theorem dX4_fees_37 : decode cX4_fees 37 = .ok (.iload_n 1, 1) := dk_27 (dk_at dksX4_fees_1 13 rfl rfl)
theorem dX4_fees_38 : decode cX4_fees 38 = .ok (.iload_n 2, 1) := dk_28 (dk_at dksX4_fees_1 14 rfl rfl)
theorem dX4_fees_39 : decode cX4_fees 39 = .ok (.invokevirtual 242, 3) := dk_182 0 242 (dk_at dksX4_fees_1 15 rfl rfl)
theorem dX4_fees_42 : decode cX4_fees 42 = .ok (.ireturn, 1) := dk_172 (dk_at dksX4_fees_1 18 rfl rfl)
theorem dX4_fees_43 : decode cX4_fees 43 = .ok (.bipush (-4), 2) := dk_16 252 (dk_at dksX4_fees_1 19 rfl rfl)
theorem dX4_fees_45 : decode cX4_fees 45 = .ok (.istore_n 3, 1) := dk_62 (dk_at dksX4_fees_1 21 rfl rfl)
theorem dX4_fees_46 : decode cX4_fees 46 = .ok (.iconst 0, 1) := dk_3 (dk_at dksX4_fees_1 22 rfl rfl)
theorem dX4_fees_47 : decode cX4_fees 47 = .ok (.istore 4, 2) := dk_54 4 (dk_at dksX4_fees_2 0 rfl rfl)
theorem dX4_fees_49 : decode cX4_fees 49 = .ok (.iload 4, 2) := dk_21 4 (dk_at dksX4_fees_2 2 rfl rfl)
theorem dX4_fees_51 : decode cX4_fees 51 = .ok (.aload_n 0, 1) := dk_42 (dk_at dksX4_fees_2 4 rfl rfl)
theorem dX4_fees_52 : decode cX4_fees 52 = .ok (.getfield 81, 3) := dk_180 0 81 (dk_at dksX4_fees_2 5 rfl rfl)
theorem dX4_fees_55 : decode cX4_fees 55 = .ok (.if_icmp .ge 36, 3) := dk_162 0 36 (dk_at dksX4_fees_2 8 rfl rfl)
theorem dX4_fees_58 : decode cX4_fees 58 = .ok (.iload_n 3, 1) := dk_29 (dk_at dksX4_fees_2 11 rfl rfl)
theorem dX4_fees_59 : decode cX4_fees 59 = .ok (.ifCond .lt 19, 3) := dk_155 0 19 (dk_at dksX4_fees_2 12 rfl rfl)
theorem dX4_fees_62 : decode cX4_fees 62 = .ok (.aload_n 0, 1) := dk_42 (dk_at dksX4_fees_2 15 rfl rfl)
theorem dX4_fees_63 : decode cX4_fees 63 = .ok (.iload 4, 2) := dk_21 4 (dk_at dksX4_fees_2 16 rfl rfl)
theorem dX4_fees_65 : decode cX4_fees 65 = .ok (.iload_n 2, 1) := dk_28 (dk_at dksX4_fees_2 18 rfl rfl)
theorem dX4_fees_66 : decode cX4_fees 66 = .ok (.invokevirtual 242, 3) := dk_182 0 242 (dk_at dksX4_fees_2 19 rfl rfl)
theorem dX4_fees_69 : decode cX4_fees 69 = .ok (.aload_n 0, 1) := dk_42 (dk_at dksX4_fees_2 22 rfl rfl)
theorem dX4_fees_70 : decode cX4_fees 70 = .ok (.iload_n 3, 1) := dk_29 (dk_at dksX4_fees_2 23 rfl rfl)
theorem dX4_fees_71 : decode cX4_fees 71 = .ok (.iload_n 2, 1) := dk_28 (dk_at dksX4_fees_3 0 rfl rfl)
theorem dX4_fees_72 : decode cX4_fees 72 = .ok (.invokevirtual 242, 3) := dk_182 0 242 (dk_at dksX4_fees_3 1 rfl rfl)
theorem dX4_fees_75 : decode cX4_fees 75 = .ok (.if_icmp .ge 8, 3) := dk_162 0 8 (dk_at dksX4_fees_3 4 rfl rfl)
theorem dX4_fees_78 : decode cX4_fees 78 = .ok (.iload 4, 2) := dk_21 4 (dk_at dksX4_fees_3 7 rfl rfl)
theorem dX4_fees_80 : decode cX4_fees 80 = .ok (.goto 4, 3) := dk_167 0 4 (dk_at dksX4_fees_3 9 rfl rfl)
theorem dX4_fees_83 : decode cX4_fees 83 = .ok (.iload_n 3, 1) := dk_29 (dk_at dksX4_fees_3 12 rfl rfl)
theorem dX4_fees_84 : decode cX4_fees 84 = .ok (.istore_n 3, 1) := dk_62 (dk_at dksX4_fees_3 13 rfl rfl)
theorem dX4_fees_85 : decode cX4_fees 85 = .ok (.iinc 4 1, 3) := dk_132 4 1 (dk_at dksX4_fees_3 14 rfl rfl)
theorem dX4_fees_88 : decode cX4_fees 88 = .ok (.goto (-39), 3) := dk_167 255 217 (dk_at dksX4_fees_3 17 rfl rfl)
theorem dX4_fees_91 : decode cX4_fees 91 = .ok (.iload_n 3, 1) := dk_29 (dk_at dksX4_fees_3 20 rfl rfl)
theorem dX4_fees_92 : decode cX4_fees 92 = .ok (.ireturn, 1) := dk_172 (dk_at dksX4_fees_3 21 rfl rfl)
abbrev cX4_feesOf : ByteArray := prog_21_method_60_code
def yX4_feesOf : MethodName := ⟨RX4, "feesOf", "(II)I"⟩
def dkwX4_feesOf_0 : List UInt8 := [42, 180, 0, 7, 27, 46, 42, 180, 0, 13, 27, 46, 184, 0, 237, 42, 27, 28, 182, 0, 215, 104, 172]
abbrev dktX4_feesOf_0 : List UInt8 := dkwX4_feesOf_0 ++ []
theorem dksX4_feesOf_0 : cX4_feesOf.data.toList.drop 0 = dktX4_feesOf_0 := by decide +kernel
theorem dX4_feesOf_0 : decode cX4_feesOf 0 = .ok (.aload_n 0, 1) := dk_42 (dk_at dksX4_feesOf_0 0 rfl rfl)
theorem dX4_feesOf_1 : decode cX4_feesOf 1 = .ok (.getfield 7, 3) := dk_180 0 7 (dk_at dksX4_feesOf_0 1 rfl rfl)
theorem dX4_feesOf_4 : decode cX4_feesOf 4 = .ok (.iload_n 1, 1) := dk_27 (dk_at dksX4_feesOf_0 4 rfl rfl)
theorem dX4_feesOf_5 : decode cX4_feesOf 5 = .ok (.iaload, 1) := dk_46 (dk_at dksX4_feesOf_0 5 rfl rfl)
theorem dX4_feesOf_6 : decode cX4_feesOf 6 = .ok (.aload_n 0, 1) := dk_42 (dk_at dksX4_feesOf_0 6 rfl rfl)
theorem dX4_feesOf_7 : decode cX4_feesOf 7 = .ok (.getfield 13, 3) := dk_180 0 13 (dk_at dksX4_feesOf_0 7 rfl rfl)
theorem dX4_feesOf_10 : decode cX4_feesOf 10 = .ok (.iload_n 1, 1) := dk_27 (dk_at dksX4_feesOf_0 10 rfl rfl)
theorem dX4_feesOf_11 : decode cX4_feesOf 11 = .ok (.iaload, 1) := dk_46 (dk_at dksX4_feesOf_0 11 rfl rfl)
theorem dX4_feesOf_12 : decode cX4_feesOf 12 = .ok (.invokestatic 237, 3) := dk_184 0 237 (dk_at dksX4_feesOf_0 12 rfl rfl)
theorem dX4_feesOf_15 : decode cX4_feesOf 15 = .ok (.aload_n 0, 1) := dk_42 (dk_at dksX4_feesOf_0 15 rfl rfl)
theorem dX4_feesOf_16 : decode cX4_feesOf 16 = .ok (.iload_n 1, 1) := dk_27 (dk_at dksX4_feesOf_0 16 rfl rfl)
theorem dX4_feesOf_17 : decode cX4_feesOf 17 = .ok (.iload_n 2, 1) := dk_28 (dk_at dksX4_feesOf_0 17 rfl rfl)
theorem dX4_feesOf_18 : decode cX4_feesOf 18 = .ok (.invokevirtual 215, 3) := dk_182 0 215 (dk_at dksX4_feesOf_0 18 rfl rfl)
theorem dX4_feesOf_21 : decode cX4_feesOf 21 = .ok (.imul, 1) := dk_104 (dk_at dksX4_feesOf_0 21 rfl rfl)
theorem dX4_feesOf_22 : decode cX4_feesOf 22 = .ok (.ireturn, 1) := dk_172 (dk_at dksX4_feesOf_0 22 rfl rfl)
abbrev cX4_costOf : ByteArray := prog_21_method_85_code
def yX4_costOf : MethodName := ⟨RX4, "costOf", "(II)I"⟩
def dkwX4_costOf_2 : List UInt8 := [4, 172, 5, 27, 96, 172, 7, 172, 16, 7, 172, 7, 27, 96, 172, 5, 172]
abbrev dktX4_costOf_2 : List UInt8 := dkwX4_costOf_2 ++ []
def dkwX4_costOf_1 : List UInt8 := [170, 0, 0, 0, 0, 0, 58, 0, 0, 0, 1, 0, 0, 0, 7, 0, 0, 0, 43, 0, 0, 0, 45, 0, 0, 0, 49, 0, 0, 0, 51, 0, 0, 0, 43, 0, 0, 0, 54, 0, 0, 0, 49]
abbrev dktX4_costOf_1 : List UInt8 := dkwX4_costOf_1 ++ dktX4_costOf_2
def dkwX4_costOf_0 : List UInt8 := [26]
abbrev dktX4_costOf_0 : List UInt8 := dkwX4_costOf_0 ++ dktX4_costOf_1
theorem dksX4_costOf_0 : cX4_costOf.data.toList.drop 0 = dktX4_costOf_0 := by decide +kernel
theorem dksX4_costOf_1 : cX4_costOf.data.toList.drop 1 = dktX4_costOf_1 := dk_seg dksX4_costOf_0 1 rfl rfl
theorem dksX4_costOf_2 : cX4_costOf.data.toList.drop 44 = dktX4_costOf_2 := dk_seg dksX4_costOf_1 43 rfl rfl
theorem dX4_costOf_0 : decode cX4_costOf 0 = .ok (.iload_n 0, 1) := dk_26 (dk_at dksX4_costOf_0 0 rfl rfl)
theorem dX4_costOf_1 : decode cX4_costOf 1 = .ok (.tableswitch 58 1 7 #[43, 45, 49, 51, 43, 54, 49], 43) := by decide +kernel
theorem dX4_costOf_44 : decode cX4_costOf 44 = .ok (.iconst 1, 1) := dk_4 (dk_at dksX4_costOf_2 0 rfl rfl)
theorem dX4_costOf_45 : decode cX4_costOf 45 = .ok (.ireturn, 1) := dk_172 (dk_at dksX4_costOf_2 1 rfl rfl)
theorem dX4_costOf_46 : decode cX4_costOf 46 = .ok (.iconst 2, 1) := dk_5 (dk_at dksX4_costOf_2 2 rfl rfl)
theorem dX4_costOf_47 : decode cX4_costOf 47 = .ok (.iload_n 1, 1) := dk_27 (dk_at dksX4_costOf_2 3 rfl rfl)
theorem dX4_costOf_48 : decode cX4_costOf 48 = .ok (.iadd, 1) := dk_96 (dk_at dksX4_costOf_2 4 rfl rfl)
theorem dX4_costOf_49 : decode cX4_costOf 49 = .ok (.ireturn, 1) := dk_172 (dk_at dksX4_costOf_2 5 rfl rfl)
theorem dX4_costOf_50 : decode cX4_costOf 50 = .ok (.iconst 4, 1) := dk_7 (dk_at dksX4_costOf_2 6 rfl rfl)
theorem dX4_costOf_51 : decode cX4_costOf 51 = .ok (.ireturn, 1) := dk_172 (dk_at dksX4_costOf_2 7 rfl rfl)
theorem dX4_costOf_52 : decode cX4_costOf 52 = .ok (.bipush 7, 2) := dk_16 7 (dk_at dksX4_costOf_2 8 rfl rfl)
theorem dX4_costOf_54 : decode cX4_costOf 54 = .ok (.ireturn, 1) := dk_172 (dk_at dksX4_costOf_2 10 rfl rfl)
theorem dX4_costOf_55 : decode cX4_costOf 55 = .ok (.iconst 4, 1) := dk_7 (dk_at dksX4_costOf_2 11 rfl rfl)
theorem dX4_costOf_56 : decode cX4_costOf 56 = .ok (.iload_n 1, 1) := dk_27 (dk_at dksX4_costOf_2 12 rfl rfl)
theorem dX4_costOf_57 : decode cX4_costOf 57 = .ok (.iadd, 1) := dk_96 (dk_at dksX4_costOf_2 13 rfl rfl)
theorem dX4_costOf_58 : decode cX4_costOf 58 = .ok (.ireturn, 1) := dk_172 (dk_at dksX4_costOf_2 14 rfl rfl)
theorem dX4_costOf_59 : decode cX4_costOf 59 = .ok (.iconst 2, 1) := dk_5 (dk_at dksX4_costOf_2 15 rfl rfl)
theorem dX4_costOf_60 : decode cX4_costOf 60 = .ok (.ireturn, 1) := dk_172 (dk_at dksX4_costOf_2 16 rfl rfl)
abbrev cX4_homes : ByteArray := prog_21_method_64_code
def yX4_homes : MethodName := ⟨RX4, "homes", "(IIII)I"⟩
def dkwX4_homes_5 : List UInt8 := [54, 7, 132, 8, 1, 167, 255, 196, 21, 4, 154, 0, 8, 21, 6, 167, 0, 5, 21, 7, 172]
abbrev dktX4_homes_5 : List UInt8 := dkwX4_homes_5 ++ []
def dkwX4_homes_4 : List UInt8 := [21, 8, 120, 167, 0, 4, 3, 128, 54, 6, 21, 7, 21, 9, 153, 0, 7, 4, 167, 0, 4, 3, 96]
abbrev dktX4_homes_4 : List UInt8 := dkwX4_homes_4 ++ dktX4_homes_5
def dkwX4_homes_3 : List UInt8 := [180, 0, 16, 28, 21, 8, 79, 42, 27, 28, 29, 182, 0, 255, 54, 9, 21, 6, 21, 9, 153, 0, 10, 4]
abbrev dktX4_homes_3 : List UInt8 := dkwX4_homes_3 ++ dktX4_homes_4
def dkwX4_homes_2 : List UInt8 := [21, 5, 172, 3, 54, 6, 3, 54, 7, 42, 182, 0, 177, 3, 54, 8, 21, 8, 16, 20, 163, 0, 59, 42]
abbrev dktX4_homes_2 : List UInt8 := dkwX4_homes_2 ++ dktX4_homes_3
def dkwX4_homes_1 : List UInt8 := [10, 184, 0, 77, 153, 0, 11, 42, 27, 182, 0, 171, 167, 0, 4, 2, 54, 5, 21, 5, 156, 0, 6]
abbrev dktX4_homes_1 : List UInt8 := dkwX4_homes_1 ++ dktX4_homes_2
def dkwX4_homes_0 : List UInt8 := [42, 3, 181, 0, 71, 42, 28, 182, 0, 162, 153, 0, 29, 29, 184, 0, 149, 153, 0, 22, 21, 4, 133, 9]
abbrev dktX4_homes_0 : List UInt8 := dkwX4_homes_0 ++ dktX4_homes_1
theorem dksX4_homes_0 : cX4_homes.data.toList.drop 0 = dktX4_homes_0 := by decide +kernel
theorem dksX4_homes_1 : cX4_homes.data.toList.drop 24 = dktX4_homes_1 := dk_seg dksX4_homes_0 24 rfl rfl
theorem dksX4_homes_2 : cX4_homes.data.toList.drop 47 = dktX4_homes_2 := dk_seg dksX4_homes_1 23 rfl rfl
theorem dksX4_homes_3 : cX4_homes.data.toList.drop 71 = dktX4_homes_3 := dk_seg dksX4_homes_2 24 rfl rfl
theorem dksX4_homes_4 : cX4_homes.data.toList.drop 95 = dktX4_homes_4 := dk_seg dksX4_homes_3 24 rfl rfl
theorem dksX4_homes_5 : cX4_homes.data.toList.drop 118 = dktX4_homes_5 := dk_seg dksX4_homes_4 23 rfl rfl
theorem dX4_homes_0 : decode cX4_homes 0 = .ok (.aload_n 0, 1) := dk_42 (dk_at dksX4_homes_0 0 rfl rfl)
theorem dX4_homes_1 : decode cX4_homes 1 = .ok (.iconst 0, 1) := dk_3 (dk_at dksX4_homes_0 1 rfl rfl)
theorem dX4_homes_2 : decode cX4_homes 2 = .ok (.putfield 71, 3) := dk_181 0 71 (dk_at dksX4_homes_0 2 rfl rfl)
theorem dX4_homes_5 : decode cX4_homes 5 = .ok (.aload_n 0, 1) := dk_42 (dk_at dksX4_homes_0 5 rfl rfl)
theorem dX4_homes_6 : decode cX4_homes 6 = .ok (.iload_n 2, 1) := dk_28 (dk_at dksX4_homes_0 6 rfl rfl)
theorem dX4_homes_7 : decode cX4_homes 7 = .ok (.invokevirtual 162, 3) := dk_182 0 162 (dk_at dksX4_homes_0 7 rfl rfl)
theorem dX4_homes_10 : decode cX4_homes 10 = .ok (.ifCond .eq 29, 3) := dk_153 0 29 (dk_at dksX4_homes_0 10 rfl rfl)
theorem dX4_homes_13 : decode cX4_homes 13 = .ok (.iload_n 3, 1) := dk_29 (dk_at dksX4_homes_0 13 rfl rfl)
theorem dX4_homes_14 : decode cX4_homes 14 = .ok (.invokestatic 149, 3) := dk_184 0 149 (dk_at dksX4_homes_0 14 rfl rfl)
theorem dX4_homes_17 : decode cX4_homes 17 = .ok (.ifCond .eq 22, 3) := dk_153 0 22 (dk_at dksX4_homes_0 17 rfl rfl)
theorem dX4_homes_20 : decode cX4_homes 20 = .ok (.iload 4, 2) := dk_21 4 (dk_at dksX4_homes_0 20 rfl rfl)
theorem dX4_homes_22 : decode cX4_homes 22 = .ok (.i2l, 1) := dk_133 (dk_at dksX4_homes_0 22 rfl rfl)
theorem dX4_homes_23 : decode cX4_homes 23 = .ok (.lconst 0, 1) := dk_9 (dk_at dksX4_homes_0 23 rfl rfl)
theorem dX4_homes_24 : decode cX4_homes 24 = .ok (.lconst 1, 1) := dk_10 (dk_at dksX4_homes_1 0 rfl rfl)
theorem dX4_homes_25 : decode cX4_homes 25 = .ok (.invokestatic 77, 3) := dk_184 0 77 (dk_at dksX4_homes_1 1 rfl rfl)
theorem dX4_homes_28 : decode cX4_homes 28 = .ok (.ifCond .eq 11, 3) := dk_153 0 11 (dk_at dksX4_homes_1 4 rfl rfl)
theorem dX4_homes_31 : decode cX4_homes 31 = .ok (.aload_n 0, 1) := dk_42 (dk_at dksX4_homes_1 7 rfl rfl)
theorem dX4_homes_32 : decode cX4_homes 32 = .ok (.iload_n 1, 1) := dk_27 (dk_at dksX4_homes_1 8 rfl rfl)
theorem dX4_homes_33 : decode cX4_homes 33 = .ok (.invokevirtual 171, 3) := dk_182 0 171 (dk_at dksX4_homes_1 9 rfl rfl)
theorem dX4_homes_36 : decode cX4_homes 36 = .ok (.goto 4, 3) := dk_167 0 4 (dk_at dksX4_homes_1 12 rfl rfl)
theorem dX4_homes_39 : decode cX4_homes 39 = .ok (.iconst (-1), 1) := dk_2 (dk_at dksX4_homes_1 15 rfl rfl)
theorem dX4_homes_40 : decode cX4_homes 40 = .ok (.istore 5, 2) := dk_54 5 (dk_at dksX4_homes_1 16 rfl rfl)
theorem dX4_homes_42 : decode cX4_homes 42 = .ok (.iload 5, 2) := dk_21 5 (dk_at dksX4_homes_1 18 rfl rfl)
theorem dX4_homes_44 : decode cX4_homes 44 = .ok (.ifCond .ge 6, 3) := dk_156 0 6 (dk_at dksX4_homes_1 20 rfl rfl)
theorem dX4_homes_47 : decode cX4_homes 47 = .ok (.iload 5, 2) := dk_21 5 (dk_at dksX4_homes_2 0 rfl rfl)
theorem dX4_homes_49 : decode cX4_homes 49 = .ok (.ireturn, 1) := dk_172 (dk_at dksX4_homes_2 2 rfl rfl)
theorem dX4_homes_50 : decode cX4_homes 50 = .ok (.iconst 0, 1) := dk_3 (dk_at dksX4_homes_2 3 rfl rfl)
theorem dX4_homes_51 : decode cX4_homes 51 = .ok (.istore 6, 2) := dk_54 6 (dk_at dksX4_homes_2 4 rfl rfl)
theorem dX4_homes_53 : decode cX4_homes 53 = .ok (.iconst 0, 1) := dk_3 (dk_at dksX4_homes_2 6 rfl rfl)
theorem dX4_homes_54 : decode cX4_homes 54 = .ok (.istore 7, 2) := dk_54 7 (dk_at dksX4_homes_2 7 rfl rfl)
theorem dX4_homes_56 : decode cX4_homes 56 = .ok (.aload_n 0, 1) := dk_42 (dk_at dksX4_homes_2 9 rfl rfl)
theorem dX4_homes_57 : decode cX4_homes 57 = .ok (.invokevirtual 177, 3) := dk_182 0 177 (dk_at dksX4_homes_2 10 rfl rfl)
theorem dX4_homes_60 : decode cX4_homes 60 = .ok (.iconst 0, 1) := dk_3 (dk_at dksX4_homes_2 13 rfl rfl)
theorem dX4_homes_61 : decode cX4_homes 61 = .ok (.istore 8, 2) := dk_54 8 (dk_at dksX4_homes_2 14 rfl rfl)
theorem dX4_homes_63 : decode cX4_homes 63 = .ok (.iload 8, 2) := dk_21 8 (dk_at dksX4_homes_2 16 rfl rfl)
theorem dX4_homes_65 : decode cX4_homes 65 = .ok (.bipush 20, 2) := dk_16 20 (dk_at dksX4_homes_2 18 rfl rfl)
theorem dX4_homes_67 : decode cX4_homes 67 = .ok (.if_icmp .gt 59, 3) := dk_163 0 59 (dk_at dksX4_homes_2 20 rfl rfl)
theorem dX4_homes_70 : decode cX4_homes 70 = .ok (.aload_n 0, 1) := dk_42 (dk_at dksX4_homes_2 23 rfl rfl)
theorem dX4_homes_71 : decode cX4_homes 71 = .ok (.getfield 16, 3) := dk_180 0 16 (dk_at dksX4_homes_3 0 rfl rfl)
theorem dX4_homes_74 : decode cX4_homes 74 = .ok (.iload_n 2, 1) := dk_28 (dk_at dksX4_homes_3 3 rfl rfl)
theorem dX4_homes_75 : decode cX4_homes 75 = .ok (.iload 8, 2) := dk_21 8 (dk_at dksX4_homes_3 4 rfl rfl)
theorem dX4_homes_77 : decode cX4_homes 77 = .ok (.iastore, 1) := dk_79 (dk_at dksX4_homes_3 6 rfl rfl)
theorem dX4_homes_78 : decode cX4_homes 78 = .ok (.aload_n 0, 1) := dk_42 (dk_at dksX4_homes_3 7 rfl rfl)
theorem dX4_homes_79 : decode cX4_homes 79 = .ok (.iload_n 1, 1) := dk_27 (dk_at dksX4_homes_3 8 rfl rfl)
theorem dX4_homes_80 : decode cX4_homes 80 = .ok (.iload_n 2, 1) := dk_28 (dk_at dksX4_homes_3 9 rfl rfl)
theorem dX4_homes_81 : decode cX4_homes 81 = .ok (.iload_n 3, 1) := dk_29 (dk_at dksX4_homes_3 10 rfl rfl)
theorem dX4_homes_82 : decode cX4_homes 82 = .ok (.invokevirtual 255, 3) := dk_182 0 255 (dk_at dksX4_homes_3 11 rfl rfl)
theorem dX4_homes_85 : decode cX4_homes 85 = .ok (.istore 9, 2) := dk_54 9 (dk_at dksX4_homes_3 14 rfl rfl)
theorem dX4_homes_87 : decode cX4_homes 87 = .ok (.iload 6, 2) := dk_21 6 (dk_at dksX4_homes_3 16 rfl rfl)
theorem dX4_homes_89 : decode cX4_homes 89 = .ok (.iload 9, 2) := dk_21 9 (dk_at dksX4_homes_3 18 rfl rfl)
theorem dX4_homes_91 : decode cX4_homes 91 = .ok (.ifCond .eq 10, 3) := dk_153 0 10 (dk_at dksX4_homes_3 20 rfl rfl)
theorem dX4_homes_94 : decode cX4_homes 94 = .ok (.iconst 1, 1) := dk_4 (dk_at dksX4_homes_3 23 rfl rfl)
theorem dX4_homes_95 : decode cX4_homes 95 = .ok (.iload 8, 2) := dk_21 8 (dk_at dksX4_homes_4 0 rfl rfl)
theorem dX4_homes_97 : decode cX4_homes 97 = .ok (.ishl, 1) := dk_120 (dk_at dksX4_homes_4 2 rfl rfl)
theorem dX4_homes_98 : decode cX4_homes 98 = .ok (.goto 4, 3) := dk_167 0 4 (dk_at dksX4_homes_4 3 rfl rfl)
theorem dX4_homes_101 : decode cX4_homes 101 = .ok (.iconst 0, 1) := dk_3 (dk_at dksX4_homes_4 6 rfl rfl)
theorem dX4_homes_102 : decode cX4_homes 102 = .ok (.ior, 1) := dk_128 (dk_at dksX4_homes_4 7 rfl rfl)
theorem dX4_homes_103 : decode cX4_homes 103 = .ok (.istore 6, 2) := dk_54 6 (dk_at dksX4_homes_4 8 rfl rfl)
theorem dX4_homes_105 : decode cX4_homes 105 = .ok (.iload 7, 2) := dk_21 7 (dk_at dksX4_homes_4 10 rfl rfl)
theorem dX4_homes_107 : decode cX4_homes 107 = .ok (.iload 9, 2) := dk_21 9 (dk_at dksX4_homes_4 12 rfl rfl)
theorem dX4_homes_109 : decode cX4_homes 109 = .ok (.ifCond .eq 7, 3) := dk_153 0 7 (dk_at dksX4_homes_4 14 rfl rfl)
theorem dX4_homes_112 : decode cX4_homes 112 = .ok (.iconst 1, 1) := dk_4 (dk_at dksX4_homes_4 17 rfl rfl)
theorem dX4_homes_113 : decode cX4_homes 113 = .ok (.goto 4, 3) := dk_167 0 4 (dk_at dksX4_homes_4 18 rfl rfl)
theorem dX4_homes_116 : decode cX4_homes 116 = .ok (.iconst 0, 1) := dk_3 (dk_at dksX4_homes_4 21 rfl rfl)
theorem dX4_homes_117 : decode cX4_homes 117 = .ok (.iadd, 1) := dk_96 (dk_at dksX4_homes_4 22 rfl rfl)
theorem dX4_homes_118 : decode cX4_homes 118 = .ok (.istore 7, 2) := dk_54 7 (dk_at dksX4_homes_5 0 rfl rfl)
theorem dX4_homes_120 : decode cX4_homes 120 = .ok (.iinc 8 1, 3) := dk_132 8 1 (dk_at dksX4_homes_5 2 rfl rfl)
theorem dX4_homes_123 : decode cX4_homes 123 = .ok (.goto (-60), 3) := dk_167 255 196 (dk_at dksX4_homes_5 5 rfl rfl)
theorem dX4_homes_126 : decode cX4_homes 126 = .ok (.iload 4, 2) := dk_21 4 (dk_at dksX4_homes_5 8 rfl rfl)
theorem dX4_homes_128 : decode cX4_homes 128 = .ok (.ifCond .ne 8, 3) := dk_154 0 8 (dk_at dksX4_homes_5 10 rfl rfl)
theorem dX4_homes_131 : decode cX4_homes 131 = .ok (.iload 6, 2) := dk_21 6 (dk_at dksX4_homes_5 13 rfl rfl)
theorem dX4_homes_133 : decode cX4_homes 133 = .ok (.goto 5, 3) := dk_167 0 5 (dk_at dksX4_homes_5 15 rfl rfl)
theorem dX4_homes_136 : decode cX4_homes 136 = .ok (.iload 7, 2) := dk_21 7 (dk_at dksX4_homes_5 18 rfl rfl)
theorem dX4_homes_138 : decode cX4_homes 138 = .ok (.ireturn, 1) := dk_172 (dk_at dksX4_homes_5 20 rfl rfl)
abbrev cX4_isRow : ByteArray := prog_21_method_63_code
def yX4_isRow : MethodName := ⟨RX4, "isRow", "(III)Z"⟩
def dkwX4_isRow_4 : List UInt8 := [172]
abbrev dktX4_isRow_4 : List UInt8 := dkwX4_isRow_4 ++ []
def dkwX4_isRow_3 : List UInt8 := [28, 46, 29, 159, 0, 9, 42, 28, 29, 182, 0, 114, 132, 5, 1, 167, 255, 176, 42, 182, 0, 183, 21, 4]
abbrev dktX4_isRow_3 : List UInt8 := dkwX4_isRow_3 ++ dktX4_isRow_4
def dkwX4_isRow_2 : List UInt8 := [22, 6, 42, 180, 0, 19, 28, 46, 133, 148, 154, 0, 7, 4, 167, 0, 4, 3, 54, 4, 42, 180, 0, 19]
abbrev dktX4_isRow_2 : List UInt8 := dkwX4_isRow_2 ++ dktX4_isRow_3
def dkwX4_isRow_1 : List UInt8 := [180, 0, 40, 16, 100, 27, 104, 21, 5, 96, 47, 55, 6, 22, 6, 42, 27, 182, 0, 251, 148, 153, 0, 16]
abbrev dktX4_isRow_1 : List UInt8 := dkwX4_isRow_1 ++ dktX4_isRow_2
def dkwX4_isRow_0 : List UInt8 := [4, 54, 4, 3, 54, 5, 21, 5, 42, 180, 0, 37, 27, 46, 162, 0, 75, 21, 4, 153, 0, 70, 42]
abbrev dktX4_isRow_0 : List UInt8 := dkwX4_isRow_0 ++ dktX4_isRow_1
theorem dksX4_isRow_0 : cX4_isRow.data.toList.drop 0 = dktX4_isRow_0 := by decide +kernel
theorem dksX4_isRow_1 : cX4_isRow.data.toList.drop 23 = dktX4_isRow_1 := dk_seg dksX4_isRow_0 23 rfl rfl
theorem dksX4_isRow_2 : cX4_isRow.data.toList.drop 47 = dktX4_isRow_2 := dk_seg dksX4_isRow_1 24 rfl rfl
theorem dksX4_isRow_3 : cX4_isRow.data.toList.drop 71 = dktX4_isRow_3 := dk_seg dksX4_isRow_2 24 rfl rfl
theorem dksX4_isRow_4 : cX4_isRow.data.toList.drop 95 = dktX4_isRow_4 := dk_seg dksX4_isRow_3 24 rfl rfl
theorem dX4_isRow_0 : decode cX4_isRow 0 = .ok (.iconst 1, 1) := dk_4 (dk_at dksX4_isRow_0 0 rfl rfl)
theorem dX4_isRow_1 : decode cX4_isRow 1 = .ok (.istore 4, 2) := dk_54 4 (dk_at dksX4_isRow_0 1 rfl rfl)
theorem dX4_isRow_3 : decode cX4_isRow 3 = .ok (.iconst 0, 1) := dk_3 (dk_at dksX4_isRow_0 3 rfl rfl)
theorem dX4_isRow_4 : decode cX4_isRow 4 = .ok (.istore 5, 2) := dk_54 5 (dk_at dksX4_isRow_0 4 rfl rfl)
theorem dX4_isRow_6 : decode cX4_isRow 6 = .ok (.iload 5, 2) := dk_21 5 (dk_at dksX4_isRow_0 6 rfl rfl)
theorem dX4_isRow_8 : decode cX4_isRow 8 = .ok (.aload_n 0, 1) := dk_42 (dk_at dksX4_isRow_0 8 rfl rfl)
theorem dX4_isRow_9 : decode cX4_isRow 9 = .ok (.getfield 37, 3) := dk_180 0 37 (dk_at dksX4_isRow_0 9 rfl rfl)
theorem dX4_isRow_12 : decode cX4_isRow 12 = .ok (.iload_n 1, 1) := dk_27 (dk_at dksX4_isRow_0 12 rfl rfl)
theorem dX4_isRow_13 : decode cX4_isRow 13 = .ok (.iaload, 1) := dk_46 (dk_at dksX4_isRow_0 13 rfl rfl)
theorem dX4_isRow_14 : decode cX4_isRow 14 = .ok (.if_icmp .ge 75, 3) := dk_162 0 75 (dk_at dksX4_isRow_0 14 rfl rfl)
theorem dX4_isRow_17 : decode cX4_isRow 17 = .ok (.iload 4, 2) := dk_21 4 (dk_at dksX4_isRow_0 17 rfl rfl)
theorem dX4_isRow_19 : decode cX4_isRow 19 = .ok (.ifCond .eq 70, 3) := dk_153 0 70 (dk_at dksX4_isRow_0 19 rfl rfl)
theorem dX4_isRow_22 : decode cX4_isRow 22 = .ok (.aload_n 0, 1) := dk_42 (dk_at dksX4_isRow_0 22 rfl rfl)
theorem dX4_isRow_23 : decode cX4_isRow 23 = .ok (.getfield 40, 3) := dk_180 0 40 (dk_at dksX4_isRow_1 0 rfl rfl)
theorem dX4_isRow_26 : decode cX4_isRow 26 = .ok (.bipush 100, 2) := dk_16 100 (dk_at dksX4_isRow_1 3 rfl rfl)
theorem dX4_isRow_28 : decode cX4_isRow 28 = .ok (.iload_n 1, 1) := dk_27 (dk_at dksX4_isRow_1 5 rfl rfl)
theorem dX4_isRow_29 : decode cX4_isRow 29 = .ok (.imul, 1) := dk_104 (dk_at dksX4_isRow_1 6 rfl rfl)
theorem dX4_isRow_30 : decode cX4_isRow 30 = .ok (.iload 5, 2) := dk_21 5 (dk_at dksX4_isRow_1 7 rfl rfl)
theorem dX4_isRow_32 : decode cX4_isRow 32 = .ok (.iadd, 1) := dk_96 (dk_at dksX4_isRow_1 9 rfl rfl)
theorem dX4_isRow_33 : decode cX4_isRow 33 = .ok (.laload, 1) := dk_47 (dk_at dksX4_isRow_1 10 rfl rfl)
theorem dX4_isRow_34 : decode cX4_isRow 34 = .ok (.lstore 6, 2) := dk_55 6 (dk_at dksX4_isRow_1 11 rfl rfl)
theorem dX4_isRow_36 : decode cX4_isRow 36 = .ok (.lload 6, 2) := dk_22 6 (dk_at dksX4_isRow_1 13 rfl rfl)
theorem dX4_isRow_38 : decode cX4_isRow 38 = .ok (.aload_n 0, 1) := dk_42 (dk_at dksX4_isRow_1 15 rfl rfl)
theorem dX4_isRow_39 : decode cX4_isRow 39 = .ok (.iload_n 1, 1) := dk_27 (dk_at dksX4_isRow_1 16 rfl rfl)
theorem dX4_isRow_40 : decode cX4_isRow 40 = .ok (.invokevirtual 251, 3) := dk_182 0 251 (dk_at dksX4_isRow_1 17 rfl rfl)
theorem dX4_isRow_43 : decode cX4_isRow 43 = .ok (.lcmp, 1) := dk_148 (dk_at dksX4_isRow_1 20 rfl rfl)
theorem dX4_isRow_44 : decode cX4_isRow 44 = .ok (.ifCond .eq 16, 3) := dk_153 0 16 (dk_at dksX4_isRow_1 21 rfl rfl)
theorem dX4_isRow_47 : decode cX4_isRow 47 = .ok (.lload 6, 2) := dk_22 6 (dk_at dksX4_isRow_2 0 rfl rfl)
theorem dX4_isRow_49 : decode cX4_isRow 49 = .ok (.aload_n 0, 1) := dk_42 (dk_at dksX4_isRow_2 2 rfl rfl)
theorem dX4_isRow_50 : decode cX4_isRow 50 = .ok (.getfield 19, 3) := dk_180 0 19 (dk_at dksX4_isRow_2 3 rfl rfl)
theorem dX4_isRow_53 : decode cX4_isRow 53 = .ok (.iload_n 2, 1) := dk_28 (dk_at dksX4_isRow_2 6 rfl rfl)
theorem dX4_isRow_54 : decode cX4_isRow 54 = .ok (.iaload, 1) := dk_46 (dk_at dksX4_isRow_2 7 rfl rfl)
theorem dX4_isRow_55 : decode cX4_isRow 55 = .ok (.i2l, 1) := dk_133 (dk_at dksX4_isRow_2 8 rfl rfl)
theorem dX4_isRow_56 : decode cX4_isRow 56 = .ok (.lcmp, 1) := dk_148 (dk_at dksX4_isRow_2 9 rfl rfl)
theorem dX4_isRow_57 : decode cX4_isRow 57 = .ok (.ifCond .ne 7, 3) := dk_154 0 7 (dk_at dksX4_isRow_2 10 rfl rfl)
theorem dX4_isRow_60 : decode cX4_isRow 60 = .ok (.iconst 1, 1) := dk_4 (dk_at dksX4_isRow_2 13 rfl rfl)
theorem dX4_isRow_61 : decode cX4_isRow 61 = .ok (.goto 4, 3) := dk_167 0 4 (dk_at dksX4_isRow_2 14 rfl rfl)
theorem dX4_isRow_64 : decode cX4_isRow 64 = .ok (.iconst 0, 1) := dk_3 (dk_at dksX4_isRow_2 17 rfl rfl)
theorem dX4_isRow_65 : decode cX4_isRow 65 = .ok (.istore 4, 2) := dk_54 4 (dk_at dksX4_isRow_2 18 rfl rfl)
theorem dX4_isRow_67 : decode cX4_isRow 67 = .ok (.aload_n 0, 1) := dk_42 (dk_at dksX4_isRow_2 20 rfl rfl)
theorem dX4_isRow_68 : decode cX4_isRow 68 = .ok (.getfield 19, 3) := dk_180 0 19 (dk_at dksX4_isRow_2 21 rfl rfl)
theorem dX4_isRow_71 : decode cX4_isRow 71 = .ok (.iload_n 2, 1) := dk_28 (dk_at dksX4_isRow_3 0 rfl rfl)
theorem dX4_isRow_72 : decode cX4_isRow 72 = .ok (.iaload, 1) := dk_46 (dk_at dksX4_isRow_3 1 rfl rfl)
theorem dX4_isRow_73 : decode cX4_isRow 73 = .ok (.iload_n 3, 1) := dk_29 (dk_at dksX4_isRow_3 2 rfl rfl)
theorem dX4_isRow_74 : decode cX4_isRow 74 = .ok (.if_icmp .eq 9, 3) := dk_159 0 9 (dk_at dksX4_isRow_3 3 rfl rfl)
theorem dX4_isRow_77 : decode cX4_isRow 77 = .ok (.aload_n 0, 1) := dk_42 (dk_at dksX4_isRow_3 6 rfl rfl)
theorem dX4_isRow_78 : decode cX4_isRow 78 = .ok (.iload_n 2, 1) := dk_28 (dk_at dksX4_isRow_3 7 rfl rfl)
theorem dX4_isRow_79 : decode cX4_isRow 79 = .ok (.iload_n 3, 1) := dk_29 (dk_at dksX4_isRow_3 8 rfl rfl)
theorem dX4_isRow_80 : decode cX4_isRow 80 = .ok (.invokevirtual 114, 3) := dk_182 0 114 (dk_at dksX4_isRow_3 9 rfl rfl)
theorem dX4_isRow_83 : decode cX4_isRow 83 = .ok (.iinc 5 1, 3) := dk_132 5 1 (dk_at dksX4_isRow_3 12 rfl rfl)
theorem dX4_isRow_86 : decode cX4_isRow 86 = .ok (.goto (-80), 3) := dk_167 255 176 (dk_at dksX4_isRow_3 15 rfl rfl)
theorem dX4_isRow_89 : decode cX4_isRow 89 = .ok (.aload_n 0, 1) := dk_42 (dk_at dksX4_isRow_3 18 rfl rfl)
theorem dX4_isRow_90 : decode cX4_isRow 90 = .ok (.invokevirtual 183, 3) := dk_182 0 183 (dk_at dksX4_isRow_3 19 rfl rfl)
theorem dX4_isRow_93 : decode cX4_isRow 93 = .ok (.iload 4, 2) := dk_21 4 (dk_at dksX4_isRow_3 22 rfl rfl)
theorem dX4_isRow_95 : decode cX4_isRow 95 = .ok (.ireturn, 1) := dk_172 (dk_at dksX4_isRow_4 0 rfl rfl)
abbrev cX4_skipped : ByteArray := prog_21_method_62_code
def yX4_skipped : MethodName := ⟨RX4, "skipped", "(I)J"⟩
def dkwX4_skipped_1 : List UInt8 := [160, 0, 9, 20, 0, 247, 167, 0, 6, 20, 0, 249, 173]
abbrev dktX4_skipped_1 : List UInt8 := dkwX4_skipped_1 ++ []
def dkwX4_skipped_0 : List UInt8 := [42, 180, 0, 34, 27, 46, 154, 0, 9, 20, 0, 245, 167, 0, 22, 42, 180, 0, 34, 27, 46, 4]
abbrev dktX4_skipped_0 : List UInt8 := dkwX4_skipped_0 ++ dktX4_skipped_1
theorem dksX4_skipped_0 : cX4_skipped.data.toList.drop 0 = dktX4_skipped_0 := by decide +kernel
theorem dksX4_skipped_1 : cX4_skipped.data.toList.drop 22 = dktX4_skipped_1 := dk_seg dksX4_skipped_0 22 rfl rfl
theorem dX4_skipped_0 : decode cX4_skipped 0 = .ok (.aload_n 0, 1) := dk_42 (dk_at dksX4_skipped_0 0 rfl rfl)
theorem dX4_skipped_1 : decode cX4_skipped 1 = .ok (.getfield 34, 3) := dk_180 0 34 (dk_at dksX4_skipped_0 1 rfl rfl)
theorem dX4_skipped_4 : decode cX4_skipped 4 = .ok (.iload_n 1, 1) := dk_27 (dk_at dksX4_skipped_0 4 rfl rfl)
theorem dX4_skipped_5 : decode cX4_skipped 5 = .ok (.iaload, 1) := dk_46 (dk_at dksX4_skipped_0 5 rfl rfl)
theorem dX4_skipped_6 : decode cX4_skipped 6 = .ok (.ifCond .ne 9, 3) := dk_154 0 9 (dk_at dksX4_skipped_0 6 rfl rfl)
theorem dX4_skipped_9 : decode cX4_skipped 9 = .ok (.ldc2_w 245, 3) := dk_20 0 245 (dk_at dksX4_skipped_0 9 rfl rfl)
theorem dX4_skipped_12 : decode cX4_skipped 12 = .ok (.goto 22, 3) := dk_167 0 22 (dk_at dksX4_skipped_0 12 rfl rfl)
theorem dX4_skipped_15 : decode cX4_skipped 15 = .ok (.aload_n 0, 1) := dk_42 (dk_at dksX4_skipped_0 15 rfl rfl)
theorem dX4_skipped_16 : decode cX4_skipped 16 = .ok (.getfield 34, 3) := dk_180 0 34 (dk_at dksX4_skipped_0 16 rfl rfl)
theorem dX4_skipped_19 : decode cX4_skipped 19 = .ok (.iload_n 1, 1) := dk_27 (dk_at dksX4_skipped_0 19 rfl rfl)
theorem dX4_skipped_20 : decode cX4_skipped 20 = .ok (.iaload, 1) := dk_46 (dk_at dksX4_skipped_0 20 rfl rfl)
theorem dX4_skipped_21 : decode cX4_skipped 21 = .ok (.iconst 1, 1) := dk_4 (dk_at dksX4_skipped_0 21 rfl rfl)
theorem dX4_skipped_22 : decode cX4_skipped 22 = .ok (.if_icmp .ne 9, 3) := dk_160 0 9 (dk_at dksX4_skipped_1 0 rfl rfl)
theorem dX4_skipped_25 : decode cX4_skipped 25 = .ok (.ldc2_w 247, 3) := dk_20 0 247 (dk_at dksX4_skipped_1 3 rfl rfl)
theorem dX4_skipped_28 : decode cX4_skipped 28 = .ok (.goto 6, 3) := dk_167 0 6 (dk_at dksX4_skipped_1 6 rfl rfl)
theorem dX4_skipped_31 : decode cX4_skipped 31 = .ok (.ldc2_w 249, 3) := dk_20 0 249 (dk_at dksX4_skipped_1 9 rfl rfl)
theorem dX4_skipped_34 : decode cX4_skipped 34 = .ok (.lreturn, 1) := dk_173 (dk_at dksX4_skipped_1 12 rfl rfl)
abbrev cX4_whatIs : ByteArray := prog_21_method_65_code
def yX4_whatIs : MethodName := ⟨RX4, "whatIs", "(IIII)I"⟩
def dkwX4_whatIs_6 : List UInt8 := [167, 0, 4, 3, 128, 54, 6, 132, 7, 1, 167, 255, 168, 21, 6, 172]
abbrev dktX4_whatIs_6 : List UInt8 := dkwX4_whatIs_6 ++ []
def dkwX4_whatIs_5 : List UInt8 := [180, 0, 13, 28, 46, 79, 21, 6, 42, 27, 28, 29, 182, 0, 255, 153, 0, 10, 4, 21, 7, 120]
abbrev dktX4_whatIs_5 : List UInt8 := dkwX4_whatIs_5 ++ dktX4_whatIs_6
def dkwX4_whatIs_4 : List UInt8 := [180, 0, 7, 28, 46, 79, 42, 180, 0, 13, 28, 21, 4, 4, 160, 0, 8, 21, 7, 167, 0, 9, 42]
abbrev dktX4_whatIs_4 : List UInt8 := dkwX4_whatIs_4 ++ dktX4_whatIs_5
def dkwX4_whatIs_3 : List UInt8 := [167, 0, 5, 16, 10, 162, 0, 77, 42, 180, 0, 7, 28, 21, 4, 154, 0, 8, 21, 7, 167, 0, 9, 42]
abbrev dktX4_whatIs_3 : List UInt8 := dkwX4_whatIs_3 ++ dktX4_whatIs_4
def dkwX4_whatIs_2 : List UInt8 := [21, 5, 172, 3, 54, 6, 42, 182, 0, 177, 3, 54, 7, 21, 7, 21, 4, 154, 0, 8, 16, 8]
abbrev dktX4_whatIs_2 : List UInt8 := dkwX4_whatIs_2 ++ dktX4_whatIs_3
def dkwX4_whatIs_1 : List UInt8 := [10, 184, 0, 77, 153, 0, 11, 42, 27, 182, 0, 171, 167, 0, 4, 2, 54, 5, 21, 5, 156, 0, 6]
abbrev dktX4_whatIs_1 : List UInt8 := dkwX4_whatIs_1 ++ dktX4_whatIs_2
def dkwX4_whatIs_0 : List UInt8 := [42, 3, 181, 0, 71, 42, 28, 182, 0, 162, 153, 0, 29, 29, 184, 0, 149, 153, 0, 22, 21, 4, 133, 9]
abbrev dktX4_whatIs_0 : List UInt8 := dkwX4_whatIs_0 ++ dktX4_whatIs_1
theorem dksX4_whatIs_0 : cX4_whatIs.data.toList.drop 0 = dktX4_whatIs_0 := by decide +kernel
theorem dksX4_whatIs_1 : cX4_whatIs.data.toList.drop 24 = dktX4_whatIs_1 := dk_seg dksX4_whatIs_0 24 rfl rfl
theorem dksX4_whatIs_2 : cX4_whatIs.data.toList.drop 47 = dktX4_whatIs_2 := dk_seg dksX4_whatIs_1 23 rfl rfl
theorem dksX4_whatIs_3 : cX4_whatIs.data.toList.drop 69 = dktX4_whatIs_3 := dk_seg dksX4_whatIs_2 22 rfl rfl
theorem dksX4_whatIs_4 : cX4_whatIs.data.toList.drop 93 = dktX4_whatIs_4 := dk_seg dksX4_whatIs_3 24 rfl rfl
theorem dksX4_whatIs_5 : cX4_whatIs.data.toList.drop 116 = dktX4_whatIs_5 := dk_seg dksX4_whatIs_4 23 rfl rfl
theorem dksX4_whatIs_6 : cX4_whatIs.data.toList.drop 138 = dktX4_whatIs_6 := dk_seg dksX4_whatIs_5 22 rfl rfl
theorem dX4_whatIs_0 : decode cX4_whatIs 0 = .ok (.aload_n 0, 1) := dk_42 (dk_at dksX4_whatIs_0 0 rfl rfl)
theorem dX4_whatIs_1 : decode cX4_whatIs 1 = .ok (.iconst 0, 1) := dk_3 (dk_at dksX4_whatIs_0 1 rfl rfl)
theorem dX4_whatIs_2 : decode cX4_whatIs 2 = .ok (.putfield 71, 3) := dk_181 0 71 (dk_at dksX4_whatIs_0 2 rfl rfl)
theorem dX4_whatIs_5 : decode cX4_whatIs 5 = .ok (.aload_n 0, 1) := dk_42 (dk_at dksX4_whatIs_0 5 rfl rfl)
theorem dX4_whatIs_6 : decode cX4_whatIs 6 = .ok (.iload_n 2, 1) := dk_28 (dk_at dksX4_whatIs_0 6 rfl rfl)
theorem dX4_whatIs_7 : decode cX4_whatIs 7 = .ok (.invokevirtual 162, 3) := dk_182 0 162 (dk_at dksX4_whatIs_0 7 rfl rfl)
theorem dX4_whatIs_10 : decode cX4_whatIs 10 = .ok (.ifCond .eq 29, 3) := dk_153 0 29 (dk_at dksX4_whatIs_0 10 rfl rfl)
theorem dX4_whatIs_13 : decode cX4_whatIs 13 = .ok (.iload_n 3, 1) := dk_29 (dk_at dksX4_whatIs_0 13 rfl rfl)
theorem dX4_whatIs_14 : decode cX4_whatIs 14 = .ok (.invokestatic 149, 3) := dk_184 0 149 (dk_at dksX4_whatIs_0 14 rfl rfl)
theorem dX4_whatIs_17 : decode cX4_whatIs 17 = .ok (.ifCond .eq 22, 3) := dk_153 0 22 (dk_at dksX4_whatIs_0 17 rfl rfl)
theorem dX4_whatIs_20 : decode cX4_whatIs 20 = .ok (.iload 4, 2) := dk_21 4 (dk_at dksX4_whatIs_0 20 rfl rfl)
theorem dX4_whatIs_22 : decode cX4_whatIs 22 = .ok (.i2l, 1) := dk_133 (dk_at dksX4_whatIs_0 22 rfl rfl)
theorem dX4_whatIs_23 : decode cX4_whatIs 23 = .ok (.lconst 0, 1) := dk_9 (dk_at dksX4_whatIs_0 23 rfl rfl)
theorem dX4_whatIs_24 : decode cX4_whatIs 24 = .ok (.lconst 1, 1) := dk_10 (dk_at dksX4_whatIs_1 0 rfl rfl)
theorem dX4_whatIs_25 : decode cX4_whatIs 25 = .ok (.invokestatic 77, 3) := dk_184 0 77 (dk_at dksX4_whatIs_1 1 rfl rfl)
theorem dX4_whatIs_28 : decode cX4_whatIs 28 = .ok (.ifCond .eq 11, 3) := dk_153 0 11 (dk_at dksX4_whatIs_1 4 rfl rfl)
theorem dX4_whatIs_31 : decode cX4_whatIs 31 = .ok (.aload_n 0, 1) := dk_42 (dk_at dksX4_whatIs_1 7 rfl rfl)
theorem dX4_whatIs_32 : decode cX4_whatIs 32 = .ok (.iload_n 1, 1) := dk_27 (dk_at dksX4_whatIs_1 8 rfl rfl)
theorem dX4_whatIs_33 : decode cX4_whatIs 33 = .ok (.invokevirtual 171, 3) := dk_182 0 171 (dk_at dksX4_whatIs_1 9 rfl rfl)
theorem dX4_whatIs_36 : decode cX4_whatIs 36 = .ok (.goto 4, 3) := dk_167 0 4 (dk_at dksX4_whatIs_1 12 rfl rfl)
theorem dX4_whatIs_39 : decode cX4_whatIs 39 = .ok (.iconst (-1), 1) := dk_2 (dk_at dksX4_whatIs_1 15 rfl rfl)
theorem dX4_whatIs_40 : decode cX4_whatIs 40 = .ok (.istore 5, 2) := dk_54 5 (dk_at dksX4_whatIs_1 16 rfl rfl)
theorem dX4_whatIs_42 : decode cX4_whatIs 42 = .ok (.iload 5, 2) := dk_21 5 (dk_at dksX4_whatIs_1 18 rfl rfl)
theorem dX4_whatIs_44 : decode cX4_whatIs 44 = .ok (.ifCond .ge 6, 3) := dk_156 0 6 (dk_at dksX4_whatIs_1 20 rfl rfl)
theorem dX4_whatIs_47 : decode cX4_whatIs 47 = .ok (.iload 5, 2) := dk_21 5 (dk_at dksX4_whatIs_2 0 rfl rfl)
theorem dX4_whatIs_49 : decode cX4_whatIs 49 = .ok (.ireturn, 1) := dk_172 (dk_at dksX4_whatIs_2 2 rfl rfl)
theorem dX4_whatIs_50 : decode cX4_whatIs 50 = .ok (.iconst 0, 1) := dk_3 (dk_at dksX4_whatIs_2 3 rfl rfl)
theorem dX4_whatIs_51 : decode cX4_whatIs 51 = .ok (.istore 6, 2) := dk_54 6 (dk_at dksX4_whatIs_2 4 rfl rfl)
theorem dX4_whatIs_53 : decode cX4_whatIs 53 = .ok (.aload_n 0, 1) := dk_42 (dk_at dksX4_whatIs_2 6 rfl rfl)
theorem dX4_whatIs_54 : decode cX4_whatIs 54 = .ok (.invokevirtual 177, 3) := dk_182 0 177 (dk_at dksX4_whatIs_2 7 rfl rfl)
theorem dX4_whatIs_57 : decode cX4_whatIs 57 = .ok (.iconst 0, 1) := dk_3 (dk_at dksX4_whatIs_2 10 rfl rfl)
theorem dX4_whatIs_58 : decode cX4_whatIs 58 = .ok (.istore 7, 2) := dk_54 7 (dk_at dksX4_whatIs_2 11 rfl rfl)
theorem dX4_whatIs_60 : decode cX4_whatIs 60 = .ok (.iload 7, 2) := dk_21 7 (dk_at dksX4_whatIs_2 13 rfl rfl)
theorem dX4_whatIs_62 : decode cX4_whatIs 62 = .ok (.iload 4, 2) := dk_21 4 (dk_at dksX4_whatIs_2 15 rfl rfl)
theorem dX4_whatIs_64 : decode cX4_whatIs 64 = .ok (.ifCond .ne 8, 3) := dk_154 0 8 (dk_at dksX4_whatIs_2 17 rfl rfl)
theorem dX4_whatIs_67 : decode cX4_whatIs 67 = .ok (.bipush 8, 2) := dk_16 8 (dk_at dksX4_whatIs_2 20 rfl rfl)
theorem dX4_whatIs_69 : decode cX4_whatIs 69 = .ok (.goto 5, 3) := dk_167 0 5 (dk_at dksX4_whatIs_3 0 rfl rfl)
theorem dX4_whatIs_72 : decode cX4_whatIs 72 = .ok (.bipush 10, 2) := dk_16 10 (dk_at dksX4_whatIs_3 3 rfl rfl)
theorem dX4_whatIs_74 : decode cX4_whatIs 74 = .ok (.if_icmp .ge 77, 3) := dk_162 0 77 (dk_at dksX4_whatIs_3 5 rfl rfl)
theorem dX4_whatIs_77 : decode cX4_whatIs 77 = .ok (.aload_n 0, 1) := dk_42 (dk_at dksX4_whatIs_3 8 rfl rfl)
theorem dX4_whatIs_78 : decode cX4_whatIs 78 = .ok (.getfield 7, 3) := dk_180 0 7 (dk_at dksX4_whatIs_3 9 rfl rfl)
theorem dX4_whatIs_81 : decode cX4_whatIs 81 = .ok (.iload_n 2, 1) := dk_28 (dk_at dksX4_whatIs_3 12 rfl rfl)
theorem dX4_whatIs_82 : decode cX4_whatIs 82 = .ok (.iload 4, 2) := dk_21 4 (dk_at dksX4_whatIs_3 13 rfl rfl)
theorem dX4_whatIs_84 : decode cX4_whatIs 84 = .ok (.ifCond .ne 8, 3) := dk_154 0 8 (dk_at dksX4_whatIs_3 15 rfl rfl)
theorem dX4_whatIs_87 : decode cX4_whatIs 87 = .ok (.iload 7, 2) := dk_21 7 (dk_at dksX4_whatIs_3 18 rfl rfl)
theorem dX4_whatIs_89 : decode cX4_whatIs 89 = .ok (.goto 9, 3) := dk_167 0 9 (dk_at dksX4_whatIs_3 20 rfl rfl)
theorem dX4_whatIs_92 : decode cX4_whatIs 92 = .ok (.aload_n 0, 1) := dk_42 (dk_at dksX4_whatIs_3 23 rfl rfl)
theorem dX4_whatIs_93 : decode cX4_whatIs 93 = .ok (.getfield 7, 3) := dk_180 0 7 (dk_at dksX4_whatIs_4 0 rfl rfl)
theorem dX4_whatIs_96 : decode cX4_whatIs 96 = .ok (.iload_n 2, 1) := dk_28 (dk_at dksX4_whatIs_4 3 rfl rfl)
theorem dX4_whatIs_97 : decode cX4_whatIs 97 = .ok (.iaload, 1) := dk_46 (dk_at dksX4_whatIs_4 4 rfl rfl)
theorem dX4_whatIs_98 : decode cX4_whatIs 98 = .ok (.iastore, 1) := dk_79 (dk_at dksX4_whatIs_4 5 rfl rfl)
theorem dX4_whatIs_99 : decode cX4_whatIs 99 = .ok (.aload_n 0, 1) := dk_42 (dk_at dksX4_whatIs_4 6 rfl rfl)
theorem dX4_whatIs_100 : decode cX4_whatIs 100 = .ok (.getfield 13, 3) := dk_180 0 13 (dk_at dksX4_whatIs_4 7 rfl rfl)
theorem dX4_whatIs_103 : decode cX4_whatIs 103 = .ok (.iload_n 2, 1) := dk_28 (dk_at dksX4_whatIs_4 10 rfl rfl)
theorem dX4_whatIs_104 : decode cX4_whatIs 104 = .ok (.iload 4, 2) := dk_21 4 (dk_at dksX4_whatIs_4 11 rfl rfl)
theorem dX4_whatIs_106 : decode cX4_whatIs 106 = .ok (.iconst 1, 1) := dk_4 (dk_at dksX4_whatIs_4 13 rfl rfl)
theorem dX4_whatIs_107 : decode cX4_whatIs 107 = .ok (.if_icmp .ne 8, 3) := dk_160 0 8 (dk_at dksX4_whatIs_4 14 rfl rfl)
theorem dX4_whatIs_110 : decode cX4_whatIs 110 = .ok (.iload 7, 2) := dk_21 7 (dk_at dksX4_whatIs_4 17 rfl rfl)
theorem dX4_whatIs_112 : decode cX4_whatIs 112 = .ok (.goto 9, 3) := dk_167 0 9 (dk_at dksX4_whatIs_4 19 rfl rfl)
theorem dX4_whatIs_115 : decode cX4_whatIs 115 = .ok (.aload_n 0, 1) := dk_42 (dk_at dksX4_whatIs_4 22 rfl rfl)
theorem dX4_whatIs_116 : decode cX4_whatIs 116 = .ok (.getfield 13, 3) := dk_180 0 13 (dk_at dksX4_whatIs_5 0 rfl rfl)
theorem dX4_whatIs_119 : decode cX4_whatIs 119 = .ok (.iload_n 2, 1) := dk_28 (dk_at dksX4_whatIs_5 3 rfl rfl)
theorem dX4_whatIs_120 : decode cX4_whatIs 120 = .ok (.iaload, 1) := dk_46 (dk_at dksX4_whatIs_5 4 rfl rfl)
theorem dX4_whatIs_121 : decode cX4_whatIs 121 = .ok (.iastore, 1) := dk_79 (dk_at dksX4_whatIs_5 5 rfl rfl)
theorem dX4_whatIs_122 : decode cX4_whatIs 122 = .ok (.iload 6, 2) := dk_21 6 (dk_at dksX4_whatIs_5 6 rfl rfl)
theorem dX4_whatIs_124 : decode cX4_whatIs 124 = .ok (.aload_n 0, 1) := dk_42 (dk_at dksX4_whatIs_5 8 rfl rfl)
theorem dX4_whatIs_125 : decode cX4_whatIs 125 = .ok (.iload_n 1, 1) := dk_27 (dk_at dksX4_whatIs_5 9 rfl rfl)
theorem dX4_whatIs_126 : decode cX4_whatIs 126 = .ok (.iload_n 2, 1) := dk_28 (dk_at dksX4_whatIs_5 10 rfl rfl)
theorem dX4_whatIs_127 : decode cX4_whatIs 127 = .ok (.iload_n 3, 1) := dk_29 (dk_at dksX4_whatIs_5 11 rfl rfl)
theorem dX4_whatIs_128 : decode cX4_whatIs 128 = .ok (.invokevirtual 255, 3) := dk_182 0 255 (dk_at dksX4_whatIs_5 12 rfl rfl)
theorem dX4_whatIs_131 : decode cX4_whatIs 131 = .ok (.ifCond .eq 10, 3) := dk_153 0 10 (dk_at dksX4_whatIs_5 15 rfl rfl)
theorem dX4_whatIs_134 : decode cX4_whatIs 134 = .ok (.iconst 1, 1) := dk_4 (dk_at dksX4_whatIs_5 18 rfl rfl)
theorem dX4_whatIs_135 : decode cX4_whatIs 135 = .ok (.iload 7, 2) := dk_21 7 (dk_at dksX4_whatIs_5 19 rfl rfl)
theorem dX4_whatIs_137 : decode cX4_whatIs 137 = .ok (.ishl, 1) := dk_120 (dk_at dksX4_whatIs_5 21 rfl rfl)
theorem dX4_whatIs_138 : decode cX4_whatIs 138 = .ok (.goto 4, 3) := dk_167 0 4 (dk_at dksX4_whatIs_6 0 rfl rfl)
theorem dX4_whatIs_141 : decode cX4_whatIs 141 = .ok (.iconst 0, 1) := dk_3 (dk_at dksX4_whatIs_6 3 rfl rfl)
theorem dX4_whatIs_142 : decode cX4_whatIs 142 = .ok (.ior, 1) := dk_128 (dk_at dksX4_whatIs_6 4 rfl rfl)
theorem dX4_whatIs_143 : decode cX4_whatIs 143 = .ok (.istore 6, 2) := dk_54 6 (dk_at dksX4_whatIs_6 5 rfl rfl)
theorem dX4_whatIs_145 : decode cX4_whatIs 145 = .ok (.iinc 7 1, 3) := dk_132 7 1 (dk_at dksX4_whatIs_6 7 rfl rfl)
theorem dX4_whatIs_148 : decode cX4_whatIs 148 = .ok (.goto (-88), 3) := dk_167 255 168 (dk_at dksX4_whatIs_6 10 rfl rfl)
theorem dX4_whatIs_151 : decode cX4_whatIs 151 = .ok (.iload 6, 2) := dk_21 6 (dk_at dksX4_whatIs_6 13 rfl rfl)
theorem dX4_whatIs_153 : decode cX4_whatIs 153 = .ok (.ireturn, 1) := dk_172 (dk_at dksX4_whatIs_6 15 rfl rfl)
abbrev cX4_two : ByteArray := prog_21_method_67_code
def yX4_two : MethodName := ⟨RX4, "two", "(III)I"⟩
def dkwX4_two_7 : List UInt8 := [16, 252, 172]
abbrev dktX4_two_7 : List UInt8 := dkwX4_two_7 ++ []
def dkwX4_two_6 : List UInt8 := [21, 5, 182, 1, 7, 161, 0, 12, 16, 10, 21, 5, 104, 21, 6, 96, 172, 132, 4, 1, 167, 255, 180]
abbrev dktX4_two_6 : List UInt8 := dkwX4_two_6 ++ dktX4_two_7
def dkwX4_two_5 : List UInt8 := [100, 21, 6, 182, 1, 7, 161, 0, 35, 42, 5, 21, 6, 21, 5, 182, 1, 7, 42, 5, 4, 21, 6, 100]
abbrev dktX4_two_5 : List UInt8 := dkwX4_two_5 ++ dktX4_two_6
def dkwX4_two_4 : List UInt8 := [5, 108, 54, 5, 21, 4, 5, 112, 54, 6, 42, 3, 21, 5, 21, 6, 182, 1, 7, 42, 3, 4, 21, 5]
abbrev dktX4_two_4 : List UInt8 := dkwX4_two_4 ++ dktX4_two_5
def dkwX4_two_3 : List UInt8 := [29, 21, 4, 182, 1, 3, 79, 132, 4, 1, 167, 255, 215, 3, 54, 4, 21, 4, 7, 162, 0, 76, 21, 4]
abbrev dktX4_two_3 : List UInt8 := dkwX4_two_3 ++ dktX4_two_4
def dkwX4_two_2 : List UInt8 := [180, 0, 65, 21, 4, 42, 27, 29, 21, 4, 182, 1, 3, 79, 42, 180, 0, 65, 5, 21, 4, 96, 42, 28]
abbrev dktX4_two_2 : List UInt8 := dkwX4_two_2 ++ dktX4_two_3
def dkwX4_two_1 : List UInt8 := [159, 0, 10, 29, 184, 0, 149, 154, 0, 5, 2, 172, 3, 54, 4, 21, 4, 5, 162, 0, 41, 42]
abbrev dktX4_two_1 : List UInt8 := dkwX4_two_1 ++ dktX4_two_2
def dkwX4_two_0 : List UInt8 := [42, 3, 181, 0, 71, 42, 27, 182, 0, 162, 153, 0, 23, 42, 28, 182, 0, 162, 153, 0, 15, 27, 28]
abbrev dktX4_two_0 : List UInt8 := dkwX4_two_0 ++ dktX4_two_1
theorem dksX4_two_0 : cX4_two.data.toList.drop 0 = dktX4_two_0 := by decide +kernel
theorem dksX4_two_1 : cX4_two.data.toList.drop 23 = dktX4_two_1 := dk_seg dksX4_two_0 23 rfl rfl
theorem dksX4_two_2 : cX4_two.data.toList.drop 45 = dktX4_two_2 := dk_seg dksX4_two_1 22 rfl rfl
theorem dksX4_two_3 : cX4_two.data.toList.drop 69 = dktX4_two_3 := dk_seg dksX4_two_2 24 rfl rfl
theorem dksX4_two_4 : cX4_two.data.toList.drop 93 = dktX4_two_4 := dk_seg dksX4_two_3 24 rfl rfl
theorem dksX4_two_5 : cX4_two.data.toList.drop 117 = dktX4_two_5 := dk_seg dksX4_two_4 24 rfl rfl
theorem dksX4_two_6 : cX4_two.data.toList.drop 141 = dktX4_two_6 := dk_seg dksX4_two_5 24 rfl rfl
theorem dksX4_two_7 : cX4_two.data.toList.drop 164 = dktX4_two_7 := dk_seg dksX4_two_6 23 rfl rfl
theorem dX4_two_0 : decode cX4_two 0 = .ok (.aload_n 0, 1) := dk_42 (dk_at dksX4_two_0 0 rfl rfl)
theorem dX4_two_1 : decode cX4_two 1 = .ok (.iconst 0, 1) := dk_3 (dk_at dksX4_two_0 1 rfl rfl)
theorem dX4_two_2 : decode cX4_two 2 = .ok (.putfield 71, 3) := dk_181 0 71 (dk_at dksX4_two_0 2 rfl rfl)
theorem dX4_two_5 : decode cX4_two 5 = .ok (.aload_n 0, 1) := dk_42 (dk_at dksX4_two_0 5 rfl rfl)
theorem dX4_two_6 : decode cX4_two 6 = .ok (.iload_n 1, 1) := dk_27 (dk_at dksX4_two_0 6 rfl rfl)
theorem dX4_two_7 : decode cX4_two 7 = .ok (.invokevirtual 162, 3) := dk_182 0 162 (dk_at dksX4_two_0 7 rfl rfl)
theorem dX4_two_10 : decode cX4_two 10 = .ok (.ifCond .eq 23, 3) := dk_153 0 23 (dk_at dksX4_two_0 10 rfl rfl)
theorem dX4_two_13 : decode cX4_two 13 = .ok (.aload_n 0, 1) := dk_42 (dk_at dksX4_two_0 13 rfl rfl)
theorem dX4_two_14 : decode cX4_two 14 = .ok (.iload_n 2, 1) := dk_28 (dk_at dksX4_two_0 14 rfl rfl)
theorem dX4_two_15 : decode cX4_two 15 = .ok (.invokevirtual 162, 3) := dk_182 0 162 (dk_at dksX4_two_0 15 rfl rfl)
theorem dX4_two_18 : decode cX4_two 18 = .ok (.ifCond .eq 15, 3) := dk_153 0 15 (dk_at dksX4_two_0 18 rfl rfl)
theorem dX4_two_21 : decode cX4_two 21 = .ok (.iload_n 1, 1) := dk_27 (dk_at dksX4_two_0 21 rfl rfl)
theorem dX4_two_22 : decode cX4_two 22 = .ok (.iload_n 2, 1) := dk_28 (dk_at dksX4_two_0 22 rfl rfl)
theorem dX4_two_23 : decode cX4_two 23 = .ok (.if_icmp .eq 10, 3) := dk_159 0 10 (dk_at dksX4_two_1 0 rfl rfl)
theorem dX4_two_26 : decode cX4_two 26 = .ok (.iload_n 3, 1) := dk_29 (dk_at dksX4_two_1 3 rfl rfl)
theorem dX4_two_27 : decode cX4_two 27 = .ok (.invokestatic 149, 3) := dk_184 0 149 (dk_at dksX4_two_1 4 rfl rfl)
theorem dX4_two_30 : decode cX4_two 30 = .ok (.ifCond .ne 5, 3) := dk_154 0 5 (dk_at dksX4_two_1 7 rfl rfl)
theorem dX4_two_33 : decode cX4_two 33 = .ok (.iconst (-1), 1) := dk_2 (dk_at dksX4_two_1 10 rfl rfl)
theorem dX4_two_34 : decode cX4_two 34 = .ok (.ireturn, 1) := dk_172 (dk_at dksX4_two_1 11 rfl rfl)
theorem dX4_two_35 : decode cX4_two 35 = .ok (.iconst 0, 1) := dk_3 (dk_at dksX4_two_1 12 rfl rfl)
theorem dX4_two_36 : decode cX4_two 36 = .ok (.istore 4, 2) := dk_54 4 (dk_at dksX4_two_1 13 rfl rfl)
theorem dX4_two_38 : decode cX4_two 38 = .ok (.iload 4, 2) := dk_21 4 (dk_at dksX4_two_1 15 rfl rfl)
theorem dX4_two_40 : decode cX4_two 40 = .ok (.iconst 2, 1) := dk_5 (dk_at dksX4_two_1 17 rfl rfl)
theorem dX4_two_41 : decode cX4_two 41 = .ok (.if_icmp .ge 41, 3) := dk_162 0 41 (dk_at dksX4_two_1 18 rfl rfl)
theorem dX4_two_44 : decode cX4_two 44 = .ok (.aload_n 0, 1) := dk_42 (dk_at dksX4_two_1 21 rfl rfl)
theorem dX4_two_45 : decode cX4_two 45 = .ok (.getfield 65, 3) := dk_180 0 65 (dk_at dksX4_two_2 0 rfl rfl)
theorem dX4_two_48 : decode cX4_two 48 = .ok (.iload 4, 2) := dk_21 4 (dk_at dksX4_two_2 3 rfl rfl)
theorem dX4_two_50 : decode cX4_two 50 = .ok (.aload_n 0, 1) := dk_42 (dk_at dksX4_two_2 5 rfl rfl)
theorem dX4_two_51 : decode cX4_two 51 = .ok (.iload_n 1, 1) := dk_27 (dk_at dksX4_two_2 6 rfl rfl)
theorem dX4_two_52 : decode cX4_two 52 = .ok (.iload_n 3, 1) := dk_29 (dk_at dksX4_two_2 7 rfl rfl)
theorem dX4_two_53 : decode cX4_two 53 = .ok (.iload 4, 2) := dk_21 4 (dk_at dksX4_two_2 8 rfl rfl)
theorem dX4_two_55 : decode cX4_two 55 = .ok (.invokevirtual 259, 3) := dk_182 1 3 (dk_at dksX4_two_2 10 rfl rfl)
theorem dX4_two_58 : decode cX4_two 58 = .ok (.iastore, 1) := dk_79 (dk_at dksX4_two_2 13 rfl rfl)
theorem dX4_two_59 : decode cX4_two 59 = .ok (.aload_n 0, 1) := dk_42 (dk_at dksX4_two_2 14 rfl rfl)
theorem dX4_two_60 : decode cX4_two 60 = .ok (.getfield 65, 3) := dk_180 0 65 (dk_at dksX4_two_2 15 rfl rfl)
theorem dX4_two_63 : decode cX4_two 63 = .ok (.iconst 2, 1) := dk_5 (dk_at dksX4_two_2 18 rfl rfl)
theorem dX4_two_64 : decode cX4_two 64 = .ok (.iload 4, 2) := dk_21 4 (dk_at dksX4_two_2 19 rfl rfl)
theorem dX4_two_66 : decode cX4_two 66 = .ok (.iadd, 1) := dk_96 (dk_at dksX4_two_2 21 rfl rfl)
theorem dX4_two_67 : decode cX4_two 67 = .ok (.aload_n 0, 1) := dk_42 (dk_at dksX4_two_2 22 rfl rfl)
theorem dX4_two_68 : decode cX4_two 68 = .ok (.iload_n 2, 1) := dk_28 (dk_at dksX4_two_2 23 rfl rfl)
theorem dX4_two_69 : decode cX4_two 69 = .ok (.iload_n 3, 1) := dk_29 (dk_at dksX4_two_3 0 rfl rfl)
theorem dX4_two_70 : decode cX4_two 70 = .ok (.iload 4, 2) := dk_21 4 (dk_at dksX4_two_3 1 rfl rfl)
theorem dX4_two_72 : decode cX4_two 72 = .ok (.invokevirtual 259, 3) := dk_182 1 3 (dk_at dksX4_two_3 3 rfl rfl)
theorem dX4_two_75 : decode cX4_two 75 = .ok (.iastore, 1) := dk_79 (dk_at dksX4_two_3 6 rfl rfl)
theorem dX4_two_76 : decode cX4_two 76 = .ok (.iinc 4 1, 3) := dk_132 4 1 (dk_at dksX4_two_3 7 rfl rfl)
theorem dX4_two_79 : decode cX4_two 79 = .ok (.goto (-41), 3) := dk_167 255 215 (dk_at dksX4_two_3 10 rfl rfl)
theorem dX4_two_82 : decode cX4_two 82 = .ok (.iconst 0, 1) := dk_3 (dk_at dksX4_two_3 13 rfl rfl)
theorem dX4_two_83 : decode cX4_two 83 = .ok (.istore 4, 2) := dk_54 4 (dk_at dksX4_two_3 14 rfl rfl)
theorem dX4_two_85 : decode cX4_two 85 = .ok (.iload 4, 2) := dk_21 4 (dk_at dksX4_two_3 16 rfl rfl)
theorem dX4_two_87 : decode cX4_two 87 = .ok (.iconst 4, 1) := dk_7 (dk_at dksX4_two_3 18 rfl rfl)
theorem dX4_two_88 : decode cX4_two 88 = .ok (.if_icmp .ge 76, 3) := dk_162 0 76 (dk_at dksX4_two_3 19 rfl rfl)
theorem dX4_two_91 : decode cX4_two 91 = .ok (.iload 4, 2) := dk_21 4 (dk_at dksX4_two_3 22 rfl rfl)
theorem dX4_two_93 : decode cX4_two 93 = .ok (.iconst 2, 1) := dk_5 (dk_at dksX4_two_4 0 rfl rfl)
theorem dX4_two_94 : decode cX4_two 94 = .ok (.idiv, 1) := dk_108 (dk_at dksX4_two_4 1 rfl rfl)
theorem dX4_two_95 : decode cX4_two 95 = .ok (.istore 5, 2) := dk_54 5 (dk_at dksX4_two_4 2 rfl rfl)
theorem dX4_two_97 : decode cX4_two 97 = .ok (.iload 4, 2) := dk_21 4 (dk_at dksX4_two_4 4 rfl rfl)
theorem dX4_two_99 : decode cX4_two 99 = .ok (.iconst 2, 1) := dk_5 (dk_at dksX4_two_4 6 rfl rfl)
theorem dX4_two_100 : decode cX4_two 100 = .ok (.irem, 1) := dk_112 (dk_at dksX4_two_4 7 rfl rfl)
theorem dX4_two_101 : decode cX4_two 101 = .ok (.istore 6, 2) := dk_54 6 (dk_at dksX4_two_4 8 rfl rfl)
theorem dX4_two_103 : decode cX4_two 103 = .ok (.aload_n 0, 1) := dk_42 (dk_at dksX4_two_4 10 rfl rfl)
theorem dX4_two_104 : decode cX4_two 104 = .ok (.iconst 0, 1) := dk_3 (dk_at dksX4_two_4 11 rfl rfl)
theorem dX4_two_105 : decode cX4_two 105 = .ok (.iload 5, 2) := dk_21 5 (dk_at dksX4_two_4 12 rfl rfl)
theorem dX4_two_107 : decode cX4_two 107 = .ok (.iload 6, 2) := dk_21 6 (dk_at dksX4_two_4 14 rfl rfl)
theorem dX4_two_109 : decode cX4_two 109 = .ok (.invokevirtual 263, 3) := dk_182 1 7 (dk_at dksX4_two_4 16 rfl rfl)
theorem dX4_two_112 : decode cX4_two 112 = .ok (.aload_n 0, 1) := dk_42 (dk_at dksX4_two_4 19 rfl rfl)
theorem dX4_two_113 : decode cX4_two 113 = .ok (.iconst 0, 1) := dk_3 (dk_at dksX4_two_4 20 rfl rfl)
theorem dX4_two_114 : decode cX4_two 114 = .ok (.iconst 1, 1) := dk_4 (dk_at dksX4_two_4 21 rfl rfl)
theorem dX4_two_115 : decode cX4_two 115 = .ok (.iload 5, 2) := dk_21 5 (dk_at dksX4_two_4 22 rfl rfl)
theorem dX4_two_117 : decode cX4_two 117 = .ok (.isub, 1) := dk_100 (dk_at dksX4_two_5 0 rfl rfl)
theorem dX4_two_118 : decode cX4_two 118 = .ok (.iload 6, 2) := dk_21 6 (dk_at dksX4_two_5 1 rfl rfl)
theorem dX4_two_120 : decode cX4_two 120 = .ok (.invokevirtual 263, 3) := dk_182 1 7 (dk_at dksX4_two_5 3 rfl rfl)
theorem dX4_two_123 : decode cX4_two 123 = .ok (.if_icmp .lt 35, 3) := dk_161 0 35 (dk_at dksX4_two_5 6 rfl rfl)
theorem dX4_two_126 : decode cX4_two 126 = .ok (.aload_n 0, 1) := dk_42 (dk_at dksX4_two_5 9 rfl rfl)
theorem dX4_two_127 : decode cX4_two 127 = .ok (.iconst 2, 1) := dk_5 (dk_at dksX4_two_5 10 rfl rfl)
theorem dX4_two_128 : decode cX4_two 128 = .ok (.iload 6, 2) := dk_21 6 (dk_at dksX4_two_5 11 rfl rfl)
theorem dX4_two_130 : decode cX4_two 130 = .ok (.iload 5, 2) := dk_21 5 (dk_at dksX4_two_5 13 rfl rfl)
theorem dX4_two_132 : decode cX4_two 132 = .ok (.invokevirtual 263, 3) := dk_182 1 7 (dk_at dksX4_two_5 15 rfl rfl)
theorem dX4_two_135 : decode cX4_two 135 = .ok (.aload_n 0, 1) := dk_42 (dk_at dksX4_two_5 18 rfl rfl)
theorem dX4_two_136 : decode cX4_two 136 = .ok (.iconst 2, 1) := dk_5 (dk_at dksX4_two_5 19 rfl rfl)
theorem dX4_two_137 : decode cX4_two 137 = .ok (.iconst 1, 1) := dk_4 (dk_at dksX4_two_5 20 rfl rfl)
theorem dX4_two_138 : decode cX4_two 138 = .ok (.iload 6, 2) := dk_21 6 (dk_at dksX4_two_5 21 rfl rfl)
theorem dX4_two_140 : decode cX4_two 140 = .ok (.isub, 1) := dk_100 (dk_at dksX4_two_5 23 rfl rfl)
theorem dX4_two_141 : decode cX4_two 141 = .ok (.iload 5, 2) := dk_21 5 (dk_at dksX4_two_6 0 rfl rfl)
theorem dX4_two_143 : decode cX4_two 143 = .ok (.invokevirtual 263, 3) := dk_182 1 7 (dk_at dksX4_two_6 2 rfl rfl)
theorem dX4_two_146 : decode cX4_two 146 = .ok (.if_icmp .lt 12, 3) := dk_161 0 12 (dk_at dksX4_two_6 5 rfl rfl)
theorem dX4_two_149 : decode cX4_two 149 = .ok (.bipush 10, 2) := dk_16 10 (dk_at dksX4_two_6 8 rfl rfl)
theorem dX4_two_151 : decode cX4_two 151 = .ok (.iload 5, 2) := dk_21 5 (dk_at dksX4_two_6 10 rfl rfl)
theorem dX4_two_153 : decode cX4_two 153 = .ok (.imul, 1) := dk_104 (dk_at dksX4_two_6 12 rfl rfl)
theorem dX4_two_154 : decode cX4_two 154 = .ok (.iload 6, 2) := dk_21 6 (dk_at dksX4_two_6 13 rfl rfl)
theorem dX4_two_156 : decode cX4_two 156 = .ok (.iadd, 1) := dk_96 (dk_at dksX4_two_6 15 rfl rfl)
theorem dX4_two_157 : decode cX4_two 157 = .ok (.ireturn, 1) := dk_172 (dk_at dksX4_two_6 16 rfl rfl)
theorem dX4_two_158 : decode cX4_two 158 = .ok (.iinc 4 1, 3) := dk_132 4 1 (dk_at dksX4_two_6 17 rfl rfl)
theorem dX4_two_161 : decode cX4_two 161 = .ok (.goto (-76), 3) := dk_167 255 180 (dk_at dksX4_two_6 20 rfl rfl)
theorem dX4_two_164 : decode cX4_two 164 = .ok (.bipush (-4), 2) := dk_16 252 (dk_at dksX4_two_7 0 rfl rfl)
theorem dX4_two_166 : decode cX4_two 166 = .ok (.ireturn, 1) := dk_172 (dk_at dksX4_two_7 2 rfl rfl)
abbrev cX4_waitedRide : ByteArray := prog_21_method_66_code
def yX4_waitedRide : MethodName := ⟨RX4, "waitedRide", "(III)I"⟩
def dkwX4_waitedRide_1 : List UInt8 := [182, 0, 183, 21, 4, 172]
abbrev dktX4_waitedRide_1 : List UInt8 := dkwX4_waitedRide_1 ++ []
def dkwX4_waitedRide_0 : List UInt8 := [42, 182, 0, 177, 42, 8, 29, 104, 182, 0, 154, 8, 29, 104, 42, 27, 28, 182, 0, 165, 96, 54, 4, 42]
abbrev dktX4_waitedRide_0 : List UInt8 := dkwX4_waitedRide_0 ++ dktX4_waitedRide_1
theorem dksX4_waitedRide_0 : cX4_waitedRide.data.toList.drop 0 = dktX4_waitedRide_0 := by decide +kernel
theorem dksX4_waitedRide_1 : cX4_waitedRide.data.toList.drop 24 = dktX4_waitedRide_1 := dk_seg dksX4_waitedRide_0 24 rfl rfl
theorem dX4_waitedRide_0 : decode cX4_waitedRide 0 = .ok (.aload_n 0, 1) := dk_42 (dk_at dksX4_waitedRide_0 0 rfl rfl)
theorem dX4_waitedRide_1 : decode cX4_waitedRide 1 = .ok (.invokevirtual 177, 3) := dk_182 0 177 (dk_at dksX4_waitedRide_0 1 rfl rfl)
theorem dX4_waitedRide_4 : decode cX4_waitedRide 4 = .ok (.aload_n 0, 1) := dk_42 (dk_at dksX4_waitedRide_0 4 rfl rfl)
theorem dX4_waitedRide_5 : decode cX4_waitedRide 5 = .ok (.iconst 5, 1) := dk_8 (dk_at dksX4_waitedRide_0 5 rfl rfl)
theorem dX4_waitedRide_6 : decode cX4_waitedRide 6 = .ok (.iload_n 3, 1) := dk_29 (dk_at dksX4_waitedRide_0 6 rfl rfl)
theorem dX4_waitedRide_7 : decode cX4_waitedRide 7 = .ok (.imul, 1) := dk_104 (dk_at dksX4_waitedRide_0 7 rfl rfl)
theorem dX4_waitedRide_8 : decode cX4_waitedRide 8 = .ok (.invokevirtual 154, 3) := dk_182 0 154 (dk_at dksX4_waitedRide_0 8 rfl rfl)
theorem dX4_waitedRide_11 : decode cX4_waitedRide 11 = .ok (.iconst 5, 1) := dk_8 (dk_at dksX4_waitedRide_0 11 rfl rfl)
theorem dX4_waitedRide_12 : decode cX4_waitedRide 12 = .ok (.iload_n 3, 1) := dk_29 (dk_at dksX4_waitedRide_0 12 rfl rfl)
theorem dX4_waitedRide_13 : decode cX4_waitedRide 13 = .ok (.imul, 1) := dk_104 (dk_at dksX4_waitedRide_0 13 rfl rfl)
theorem dX4_waitedRide_14 : decode cX4_waitedRide 14 = .ok (.aload_n 0, 1) := dk_42 (dk_at dksX4_waitedRide_0 14 rfl rfl)
theorem dX4_waitedRide_15 : decode cX4_waitedRide 15 = .ok (.iload_n 1, 1) := dk_27 (dk_at dksX4_waitedRide_0 15 rfl rfl)
theorem dX4_waitedRide_16 : decode cX4_waitedRide 16 = .ok (.iload_n 2, 1) := dk_28 (dk_at dksX4_waitedRide_0 16 rfl rfl)
theorem dX4_waitedRide_17 : decode cX4_waitedRide 17 = .ok (.invokevirtual 165, 3) := dk_182 0 165 (dk_at dksX4_waitedRide_0 17 rfl rfl)
theorem dX4_waitedRide_20 : decode cX4_waitedRide 20 = .ok (.iadd, 1) := dk_96 (dk_at dksX4_waitedRide_0 20 rfl rfl)
theorem dX4_waitedRide_21 : decode cX4_waitedRide 21 = .ok (.istore 4, 2) := dk_54 4 (dk_at dksX4_waitedRide_0 21 rfl rfl)
theorem dX4_waitedRide_23 : decode cX4_waitedRide 23 = .ok (.aload_n 0, 1) := dk_42 (dk_at dksX4_waitedRide_0 23 rfl rfl)
theorem dX4_waitedRide_24 : decode cX4_waitedRide 24 = .ok (.invokevirtual 183, 3) := dk_182 0 183 (dk_at dksX4_waitedRide_1 0 rfl rfl)
theorem dX4_waitedRide_27 : decode cX4_waitedRide 27 = .ok (.iload 4, 2) := dk_21 4 (dk_at dksX4_waitedRide_1 3 rfl rfl)
theorem dX4_waitedRide_29 : decode cX4_waitedRide 29 = .ok (.ireturn, 1) := dk_172 (dk_at dksX4_waitedRide_1 5 rfl rfl)
abbrev cX4_hasBy : ByteArray := prog_21_method_68_code
def yX4_hasBy : MethodName := ⟨RX4, "hasBy", "(III)I"⟩
def dkwX4_hasBy_1 : List UInt8 := [167, 0, 4, 3, 28, 96, 172]
abbrev dktX4_hasBy_1 : List UInt8 := dkwX4_hasBy_1 ++ []
def dkwX4_hasBy_0 : List UInt8 := [42, 180, 0, 65, 27, 28, 96, 46, 42, 180, 0, 65, 5, 27, 100, 29, 96, 46, 162, 0, 7, 6]
abbrev dktX4_hasBy_0 : List UInt8 := dkwX4_hasBy_0 ++ dktX4_hasBy_1
theorem dksX4_hasBy_0 : cX4_hasBy.data.toList.drop 0 = dktX4_hasBy_0 := by decide +kernel
theorem dksX4_hasBy_1 : cX4_hasBy.data.toList.drop 22 = dktX4_hasBy_1 := dk_seg dksX4_hasBy_0 22 rfl rfl
theorem dX4_hasBy_0 : decode cX4_hasBy 0 = .ok (.aload_n 0, 1) := dk_42 (dk_at dksX4_hasBy_0 0 rfl rfl)
theorem dX4_hasBy_1 : decode cX4_hasBy 1 = .ok (.getfield 65, 3) := dk_180 0 65 (dk_at dksX4_hasBy_0 1 rfl rfl)
theorem dX4_hasBy_4 : decode cX4_hasBy 4 = .ok (.iload_n 1, 1) := dk_27 (dk_at dksX4_hasBy_0 4 rfl rfl)
theorem dX4_hasBy_5 : decode cX4_hasBy 5 = .ok (.iload_n 2, 1) := dk_28 (dk_at dksX4_hasBy_0 5 rfl rfl)
theorem dX4_hasBy_6 : decode cX4_hasBy 6 = .ok (.iadd, 1) := dk_96 (dk_at dksX4_hasBy_0 6 rfl rfl)
theorem dX4_hasBy_7 : decode cX4_hasBy 7 = .ok (.iaload, 1) := dk_46 (dk_at dksX4_hasBy_0 7 rfl rfl)
theorem dX4_hasBy_8 : decode cX4_hasBy 8 = .ok (.aload_n 0, 1) := dk_42 (dk_at dksX4_hasBy_0 8 rfl rfl)
theorem dX4_hasBy_9 : decode cX4_hasBy 9 = .ok (.getfield 65, 3) := dk_180 0 65 (dk_at dksX4_hasBy_0 9 rfl rfl)
theorem dX4_hasBy_12 : decode cX4_hasBy 12 = .ok (.iconst 2, 1) := dk_5 (dk_at dksX4_hasBy_0 12 rfl rfl)
theorem dX4_hasBy_13 : decode cX4_hasBy 13 = .ok (.iload_n 1, 1) := dk_27 (dk_at dksX4_hasBy_0 13 rfl rfl)
theorem dX4_hasBy_14 : decode cX4_hasBy 14 = .ok (.isub, 1) := dk_100 (dk_at dksX4_hasBy_0 14 rfl rfl)
theorem dX4_hasBy_15 : decode cX4_hasBy 15 = .ok (.iload_n 3, 1) := dk_29 (dk_at dksX4_hasBy_0 15 rfl rfl)
theorem dX4_hasBy_16 : decode cX4_hasBy 16 = .ok (.iadd, 1) := dk_96 (dk_at dksX4_hasBy_0 16 rfl rfl)
theorem dX4_hasBy_17 : decode cX4_hasBy 17 = .ok (.iaload, 1) := dk_46 (dk_at dksX4_hasBy_0 17 rfl rfl)
theorem dX4_hasBy_18 : decode cX4_hasBy 18 = .ok (.if_icmp .ge 7, 3) := dk_162 0 7 (dk_at dksX4_hasBy_0 18 rfl rfl)
theorem dX4_hasBy_21 : decode cX4_hasBy 21 = .ok (.iconst 3, 1) := dk_6 (dk_at dksX4_hasBy_0 21 rfl rfl)
theorem dX4_hasBy_22 : decode cX4_hasBy 22 = .ok (.goto 4, 3) := dk_167 0 4 (dk_at dksX4_hasBy_1 0 rfl rfl)
theorem dX4_hasBy_25 : decode cX4_hasBy 25 = .ok (.iconst 0, 1) := dk_3 (dk_at dksX4_hasBy_1 3 rfl rfl)
theorem dX4_hasBy_26 : decode cX4_hasBy 26 = .ok (.iload_n 2, 1) := dk_28 (dk_at dksX4_hasBy_1 4 rfl rfl)
theorem dX4_hasBy_27 : decode cX4_hasBy 27 = .ok (.iadd, 1) := dk_96 (dk_at dksX4_hasBy_1 5 rfl rfl)
theorem dX4_hasBy_28 : decode cX4_hasBy 28 = .ok (.ireturn, 1) := dk_172 (dk_at dksX4_hasBy_1 6 rfl rfl)
abbrev cX4_storm : ByteArray := prog_21_method_71_code
def yX4_storm : MethodName := ⟨RX4, "storm", "(IIIII)J"⟩
def dkwX4_storm_8 : List UInt8 := [132, 10, 1, 167, 255, 168, 22, 6, 22, 8, 21, 5, 184, 1, 22, 173]
abbrev dktX4_storm_8 : List UInt8 := dkwX4_storm_8 ++ []
def dkwX4_storm_7 : List UInt8 := [22, 6, 42, 27, 182, 0, 108, 28, 161, 0, 8, 22, 11, 167, 0, 4, 9, 97, 55, 6, 42, 182, 0, 183]
abbrev dktX4_storm_7 : List UInt8 := dkwX4_storm_7 ++ dktX4_storm_8
def dkwX4_storm_6 : List UInt8 := [4, 100, 133, 105, 55, 11, 42, 21, 10, 21, 13, 184, 1, 18, 182, 0, 104, 132, 13, 1, 167, 255, 212]
abbrev dktX4_storm_6 : List UInt8 := dkwX4_storm_6 ++ dktX4_storm_7
def dkwX4_storm_5 : List UInt8 := [21, 13, 29, 162, 0, 44, 22, 11, 21, 10, 21, 13, 184, 1, 18, 153, 0, 7, 10, 167, 0, 8, 21, 4]
abbrev dktX4_storm_5 : List UInt8 := dkwX4_storm_5 ++ dktX4_storm_6
def dkwX4_storm_4 : List UInt8 := [167, 255, 239, 42, 182, 0, 177, 3, 54, 10, 21, 10, 4, 29, 120, 162, 0, 86, 10, 55, 11, 3, 54, 13]
abbrev dktX4_storm_4 : List UInt8 := dkwX4_storm_4 ++ dktX4_storm_5
def dkwX4_storm_3 : List UInt8 := [10, 55, 8, 3, 54, 10, 21, 10, 29, 162, 0, 17, 22, 8, 21, 4, 133, 105, 55, 8, 132, 10, 1]
abbrev dktX4_storm_3 : List UInt8 := dkwX4_storm_3 ++ dktX4_storm_4
def dkwX4_storm_2 : List UInt8 := [184, 0, 77, 153, 0, 14, 21, 5, 133, 9, 10, 184, 0, 77, 154, 0, 7, 20, 1, 16, 173, 9, 55, 6]
abbrev dktX4_storm_2 : List UInt8 := dkwX4_storm_2 ++ dktX4_storm_3
def dkwX4_storm_1 : List UInt8 := [153, 0, 41, 29, 133, 9, 20, 0, 205, 184, 0, 77, 153, 0, 29, 21, 4, 133, 20, 1, 14, 20, 0, 75]
abbrev dktX4_storm_1 : List UInt8 := dkwX4_storm_1 ++ dktX4_storm_2
def dkwX4_storm_0 : List UInt8 := [42, 3, 181, 0, 71, 42, 27, 182, 0, 162, 153, 0, 53, 28, 133, 10, 20, 0, 152, 184, 0, 77]
abbrev dktX4_storm_0 : List UInt8 := dkwX4_storm_0 ++ dktX4_storm_1
theorem dksX4_storm_0 : cX4_storm.data.toList.drop 0 = dktX4_storm_0 := by decide +kernel
theorem dksX4_storm_1 : cX4_storm.data.toList.drop 22 = dktX4_storm_1 := dk_seg dksX4_storm_0 22 rfl rfl
theorem dksX4_storm_2 : cX4_storm.data.toList.drop 46 = dktX4_storm_2 := dk_seg dksX4_storm_1 24 rfl rfl
theorem dksX4_storm_3 : cX4_storm.data.toList.drop 70 = dktX4_storm_3 := dk_seg dksX4_storm_2 24 rfl rfl
theorem dksX4_storm_4 : cX4_storm.data.toList.drop 93 = dktX4_storm_4 := dk_seg dksX4_storm_3 23 rfl rfl
theorem dksX4_storm_5 : cX4_storm.data.toList.drop 117 = dktX4_storm_5 := dk_seg dksX4_storm_4 24 rfl rfl
theorem dksX4_storm_6 : cX4_storm.data.toList.drop 141 = dktX4_storm_6 := dk_seg dksX4_storm_5 24 rfl rfl
theorem dksX4_storm_7 : cX4_storm.data.toList.drop 164 = dktX4_storm_7 := dk_seg dksX4_storm_6 23 rfl rfl
theorem dksX4_storm_8 : cX4_storm.data.toList.drop 188 = dktX4_storm_8 := dk_seg dksX4_storm_7 24 rfl rfl
theorem dX4_storm_0 : decode cX4_storm 0 = .ok (.aload_n 0, 1) := dk_42 (dk_at dksX4_storm_0 0 rfl rfl)
theorem dX4_storm_1 : decode cX4_storm 1 = .ok (.iconst 0, 1) := dk_3 (dk_at dksX4_storm_0 1 rfl rfl)
theorem dX4_storm_2 : decode cX4_storm 2 = .ok (.putfield 71, 3) := dk_181 0 71 (dk_at dksX4_storm_0 2 rfl rfl)
theorem dX4_storm_5 : decode cX4_storm 5 = .ok (.aload_n 0, 1) := dk_42 (dk_at dksX4_storm_0 5 rfl rfl)
theorem dX4_storm_6 : decode cX4_storm 6 = .ok (.iload_n 1, 1) := dk_27 (dk_at dksX4_storm_0 6 rfl rfl)
theorem dX4_storm_7 : decode cX4_storm 7 = .ok (.invokevirtual 162, 3) := dk_182 0 162 (dk_at dksX4_storm_0 7 rfl rfl)
theorem dX4_storm_10 : decode cX4_storm 10 = .ok (.ifCond .eq 53, 3) := dk_153 0 53 (dk_at dksX4_storm_0 10 rfl rfl)
theorem dX4_storm_13 : decode cX4_storm 13 = .ok (.iload_n 2, 1) := dk_28 (dk_at dksX4_storm_0 13 rfl rfl)
theorem dX4_storm_14 : decode cX4_storm 14 = .ok (.i2l, 1) := dk_133 (dk_at dksX4_storm_0 14 rfl rfl)
theorem dX4_storm_15 : decode cX4_storm 15 = .ok (.lconst 1, 1) := dk_10 (dk_at dksX4_storm_0 15 rfl rfl)
theorem dX4_storm_16 : decode cX4_storm 16 = .ok (.ldc2_w 152, 3) := dk_20 0 152 (dk_at dksX4_storm_0 16 rfl rfl)
theorem dX4_storm_19 : decode cX4_storm 19 = .ok (.invokestatic 77, 3) := dk_184 0 77 (dk_at dksX4_storm_0 19 rfl rfl)
theorem dX4_storm_22 : decode cX4_storm 22 = .ok (.ifCond .eq 41, 3) := dk_153 0 41 (dk_at dksX4_storm_1 0 rfl rfl)
theorem dX4_storm_25 : decode cX4_storm 25 = .ok (.iload_n 3, 1) := dk_29 (dk_at dksX4_storm_1 3 rfl rfl)
theorem dX4_storm_26 : decode cX4_storm 26 = .ok (.i2l, 1) := dk_133 (dk_at dksX4_storm_1 4 rfl rfl)
theorem dX4_storm_27 : decode cX4_storm 27 = .ok (.lconst 0, 1) := dk_9 (dk_at dksX4_storm_1 5 rfl rfl)
theorem dX4_storm_28 : decode cX4_storm 28 = .ok (.ldc2_w 205, 3) := dk_20 0 205 (dk_at dksX4_storm_1 6 rfl rfl)
theorem dX4_storm_31 : decode cX4_storm 31 = .ok (.invokestatic 77, 3) := dk_184 0 77 (dk_at dksX4_storm_1 9 rfl rfl)
theorem dX4_storm_34 : decode cX4_storm 34 = .ok (.ifCond .eq 29, 3) := dk_153 0 29 (dk_at dksX4_storm_1 12 rfl rfl)
theorem dX4_storm_37 : decode cX4_storm 37 = .ok (.iload 4, 2) := dk_21 4 (dk_at dksX4_storm_1 15 rfl rfl)
theorem dX4_storm_39 : decode cX4_storm 39 = .ok (.i2l, 1) := dk_133 (dk_at dksX4_storm_1 17 rfl rfl)
theorem dX4_storm_40 : decode cX4_storm 40 = .ok (.ldc2_w 270, 3) := dk_20 1 14 (dk_at dksX4_storm_1 18 rfl rfl)
theorem dX4_storm_43 : decode cX4_storm 43 = .ok (.ldc2_w 75, 3) := dk_20 0 75 (dk_at dksX4_storm_1 21 rfl rfl)
theorem dX4_storm_46 : decode cX4_storm 46 = .ok (.invokestatic 77, 3) := dk_184 0 77 (dk_at dksX4_storm_2 0 rfl rfl)
theorem dX4_storm_49 : decode cX4_storm 49 = .ok (.ifCond .eq 14, 3) := dk_153 0 14 (dk_at dksX4_storm_2 3 rfl rfl)
theorem dX4_storm_52 : decode cX4_storm 52 = .ok (.iload 5, 2) := dk_21 5 (dk_at dksX4_storm_2 6 rfl rfl)
theorem dX4_storm_54 : decode cX4_storm 54 = .ok (.i2l, 1) := dk_133 (dk_at dksX4_storm_2 8 rfl rfl)
theorem dX4_storm_55 : decode cX4_storm 55 = .ok (.lconst 0, 1) := dk_9 (dk_at dksX4_storm_2 9 rfl rfl)
theorem dX4_storm_56 : decode cX4_storm 56 = .ok (.lconst 1, 1) := dk_10 (dk_at dksX4_storm_2 10 rfl rfl)
theorem dX4_storm_57 : decode cX4_storm 57 = .ok (.invokestatic 77, 3) := dk_184 0 77 (dk_at dksX4_storm_2 11 rfl rfl)
theorem dX4_storm_60 : decode cX4_storm 60 = .ok (.ifCond .ne 7, 3) := dk_154 0 7 (dk_at dksX4_storm_2 14 rfl rfl)
theorem dX4_storm_63 : decode cX4_storm 63 = .ok (.ldc2_w 272, 3) := dk_20 1 16 (dk_at dksX4_storm_2 17 rfl rfl)
theorem dX4_storm_66 : decode cX4_storm 66 = .ok (.lreturn, 1) := dk_173 (dk_at dksX4_storm_2 20 rfl rfl)
theorem dX4_storm_67 : decode cX4_storm 67 = .ok (.lconst 0, 1) := dk_9 (dk_at dksX4_storm_2 21 rfl rfl)
theorem dX4_storm_68 : decode cX4_storm 68 = .ok (.lstore 6, 2) := dk_55 6 (dk_at dksX4_storm_2 22 rfl rfl)
theorem dX4_storm_70 : decode cX4_storm 70 = .ok (.lconst 1, 1) := dk_10 (dk_at dksX4_storm_3 0 rfl rfl)
theorem dX4_storm_71 : decode cX4_storm 71 = .ok (.lstore 8, 2) := dk_55 8 (dk_at dksX4_storm_3 1 rfl rfl)
theorem dX4_storm_73 : decode cX4_storm 73 = .ok (.iconst 0, 1) := dk_3 (dk_at dksX4_storm_3 3 rfl rfl)
theorem dX4_storm_74 : decode cX4_storm 74 = .ok (.istore 10, 2) := dk_54 10 (dk_at dksX4_storm_3 4 rfl rfl)
theorem dX4_storm_76 : decode cX4_storm 76 = .ok (.iload 10, 2) := dk_21 10 (dk_at dksX4_storm_3 6 rfl rfl)
theorem dX4_storm_78 : decode cX4_storm 78 = .ok (.iload_n 3, 1) := dk_29 (dk_at dksX4_storm_3 8 rfl rfl)
theorem dX4_storm_79 : decode cX4_storm 79 = .ok (.if_icmp .ge 17, 3) := dk_162 0 17 (dk_at dksX4_storm_3 9 rfl rfl)
theorem dX4_storm_82 : decode cX4_storm 82 = .ok (.lload 8, 2) := dk_22 8 (dk_at dksX4_storm_3 12 rfl rfl)
theorem dX4_storm_84 : decode cX4_storm 84 = .ok (.iload 4, 2) := dk_21 4 (dk_at dksX4_storm_3 14 rfl rfl)
theorem dX4_storm_86 : decode cX4_storm 86 = .ok (.i2l, 1) := dk_133 (dk_at dksX4_storm_3 16 rfl rfl)
theorem dX4_storm_87 : decode cX4_storm 87 = .ok (.lmul, 1) := dk_105 (dk_at dksX4_storm_3 17 rfl rfl)
theorem dX4_storm_88 : decode cX4_storm 88 = .ok (.lstore 8, 2) := dk_55 8 (dk_at dksX4_storm_3 18 rfl rfl)
theorem dX4_storm_90 : decode cX4_storm 90 = .ok (.iinc 10 1, 3) := dk_132 10 1 (dk_at dksX4_storm_3 20 rfl rfl)
theorem dX4_storm_93 : decode cX4_storm 93 = .ok (.goto (-17), 3) := dk_167 255 239 (dk_at dksX4_storm_4 0 rfl rfl)
theorem dX4_storm_96 : decode cX4_storm 96 = .ok (.aload_n 0, 1) := dk_42 (dk_at dksX4_storm_4 3 rfl rfl)
theorem dX4_storm_97 : decode cX4_storm 97 = .ok (.invokevirtual 177, 3) := dk_182 0 177 (dk_at dksX4_storm_4 4 rfl rfl)
theorem dX4_storm_100 : decode cX4_storm 100 = .ok (.iconst 0, 1) := dk_3 (dk_at dksX4_storm_4 7 rfl rfl)
theorem dX4_storm_101 : decode cX4_storm 101 = .ok (.istore 10, 2) := dk_54 10 (dk_at dksX4_storm_4 8 rfl rfl)
theorem dX4_storm_103 : decode cX4_storm 103 = .ok (.iload 10, 2) := dk_21 10 (dk_at dksX4_storm_4 10 rfl rfl)
theorem dX4_storm_105 : decode cX4_storm 105 = .ok (.iconst 1, 1) := dk_4 (dk_at dksX4_storm_4 12 rfl rfl)
theorem dX4_storm_106 : decode cX4_storm 106 = .ok (.iload_n 3, 1) := dk_29 (dk_at dksX4_storm_4 13 rfl rfl)
theorem dX4_storm_107 : decode cX4_storm 107 = .ok (.ishl, 1) := dk_120 (dk_at dksX4_storm_4 14 rfl rfl)
theorem dX4_storm_108 : decode cX4_storm 108 = .ok (.if_icmp .ge 86, 3) := dk_162 0 86 (dk_at dksX4_storm_4 15 rfl rfl)
theorem dX4_storm_111 : decode cX4_storm 111 = .ok (.lconst 1, 1) := dk_10 (dk_at dksX4_storm_4 18 rfl rfl)
theorem dX4_storm_112 : decode cX4_storm 112 = .ok (.lstore 11, 2) := dk_55 11 (dk_at dksX4_storm_4 19 rfl rfl)
theorem dX4_storm_114 : decode cX4_storm 114 = .ok (.iconst 0, 1) := dk_3 (dk_at dksX4_storm_4 21 rfl rfl)
theorem dX4_storm_115 : decode cX4_storm 115 = .ok (.istore 13, 2) := dk_54 13 (dk_at dksX4_storm_4 22 rfl rfl)
theorem dX4_storm_117 : decode cX4_storm 117 = .ok (.iload 13, 2) := dk_21 13 (dk_at dksX4_storm_5 0 rfl rfl)
theorem dX4_storm_119 : decode cX4_storm 119 = .ok (.iload_n 3, 1) := dk_29 (dk_at dksX4_storm_5 2 rfl rfl)
theorem dX4_storm_120 : decode cX4_storm 120 = .ok (.if_icmp .ge 44, 3) := dk_162 0 44 (dk_at dksX4_storm_5 3 rfl rfl)
theorem dX4_storm_123 : decode cX4_storm 123 = .ok (.lload 11, 2) := dk_22 11 (dk_at dksX4_storm_5 6 rfl rfl)
theorem dX4_storm_125 : decode cX4_storm 125 = .ok (.iload 10, 2) := dk_21 10 (dk_at dksX4_storm_5 8 rfl rfl)
theorem dX4_storm_127 : decode cX4_storm 127 = .ok (.iload 13, 2) := dk_21 13 (dk_at dksX4_storm_5 10 rfl rfl)
theorem dX4_storm_129 : decode cX4_storm 129 = .ok (.invokestatic 274, 3) := dk_184 1 18 (dk_at dksX4_storm_5 12 rfl rfl)
theorem dX4_storm_132 : decode cX4_storm 132 = .ok (.ifCond .eq 7, 3) := dk_153 0 7 (dk_at dksX4_storm_5 15 rfl rfl)
theorem dX4_storm_135 : decode cX4_storm 135 = .ok (.lconst 1, 1) := dk_10 (dk_at dksX4_storm_5 18 rfl rfl)
theorem dX4_storm_136 : decode cX4_storm 136 = .ok (.goto 8, 3) := dk_167 0 8 (dk_at dksX4_storm_5 19 rfl rfl)
theorem dX4_storm_139 : decode cX4_storm 139 = .ok (.iload 4, 2) := dk_21 4 (dk_at dksX4_storm_5 22 rfl rfl)
theorem dX4_storm_141 : decode cX4_storm 141 = .ok (.iconst 1, 1) := dk_4 (dk_at dksX4_storm_6 0 rfl rfl)
theorem dX4_storm_142 : decode cX4_storm 142 = .ok (.isub, 1) := dk_100 (dk_at dksX4_storm_6 1 rfl rfl)
theorem dX4_storm_143 : decode cX4_storm 143 = .ok (.i2l, 1) := dk_133 (dk_at dksX4_storm_6 2 rfl rfl)
theorem dX4_storm_144 : decode cX4_storm 144 = .ok (.lmul, 1) := dk_105 (dk_at dksX4_storm_6 3 rfl rfl)
theorem dX4_storm_145 : decode cX4_storm 145 = .ok (.lstore 11, 2) := dk_55 11 (dk_at dksX4_storm_6 4 rfl rfl)
theorem dX4_storm_147 : decode cX4_storm 147 = .ok (.aload_n 0, 1) := dk_42 (dk_at dksX4_storm_6 6 rfl rfl)
theorem dX4_storm_148 : decode cX4_storm 148 = .ok (.iload 10, 2) := dk_21 10 (dk_at dksX4_storm_6 7 rfl rfl)
theorem dX4_storm_150 : decode cX4_storm 150 = .ok (.iload 13, 2) := dk_21 13 (dk_at dksX4_storm_6 9 rfl rfl)
theorem dX4_storm_152 : decode cX4_storm 152 = .ok (.invokestatic 274, 3) := dk_184 1 18 (dk_at dksX4_storm_6 11 rfl rfl)
theorem dX4_storm_155 : decode cX4_storm 155 = .ok (.invokevirtual 104, 3) := dk_182 0 104 (dk_at dksX4_storm_6 14 rfl rfl)
theorem dX4_storm_158 : decode cX4_storm 158 = .ok (.iinc 13 1, 3) := dk_132 13 1 (dk_at dksX4_storm_6 17 rfl rfl)
theorem dX4_storm_161 : decode cX4_storm 161 = .ok (.goto (-44), 3) := dk_167 255 212 (dk_at dksX4_storm_6 20 rfl rfl)
theorem dX4_storm_164 : decode cX4_storm 164 = .ok (.lload 6, 2) := dk_22 6 (dk_at dksX4_storm_7 0 rfl rfl)
theorem dX4_storm_166 : decode cX4_storm 166 = .ok (.aload_n 0, 1) := dk_42 (dk_at dksX4_storm_7 2 rfl rfl)
theorem dX4_storm_167 : decode cX4_storm 167 = .ok (.iload_n 1, 1) := dk_27 (dk_at dksX4_storm_7 3 rfl rfl)
theorem dX4_storm_168 : decode cX4_storm 168 = .ok (.invokevirtual 108, 3) := dk_182 0 108 (dk_at dksX4_storm_7 4 rfl rfl)
theorem dX4_storm_171 : decode cX4_storm 171 = .ok (.iload_n 2, 1) := dk_28 (dk_at dksX4_storm_7 7 rfl rfl)
theorem dX4_storm_172 : decode cX4_storm 172 = .ok (.if_icmp .lt 8, 3) := dk_161 0 8 (dk_at dksX4_storm_7 8 rfl rfl)
theorem dX4_storm_175 : decode cX4_storm 175 = .ok (.lload 11, 2) := dk_22 11 (dk_at dksX4_storm_7 11 rfl rfl)
theorem dX4_storm_177 : decode cX4_storm 177 = .ok (.goto 4, 3) := dk_167 0 4 (dk_at dksX4_storm_7 13 rfl rfl)
theorem dX4_storm_180 : decode cX4_storm 180 = .ok (.lconst 0, 1) := dk_9 (dk_at dksX4_storm_7 16 rfl rfl)
theorem dX4_storm_181 : decode cX4_storm 181 = .ok (.ladd, 1) := dk_97 (dk_at dksX4_storm_7 17 rfl rfl)
theorem dX4_storm_182 : decode cX4_storm 182 = .ok (.lstore 6, 2) := dk_55 6 (dk_at dksX4_storm_7 18 rfl rfl)
theorem dX4_storm_184 : decode cX4_storm 184 = .ok (.aload_n 0, 1) := dk_42 (dk_at dksX4_storm_7 20 rfl rfl)
theorem dX4_storm_185 : decode cX4_storm 185 = .ok (.invokevirtual 183, 3) := dk_182 0 183 (dk_at dksX4_storm_7 21 rfl rfl)
theorem dX4_storm_188 : decode cX4_storm 188 = .ok (.iinc 10 1, 3) := dk_132 10 1 (dk_at dksX4_storm_8 0 rfl rfl)
theorem dX4_storm_191 : decode cX4_storm 191 = .ok (.goto (-88), 3) := dk_167 255 168 (dk_at dksX4_storm_8 3 rfl rfl)
theorem dX4_storm_194 : decode cX4_storm 194 = .ok (.lload 6, 2) := dk_22 6 (dk_at dksX4_storm_8 6 rfl rfl)
theorem dX4_storm_196 : decode cX4_storm 196 = .ok (.lload 8, 2) := dk_22 8 (dk_at dksX4_storm_8 8 rfl rfl)
theorem dX4_storm_198 : decode cX4_storm 198 = .ok (.iload 5, 2) := dk_21 5 (dk_at dksX4_storm_8 10 rfl rfl)
theorem dX4_storm_200 : decode cX4_storm 200 = .ok (.invokestatic 278, 3) := dk_184 1 22 (dk_at dksX4_storm_8 12 rfl rfl)
theorem dX4_storm_203 : decode cX4_storm 203 = .ok (.lreturn, 1) := dk_173 (dk_at dksX4_storm_8 15 rfl rfl)
abbrev cX4_hasBit : ByteArray := prog_21_method_4_code
def yX4_hasBit : MethodName := ⟨RX4, "hasBit", "(II)Z"⟩
def dkwX4_hasBit_0 : List UInt8 := [26, 27, 122, 4, 126, 4, 160, 0, 7, 4, 167, 0, 4, 3, 172]
abbrev dktX4_hasBit_0 : List UInt8 := dkwX4_hasBit_0 ++ []
theorem dksX4_hasBit_0 : cX4_hasBit.data.toList.drop 0 = dktX4_hasBit_0 := by decide +kernel
theorem dX4_hasBit_0 : decode cX4_hasBit 0 = .ok (.iload_n 0, 1) := dk_26 (dk_at dksX4_hasBit_0 0 rfl rfl)
theorem dX4_hasBit_1 : decode cX4_hasBit 1 = .ok (.iload_n 1, 1) := dk_27 (dk_at dksX4_hasBit_0 1 rfl rfl)
theorem dX4_hasBit_2 : decode cX4_hasBit 2 = .ok (.ishr, 1) := dk_122 (dk_at dksX4_hasBit_0 2 rfl rfl)
theorem dX4_hasBit_3 : decode cX4_hasBit 3 = .ok (.iconst 1, 1) := dk_4 (dk_at dksX4_hasBit_0 3 rfl rfl)
theorem dX4_hasBit_4 : decode cX4_hasBit 4 = .ok (.iand, 1) := dk_126 (dk_at dksX4_hasBit_0 4 rfl rfl)
theorem dX4_hasBit_5 : decode cX4_hasBit 5 = .ok (.iconst 1, 1) := dk_4 (dk_at dksX4_hasBit_0 5 rfl rfl)
theorem dX4_hasBit_6 : decode cX4_hasBit 6 = .ok (.if_icmp .ne 7, 3) := dk_160 0 7 (dk_at dksX4_hasBit_0 6 rfl rfl)
theorem dX4_hasBit_9 : decode cX4_hasBit 9 = .ok (.iconst 1, 1) := dk_4 (dk_at dksX4_hasBit_0 9 rfl rfl)
theorem dX4_hasBit_10 : decode cX4_hasBit 10 = .ok (.goto 4, 3) := dk_167 0 4 (dk_at dksX4_hasBit_0 10 rfl rfl)
theorem dX4_hasBit_13 : decode cX4_hasBit 13 = .ok (.iconst 0, 1) := dk_3 (dk_at dksX4_hasBit_0 13 rfl rfl)
theorem dX4_hasBit_14 : decode cX4_hasBit 14 = .ok (.ireturn, 1) := dk_172 (dk_at dksX4_hasBit_0 14 rfl rfl)
abbrev cX4_partOf : ByteArray := prog_21_method_70_code
def yX4_partOf : MethodName := ⟨RX4, "partOf", "(JJI)J"⟩
def dkwX4_partOf_1 : List UInt8 := [22, 5, 109, 167, 0, 7, 32, 22, 5, 109, 173]
abbrev dktX4_partOf_1 : List UInt8 := dkwX4_partOf_1 ++ []
def dkwX4_partOf_0 : List UInt8 := [30, 9, 148, 154, 0, 7, 21, 4, 133, 173, 30, 32, 184, 1, 10, 55, 5, 21, 4, 154, 0, 10, 30]
abbrev dktX4_partOf_0 : List UInt8 := dkwX4_partOf_0 ++ dktX4_partOf_1
theorem dksX4_partOf_0 : cX4_partOf.data.toList.drop 0 = dktX4_partOf_0 := by decide +kernel
theorem dksX4_partOf_1 : cX4_partOf.data.toList.drop 23 = dktX4_partOf_1 := dk_seg dksX4_partOf_0 23 rfl rfl
theorem dX4_partOf_0 : decode cX4_partOf 0 = .ok (.lload_n 0, 1) := dk_30 (dk_at dksX4_partOf_0 0 rfl rfl)
theorem dX4_partOf_1 : decode cX4_partOf 1 = .ok (.lconst 0, 1) := dk_9 (dk_at dksX4_partOf_0 1 rfl rfl)
theorem dX4_partOf_2 : decode cX4_partOf 2 = .ok (.lcmp, 1) := dk_148 (dk_at dksX4_partOf_0 2 rfl rfl)
theorem dX4_partOf_3 : decode cX4_partOf 3 = .ok (.ifCond .ne 7, 3) := dk_154 0 7 (dk_at dksX4_partOf_0 3 rfl rfl)
theorem dX4_partOf_6 : decode cX4_partOf 6 = .ok (.iload 4, 2) := dk_21 4 (dk_at dksX4_partOf_0 6 rfl rfl)
theorem dX4_partOf_8 : decode cX4_partOf 8 = .ok (.i2l, 1) := dk_133 (dk_at dksX4_partOf_0 8 rfl rfl)
theorem dX4_partOf_9 : decode cX4_partOf 9 = .ok (.lreturn, 1) := dk_173 (dk_at dksX4_partOf_0 9 rfl rfl)
theorem dX4_partOf_10 : decode cX4_partOf 10 = .ok (.lload_n 0, 1) := dk_30 (dk_at dksX4_partOf_0 10 rfl rfl)
theorem dX4_partOf_11 : decode cX4_partOf 11 = .ok (.lload_n 2, 1) := dk_32 (dk_at dksX4_partOf_0 11 rfl rfl)
theorem dX4_partOf_12 : decode cX4_partOf 12 = .ok (.invokestatic 266, 3) := dk_184 1 10 (dk_at dksX4_partOf_0 12 rfl rfl)
theorem dX4_partOf_15 : decode cX4_partOf 15 = .ok (.lstore 5, 2) := dk_55 5 (dk_at dksX4_partOf_0 15 rfl rfl)
theorem dX4_partOf_17 : decode cX4_partOf 17 = .ok (.iload 4, 2) := dk_21 4 (dk_at dksX4_partOf_0 17 rfl rfl)
theorem dX4_partOf_19 : decode cX4_partOf 19 = .ok (.ifCond .ne 10, 3) := dk_154 0 10 (dk_at dksX4_partOf_0 19 rfl rfl)
theorem dX4_partOf_22 : decode cX4_partOf 22 = .ok (.lload_n 0, 1) := dk_30 (dk_at dksX4_partOf_0 22 rfl rfl)
theorem dX4_partOf_23 : decode cX4_partOf 23 = .ok (.lload 5, 2) := dk_22 5 (dk_at dksX4_partOf_1 0 rfl rfl)
theorem dX4_partOf_25 : decode cX4_partOf 25 = .ok (.ldiv, 1) := dk_109 (dk_at dksX4_partOf_1 2 rfl rfl)
theorem dX4_partOf_26 : decode cX4_partOf 26 = .ok (.goto 7, 3) := dk_167 0 7 (dk_at dksX4_partOf_1 3 rfl rfl)
theorem dX4_partOf_29 : decode cX4_partOf 29 = .ok (.lload_n 2, 1) := dk_32 (dk_at dksX4_partOf_1 6 rfl rfl)
theorem dX4_partOf_30 : decode cX4_partOf 30 = .ok (.lload 5, 2) := dk_22 5 (dk_at dksX4_partOf_1 7 rfl rfl)
theorem dX4_partOf_32 : decode cX4_partOf 32 = .ok (.ldiv, 1) := dk_109 (dk_at dksX4_partOf_1 9 rfl rfl)
theorem dX4_partOf_33 : decode cX4_partOf 33 = .ok (.lreturn, 1) := dk_173 (dk_at dksX4_partOf_1 10 rfl rfl)
abbrev cX4_divisor : ByteArray := prog_21_method_69_code
def yX4_divisor : MethodName := ⟨RX4, "divisor", "(JJ)J"⟩
def dkwX4_divisor_1 : List UInt8 := [22, 8, 55, 6, 167, 255, 234, 22, 4, 173]
abbrev dktX4_divisor_1 : List UInt8 := dkwX4_divisor_1 ++ []
def dkwX4_divisor_0 : List UInt8 := [30, 55, 4, 32, 55, 6, 22, 6, 9, 148, 153, 0, 21, 22, 4, 22, 6, 113, 55, 8, 22, 6, 55, 4]
abbrev dktX4_divisor_0 : List UInt8 := dkwX4_divisor_0 ++ dktX4_divisor_1
theorem dksX4_divisor_0 : cX4_divisor.data.toList.drop 0 = dktX4_divisor_0 := by decide +kernel
theorem dksX4_divisor_1 : cX4_divisor.data.toList.drop 24 = dktX4_divisor_1 := dk_seg dksX4_divisor_0 24 rfl rfl
theorem dX4_divisor_0 : decode cX4_divisor 0 = .ok (.lload_n 0, 1) := dk_30 (dk_at dksX4_divisor_0 0 rfl rfl)
theorem dX4_divisor_1 : decode cX4_divisor 1 = .ok (.lstore 4, 2) := dk_55 4 (dk_at dksX4_divisor_0 1 rfl rfl)
theorem dX4_divisor_3 : decode cX4_divisor 3 = .ok (.lload_n 2, 1) := dk_32 (dk_at dksX4_divisor_0 3 rfl rfl)
theorem dX4_divisor_4 : decode cX4_divisor 4 = .ok (.lstore 6, 2) := dk_55 6 (dk_at dksX4_divisor_0 4 rfl rfl)
theorem dX4_divisor_6 : decode cX4_divisor 6 = .ok (.lload 6, 2) := dk_22 6 (dk_at dksX4_divisor_0 6 rfl rfl)
theorem dX4_divisor_8 : decode cX4_divisor 8 = .ok (.lconst 0, 1) := dk_9 (dk_at dksX4_divisor_0 8 rfl rfl)
theorem dX4_divisor_9 : decode cX4_divisor 9 = .ok (.lcmp, 1) := dk_148 (dk_at dksX4_divisor_0 9 rfl rfl)
theorem dX4_divisor_10 : decode cX4_divisor 10 = .ok (.ifCond .eq 21, 3) := dk_153 0 21 (dk_at dksX4_divisor_0 10 rfl rfl)
theorem dX4_divisor_13 : decode cX4_divisor 13 = .ok (.lload 4, 2) := dk_22 4 (dk_at dksX4_divisor_0 13 rfl rfl)
theorem dX4_divisor_15 : decode cX4_divisor 15 = .ok (.lload 6, 2) := dk_22 6 (dk_at dksX4_divisor_0 15 rfl rfl)
theorem dX4_divisor_17 : decode cX4_divisor 17 = .ok (.lrem, 1) := dk_113 (dk_at dksX4_divisor_0 17 rfl rfl)
theorem dX4_divisor_18 : decode cX4_divisor 18 = .ok (.lstore 8, 2) := dk_55 8 (dk_at dksX4_divisor_0 18 rfl rfl)
theorem dX4_divisor_20 : decode cX4_divisor 20 = .ok (.lload 6, 2) := dk_22 6 (dk_at dksX4_divisor_0 20 rfl rfl)
theorem dX4_divisor_22 : decode cX4_divisor 22 = .ok (.lstore 4, 2) := dk_55 4 (dk_at dksX4_divisor_0 22 rfl rfl)
theorem dX4_divisor_24 : decode cX4_divisor 24 = .ok (.lload 8, 2) := dk_22 8 (dk_at dksX4_divisor_1 0 rfl rfl)
theorem dX4_divisor_26 : decode cX4_divisor 26 = .ok (.lstore 6, 2) := dk_55 6 (dk_at dksX4_divisor_1 2 rfl rfl)
theorem dX4_divisor_28 : decode cX4_divisor 28 = .ok (.goto (-22), 3) := dk_167 255 234 (dk_at dksX4_divisor_1 4 rfl rfl)
theorem dX4_divisor_31 : decode cX4_divisor 31 = .ok (.lload 4, 2) := dk_22 4 (dk_at dksX4_divisor_1 7 rfl rfl)
theorem dX4_divisor_33 : decode cX4_divisor 33 = .ok (.lreturn, 1) := dk_173 (dk_at dksX4_divisor_1 9 rfl rfl)
abbrev cX4_mean : ByteArray := prog_21_method_72_code
def yX4_mean : MethodName := ⟨RX4, "mean", "(I)J"⟩
def dkwX4_mean_1 : List UInt8 := [133, 27, 184, 1, 22, 167, 0, 6, 20, 1, 16, 173]
abbrev dktX4_mean_1 : List UInt8 := dkwX4_mean_1 ++ []
def dkwX4_mean_0 : List UInt8 := [42, 3, 181, 0, 71, 27, 133, 9, 10, 184, 0, 77, 153, 0, 20, 42, 182, 0, 212, 133, 42, 180, 0, 81]
abbrev dktX4_mean_0 : List UInt8 := dkwX4_mean_0 ++ dktX4_mean_1
theorem dksX4_mean_0 : cX4_mean.data.toList.drop 0 = dktX4_mean_0 := by decide +kernel
theorem dksX4_mean_1 : cX4_mean.data.toList.drop 24 = dktX4_mean_1 := dk_seg dksX4_mean_0 24 rfl rfl
theorem dX4_mean_0 : decode cX4_mean 0 = .ok (.aload_n 0, 1) := dk_42 (dk_at dksX4_mean_0 0 rfl rfl)
theorem dX4_mean_1 : decode cX4_mean 1 = .ok (.iconst 0, 1) := dk_3 (dk_at dksX4_mean_0 1 rfl rfl)
theorem dX4_mean_2 : decode cX4_mean 2 = .ok (.putfield 71, 3) := dk_181 0 71 (dk_at dksX4_mean_0 2 rfl rfl)
theorem dX4_mean_5 : decode cX4_mean 5 = .ok (.iload_n 1, 1) := dk_27 (dk_at dksX4_mean_0 5 rfl rfl)
theorem dX4_mean_6 : decode cX4_mean 6 = .ok (.i2l, 1) := dk_133 (dk_at dksX4_mean_0 6 rfl rfl)
theorem dX4_mean_7 : decode cX4_mean 7 = .ok (.lconst 0, 1) := dk_9 (dk_at dksX4_mean_0 7 rfl rfl)
theorem dX4_mean_8 : decode cX4_mean 8 = .ok (.lconst 1, 1) := dk_10 (dk_at dksX4_mean_0 8 rfl rfl)
theorem dX4_mean_9 : decode cX4_mean 9 = .ok (.invokestatic 77, 3) := dk_184 0 77 (dk_at dksX4_mean_0 9 rfl rfl)
theorem dX4_mean_12 : decode cX4_mean 12 = .ok (.ifCond .eq 20, 3) := dk_153 0 20 (dk_at dksX4_mean_0 12 rfl rfl)
theorem dX4_mean_15 : decode cX4_mean 15 = .ok (.aload_n 0, 1) := dk_42 (dk_at dksX4_mean_0 15 rfl rfl)
theorem dX4_mean_16 : decode cX4_mean 16 = .ok (.invokevirtual 212, 3) := dk_182 0 212 (dk_at dksX4_mean_0 16 rfl rfl)
theorem dX4_mean_19 : decode cX4_mean 19 = .ok (.i2l, 1) := dk_133 (dk_at dksX4_mean_0 19 rfl rfl)
theorem dX4_mean_20 : decode cX4_mean 20 = .ok (.aload_n 0, 1) := dk_42 (dk_at dksX4_mean_0 20 rfl rfl)
theorem dX4_mean_21 : decode cX4_mean 21 = .ok (.getfield 81, 3) := dk_180 0 81 (dk_at dksX4_mean_0 21 rfl rfl)
theorem dX4_mean_24 : decode cX4_mean 24 = .ok (.i2l, 1) := dk_133 (dk_at dksX4_mean_1 0 rfl rfl)
theorem dX4_mean_25 : decode cX4_mean 25 = .ok (.iload_n 1, 1) := dk_27 (dk_at dksX4_mean_1 1 rfl rfl)
theorem dX4_mean_26 : decode cX4_mean 26 = .ok (.invokestatic 278, 3) := dk_184 1 22 (dk_at dksX4_mean_1 2 rfl rfl)
theorem dX4_mean_29 : decode cX4_mean 29 = .ok (.goto 6, 3) := dk_167 0 6 (dk_at dksX4_mean_1 5 rfl rfl)
theorem dX4_mean_32 : decode cX4_mean 32 = .ok (.ldc2_w 272, 3) := dk_20 1 16 (dk_at dksX4_mean_1 8 rfl rfl)
theorem dX4_mean_35 : decode cX4_mean 35 = .ok (.lreturn, 1) := dk_173 (dk_at dksX4_mean_1 11 rfl rfl)
abbrev cX4_forged : ByteArray := prog_21_method_73_code
def yX4_forged : MethodName := ⟨RX4, "forged", "(I)I"⟩
def dkwX4_forged_9 : List UInt8 := [182, 0, 183, 29, 172]
abbrev dktX4_forged_9 : List UInt8 := dkwX4_forged_9 ++ []
def dkwX4_forged_8 : List UInt8 := [42, 22, 6, 136, 22, 8, 136, 182, 0, 165, 87, 22, 8, 136, 54, 4, 132, 5, 1, 167, 255, 103, 42]
abbrev dktX4_forged_8 : List UInt8 := dkwX4_forged_8 ++ dktX4_forged_9
def dkwX4_forged_7 : List UInt8 := [167, 0, 4, 3, 54, 10, 21, 10, 153, 0, 8, 16, 252, 167, 0, 5, 21, 5, 62, 21, 10, 153, 0, 19]
abbrev dktX4_forged_7 : List UInt8 := dkwX4_forged_7 ++ dktX4_forged_8
def dkwX4_forged_6 : List UInt8 := [153, 0, 25, 21, 5, 153, 0, 16, 42, 180, 0, 19, 22, 6, 136, 46, 21, 4, 160, 0, 7, 4]
abbrev dktX4_forged_6 : List UInt8 := dkwX4_forged_6 ++ dktX4_forged_7
def dkwX4_forged_5 : List UInt8 := [153, 0, 19, 22, 8, 9, 20, 0, 75, 184, 0, 77, 153, 0, 7, 4, 167, 0, 4, 3, 54, 10, 21, 10]
abbrev dktX4_forged_5 : List UInt8 := dkwX4_forged_5 ++ dktX4_forged_6
def dkwX4_forged_4 : List UInt8 := [21, 5, 104, 96, 4, 96, 47, 55, 8, 22, 6, 9, 42, 180, 0, 81, 4, 100, 133, 184, 0, 77]
abbrev dktX4_forged_4 : List UInt8 := dkwX4_forged_4 ++ dktX4_forged_5
def dkwX4_forged_3 : List UInt8 := [180, 0, 40, 16, 100, 27, 104, 5, 21, 5, 104, 96, 47, 55, 6, 42, 180, 0, 40, 16, 100, 27, 104, 5]
abbrev dktX4_forged_3 : List UInt8 := dkwX4_forged_3 ++ dktX4_forged_4
def dkwX4_forged_2 : List UInt8 := [182, 0, 177, 3, 54, 5, 21, 5, 42, 180, 0, 37, 27, 46, 5, 108, 162, 0, 146, 29, 156, 0, 142, 42]
abbrev dktX4_forged_2 : List UInt8 := dkwX4_forged_2 ++ dktX4_forged_3
def dkwX4_forged_1 : List UInt8 := [160, 0, 8, 16, 243, 167, 0, 4, 28, 61, 28, 156, 0, 5, 28, 172, 16, 252, 62, 2, 54, 4, 42]
abbrev dktX4_forged_1 : List UInt8 := dkwX4_forged_1 ++ dktX4_forged_2
def dkwX4_forged_0 : List UInt8 := [42, 3, 181, 0, 71, 42, 27, 182, 0, 171, 61, 28, 154, 0, 20, 42, 180, 0, 37, 27, 46, 5, 112, 4]
abbrev dktX4_forged_0 : List UInt8 := dkwX4_forged_0 ++ dktX4_forged_1
theorem dksX4_forged_0 : cX4_forged.data.toList.drop 0 = dktX4_forged_0 := by decide +kernel
theorem dksX4_forged_1 : cX4_forged.data.toList.drop 24 = dktX4_forged_1 := dk_seg dksX4_forged_0 24 rfl rfl
theorem dksX4_forged_2 : cX4_forged.data.toList.drop 47 = dktX4_forged_2 := dk_seg dksX4_forged_1 23 rfl rfl
theorem dksX4_forged_3 : cX4_forged.data.toList.drop 71 = dktX4_forged_3 := dk_seg dksX4_forged_2 24 rfl rfl
theorem dksX4_forged_4 : cX4_forged.data.toList.drop 95 = dktX4_forged_4 := dk_seg dksX4_forged_3 24 rfl rfl
theorem dksX4_forged_5 : cX4_forged.data.toList.drop 117 = dktX4_forged_5 := dk_seg dksX4_forged_4 22 rfl rfl
theorem dksX4_forged_6 : cX4_forged.data.toList.drop 141 = dktX4_forged_6 := dk_seg dksX4_forged_5 24 rfl rfl
theorem dksX4_forged_7 : cX4_forged.data.toList.drop 163 = dktX4_forged_7 := dk_seg dksX4_forged_6 22 rfl rfl
theorem dksX4_forged_8 : cX4_forged.data.toList.drop 187 = dktX4_forged_8 := dk_seg dksX4_forged_7 24 rfl rfl
theorem dksX4_forged_9 : cX4_forged.data.toList.drop 210 = dktX4_forged_9 := dk_seg dksX4_forged_8 23 rfl rfl
theorem dX4_forged_0 : decode cX4_forged 0 = .ok (.aload_n 0, 1) := dk_42 (dk_at dksX4_forged_0 0 rfl rfl)
theorem dX4_forged_1 : decode cX4_forged 1 = .ok (.iconst 0, 1) := dk_3 (dk_at dksX4_forged_0 1 rfl rfl)
theorem dX4_forged_2 : decode cX4_forged 2 = .ok (.putfield 71, 3) := dk_181 0 71 (dk_at dksX4_forged_0 2 rfl rfl)
theorem dX4_forged_5 : decode cX4_forged 5 = .ok (.aload_n 0, 1) := dk_42 (dk_at dksX4_forged_0 5 rfl rfl)
theorem dX4_forged_6 : decode cX4_forged 6 = .ok (.iload_n 1, 1) := dk_27 (dk_at dksX4_forged_0 6 rfl rfl)
theorem dX4_forged_7 : decode cX4_forged 7 = .ok (.invokevirtual 171, 3) := dk_182 0 171 (dk_at dksX4_forged_0 7 rfl rfl)
theorem dX4_forged_10 : decode cX4_forged 10 = .ok (.istore_n 2, 1) := dk_61 (dk_at dksX4_forged_0 10 rfl rfl)
theorem dX4_forged_11 : decode cX4_forged 11 = .ok (.iload_n 2, 1) := dk_28 (dk_at dksX4_forged_0 11 rfl rfl)
theorem dX4_forged_12 : decode cX4_forged 12 = .ok (.ifCond .ne 20, 3) := dk_154 0 20 (dk_at dksX4_forged_0 12 rfl rfl)
theorem dX4_forged_15 : decode cX4_forged 15 = .ok (.aload_n 0, 1) := dk_42 (dk_at dksX4_forged_0 15 rfl rfl)
theorem dX4_forged_16 : decode cX4_forged 16 = .ok (.getfield 37, 3) := dk_180 0 37 (dk_at dksX4_forged_0 16 rfl rfl)
theorem dX4_forged_19 : decode cX4_forged 19 = .ok (.iload_n 1, 1) := dk_27 (dk_at dksX4_forged_0 19 rfl rfl)
theorem dX4_forged_20 : decode cX4_forged 20 = .ok (.iaload, 1) := dk_46 (dk_at dksX4_forged_0 20 rfl rfl)
theorem dX4_forged_21 : decode cX4_forged 21 = .ok (.iconst 2, 1) := dk_5 (dk_at dksX4_forged_0 21 rfl rfl)
theorem dX4_forged_22 : decode cX4_forged 22 = .ok (.irem, 1) := dk_112 (dk_at dksX4_forged_0 22 rfl rfl)
theorem dX4_forged_23 : decode cX4_forged 23 = .ok (.iconst 1, 1) := dk_4 (dk_at dksX4_forged_0 23 rfl rfl)
theorem dX4_forged_24 : decode cX4_forged 24 = .ok (.if_icmp .ne 8, 3) := dk_160 0 8 (dk_at dksX4_forged_1 0 rfl rfl)
theorem dX4_forged_27 : decode cX4_forged 27 = .ok (.bipush (-13), 2) := dk_16 243 (dk_at dksX4_forged_1 3 rfl rfl)
theorem dX4_forged_29 : decode cX4_forged 29 = .ok (.goto 4, 3) := dk_167 0 4 (dk_at dksX4_forged_1 5 rfl rfl)
theorem dX4_forged_32 : decode cX4_forged 32 = .ok (.iload_n 2, 1) := dk_28 (dk_at dksX4_forged_1 8 rfl rfl)
theorem dX4_forged_33 : decode cX4_forged 33 = .ok (.istore_n 2, 1) := dk_61 (dk_at dksX4_forged_1 9 rfl rfl)
theorem dX4_forged_34 : decode cX4_forged 34 = .ok (.iload_n 2, 1) := dk_28 (dk_at dksX4_forged_1 10 rfl rfl)
theorem dX4_forged_35 : decode cX4_forged 35 = .ok (.ifCond .ge 5, 3) := dk_156 0 5 (dk_at dksX4_forged_1 11 rfl rfl)
theorem dX4_forged_38 : decode cX4_forged 38 = .ok (.iload_n 2, 1) := dk_28 (dk_at dksX4_forged_1 14 rfl rfl)
theorem dX4_forged_39 : decode cX4_forged 39 = .ok (.ireturn, 1) := dk_172 (dk_at dksX4_forged_1 15 rfl rfl)
theorem dX4_forged_40 : decode cX4_forged 40 = .ok (.bipush (-4), 2) := dk_16 252 (dk_at dksX4_forged_1 16 rfl rfl)
theorem dX4_forged_42 : decode cX4_forged 42 = .ok (.istore_n 3, 1) := dk_62 (dk_at dksX4_forged_1 18 rfl rfl)
theorem dX4_forged_43 : decode cX4_forged 43 = .ok (.iconst (-1), 1) := dk_2 (dk_at dksX4_forged_1 19 rfl rfl)
theorem dX4_forged_44 : decode cX4_forged 44 = .ok (.istore 4, 2) := dk_54 4 (dk_at dksX4_forged_1 20 rfl rfl)
theorem dX4_forged_46 : decode cX4_forged 46 = .ok (.aload_n 0, 1) := dk_42 (dk_at dksX4_forged_1 22 rfl rfl)
theorem dX4_forged_47 : decode cX4_forged 47 = .ok (.invokevirtual 177, 3) := dk_182 0 177 (dk_at dksX4_forged_2 0 rfl rfl)
theorem dX4_forged_50 : decode cX4_forged 50 = .ok (.iconst 0, 1) := dk_3 (dk_at dksX4_forged_2 3 rfl rfl)
theorem dX4_forged_51 : decode cX4_forged 51 = .ok (.istore 5, 2) := dk_54 5 (dk_at dksX4_forged_2 4 rfl rfl)
theorem dX4_forged_53 : decode cX4_forged 53 = .ok (.iload 5, 2) := dk_21 5 (dk_at dksX4_forged_2 6 rfl rfl)
theorem dX4_forged_55 : decode cX4_forged 55 = .ok (.aload_n 0, 1) := dk_42 (dk_at dksX4_forged_2 8 rfl rfl)
theorem dX4_forged_56 : decode cX4_forged 56 = .ok (.getfield 37, 3) := dk_180 0 37 (dk_at dksX4_forged_2 9 rfl rfl)
theorem dX4_forged_59 : decode cX4_forged 59 = .ok (.iload_n 1, 1) := dk_27 (dk_at dksX4_forged_2 12 rfl rfl)
theorem dX4_forged_60 : decode cX4_forged 60 = .ok (.iaload, 1) := dk_46 (dk_at dksX4_forged_2 13 rfl rfl)
theorem dX4_forged_61 : decode cX4_forged 61 = .ok (.iconst 2, 1) := dk_5 (dk_at dksX4_forged_2 14 rfl rfl)
theorem dX4_forged_62 : decode cX4_forged 62 = .ok (.idiv, 1) := dk_108 (dk_at dksX4_forged_2 15 rfl rfl)
theorem dX4_forged_63 : decode cX4_forged 63 = .ok (.if_icmp .ge 146, 3) := dk_162 0 146 (dk_at dksX4_forged_2 16 rfl rfl)
theorem dX4_forged_66 : decode cX4_forged 66 = .ok (.iload_n 3, 1) := dk_29 (dk_at dksX4_forged_2 19 rfl rfl)
theorem dX4_forged_67 : decode cX4_forged 67 = .ok (.ifCond .ge 142, 3) := dk_156 0 142 (dk_at dksX4_forged_2 20 rfl rfl)
theorem dX4_forged_70 : decode cX4_forged 70 = .ok (.aload_n 0, 1) := dk_42 (dk_at dksX4_forged_2 23 rfl rfl)
theorem dX4_forged_71 : decode cX4_forged 71 = .ok (.getfield 40, 3) := dk_180 0 40 (dk_at dksX4_forged_3 0 rfl rfl)
theorem dX4_forged_74 : decode cX4_forged 74 = .ok (.bipush 100, 2) := dk_16 100 (dk_at dksX4_forged_3 3 rfl rfl)
theorem dX4_forged_76 : decode cX4_forged 76 = .ok (.iload_n 1, 1) := dk_27 (dk_at dksX4_forged_3 5 rfl rfl)
theorem dX4_forged_77 : decode cX4_forged 77 = .ok (.imul, 1) := dk_104 (dk_at dksX4_forged_3 6 rfl rfl)
theorem dX4_forged_78 : decode cX4_forged 78 = .ok (.iconst 2, 1) := dk_5 (dk_at dksX4_forged_3 7 rfl rfl)
theorem dX4_forged_79 : decode cX4_forged 79 = .ok (.iload 5, 2) := dk_21 5 (dk_at dksX4_forged_3 8 rfl rfl)
theorem dX4_forged_81 : decode cX4_forged 81 = .ok (.imul, 1) := dk_104 (dk_at dksX4_forged_3 10 rfl rfl)
theorem dX4_forged_82 : decode cX4_forged 82 = .ok (.iadd, 1) := dk_96 (dk_at dksX4_forged_3 11 rfl rfl)
theorem dX4_forged_83 : decode cX4_forged 83 = .ok (.laload, 1) := dk_47 (dk_at dksX4_forged_3 12 rfl rfl)
theorem dX4_forged_84 : decode cX4_forged 84 = .ok (.lstore 6, 2) := dk_55 6 (dk_at dksX4_forged_3 13 rfl rfl)
theorem dX4_forged_86 : decode cX4_forged 86 = .ok (.aload_n 0, 1) := dk_42 (dk_at dksX4_forged_3 15 rfl rfl)
theorem dX4_forged_87 : decode cX4_forged 87 = .ok (.getfield 40, 3) := dk_180 0 40 (dk_at dksX4_forged_3 16 rfl rfl)
theorem dX4_forged_90 : decode cX4_forged 90 = .ok (.bipush 100, 2) := dk_16 100 (dk_at dksX4_forged_3 19 rfl rfl)
theorem dX4_forged_92 : decode cX4_forged 92 = .ok (.iload_n 1, 1) := dk_27 (dk_at dksX4_forged_3 21 rfl rfl)
theorem dX4_forged_93 : decode cX4_forged 93 = .ok (.imul, 1) := dk_104 (dk_at dksX4_forged_3 22 rfl rfl)
theorem dX4_forged_94 : decode cX4_forged 94 = .ok (.iconst 2, 1) := dk_5 (dk_at dksX4_forged_3 23 rfl rfl)
theorem dX4_forged_95 : decode cX4_forged 95 = .ok (.iload 5, 2) := dk_21 5 (dk_at dksX4_forged_4 0 rfl rfl)
theorem dX4_forged_97 : decode cX4_forged 97 = .ok (.imul, 1) := dk_104 (dk_at dksX4_forged_4 2 rfl rfl)
theorem dX4_forged_98 : decode cX4_forged 98 = .ok (.iadd, 1) := dk_96 (dk_at dksX4_forged_4 3 rfl rfl)
theorem dX4_forged_99 : decode cX4_forged 99 = .ok (.iconst 1, 1) := dk_4 (dk_at dksX4_forged_4 4 rfl rfl)
theorem dX4_forged_100 : decode cX4_forged 100 = .ok (.iadd, 1) := dk_96 (dk_at dksX4_forged_4 5 rfl rfl)
theorem dX4_forged_101 : decode cX4_forged 101 = .ok (.laload, 1) := dk_47 (dk_at dksX4_forged_4 6 rfl rfl)
theorem dX4_forged_102 : decode cX4_forged 102 = .ok (.lstore 8, 2) := dk_55 8 (dk_at dksX4_forged_4 7 rfl rfl)
theorem dX4_forged_104 : decode cX4_forged 104 = .ok (.lload 6, 2) := dk_22 6 (dk_at dksX4_forged_4 9 rfl rfl)
theorem dX4_forged_106 : decode cX4_forged 106 = .ok (.lconst 0, 1) := dk_9 (dk_at dksX4_forged_4 11 rfl rfl)
theorem dX4_forged_107 : decode cX4_forged 107 = .ok (.aload_n 0, 1) := dk_42 (dk_at dksX4_forged_4 12 rfl rfl)
theorem dX4_forged_108 : decode cX4_forged 108 = .ok (.getfield 81, 3) := dk_180 0 81 (dk_at dksX4_forged_4 13 rfl rfl)
theorem dX4_forged_111 : decode cX4_forged 111 = .ok (.iconst 1, 1) := dk_4 (dk_at dksX4_forged_4 16 rfl rfl)
theorem dX4_forged_112 : decode cX4_forged 112 = .ok (.isub, 1) := dk_100 (dk_at dksX4_forged_4 17 rfl rfl)
theorem dX4_forged_113 : decode cX4_forged 113 = .ok (.i2l, 1) := dk_133 (dk_at dksX4_forged_4 18 rfl rfl)
theorem dX4_forged_114 : decode cX4_forged 114 = .ok (.invokestatic 77, 3) := dk_184 0 77 (dk_at dksX4_forged_4 19 rfl rfl)
theorem dX4_forged_117 : decode cX4_forged 117 = .ok (.ifCond .eq 19, 3) := dk_153 0 19 (dk_at dksX4_forged_5 0 rfl rfl)
theorem dX4_forged_120 : decode cX4_forged 120 = .ok (.lload 8, 2) := dk_22 8 (dk_at dksX4_forged_5 3 rfl rfl)
theorem dX4_forged_122 : decode cX4_forged 122 = .ok (.lconst 0, 1) := dk_9 (dk_at dksX4_forged_5 5 rfl rfl)
theorem dX4_forged_123 : decode cX4_forged 123 = .ok (.ldc2_w 75, 3) := dk_20 0 75 (dk_at dksX4_forged_5 6 rfl rfl)
theorem dX4_forged_126 : decode cX4_forged 126 = .ok (.invokestatic 77, 3) := dk_184 0 77 (dk_at dksX4_forged_5 9 rfl rfl)
theorem dX4_forged_129 : decode cX4_forged 129 = .ok (.ifCond .eq 7, 3) := dk_153 0 7 (dk_at dksX4_forged_5 12 rfl rfl)
theorem dX4_forged_132 : decode cX4_forged 132 = .ok (.iconst 1, 1) := dk_4 (dk_at dksX4_forged_5 15 rfl rfl)
theorem dX4_forged_133 : decode cX4_forged 133 = .ok (.goto 4, 3) := dk_167 0 4 (dk_at dksX4_forged_5 16 rfl rfl)
theorem dX4_forged_136 : decode cX4_forged 136 = .ok (.iconst 0, 1) := dk_3 (dk_at dksX4_forged_5 19 rfl rfl)
theorem dX4_forged_137 : decode cX4_forged 137 = .ok (.istore 10, 2) := dk_54 10 (dk_at dksX4_forged_5 20 rfl rfl)
theorem dX4_forged_139 : decode cX4_forged 139 = .ok (.iload 10, 2) := dk_21 10 (dk_at dksX4_forged_5 22 rfl rfl)
theorem dX4_forged_141 : decode cX4_forged 141 = .ok (.ifCond .eq 25, 3) := dk_153 0 25 (dk_at dksX4_forged_6 0 rfl rfl)
theorem dX4_forged_144 : decode cX4_forged 144 = .ok (.iload 5, 2) := dk_21 5 (dk_at dksX4_forged_6 3 rfl rfl)
theorem dX4_forged_146 : decode cX4_forged 146 = .ok (.ifCond .eq 16, 3) := dk_153 0 16 (dk_at dksX4_forged_6 5 rfl rfl)
theorem dX4_forged_149 : decode cX4_forged 149 = .ok (.aload_n 0, 1) := dk_42 (dk_at dksX4_forged_6 8 rfl rfl)
theorem dX4_forged_150 : decode cX4_forged 150 = .ok (.getfield 19, 3) := dk_180 0 19 (dk_at dksX4_forged_6 9 rfl rfl)
theorem dX4_forged_153 : decode cX4_forged 153 = .ok (.lload 6, 2) := dk_22 6 (dk_at dksX4_forged_6 12 rfl rfl)
theorem dX4_forged_155 : decode cX4_forged 155 = .ok (.l2i, 1) := dk_136 (dk_at dksX4_forged_6 14 rfl rfl)
theorem dX4_forged_156 : decode cX4_forged 156 = .ok (.iaload, 1) := dk_46 (dk_at dksX4_forged_6 15 rfl rfl)
theorem dX4_forged_157 : decode cX4_forged 157 = .ok (.iload 4, 2) := dk_21 4 (dk_at dksX4_forged_6 16 rfl rfl)
theorem dX4_forged_159 : decode cX4_forged 159 = .ok (.if_icmp .ne 7, 3) := dk_160 0 7 (dk_at dksX4_forged_6 18 rfl rfl)
theorem dX4_forged_162 : decode cX4_forged 162 = .ok (.iconst 1, 1) := dk_4 (dk_at dksX4_forged_6 21 rfl rfl)
theorem dX4_forged_163 : decode cX4_forged 163 = .ok (.goto 4, 3) := dk_167 0 4 (dk_at dksX4_forged_7 0 rfl rfl)
theorem dX4_forged_166 : decode cX4_forged 166 = .ok (.iconst 0, 1) := dk_3 (dk_at dksX4_forged_7 3 rfl rfl)
theorem dX4_forged_167 : decode cX4_forged 167 = .ok (.istore 10, 2) := dk_54 10 (dk_at dksX4_forged_7 4 rfl rfl)
theorem dX4_forged_169 : decode cX4_forged 169 = .ok (.iload 10, 2) := dk_21 10 (dk_at dksX4_forged_7 6 rfl rfl)
theorem dX4_forged_171 : decode cX4_forged 171 = .ok (.ifCond .eq 8, 3) := dk_153 0 8 (dk_at dksX4_forged_7 8 rfl rfl)
theorem dX4_forged_174 : decode cX4_forged 174 = .ok (.bipush (-4), 2) := dk_16 252 (dk_at dksX4_forged_7 11 rfl rfl)
theorem dX4_forged_176 : decode cX4_forged 176 = .ok (.goto 5, 3) := dk_167 0 5 (dk_at dksX4_forged_7 13 rfl rfl)
theorem dX4_forged_179 : decode cX4_forged 179 = .ok (.iload 5, 2) := dk_21 5 (dk_at dksX4_forged_7 16 rfl rfl)
theorem dX4_forged_181 : decode cX4_forged 181 = .ok (.istore_n 3, 1) := dk_62 (dk_at dksX4_forged_7 18 rfl rfl)
theorem dX4_forged_182 : decode cX4_forged 182 = .ok (.iload 10, 2) := dk_21 10 (dk_at dksX4_forged_7 19 rfl rfl)
theorem dX4_forged_184 : decode cX4_forged 184 = .ok (.ifCond .eq 19, 3) := dk_153 0 19 (dk_at dksX4_forged_7 21 rfl rfl)
theorem dX4_forged_187 : decode cX4_forged 187 = .ok (.aload_n 0, 1) := dk_42 (dk_at dksX4_forged_8 0 rfl rfl)
theorem dX4_forged_188 : decode cX4_forged 188 = .ok (.lload 6, 2) := dk_22 6 (dk_at dksX4_forged_8 1 rfl rfl)
theorem dX4_forged_190 : decode cX4_forged 190 = .ok (.l2i, 1) := dk_136 (dk_at dksX4_forged_8 3 rfl rfl)
theorem dX4_forged_191 : decode cX4_forged 191 = .ok (.lload 8, 2) := dk_22 8 (dk_at dksX4_forged_8 4 rfl rfl)
theorem dX4_forged_193 : decode cX4_forged 193 = .ok (.l2i, 1) := dk_136 (dk_at dksX4_forged_8 6 rfl rfl)
theorem dX4_forged_194 : decode cX4_forged 194 = .ok (.invokevirtual 165, 3) := dk_182 0 165 (dk_at dksX4_forged_8 7 rfl rfl)
theorem dX4_forged_197 : decode cX4_forged 197 = .ok (.pop, 1) := dk_87 (dk_at dksX4_forged_8 10 rfl rfl)
theorem dX4_forged_198 : decode cX4_forged 198 = .ok (.lload 8, 2) := dk_22 8 (dk_at dksX4_forged_8 11 rfl rfl)
theorem dX4_forged_200 : decode cX4_forged 200 = .ok (.l2i, 1) := dk_136 (dk_at dksX4_forged_8 13 rfl rfl)
theorem dX4_forged_201 : decode cX4_forged 201 = .ok (.istore 4, 2) := dk_54 4 (dk_at dksX4_forged_8 14 rfl rfl)
theorem dX4_forged_203 : decode cX4_forged 203 = .ok (.iinc 5 1, 3) := dk_132 5 1 (dk_at dksX4_forged_8 16 rfl rfl)
theorem dX4_forged_206 : decode cX4_forged 206 = .ok (.goto (-153), 3) := dk_167 255 103 (dk_at dksX4_forged_8 19 rfl rfl)
theorem dX4_forged_209 : decode cX4_forged 209 = .ok (.aload_n 0, 1) := dk_42 (dk_at dksX4_forged_8 22 rfl rfl)
theorem dX4_forged_210 : decode cX4_forged 210 = .ok (.invokevirtual 183, 3) := dk_182 0 183 (dk_at dksX4_forged_9 0 rfl rfl)
theorem dX4_forged_213 : decode cX4_forged 213 = .ok (.iload_n 3, 1) := dk_29 (dk_at dksX4_forged_9 3 rfl rfl)
theorem dX4_forged_214 : decode cX4_forged 214 = .ok (.ireturn, 1) := dk_172 (dk_at dksX4_forged_9 4 rfl rfl)
abbrev cX4_judge : ByteArray := prog_21_method_74_code
def yX4_judge : MethodName := ⟨RX4, "judge", "(I)I"⟩
def dkwX4_judge_4 : List UInt8 := [167, 255, 189, 42, 182, 0, 183, 29, 172]
abbrev dktX4_judge_4 : List UInt8 := dkwX4_judge_4 ++ []
def dkwX4_judge_3 : List UInt8 := [182, 0, 212, 133, 148, 154, 0, 8, 16, 252, 167, 0, 5, 21, 4, 62, 42, 3, 182, 0, 104, 132, 4, 1]
abbrev dktX4_judge_3 : List UInt8 := dkwX4_judge_3 ++ dktX4_judge_4
def dkwX4_judge_2 : List UInt8 := [27, 104, 21, 4, 96, 47, 55, 5, 22, 5, 42, 27, 182, 0, 251, 148, 153, 0, 14, 22, 5, 42]
abbrev dktX4_judge_2 : List UInt8 := dkwX4_judge_2 ++ dktX4_judge_3
def dkwX4_judge_1 : List UInt8 := [3, 54, 4, 21, 4, 42, 180, 0, 37, 27, 46, 162, 0, 62, 29, 156, 0, 58, 42, 180, 0, 40, 16, 100]
abbrev dktX4_judge_1 : List UInt8 := dkwX4_judge_1 ++ dktX4_judge_2
def dkwX4_judge_0 : List UInt8 := [42, 3, 181, 0, 71, 42, 27, 182, 0, 171, 61, 28, 156, 0, 5, 28, 172, 16, 252, 62, 42, 182, 0, 177]
abbrev dktX4_judge_0 : List UInt8 := dkwX4_judge_0 ++ dktX4_judge_1
theorem dksX4_judge_0 : cX4_judge.data.toList.drop 0 = dktX4_judge_0 := by decide +kernel
theorem dksX4_judge_1 : cX4_judge.data.toList.drop 24 = dktX4_judge_1 := dk_seg dksX4_judge_0 24 rfl rfl
theorem dksX4_judge_2 : cX4_judge.data.toList.drop 48 = dktX4_judge_2 := dk_seg dksX4_judge_1 24 rfl rfl
theorem dksX4_judge_3 : cX4_judge.data.toList.drop 70 = dktX4_judge_3 := dk_seg dksX4_judge_2 22 rfl rfl
theorem dksX4_judge_4 : cX4_judge.data.toList.drop 94 = dktX4_judge_4 := dk_seg dksX4_judge_3 24 rfl rfl
theorem dX4_judge_0 : decode cX4_judge 0 = .ok (.aload_n 0, 1) := dk_42 (dk_at dksX4_judge_0 0 rfl rfl)
theorem dX4_judge_1 : decode cX4_judge 1 = .ok (.iconst 0, 1) := dk_3 (dk_at dksX4_judge_0 1 rfl rfl)
theorem dX4_judge_2 : decode cX4_judge 2 = .ok (.putfield 71, 3) := dk_181 0 71 (dk_at dksX4_judge_0 2 rfl rfl)
theorem dX4_judge_5 : decode cX4_judge 5 = .ok (.aload_n 0, 1) := dk_42 (dk_at dksX4_judge_0 5 rfl rfl)
theorem dX4_judge_6 : decode cX4_judge 6 = .ok (.iload_n 1, 1) := dk_27 (dk_at dksX4_judge_0 6 rfl rfl)
theorem dX4_judge_7 : decode cX4_judge 7 = .ok (.invokevirtual 171, 3) := dk_182 0 171 (dk_at dksX4_judge_0 7 rfl rfl)
theorem dX4_judge_10 : decode cX4_judge 10 = .ok (.istore_n 2, 1) := dk_61 (dk_at dksX4_judge_0 10 rfl rfl)
theorem dX4_judge_11 : decode cX4_judge 11 = .ok (.iload_n 2, 1) := dk_28 (dk_at dksX4_judge_0 11 rfl rfl)
theorem dX4_judge_12 : decode cX4_judge 12 = .ok (.ifCond .ge 5, 3) := dk_156 0 5 (dk_at dksX4_judge_0 12 rfl rfl)
theorem dX4_judge_15 : decode cX4_judge 15 = .ok (.iload_n 2, 1) := dk_28 (dk_at dksX4_judge_0 15 rfl rfl)
theorem dX4_judge_16 : decode cX4_judge 16 = .ok (.ireturn, 1) := dk_172 (dk_at dksX4_judge_0 16 rfl rfl)
theorem dX4_judge_17 : decode cX4_judge 17 = .ok (.bipush (-4), 2) := dk_16 252 (dk_at dksX4_judge_0 17 rfl rfl)
theorem dX4_judge_19 : decode cX4_judge 19 = .ok (.istore_n 3, 1) := dk_62 (dk_at dksX4_judge_0 19 rfl rfl)
theorem dX4_judge_20 : decode cX4_judge 20 = .ok (.aload_n 0, 1) := dk_42 (dk_at dksX4_judge_0 20 rfl rfl)
theorem dX4_judge_21 : decode cX4_judge 21 = .ok (.invokevirtual 177, 3) := dk_182 0 177 (dk_at dksX4_judge_0 21 rfl rfl)
theorem dX4_judge_24 : decode cX4_judge 24 = .ok (.iconst 0, 1) := dk_3 (dk_at dksX4_judge_1 0 rfl rfl)
theorem dX4_judge_25 : decode cX4_judge 25 = .ok (.istore 4, 2) := dk_54 4 (dk_at dksX4_judge_1 1 rfl rfl)
theorem dX4_judge_27 : decode cX4_judge 27 = .ok (.iload 4, 2) := dk_21 4 (dk_at dksX4_judge_1 3 rfl rfl)
theorem dX4_judge_29 : decode cX4_judge 29 = .ok (.aload_n 0, 1) := dk_42 (dk_at dksX4_judge_1 5 rfl rfl)
theorem dX4_judge_30 : decode cX4_judge 30 = .ok (.getfield 37, 3) := dk_180 0 37 (dk_at dksX4_judge_1 6 rfl rfl)
theorem dX4_judge_33 : decode cX4_judge 33 = .ok (.iload_n 1, 1) := dk_27 (dk_at dksX4_judge_1 9 rfl rfl)
theorem dX4_judge_34 : decode cX4_judge 34 = .ok (.iaload, 1) := dk_46 (dk_at dksX4_judge_1 10 rfl rfl)
theorem dX4_judge_35 : decode cX4_judge 35 = .ok (.if_icmp .ge 62, 3) := dk_162 0 62 (dk_at dksX4_judge_1 11 rfl rfl)
theorem dX4_judge_38 : decode cX4_judge 38 = .ok (.iload_n 3, 1) := dk_29 (dk_at dksX4_judge_1 14 rfl rfl)
theorem dX4_judge_39 : decode cX4_judge 39 = .ok (.ifCond .ge 58, 3) := dk_156 0 58 (dk_at dksX4_judge_1 15 rfl rfl)
theorem dX4_judge_42 : decode cX4_judge 42 = .ok (.aload_n 0, 1) := dk_42 (dk_at dksX4_judge_1 18 rfl rfl)
theorem dX4_judge_43 : decode cX4_judge 43 = .ok (.getfield 40, 3) := dk_180 0 40 (dk_at dksX4_judge_1 19 rfl rfl)
theorem dX4_judge_46 : decode cX4_judge 46 = .ok (.bipush 100, 2) := dk_16 100 (dk_at dksX4_judge_1 22 rfl rfl)
theorem dX4_judge_48 : decode cX4_judge 48 = .ok (.iload_n 1, 1) := dk_27 (dk_at dksX4_judge_2 0 rfl rfl)
theorem dX4_judge_49 : decode cX4_judge 49 = .ok (.imul, 1) := dk_104 (dk_at dksX4_judge_2 1 rfl rfl)
theorem dX4_judge_50 : decode cX4_judge 50 = .ok (.iload 4, 2) := dk_21 4 (dk_at dksX4_judge_2 2 rfl rfl)
theorem dX4_judge_52 : decode cX4_judge 52 = .ok (.iadd, 1) := dk_96 (dk_at dksX4_judge_2 4 rfl rfl)
theorem dX4_judge_53 : decode cX4_judge 53 = .ok (.laload, 1) := dk_47 (dk_at dksX4_judge_2 5 rfl rfl)
theorem dX4_judge_54 : decode cX4_judge 54 = .ok (.lstore 5, 2) := dk_55 5 (dk_at dksX4_judge_2 6 rfl rfl)
theorem dX4_judge_56 : decode cX4_judge 56 = .ok (.lload 5, 2) := dk_22 5 (dk_at dksX4_judge_2 8 rfl rfl)
theorem dX4_judge_58 : decode cX4_judge 58 = .ok (.aload_n 0, 1) := dk_42 (dk_at dksX4_judge_2 10 rfl rfl)
theorem dX4_judge_59 : decode cX4_judge 59 = .ok (.iload_n 1, 1) := dk_27 (dk_at dksX4_judge_2 11 rfl rfl)
theorem dX4_judge_60 : decode cX4_judge 60 = .ok (.invokevirtual 251, 3) := dk_182 0 251 (dk_at dksX4_judge_2 12 rfl rfl)
theorem dX4_judge_63 : decode cX4_judge 63 = .ok (.lcmp, 1) := dk_148 (dk_at dksX4_judge_2 15 rfl rfl)
theorem dX4_judge_64 : decode cX4_judge 64 = .ok (.ifCond .eq 14, 3) := dk_153 0 14 (dk_at dksX4_judge_2 16 rfl rfl)
theorem dX4_judge_67 : decode cX4_judge 67 = .ok (.lload 5, 2) := dk_22 5 (dk_at dksX4_judge_2 19 rfl rfl)
theorem dX4_judge_69 : decode cX4_judge 69 = .ok (.aload_n 0, 1) := dk_42 (dk_at dksX4_judge_2 21 rfl rfl)
theorem dX4_judge_70 : decode cX4_judge 70 = .ok (.invokevirtual 212, 3) := dk_182 0 212 (dk_at dksX4_judge_3 0 rfl rfl)
theorem dX4_judge_73 : decode cX4_judge 73 = .ok (.i2l, 1) := dk_133 (dk_at dksX4_judge_3 3 rfl rfl)
theorem dX4_judge_74 : decode cX4_judge 74 = .ok (.lcmp, 1) := dk_148 (dk_at dksX4_judge_3 4 rfl rfl)
theorem dX4_judge_75 : decode cX4_judge 75 = .ok (.ifCond .ne 8, 3) := dk_154 0 8 (dk_at dksX4_judge_3 5 rfl rfl)
theorem dX4_judge_78 : decode cX4_judge 78 = .ok (.bipush (-4), 2) := dk_16 252 (dk_at dksX4_judge_3 8 rfl rfl)
theorem dX4_judge_80 : decode cX4_judge 80 = .ok (.goto 5, 3) := dk_167 0 5 (dk_at dksX4_judge_3 10 rfl rfl)
theorem dX4_judge_83 : decode cX4_judge 83 = .ok (.iload 4, 2) := dk_21 4 (dk_at dksX4_judge_3 13 rfl rfl)
theorem dX4_judge_85 : decode cX4_judge 85 = .ok (.istore_n 3, 1) := dk_62 (dk_at dksX4_judge_3 15 rfl rfl)
theorem dX4_judge_86 : decode cX4_judge 86 = .ok (.aload_n 0, 1) := dk_42 (dk_at dksX4_judge_3 16 rfl rfl)
theorem dX4_judge_87 : decode cX4_judge 87 = .ok (.iconst 0, 1) := dk_3 (dk_at dksX4_judge_3 17 rfl rfl)
theorem dX4_judge_88 : decode cX4_judge 88 = .ok (.invokevirtual 104, 3) := dk_182 0 104 (dk_at dksX4_judge_3 18 rfl rfl)
theorem dX4_judge_91 : decode cX4_judge 91 = .ok (.iinc 4 1, 3) := dk_132 4 1 (dk_at dksX4_judge_3 21 rfl rfl)
theorem dX4_judge_94 : decode cX4_judge 94 = .ok (.goto (-67), 3) := dk_167 255 189 (dk_at dksX4_judge_4 0 rfl rfl)
theorem dX4_judge_97 : decode cX4_judge 97 = .ok (.aload_n 0, 1) := dk_42 (dk_at dksX4_judge_4 3 rfl rfl)
theorem dX4_judge_98 : decode cX4_judge 98 = .ok (.invokevirtual 183, 3) := dk_182 0 183 (dk_at dksX4_judge_4 4 rfl rfl)
theorem dX4_judge_101 : decode cX4_judge 101 = .ok (.iload_n 3, 1) := dk_29 (dk_at dksX4_judge_4 7 rfl rfl)
theorem dX4_judge_102 : decode cX4_judge 102 = .ok (.ireturn, 1) := dk_172 (dk_at dksX4_judge_4 8 rfl rfl)
abbrev cX4_lands : ByteArray := prog_21_method_76_code
def yX4_lands : MethodName := ⟨RX4, "lands", "(III)I"⟩
def dkwX4_lands_5 : List UInt8 := [21, 4, 172]
abbrev dktX4_lands_5 : List UInt8 := dkwX4_lands_5 ++ []
def dkwX4_lands_4 : List UInt8 := [182, 0, 212, 167, 0, 7, 42, 182, 1, 35, 96, 54, 4, 42, 182, 0, 183, 132, 5, 1, 167, 255, 186]
abbrev dktX4_lands_4 : List UInt8 := dkwX4_lands_4 ++ dktX4_lands_5
def dkwX4_lands_3 : List UInt8 := [182, 1, 32, 79, 132, 6, 1, 167, 255, 231, 42, 16, 10, 182, 0, 154, 21, 4, 29, 154, 0, 10, 42]
abbrev dktX4_lands_3 : List UInt8 := dkwX4_lands_3 ++ dktX4_lands_4
def dkwX4_lands_2 : List UInt8 := [162, 0, 70, 3, 54, 6, 21, 6, 42, 180, 0, 81, 162, 0, 22, 42, 180, 0, 19, 21, 6, 42, 16, 21]
abbrev dktX4_lands_2 : List UInt8 := dkwX4_lands_2 ++ dktX4_lands_3
def dkwX4_lands_1 : List UInt8 := [154, 0, 5, 2, 172, 42, 28, 181, 1, 26, 3, 54, 4, 42, 182, 0, 177, 3, 54, 5, 21, 5, 27]
abbrev dktX4_lands_1 : List UInt8 := dkwX4_lands_1 ++ dktX4_lands_2
def dkwX4_lands_0 : List UInt8 := [42, 3, 181, 0, 71, 27, 133, 10, 20, 0, 75, 184, 0, 77, 153, 0, 13, 29, 133, 9, 10, 184, 0, 77]
abbrev dktX4_lands_0 : List UInt8 := dkwX4_lands_0 ++ dktX4_lands_1
theorem dksX4_lands_0 : cX4_lands.data.toList.drop 0 = dktX4_lands_0 := by decide +kernel
theorem dksX4_lands_1 : cX4_lands.data.toList.drop 24 = dktX4_lands_1 := dk_seg dksX4_lands_0 24 rfl rfl
theorem dksX4_lands_2 : cX4_lands.data.toList.drop 47 = dktX4_lands_2 := dk_seg dksX4_lands_1 23 rfl rfl
theorem dksX4_lands_3 : cX4_lands.data.toList.drop 71 = dktX4_lands_3 := dk_seg dksX4_lands_2 24 rfl rfl
theorem dksX4_lands_4 : cX4_lands.data.toList.drop 94 = dktX4_lands_4 := dk_seg dksX4_lands_3 23 rfl rfl
theorem dksX4_lands_5 : cX4_lands.data.toList.drop 117 = dktX4_lands_5 := dk_seg dksX4_lands_4 23 rfl rfl
theorem dX4_lands_0 : decode cX4_lands 0 = .ok (.aload_n 0, 1) := dk_42 (dk_at dksX4_lands_0 0 rfl rfl)
theorem dX4_lands_1 : decode cX4_lands 1 = .ok (.iconst 0, 1) := dk_3 (dk_at dksX4_lands_0 1 rfl rfl)
theorem dX4_lands_2 : decode cX4_lands 2 = .ok (.putfield 71, 3) := dk_181 0 71 (dk_at dksX4_lands_0 2 rfl rfl)
theorem dX4_lands_5 : decode cX4_lands 5 = .ok (.iload_n 1, 1) := dk_27 (dk_at dksX4_lands_0 5 rfl rfl)
theorem dX4_lands_6 : decode cX4_lands 6 = .ok (.i2l, 1) := dk_133 (dk_at dksX4_lands_0 6 rfl rfl)
theorem dX4_lands_7 : decode cX4_lands 7 = .ok (.lconst 1, 1) := dk_10 (dk_at dksX4_lands_0 7 rfl rfl)
theorem dX4_lands_8 : decode cX4_lands 8 = .ok (.ldc2_w 75, 3) := dk_20 0 75 (dk_at dksX4_lands_0 8 rfl rfl)
theorem dX4_lands_11 : decode cX4_lands 11 = .ok (.invokestatic 77, 3) := dk_184 0 77 (dk_at dksX4_lands_0 11 rfl rfl)
theorem dX4_lands_14 : decode cX4_lands 14 = .ok (.ifCond .eq 13, 3) := dk_153 0 13 (dk_at dksX4_lands_0 14 rfl rfl)
theorem dX4_lands_17 : decode cX4_lands 17 = .ok (.iload_n 3, 1) := dk_29 (dk_at dksX4_lands_0 17 rfl rfl)
theorem dX4_lands_18 : decode cX4_lands 18 = .ok (.i2l, 1) := dk_133 (dk_at dksX4_lands_0 18 rfl rfl)
theorem dX4_lands_19 : decode cX4_lands 19 = .ok (.lconst 0, 1) := dk_9 (dk_at dksX4_lands_0 19 rfl rfl)
theorem dX4_lands_20 : decode cX4_lands 20 = .ok (.lconst 1, 1) := dk_10 (dk_at dksX4_lands_0 20 rfl rfl)
theorem dX4_lands_21 : decode cX4_lands 21 = .ok (.invokestatic 77, 3) := dk_184 0 77 (dk_at dksX4_lands_0 21 rfl rfl)
theorem dX4_lands_24 : decode cX4_lands 24 = .ok (.ifCond .ne 5, 3) := dk_154 0 5 (dk_at dksX4_lands_1 0 rfl rfl)
theorem dX4_lands_27 : decode cX4_lands 27 = .ok (.iconst (-1), 1) := dk_2 (dk_at dksX4_lands_1 3 rfl rfl)
theorem dX4_lands_28 : decode cX4_lands 28 = .ok (.ireturn, 1) := dk_172 (dk_at dksX4_lands_1 4 rfl rfl)
theorem dX4_lands_29 : decode cX4_lands 29 = .ok (.aload_n 0, 1) := dk_42 (dk_at dksX4_lands_1 5 rfl rfl)
theorem dX4_lands_30 : decode cX4_lands 30 = .ok (.iload_n 2, 1) := dk_28 (dk_at dksX4_lands_1 6 rfl rfl)
theorem dX4_lands_31 : decode cX4_lands 31 = .ok (.putfield 282, 3) := dk_181 1 26 (dk_at dksX4_lands_1 7 rfl rfl)
theorem dX4_lands_34 : decode cX4_lands 34 = .ok (.iconst 0, 1) := dk_3 (dk_at dksX4_lands_1 10 rfl rfl)
theorem dX4_lands_35 : decode cX4_lands 35 = .ok (.istore 4, 2) := dk_54 4 (dk_at dksX4_lands_1 11 rfl rfl)
theorem dX4_lands_37 : decode cX4_lands 37 = .ok (.aload_n 0, 1) := dk_42 (dk_at dksX4_lands_1 13 rfl rfl)
theorem dX4_lands_38 : decode cX4_lands 38 = .ok (.invokevirtual 177, 3) := dk_182 0 177 (dk_at dksX4_lands_1 14 rfl rfl)
theorem dX4_lands_41 : decode cX4_lands 41 = .ok (.iconst 0, 1) := dk_3 (dk_at dksX4_lands_1 17 rfl rfl)
theorem dX4_lands_42 : decode cX4_lands 42 = .ok (.istore 5, 2) := dk_54 5 (dk_at dksX4_lands_1 18 rfl rfl)
theorem dX4_lands_44 : decode cX4_lands 44 = .ok (.iload 5, 2) := dk_21 5 (dk_at dksX4_lands_1 20 rfl rfl)
theorem dX4_lands_46 : decode cX4_lands 46 = .ok (.iload_n 1, 1) := dk_27 (dk_at dksX4_lands_1 22 rfl rfl)
theorem dX4_lands_47 : decode cX4_lands 47 = .ok (.if_icmp .ge 70, 3) := dk_162 0 70 (dk_at dksX4_lands_2 0 rfl rfl)
theorem dX4_lands_50 : decode cX4_lands 50 = .ok (.iconst 0, 1) := dk_3 (dk_at dksX4_lands_2 3 rfl rfl)
theorem dX4_lands_51 : decode cX4_lands 51 = .ok (.istore 6, 2) := dk_54 6 (dk_at dksX4_lands_2 4 rfl rfl)
theorem dX4_lands_53 : decode cX4_lands 53 = .ok (.iload 6, 2) := dk_21 6 (dk_at dksX4_lands_2 6 rfl rfl)
theorem dX4_lands_55 : decode cX4_lands 55 = .ok (.aload_n 0, 1) := dk_42 (dk_at dksX4_lands_2 8 rfl rfl)
theorem dX4_lands_56 : decode cX4_lands 56 = .ok (.getfield 81, 3) := dk_180 0 81 (dk_at dksX4_lands_2 9 rfl rfl)
theorem dX4_lands_59 : decode cX4_lands 59 = .ok (.if_icmp .ge 22, 3) := dk_162 0 22 (dk_at dksX4_lands_2 12 rfl rfl)
theorem dX4_lands_62 : decode cX4_lands 62 = .ok (.aload_n 0, 1) := dk_42 (dk_at dksX4_lands_2 15 rfl rfl)
theorem dX4_lands_63 : decode cX4_lands 63 = .ok (.getfield 19, 3) := dk_180 0 19 (dk_at dksX4_lands_2 16 rfl rfl)
theorem dX4_lands_66 : decode cX4_lands 66 = .ok (.iload 6, 2) := dk_21 6 (dk_at dksX4_lands_2 19 rfl rfl)
theorem dX4_lands_68 : decode cX4_lands 68 = .ok (.aload_n 0, 1) := dk_42 (dk_at dksX4_lands_2 21 rfl rfl)
theorem dX4_lands_69 : decode cX4_lands 69 = .ok (.bipush 21, 2) := dk_16 21 (dk_at dksX4_lands_2 22 rfl rfl)
theorem dX4_lands_71 : decode cX4_lands 71 = .ok (.invokevirtual 288, 3) := dk_182 1 32 (dk_at dksX4_lands_3 0 rfl rfl)
theorem dX4_lands_74 : decode cX4_lands 74 = .ok (.iastore, 1) := dk_79 (dk_at dksX4_lands_3 3 rfl rfl)
theorem dX4_lands_75 : decode cX4_lands 75 = .ok (.iinc 6 1, 3) := dk_132 6 1 (dk_at dksX4_lands_3 4 rfl rfl)
theorem dX4_lands_78 : decode cX4_lands 78 = .ok (.goto (-25), 3) := dk_167 255 231 (dk_at dksX4_lands_3 7 rfl rfl)
theorem dX4_lands_81 : decode cX4_lands 81 = .ok (.aload_n 0, 1) := dk_42 (dk_at dksX4_lands_3 10 rfl rfl)
theorem dX4_lands_82 : decode cX4_lands 82 = .ok (.bipush 10, 2) := dk_16 10 (dk_at dksX4_lands_3 11 rfl rfl)
theorem dX4_lands_84 : decode cX4_lands 84 = .ok (.invokevirtual 154, 3) := dk_182 0 154 (dk_at dksX4_lands_3 13 rfl rfl)
theorem dX4_lands_87 : decode cX4_lands 87 = .ok (.iload 4, 2) := dk_21 4 (dk_at dksX4_lands_3 16 rfl rfl)
theorem dX4_lands_89 : decode cX4_lands 89 = .ok (.iload_n 3, 1) := dk_29 (dk_at dksX4_lands_3 18 rfl rfl)
theorem dX4_lands_90 : decode cX4_lands 90 = .ok (.ifCond .ne 10, 3) := dk_154 0 10 (dk_at dksX4_lands_3 19 rfl rfl)
theorem dX4_lands_93 : decode cX4_lands 93 = .ok (.aload_n 0, 1) := dk_42 (dk_at dksX4_lands_3 22 rfl rfl)
theorem dX4_lands_94 : decode cX4_lands 94 = .ok (.invokevirtual 212, 3) := dk_182 0 212 (dk_at dksX4_lands_4 0 rfl rfl)
theorem dX4_lands_97 : decode cX4_lands 97 = .ok (.goto 7, 3) := dk_167 0 7 (dk_at dksX4_lands_4 3 rfl rfl)
theorem dX4_lands_100 : decode cX4_lands 100 = .ok (.aload_n 0, 1) := dk_42 (dk_at dksX4_lands_4 6 rfl rfl)
theorem dX4_lands_101 : decode cX4_lands 101 = .ok (.invokevirtual 291, 3) := dk_182 1 35 (dk_at dksX4_lands_4 7 rfl rfl)
theorem dX4_lands_104 : decode cX4_lands 104 = .ok (.iadd, 1) := dk_96 (dk_at dksX4_lands_4 10 rfl rfl)
theorem dX4_lands_105 : decode cX4_lands 105 = .ok (.istore 4, 2) := dk_54 4 (dk_at dksX4_lands_4 11 rfl rfl)
theorem dX4_lands_107 : decode cX4_lands 107 = .ok (.aload_n 0, 1) := dk_42 (dk_at dksX4_lands_4 13 rfl rfl)
theorem dX4_lands_108 : decode cX4_lands 108 = .ok (.invokevirtual 183, 3) := dk_182 0 183 (dk_at dksX4_lands_4 14 rfl rfl)
theorem dX4_lands_111 : decode cX4_lands 111 = .ok (.iinc 5 1, 3) := dk_132 5 1 (dk_at dksX4_lands_4 17 rfl rfl)
theorem dX4_lands_114 : decode cX4_lands 114 = .ok (.goto (-70), 3) := dk_167 255 186 (dk_at dksX4_lands_4 20 rfl rfl)
theorem dX4_lands_117 : decode cX4_lands 117 = .ok (.iload 4, 2) := dk_21 4 (dk_at dksX4_lands_5 0 rfl rfl)
theorem dX4_lands_119 : decode cX4_lands 119 = .ok (.ireturn, 1) := dk_172 (dk_at dksX4_lands_5 2 rfl rfl)
abbrev cX4_drawBelow : ByteArray := prog_21_method_75_code
def yX4_drawBelow : MethodName := ⟨RX4, "drawBelow", "(I)I"⟩
def dkwX4_drawBelow_1 : List UInt8 := [19, 1, 31, 108, 27, 112, 172]
abbrev dktX4_drawBelow_1 : List UInt8 := dkwX4_drawBelow_1 ++ []
def dkwX4_drawBelow_0 : List UInt8 := [42, 42, 180, 1, 26, 19, 1, 29, 104, 17, 48, 57, 96, 181, 1, 26, 42, 180, 1, 26, 19, 1, 30, 126]
abbrev dktX4_drawBelow_0 : List UInt8 := dkwX4_drawBelow_0 ++ dktX4_drawBelow_1
theorem dksX4_drawBelow_0 : cX4_drawBelow.data.toList.drop 0 = dktX4_drawBelow_0 := by decide +kernel
theorem dksX4_drawBelow_1 : cX4_drawBelow.data.toList.drop 24 = dktX4_drawBelow_1 := dk_seg dksX4_drawBelow_0 24 rfl rfl
theorem dX4_drawBelow_0 : decode cX4_drawBelow 0 = .ok (.aload_n 0, 1) := dk_42 (dk_at dksX4_drawBelow_0 0 rfl rfl)
theorem dX4_drawBelow_1 : decode cX4_drawBelow 1 = .ok (.aload_n 0, 1) := dk_42 (dk_at dksX4_drawBelow_0 1 rfl rfl)
theorem dX4_drawBelow_2 : decode cX4_drawBelow 2 = .ok (.getfield 282, 3) := dk_180 1 26 (dk_at dksX4_drawBelow_0 2 rfl rfl)
theorem dX4_drawBelow_5 : decode cX4_drawBelow 5 = .ok (.ldc_w 285, 3) := dk_19 1 29 (dk_at dksX4_drawBelow_0 5 rfl rfl)
theorem dX4_drawBelow_8 : decode cX4_drawBelow 8 = .ok (.imul, 1) := dk_104 (dk_at dksX4_drawBelow_0 8 rfl rfl)
theorem dX4_drawBelow_9 : decode cX4_drawBelow 9 = .ok (.sipush 12345, 3) := dk_17 48 57 (dk_at dksX4_drawBelow_0 9 rfl rfl)
theorem dX4_drawBelow_12 : decode cX4_drawBelow 12 = .ok (.iadd, 1) := dk_96 (dk_at dksX4_drawBelow_0 12 rfl rfl)
theorem dX4_drawBelow_13 : decode cX4_drawBelow 13 = .ok (.putfield 282, 3) := dk_181 1 26 (dk_at dksX4_drawBelow_0 13 rfl rfl)
theorem dX4_drawBelow_16 : decode cX4_drawBelow 16 = .ok (.aload_n 0, 1) := dk_42 (dk_at dksX4_drawBelow_0 16 rfl rfl)
theorem dX4_drawBelow_17 : decode cX4_drawBelow 17 = .ok (.getfield 282, 3) := dk_180 1 26 (dk_at dksX4_drawBelow_0 17 rfl rfl)
theorem dX4_drawBelow_20 : decode cX4_drawBelow 20 = .ok (.ldc_w 286, 3) := dk_19 1 30 (dk_at dksX4_drawBelow_0 20 rfl rfl)
theorem dX4_drawBelow_23 : decode cX4_drawBelow 23 = .ok (.iand, 1) := dk_126 (dk_at dksX4_drawBelow_0 23 rfl rfl)
theorem dX4_drawBelow_24 : decode cX4_drawBelow 24 = .ok (.ldc_w 287, 3) := dk_19 1 31 (dk_at dksX4_drawBelow_1 0 rfl rfl)
theorem dX4_drawBelow_27 : decode cX4_drawBelow 27 = .ok (.idiv, 1) := dk_108 (dk_at dksX4_drawBelow_1 3 rfl rfl)
theorem dX4_drawBelow_28 : decode cX4_drawBelow 28 = .ok (.iload_n 1, 1) := dk_27 (dk_at dksX4_drawBelow_1 4 rfl rfl)
theorem dX4_drawBelow_29 : decode cX4_drawBelow 29 = .ok (.irem, 1) := dk_112 (dk_at dksX4_drawBelow_1 5 rfl rfl)
theorem dX4_drawBelow_30 : decode cX4_drawBelow 30 = .ok (.ireturn, 1) := dk_172 (dk_at dksX4_drawBelow_1 6 rfl rfl)
abbrev cX4_atGoals : ByteArray := prog_21_method_18_code
def yX4_atGoals : MethodName := ⟨RX4, "atGoals", "()I"⟩
def dkwX4_atGoals_1 : List UInt8 := [160, 0, 7, 4, 167, 0, 4, 3, 96, 60, 132, 2, 1, 167, 255, 223, 27, 172]
abbrev dktX4_atGoals_1 : List UInt8 := dkwX4_atGoals_1 ++ []
def dkwX4_atGoals_0 : List UInt8 := [3, 60, 3, 61, 28, 42, 180, 0, 81, 162, 0, 31, 27, 42, 180, 0, 19, 28, 46, 42, 28, 182, 0, 91]
abbrev dktX4_atGoals_0 : List UInt8 := dkwX4_atGoals_0 ++ dktX4_atGoals_1
theorem dksX4_atGoals_0 : cX4_atGoals.data.toList.drop 0 = dktX4_atGoals_0 := by decide +kernel
theorem dksX4_atGoals_1 : cX4_atGoals.data.toList.drop 24 = dktX4_atGoals_1 := dk_seg dksX4_atGoals_0 24 rfl rfl
theorem dX4_atGoals_0 : decode cX4_atGoals 0 = .ok (.iconst 0, 1) := dk_3 (dk_at dksX4_atGoals_0 0 rfl rfl)
theorem dX4_atGoals_1 : decode cX4_atGoals 1 = .ok (.istore_n 1, 1) := dk_60 (dk_at dksX4_atGoals_0 1 rfl rfl)
theorem dX4_atGoals_2 : decode cX4_atGoals 2 = .ok (.iconst 0, 1) := dk_3 (dk_at dksX4_atGoals_0 2 rfl rfl)
theorem dX4_atGoals_3 : decode cX4_atGoals 3 = .ok (.istore_n 2, 1) := dk_61 (dk_at dksX4_atGoals_0 3 rfl rfl)
theorem dX4_atGoals_4 : decode cX4_atGoals 4 = .ok (.iload_n 2, 1) := dk_28 (dk_at dksX4_atGoals_0 4 rfl rfl)
theorem dX4_atGoals_5 : decode cX4_atGoals 5 = .ok (.aload_n 0, 1) := dk_42 (dk_at dksX4_atGoals_0 5 rfl rfl)
theorem dX4_atGoals_6 : decode cX4_atGoals 6 = .ok (.getfield 81, 3) := dk_180 0 81 (dk_at dksX4_atGoals_0 6 rfl rfl)
theorem dX4_atGoals_9 : decode cX4_atGoals 9 = .ok (.if_icmp .ge 31, 3) := dk_162 0 31 (dk_at dksX4_atGoals_0 9 rfl rfl)
theorem dX4_atGoals_12 : decode cX4_atGoals 12 = .ok (.iload_n 1, 1) := dk_27 (dk_at dksX4_atGoals_0 12 rfl rfl)
theorem dX4_atGoals_13 : decode cX4_atGoals 13 = .ok (.aload_n 0, 1) := dk_42 (dk_at dksX4_atGoals_0 13 rfl rfl)
theorem dX4_atGoals_14 : decode cX4_atGoals 14 = .ok (.getfield 19, 3) := dk_180 0 19 (dk_at dksX4_atGoals_0 14 rfl rfl)
theorem dX4_atGoals_17 : decode cX4_atGoals 17 = .ok (.iload_n 2, 1) := dk_28 (dk_at dksX4_atGoals_0 17 rfl rfl)
theorem dX4_atGoals_18 : decode cX4_atGoals 18 = .ok (.iaload, 1) := dk_46 (dk_at dksX4_atGoals_0 18 rfl rfl)
theorem dX4_atGoals_19 : decode cX4_atGoals 19 = .ok (.aload_n 0, 1) := dk_42 (dk_at dksX4_atGoals_0 19 rfl rfl)
theorem dX4_atGoals_20 : decode cX4_atGoals 20 = .ok (.iload_n 2, 1) := dk_28 (dk_at dksX4_atGoals_0 20 rfl rfl)
theorem dX4_atGoals_21 : decode cX4_atGoals 21 = .ok (.invokevirtual 91, 3) := dk_182 0 91 (dk_at dksX4_atGoals_0 21 rfl rfl)
theorem dX4_atGoals_24 : decode cX4_atGoals 24 = .ok (.if_icmp .ne 7, 3) := dk_160 0 7 (dk_at dksX4_atGoals_1 0 rfl rfl)
theorem dX4_atGoals_27 : decode cX4_atGoals 27 = .ok (.iconst 1, 1) := dk_4 (dk_at dksX4_atGoals_1 3 rfl rfl)
theorem dX4_atGoals_28 : decode cX4_atGoals 28 = .ok (.goto 4, 3) := dk_167 0 4 (dk_at dksX4_atGoals_1 4 rfl rfl)
theorem dX4_atGoals_31 : decode cX4_atGoals 31 = .ok (.iconst 0, 1) := dk_3 (dk_at dksX4_atGoals_1 7 rfl rfl)
theorem dX4_atGoals_32 : decode cX4_atGoals 32 = .ok (.iadd, 1) := dk_96 (dk_at dksX4_atGoals_1 8 rfl rfl)
theorem dX4_atGoals_33 : decode cX4_atGoals 33 = .ok (.istore_n 1, 1) := dk_60 (dk_at dksX4_atGoals_1 9 rfl rfl)
theorem dX4_atGoals_34 : decode cX4_atGoals 34 = .ok (.iinc 2 1, 3) := dk_132 2 1 (dk_at dksX4_atGoals_1 10 rfl rfl)
theorem dX4_atGoals_37 : decode cX4_atGoals 37 = .ok (.goto (-33), 3) := dk_167 255 223 (dk_at dksX4_atGoals_1 13 rfl rfl)
theorem dX4_atGoals_40 : decode cX4_atGoals 40 = .ok (.iload_n 1, 1) := dk_27 (dk_at dksX4_atGoals_1 16 rfl rfl)
theorem dX4_atGoals_41 : decode cX4_atGoals 41 = .ok (.ireturn, 1) := dk_172 (dk_at dksX4_atGoals_1 17 rfl rfl)
abbrev cX4_count : ByteArray := prog_21_method_77_code
def yX4_count : MethodName := ⟨RX4, "count", "(I)I"⟩
def dkwX4_count_4 : List UInt8 := [167, 255, 237, 28, 172, 2, 172]
abbrev dktX4_count_4 : List UInt8 := dkwX4_count_4 ++ []
def dkwX4_count_3 : List UInt8 := [172, 3, 62, 29, 42, 180, 0, 81, 162, 0, 17, 28, 42, 29, 182, 0, 108, 96, 61, 132, 3, 1]
abbrev dktX4_count_3 : List UInt8 := dkwX4_count_3 ++ dktX4_count_4
def dkwX4_count_2 : List UInt8 := [42, 180, 0, 81, 172, 42, 180, 0, 88, 172, 42, 180, 0, 95, 172, 42, 182, 0, 212, 172, 42, 182, 1, 35]
abbrev dktX4_count_2 : List UInt8 := dkwX4_count_2 ++ dktX4_count_3
def dkwX4_count_1 : List UInt8 := [170, 0, 0, 0, 0, 0, 0, 91, 0, 0, 0, 0, 0, 0, 0, 5, 0, 0, 0, 40, 0, 0, 0, 45, 0, 0, 0, 50, 0, 0, 0, 55, 0, 0, 0, 60, 0, 0, 0, 65]
abbrev dktX4_count_1 : List UInt8 := dkwX4_count_1 ++ dktX4_count_2
def dkwX4_count_0 : List UInt8 := [42, 3, 181, 0, 71, 3, 61, 27]
abbrev dktX4_count_0 : List UInt8 := dkwX4_count_0 ++ dktX4_count_1
theorem dksX4_count_0 : cX4_count.data.toList.drop 0 = dktX4_count_0 := by decide +kernel
theorem dksX4_count_1 : cX4_count.data.toList.drop 8 = dktX4_count_1 := dk_seg dksX4_count_0 8 rfl rfl
theorem dksX4_count_2 : cX4_count.data.toList.drop 48 = dktX4_count_2 := dk_seg dksX4_count_1 40 rfl rfl
theorem dksX4_count_3 : cX4_count.data.toList.drop 72 = dktX4_count_3 := dk_seg dksX4_count_2 24 rfl rfl
theorem dksX4_count_4 : cX4_count.data.toList.drop 94 = dktX4_count_4 := dk_seg dksX4_count_3 22 rfl rfl
theorem dX4_count_0 : decode cX4_count 0 = .ok (.aload_n 0, 1) := dk_42 (dk_at dksX4_count_0 0 rfl rfl)
theorem dX4_count_1 : decode cX4_count 1 = .ok (.iconst 0, 1) := dk_3 (dk_at dksX4_count_0 1 rfl rfl)
theorem dX4_count_2 : decode cX4_count 2 = .ok (.putfield 71, 3) := dk_181 0 71 (dk_at dksX4_count_0 2 rfl rfl)
theorem dX4_count_5 : decode cX4_count 5 = .ok (.iconst 0, 1) := dk_3 (dk_at dksX4_count_0 5 rfl rfl)
theorem dX4_count_6 : decode cX4_count 6 = .ok (.istore_n 2, 1) := dk_61 (dk_at dksX4_count_0 6 rfl rfl)
theorem dX4_count_7 : decode cX4_count 7 = .ok (.iload_n 1, 1) := dk_27 (dk_at dksX4_count_0 7 rfl rfl)
theorem dX4_count_8 : decode cX4_count 8 = .ok (.tableswitch 91 0 5 #[40, 45, 50, 55, 60, 65], 40) := by decide +kernel
theorem dX4_count_48 : decode cX4_count 48 = .ok (.aload_n 0, 1) := dk_42 (dk_at dksX4_count_2 0 rfl rfl)
theorem dX4_count_49 : decode cX4_count 49 = .ok (.getfield 81, 3) := dk_180 0 81 (dk_at dksX4_count_2 1 rfl rfl)
theorem dX4_count_52 : decode cX4_count 52 = .ok (.ireturn, 1) := dk_172 (dk_at dksX4_count_2 4 rfl rfl)
theorem dX4_count_53 : decode cX4_count 53 = .ok (.aload_n 0, 1) := dk_42 (dk_at dksX4_count_2 5 rfl rfl)
theorem dX4_count_54 : decode cX4_count 54 = .ok (.getfield 88, 3) := dk_180 0 88 (dk_at dksX4_count_2 6 rfl rfl)
theorem dX4_count_57 : decode cX4_count 57 = .ok (.ireturn, 1) := dk_172 (dk_at dksX4_count_2 9 rfl rfl)
theorem dX4_count_58 : decode cX4_count 58 = .ok (.aload_n 0, 1) := dk_42 (dk_at dksX4_count_2 10 rfl rfl)
theorem dX4_count_59 : decode cX4_count 59 = .ok (.getfield 95, 3) := dk_180 0 95 (dk_at dksX4_count_2 11 rfl rfl)
theorem dX4_count_62 : decode cX4_count 62 = .ok (.ireturn, 1) := dk_172 (dk_at dksX4_count_2 14 rfl rfl)
theorem dX4_count_63 : decode cX4_count 63 = .ok (.aload_n 0, 1) := dk_42 (dk_at dksX4_count_2 15 rfl rfl)
theorem dX4_count_64 : decode cX4_count 64 = .ok (.invokevirtual 212, 3) := dk_182 0 212 (dk_at dksX4_count_2 16 rfl rfl)
theorem dX4_count_67 : decode cX4_count 67 = .ok (.ireturn, 1) := dk_172 (dk_at dksX4_count_2 19 rfl rfl)
theorem dX4_count_68 : decode cX4_count 68 = .ok (.aload_n 0, 1) := dk_42 (dk_at dksX4_count_2 20 rfl rfl)
theorem dX4_count_69 : decode cX4_count 69 = .ok (.invokevirtual 291, 3) := dk_182 1 35 (dk_at dksX4_count_2 21 rfl rfl)
theorem dX4_count_72 : decode cX4_count 72 = .ok (.ireturn, 1) := dk_172 (dk_at dksX4_count_3 0 rfl rfl)
theorem dX4_count_73 : decode cX4_count 73 = .ok (.iconst 0, 1) := dk_3 (dk_at dksX4_count_3 1 rfl rfl)
theorem dX4_count_74 : decode cX4_count 74 = .ok (.istore_n 3, 1) := dk_62 (dk_at dksX4_count_3 2 rfl rfl)
theorem dX4_count_75 : decode cX4_count 75 = .ok (.iload_n 3, 1) := dk_29 (dk_at dksX4_count_3 3 rfl rfl)
theorem dX4_count_76 : decode cX4_count 76 = .ok (.aload_n 0, 1) := dk_42 (dk_at dksX4_count_3 4 rfl rfl)
theorem dX4_count_77 : decode cX4_count 77 = .ok (.getfield 81, 3) := dk_180 0 81 (dk_at dksX4_count_3 5 rfl rfl)
theorem dX4_count_80 : decode cX4_count 80 = .ok (.if_icmp .ge 17, 3) := dk_162 0 17 (dk_at dksX4_count_3 8 rfl rfl)
theorem dX4_count_83 : decode cX4_count 83 = .ok (.iload_n 2, 1) := dk_28 (dk_at dksX4_count_3 11 rfl rfl)
theorem dX4_count_84 : decode cX4_count 84 = .ok (.aload_n 0, 1) := dk_42 (dk_at dksX4_count_3 12 rfl rfl)
theorem dX4_count_85 : decode cX4_count 85 = .ok (.iload_n 3, 1) := dk_29 (dk_at dksX4_count_3 13 rfl rfl)
theorem dX4_count_86 : decode cX4_count 86 = .ok (.invokevirtual 108, 3) := dk_182 0 108 (dk_at dksX4_count_3 14 rfl rfl)
theorem dX4_count_89 : decode cX4_count 89 = .ok (.iadd, 1) := dk_96 (dk_at dksX4_count_3 17 rfl rfl)
theorem dX4_count_90 : decode cX4_count 90 = .ok (.istore_n 2, 1) := dk_61 (dk_at dksX4_count_3 18 rfl rfl)
theorem dX4_count_91 : decode cX4_count 91 = .ok (.iinc 3 1, 3) := dk_132 3 1 (dk_at dksX4_count_3 19 rfl rfl)
theorem dX4_count_94 : decode cX4_count 94 = .ok (.goto (-19), 3) := dk_167 255 237 (dk_at dksX4_count_4 0 rfl rfl)
theorem dX4_count_97 : decode cX4_count 97 = .ok (.iload_n 2, 1) := dk_28 (dk_at dksX4_count_4 3 rfl rfl)
theorem dX4_count_98 : decode cX4_count 98 = .ok (.ireturn, 1) := dk_172 (dk_at dksX4_count_4 4 rfl rfl)
theorem dX4_count_99 : decode cX4_count 99 = .ok (.iconst (-1), 1) := dk_2 (dk_at dksX4_count_4 5 rfl rfl)
theorem dX4_count_100 : decode cX4_count 100 = .ok (.ireturn, 1) := dk_172 (dk_at dksX4_count_4 6 rfl rfl)
abbrev cX4_keep : ByteArray := prog_21_method_78_code
def yX4_keep : MethodName := ⟨RX4, "keep", "(IIII)I"⟩
def dkwX4_keep_4 : List UInt8 := [167, 0, 4, 3, 79, 3, 172]
abbrev dktX4_keep_4 : List UInt8 := dkwX4_keep_4 ++ []
def dkwX4_keep_3 : List UInt8 := [4, 160, 0, 7, 29, 167, 0, 4, 3, 79, 42, 180, 0, 31, 27, 28, 4, 160, 0, 8, 21, 4]
abbrev dktX4_keep_3 : List UInt8 := dkwX4_keep_3 ++ dktX4_keep_4
def dkwX4_keep_2 : List UInt8 := [20, 1, 38, 184, 0, 77, 154, 0, 5, 2, 172, 42, 180, 0, 25, 27, 28, 79, 42, 180, 0, 28, 27, 28]
abbrev dktX4_keep_2 : List UInt8 := dkwX4_keep_2 ++ dktX4_keep_3
def dkwX4_keep_1 : List UInt8 := [153, 0, 33, 28, 4, 160, 0, 30, 29, 133, 9, 20, 0, 205, 184, 0, 77, 153, 0, 16, 21, 4, 133, 9]
abbrev dktX4_keep_1 : List UInt8 := dkwX4_keep_1 ++ dktX4_keep_2
def dkwX4_keep_0 : List UInt8 := [42, 3, 181, 0, 71, 27, 133, 9, 20, 0, 205, 184, 0, 77, 153, 0, 43, 28, 133, 9, 10, 184, 0, 77]
abbrev dktX4_keep_0 : List UInt8 := dkwX4_keep_0 ++ dktX4_keep_1
theorem dksX4_keep_0 : cX4_keep.data.toList.drop 0 = dktX4_keep_0 := by decide +kernel
theorem dksX4_keep_1 : cX4_keep.data.toList.drop 24 = dktX4_keep_1 := dk_seg dksX4_keep_0 24 rfl rfl
theorem dksX4_keep_2 : cX4_keep.data.toList.drop 48 = dktX4_keep_2 := dk_seg dksX4_keep_1 24 rfl rfl
theorem dksX4_keep_3 : cX4_keep.data.toList.drop 72 = dktX4_keep_3 := dk_seg dksX4_keep_2 24 rfl rfl
theorem dksX4_keep_4 : cX4_keep.data.toList.drop 94 = dktX4_keep_4 := dk_seg dksX4_keep_3 22 rfl rfl
theorem dX4_keep_0 : decode cX4_keep 0 = .ok (.aload_n 0, 1) := dk_42 (dk_at dksX4_keep_0 0 rfl rfl)
theorem dX4_keep_1 : decode cX4_keep 1 = .ok (.iconst 0, 1) := dk_3 (dk_at dksX4_keep_0 1 rfl rfl)
theorem dX4_keep_2 : decode cX4_keep 2 = .ok (.putfield 71, 3) := dk_181 0 71 (dk_at dksX4_keep_0 2 rfl rfl)
theorem dX4_keep_5 : decode cX4_keep 5 = .ok (.iload_n 1, 1) := dk_27 (dk_at dksX4_keep_0 5 rfl rfl)
theorem dX4_keep_6 : decode cX4_keep 6 = .ok (.i2l, 1) := dk_133 (dk_at dksX4_keep_0 6 rfl rfl)
theorem dX4_keep_7 : decode cX4_keep 7 = .ok (.lconst 0, 1) := dk_9 (dk_at dksX4_keep_0 7 rfl rfl)
theorem dX4_keep_8 : decode cX4_keep 8 = .ok (.ldc2_w 205, 3) := dk_20 0 205 (dk_at dksX4_keep_0 8 rfl rfl)
theorem dX4_keep_11 : decode cX4_keep 11 = .ok (.invokestatic 77, 3) := dk_184 0 77 (dk_at dksX4_keep_0 11 rfl rfl)
theorem dX4_keep_14 : decode cX4_keep 14 = .ok (.ifCond .eq 43, 3) := dk_153 0 43 (dk_at dksX4_keep_0 14 rfl rfl)
theorem dX4_keep_17 : decode cX4_keep 17 = .ok (.iload_n 2, 1) := dk_28 (dk_at dksX4_keep_0 17 rfl rfl)
theorem dX4_keep_18 : decode cX4_keep 18 = .ok (.i2l, 1) := dk_133 (dk_at dksX4_keep_0 18 rfl rfl)
theorem dX4_keep_19 : decode cX4_keep 19 = .ok (.lconst 0, 1) := dk_9 (dk_at dksX4_keep_0 19 rfl rfl)
theorem dX4_keep_20 : decode cX4_keep 20 = .ok (.lconst 1, 1) := dk_10 (dk_at dksX4_keep_0 20 rfl rfl)
theorem dX4_keep_21 : decode cX4_keep 21 = .ok (.invokestatic 77, 3) := dk_184 0 77 (dk_at dksX4_keep_0 21 rfl rfl)
theorem dX4_keep_24 : decode cX4_keep 24 = .ok (.ifCond .eq 33, 3) := dk_153 0 33 (dk_at dksX4_keep_1 0 rfl rfl)
theorem dX4_keep_27 : decode cX4_keep 27 = .ok (.iload_n 2, 1) := dk_28 (dk_at dksX4_keep_1 3 rfl rfl)
theorem dX4_keep_28 : decode cX4_keep 28 = .ok (.iconst 1, 1) := dk_4 (dk_at dksX4_keep_1 4 rfl rfl)
theorem dX4_keep_29 : decode cX4_keep 29 = .ok (.if_icmp .ne 30, 3) := dk_160 0 30 (dk_at dksX4_keep_1 5 rfl rfl)
theorem dX4_keep_32 : decode cX4_keep 32 = .ok (.iload_n 3, 1) := dk_29 (dk_at dksX4_keep_1 8 rfl rfl)
theorem dX4_keep_33 : decode cX4_keep 33 = .ok (.i2l, 1) := dk_133 (dk_at dksX4_keep_1 9 rfl rfl)
theorem dX4_keep_34 : decode cX4_keep 34 = .ok (.lconst 0, 1) := dk_9 (dk_at dksX4_keep_1 10 rfl rfl)
theorem dX4_keep_35 : decode cX4_keep 35 = .ok (.ldc2_w 205, 3) := dk_20 0 205 (dk_at dksX4_keep_1 11 rfl rfl)
theorem dX4_keep_38 : decode cX4_keep 38 = .ok (.invokestatic 77, 3) := dk_184 0 77 (dk_at dksX4_keep_1 14 rfl rfl)
theorem dX4_keep_41 : decode cX4_keep 41 = .ok (.ifCond .eq 16, 3) := dk_153 0 16 (dk_at dksX4_keep_1 17 rfl rfl)
theorem dX4_keep_44 : decode cX4_keep 44 = .ok (.iload 4, 2) := dk_21 4 (dk_at dksX4_keep_1 20 rfl rfl)
theorem dX4_keep_46 : decode cX4_keep 46 = .ok (.i2l, 1) := dk_133 (dk_at dksX4_keep_1 22 rfl rfl)
theorem dX4_keep_47 : decode cX4_keep 47 = .ok (.lconst 0, 1) := dk_9 (dk_at dksX4_keep_1 23 rfl rfl)
theorem dX4_keep_48 : decode cX4_keep 48 = .ok (.ldc2_w 294, 3) := dk_20 1 38 (dk_at dksX4_keep_2 0 rfl rfl)
theorem dX4_keep_51 : decode cX4_keep 51 = .ok (.invokestatic 77, 3) := dk_184 0 77 (dk_at dksX4_keep_2 3 rfl rfl)
theorem dX4_keep_54 : decode cX4_keep 54 = .ok (.ifCond .ne 5, 3) := dk_154 0 5 (dk_at dksX4_keep_2 6 rfl rfl)
theorem dX4_keep_57 : decode cX4_keep 57 = .ok (.iconst (-1), 1) := dk_2 (dk_at dksX4_keep_2 9 rfl rfl)
theorem dX4_keep_58 : decode cX4_keep 58 = .ok (.ireturn, 1) := dk_172 (dk_at dksX4_keep_2 10 rfl rfl)
theorem dX4_keep_59 : decode cX4_keep 59 = .ok (.aload_n 0, 1) := dk_42 (dk_at dksX4_keep_2 11 rfl rfl)
theorem dX4_keep_60 : decode cX4_keep 60 = .ok (.getfield 25, 3) := dk_180 0 25 (dk_at dksX4_keep_2 12 rfl rfl)
theorem dX4_keep_63 : decode cX4_keep 63 = .ok (.iload_n 1, 1) := dk_27 (dk_at dksX4_keep_2 15 rfl rfl)
theorem dX4_keep_64 : decode cX4_keep 64 = .ok (.iload_n 2, 1) := dk_28 (dk_at dksX4_keep_2 16 rfl rfl)
theorem dX4_keep_65 : decode cX4_keep 65 = .ok (.iastore, 1) := dk_79 (dk_at dksX4_keep_2 17 rfl rfl)
theorem dX4_keep_66 : decode cX4_keep 66 = .ok (.aload_n 0, 1) := dk_42 (dk_at dksX4_keep_2 18 rfl rfl)
theorem dX4_keep_67 : decode cX4_keep 67 = .ok (.getfield 28, 3) := dk_180 0 28 (dk_at dksX4_keep_2 19 rfl rfl)
theorem dX4_keep_70 : decode cX4_keep 70 = .ok (.iload_n 1, 1) := dk_27 (dk_at dksX4_keep_2 22 rfl rfl)
theorem dX4_keep_71 : decode cX4_keep 71 = .ok (.iload_n 2, 1) := dk_28 (dk_at dksX4_keep_2 23 rfl rfl)
theorem dX4_keep_72 : decode cX4_keep 72 = .ok (.iconst 1, 1) := dk_4 (dk_at dksX4_keep_3 0 rfl rfl)
theorem dX4_keep_73 : decode cX4_keep 73 = .ok (.if_icmp .ne 7, 3) := dk_160 0 7 (dk_at dksX4_keep_3 1 rfl rfl)
theorem dX4_keep_76 : decode cX4_keep 76 = .ok (.iload_n 3, 1) := dk_29 (dk_at dksX4_keep_3 4 rfl rfl)
theorem dX4_keep_77 : decode cX4_keep 77 = .ok (.goto 4, 3) := dk_167 0 4 (dk_at dksX4_keep_3 5 rfl rfl)
theorem dX4_keep_80 : decode cX4_keep 80 = .ok (.iconst 0, 1) := dk_3 (dk_at dksX4_keep_3 8 rfl rfl)
theorem dX4_keep_81 : decode cX4_keep 81 = .ok (.iastore, 1) := dk_79 (dk_at dksX4_keep_3 9 rfl rfl)
theorem dX4_keep_82 : decode cX4_keep 82 = .ok (.aload_n 0, 1) := dk_42 (dk_at dksX4_keep_3 10 rfl rfl)
theorem dX4_keep_83 : decode cX4_keep 83 = .ok (.getfield 31, 3) := dk_180 0 31 (dk_at dksX4_keep_3 11 rfl rfl)
theorem dX4_keep_86 : decode cX4_keep 86 = .ok (.iload_n 1, 1) := dk_27 (dk_at dksX4_keep_3 14 rfl rfl)
theorem dX4_keep_87 : decode cX4_keep 87 = .ok (.iload_n 2, 1) := dk_28 (dk_at dksX4_keep_3 15 rfl rfl)
theorem dX4_keep_88 : decode cX4_keep 88 = .ok (.iconst 1, 1) := dk_4 (dk_at dksX4_keep_3 16 rfl rfl)
theorem dX4_keep_89 : decode cX4_keep 89 = .ok (.if_icmp .ne 8, 3) := dk_160 0 8 (dk_at dksX4_keep_3 17 rfl rfl)
theorem dX4_keep_92 : decode cX4_keep 92 = .ok (.iload 4, 2) := dk_21 4 (dk_at dksX4_keep_3 20 rfl rfl)
theorem dX4_keep_94 : decode cX4_keep 94 = .ok (.goto 4, 3) := dk_167 0 4 (dk_at dksX4_keep_4 0 rfl rfl)
theorem dX4_keep_97 : decode cX4_keep 97 = .ok (.iconst 0, 1) := dk_3 (dk_at dksX4_keep_4 3 rfl rfl)
theorem dX4_keep_98 : decode cX4_keep 98 = .ok (.iastore, 1) := dk_79 (dk_at dksX4_keep_4 4 rfl rfl)
theorem dX4_keep_99 : decode cX4_keep 99 = .ok (.iconst 0, 1) := dk_3 (dk_at dksX4_keep_4 5 rfl rfl)
theorem dX4_keep_100 : decode cX4_keep 100 = .ok (.ireturn, 1) := dk_172 (dk_at dksX4_keep_4 6 rfl rfl)
abbrev cX4_row : ByteArray := prog_21_method_81_code
def yX4_row : MethodName := ⟨RX4, "row", "(III)I"⟩
def dkwX4_row_4 : List UInt8 := [167, 255, 233, 3, 172]
abbrev dktX4_row_4 : List UInt8 := dkwX4_row_4 ++ []
def dkwX4_row_3 : List UInt8 := [21, 4, 16, 100, 162, 0, 22, 42, 180, 0, 40, 16, 100, 27, 104, 21, 4, 96, 9, 80, 132, 4, 1]
abbrev dktX4_row_3 : List UInt8 := dkwX4_row_3 ++ dktX4_row_4
def dkwX4_row_2 : List UInt8 := [180, 0, 25, 27, 5, 79, 42, 180, 0, 34, 27, 28, 79, 42, 180, 0, 37, 27, 29, 79, 3, 54, 4]
abbrev dktX4_row_2 : List UInt8 := dkwX4_row_2 ++ dktX4_row_3
def dkwX4_row_1 : List UInt8 := [184, 0, 77, 153, 0, 9, 29, 16, 100, 164, 0, 5, 2, 172, 29, 156, 0, 6, 16, 242, 172, 42]
abbrev dktX4_row_1 : List UInt8 := dkwX4_row_1 ++ dktX4_row_2
def dkwX4_row_0 : List UInt8 := [42, 3, 181, 0, 71, 27, 133, 9, 20, 0, 205, 184, 0, 77, 153, 0, 21, 28, 133, 9, 20, 1, 14]
abbrev dktX4_row_0 : List UInt8 := dkwX4_row_0 ++ dktX4_row_1
theorem dksX4_row_0 : cX4_row.data.toList.drop 0 = dktX4_row_0 := by decide +kernel
theorem dksX4_row_1 : cX4_row.data.toList.drop 23 = dktX4_row_1 := dk_seg dksX4_row_0 23 rfl rfl
theorem dksX4_row_2 : cX4_row.data.toList.drop 45 = dktX4_row_2 := dk_seg dksX4_row_1 22 rfl rfl
theorem dksX4_row_3 : cX4_row.data.toList.drop 68 = dktX4_row_3 := dk_seg dksX4_row_2 23 rfl rfl
theorem dksX4_row_4 : cX4_row.data.toList.drop 91 = dktX4_row_4 := dk_seg dksX4_row_3 23 rfl rfl
theorem dX4_row_0 : decode cX4_row 0 = .ok (.aload_n 0, 1) := dk_42 (dk_at dksX4_row_0 0 rfl rfl)
theorem dX4_row_1 : decode cX4_row 1 = .ok (.iconst 0, 1) := dk_3 (dk_at dksX4_row_0 1 rfl rfl)
theorem dX4_row_2 : decode cX4_row 2 = .ok (.putfield 71, 3) := dk_181 0 71 (dk_at dksX4_row_0 2 rfl rfl)
theorem dX4_row_5 : decode cX4_row 5 = .ok (.iload_n 1, 1) := dk_27 (dk_at dksX4_row_0 5 rfl rfl)
theorem dX4_row_6 : decode cX4_row 6 = .ok (.i2l, 1) := dk_133 (dk_at dksX4_row_0 6 rfl rfl)
theorem dX4_row_7 : decode cX4_row 7 = .ok (.lconst 0, 1) := dk_9 (dk_at dksX4_row_0 7 rfl rfl)
theorem dX4_row_8 : decode cX4_row 8 = .ok (.ldc2_w 205, 3) := dk_20 0 205 (dk_at dksX4_row_0 8 rfl rfl)
theorem dX4_row_11 : decode cX4_row 11 = .ok (.invokestatic 77, 3) := dk_184 0 77 (dk_at dksX4_row_0 11 rfl rfl)
theorem dX4_row_14 : decode cX4_row 14 = .ok (.ifCond .eq 21, 3) := dk_153 0 21 (dk_at dksX4_row_0 14 rfl rfl)
theorem dX4_row_17 : decode cX4_row 17 = .ok (.iload_n 2, 1) := dk_28 (dk_at dksX4_row_0 17 rfl rfl)
theorem dX4_row_18 : decode cX4_row 18 = .ok (.i2l, 1) := dk_133 (dk_at dksX4_row_0 18 rfl rfl)
theorem dX4_row_19 : decode cX4_row 19 = .ok (.lconst 0, 1) := dk_9 (dk_at dksX4_row_0 19 rfl rfl)
theorem dX4_row_20 : decode cX4_row 20 = .ok (.ldc2_w 270, 3) := dk_20 1 14 (dk_at dksX4_row_0 20 rfl rfl)
theorem dX4_row_23 : decode cX4_row 23 = .ok (.invokestatic 77, 3) := dk_184 0 77 (dk_at dksX4_row_1 0 rfl rfl)
theorem dX4_row_26 : decode cX4_row 26 = .ok (.ifCond .eq 9, 3) := dk_153 0 9 (dk_at dksX4_row_1 3 rfl rfl)
theorem dX4_row_29 : decode cX4_row 29 = .ok (.iload_n 3, 1) := dk_29 (dk_at dksX4_row_1 6 rfl rfl)
theorem dX4_row_30 : decode cX4_row 30 = .ok (.bipush 100, 2) := dk_16 100 (dk_at dksX4_row_1 7 rfl rfl)
theorem dX4_row_32 : decode cX4_row 32 = .ok (.if_icmp .le 5, 3) := dk_164 0 5 (dk_at dksX4_row_1 9 rfl rfl)
theorem dX4_row_35 : decode cX4_row 35 = .ok (.iconst (-1), 1) := dk_2 (dk_at dksX4_row_1 12 rfl rfl)
theorem dX4_row_36 : decode cX4_row 36 = .ok (.ireturn, 1) := dk_172 (dk_at dksX4_row_1 13 rfl rfl)
theorem dX4_row_37 : decode cX4_row 37 = .ok (.iload_n 3, 1) := dk_29 (dk_at dksX4_row_1 14 rfl rfl)
theorem dX4_row_38 : decode cX4_row 38 = .ok (.ifCond .ge 6, 3) := dk_156 0 6 (dk_at dksX4_row_1 15 rfl rfl)
theorem dX4_row_41 : decode cX4_row 41 = .ok (.bipush (-14), 2) := dk_16 242 (dk_at dksX4_row_1 18 rfl rfl)
theorem dX4_row_43 : decode cX4_row 43 = .ok (.ireturn, 1) := dk_172 (dk_at dksX4_row_1 20 rfl rfl)
theorem dX4_row_44 : decode cX4_row 44 = .ok (.aload_n 0, 1) := dk_42 (dk_at dksX4_row_1 21 rfl rfl)
theorem dX4_row_45 : decode cX4_row 45 = .ok (.getfield 25, 3) := dk_180 0 25 (dk_at dksX4_row_2 0 rfl rfl)
theorem dX4_row_48 : decode cX4_row 48 = .ok (.iload_n 1, 1) := dk_27 (dk_at dksX4_row_2 3 rfl rfl)
theorem dX4_row_49 : decode cX4_row 49 = .ok (.iconst 2, 1) := dk_5 (dk_at dksX4_row_2 4 rfl rfl)
theorem dX4_row_50 : decode cX4_row 50 = .ok (.iastore, 1) := dk_79 (dk_at dksX4_row_2 5 rfl rfl)
theorem dX4_row_51 : decode cX4_row 51 = .ok (.aload_n 0, 1) := dk_42 (dk_at dksX4_row_2 6 rfl rfl)
theorem dX4_row_52 : decode cX4_row 52 = .ok (.getfield 34, 3) := dk_180 0 34 (dk_at dksX4_row_2 7 rfl rfl)
theorem dX4_row_55 : decode cX4_row 55 = .ok (.iload_n 1, 1) := dk_27 (dk_at dksX4_row_2 10 rfl rfl)
theorem dX4_row_56 : decode cX4_row 56 = .ok (.iload_n 2, 1) := dk_28 (dk_at dksX4_row_2 11 rfl rfl)
theorem dX4_row_57 : decode cX4_row 57 = .ok (.iastore, 1) := dk_79 (dk_at dksX4_row_2 12 rfl rfl)
theorem dX4_row_58 : decode cX4_row 58 = .ok (.aload_n 0, 1) := dk_42 (dk_at dksX4_row_2 13 rfl rfl)
theorem dX4_row_59 : decode cX4_row 59 = .ok (.getfield 37, 3) := dk_180 0 37 (dk_at dksX4_row_2 14 rfl rfl)
theorem dX4_row_62 : decode cX4_row 62 = .ok (.iload_n 1, 1) := dk_27 (dk_at dksX4_row_2 17 rfl rfl)
theorem dX4_row_63 : decode cX4_row 63 = .ok (.iload_n 3, 1) := dk_29 (dk_at dksX4_row_2 18 rfl rfl)
theorem dX4_row_64 : decode cX4_row 64 = .ok (.iastore, 1) := dk_79 (dk_at dksX4_row_2 19 rfl rfl)
theorem dX4_row_65 : decode cX4_row 65 = .ok (.iconst 0, 1) := dk_3 (dk_at dksX4_row_2 20 rfl rfl)
theorem dX4_row_66 : decode cX4_row 66 = .ok (.istore 4, 2) := dk_54 4 (dk_at dksX4_row_2 21 rfl rfl)
theorem dX4_row_68 : decode cX4_row 68 = .ok (.iload 4, 2) := dk_21 4 (dk_at dksX4_row_3 0 rfl rfl)
theorem dX4_row_70 : decode cX4_row 70 = .ok (.bipush 100, 2) := dk_16 100 (dk_at dksX4_row_3 2 rfl rfl)
theorem dX4_row_72 : decode cX4_row 72 = .ok (.if_icmp .ge 22, 3) := dk_162 0 22 (dk_at dksX4_row_3 4 rfl rfl)
theorem dX4_row_75 : decode cX4_row 75 = .ok (.aload_n 0, 1) := dk_42 (dk_at dksX4_row_3 7 rfl rfl)
theorem dX4_row_76 : decode cX4_row 76 = .ok (.getfield 40, 3) := dk_180 0 40 (dk_at dksX4_row_3 8 rfl rfl)
theorem dX4_row_79 : decode cX4_row 79 = .ok (.bipush 100, 2) := dk_16 100 (dk_at dksX4_row_3 11 rfl rfl)
theorem dX4_row_81 : decode cX4_row 81 = .ok (.iload_n 1, 1) := dk_27 (dk_at dksX4_row_3 13 rfl rfl)
theorem dX4_row_82 : decode cX4_row 82 = .ok (.imul, 1) := dk_104 (dk_at dksX4_row_3 14 rfl rfl)
theorem dX4_row_83 : decode cX4_row 83 = .ok (.iload 4, 2) := dk_21 4 (dk_at dksX4_row_3 15 rfl rfl)
theorem dX4_row_85 : decode cX4_row 85 = .ok (.iadd, 1) := dk_96 (dk_at dksX4_row_3 17 rfl rfl)
theorem dX4_row_86 : decode cX4_row 86 = .ok (.lconst 0, 1) := dk_9 (dk_at dksX4_row_3 18 rfl rfl)
theorem dX4_row_87 : decode cX4_row 87 = .ok (.lastore, 1) := dk_80 (dk_at dksX4_row_3 19 rfl rfl)
theorem dX4_row_88 : decode cX4_row 88 = .ok (.iinc 4 1, 3) := dk_132 4 1 (dk_at dksX4_row_3 20 rfl rfl)
theorem dX4_row_91 : decode cX4_row 91 = .ok (.goto (-23), 3) := dk_167 255 233 (dk_at dksX4_row_4 0 rfl rfl)
theorem dX4_row_94 : decode cX4_row 94 = .ok (.iconst 0, 1) := dk_3 (dk_at dksX4_row_4 3 rfl rfl)
theorem dX4_row_95 : decode cX4_row 95 = .ok (.ireturn, 1) := dk_172 (dk_at dksX4_row_4 4 rfl rfl)
abbrev cX4_put : ByteArray := prog_21_method_82_code
def yX4_put : MethodName := ⟨RX4, "put", "(III)I"⟩
def dkwX4_put_2 : List UInt8 := [104, 28, 96, 29, 42, 180, 0, 34, 27, 46, 184, 1, 40, 80, 3, 172]
abbrev dktX4_put_2 : List UInt8 := dkwX4_put_2 ++ []
def dkwX4_put_1 : List UInt8 := [180, 0, 37, 27, 46, 4, 100, 133, 184, 0, 77, 154, 0, 6, 16, 243, 172, 42, 180, 0, 40, 16, 100, 27]
abbrev dktX4_put_1 : List UInt8 := dkwX4_put_1 ++ dktX4_put_2
def dkwX4_put_0 : List UInt8 := [42, 3, 181, 0, 71, 42, 27, 182, 0, 171, 54, 4, 21, 4, 156, 0, 6, 21, 4, 172, 28, 133, 9, 42]
abbrev dktX4_put_0 : List UInt8 := dkwX4_put_0 ++ dktX4_put_1
theorem dksX4_put_0 : cX4_put.data.toList.drop 0 = dktX4_put_0 := by decide +kernel
theorem dksX4_put_1 : cX4_put.data.toList.drop 24 = dktX4_put_1 := dk_seg dksX4_put_0 24 rfl rfl
theorem dksX4_put_2 : cX4_put.data.toList.drop 48 = dktX4_put_2 := dk_seg dksX4_put_1 24 rfl rfl
theorem dX4_put_0 : decode cX4_put 0 = .ok (.aload_n 0, 1) := dk_42 (dk_at dksX4_put_0 0 rfl rfl)
theorem dX4_put_1 : decode cX4_put 1 = .ok (.iconst 0, 1) := dk_3 (dk_at dksX4_put_0 1 rfl rfl)
theorem dX4_put_2 : decode cX4_put 2 = .ok (.putfield 71, 3) := dk_181 0 71 (dk_at dksX4_put_0 2 rfl rfl)
theorem dX4_put_5 : decode cX4_put 5 = .ok (.aload_n 0, 1) := dk_42 (dk_at dksX4_put_0 5 rfl rfl)
theorem dX4_put_6 : decode cX4_put 6 = .ok (.iload_n 1, 1) := dk_27 (dk_at dksX4_put_0 6 rfl rfl)
theorem dX4_put_7 : decode cX4_put 7 = .ok (.invokevirtual 171, 3) := dk_182 0 171 (dk_at dksX4_put_0 7 rfl rfl)
theorem dX4_put_10 : decode cX4_put 10 = .ok (.istore 4, 2) := dk_54 4 (dk_at dksX4_put_0 10 rfl rfl)
theorem dX4_put_12 : decode cX4_put 12 = .ok (.iload 4, 2) := dk_21 4 (dk_at dksX4_put_0 12 rfl rfl)
theorem dX4_put_14 : decode cX4_put 14 = .ok (.ifCond .ge 6, 3) := dk_156 0 6 (dk_at dksX4_put_0 14 rfl rfl)
theorem dX4_put_17 : decode cX4_put 17 = .ok (.iload 4, 2) := dk_21 4 (dk_at dksX4_put_0 17 rfl rfl)
theorem dX4_put_19 : decode cX4_put 19 = .ok (.ireturn, 1) := dk_172 (dk_at dksX4_put_0 19 rfl rfl)
theorem dX4_put_20 : decode cX4_put 20 = .ok (.iload_n 2, 1) := dk_28 (dk_at dksX4_put_0 20 rfl rfl)
theorem dX4_put_21 : decode cX4_put 21 = .ok (.i2l, 1) := dk_133 (dk_at dksX4_put_0 21 rfl rfl)
theorem dX4_put_22 : decode cX4_put 22 = .ok (.lconst 0, 1) := dk_9 (dk_at dksX4_put_0 22 rfl rfl)
theorem dX4_put_23 : decode cX4_put 23 = .ok (.aload_n 0, 1) := dk_42 (dk_at dksX4_put_0 23 rfl rfl)
theorem dX4_put_24 : decode cX4_put 24 = .ok (.getfield 37, 3) := dk_180 0 37 (dk_at dksX4_put_1 0 rfl rfl)
theorem dX4_put_27 : decode cX4_put 27 = .ok (.iload_n 1, 1) := dk_27 (dk_at dksX4_put_1 3 rfl rfl)
theorem dX4_put_28 : decode cX4_put 28 = .ok (.iaload, 1) := dk_46 (dk_at dksX4_put_1 4 rfl rfl)
theorem dX4_put_29 : decode cX4_put 29 = .ok (.iconst 1, 1) := dk_4 (dk_at dksX4_put_1 5 rfl rfl)
theorem dX4_put_30 : decode cX4_put 30 = .ok (.isub, 1) := dk_100 (dk_at dksX4_put_1 6 rfl rfl)
theorem dX4_put_31 : decode cX4_put 31 = .ok (.i2l, 1) := dk_133 (dk_at dksX4_put_1 7 rfl rfl)
theorem dX4_put_32 : decode cX4_put 32 = .ok (.invokestatic 77, 3) := dk_184 0 77 (dk_at dksX4_put_1 8 rfl rfl)
theorem dX4_put_35 : decode cX4_put 35 = .ok (.ifCond .ne 6, 3) := dk_154 0 6 (dk_at dksX4_put_1 11 rfl rfl)
theorem dX4_put_38 : decode cX4_put 38 = .ok (.bipush (-13), 2) := dk_16 243 (dk_at dksX4_put_1 14 rfl rfl)
theorem dX4_put_40 : decode cX4_put 40 = .ok (.ireturn, 1) := dk_172 (dk_at dksX4_put_1 16 rfl rfl)
theorem dX4_put_41 : decode cX4_put 41 = .ok (.aload_n 0, 1) := dk_42 (dk_at dksX4_put_1 17 rfl rfl)
theorem dX4_put_42 : decode cX4_put 42 = .ok (.getfield 40, 3) := dk_180 0 40 (dk_at dksX4_put_1 18 rfl rfl)
theorem dX4_put_45 : decode cX4_put 45 = .ok (.bipush 100, 2) := dk_16 100 (dk_at dksX4_put_1 21 rfl rfl)
theorem dX4_put_47 : decode cX4_put 47 = .ok (.iload_n 1, 1) := dk_27 (dk_at dksX4_put_1 23 rfl rfl)
theorem dX4_put_48 : decode cX4_put 48 = .ok (.imul, 1) := dk_104 (dk_at dksX4_put_2 0 rfl rfl)
theorem dX4_put_49 : decode cX4_put 49 = .ok (.iload_n 2, 1) := dk_28 (dk_at dksX4_put_2 1 rfl rfl)
theorem dX4_put_50 : decode cX4_put 50 = .ok (.iadd, 1) := dk_96 (dk_at dksX4_put_2 2 rfl rfl)
theorem dX4_put_51 : decode cX4_put 51 = .ok (.iload_n 3, 1) := dk_29 (dk_at dksX4_put_2 3 rfl rfl)
theorem dX4_put_52 : decode cX4_put 52 = .ok (.aload_n 0, 1) := dk_42 (dk_at dksX4_put_2 4 rfl rfl)
theorem dX4_put_53 : decode cX4_put 53 = .ok (.getfield 34, 3) := dk_180 0 34 (dk_at dksX4_put_2 5 rfl rfl)
theorem dX4_put_56 : decode cX4_put 56 = .ok (.iload_n 1, 1) := dk_27 (dk_at dksX4_put_2 8 rfl rfl)
theorem dX4_put_57 : decode cX4_put 57 = .ok (.iaload, 1) := dk_46 (dk_at dksX4_put_2 9 rfl rfl)
theorem dX4_put_58 : decode cX4_put 58 = .ok (.invokestatic 296, 3) := dk_184 1 40 (dk_at dksX4_put_2 10 rfl rfl)
theorem dX4_put_61 : decode cX4_put 61 = .ok (.lastore, 1) := dk_80 (dk_at dksX4_put_2 13 rfl rfl)
theorem dX4_put_62 : decode cX4_put 62 = .ok (.iconst 0, 1) := dk_3 (dk_at dksX4_put_2 14 rfl rfl)
theorem dX4_put_63 : decode cX4_put 63 = .ok (.ireturn, 1) := dk_172 (dk_at dksX4_put_2 15 rfl rfl)
abbrev cX4_narrowed : ByteArray := prog_21_method_80_code
def yX4_narrowed : MethodName := ⟨RX4, "narrowed", "(II)J"⟩
def dkwX4_narrowed_0 : List UInt8 := [27, 154, 0, 9, 26, 145, 133, 167, 0, 16, 27, 4, 160, 0, 9, 26, 147, 133, 167, 0, 5, 26, 133, 173]
abbrev dktX4_narrowed_0 : List UInt8 := dkwX4_narrowed_0 ++ []
theorem dksX4_narrowed_0 : cX4_narrowed.data.toList.drop 0 = dktX4_narrowed_0 := by decide +kernel
theorem dX4_narrowed_0 : decode cX4_narrowed 0 = .ok (.iload_n 1, 1) := dk_27 (dk_at dksX4_narrowed_0 0 rfl rfl)
theorem dX4_narrowed_1 : decode cX4_narrowed 1 = .ok (.ifCond .ne 9, 3) := dk_154 0 9 (dk_at dksX4_narrowed_0 1 rfl rfl)
theorem dX4_narrowed_4 : decode cX4_narrowed 4 = .ok (.iload_n 0, 1) := dk_26 (dk_at dksX4_narrowed_0 4 rfl rfl)
theorem dX4_narrowed_5 : decode cX4_narrowed 5 = .ok (.i2b, 1) := dk_145 (dk_at dksX4_narrowed_0 5 rfl rfl)
theorem dX4_narrowed_6 : decode cX4_narrowed 6 = .ok (.i2l, 1) := dk_133 (dk_at dksX4_narrowed_0 6 rfl rfl)
theorem dX4_narrowed_7 : decode cX4_narrowed 7 = .ok (.goto 16, 3) := dk_167 0 16 (dk_at dksX4_narrowed_0 7 rfl rfl)
theorem dX4_narrowed_10 : decode cX4_narrowed 10 = .ok (.iload_n 1, 1) := dk_27 (dk_at dksX4_narrowed_0 10 rfl rfl)
theorem dX4_narrowed_11 : decode cX4_narrowed 11 = .ok (.iconst 1, 1) := dk_4 (dk_at dksX4_narrowed_0 11 rfl rfl)
theorem dX4_narrowed_12 : decode cX4_narrowed 12 = .ok (.if_icmp .ne 9, 3) := dk_160 0 9 (dk_at dksX4_narrowed_0 12 rfl rfl)
theorem dX4_narrowed_15 : decode cX4_narrowed 15 = .ok (.iload_n 0, 1) := dk_26 (dk_at dksX4_narrowed_0 15 rfl rfl)
theorem dX4_narrowed_16 : decode cX4_narrowed 16 = .ok (.i2s, 1) := dk_147 (dk_at dksX4_narrowed_0 16 rfl rfl)
theorem dX4_narrowed_17 : decode cX4_narrowed 17 = .ok (.i2l, 1) := dk_133 (dk_at dksX4_narrowed_0 17 rfl rfl)
theorem dX4_narrowed_18 : decode cX4_narrowed 18 = .ok (.goto 5, 3) := dk_167 0 5 (dk_at dksX4_narrowed_0 18 rfl rfl)
theorem dX4_narrowed_21 : decode cX4_narrowed 21 = .ok (.iload_n 0, 1) := dk_26 (dk_at dksX4_narrowed_0 21 rfl rfl)
theorem dX4_narrowed_22 : decode cX4_narrowed 22 = .ok (.i2l, 1) := dk_133 (dk_at dksX4_narrowed_0 22 rfl rfl)
theorem dX4_narrowed_23 : decode cX4_narrowed 23 = .ok (.lreturn, 1) := dk_173 (dk_at dksX4_narrowed_0 23 rfl rfl)
abbrev cX4_element : ByteArray := prog_21_method_83_code
def yX4_element : MethodName := ⟨RX4, "element", "(II)J"⟩
def dkwX4_element_2 : List UInt8 := [180, 0, 71, 158, 0, 7, 9, 167, 0, 14, 42, 180, 0, 40, 16, 100, 27, 104, 28, 96, 47, 173]
abbrev dktX4_element_2 : List UInt8 := dkwX4_element_2 ++ []
def dkwX4_element_1 : List UInt8 := [180, 0, 37, 27, 46, 4, 100, 133, 184, 0, 77, 154, 0, 7, 5, 167, 0, 4, 3, 181, 0, 71, 42]
abbrev dktX4_element_1 : List UInt8 := dkwX4_element_1 ++ dktX4_element_2
def dkwX4_element_0 : List UInt8 := [42, 27, 182, 0, 171, 62, 42, 29, 2, 160, 0, 7, 4, 167, 0, 30, 29, 155, 0, 21, 28, 133, 9, 42]
abbrev dktX4_element_0 : List UInt8 := dkwX4_element_0 ++ dktX4_element_1
theorem dksX4_element_0 : cX4_element.data.toList.drop 0 = dktX4_element_0 := by decide +kernel
theorem dksX4_element_1 : cX4_element.data.toList.drop 24 = dktX4_element_1 := dk_seg dksX4_element_0 24 rfl rfl
theorem dksX4_element_2 : cX4_element.data.toList.drop 47 = dktX4_element_2 := dk_seg dksX4_element_1 23 rfl rfl
theorem dX4_element_0 : decode cX4_element 0 = .ok (.aload_n 0, 1) := dk_42 (dk_at dksX4_element_0 0 rfl rfl)
theorem dX4_element_1 : decode cX4_element 1 = .ok (.iload_n 1, 1) := dk_27 (dk_at dksX4_element_0 1 rfl rfl)
theorem dX4_element_2 : decode cX4_element 2 = .ok (.invokevirtual 171, 3) := dk_182 0 171 (dk_at dksX4_element_0 2 rfl rfl)
theorem dX4_element_5 : decode cX4_element 5 = .ok (.istore_n 3, 1) := dk_62 (dk_at dksX4_element_0 5 rfl rfl)
theorem dX4_element_6 : decode cX4_element 6 = .ok (.aload_n 0, 1) := dk_42 (dk_at dksX4_element_0 6 rfl rfl)
theorem dX4_element_7 : decode cX4_element 7 = .ok (.iload_n 3, 1) := dk_29 (dk_at dksX4_element_0 7 rfl rfl)
theorem dX4_element_8 : decode cX4_element 8 = .ok (.iconst (-1), 1) := dk_2 (dk_at dksX4_element_0 8 rfl rfl)
theorem dX4_element_9 : decode cX4_element 9 = .ok (.if_icmp .ne 7, 3) := dk_160 0 7 (dk_at dksX4_element_0 9 rfl rfl)
theorem dX4_element_12 : decode cX4_element 12 = .ok (.iconst 1, 1) := dk_4 (dk_at dksX4_element_0 12 rfl rfl)
theorem dX4_element_13 : decode cX4_element 13 = .ok (.goto 30, 3) := dk_167 0 30 (dk_at dksX4_element_0 13 rfl rfl)
theorem dX4_element_16 : decode cX4_element 16 = .ok (.iload_n 3, 1) := dk_29 (dk_at dksX4_element_0 16 rfl rfl)
theorem dX4_element_17 : decode cX4_element 17 = .ok (.ifCond .lt 21, 3) := dk_155 0 21 (dk_at dksX4_element_0 17 rfl rfl)
theorem dX4_element_20 : decode cX4_element 20 = .ok (.iload_n 2, 1) := dk_28 (dk_at dksX4_element_0 20 rfl rfl)
theorem dX4_element_21 : decode cX4_element 21 = .ok (.i2l, 1) := dk_133 (dk_at dksX4_element_0 21 rfl rfl)
theorem dX4_element_22 : decode cX4_element 22 = .ok (.lconst 0, 1) := dk_9 (dk_at dksX4_element_0 22 rfl rfl)
theorem dX4_element_23 : decode cX4_element 23 = .ok (.aload_n 0, 1) := dk_42 (dk_at dksX4_element_0 23 rfl rfl)
theorem dX4_element_24 : decode cX4_element 24 = .ok (.getfield 37, 3) := dk_180 0 37 (dk_at dksX4_element_1 0 rfl rfl)
theorem dX4_element_27 : decode cX4_element 27 = .ok (.iload_n 1, 1) := dk_27 (dk_at dksX4_element_1 3 rfl rfl)
theorem dX4_element_28 : decode cX4_element 28 = .ok (.iaload, 1) := dk_46 (dk_at dksX4_element_1 4 rfl rfl)
theorem dX4_element_29 : decode cX4_element 29 = .ok (.iconst 1, 1) := dk_4 (dk_at dksX4_element_1 5 rfl rfl)
theorem dX4_element_30 : decode cX4_element 30 = .ok (.isub, 1) := dk_100 (dk_at dksX4_element_1 6 rfl rfl)
theorem dX4_element_31 : decode cX4_element 31 = .ok (.i2l, 1) := dk_133 (dk_at dksX4_element_1 7 rfl rfl)
theorem dX4_element_32 : decode cX4_element 32 = .ok (.invokestatic 77, 3) := dk_184 0 77 (dk_at dksX4_element_1 8 rfl rfl)
theorem dX4_element_35 : decode cX4_element 35 = .ok (.ifCond .ne 7, 3) := dk_154 0 7 (dk_at dksX4_element_1 11 rfl rfl)
theorem dX4_element_38 : decode cX4_element 38 = .ok (.iconst 2, 1) := dk_5 (dk_at dksX4_element_1 14 rfl rfl)
theorem dX4_element_39 : decode cX4_element 39 = .ok (.goto 4, 3) := dk_167 0 4 (dk_at dksX4_element_1 15 rfl rfl)
theorem dX4_element_42 : decode cX4_element 42 = .ok (.iconst 0, 1) := dk_3 (dk_at dksX4_element_1 18 rfl rfl)
theorem dX4_element_43 : decode cX4_element 43 = .ok (.putfield 71, 3) := dk_181 0 71 (dk_at dksX4_element_1 19 rfl rfl)
theorem dX4_element_46 : decode cX4_element 46 = .ok (.aload_n 0, 1) := dk_42 (dk_at dksX4_element_1 22 rfl rfl)
theorem dX4_element_47 : decode cX4_element 47 = .ok (.getfield 71, 3) := dk_180 0 71 (dk_at dksX4_element_2 0 rfl rfl)
theorem dX4_element_50 : decode cX4_element 50 = .ok (.ifCond .le 7, 3) := dk_158 0 7 (dk_at dksX4_element_2 3 rfl rfl)
theorem dX4_element_53 : decode cX4_element 53 = .ok (.lconst 0, 1) := dk_9 (dk_at dksX4_element_2 6 rfl rfl)
theorem dX4_element_54 : decode cX4_element 54 = .ok (.goto 14, 3) := dk_167 0 14 (dk_at dksX4_element_2 7 rfl rfl)
theorem dX4_element_57 : decode cX4_element 57 = .ok (.aload_n 0, 1) := dk_42 (dk_at dksX4_element_2 10 rfl rfl)
theorem dX4_element_58 : decode cX4_element 58 = .ok (.getfield 40, 3) := dk_180 0 40 (dk_at dksX4_element_2 11 rfl rfl)
theorem dX4_element_61 : decode cX4_element 61 = .ok (.bipush 100, 2) := dk_16 100 (dk_at dksX4_element_2 14 rfl rfl)
theorem dX4_element_63 : decode cX4_element 63 = .ok (.iload_n 1, 1) := dk_27 (dk_at dksX4_element_2 16 rfl rfl)
theorem dX4_element_64 : decode cX4_element 64 = .ok (.imul, 1) := dk_104 (dk_at dksX4_element_2 17 rfl rfl)
theorem dX4_element_65 : decode cX4_element 65 = .ok (.iload_n 2, 1) := dk_28 (dk_at dksX4_element_2 18 rfl rfl)
theorem dX4_element_66 : decode cX4_element 66 = .ok (.iadd, 1) := dk_96 (dk_at dksX4_element_2 19 rfl rfl)
theorem dX4_element_67 : decode cX4_element 67 = .ok (.laload, 1) := dk_47 (dk_at dksX4_element_2 20 rfl rfl)
theorem dX4_element_68 : decode cX4_element 68 = .ok (.lreturn, 1) := dk_173 (dk_at dksX4_element_2 21 rfl rfl)
abbrev cX4_copy : ByteArray := prog_21_method_84_code
def yX4_copy : MethodName := ⟨RX4, "copy", "(IIIII)I"⟩
def dkwX4_copy_9 : List UInt8 := [167, 255, 224, 21, 5, 172]
abbrev dktX4_copy_9 : List UInt8 := dkwX4_copy_9 ++ []
def dkwX4_copy_8 : List UInt8 := [180, 0, 40, 16, 100, 29, 104, 21, 4, 96, 21, 6, 96, 42, 180, 0, 68, 21, 6, 47, 80, 132, 6, 1]
abbrev dktX4_copy_8 : List UInt8 := dkwX4_copy_8 ++ dktX4_copy_9
def dkwX4_copy_7 : List UInt8 := [21, 6, 96, 47, 80, 132, 6, 1, 167, 255, 225, 3, 54, 6, 21, 6, 21, 5, 162, 0, 31, 42]
abbrev dktX4_copy_7 : List UInt8 := dkwX4_copy_7 ++ dktX4_copy_8
def dkwX4_copy_6 : List UInt8 := [21, 6, 21, 5, 162, 0, 30, 42, 180, 0, 68, 21, 6, 42, 180, 0, 40, 16, 100, 27, 104, 28, 96]
abbrev dktX4_copy_6 : List UInt8 := dkwX4_copy_6 ++ dktX4_copy_7
def dkwX4_copy_5 : List UInt8 := [163, 0, 17, 21, 4, 42, 180, 0, 37, 29, 46, 21, 5, 100, 164, 0, 6, 16, 243, 172, 3, 54, 6]
abbrev dktX4_copy_5 : List UInt8 := dkwX4_copy_5 ++ dktX4_copy_6
def dkwX4_copy_4 : List UInt8 := [155, 0, 39, 28, 155, 0, 35, 21, 4, 155, 0, 30, 28, 42, 180, 0, 37, 27, 46, 21, 5, 100]
abbrev dktX4_copy_4 : List UInt8 := dkwX4_copy_4 ++ dktX4_copy_5
def dkwX4_copy_3 : List UInt8 := [160, 0, 18, 42, 180, 0, 34, 27, 46, 42, 180, 0, 34, 29, 46, 159, 0, 6, 16, 244, 172, 21, 5]
abbrev dktX4_copy_3 : List UInt8 := dkwX4_copy_3 ++ dktX4_copy_4
def dkwX4_copy_2 : List UInt8 := [154, 0, 6, 16, 245, 172, 42, 180, 0, 25, 27, 46, 5, 160, 0, 28, 42, 180, 0, 25, 29, 46, 5]
abbrev dktX4_copy_2 : List UInt8 := dkwX4_copy_2 ++ dktX4_copy_3
def dkwX4_copy_1 : List UInt8 := [184, 0, 77, 154, 0, 5, 2, 172, 42, 180, 0, 25, 27, 46, 153, 0, 12, 42, 180, 0, 25, 29, 46]
abbrev dktX4_copy_1 : List UInt8 := dkwX4_copy_1 ++ dktX4_copy_2
def dkwX4_copy_0 : List UInt8 := [42, 3, 181, 0, 71, 27, 133, 9, 20, 0, 205, 184, 0, 77, 153, 0, 15, 29, 133, 9, 20, 0, 205]
abbrev dktX4_copy_0 : List UInt8 := dkwX4_copy_0 ++ dktX4_copy_1
theorem dksX4_copy_0 : cX4_copy.data.toList.drop 0 = dktX4_copy_0 := by decide +kernel
theorem dksX4_copy_1 : cX4_copy.data.toList.drop 23 = dktX4_copy_1 := dk_seg dksX4_copy_0 23 rfl rfl
theorem dksX4_copy_2 : cX4_copy.data.toList.drop 46 = dktX4_copy_2 := dk_seg dksX4_copy_1 23 rfl rfl
theorem dksX4_copy_3 : cX4_copy.data.toList.drop 69 = dktX4_copy_3 := dk_seg dksX4_copy_2 23 rfl rfl
theorem dksX4_copy_4 : cX4_copy.data.toList.drop 92 = dktX4_copy_4 := dk_seg dksX4_copy_3 23 rfl rfl
theorem dksX4_copy_5 : cX4_copy.data.toList.drop 114 = dktX4_copy_5 := dk_seg dksX4_copy_4 22 rfl rfl
theorem dksX4_copy_6 : cX4_copy.data.toList.drop 137 = dktX4_copy_6 := dk_seg dksX4_copy_5 23 rfl rfl
theorem dksX4_copy_7 : cX4_copy.data.toList.drop 160 = dktX4_copy_7 := dk_seg dksX4_copy_6 23 rfl rfl
theorem dksX4_copy_8 : cX4_copy.data.toList.drop 182 = dktX4_copy_8 := dk_seg dksX4_copy_7 22 rfl rfl
theorem dksX4_copy_9 : cX4_copy.data.toList.drop 206 = dktX4_copy_9 := dk_seg dksX4_copy_8 24 rfl rfl
theorem dX4_copy_0 : decode cX4_copy 0 = .ok (.aload_n 0, 1) := dk_42 (dk_at dksX4_copy_0 0 rfl rfl)
theorem dX4_copy_1 : decode cX4_copy 1 = .ok (.iconst 0, 1) := dk_3 (dk_at dksX4_copy_0 1 rfl rfl)
theorem dX4_copy_2 : decode cX4_copy 2 = .ok (.putfield 71, 3) := dk_181 0 71 (dk_at dksX4_copy_0 2 rfl rfl)
theorem dX4_copy_5 : decode cX4_copy 5 = .ok (.iload_n 1, 1) := dk_27 (dk_at dksX4_copy_0 5 rfl rfl)
theorem dX4_copy_6 : decode cX4_copy 6 = .ok (.i2l, 1) := dk_133 (dk_at dksX4_copy_0 6 rfl rfl)
theorem dX4_copy_7 : decode cX4_copy 7 = .ok (.lconst 0, 1) := dk_9 (dk_at dksX4_copy_0 7 rfl rfl)
theorem dX4_copy_8 : decode cX4_copy 8 = .ok (.ldc2_w 205, 3) := dk_20 0 205 (dk_at dksX4_copy_0 8 rfl rfl)
theorem dX4_copy_11 : decode cX4_copy 11 = .ok (.invokestatic 77, 3) := dk_184 0 77 (dk_at dksX4_copy_0 11 rfl rfl)
theorem dX4_copy_14 : decode cX4_copy 14 = .ok (.ifCond .eq 15, 3) := dk_153 0 15 (dk_at dksX4_copy_0 14 rfl rfl)
theorem dX4_copy_17 : decode cX4_copy 17 = .ok (.iload_n 3, 1) := dk_29 (dk_at dksX4_copy_0 17 rfl rfl)
theorem dX4_copy_18 : decode cX4_copy 18 = .ok (.i2l, 1) := dk_133 (dk_at dksX4_copy_0 18 rfl rfl)
theorem dX4_copy_19 : decode cX4_copy 19 = .ok (.lconst 0, 1) := dk_9 (dk_at dksX4_copy_0 19 rfl rfl)
theorem dX4_copy_20 : decode cX4_copy 20 = .ok (.ldc2_w 205, 3) := dk_20 0 205 (dk_at dksX4_copy_0 20 rfl rfl)
theorem dX4_copy_23 : decode cX4_copy 23 = .ok (.invokestatic 77, 3) := dk_184 0 77 (dk_at dksX4_copy_1 0 rfl rfl)
theorem dX4_copy_26 : decode cX4_copy 26 = .ok (.ifCond .ne 5, 3) := dk_154 0 5 (dk_at dksX4_copy_1 3 rfl rfl)
theorem dX4_copy_29 : decode cX4_copy 29 = .ok (.iconst (-1), 1) := dk_2 (dk_at dksX4_copy_1 6 rfl rfl)
theorem dX4_copy_30 : decode cX4_copy 30 = .ok (.ireturn, 1) := dk_172 (dk_at dksX4_copy_1 7 rfl rfl)
theorem dX4_copy_31 : decode cX4_copy 31 = .ok (.aload_n 0, 1) := dk_42 (dk_at dksX4_copy_1 8 rfl rfl)
theorem dX4_copy_32 : decode cX4_copy 32 = .ok (.getfield 25, 3) := dk_180 0 25 (dk_at dksX4_copy_1 9 rfl rfl)
theorem dX4_copy_35 : decode cX4_copy 35 = .ok (.iload_n 1, 1) := dk_27 (dk_at dksX4_copy_1 12 rfl rfl)
theorem dX4_copy_36 : decode cX4_copy 36 = .ok (.iaload, 1) := dk_46 (dk_at dksX4_copy_1 13 rfl rfl)
theorem dX4_copy_37 : decode cX4_copy 37 = .ok (.ifCond .eq 12, 3) := dk_153 0 12 (dk_at dksX4_copy_1 14 rfl rfl)
theorem dX4_copy_40 : decode cX4_copy 40 = .ok (.aload_n 0, 1) := dk_42 (dk_at dksX4_copy_1 17 rfl rfl)
theorem dX4_copy_41 : decode cX4_copy 41 = .ok (.getfield 25, 3) := dk_180 0 25 (dk_at dksX4_copy_1 18 rfl rfl)
theorem dX4_copy_44 : decode cX4_copy 44 = .ok (.iload_n 3, 1) := dk_29 (dk_at dksX4_copy_1 21 rfl rfl)
theorem dX4_copy_45 : decode cX4_copy 45 = .ok (.iaload, 1) := dk_46 (dk_at dksX4_copy_1 22 rfl rfl)
theorem dX4_copy_46 : decode cX4_copy 46 = .ok (.ifCond .ne 6, 3) := dk_154 0 6 (dk_at dksX4_copy_2 0 rfl rfl)
theorem dX4_copy_49 : decode cX4_copy 49 = .ok (.bipush (-11), 2) := dk_16 245 (dk_at dksX4_copy_2 3 rfl rfl)
theorem dX4_copy_51 : decode cX4_copy 51 = .ok (.ireturn, 1) := dk_172 (dk_at dksX4_copy_2 5 rfl rfl)
theorem dX4_copy_52 : decode cX4_copy 52 = .ok (.aload_n 0, 1) := dk_42 (dk_at dksX4_copy_2 6 rfl rfl)
theorem dX4_copy_53 : decode cX4_copy 53 = .ok (.getfield 25, 3) := dk_180 0 25 (dk_at dksX4_copy_2 7 rfl rfl)
theorem dX4_copy_56 : decode cX4_copy 56 = .ok (.iload_n 1, 1) := dk_27 (dk_at dksX4_copy_2 10 rfl rfl)
theorem dX4_copy_57 : decode cX4_copy 57 = .ok (.iaload, 1) := dk_46 (dk_at dksX4_copy_2 11 rfl rfl)
theorem dX4_copy_58 : decode cX4_copy 58 = .ok (.iconst 2, 1) := dk_5 (dk_at dksX4_copy_2 12 rfl rfl)
theorem dX4_copy_59 : decode cX4_copy 59 = .ok (.if_icmp .ne 28, 3) := dk_160 0 28 (dk_at dksX4_copy_2 13 rfl rfl)
theorem dX4_copy_62 : decode cX4_copy 62 = .ok (.aload_n 0, 1) := dk_42 (dk_at dksX4_copy_2 16 rfl rfl)
theorem dX4_copy_63 : decode cX4_copy 63 = .ok (.getfield 25, 3) := dk_180 0 25 (dk_at dksX4_copy_2 17 rfl rfl)
theorem dX4_copy_66 : decode cX4_copy 66 = .ok (.iload_n 3, 1) := dk_29 (dk_at dksX4_copy_2 20 rfl rfl)
theorem dX4_copy_67 : decode cX4_copy 67 = .ok (.iaload, 1) := dk_46 (dk_at dksX4_copy_2 21 rfl rfl)
theorem dX4_copy_68 : decode cX4_copy 68 = .ok (.iconst 2, 1) := dk_5 (dk_at dksX4_copy_2 22 rfl rfl)
theorem dX4_copy_69 : decode cX4_copy 69 = .ok (.if_icmp .ne 18, 3) := dk_160 0 18 (dk_at dksX4_copy_3 0 rfl rfl)
theorem dX4_copy_72 : decode cX4_copy 72 = .ok (.aload_n 0, 1) := dk_42 (dk_at dksX4_copy_3 3 rfl rfl)
theorem dX4_copy_73 : decode cX4_copy 73 = .ok (.getfield 34, 3) := dk_180 0 34 (dk_at dksX4_copy_3 4 rfl rfl)
theorem dX4_copy_76 : decode cX4_copy 76 = .ok (.iload_n 1, 1) := dk_27 (dk_at dksX4_copy_3 7 rfl rfl)
theorem dX4_copy_77 : decode cX4_copy 77 = .ok (.iaload, 1) := dk_46 (dk_at dksX4_copy_3 8 rfl rfl)
theorem dX4_copy_78 : decode cX4_copy 78 = .ok (.aload_n 0, 1) := dk_42 (dk_at dksX4_copy_3 9 rfl rfl)
theorem dX4_copy_79 : decode cX4_copy 79 = .ok (.getfield 34, 3) := dk_180 0 34 (dk_at dksX4_copy_3 10 rfl rfl)
theorem dX4_copy_82 : decode cX4_copy 82 = .ok (.iload_n 3, 1) := dk_29 (dk_at dksX4_copy_3 13 rfl rfl)
theorem dX4_copy_83 : decode cX4_copy 83 = .ok (.iaload, 1) := dk_46 (dk_at dksX4_copy_3 14 rfl rfl)
theorem dX4_copy_84 : decode cX4_copy 84 = .ok (.if_icmp .eq 6, 3) := dk_159 0 6 (dk_at dksX4_copy_3 15 rfl rfl)
theorem dX4_copy_87 : decode cX4_copy 87 = .ok (.bipush (-12), 2) := dk_16 244 (dk_at dksX4_copy_3 18 rfl rfl)
theorem dX4_copy_89 : decode cX4_copy 89 = .ok (.ireturn, 1) := dk_172 (dk_at dksX4_copy_3 20 rfl rfl)
theorem dX4_copy_90 : decode cX4_copy 90 = .ok (.iload 5, 2) := dk_21 5 (dk_at dksX4_copy_3 21 rfl rfl)
theorem dX4_copy_92 : decode cX4_copy 92 = .ok (.ifCond .lt 39, 3) := dk_155 0 39 (dk_at dksX4_copy_4 0 rfl rfl)
theorem dX4_copy_95 : decode cX4_copy 95 = .ok (.iload_n 2, 1) := dk_28 (dk_at dksX4_copy_4 3 rfl rfl)
theorem dX4_copy_96 : decode cX4_copy 96 = .ok (.ifCond .lt 35, 3) := dk_155 0 35 (dk_at dksX4_copy_4 4 rfl rfl)
theorem dX4_copy_99 : decode cX4_copy 99 = .ok (.iload 4, 2) := dk_21 4 (dk_at dksX4_copy_4 7 rfl rfl)
theorem dX4_copy_101 : decode cX4_copy 101 = .ok (.ifCond .lt 30, 3) := dk_155 0 30 (dk_at dksX4_copy_4 9 rfl rfl)
theorem dX4_copy_104 : decode cX4_copy 104 = .ok (.iload_n 2, 1) := dk_28 (dk_at dksX4_copy_4 12 rfl rfl)
theorem dX4_copy_105 : decode cX4_copy 105 = .ok (.aload_n 0, 1) := dk_42 (dk_at dksX4_copy_4 13 rfl rfl)
theorem dX4_copy_106 : decode cX4_copy 106 = .ok (.getfield 37, 3) := dk_180 0 37 (dk_at dksX4_copy_4 14 rfl rfl)
theorem dX4_copy_109 : decode cX4_copy 109 = .ok (.iload_n 1, 1) := dk_27 (dk_at dksX4_copy_4 17 rfl rfl)
theorem dX4_copy_110 : decode cX4_copy 110 = .ok (.iaload, 1) := dk_46 (dk_at dksX4_copy_4 18 rfl rfl)
theorem dX4_copy_111 : decode cX4_copy 111 = .ok (.iload 5, 2) := dk_21 5 (dk_at dksX4_copy_4 19 rfl rfl)
theorem dX4_copy_113 : decode cX4_copy 113 = .ok (.isub, 1) := dk_100 (dk_at dksX4_copy_4 21 rfl rfl)
theorem dX4_copy_114 : decode cX4_copy 114 = .ok (.if_icmp .gt 17, 3) := dk_163 0 17 (dk_at dksX4_copy_5 0 rfl rfl)
theorem dX4_copy_117 : decode cX4_copy 117 = .ok (.iload 4, 2) := dk_21 4 (dk_at dksX4_copy_5 3 rfl rfl)
theorem dX4_copy_119 : decode cX4_copy 119 = .ok (.aload_n 0, 1) := dk_42 (dk_at dksX4_copy_5 5 rfl rfl)
theorem dX4_copy_120 : decode cX4_copy 120 = .ok (.getfield 37, 3) := dk_180 0 37 (dk_at dksX4_copy_5 6 rfl rfl)
theorem dX4_copy_123 : decode cX4_copy 123 = .ok (.iload_n 3, 1) := dk_29 (dk_at dksX4_copy_5 9 rfl rfl)
theorem dX4_copy_124 : decode cX4_copy 124 = .ok (.iaload, 1) := dk_46 (dk_at dksX4_copy_5 10 rfl rfl)
theorem dX4_copy_125 : decode cX4_copy 125 = .ok (.iload 5, 2) := dk_21 5 (dk_at dksX4_copy_5 11 rfl rfl)
theorem dX4_copy_127 : decode cX4_copy 127 = .ok (.isub, 1) := dk_100 (dk_at dksX4_copy_5 13 rfl rfl)
theorem dX4_copy_128 : decode cX4_copy 128 = .ok (.if_icmp .le 6, 3) := dk_164 0 6 (dk_at dksX4_copy_5 14 rfl rfl)
theorem dX4_copy_131 : decode cX4_copy 131 = .ok (.bipush (-13), 2) := dk_16 243 (dk_at dksX4_copy_5 17 rfl rfl)
theorem dX4_copy_133 : decode cX4_copy 133 = .ok (.ireturn, 1) := dk_172 (dk_at dksX4_copy_5 19 rfl rfl)
theorem dX4_copy_134 : decode cX4_copy 134 = .ok (.iconst 0, 1) := dk_3 (dk_at dksX4_copy_5 20 rfl rfl)
theorem dX4_copy_135 : decode cX4_copy 135 = .ok (.istore 6, 2) := dk_54 6 (dk_at dksX4_copy_5 21 rfl rfl)
theorem dX4_copy_137 : decode cX4_copy 137 = .ok (.iload 6, 2) := dk_21 6 (dk_at dksX4_copy_6 0 rfl rfl)
theorem dX4_copy_139 : decode cX4_copy 139 = .ok (.iload 5, 2) := dk_21 5 (dk_at dksX4_copy_6 2 rfl rfl)
theorem dX4_copy_141 : decode cX4_copy 141 = .ok (.if_icmp .ge 30, 3) := dk_162 0 30 (dk_at dksX4_copy_6 4 rfl rfl)
theorem dX4_copy_144 : decode cX4_copy 144 = .ok (.aload_n 0, 1) := dk_42 (dk_at dksX4_copy_6 7 rfl rfl)
theorem dX4_copy_145 : decode cX4_copy 145 = .ok (.getfield 68, 3) := dk_180 0 68 (dk_at dksX4_copy_6 8 rfl rfl)
theorem dX4_copy_148 : decode cX4_copy 148 = .ok (.iload 6, 2) := dk_21 6 (dk_at dksX4_copy_6 11 rfl rfl)
theorem dX4_copy_150 : decode cX4_copy 150 = .ok (.aload_n 0, 1) := dk_42 (dk_at dksX4_copy_6 13 rfl rfl)
theorem dX4_copy_151 : decode cX4_copy 151 = .ok (.getfield 40, 3) := dk_180 0 40 (dk_at dksX4_copy_6 14 rfl rfl)
theorem dX4_copy_154 : decode cX4_copy 154 = .ok (.bipush 100, 2) := dk_16 100 (dk_at dksX4_copy_6 17 rfl rfl)
theorem dX4_copy_156 : decode cX4_copy 156 = .ok (.iload_n 1, 1) := dk_27 (dk_at dksX4_copy_6 19 rfl rfl)
theorem dX4_copy_157 : decode cX4_copy 157 = .ok (.imul, 1) := dk_104 (dk_at dksX4_copy_6 20 rfl rfl)
theorem dX4_copy_158 : decode cX4_copy 158 = .ok (.iload_n 2, 1) := dk_28 (dk_at dksX4_copy_6 21 rfl rfl)
theorem dX4_copy_159 : decode cX4_copy 159 = .ok (.iadd, 1) := dk_96 (dk_at dksX4_copy_6 22 rfl rfl)
theorem dX4_copy_160 : decode cX4_copy 160 = .ok (.iload 6, 2) := dk_21 6 (dk_at dksX4_copy_7 0 rfl rfl)
theorem dX4_copy_162 : decode cX4_copy 162 = .ok (.iadd, 1) := dk_96 (dk_at dksX4_copy_7 2 rfl rfl)
theorem dX4_copy_163 : decode cX4_copy 163 = .ok (.laload, 1) := dk_47 (dk_at dksX4_copy_7 3 rfl rfl)
theorem dX4_copy_164 : decode cX4_copy 164 = .ok (.lastore, 1) := dk_80 (dk_at dksX4_copy_7 4 rfl rfl)
theorem dX4_copy_165 : decode cX4_copy 165 = .ok (.iinc 6 1, 3) := dk_132 6 1 (dk_at dksX4_copy_7 5 rfl rfl)
theorem dX4_copy_168 : decode cX4_copy 168 = .ok (.goto (-31), 3) := dk_167 255 225 (dk_at dksX4_copy_7 8 rfl rfl)
theorem dX4_copy_171 : decode cX4_copy 171 = .ok (.iconst 0, 1) := dk_3 (dk_at dksX4_copy_7 11 rfl rfl)
theorem dX4_copy_172 : decode cX4_copy 172 = .ok (.istore 6, 2) := dk_54 6 (dk_at dksX4_copy_7 12 rfl rfl)
theorem dX4_copy_174 : decode cX4_copy 174 = .ok (.iload 6, 2) := dk_21 6 (dk_at dksX4_copy_7 14 rfl rfl)
theorem dX4_copy_176 : decode cX4_copy 176 = .ok (.iload 5, 2) := dk_21 5 (dk_at dksX4_copy_7 16 rfl rfl)
theorem dX4_copy_178 : decode cX4_copy 178 = .ok (.if_icmp .ge 31, 3) := dk_162 0 31 (dk_at dksX4_copy_7 18 rfl rfl)
theorem dX4_copy_181 : decode cX4_copy 181 = .ok (.aload_n 0, 1) := dk_42 (dk_at dksX4_copy_7 21 rfl rfl)
theorem dX4_copy_182 : decode cX4_copy 182 = .ok (.getfield 40, 3) := dk_180 0 40 (dk_at dksX4_copy_8 0 rfl rfl)
theorem dX4_copy_185 : decode cX4_copy 185 = .ok (.bipush 100, 2) := dk_16 100 (dk_at dksX4_copy_8 3 rfl rfl)
theorem dX4_copy_187 : decode cX4_copy 187 = .ok (.iload_n 3, 1) := dk_29 (dk_at dksX4_copy_8 5 rfl rfl)
theorem dX4_copy_188 : decode cX4_copy 188 = .ok (.imul, 1) := dk_104 (dk_at dksX4_copy_8 6 rfl rfl)
theorem dX4_copy_189 : decode cX4_copy 189 = .ok (.iload 4, 2) := dk_21 4 (dk_at dksX4_copy_8 7 rfl rfl)
theorem dX4_copy_191 : decode cX4_copy 191 = .ok (.iadd, 1) := dk_96 (dk_at dksX4_copy_8 9 rfl rfl)
theorem dX4_copy_192 : decode cX4_copy 192 = .ok (.iload 6, 2) := dk_21 6 (dk_at dksX4_copy_8 10 rfl rfl)
theorem dX4_copy_194 : decode cX4_copy 194 = .ok (.iadd, 1) := dk_96 (dk_at dksX4_copy_8 12 rfl rfl)
theorem dX4_copy_195 : decode cX4_copy 195 = .ok (.aload_n 0, 1) := dk_42 (dk_at dksX4_copy_8 13 rfl rfl)
theorem dX4_copy_196 : decode cX4_copy 196 = .ok (.getfield 68, 3) := dk_180 0 68 (dk_at dksX4_copy_8 14 rfl rfl)
theorem dX4_copy_199 : decode cX4_copy 199 = .ok (.iload 6, 2) := dk_21 6 (dk_at dksX4_copy_8 17 rfl rfl)
theorem dX4_copy_201 : decode cX4_copy 201 = .ok (.laload, 1) := dk_47 (dk_at dksX4_copy_8 19 rfl rfl)
theorem dX4_copy_202 : decode cX4_copy 202 = .ok (.lastore, 1) := dk_80 (dk_at dksX4_copy_8 20 rfl rfl)
theorem dX4_copy_203 : decode cX4_copy 203 = .ok (.iinc 6 1, 3) := dk_132 6 1 (dk_at dksX4_copy_8 21 rfl rfl)
theorem dX4_copy_206 : decode cX4_copy 206 = .ok (.goto (-32), 3) := dk_167 255 224 (dk_at dksX4_copy_9 0 rfl rfl)
theorem dX4_copy_209 : decode cX4_copy 209 = .ok (.iload 5, 2) := dk_21 5 (dk_at dksX4_copy_9 3 rfl rfl)
theorem dX4_copy_211 : decode cX4_copy 211 = .ok (.ireturn, 1) := dk_172 (dk_at dksX4_copy_9 5 rfl rfl)
abbrev cX4_cost : ByteArray := prog_21_method_86_code
def yX4_cost : MethodName := ⟨RX4, "cost", "(I)I"⟩
def dkwX4_cost_1 : List UInt8 := [180, 0, 28, 27, 46, 42, 180, 0, 31, 27, 46, 184, 0, 237, 172]
abbrev dktX4_cost_1 : List UInt8 := dkwX4_cost_1 ++ []
def dkwX4_cost_0 : List UInt8 := [42, 3, 181, 0, 71, 42, 27, 182, 0, 207, 156, 0, 11, 42, 27, 182, 0, 207, 167, 0, 18, 42]
abbrev dktX4_cost_0 : List UInt8 := dkwX4_cost_0 ++ dktX4_cost_1
theorem dksX4_cost_0 : cX4_cost.data.toList.drop 0 = dktX4_cost_0 := by decide +kernel
theorem dksX4_cost_1 : cX4_cost.data.toList.drop 22 = dktX4_cost_1 := dk_seg dksX4_cost_0 22 rfl rfl
theorem dX4_cost_0 : decode cX4_cost 0 = .ok (.aload_n 0, 1) := dk_42 (dk_at dksX4_cost_0 0 rfl rfl)
theorem dX4_cost_1 : decode cX4_cost 1 = .ok (.iconst 0, 1) := dk_3 (dk_at dksX4_cost_0 1 rfl rfl)
theorem dX4_cost_2 : decode cX4_cost 2 = .ok (.putfield 71, 3) := dk_181 0 71 (dk_at dksX4_cost_0 2 rfl rfl)
theorem dX4_cost_5 : decode cX4_cost 5 = .ok (.aload_n 0, 1) := dk_42 (dk_at dksX4_cost_0 5 rfl rfl)
theorem dX4_cost_6 : decode cX4_cost 6 = .ok (.iload_n 1, 1) := dk_27 (dk_at dksX4_cost_0 6 rfl rfl)
theorem dX4_cost_7 : decode cX4_cost 7 = .ok (.invokevirtual 207, 3) := dk_182 0 207 (dk_at dksX4_cost_0 7 rfl rfl)
theorem dX4_cost_10 : decode cX4_cost 10 = .ok (.ifCond .ge 11, 3) := dk_156 0 11 (dk_at dksX4_cost_0 10 rfl rfl)
theorem dX4_cost_13 : decode cX4_cost 13 = .ok (.aload_n 0, 1) := dk_42 (dk_at dksX4_cost_0 13 rfl rfl)
theorem dX4_cost_14 : decode cX4_cost 14 = .ok (.iload_n 1, 1) := dk_27 (dk_at dksX4_cost_0 14 rfl rfl)
theorem dX4_cost_15 : decode cX4_cost 15 = .ok (.invokevirtual 207, 3) := dk_182 0 207 (dk_at dksX4_cost_0 15 rfl rfl)
theorem dX4_cost_18 : decode cX4_cost 18 = .ok (.goto 18, 3) := dk_167 0 18 (dk_at dksX4_cost_0 18 rfl rfl)
theorem dX4_cost_21 : decode cX4_cost 21 = .ok (.aload_n 0, 1) := dk_42 (dk_at dksX4_cost_0 21 rfl rfl)
theorem dX4_cost_22 : decode cX4_cost 22 = .ok (.getfield 28, 3) := dk_180 0 28 (dk_at dksX4_cost_1 0 rfl rfl)
theorem dX4_cost_25 : decode cX4_cost 25 = .ok (.iload_n 1, 1) := dk_27 (dk_at dksX4_cost_1 3 rfl rfl)
theorem dX4_cost_26 : decode cX4_cost 26 = .ok (.iaload, 1) := dk_46 (dk_at dksX4_cost_1 4 rfl rfl)
theorem dX4_cost_27 : decode cX4_cost 27 = .ok (.aload_n 0, 1) := dk_42 (dk_at dksX4_cost_1 5 rfl rfl)
theorem dX4_cost_28 : decode cX4_cost 28 = .ok (.getfield 31, 3) := dk_180 0 31 (dk_at dksX4_cost_1 6 rfl rfl)
theorem dX4_cost_31 : decode cX4_cost 31 = .ok (.iload_n 1, 1) := dk_27 (dk_at dksX4_cost_1 9 rfl rfl)
theorem dX4_cost_32 : decode cX4_cost 32 = .ok (.iaload, 1) := dk_46 (dk_at dksX4_cost_1 10 rfl rfl)
theorem dX4_cost_33 : decode cX4_cost 33 = .ok (.invokestatic 237, 3) := dk_184 0 237 (dk_at dksX4_cost_1 11 rfl rfl)
theorem dX4_cost_36 : decode cX4_cost 36 = .ok (.ireturn, 1) := dk_172 (dk_at dksX4_cost_1 14 rfl rfl)
abbrev cX4_toss : ByteArray := prog_21_method_87_code
def yX4_toss : MethodName := ⟨RX4, "toss", "(I)I"⟩
def dkwX4_toss_3 : List UInt8 := [28, 29, 184, 0, 237, 96, 167, 0, 4, 29, 172]
abbrev dktX4_toss_3 : List UInt8 := dkwX4_toss_3 ++ []
def dkwX4_toss_2 : List UInt8 := [16, 241, 172, 28, 6, 160, 0, 10, 16, 100, 29, 96, 167, 0, 22, 28, 16, 6, 160, 0, 15, 17, 0, 200]
abbrev dktX4_toss_2 : List UInt8 := dkwX4_toss_2 ++ dktX4_toss_3
def dkwX4_toss_1 : List UInt8 := [46, 61, 42, 180, 0, 31, 27, 46, 62, 28, 4, 159, 0, 13, 28, 16, 7, 159, 0, 7, 29, 154, 0, 6]
abbrev dktX4_toss_1 : List UInt8 := dkwX4_toss_1 ++ dktX4_toss_2
def dkwX4_toss_0 : List UInt8 := [42, 3, 181, 0, 71, 42, 27, 182, 0, 207, 156, 0, 9, 42, 27, 182, 0, 207, 172, 42, 180, 0, 28, 27]
abbrev dktX4_toss_0 : List UInt8 := dkwX4_toss_0 ++ dktX4_toss_1
theorem dksX4_toss_0 : cX4_toss.data.toList.drop 0 = dktX4_toss_0 := by decide +kernel
theorem dksX4_toss_1 : cX4_toss.data.toList.drop 24 = dktX4_toss_1 := dk_seg dksX4_toss_0 24 rfl rfl
theorem dksX4_toss_2 : cX4_toss.data.toList.drop 48 = dktX4_toss_2 := dk_seg dksX4_toss_1 24 rfl rfl
theorem dksX4_toss_3 : cX4_toss.data.toList.drop 72 = dktX4_toss_3 := dk_seg dksX4_toss_2 24 rfl rfl
theorem dX4_toss_0 : decode cX4_toss 0 = .ok (.aload_n 0, 1) := dk_42 (dk_at dksX4_toss_0 0 rfl rfl)
theorem dX4_toss_1 : decode cX4_toss 1 = .ok (.iconst 0, 1) := dk_3 (dk_at dksX4_toss_0 1 rfl rfl)
theorem dX4_toss_2 : decode cX4_toss 2 = .ok (.putfield 71, 3) := dk_181 0 71 (dk_at dksX4_toss_0 2 rfl rfl)
theorem dX4_toss_5 : decode cX4_toss 5 = .ok (.aload_n 0, 1) := dk_42 (dk_at dksX4_toss_0 5 rfl rfl)
theorem dX4_toss_6 : decode cX4_toss 6 = .ok (.iload_n 1, 1) := dk_27 (dk_at dksX4_toss_0 6 rfl rfl)
theorem dX4_toss_7 : decode cX4_toss 7 = .ok (.invokevirtual 207, 3) := dk_182 0 207 (dk_at dksX4_toss_0 7 rfl rfl)
theorem dX4_toss_10 : decode cX4_toss 10 = .ok (.ifCond .ge 9, 3) := dk_156 0 9 (dk_at dksX4_toss_0 10 rfl rfl)
theorem dX4_toss_13 : decode cX4_toss 13 = .ok (.aload_n 0, 1) := dk_42 (dk_at dksX4_toss_0 13 rfl rfl)
theorem dX4_toss_14 : decode cX4_toss 14 = .ok (.iload_n 1, 1) := dk_27 (dk_at dksX4_toss_0 14 rfl rfl)
theorem dX4_toss_15 : decode cX4_toss 15 = .ok (.invokevirtual 207, 3) := dk_182 0 207 (dk_at dksX4_toss_0 15 rfl rfl)
theorem dX4_toss_18 : decode cX4_toss 18 = .ok (.ireturn, 1) := dk_172 (dk_at dksX4_toss_0 18 rfl rfl)
theorem dX4_toss_19 : decode cX4_toss 19 = .ok (.aload_n 0, 1) := dk_42 (dk_at dksX4_toss_0 19 rfl rfl)
theorem dX4_toss_20 : decode cX4_toss 20 = .ok (.getfield 28, 3) := dk_180 0 28 (dk_at dksX4_toss_0 20 rfl rfl)
theorem dX4_toss_23 : decode cX4_toss 23 = .ok (.iload_n 1, 1) := dk_27 (dk_at dksX4_toss_0 23 rfl rfl)
theorem dX4_toss_24 : decode cX4_toss 24 = .ok (.iaload, 1) := dk_46 (dk_at dksX4_toss_1 0 rfl rfl)
theorem dX4_toss_25 : decode cX4_toss 25 = .ok (.istore_n 2, 1) := dk_61 (dk_at dksX4_toss_1 1 rfl rfl)
theorem dX4_toss_26 : decode cX4_toss 26 = .ok (.aload_n 0, 1) := dk_42 (dk_at dksX4_toss_1 2 rfl rfl)
theorem dX4_toss_27 : decode cX4_toss 27 = .ok (.getfield 31, 3) := dk_180 0 31 (dk_at dksX4_toss_1 3 rfl rfl)
theorem dX4_toss_30 : decode cX4_toss 30 = .ok (.iload_n 1, 1) := dk_27 (dk_at dksX4_toss_1 6 rfl rfl)
theorem dX4_toss_31 : decode cX4_toss 31 = .ok (.iaload, 1) := dk_46 (dk_at dksX4_toss_1 7 rfl rfl)
theorem dX4_toss_32 : decode cX4_toss 32 = .ok (.istore_n 3, 1) := dk_62 (dk_at dksX4_toss_1 8 rfl rfl)
theorem dX4_toss_33 : decode cX4_toss 33 = .ok (.iload_n 2, 1) := dk_28 (dk_at dksX4_toss_1 9 rfl rfl)
theorem dX4_toss_34 : decode cX4_toss 34 = .ok (.iconst 1, 1) := dk_4 (dk_at dksX4_toss_1 10 rfl rfl)
theorem dX4_toss_35 : decode cX4_toss 35 = .ok (.if_icmp .eq 13, 3) := dk_159 0 13 (dk_at dksX4_toss_1 11 rfl rfl)
theorem dX4_toss_38 : decode cX4_toss 38 = .ok (.iload_n 2, 1) := dk_28 (dk_at dksX4_toss_1 14 rfl rfl)
theorem dX4_toss_39 : decode cX4_toss 39 = .ok (.bipush 7, 2) := dk_16 7 (dk_at dksX4_toss_1 15 rfl rfl)
theorem dX4_toss_41 : decode cX4_toss 41 = .ok (.if_icmp .eq 7, 3) := dk_159 0 7 (dk_at dksX4_toss_1 17 rfl rfl)
theorem dX4_toss_44 : decode cX4_toss 44 = .ok (.iload_n 3, 1) := dk_29 (dk_at dksX4_toss_1 20 rfl rfl)
theorem dX4_toss_45 : decode cX4_toss 45 = .ok (.ifCond .ne 6, 3) := dk_154 0 6 (dk_at dksX4_toss_1 21 rfl rfl)
theorem dX4_toss_48 : decode cX4_toss 48 = .ok (.bipush (-15), 2) := dk_16 241 (dk_at dksX4_toss_2 0 rfl rfl)
theorem dX4_toss_50 : decode cX4_toss 50 = .ok (.ireturn, 1) := dk_172 (dk_at dksX4_toss_2 2 rfl rfl)
theorem dX4_toss_51 : decode cX4_toss 51 = .ok (.iload_n 2, 1) := dk_28 (dk_at dksX4_toss_2 3 rfl rfl)
theorem dX4_toss_52 : decode cX4_toss 52 = .ok (.iconst 3, 1) := dk_6 (dk_at dksX4_toss_2 4 rfl rfl)
theorem dX4_toss_53 : decode cX4_toss 53 = .ok (.if_icmp .ne 10, 3) := dk_160 0 10 (dk_at dksX4_toss_2 5 rfl rfl)
theorem dX4_toss_56 : decode cX4_toss 56 = .ok (.bipush 100, 2) := dk_16 100 (dk_at dksX4_toss_2 8 rfl rfl)
theorem dX4_toss_58 : decode cX4_toss 58 = .ok (.iload_n 3, 1) := dk_29 (dk_at dksX4_toss_2 10 rfl rfl)
theorem dX4_toss_59 : decode cX4_toss 59 = .ok (.iadd, 1) := dk_96 (dk_at dksX4_toss_2 11 rfl rfl)
theorem dX4_toss_60 : decode cX4_toss 60 = .ok (.goto 22, 3) := dk_167 0 22 (dk_at dksX4_toss_2 12 rfl rfl)
theorem dX4_toss_63 : decode cX4_toss 63 = .ok (.iload_n 2, 1) := dk_28 (dk_at dksX4_toss_2 15 rfl rfl)
theorem dX4_toss_64 : decode cX4_toss 64 = .ok (.bipush 6, 2) := dk_16 6 (dk_at dksX4_toss_2 16 rfl rfl)
theorem dX4_toss_66 : decode cX4_toss 66 = .ok (.if_icmp .ne 15, 3) := dk_160 0 15 (dk_at dksX4_toss_2 18 rfl rfl)
theorem dX4_toss_69 : decode cX4_toss 69 = .ok (.sipush 200, 3) := dk_17 0 200 (dk_at dksX4_toss_2 21 rfl rfl)
theorem dX4_toss_72 : decode cX4_toss 72 = .ok (.iload_n 2, 1) := dk_28 (dk_at dksX4_toss_3 0 rfl rfl)
theorem dX4_toss_73 : decode cX4_toss 73 = .ok (.iload_n 3, 1) := dk_29 (dk_at dksX4_toss_3 1 rfl rfl)
theorem dX4_toss_74 : decode cX4_toss 74 = .ok (.invokestatic 237, 3) := dk_184 0 237 (dk_at dksX4_toss_3 2 rfl rfl)
theorem dX4_toss_77 : decode cX4_toss 77 = .ok (.iadd, 1) := dk_96 (dk_at dksX4_toss_3 5 rfl rfl)
theorem dX4_toss_78 : decode cX4_toss 78 = .ok (.goto 4, 3) := dk_167 0 4 (dk_at dksX4_toss_3 6 rfl rfl)
theorem dX4_toss_81 : decode cX4_toss 81 = .ok (.iload_n 3, 1) := dk_29 (dk_at dksX4_toss_3 9 rfl rfl)
theorem dX4_toss_82 : decode cX4_toss 82 = .ok (.ireturn, 1) := dk_172 (dk_at dksX4_toss_3 10 rfl rfl)
theorem q61 : (Jvm.Cond.initialized "HiredByLongingModel") ∈ lw_all := lw_g (lw_at lw_m1 4 rfl) rfl
theorem q1082 : (Jvm.Cond.instantiable "HiredByLongingModel" (35 : Nat)) ∈ lw_all := lw_g (lw_at lw_m5 65 rfl) rfl
theorem q1084 : (Jvm.Cond.instanceMethod ({ cls := "HiredByLongingModel", name := "<init>", desc := "()V" } : Jvm.MethodName)) ∈ lw_all := lw_g (lw_at lw_m5 67 rfl) rfl
theorem q1085 : (Jvm.Cond.code ({ cls := "HiredByLongingModel", name := "<init>", desc := "()V" } : Jvm.MethodName) prog_21_method_1_code (1 : Nat) (Option.none : Option Jvm.ClassFile.FieldType)) ∈ lw_all := lw_g (lw_at lw_m5 68 rfl) rfl
theorem q1086 : (Jvm.Cond.methodLink "HiredByLongingModel" (1 : Nat) ({ cls := "java/lang/Object", name := "<init>", desc := "()V" } : Jvm.MethodName)) ∈ lw_all := lw_g (lw_at lw_m5 69 rfl) rfl
theorem q1087 : (Jvm.Cond.fieldLink "HiredByLongingModel" (81 : Nat) "HiredByLongingModel" "horses" "I") ∈ lw_all := lw_g (lw_at lw_m5 70 rfl) rfl
theorem q1088 : (Jvm.Cond.fieldLink "HiredByLongingModel" (7 : Nat) "HiredByLongingModel" "kinds" "[I") ∈ lw_all := lw_g (lw_at lw_m5 71 rfl) rfl
theorem q1089 : (Jvm.Cond.fieldLink "HiredByLongingModel" (13 : Nat) "HiredByLongingModel" "figures" "[I") ∈ lw_all := lw_g (lw_at lw_m5 72 rfl) rfl
theorem q1090 : (Jvm.Cond.fieldLink "HiredByLongingModel" (16 : Nat) "HiredByLongingModel" "homes0" "[I") ∈ lw_all := lw_g (lw_at lw_m5 73 rfl) rfl
theorem q1091 : (Jvm.Cond.fieldLink "HiredByLongingModel" (19 : Nat) "HiredByLongingModel" "at0" "[I") ∈ lw_all := lw_g (lw_at lw_m5 74 rfl) rfl
theorem q1092 : (Jvm.Cond.fieldLink "HiredByLongingModel" (22 : Nat) "HiredByLongingModel" "longing" "[I") ∈ lw_all := lw_g (lw_at lw_m5 75 rfl) rfl
theorem q1093 : (Jvm.Cond.fieldLink "HiredByLongingModel" (88 : Nat) "HiredByLongingModel" "oats" "I") ∈ lw_all := lw_g (lw_at lw_m5 76 rfl) rfl
theorem q1094 : (Jvm.Cond.fieldLink "HiredByLongingModel" (95 : Nat) "HiredByLongingModel" "today" "I") ∈ lw_all := lw_g (lw_at lw_m5 77 rfl) rfl
theorem q1095 : (Jvm.Cond.fieldLink "HiredByLongingModel" (25 : Nat) "HiredByLongingModel" "holdsWhat" "[I") ∈ lw_all := lw_g (lw_at lw_m5 78 rfl) rfl
theorem q1096 : (Jvm.Cond.fieldLink "HiredByLongingModel" (28 : Nat) "HiredByLongingModel" "keptKind" "[I") ∈ lw_all := lw_g (lw_at lw_m5 79 rfl) rfl
theorem q1097 : (Jvm.Cond.fieldLink "HiredByLongingModel" (31 : Nat) "HiredByLongingModel" "keptFigure" "[I") ∈ lw_all := lw_g (lw_at lw_m5 80 rfl) rfl
theorem q1098 : (Jvm.Cond.fieldLink "HiredByLongingModel" (34 : Nat) "HiredByLongingModel" "rowSort" "[I") ∈ lw_all := lw_g (lw_at lw_m5 81 rfl) rfl
theorem q1099 : (Jvm.Cond.fieldLink "HiredByLongingModel" (37 : Nat) "HiredByLongingModel" "rowMany" "[I") ∈ lw_all := lw_g (lw_at lw_m5 82 rfl) rfl
theorem q1100 : (Jvm.Cond.fieldLink "HiredByLongingModel" (40 : Nat) "HiredByLongingModel" "rows" "[J") ∈ lw_all := lw_g (lw_at lw_m5 83 rfl) rfl
theorem q1101 : (Jvm.Cond.fieldLink "HiredByLongingModel" (71 : Nat) "HiredByLongingModel" "thrown" "I") ∈ lw_all := lw_g (lw_at lw_m5 84 rfl) rfl
theorem q1102 : (Jvm.Cond.fieldLink "HiredByLongingModel" (121 : Nat) "HiredByLongingModel" "reading" "I") ∈ lw_all := lw_g (lw_at lw_m5 85 rfl) rfl
theorem q1103 : (Jvm.Cond.fieldLink "HiredByLongingModel" (118 : Nat) "HiredByLongingModel" "place" "I") ∈ lw_all := lw_g (lw_at lw_m5 86 rfl) rfl
theorem q1104 : (Jvm.Cond.fieldLink "HiredByLongingModel" (124 : Nat) "HiredByLongingModel" "isBad" "Z") ∈ lw_all := lw_g (lw_at lw_m5 87 rfl) rfl
theorem q1105 : (Jvm.Cond.fieldLink "HiredByLongingModel" (139 : Nat) "HiredByLongingModel" "statements" "I") ∈ lw_all := lw_g (lw_at lw_m5 88 rfl) rfl
theorem q1106 : (Jvm.Cond.fieldLink "HiredByLongingModel" (44 : Nat) "HiredByLongingModel" "placeIn" "[I") ∈ lw_all := lw_g (lw_at lw_m5 89 rfl) rfl
theorem q1107 : (Jvm.Cond.fieldLink "HiredByLongingModel" (47 : Nat) "HiredByLongingModel" "letterOf" "[I") ∈ lw_all := lw_g (lw_at lw_m5 90 rfl) rfl
theorem q1108 : (Jvm.Cond.fieldLink "HiredByLongingModel" (50 : Nat) "HiredByLongingModel" "told" "[I") ∈ lw_all := lw_g (lw_at lw_m5 91 rfl) rfl
theorem q1109 : (Jvm.Cond.fieldLink "HiredByLongingModel" (53 : Nat) "HiredByLongingModel" "kept" "[I") ∈ lw_all := lw_g (lw_at lw_m5 92 rfl) rfl
theorem q1110 : (Jvm.Cond.fieldLink "HiredByLongingModel" (56 : Nat) "HiredByLongingModel" "kept1" "[I") ∈ lw_all := lw_g (lw_at lw_m5 93 rfl) rfl
theorem q1111 : (Jvm.Cond.fieldLink "HiredByLongingModel" (59 : Nat) "HiredByLongingModel" "kept2" "[I") ∈ lw_all := lw_g (lw_at lw_m5 94 rfl) rfl
theorem q1112 : (Jvm.Cond.fieldLink "HiredByLongingModel" (62 : Nat) "HiredByLongingModel" "imaged" "[I") ∈ lw_all := lw_g (lw_at lw_m5 95 rfl) rfl
theorem q1113 : (Jvm.Cond.fieldLink "HiredByLongingModel" (202 : Nat) "HiredByLongingModel" "hasImage" "Z") ∈ lw_all := lw_g (lw_at lw_m5 96 rfl) rfl
theorem q1114 : (Jvm.Cond.fieldLink "HiredByLongingModel" (192 : Nat) "HiredByLongingModel" "place0" "I") ∈ lw_all := lw_g (lw_at lw_m5 97 rfl) rfl
theorem q1115 : (Jvm.Cond.fieldLink "HiredByLongingModel" (186 : Nat) "HiredByLongingModel" "isTaking" "Z") ∈ lw_all := lw_g (lw_at lw_m5 98 rfl) rfl
theorem q1116 : (Jvm.Cond.fieldLink "HiredByLongingModel" (189 : Nat) "HiredByLongingModel" "keptIn" "[I") ∈ lw_all := lw_g (lw_at lw_m5 99 rfl) rfl
theorem q1117 : (Jvm.Cond.fieldLink "HiredByLongingModel" (218 : Nat) "HiredByLongingModel" "chainDays" "I") ∈ lw_all := lw_g (lw_at lw_m5 100 rfl) rfl
theorem q1118 : (Jvm.Cond.fieldLink "HiredByLongingModel" (221 : Nat) "HiredByLongingModel" "chainFirst" "I") ∈ lw_all := lw_g (lw_at lw_m5 101 rfl) rfl
theorem q1119 : (Jvm.Cond.fieldLink "HiredByLongingModel" (65 : Nat) "HiredByLongingModel" "thereBy" "[I") ∈ lw_all := lw_g (lw_at lw_m5 102 rfl) rfl
theorem q1120 : (Jvm.Cond.fieldLink "HiredByLongingModel" (282 : Nat) "HiredByLongingModel" "seed" "I") ∈ lw_all := lw_g (lw_at lw_m5 103 rfl) rfl
theorem q1121 : (Jvm.Cond.fieldLink "HiredByLongingModel" (68 : Nat) "HiredByLongingModel" "between" "[J") ∈ lw_all := lw_g (lw_at lw_m5 104 rfl) rfl
theorem q1122 : (Jvm.Cond.lays "HiredByLongingModel" "HiredByLongingModel" "horses" "I") ∈ lw_all := lw_g (lw_at lw_m5 105 rfl) rfl
theorem q1123 : (Jvm.Cond.soleField "HiredByLongingModel" "horses") ∈ lw_all := lw_g (lw_at lw_m5 106 rfl) rfl
theorem q1124 : (Jvm.Cond.laysFinal "HiredByLongingModel" "HiredByLongingModel" "kinds" "[I") ∈ lw_all := lw_g (lw_at lw_m5 107 rfl) rfl
theorem q1125 : (Jvm.Cond.soleField "HiredByLongingModel" "kinds") ∈ lw_all := lw_g (lw_at lw_m5 108 rfl) rfl
theorem q1126 : (Jvm.Cond.laysFinal "HiredByLongingModel" "HiredByLongingModel" "figures" "[I") ∈ lw_all := lw_g (lw_at lw_m5 109 rfl) rfl
theorem q1127 : (Jvm.Cond.soleField "HiredByLongingModel" "figures") ∈ lw_all := lw_g (lw_at lw_m5 110 rfl) rfl
theorem q1128 : (Jvm.Cond.laysFinal "HiredByLongingModel" "HiredByLongingModel" "homes0" "[I") ∈ lw_all := lw_g (lw_at lw_m5 111 rfl) rfl
theorem q1129 : (Jvm.Cond.soleField "HiredByLongingModel" "homes0") ∈ lw_all := lw_g (lw_at lw_m5 112 rfl) rfl
theorem q1130 : (Jvm.Cond.laysFinal "HiredByLongingModel" "HiredByLongingModel" "at0" "[I") ∈ lw_all := lw_g (lw_at lw_m5 113 rfl) rfl
theorem q1131 : (Jvm.Cond.soleField "HiredByLongingModel" "at0") ∈ lw_all := lw_g (lw_at lw_m5 114 rfl) rfl
theorem q1132 : (Jvm.Cond.laysFinal "HiredByLongingModel" "HiredByLongingModel" "longing" "[I") ∈ lw_all := lw_g (lw_at lw_m5 115 rfl) rfl
theorem q1133 : (Jvm.Cond.soleField "HiredByLongingModel" "longing") ∈ lw_all := lw_g (lw_at lw_m5 116 rfl) rfl
theorem q1134 : (Jvm.Cond.lays "HiredByLongingModel" "HiredByLongingModel" "oats" "I") ∈ lw_all := lw_g (lw_at lw_m5 117 rfl) rfl
theorem q1135 : (Jvm.Cond.soleField "HiredByLongingModel" "oats") ∈ lw_all := lw_g (lw_at lw_m5 118 rfl) rfl
theorem q1136 : (Jvm.Cond.lays "HiredByLongingModel" "HiredByLongingModel" "today" "I") ∈ lw_all := lw_g (lw_at lw_m5 119 rfl) rfl
theorem q1137 : (Jvm.Cond.soleField "HiredByLongingModel" "today") ∈ lw_all := lw_g (lw_at lw_m5 120 rfl) rfl
theorem q1138 : (Jvm.Cond.laysFinal "HiredByLongingModel" "HiredByLongingModel" "holdsWhat" "[I") ∈ lw_all := lw_g (lw_at lw_m5 121 rfl) rfl
theorem q1139 : (Jvm.Cond.soleField "HiredByLongingModel" "holdsWhat") ∈ lw_all := lw_g (lw_at lw_m5 122 rfl) rfl
theorem q1140 : (Jvm.Cond.laysFinal "HiredByLongingModel" "HiredByLongingModel" "keptKind" "[I") ∈ lw_all := lw_g (lw_at lw_m5 123 rfl) rfl
theorem q1141 : (Jvm.Cond.soleField "HiredByLongingModel" "keptKind") ∈ lw_all := lw_g (lw_at lw_m5 124 rfl) rfl
theorem q1142 : (Jvm.Cond.laysFinal "HiredByLongingModel" "HiredByLongingModel" "keptFigure" "[I") ∈ lw_all := lw_g (lw_at lw_m5 125 rfl) rfl
theorem q1143 : (Jvm.Cond.soleField "HiredByLongingModel" "keptFigure") ∈ lw_all := lw_g (lw_at lw_m5 126 rfl) rfl
theorem q1144 : (Jvm.Cond.laysFinal "HiredByLongingModel" "HiredByLongingModel" "rowSort" "[I") ∈ lw_all := lw_g (lw_at lw_m5 127 rfl) rfl
theorem q1145 : (Jvm.Cond.soleField "HiredByLongingModel" "rowSort") ∈ lw_all := lw_g (lw_at lw_m5 128 rfl) rfl
theorem q1146 : (Jvm.Cond.laysFinal "HiredByLongingModel" "HiredByLongingModel" "rowMany" "[I") ∈ lw_all := lw_g (lw_at lw_m5 129 rfl) rfl
theorem q1147 : (Jvm.Cond.soleField "HiredByLongingModel" "rowMany") ∈ lw_all := lw_g (lw_at lw_m5 130 rfl) rfl
theorem q1148 : (Jvm.Cond.laysFinal "HiredByLongingModel" "HiredByLongingModel" "rows" "[J") ∈ lw_all := lw_g (lw_at lw_m5 131 rfl) rfl
theorem q1149 : (Jvm.Cond.soleField "HiredByLongingModel" "rows") ∈ lw_all := lw_g (lw_at lw_m5 132 rfl) rfl
theorem q1150 : (Jvm.Cond.lays "HiredByLongingModel" "HiredByLongingModel" "thrown" "I") ∈ lw_all := lw_g (lw_at lw_m5 133 rfl) rfl
theorem q1151 : (Jvm.Cond.soleField "HiredByLongingModel" "thrown") ∈ lw_all := lw_g (lw_at lw_m5 134 rfl) rfl
theorem q1152 : (Jvm.Cond.lays "HiredByLongingModel" "HiredByLongingModel" "reading" "I") ∈ lw_all := lw_g (lw_at lw_m5 135 rfl) rfl
theorem q1153 : (Jvm.Cond.soleField "HiredByLongingModel" "reading") ∈ lw_all := lw_g (lw_at lw_m5 136 rfl) rfl
theorem q1154 : (Jvm.Cond.lays "HiredByLongingModel" "HiredByLongingModel" "place" "I") ∈ lw_all := lw_g (lw_at lw_m5 137 rfl) rfl
theorem q1155 : (Jvm.Cond.soleField "HiredByLongingModel" "place") ∈ lw_all := lw_g (lw_at lw_m5 138 rfl) rfl
theorem q1156 : (Jvm.Cond.lays "HiredByLongingModel" "HiredByLongingModel" "isBad" "Z") ∈ lw_all := lw_g (lw_at lw_m5 139 rfl) rfl
theorem q1157 : (Jvm.Cond.soleField "HiredByLongingModel" "isBad") ∈ lw_all := lw_g (lw_at lw_m5 140 rfl) rfl
theorem q1158 : (Jvm.Cond.lays "HiredByLongingModel" "HiredByLongingModel" "statements" "I") ∈ lw_all := lw_g (lw_at lw_m5 141 rfl) rfl
theorem q1159 : (Jvm.Cond.soleField "HiredByLongingModel" "statements") ∈ lw_all := lw_g (lw_at lw_m5 142 rfl) rfl
theorem q1160 : (Jvm.Cond.laysFinal "HiredByLongingModel" "HiredByLongingModel" "placeIn" "[I") ∈ lw_all := lw_g (lw_at lw_m5 143 rfl) rfl
theorem q1161 : (Jvm.Cond.soleField "HiredByLongingModel" "placeIn") ∈ lw_all := lw_g (lw_at lw_m5 144 rfl) rfl
theorem q1162 : (Jvm.Cond.laysFinal "HiredByLongingModel" "HiredByLongingModel" "letterOf" "[I") ∈ lw_all := lw_g (lw_at lw_m5 145 rfl) rfl
theorem q1163 : (Jvm.Cond.soleField "HiredByLongingModel" "letterOf") ∈ lw_all := lw_g (lw_at lw_m5 146 rfl) rfl
theorem q1164 : (Jvm.Cond.laysFinal "HiredByLongingModel" "HiredByLongingModel" "told" "[I") ∈ lw_all := lw_g (lw_at lw_m5 147 rfl) rfl
theorem q1165 : (Jvm.Cond.soleField "HiredByLongingModel" "told") ∈ lw_all := lw_g (lw_at lw_m5 148 rfl) rfl
theorem q1166 : (Jvm.Cond.laysFinal "HiredByLongingModel" "HiredByLongingModel" "kept" "[I") ∈ lw_all := lw_g (lw_at lw_m5 149 rfl) rfl
theorem q1167 : (Jvm.Cond.soleField "HiredByLongingModel" "kept") ∈ lw_all := lw_g (lw_at lw_m5 150 rfl) rfl
theorem q1168 : (Jvm.Cond.laysFinal "HiredByLongingModel" "HiredByLongingModel" "kept1" "[I") ∈ lw_all := lw_g (lw_at lw_m5 151 rfl) rfl
theorem q1169 : (Jvm.Cond.soleField "HiredByLongingModel" "kept1") ∈ lw_all := lw_g (lw_at lw_m5 152 rfl) rfl
theorem q1170 : (Jvm.Cond.laysFinal "HiredByLongingModel" "HiredByLongingModel" "kept2" "[I") ∈ lw_all := lw_g (lw_at lw_m5 153 rfl) rfl
theorem q1171 : (Jvm.Cond.soleField "HiredByLongingModel" "kept2") ∈ lw_all := lw_g (lw_at lw_m5 154 rfl) rfl
theorem q1172 : (Jvm.Cond.laysFinal "HiredByLongingModel" "HiredByLongingModel" "imaged" "[I") ∈ lw_all := lw_g (lw_at lw_m5 155 rfl) rfl
theorem q1173 : (Jvm.Cond.soleField "HiredByLongingModel" "imaged") ∈ lw_all := lw_g (lw_at lw_m5 156 rfl) rfl
theorem q1174 : (Jvm.Cond.lays "HiredByLongingModel" "HiredByLongingModel" "hasImage" "Z") ∈ lw_all := lw_g (lw_at lw_m5 157 rfl) rfl
theorem q1175 : (Jvm.Cond.soleField "HiredByLongingModel" "hasImage") ∈ lw_all := lw_g (lw_at lw_m5 158 rfl) rfl
theorem q1176 : (Jvm.Cond.lays "HiredByLongingModel" "HiredByLongingModel" "place0" "I") ∈ lw_all := lw_g (lw_at lw_m5 159 rfl) rfl
theorem q1177 : (Jvm.Cond.soleField "HiredByLongingModel" "place0") ∈ lw_all := lw_g (lw_at lw_m5 160 rfl) rfl
theorem q1178 : (Jvm.Cond.lays "HiredByLongingModel" "HiredByLongingModel" "isTaking" "Z") ∈ lw_all := lw_g (lw_at lw_m5 161 rfl) rfl
theorem q1179 : (Jvm.Cond.soleField "HiredByLongingModel" "isTaking") ∈ lw_all := lw_g (lw_at lw_m5 162 rfl) rfl
theorem q1180 : (Jvm.Cond.lays "HiredByLongingModel" "HiredByLongingModel" "keptIn" "[I") ∈ lw_all := lw_g (lw_at lw_m5 163 rfl) rfl
theorem q1181 : (Jvm.Cond.soleField "HiredByLongingModel" "keptIn") ∈ lw_all := lw_g (lw_at lw_m5 164 rfl) rfl
theorem q1182 : (Jvm.Cond.lays "HiredByLongingModel" "HiredByLongingModel" "chainDays" "I") ∈ lw_all := lw_g (lw_at lw_m5 165 rfl) rfl
theorem q1183 : (Jvm.Cond.soleField "HiredByLongingModel" "chainDays") ∈ lw_all := lw_g (lw_at lw_m5 166 rfl) rfl
theorem q1184 : (Jvm.Cond.lays "HiredByLongingModel" "HiredByLongingModel" "chainFirst" "I") ∈ lw_all := lw_g (lw_at lw_m5 167 rfl) rfl
theorem q1185 : (Jvm.Cond.soleField "HiredByLongingModel" "chainFirst") ∈ lw_all := lw_g (lw_at lw_m5 168 rfl) rfl
theorem q1186 : (Jvm.Cond.laysFinal "HiredByLongingModel" "HiredByLongingModel" "thereBy" "[I") ∈ lw_all := lw_g (lw_at lw_m5 169 rfl) rfl
theorem q1187 : (Jvm.Cond.soleField "HiredByLongingModel" "thereBy") ∈ lw_all := lw_g (lw_at lw_m5 170 rfl) rfl
theorem q1188 : (Jvm.Cond.lays "HiredByLongingModel" "HiredByLongingModel" "seed" "I") ∈ lw_all := lw_g (lw_at lw_m5 171 rfl) rfl
theorem q1189 : (Jvm.Cond.soleField "HiredByLongingModel" "seed") ∈ lw_all := lw_g (lw_at lw_m5 172 rfl) rfl
theorem q1190 : (Jvm.Cond.laysFinal "HiredByLongingModel" "HiredByLongingModel" "between" "[J") ∈ lw_all := lw_g (lw_at lw_m5 173 rfl) rfl
theorem q1191 : (Jvm.Cond.soleField "HiredByLongingModel" "between") ∈ lw_all := lw_g (lw_at lw_m5 174 rfl) rfl
theorem q1192 : (Jvm.Cond.superclass "HiredByLongingModel" "java/lang/Object") ∈ lw_all := lw_g (lw_at lw_m5 175 rfl) rfl
theorem q1195 : (Jvm.Cond.instanceMethod ({ cls := "HiredByLongingModel", name := "thrown", desc := "()I" } : Jvm.MethodName)) ∈ lw_all := lw_g (lw_at lw_m5 178 rfl) rfl
theorem q1196 : (Jvm.Cond.selects "HiredByLongingModel" ({ cls := "HiredByLongingModel", name := "thrown", desc := "()I" } : Jvm.MethodName) ({ cls := "HiredByLongingModel", name := "thrown", desc := "()I" } : Jvm.MethodName)) ∈ lw_all := lw_g (lw_at lw_m5 179 rfl) rfl
theorem q1197 : (Jvm.Cond.code ({ cls := "HiredByLongingModel", name := "thrown", desc := "()I" } : Jvm.MethodName) prog_21_method_2_code (1 : Nat) (Option.some Jvm.ClassFile.FieldType.int)) ∈ lw_all := lw_g (lw_at lw_m5 180 rfl) rfl
theorem q1199 : (Jvm.Cond.instanceMethod ({ cls := "HiredByLongingModel", name := "land", desc := "(I)I" } : Jvm.MethodName)) ∈ lw_all := lw_g (lw_at lw_m5 182 rfl) rfl
theorem q1200 : (Jvm.Cond.selects "HiredByLongingModel" ({ cls := "HiredByLongingModel", name := "land", desc := "(I)I" } : Jvm.MethodName) ({ cls := "HiredByLongingModel", name := "land", desc := "(I)I" } : Jvm.MethodName)) ∈ lw_all := lw_g (lw_at lw_m5 183 rfl) rfl
theorem q1201 : (Jvm.Cond.code ({ cls := "HiredByLongingModel", name := "land", desc := "(I)I" } : Jvm.MethodName) prog_21_method_27_code (4 : Nat) (Option.some Jvm.ClassFile.FieldType.int)) ∈ lw_all := lw_g (lw_at lw_m5 184 rfl) rfl
theorem q1202 : (Jvm.Cond.methodLink "HiredByLongingModel" (171 : Nat) ({ cls := "HiredByLongingModel", name := "wrongRow", desc := "(I)I" } : Jvm.MethodName)) ∈ lw_all := lw_g (lw_at lw_m5 185 rfl) rfl
theorem q1203 : (Jvm.Cond.privateMethod ({ cls := "HiredByLongingModel", name := "wrongRow", desc := "(I)I" } : Jvm.MethodName)) ∈ lw_tbl := lw_at lw_m5 186 rfl
theorem q1204 : (Jvm.Cond.instanceMethod ({ cls := "HiredByLongingModel", name := "wrongRow", desc := "(I)I" } : Jvm.MethodName)) ∈ lw_all := lw_g (lw_at lw_m5 187 rfl) rfl
theorem q1205 : (Jvm.Cond.code ({ cls := "HiredByLongingModel", name := "wrongRow", desc := "(I)I" } : Jvm.MethodName) prog_21_method_79_code (2 : Nat) (Option.some Jvm.ClassFile.FieldType.int)) ∈ lw_all := lw_g (lw_at lw_m5 188 rfl) rfl
theorem q1206 : (Jvm.Cond.constantLong "HiredByLongingModel" (205 : Nat) (7 : Int64)) ∈ lw_all := lw_g (lw_at lw_m5 189 rfl) rfl
theorem q1207 : (Jvm.Cond.methodLink "HiredByLongingModel" (77 : Nat) ({ cls := "HiredByLongingModel", name := "in", desc := "(JJJ)Z" } : Jvm.MethodName)) ∈ lw_all := lw_g (lw_at lw_m5 190 rfl) rfl
theorem q1208 : (Jvm.Cond.static ({ cls := "HiredByLongingModel", name := "in", desc := "(JJJ)Z" } : Jvm.MethodName)) ∈ lw_all := lw_g (lw_at lw_m5 191 rfl) rfl
theorem q1209 : (Jvm.Cond.code ({ cls := "HiredByLongingModel", name := "in", desc := "(JJJ)Z" } : Jvm.MethodName) prog_21_method_3_code (6 : Nat) (Option.some Jvm.ClassFile.FieldType.boolean)) ∈ lw_all := lw_g (lw_at lw_m5 192 rfl) rfl
theorem q1210 : (Jvm.Cond.methodLink "HiredByLongingModel" (174 : Nat) ({ cls := "HiredByLongingModel", name := "readStatement", desc := "()V" } : Jvm.MethodName)) ∈ lw_all := lw_g (lw_at lw_m5 193 rfl) rfl
theorem q1211 : (Jvm.Cond.privateMethod ({ cls := "HiredByLongingModel", name := "readStatement", desc := "()V" } : Jvm.MethodName)) ∈ lw_tbl := lw_at lw_m5 194 rfl
theorem q1212 : (Jvm.Cond.instanceMethod ({ cls := "HiredByLongingModel", name := "readStatement", desc := "()V" } : Jvm.MethodName)) ∈ lw_all := lw_g (lw_at lw_m5 195 rfl) rfl
theorem q1213 : (Jvm.Cond.code ({ cls := "HiredByLongingModel", name := "readStatement", desc := "()V" } : Jvm.MethodName) prog_21_method_23_code (3 : Nat) (Option.none : Option Jvm.ClassFile.FieldType)) ∈ lw_all := lw_g (lw_at lw_m5 196 rfl) rfl
theorem q1214 : (Jvm.Cond.methodLink "HiredByLongingModel" (128 : Nat) ({ cls := "HiredByLongingModel", name := "here", desc := "()I" } : Jvm.MethodName)) ∈ lw_all := lw_g (lw_at lw_m5 197 rfl) rfl
theorem q1215 : (Jvm.Cond.privateMethod ({ cls := "HiredByLongingModel", name := "here", desc := "()I" } : Jvm.MethodName)) ∈ lw_tbl := lw_at lw_m5 198 rfl
theorem q1216 : (Jvm.Cond.instanceMethod ({ cls := "HiredByLongingModel", name := "here", desc := "()I" } : Jvm.MethodName)) ∈ lw_all := lw_g (lw_at lw_m5 199 rfl) rfl
theorem q1217 : (Jvm.Cond.code ({ cls := "HiredByLongingModel", name := "here", desc := "()I" } : Jvm.MethodName) prog_21_method_19_code (1 : Nat) (Option.some Jvm.ClassFile.FieldType.int)) ∈ lw_all := lw_g (lw_at lw_m5 200 rfl) rfl
theorem q1218 : (Jvm.Cond.methodLink "HiredByLongingModel" (142 : Nat) ({ cls := "HiredByLongingModel", name := "isLetter", desc := "(I)Z" } : Jvm.MethodName)) ∈ lw_all := lw_g (lw_at lw_m5 201 rfl) rfl
theorem q1219 : (Jvm.Cond.static ({ cls := "HiredByLongingModel", name := "isLetter", desc := "(I)Z" } : Jvm.MethodName)) ∈ lw_all := lw_g (lw_at lw_m5 202 rfl) rfl
theorem q1220 : (Jvm.Cond.code ({ cls := "HiredByLongingModel", name := "isLetter", desc := "(I)Z" } : Jvm.MethodName) prog_21_method_21_code (1 : Nat) (Option.some Jvm.ClassFile.FieldType.boolean)) ∈ lw_all := lw_g (lw_at lw_m5 203 rfl) rfl
theorem q1221 : (Jvm.Cond.methodLink "HiredByLongingModel" (146 : Nat) ({ cls := "HiredByLongingModel", name := "readNumbers", desc := "(II)V" } : Jvm.MethodName)) ∈ lw_all := lw_g (lw_at lw_m5 204 rfl) rfl
theorem q1222 : (Jvm.Cond.privateMethod ({ cls := "HiredByLongingModel", name := "readNumbers", desc := "(II)V" } : Jvm.MethodName)) ∈ lw_tbl := lw_at lw_m5 205 rfl
theorem q1223 : (Jvm.Cond.instanceMethod ({ cls := "HiredByLongingModel", name := "readNumbers", desc := "(II)V" } : Jvm.MethodName)) ∈ lw_all := lw_g (lw_at lw_m5 206 rfl) rfl
theorem q1224 : (Jvm.Cond.code ({ cls := "HiredByLongingModel", name := "readNumbers", desc := "(II)V" } : Jvm.MethodName) prog_21_method_22_code (3 : Nat) (Option.none : Option Jvm.ClassFile.FieldType)) ∈ lw_all := lw_g (lw_at lw_m5 207 rfl) rfl
theorem q1225 : (Jvm.Cond.methodLink "HiredByLongingModel" (136 : Nat) ({ cls := "HiredByLongingModel", name := "readDigits", desc := "(I)I" } : Jvm.MethodName)) ∈ lw_all := lw_g (lw_at lw_m5 208 rfl) rfl
theorem q1226 : (Jvm.Cond.privateMethod ({ cls := "HiredByLongingModel", name := "readDigits", desc := "(I)I" } : Jvm.MethodName)) ∈ lw_tbl := lw_at lw_m5 209 rfl
theorem q1227 : (Jvm.Cond.instanceMethod ({ cls := "HiredByLongingModel", name := "readDigits", desc := "(I)I" } : Jvm.MethodName)) ∈ lw_all := lw_g (lw_at lw_m5 210 rfl) rfl
theorem q1228 : (Jvm.Cond.code ({ cls := "HiredByLongingModel", name := "readDigits", desc := "(I)I" } : Jvm.MethodName) prog_21_method_20_code (4 : Nat) (Option.some Jvm.ClassFile.FieldType.int)) ∈ lw_all := lw_g (lw_at lw_m5 211 rfl) rfl
theorem q1229 : (Jvm.Cond.constantLong "HiredByLongingModel" (132 : Nat) (48 : Int64)) ∈ lw_all := lw_g (lw_at lw_m5 212 rfl) rfl
theorem q1230 : (Jvm.Cond.constantLong "HiredByLongingModel" (134 : Nat) (57 : Int64)) ∈ lw_all := lw_g (lw_at lw_m5 213 rfl) rfl
theorem q1231 : (Jvm.Cond.methodLink "HiredByLongingModel" (177 : Nat) ({ cls := "HiredByLongingModel", name := "open", desc := "()V" } : Jvm.MethodName)) ∈ lw_all := lw_g (lw_at lw_m5 214 rfl) rfl
theorem q1232 : (Jvm.Cond.privateMethod ({ cls := "HiredByLongingModel", name := "open", desc := "()V" } : Jvm.MethodName)) ∈ lw_tbl := lw_at lw_m5 215 rfl
theorem q1233 : (Jvm.Cond.instanceMethod ({ cls := "HiredByLongingModel", name := "open", desc := "()V" } : Jvm.MethodName)) ∈ lw_all := lw_g (lw_at lw_m5 216 rfl) rfl
theorem q1234 : (Jvm.Cond.code ({ cls := "HiredByLongingModel", name := "open", desc := "()V" } : Jvm.MethodName) prog_21_method_30_code (1 : Nat) (Option.none : Option Jvm.ClassFile.FieldType)) ∈ lw_all := lw_g (lw_at lw_m5 217 rfl) rfl
theorem q1235 : (Jvm.Cond.methodLink "HiredByLongingModel" (198 : Nat) ({ cls := "HiredByLongingModel", name := "carryAll", desc := "([IZ)V" } : Jvm.MethodName)) ∈ lw_all := lw_g (lw_at lw_m5 218 rfl) rfl
theorem q1236 : (Jvm.Cond.privateMethod ({ cls := "HiredByLongingModel", name := "carryAll", desc := "([IZ)V" } : Jvm.MethodName)) ∈ lw_tbl := lw_at lw_m5 219 rfl
theorem q1237 : (Jvm.Cond.instanceMethod ({ cls := "HiredByLongingModel", name := "carryAll", desc := "([IZ)V" } : Jvm.MethodName)) ∈ lw_all := lw_g (lw_at lw_m5 220 rfl) rfl
theorem q1238 : (Jvm.Cond.code ({ cls := "HiredByLongingModel", name := "carryAll", desc := "([IZ)V" } : Jvm.MethodName) prog_21_method_29_code (4 : Nat) (Option.none : Option Jvm.ClassFile.FieldType)) ∈ lw_all := lw_g (lw_at lw_m5 221 rfl) rfl
theorem q1239 : (Jvm.Cond.methodLink "HiredByLongingModel" (195 : Nat) ({ cls := "HiredByLongingModel", name := "carry", desc := "(I)I" } : Jvm.MethodName)) ∈ lw_all := lw_g (lw_at lw_m5 222 rfl) rfl
theorem q1240 : (Jvm.Cond.privateMethod ({ cls := "HiredByLongingModel", name := "carry", desc := "(I)I" } : Jvm.MethodName)) ∈ lw_tbl := lw_at lw_m5 223 rfl
theorem q1241 : (Jvm.Cond.instanceMethod ({ cls := "HiredByLongingModel", name := "carry", desc := "(I)I" } : Jvm.MethodName)) ∈ lw_all := lw_g (lw_at lw_m5 224 rfl) rfl
theorem q1242 : (Jvm.Cond.code ({ cls := "HiredByLongingModel", name := "carry", desc := "(I)I" } : Jvm.MethodName) prog_21_method_28_code (2 : Nat) (Option.some Jvm.ClassFile.FieldType.int)) ∈ lw_all := lw_g (lw_at lw_m5 225 rfl) rfl
theorem q1243 : (Jvm.Cond.methodLink "HiredByLongingModel" (180 : Nat) ({ cls := "HiredByLongingModel", name := "comesTold", desc := "(I)Z" } : Jvm.MethodName)) ∈ lw_all := lw_g (lw_at lw_m5 226 rfl) rfl
theorem q1244 : (Jvm.Cond.privateMethod ({ cls := "HiredByLongingModel", name := "comesTold", desc := "(I)Z" } : Jvm.MethodName)) ∈ lw_tbl := lw_at lw_m5 227 rfl
theorem q1245 : (Jvm.Cond.instanceMethod ({ cls := "HiredByLongingModel", name := "comesTold", desc := "(I)Z" } : Jvm.MethodName)) ∈ lw_all := lw_g (lw_at lw_m5 228 rfl) rfl
theorem q1246 : (Jvm.Cond.code ({ cls := "HiredByLongingModel", name := "comesTold", desc := "(I)Z" } : Jvm.MethodName) prog_21_method_26_code (5 : Nat) (Option.some Jvm.ClassFile.FieldType.boolean)) ∈ lw_all := lw_g (lw_at lw_m5 229 rfl) rfl
theorem q1247 : (Jvm.Cond.methodLink "HiredByLongingModel" (158 : Nat) ({ cls := "HiredByLongingModel", name := "horseComes", desc := "(IIII)Z" } : Jvm.MethodName)) ∈ lw_all := lw_g (lw_at lw_m5 230 rfl) rfl
theorem q1248 : (Jvm.Cond.privateMethod ({ cls := "HiredByLongingModel", name := "horseComes", desc := "(IIII)Z" } : Jvm.MethodName)) ∈ lw_tbl := lw_at lw_m5 231 rfl
theorem q1249 : (Jvm.Cond.instanceMethod ({ cls := "HiredByLongingModel", name := "horseComes", desc := "(IIII)Z" } : Jvm.MethodName)) ∈ lw_all := lw_g (lw_at lw_m5 232 rfl) rfl
theorem q1250 : (Jvm.Cond.code ({ cls := "HiredByLongingModel", name := "horseComes", desc := "(IIII)Z" } : Jvm.MethodName) prog_21_method_24_code (6 : Nat) (Option.some Jvm.ClassFile.FieldType.boolean)) ∈ lw_all := lw_g (lw_at lw_m5 233 rfl) rfl
theorem q1251 : (Jvm.Cond.methodLink "HiredByLongingModel" (149 : Nat) ({ cls := "HiredByLongingModel", name := "isYard", desc := "(I)Z" } : Jvm.MethodName)) ∈ lw_all := lw_g (lw_at lw_m5 234 rfl) rfl
theorem q1252 : (Jvm.Cond.static ({ cls := "HiredByLongingModel", name := "isYard", desc := "(I)Z" } : Jvm.MethodName)) ∈ lw_all := lw_g (lw_at lw_m5 235 rfl) rfl
theorem q1253 : (Jvm.Cond.code ({ cls := "HiredByLongingModel", name := "isYard", desc := "(I)Z" } : Jvm.MethodName) prog_21_method_5_code (1 : Nat) (Option.some Jvm.ClassFile.FieldType.boolean)) ∈ lw_all := lw_g (lw_at lw_m5 236 rfl) rfl
theorem q1254 : (Jvm.Cond.constantLong "HiredByLongingModel" (75 : Nat) (20 : Int64)) ∈ lw_all := lw_g (lw_at lw_m5 237 rfl) rfl
theorem q1255 : (Jvm.Cond.methodLink "HiredByLongingModel" (162 : Nat) ({ cls := "HiredByLongingModel", name := "isHorse", desc := "(I)Z" } : Jvm.MethodName)) ∈ lw_all := lw_g (lw_at lw_m5 238 rfl) rfl
theorem q1256 : (Jvm.Cond.privateMethod ({ cls := "HiredByLongingModel", name := "isHorse", desc := "(I)Z" } : Jvm.MethodName)) ∈ lw_tbl := lw_at lw_m5 239 rfl
theorem q1257 : (Jvm.Cond.instanceMethod ({ cls := "HiredByLongingModel", name := "isHorse", desc := "(I)Z" } : Jvm.MethodName)) ∈ lw_all := lw_g (lw_at lw_m6 0 rfl) rfl
theorem q1258 : (Jvm.Cond.code ({ cls := "HiredByLongingModel", name := "isHorse", desc := "(I)Z" } : Jvm.MethodName) prog_21_method_6_code (2 : Nat) (Option.some Jvm.ClassFile.FieldType.boolean)) ∈ lw_all := lw_g (lw_at lw_m6 1 rfl) rfl
theorem q1259 : (Jvm.Cond.methodLink "HiredByLongingModel" (165 : Nat) ({ cls := "HiredByLongingModel", name := "ride", desc := "(II)I" } : Jvm.MethodName)) ∈ lw_all := lw_g (lw_at lw_m6 2 rfl) rfl
theorem q1260 : (Jvm.Cond.privateMethod ({ cls := "HiredByLongingModel", name := "ride", desc := "(II)I" } : Jvm.MethodName)) ∈ lw_tbl := lw_at lw_m6 3 rfl
theorem q1261 : (Jvm.Cond.instanceMethod ({ cls := "HiredByLongingModel", name := "ride", desc := "(II)I" } : Jvm.MethodName)) ∈ lw_all := lw_g (lw_at lw_m6 4 rfl) rfl
theorem q1262 : (Jvm.Cond.code ({ cls := "HiredByLongingModel", name := "ride", desc := "(II)I" } : Jvm.MethodName) prog_21_method_16_code (4 : Nat) (Option.some Jvm.ClassFile.FieldType.int)) ∈ lw_all := lw_g (lw_at lw_m6 5 rfl) rfl
theorem q1263 : (Jvm.Cond.methodLink "HiredByLongingModel" (114 : Nat) ({ cls := "HiredByLongingModel", name := "rideOn", desc := "(II)V" } : Jvm.MethodName)) ∈ lw_all := lw_g (lw_at lw_m6 6 rfl) rfl
theorem q1264 : (Jvm.Cond.privateMethod ({ cls := "HiredByLongingModel", name := "rideOn", desc := "(II)V" } : Jvm.MethodName)) ∈ lw_tbl := lw_at lw_m6 7 rfl
theorem q1265 : (Jvm.Cond.instanceMethod ({ cls := "HiredByLongingModel", name := "rideOn", desc := "(II)V" } : Jvm.MethodName)) ∈ lw_all := lw_g (lw_at lw_m6 8 rfl) rfl
theorem q1266 : (Jvm.Cond.code ({ cls := "HiredByLongingModel", name := "rideOn", desc := "(II)V" } : Jvm.MethodName) prog_21_method_15_code (8 : Nat) (Option.none : Option Jvm.ClassFile.FieldType)) ∈ lw_all := lw_g (lw_at lw_m6 9 rfl) rfl
theorem q1267 : (Jvm.Cond.methodLink "HiredByLongingModel" (91 : Nat) ({ cls := "HiredByLongingModel", name := "goalOf", desc := "(I)I" } : Jvm.MethodName)) ∈ lw_all := lw_g (lw_at lw_m6 10 rfl) rfl
theorem q1268 : (Jvm.Cond.privateMethod ({ cls := "HiredByLongingModel", name := "goalOf", desc := "(I)I" } : Jvm.MethodName)) ∈ lw_tbl := lw_at lw_m6 11 rfl
theorem q1269 : (Jvm.Cond.instanceMethod ({ cls := "HiredByLongingModel", name := "goalOf", desc := "(I)I" } : Jvm.MethodName)) ∈ lw_all := lw_g (lw_at lw_m6 12 rfl) rfl
theorem q1270 : (Jvm.Cond.code ({ cls := "HiredByLongingModel", name := "goalOf", desc := "(I)I" } : Jvm.MethodName) prog_21_method_9_code (6 : Nat) (Option.some Jvm.ClassFile.FieldType.int)) ∈ lw_all := lw_g (lw_at lw_m6 13 rfl) rfl
theorem q1271 : (Jvm.Cond.methodLink "HiredByLongingModel" (84 : Nat) ({ cls := "HiredByLongingModel", name := "apart", desc := "(II)I" } : Jvm.MethodName)) ∈ lw_all := lw_g (lw_at lw_m6 14 rfl) rfl
theorem q1272 : (Jvm.Cond.static ({ cls := "HiredByLongingModel", name := "apart", desc := "(II)I" } : Jvm.MethodName)) ∈ lw_all := lw_g (lw_at lw_m6 15 rfl) rfl
theorem q1273 : (Jvm.Cond.code ({ cls := "HiredByLongingModel", name := "apart", desc := "(II)I" } : Jvm.MethodName) prog_21_method_8_code (2 : Nat) (Option.some Jvm.ClassFile.FieldType.int)) ∈ lw_all := lw_g (lw_at lw_m6 16 rfl) rfl
theorem q1274 : (Jvm.Cond.methodLink "HiredByLongingModel" (108 : Nat) ({ cls := "HiredByLongingModel", name := "paceOf", desc := "(I)I" } : Jvm.MethodName)) ∈ lw_all := lw_g (lw_at lw_m6 17 rfl) rfl
theorem q1275 : (Jvm.Cond.privateMethod ({ cls := "HiredByLongingModel", name := "paceOf", desc := "(I)I" } : Jvm.MethodName)) ∈ lw_tbl := lw_at lw_m6 18 rfl
theorem q1276 : (Jvm.Cond.instanceMethod ({ cls := "HiredByLongingModel", name := "paceOf", desc := "(I)I" } : Jvm.MethodName)) ∈ lw_all := lw_g (lw_at lw_m6 19 rfl) rfl
theorem q1277 : (Jvm.Cond.code ({ cls := "HiredByLongingModel", name := "paceOf", desc := "(I)I" } : Jvm.MethodName) prog_21_method_11_code (3 : Nat) (Option.some Jvm.ClassFile.FieldType.int)) ∈ lw_all := lw_g (lw_at lw_m6 20 rfl) rfl
theorem q1278 : (Jvm.Cond.methodLink "HiredByLongingModel" (101 : Nat) ({ cls := "HiredByLongingModel", name := "least", desc := "(II)I" } : Jvm.MethodName)) ∈ lw_all := lw_g (lw_at lw_m6 21 rfl) rfl
theorem q1279 : (Jvm.Cond.static ({ cls := "HiredByLongingModel", name := "least", desc := "(II)I" } : Jvm.MethodName)) ∈ lw_all := lw_g (lw_at lw_m6 22 rfl) rfl
theorem q1280 : (Jvm.Cond.code ({ cls := "HiredByLongingModel", name := "least", desc := "(II)I" } : Jvm.MethodName) prog_21_method_7_code (2 : Nat) (Option.some Jvm.ClassFile.FieldType.int)) ∈ lw_all := lw_g (lw_at lw_m6 23 rfl) rfl
theorem q1281 : (Jvm.Cond.methodLink "HiredByLongingModel" (111 : Nat) ({ cls := "HiredByLongingModel", name := "walkOf", desc := "(I)I" } : Jvm.MethodName)) ∈ lw_all := lw_g (lw_at lw_m6 24 rfl) rfl
theorem q1282 : (Jvm.Cond.privateMethod ({ cls := "HiredByLongingModel", name := "walkOf", desc := "(I)I" } : Jvm.MethodName)) ∈ lw_tbl := lw_at lw_m6 25 rfl
theorem q1283 : (Jvm.Cond.instanceMethod ({ cls := "HiredByLongingModel", name := "walkOf", desc := "(I)I" } : Jvm.MethodName)) ∈ lw_all := lw_g (lw_at lw_m6 26 rfl) rfl
theorem q1284 : (Jvm.Cond.code ({ cls := "HiredByLongingModel", name := "walkOf", desc := "(I)I" } : Jvm.MethodName) prog_21_method_12_code (2 : Nat) (Option.some Jvm.ClassFile.FieldType.int)) ∈ lw_all := lw_g (lw_at lw_m6 27 rfl) rfl
theorem q1285 : (Jvm.Cond.methodLink "HiredByLongingModel" (104 : Nat) ({ cls := "HiredByLongingModel", name := "dayBy", desc := "(Z)V" } : Jvm.MethodName)) ∈ lw_all := lw_g (lw_at lw_m6 28 rfl) rfl
theorem q1286 : (Jvm.Cond.privateMethod ({ cls := "HiredByLongingModel", name := "dayBy", desc := "(Z)V" } : Jvm.MethodName)) ∈ lw_tbl := lw_at lw_m6 29 rfl
theorem q1287 : (Jvm.Cond.instanceMethod ({ cls := "HiredByLongingModel", name := "dayBy", desc := "(Z)V" } : Jvm.MethodName)) ∈ lw_all := lw_g (lw_at lw_m6 30 rfl) rfl
theorem q1288 : (Jvm.Cond.code ({ cls := "HiredByLongingModel", name := "dayBy", desc := "(Z)V" } : Jvm.MethodName) prog_21_method_13_code (4 : Nat) (Option.none : Option Jvm.ClassFile.FieldType)) ∈ lw_all := lw_g (lw_at lw_m6 31 rfl) rfl
theorem q1289 : (Jvm.Cond.methodLink "HiredByLongingModel" (98 : Nat) ({ cls := "HiredByLongingModel", name := "pinesOf", desc := "(I)I" } : Jvm.MethodName)) ∈ lw_all := lw_g (lw_at lw_m6 32 rfl) rfl
theorem q1290 : (Jvm.Cond.privateMethod ({ cls := "HiredByLongingModel", name := "pinesOf", desc := "(I)I" } : Jvm.MethodName)) ∈ lw_tbl := lw_at lw_m6 33 rfl
theorem q1291 : (Jvm.Cond.instanceMethod ({ cls := "HiredByLongingModel", name := "pinesOf", desc := "(I)I" } : Jvm.MethodName)) ∈ lw_all := lw_g (lw_at lw_m6 34 rfl) rfl
theorem q1292 : (Jvm.Cond.code ({ cls := "HiredByLongingModel", name := "pinesOf", desc := "(I)I" } : Jvm.MethodName) prog_21_method_10_code (3 : Nat) (Option.some Jvm.ClassFile.FieldType.int)) ∈ lw_all := lw_g (lw_at lw_m6 35 rfl) rfl
theorem q1293 : (Jvm.Cond.methodLink "HiredByLongingModel" (168 : Nat) ({ cls := "HiredByLongingModel", name := "daysCome", desc := "(I)Z" } : Jvm.MethodName)) ∈ lw_all := lw_g (lw_at lw_m6 36 rfl) rfl
theorem q1294 : (Jvm.Cond.privateMethod ({ cls := "HiredByLongingModel", name := "daysCome", desc := "(I)Z" } : Jvm.MethodName)) ∈ lw_tbl := lw_at lw_m6 37 rfl
theorem q1295 : (Jvm.Cond.instanceMethod ({ cls := "HiredByLongingModel", name := "daysCome", desc := "(I)Z" } : Jvm.MethodName)) ∈ lw_all := lw_g (lw_at lw_m6 38 rfl) rfl
theorem q1296 : (Jvm.Cond.code ({ cls := "HiredByLongingModel", name := "daysCome", desc := "(I)Z" } : Jvm.MethodName) prog_21_method_25_code (3 : Nat) (Option.some Jvm.ClassFile.FieldType.boolean)) ∈ lw_all := lw_g (lw_at lw_m6 39 rfl) rfl
theorem q1297 : (Jvm.Cond.constantLong "HiredByLongingModel" (152 : Nat) (60 : Int64)) ∈ lw_all := lw_g (lw_at lw_m6 40 rfl) rfl
theorem q1298 : (Jvm.Cond.methodLink "HiredByLongingModel" (154 : Nat) ({ cls := "HiredByLongingModel", name := "goDays", desc := "(I)V" } : Jvm.MethodName)) ∈ lw_all := lw_g (lw_at lw_m6 41 rfl) rfl
theorem q1299 : (Jvm.Cond.privateMethod ({ cls := "HiredByLongingModel", name := "goDays", desc := "(I)V" } : Jvm.MethodName)) ∈ lw_tbl := lw_at lw_m6 42 rfl
theorem q1300 : (Jvm.Cond.instanceMethod ({ cls := "HiredByLongingModel", name := "goDays", desc := "(I)V" } : Jvm.MethodName)) ∈ lw_all := lw_g (lw_at lw_m6 43 rfl) rfl
theorem q1301 : (Jvm.Cond.code ({ cls := "HiredByLongingModel", name := "goDays", desc := "(I)V" } : Jvm.MethodName) prog_21_method_14_code (3 : Nat) (Option.none : Option Jvm.ClassFile.FieldType)) ∈ lw_all := lw_g (lw_at lw_m6 44 rfl) rfl
theorem q1302 : (Jvm.Cond.methodLink "HiredByLongingModel" (183 : Nat) ({ cls := "HiredByLongingModel", name := "close", desc := "()V" } : Jvm.MethodName)) ∈ lw_all := lw_g (lw_at lw_m6 45 rfl) rfl
theorem q1303 : (Jvm.Cond.privateMethod ({ cls := "HiredByLongingModel", name := "close", desc := "()V" } : Jvm.MethodName)) ∈ lw_tbl := lw_at lw_m6 46 rfl
theorem q1304 : (Jvm.Cond.instanceMethod ({ cls := "HiredByLongingModel", name := "close", desc := "()V" } : Jvm.MethodName)) ∈ lw_all := lw_g (lw_at lw_m6 47 rfl) rfl
theorem q1305 : (Jvm.Cond.code ({ cls := "HiredByLongingModel", name := "close", desc := "()V" } : Jvm.MethodName) prog_21_method_31_code (1 : Nat) (Option.none : Option Jvm.ClassFile.FieldType)) ∈ lw_all := lw_g (lw_at lw_m6 48 rfl) rfl
theorem q1307 : (Jvm.Cond.instanceMethod ({ cls := "HiredByLongingModel", name := "image", desc := "()I" } : Jvm.MethodName)) ∈ lw_all := lw_g (lw_at lw_m6 50 rfl) rfl
theorem q1308 : (Jvm.Cond.selects "HiredByLongingModel" ({ cls := "HiredByLongingModel", name := "image", desc := "()I" } : Jvm.MethodName) ({ cls := "HiredByLongingModel", name := "image", desc := "()I" } : Jvm.MethodName)) ∈ lw_all := lw_g (lw_at lw_m6 51 rfl) rfl
theorem q1309 : (Jvm.Cond.code ({ cls := "HiredByLongingModel", name := "image", desc := "()I" } : Jvm.MethodName) prog_21_method_32_code (1 : Nat) (Option.some Jvm.ClassFile.FieldType.int)) ∈ lw_all := lw_g (lw_at lw_m6 52 rfl) rfl
theorem q1311 : (Jvm.Cond.instanceMethod ({ cls := "HiredByLongingModel", name := "restore", desc := "()I" } : Jvm.MethodName)) ∈ lw_all := lw_g (lw_at lw_m6 54 rfl) rfl
theorem q1312 : (Jvm.Cond.selects "HiredByLongingModel" ({ cls := "HiredByLongingModel", name := "restore", desc := "()I" } : Jvm.MethodName) ({ cls := "HiredByLongingModel", name := "restore", desc := "()I" } : Jvm.MethodName)) ∈ lw_all := lw_g (lw_at lw_m6 55 rfl) rfl
theorem q1313 : (Jvm.Cond.code ({ cls := "HiredByLongingModel", name := "restore", desc := "()I" } : Jvm.MethodName) prog_21_method_33_code (1 : Nat) (Option.some Jvm.ClassFile.FieldType.int)) ∈ lw_all := lw_g (lw_at lw_m6 56 rfl) rfl
theorem q1315 : (Jvm.Cond.instanceMethod ({ cls := "HiredByLongingModel", name := "horse", desc := "(II)I" } : Jvm.MethodName)) ∈ lw_all := lw_g (lw_at lw_m6 58 rfl) rfl
theorem q1316 : (Jvm.Cond.selects "HiredByLongingModel" ({ cls := "HiredByLongingModel", name := "horse", desc := "(II)I" } : Jvm.MethodName) ({ cls := "HiredByLongingModel", name := "horse", desc := "(II)I" } : Jvm.MethodName)) ∈ lw_all := lw_g (lw_at lw_m6 59 rfl) rfl
theorem q1317 : (Jvm.Cond.code ({ cls := "HiredByLongingModel", name := "horse", desc := "(II)I" } : Jvm.MethodName) prog_21_method_34_code (3 : Nat) (Option.some Jvm.ClassFile.FieldType.int)) ∈ lw_all := lw_g (lw_at lw_m6 60 rfl) rfl
theorem q1319 : (Jvm.Cond.instanceMethod ({ cls := "HiredByLongingModel", name := "comes", desc := "(III)I" } : Jvm.MethodName)) ∈ lw_all := lw_g (lw_at lw_m6 62 rfl) rfl
theorem q1320 : (Jvm.Cond.selects "HiredByLongingModel" ({ cls := "HiredByLongingModel", name := "comes", desc := "(III)I" } : Jvm.MethodName) ({ cls := "HiredByLongingModel", name := "comes", desc := "(III)I" } : Jvm.MethodName)) ∈ lw_all := lw_g (lw_at lw_m6 63 rfl) rfl
theorem q1321 : (Jvm.Cond.code ({ cls := "HiredByLongingModel", name := "comes", desc := "(III)I" } : Jvm.MethodName) prog_21_method_36_code (5 : Nat) (Option.some Jvm.ClassFile.FieldType.int)) ∈ lw_all := lw_g (lw_at lw_m6 64 rfl) rfl
theorem q1322 : (Jvm.Cond.methodLink "HiredByLongingModel" (207 : Nat) ({ cls := "HiredByLongingModel", name := "wrongKept", desc := "(I)I" } : Jvm.MethodName)) ∈ lw_all := lw_g (lw_at lw_m6 65 rfl) rfl
theorem q1323 : (Jvm.Cond.privateMethod ({ cls := "HiredByLongingModel", name := "wrongKept", desc := "(I)I" } : Jvm.MethodName)) ∈ lw_tbl := lw_at lw_m6 66 rfl
theorem q1324 : (Jvm.Cond.instanceMethod ({ cls := "HiredByLongingModel", name := "wrongKept", desc := "(I)I" } : Jvm.MethodName)) ∈ lw_all := lw_g (lw_at lw_m6 67 rfl) rfl
theorem q1325 : (Jvm.Cond.code ({ cls := "HiredByLongingModel", name := "wrongKept", desc := "(I)I" } : Jvm.MethodName) prog_21_method_35_code (2 : Nat) (Option.some Jvm.ClassFile.FieldType.int)) ∈ lw_all := lw_g (lw_at lw_m6 68 rfl) rfl
theorem q1327 : (Jvm.Cond.instanceMethod ({ cls := "HiredByLongingModel", name := "rides", desc := "(II)I" } : Jvm.MethodName)) ∈ lw_all := lw_g (lw_at lw_m6 70 rfl) rfl
theorem q1328 : (Jvm.Cond.selects "HiredByLongingModel" ({ cls := "HiredByLongingModel", name := "rides", desc := "(II)I" } : Jvm.MethodName) ({ cls := "HiredByLongingModel", name := "rides", desc := "(II)I" } : Jvm.MethodName)) ∈ lw_all := lw_g (lw_at lw_m6 71 rfl) rfl
theorem q1329 : (Jvm.Cond.code ({ cls := "HiredByLongingModel", name := "rides", desc := "(II)I" } : Jvm.MethodName) prog_21_method_37_code (4 : Nat) (Option.some Jvm.ClassFile.FieldType.int)) ∈ lw_all := lw_g (lw_at lw_m6 72 rfl) rfl
theorem q1331 : (Jvm.Cond.instanceMethod ({ cls := "HiredByLongingModel", name := "taken", desc := "(II)I" } : Jvm.MethodName)) ∈ lw_all := lw_g (lw_at lw_m6 74 rfl) rfl
theorem q1332 : (Jvm.Cond.selects "HiredByLongingModel" ({ cls := "HiredByLongingModel", name := "taken", desc := "(II)I" } : Jvm.MethodName) ({ cls := "HiredByLongingModel", name := "taken", desc := "(II)I" } : Jvm.MethodName)) ∈ lw_all := lw_g (lw_at lw_m6 75 rfl) rfl
theorem q1333 : (Jvm.Cond.code ({ cls := "HiredByLongingModel", name := "taken", desc := "(II)I" } : Jvm.MethodName) prog_21_method_38_code (4 : Nat) (Option.some Jvm.ClassFile.FieldType.int)) ∈ lw_all := lw_g (lw_at lw_m6 76 rfl) rfl
theorem q1335 : (Jvm.Cond.instanceMethod ({ cls := "HiredByLongingModel", name := "longs", desc := "(II)I" } : Jvm.MethodName)) ∈ lw_all := lw_g (lw_at lw_m6 78 rfl) rfl
theorem q1336 : (Jvm.Cond.selects "HiredByLongingModel" ({ cls := "HiredByLongingModel", name := "longs", desc := "(II)I" } : Jvm.MethodName) ({ cls := "HiredByLongingModel", name := "longs", desc := "(II)I" } : Jvm.MethodName)) ∈ lw_all := lw_g (lw_at lw_m6 79 rfl) rfl
theorem q1337 : (Jvm.Cond.code ({ cls := "HiredByLongingModel", name := "longs", desc := "(II)I" } : Jvm.MethodName) prog_21_method_39_code (4 : Nat) (Option.some Jvm.ClassFile.FieldType.int)) ∈ lw_all := lw_g (lw_at lw_m6 80 rfl) rfl
theorem q1338 : (Jvm.Cond.constantLong "HiredByLongingModel" (210 : Nat) (99 : Int64)) ∈ lw_all := lw_g (lw_at lw_m6 81 rfl) rfl
theorem q1340 : (Jvm.Cond.instanceMethod ({ cls := "HiredByLongingModel", name := "hangs", desc := "(I)I" } : Jvm.MethodName)) ∈ lw_all := lw_g (lw_at lw_m6 83 rfl) rfl
theorem q1341 : (Jvm.Cond.selects "HiredByLongingModel" ({ cls := "HiredByLongingModel", name := "hangs", desc := "(I)I" } : Jvm.MethodName) ({ cls := "HiredByLongingModel", name := "hangs", desc := "(I)I" } : Jvm.MethodName)) ∈ lw_all := lw_g (lw_at lw_m6 84 rfl) rfl
theorem q1342 : (Jvm.Cond.code ({ cls := "HiredByLongingModel", name := "hangs", desc := "(I)I" } : Jvm.MethodName) prog_21_method_40_code (3 : Nat) (Option.some Jvm.ClassFile.FieldType.int)) ∈ lw_all := lw_g (lw_at lw_m6 85 rfl) rfl
theorem q1344 : (Jvm.Cond.instanceMethod ({ cls := "HiredByLongingModel", name := "days", desc := "(I)I" } : Jvm.MethodName)) ∈ lw_all := lw_g (lw_at lw_m6 87 rfl) rfl
theorem q1345 : (Jvm.Cond.selects "HiredByLongingModel" ({ cls := "HiredByLongingModel", name := "days", desc := "(I)I" } : Jvm.MethodName) ({ cls := "HiredByLongingModel", name := "days", desc := "(I)I" } : Jvm.MethodName)) ∈ lw_all := lw_g (lw_at lw_m6 88 rfl) rfl
theorem q1346 : (Jvm.Cond.code ({ cls := "HiredByLongingModel", name := "days", desc := "(I)I" } : Jvm.MethodName) prog_21_method_41_code (2 : Nat) (Option.some Jvm.ClassFile.FieldType.int)) ∈ lw_all := lw_g (lw_at lw_m6 89 rfl) rfl
theorem q1347 : (Jvm.Cond.methodLink "HiredByLongingModel" (212 : Nat) ({ cls := "HiredByLongingModel", name := "allLonging", desc := "()I" } : Jvm.MethodName)) ∈ lw_all := lw_g (lw_at lw_m6 90 rfl) rfl
theorem q1348 : (Jvm.Cond.privateMethod ({ cls := "HiredByLongingModel", name := "allLonging", desc := "()I" } : Jvm.MethodName)) ∈ lw_tbl := lw_at lw_m6 91 rfl
theorem q1349 : (Jvm.Cond.instanceMethod ({ cls := "HiredByLongingModel", name := "allLonging", desc := "()I" } : Jvm.MethodName)) ∈ lw_all := lw_g (lw_at lw_m6 92 rfl) rfl
theorem q1350 : (Jvm.Cond.code ({ cls := "HiredByLongingModel", name := "allLonging", desc := "()I" } : Jvm.MethodName) prog_21_method_17_code (3 : Nat) (Option.some Jvm.ClassFile.FieldType.int)) ∈ lw_all := lw_g (lw_at lw_m6 93 rfl) rfl
theorem q1352 : (Jvm.Cond.instanceMethod ({ cls := "HiredByLongingModel", name := "howLong", desc := "(II)I" } : Jvm.MethodName)) ∈ lw_all := lw_g (lw_at lw_m6 95 rfl) rfl
theorem q1353 : (Jvm.Cond.selects "HiredByLongingModel" ({ cls := "HiredByLongingModel", name := "howLong", desc := "(II)I" } : Jvm.MethodName) ({ cls := "HiredByLongingModel", name := "howLong", desc := "(II)I" } : Jvm.MethodName)) ∈ lw_all := lw_g (lw_at lw_m6 96 rfl) rfl
theorem q1354 : (Jvm.Cond.code ({ cls := "HiredByLongingModel", name := "howLong", desc := "(II)I" } : Jvm.MethodName) prog_21_method_43_code (3 : Nat) (Option.some Jvm.ClassFile.FieldType.int)) ∈ lw_all := lw_g (lw_at lw_m6 97 rfl) rfl
theorem q1355 : (Jvm.Cond.methodLink "HiredByLongingModel" (215 : Nat) ({ cls := "HiredByLongingModel", name := "ownRide", desc := "(II)I" } : Jvm.MethodName)) ∈ lw_all := lw_g (lw_at lw_m6 98 rfl) rfl
theorem q1356 : (Jvm.Cond.privateMethod ({ cls := "HiredByLongingModel", name := "ownRide", desc := "(II)I" } : Jvm.MethodName)) ∈ lw_tbl := lw_at lw_m6 99 rfl
theorem q1357 : (Jvm.Cond.instanceMethod ({ cls := "HiredByLongingModel", name := "ownRide", desc := "(II)I" } : Jvm.MethodName)) ∈ lw_all := lw_g (lw_at lw_m6 100 rfl) rfl
theorem q1358 : (Jvm.Cond.code ({ cls := "HiredByLongingModel", name := "ownRide", desc := "(II)I" } : Jvm.MethodName) prog_21_method_42_code (4 : Nat) (Option.some Jvm.ClassFile.FieldType.int)) ∈ lw_all := lw_g (lw_at lw_m6 101 rfl) rfl
theorem q1360 : (Jvm.Cond.instanceMethod ({ cls := "HiredByLongingModel", name := "behind", desc := "(III)I" } : Jvm.MethodName)) ∈ lw_all := lw_g (lw_at lw_m6 103 rfl) rfl
theorem q1361 : (Jvm.Cond.selects "HiredByLongingModel" ({ cls := "HiredByLongingModel", name := "behind", desc := "(III)I" } : Jvm.MethodName) ({ cls := "HiredByLongingModel", name := "behind", desc := "(III)I" } : Jvm.MethodName)) ∈ lw_all := lw_g (lw_at lw_m6 104 rfl) rfl
theorem q1362 : (Jvm.Cond.code ({ cls := "HiredByLongingModel", name := "behind", desc := "(III)I" } : Jvm.MethodName) prog_21_method_44_code (5 : Nat) (Option.some Jvm.ClassFile.FieldType.int)) ∈ lw_all := lw_g (lw_at lw_m6 105 rfl) rfl
theorem q1364 : (Jvm.Cond.instanceMethod ({ cls := "HiredByLongingModel", name := "chain", desc := "(III)I" } : Jvm.MethodName)) ∈ lw_all := lw_g (lw_at lw_m6 107 rfl) rfl
theorem q1365 : (Jvm.Cond.selects "HiredByLongingModel" ({ cls := "HiredByLongingModel", name := "chain", desc := "(III)I" } : Jvm.MethodName) ({ cls := "HiredByLongingModel", name := "chain", desc := "(III)I" } : Jvm.MethodName)) ∈ lw_all := lw_g (lw_at lw_m6 108 rfl) rfl
theorem q1366 : (Jvm.Cond.code ({ cls := "HiredByLongingModel", name := "chain", desc := "(III)I" } : Jvm.MethodName) prog_21_method_48_code (8 : Nat) (Option.some Jvm.ClassFile.FieldType.int)) ∈ lw_all := lw_g (lw_at lw_m6 109 rfl) rfl
theorem q1367 : (Jvm.Cond.methodLink "HiredByLongingModel" (224 : Nat) ({ cls := "HiredByLongingModel", name := "takeChain", desc := "(II)V" } : Jvm.MethodName)) ∈ lw_all := lw_g (lw_at lw_m6 110 rfl) rfl
theorem q1368 : (Jvm.Cond.privateMethod ({ cls := "HiredByLongingModel", name := "takeChain", desc := "(II)V" } : Jvm.MethodName)) ∈ lw_tbl := lw_at lw_m6 111 rfl
theorem q1369 : (Jvm.Cond.instanceMethod ({ cls := "HiredByLongingModel", name := "takeChain", desc := "(II)V" } : Jvm.MethodName)) ∈ lw_all := lw_g (lw_at lw_m6 112 rfl) rfl
theorem q1370 : (Jvm.Cond.code ({ cls := "HiredByLongingModel", name := "takeChain", desc := "(II)V" } : Jvm.MethodName) prog_21_method_45_code (3 : Nat) (Option.none : Option Jvm.ClassFile.FieldType)) ∈ lw_all := lw_g (lw_at lw_m6 113 rfl) rfl
theorem q1371 : (Jvm.Cond.methodLink "HiredByLongingModel" (231 : Nat) ({ cls := "HiredByLongingModel", name := "secondRides", desc := "(IIII)V" } : Jvm.MethodName)) ∈ lw_all := lw_g (lw_at lw_m6 114 rfl) rfl
theorem q1372 : (Jvm.Cond.privateMethod ({ cls := "HiredByLongingModel", name := "secondRides", desc := "(IIII)V" } : Jvm.MethodName)) ∈ lw_tbl := lw_at lw_m6 115 rfl
theorem q1373 : (Jvm.Cond.instanceMethod ({ cls := "HiredByLongingModel", name := "secondRides", desc := "(IIII)V" } : Jvm.MethodName)) ∈ lw_all := lw_g (lw_at lw_m6 116 rfl) rfl
theorem q1374 : (Jvm.Cond.code ({ cls := "HiredByLongingModel", name := "secondRides", desc := "(IIII)V" } : Jvm.MethodName) prog_21_method_47_code (9 : Nat) (Option.none : Option Jvm.ClassFile.FieldType)) ∈ lw_all := lw_g (lw_at lw_m6 117 rfl) rfl
theorem q1375 : (Jvm.Cond.methodLink "HiredByLongingModel" (227 : Nat) ({ cls := "HiredByLongingModel", name := "thirdRides", desc := "(IIIII)V" } : Jvm.MethodName)) ∈ lw_all := lw_g (lw_at lw_m6 118 rfl) rfl
theorem q1376 : (Jvm.Cond.privateMethod ({ cls := "HiredByLongingModel", name := "thirdRides", desc := "(IIIII)V" } : Jvm.MethodName)) ∈ lw_tbl := lw_at lw_m6 119 rfl
theorem q1377 : (Jvm.Cond.instanceMethod ({ cls := "HiredByLongingModel", name := "thirdRides", desc := "(IIIII)V" } : Jvm.MethodName)) ∈ lw_all := lw_g (lw_at lw_m6 120 rfl) rfl
theorem q1378 : (Jvm.Cond.code ({ cls := "HiredByLongingModel", name := "thirdRides", desc := "(IIIII)V" } : Jvm.MethodName) prog_21_method_46_code (7 : Nat) (Option.none : Option Jvm.ClassFile.FieldType)) ∈ lw_all := lw_g (lw_at lw_m6 121 rfl) rfl
theorem q1380 : (Jvm.Cond.instanceMethod ({ cls := "HiredByLongingModel", name := "hurry", desc := "(II)I" } : Jvm.MethodName)) ∈ lw_all := lw_g (lw_at lw_m6 123 rfl) rfl
theorem q1381 : (Jvm.Cond.selects "HiredByLongingModel" ({ cls := "HiredByLongingModel", name := "hurry", desc := "(II)I" } : Jvm.MethodName) ({ cls := "HiredByLongingModel", name := "hurry", desc := "(II)I" } : Jvm.MethodName)) ∈ lw_all := lw_g (lw_at lw_m6 124 rfl) rfl
theorem q1382 : (Jvm.Cond.code ({ cls := "HiredByLongingModel", name := "hurry", desc := "(II)I" } : Jvm.MethodName) prog_21_method_49_code (7 : Nat) (Option.some Jvm.ClassFile.FieldType.int)) ∈ lw_all := lw_g (lw_at lw_m6 125 rfl) rfl
theorem q1384 : (Jvm.Cond.instanceMethod ({ cls := "HiredByLongingModel", name := "fastest", desc := "(I)I" } : Jvm.MethodName)) ∈ lw_all := lw_g (lw_at lw_m6 127 rfl) rfl
theorem q1385 : (Jvm.Cond.selects "HiredByLongingModel" ({ cls := "HiredByLongingModel", name := "fastest", desc := "(I)I" } : Jvm.MethodName) ({ cls := "HiredByLongingModel", name := "fastest", desc := "(I)I" } : Jvm.MethodName)) ∈ lw_all := lw_g (lw_at lw_m6 128 rfl) rfl
theorem q1386 : (Jvm.Cond.code ({ cls := "HiredByLongingModel", name := "fastest", desc := "(I)I" } : Jvm.MethodName) prog_21_method_50_code (4 : Nat) (Option.some Jvm.ClassFile.FieldType.int)) ∈ lw_all := lw_g (lw_at lw_m6 129 rfl) rfl
theorem q1388 : (Jvm.Cond.instanceMethod ({ cls := "HiredByLongingModel", name := "away", desc := "()I" } : Jvm.MethodName)) ∈ lw_all := lw_g (lw_at lw_m6 131 rfl) rfl
theorem q1389 : (Jvm.Cond.selects "HiredByLongingModel" ({ cls := "HiredByLongingModel", name := "away", desc := "()I" } : Jvm.MethodName) ({ cls := "HiredByLongingModel", name := "away", desc := "()I" } : Jvm.MethodName)) ∈ lw_all := lw_g (lw_at lw_m6 132 rfl) rfl
theorem q1390 : (Jvm.Cond.code ({ cls := "HiredByLongingModel", name := "away", desc := "()I" } : Jvm.MethodName) prog_21_method_51_code (3 : Nat) (Option.some Jvm.ClassFile.FieldType.int)) ∈ lw_all := lw_g (lw_at lw_m6 133 rfl) rfl
theorem q1392 : (Jvm.Cond.instanceMethod ({ cls := "HiredByLongingModel", name := "ripe", desc := "(II)I" } : Jvm.MethodName)) ∈ lw_all := lw_g (lw_at lw_m6 135 rfl) rfl
theorem q1393 : (Jvm.Cond.selects "HiredByLongingModel" ({ cls := "HiredByLongingModel", name := "ripe", desc := "(II)I" } : Jvm.MethodName) ({ cls := "HiredByLongingModel", name := "ripe", desc := "(II)I" } : Jvm.MethodName)) ∈ lw_all := lw_g (lw_at lw_m6 136 rfl) rfl
theorem q1394 : (Jvm.Cond.code ({ cls := "HiredByLongingModel", name := "ripe", desc := "(II)I" } : Jvm.MethodName) prog_21_method_52_code (5 : Nat) (Option.some Jvm.ClassFile.FieldType.int)) ∈ lw_all := lw_g (lw_at lw_m6 137 rfl) rfl
theorem q1396 : (Jvm.Cond.instanceMethod ({ cls := "HiredByLongingModel", name := "leastLonging", desc := "(III)I" } : Jvm.MethodName)) ∈ lw_all := lw_g (lw_at lw_m6 139 rfl) rfl
theorem q1397 : (Jvm.Cond.selects "HiredByLongingModel" ({ cls := "HiredByLongingModel", name := "leastLonging", desc := "(III)I" } : Jvm.MethodName) ({ cls := "HiredByLongingModel", name := "leastLonging", desc := "(III)I" } : Jvm.MethodName)) ∈ lw_all := lw_g (lw_at lw_m6 140 rfl) rfl
theorem q1398 : (Jvm.Cond.code ({ cls := "HiredByLongingModel", name := "leastLonging", desc := "(III)I" } : Jvm.MethodName) prog_21_method_53_code (6 : Nat) (Option.some Jvm.ClassFile.FieldType.int)) ∈ lw_all := lw_g (lw_at lw_m6 141 rfl) rfl
theorem q1400 : (Jvm.Cond.instanceMethod ({ cls := "HiredByLongingModel", name := "soonest", desc := "(III)I" } : Jvm.MethodName)) ∈ lw_all := lw_g (lw_at lw_m6 143 rfl) rfl
theorem q1401 : (Jvm.Cond.selects "HiredByLongingModel" ({ cls := "HiredByLongingModel", name := "soonest", desc := "(III)I" } : Jvm.MethodName) ({ cls := "HiredByLongingModel", name := "soonest", desc := "(III)I" } : Jvm.MethodName)) ∈ lw_all := lw_g (lw_at lw_m6 144 rfl) rfl
theorem q1402 : (Jvm.Cond.code ({ cls := "HiredByLongingModel", name := "soonest", desc := "(III)I" } : Jvm.MethodName) prog_21_method_54_code (8 : Nat) (Option.some Jvm.ClassFile.FieldType.int)) ∈ lw_all := lw_g (lw_at lw_m6 145 rfl) rfl
theorem q1404 : (Jvm.Cond.instanceMethod ({ cls := "HiredByLongingModel", name := "race", desc := "(III)I" } : Jvm.MethodName)) ∈ lw_all := lw_g (lw_at lw_m6 147 rfl) rfl
theorem q1405 : (Jvm.Cond.selects "HiredByLongingModel" ({ cls := "HiredByLongingModel", name := "race", desc := "(III)I" } : Jvm.MethodName) ({ cls := "HiredByLongingModel", name := "race", desc := "(III)I" } : Jvm.MethodName)) ∈ lw_all := lw_g (lw_at lw_m6 148 rfl) rfl
theorem q1406 : (Jvm.Cond.code ({ cls := "HiredByLongingModel", name := "race", desc := "(III)I" } : Jvm.MethodName) prog_21_method_55_code (6 : Nat) (Option.some Jvm.ClassFile.FieldType.int)) ∈ lw_all := lw_g (lw_at lw_m6 149 rfl) rfl
theorem q1408 : (Jvm.Cond.instanceMethod ({ cls := "HiredByLongingModel", name := "walkAhead", desc := "(IIII)I" } : Jvm.MethodName)) ∈ lw_all := lw_g (lw_at lw_m6 151 rfl) rfl
theorem q1409 : (Jvm.Cond.selects "HiredByLongingModel" ({ cls := "HiredByLongingModel", name := "walkAhead", desc := "(IIII)I" } : Jvm.MethodName) ({ cls := "HiredByLongingModel", name := "walkAhead", desc := "(IIII)I" } : Jvm.MethodName)) ∈ lw_all := lw_g (lw_at lw_m6 152 rfl) rfl
theorem q1410 : (Jvm.Cond.code ({ cls := "HiredByLongingModel", name := "walkAhead", desc := "(IIII)I" } : Jvm.MethodName) prog_21_method_56_code (9 : Nat) (Option.some Jvm.ClassFile.FieldType.int)) ∈ lw_all := lw_g (lw_at lw_m6 153 rfl) rfl
theorem q1411 : (Jvm.Cond.constantLong "HiredByLongingModel" (235 : Nat) (30 : Int64)) ∈ lw_all := lw_g (lw_at lw_m6 154 rfl) rfl
theorem q1413 : (Jvm.Cond.instanceMethod ({ cls := "HiredByLongingModel", name := "hang", desc := "(II)I" } : Jvm.MethodName)) ∈ lw_all := lw_g (lw_at lw_m6 156 rfl) rfl
theorem q1414 : (Jvm.Cond.selects "HiredByLongingModel" ({ cls := "HiredByLongingModel", name := "hang", desc := "(II)I" } : Jvm.MethodName) ({ cls := "HiredByLongingModel", name := "hang", desc := "(II)I" } : Jvm.MethodName)) ∈ lw_all := lw_g (lw_at lw_m6 157 rfl) rfl
theorem q1415 : (Jvm.Cond.code ({ cls := "HiredByLongingModel", name := "hang", desc := "(II)I" } : Jvm.MethodName) prog_21_method_57_code (7 : Nat) (Option.some Jvm.ClassFile.FieldType.int)) ∈ lw_all := lw_g (lw_at lw_m6 158 rfl) rfl
theorem q1417 : (Jvm.Cond.instanceMethod ({ cls := "HiredByLongingModel", name := "meet", desc := "(I)I" } : Jvm.MethodName)) ∈ lw_all := lw_g (lw_at lw_m6 160 rfl) rfl
theorem q1418 : (Jvm.Cond.selects "HiredByLongingModel" ({ cls := "HiredByLongingModel", name := "meet", desc := "(I)I" } : Jvm.MethodName) ({ cls := "HiredByLongingModel", name := "meet", desc := "(I)I" } : Jvm.MethodName)) ∈ lw_all := lw_g (lw_at lw_m6 161 rfl) rfl
theorem q1419 : (Jvm.Cond.code ({ cls := "HiredByLongingModel", name := "meet", desc := "(I)I" } : Jvm.MethodName) prog_21_method_58_code (7 : Nat) (Option.some Jvm.ClassFile.FieldType.int)) ∈ lw_all := lw_g (lw_at lw_m6 162 rfl) rfl
theorem q1421 : (Jvm.Cond.instanceMethod ({ cls := "HiredByLongingModel", name := "spread", desc := "()I" } : Jvm.MethodName)) ∈ lw_all := lw_g (lw_at lw_m6 164 rfl) rfl
theorem q1422 : (Jvm.Cond.selects "HiredByLongingModel" ({ cls := "HiredByLongingModel", name := "spread", desc := "()I" } : Jvm.MethodName) ({ cls := "HiredByLongingModel", name := "spread", desc := "()I" } : Jvm.MethodName)) ∈ lw_all := lw_g (lw_at lw_m6 165 rfl) rfl
theorem q1423 : (Jvm.Cond.code ({ cls := "HiredByLongingModel", name := "spread", desc := "()I" } : Jvm.MethodName) prog_21_method_59_code (6 : Nat) (Option.some Jvm.ClassFile.FieldType.int)) ∈ lw_all := lw_g (lw_at lw_m6 166 rfl) rfl
theorem q1425 : (Jvm.Cond.instanceMethod ({ cls := "HiredByLongingModel", name := "fees", desc := "(II)I" } : Jvm.MethodName)) ∈ lw_all := lw_g (lw_at lw_m6 168 rfl) rfl
theorem q1426 : (Jvm.Cond.selects "HiredByLongingModel" ({ cls := "HiredByLongingModel", name := "fees", desc := "(II)I" } : Jvm.MethodName) ({ cls := "HiredByLongingModel", name := "fees", desc := "(II)I" } : Jvm.MethodName)) ∈ lw_all := lw_g (lw_at lw_m6 169 rfl) rfl
theorem q1427 : (Jvm.Cond.code ({ cls := "HiredByLongingModel", name := "fees", desc := "(II)I" } : Jvm.MethodName) prog_21_method_61_code (5 : Nat) (Option.some Jvm.ClassFile.FieldType.int)) ∈ lw_all := lw_g (lw_at lw_m6 170 rfl) rfl
theorem q1428 : (Jvm.Cond.constantLong "HiredByLongingModel" (240 : Nat) (-1 : Int64)) ∈ lw_all := lw_g (lw_at lw_m6 171 rfl) rfl
theorem q1429 : (Jvm.Cond.methodLink "HiredByLongingModel" (242 : Nat) ({ cls := "HiredByLongingModel", name := "feesOf", desc := "(II)I" } : Jvm.MethodName)) ∈ lw_all := lw_g (lw_at lw_m6 172 rfl) rfl
theorem q1430 : (Jvm.Cond.privateMethod ({ cls := "HiredByLongingModel", name := "feesOf", desc := "(II)I" } : Jvm.MethodName)) ∈ lw_tbl := lw_at lw_m6 173 rfl
theorem q1431 : (Jvm.Cond.instanceMethod ({ cls := "HiredByLongingModel", name := "feesOf", desc := "(II)I" } : Jvm.MethodName)) ∈ lw_all := lw_g (lw_at lw_m6 174 rfl) rfl
theorem q1432 : (Jvm.Cond.code ({ cls := "HiredByLongingModel", name := "feesOf", desc := "(II)I" } : Jvm.MethodName) prog_21_method_60_code (3 : Nat) (Option.some Jvm.ClassFile.FieldType.int)) ∈ lw_all := lw_g (lw_at lw_m6 175 rfl) rfl
theorem q1433 : (Jvm.Cond.methodLink "HiredByLongingModel" (237 : Nat) ({ cls := "HiredByLongingModel", name := "costOf", desc := "(II)I" } : Jvm.MethodName)) ∈ lw_all := lw_g (lw_at lw_m6 176 rfl) rfl
theorem q1434 : (Jvm.Cond.static ({ cls := "HiredByLongingModel", name := "costOf", desc := "(II)I" } : Jvm.MethodName)) ∈ lw_all := lw_g (lw_at lw_m6 177 rfl) rfl
theorem q1435 : (Jvm.Cond.code ({ cls := "HiredByLongingModel", name := "costOf", desc := "(II)I" } : Jvm.MethodName) prog_21_method_85_code (2 : Nat) (Option.some Jvm.ClassFile.FieldType.int)) ∈ lw_all := lw_g (lw_at lw_m6 178 rfl) rfl
theorem q1437 : (Jvm.Cond.instanceMethod ({ cls := "HiredByLongingModel", name := "homes", desc := "(IIII)I" } : Jvm.MethodName)) ∈ lw_all := lw_g (lw_at lw_m6 180 rfl) rfl
theorem q1438 : (Jvm.Cond.selects "HiredByLongingModel" ({ cls := "HiredByLongingModel", name := "homes", desc := "(IIII)I" } : Jvm.MethodName) ({ cls := "HiredByLongingModel", name := "homes", desc := "(IIII)I" } : Jvm.MethodName)) ∈ lw_all := lw_g (lw_at lw_m6 181 rfl) rfl
theorem q1439 : (Jvm.Cond.code ({ cls := "HiredByLongingModel", name := "homes", desc := "(IIII)I" } : Jvm.MethodName) prog_21_method_64_code (10 : Nat) (Option.some Jvm.ClassFile.FieldType.int)) ∈ lw_all := lw_g (lw_at lw_m6 182 rfl) rfl
theorem q1440 : (Jvm.Cond.methodLink "HiredByLongingModel" (255 : Nat) ({ cls := "HiredByLongingModel", name := "isRow", desc := "(III)Z" } : Jvm.MethodName)) ∈ lw_all := lw_g (lw_at lw_m6 183 rfl) rfl
theorem q1441 : (Jvm.Cond.privateMethod ({ cls := "HiredByLongingModel", name := "isRow", desc := "(III)Z" } : Jvm.MethodName)) ∈ lw_tbl := lw_at lw_m6 184 rfl
theorem q1442 : (Jvm.Cond.instanceMethod ({ cls := "HiredByLongingModel", name := "isRow", desc := "(III)Z" } : Jvm.MethodName)) ∈ lw_all := lw_g (lw_at lw_m6 185 rfl) rfl
theorem q1443 : (Jvm.Cond.code ({ cls := "HiredByLongingModel", name := "isRow", desc := "(III)Z" } : Jvm.MethodName) prog_21_method_63_code (8 : Nat) (Option.some Jvm.ClassFile.FieldType.boolean)) ∈ lw_all := lw_g (lw_at lw_m6 186 rfl) rfl
theorem q1444 : (Jvm.Cond.methodLink "HiredByLongingModel" (251 : Nat) ({ cls := "HiredByLongingModel", name := "skipped", desc := "(I)J" } : Jvm.MethodName)) ∈ lw_all := lw_g (lw_at lw_m6 187 rfl) rfl
theorem q1445 : (Jvm.Cond.privateMethod ({ cls := "HiredByLongingModel", name := "skipped", desc := "(I)J" } : Jvm.MethodName)) ∈ lw_tbl := lw_at lw_m6 188 rfl
theorem q1446 : (Jvm.Cond.instanceMethod ({ cls := "HiredByLongingModel", name := "skipped", desc := "(I)J" } : Jvm.MethodName)) ∈ lw_all := lw_g (lw_at lw_m6 189 rfl) rfl
theorem q1447 : (Jvm.Cond.code ({ cls := "HiredByLongingModel", name := "skipped", desc := "(I)J" } : Jvm.MethodName) prog_21_method_62_code (2 : Nat) (Option.some Jvm.ClassFile.FieldType.long)) ∈ lw_all := lw_g (lw_at lw_m6 190 rfl) rfl
theorem q1448 : (Jvm.Cond.constantLong "HiredByLongingModel" (245 : Nat) (-128 : Int64)) ∈ lw_all := lw_g (lw_at lw_m6 191 rfl) rfl
theorem q1449 : (Jvm.Cond.constantLong "HiredByLongingModel" (247 : Nat) (-32768 : Int64)) ∈ lw_all := lw_g (lw_at lw_m6 192 rfl) rfl
theorem q1450 : (Jvm.Cond.constantLong "HiredByLongingModel" (249 : Nat) (-2147483648 : Int64)) ∈ lw_all := lw_g (lw_at lw_m6 193 rfl) rfl
theorem q1452 : (Jvm.Cond.instanceMethod ({ cls := "HiredByLongingModel", name := "whatIs", desc := "(IIII)I" } : Jvm.MethodName)) ∈ lw_all := lw_g (lw_at lw_m6 195 rfl) rfl
theorem q1453 : (Jvm.Cond.selects "HiredByLongingModel" ({ cls := "HiredByLongingModel", name := "whatIs", desc := "(IIII)I" } : Jvm.MethodName) ({ cls := "HiredByLongingModel", name := "whatIs", desc := "(IIII)I" } : Jvm.MethodName)) ∈ lw_all := lw_g (lw_at lw_m6 196 rfl) rfl
theorem q1454 : (Jvm.Cond.code ({ cls := "HiredByLongingModel", name := "whatIs", desc := "(IIII)I" } : Jvm.MethodName) prog_21_method_65_code (8 : Nat) (Option.some Jvm.ClassFile.FieldType.int)) ∈ lw_all := lw_g (lw_at lw_m6 197 rfl) rfl
theorem q1456 : (Jvm.Cond.instanceMethod ({ cls := "HiredByLongingModel", name := "two", desc := "(III)I" } : Jvm.MethodName)) ∈ lw_all := lw_g (lw_at lw_m6 199 rfl) rfl
theorem q1457 : (Jvm.Cond.selects "HiredByLongingModel" ({ cls := "HiredByLongingModel", name := "two", desc := "(III)I" } : Jvm.MethodName) ({ cls := "HiredByLongingModel", name := "two", desc := "(III)I" } : Jvm.MethodName)) ∈ lw_all := lw_g (lw_at lw_m6 200 rfl) rfl
theorem q1458 : (Jvm.Cond.code ({ cls := "HiredByLongingModel", name := "two", desc := "(III)I" } : Jvm.MethodName) prog_21_method_67_code (7 : Nat) (Option.some Jvm.ClassFile.FieldType.int)) ∈ lw_all := lw_g (lw_at lw_m6 201 rfl) rfl
theorem q1459 : (Jvm.Cond.methodLink "HiredByLongingModel" (259 : Nat) ({ cls := "HiredByLongingModel", name := "waitedRide", desc := "(III)I" } : Jvm.MethodName)) ∈ lw_all := lw_g (lw_at lw_m6 202 rfl) rfl
theorem q1460 : (Jvm.Cond.privateMethod ({ cls := "HiredByLongingModel", name := "waitedRide", desc := "(III)I" } : Jvm.MethodName)) ∈ lw_tbl := lw_at lw_m6 203 rfl
theorem q1461 : (Jvm.Cond.instanceMethod ({ cls := "HiredByLongingModel", name := "waitedRide", desc := "(III)I" } : Jvm.MethodName)) ∈ lw_all := lw_g (lw_at lw_m6 204 rfl) rfl
theorem q1462 : (Jvm.Cond.code ({ cls := "HiredByLongingModel", name := "waitedRide", desc := "(III)I" } : Jvm.MethodName) prog_21_method_66_code (5 : Nat) (Option.some Jvm.ClassFile.FieldType.int)) ∈ lw_all := lw_g (lw_at lw_m6 205 rfl) rfl
theorem q1463 : (Jvm.Cond.methodLink "HiredByLongingModel" (263 : Nat) ({ cls := "HiredByLongingModel", name := "hasBy", desc := "(III)I" } : Jvm.MethodName)) ∈ lw_all := lw_g (lw_at lw_m6 206 rfl) rfl
theorem q1464 : (Jvm.Cond.privateMethod ({ cls := "HiredByLongingModel", name := "hasBy", desc := "(III)I" } : Jvm.MethodName)) ∈ lw_tbl := lw_at lw_m6 207 rfl
theorem q1465 : (Jvm.Cond.instanceMethod ({ cls := "HiredByLongingModel", name := "hasBy", desc := "(III)I" } : Jvm.MethodName)) ∈ lw_all := lw_g (lw_at lw_m6 208 rfl) rfl
theorem q1466 : (Jvm.Cond.code ({ cls := "HiredByLongingModel", name := "hasBy", desc := "(III)I" } : Jvm.MethodName) prog_21_method_68_code (4 : Nat) (Option.some Jvm.ClassFile.FieldType.int)) ∈ lw_all := lw_g (lw_at lw_m6 209 rfl) rfl
theorem q1468 : (Jvm.Cond.instanceMethod ({ cls := "HiredByLongingModel", name := "storm", desc := "(IIIII)J" } : Jvm.MethodName)) ∈ lw_all := lw_g (lw_at lw_m6 211 rfl) rfl
theorem q1469 : (Jvm.Cond.selects "HiredByLongingModel" ({ cls := "HiredByLongingModel", name := "storm", desc := "(IIIII)J" } : Jvm.MethodName) ({ cls := "HiredByLongingModel", name := "storm", desc := "(IIIII)J" } : Jvm.MethodName)) ∈ lw_all := lw_g (lw_at lw_m6 212 rfl) rfl
theorem q1470 : (Jvm.Cond.code ({ cls := "HiredByLongingModel", name := "storm", desc := "(IIIII)J" } : Jvm.MethodName) prog_21_method_71_code (14 : Nat) (Option.some Jvm.ClassFile.FieldType.long)) ∈ lw_all := lw_g (lw_at lw_m6 213 rfl) rfl
theorem q1471 : (Jvm.Cond.constantLong "HiredByLongingModel" (270 : Nat) (2 : Int64)) ∈ lw_all := lw_g (lw_at lw_m6 214 rfl) rfl
theorem q1472 : (Jvm.Cond.constantLong "HiredByLongingModel" (272 : Nat) (1000000001 : Int64)) ∈ lw_all := lw_g (lw_at lw_m6 215 rfl) rfl
theorem q1473 : (Jvm.Cond.methodLink "HiredByLongingModel" (274 : Nat) ({ cls := "HiredByLongingModel", name := "hasBit", desc := "(II)Z" } : Jvm.MethodName)) ∈ lw_all := lw_g (lw_at lw_m6 216 rfl) rfl
theorem q1474 : (Jvm.Cond.static ({ cls := "HiredByLongingModel", name := "hasBit", desc := "(II)Z" } : Jvm.MethodName)) ∈ lw_all := lw_g (lw_at lw_m6 217 rfl) rfl
theorem q1475 : (Jvm.Cond.code ({ cls := "HiredByLongingModel", name := "hasBit", desc := "(II)Z" } : Jvm.MethodName) prog_21_method_4_code (2 : Nat) (Option.some Jvm.ClassFile.FieldType.boolean)) ∈ lw_all := lw_g (lw_at lw_m6 218 rfl) rfl
theorem q1476 : (Jvm.Cond.methodLink "HiredByLongingModel" (278 : Nat) ({ cls := "HiredByLongingModel", name := "partOf", desc := "(JJI)J" } : Jvm.MethodName)) ∈ lw_all := lw_g (lw_at lw_m6 219 rfl) rfl
theorem q1477 : (Jvm.Cond.static ({ cls := "HiredByLongingModel", name := "partOf", desc := "(JJI)J" } : Jvm.MethodName)) ∈ lw_all := lw_g (lw_at lw_m6 220 rfl) rfl
theorem q1478 : (Jvm.Cond.code ({ cls := "HiredByLongingModel", name := "partOf", desc := "(JJI)J" } : Jvm.MethodName) prog_21_method_70_code (7 : Nat) (Option.some Jvm.ClassFile.FieldType.long)) ∈ lw_all := lw_g (lw_at lw_m6 221 rfl) rfl
theorem q1479 : (Jvm.Cond.methodLink "HiredByLongingModel" (266 : Nat) ({ cls := "HiredByLongingModel", name := "divisor", desc := "(JJ)J" } : Jvm.MethodName)) ∈ lw_all := lw_g (lw_at lw_m6 222 rfl) rfl
theorem q1480 : (Jvm.Cond.static ({ cls := "HiredByLongingModel", name := "divisor", desc := "(JJ)J" } : Jvm.MethodName)) ∈ lw_all := lw_g (lw_at lw_m6 223 rfl) rfl
theorem q1481 : (Jvm.Cond.code ({ cls := "HiredByLongingModel", name := "divisor", desc := "(JJ)J" } : Jvm.MethodName) prog_21_method_69_code (10 : Nat) (Option.some Jvm.ClassFile.FieldType.long)) ∈ lw_all := lw_g (lw_at lw_m6 224 rfl) rfl
theorem q1483 : (Jvm.Cond.instanceMethod ({ cls := "HiredByLongingModel", name := "mean", desc := "(I)J" } : Jvm.MethodName)) ∈ lw_all := lw_g (lw_at lw_m6 226 rfl) rfl
theorem q1484 : (Jvm.Cond.selects "HiredByLongingModel" ({ cls := "HiredByLongingModel", name := "mean", desc := "(I)J" } : Jvm.MethodName) ({ cls := "HiredByLongingModel", name := "mean", desc := "(I)J" } : Jvm.MethodName)) ∈ lw_all := lw_g (lw_at lw_m6 227 rfl) rfl
theorem q1485 : (Jvm.Cond.code ({ cls := "HiredByLongingModel", name := "mean", desc := "(I)J" } : Jvm.MethodName) prog_21_method_72_code (2 : Nat) (Option.some Jvm.ClassFile.FieldType.long)) ∈ lw_all := lw_g (lw_at lw_m6 228 rfl) rfl
theorem q1487 : (Jvm.Cond.instanceMethod ({ cls := "HiredByLongingModel", name := "forged", desc := "(I)I" } : Jvm.MethodName)) ∈ lw_all := lw_g (lw_at lw_m6 230 rfl) rfl
theorem q1488 : (Jvm.Cond.selects "HiredByLongingModel" ({ cls := "HiredByLongingModel", name := "forged", desc := "(I)I" } : Jvm.MethodName) ({ cls := "HiredByLongingModel", name := "forged", desc := "(I)I" } : Jvm.MethodName)) ∈ lw_all := lw_g (lw_at lw_m6 231 rfl) rfl
theorem q1489 : (Jvm.Cond.code ({ cls := "HiredByLongingModel", name := "forged", desc := "(I)I" } : Jvm.MethodName) prog_21_method_73_code (11 : Nat) (Option.some Jvm.ClassFile.FieldType.int)) ∈ lw_all := lw_g (lw_at lw_m6 232 rfl) rfl
theorem q1491 : (Jvm.Cond.instanceMethod ({ cls := "HiredByLongingModel", name := "judge", desc := "(I)I" } : Jvm.MethodName)) ∈ lw_all := lw_g (lw_at lw_m6 234 rfl) rfl
theorem q1492 : (Jvm.Cond.selects "HiredByLongingModel" ({ cls := "HiredByLongingModel", name := "judge", desc := "(I)I" } : Jvm.MethodName) ({ cls := "HiredByLongingModel", name := "judge", desc := "(I)I" } : Jvm.MethodName)) ∈ lw_all := lw_g (lw_at lw_m6 235 rfl) rfl
theorem q1493 : (Jvm.Cond.code ({ cls := "HiredByLongingModel", name := "judge", desc := "(I)I" } : Jvm.MethodName) prog_21_method_74_code (7 : Nat) (Option.some Jvm.ClassFile.FieldType.int)) ∈ lw_all := lw_g (lw_at lw_m6 236 rfl) rfl
theorem q1495 : (Jvm.Cond.instanceMethod ({ cls := "HiredByLongingModel", name := "lands", desc := "(III)I" } : Jvm.MethodName)) ∈ lw_all := lw_g (lw_at lw_m6 238 rfl) rfl
theorem q1496 : (Jvm.Cond.selects "HiredByLongingModel" ({ cls := "HiredByLongingModel", name := "lands", desc := "(III)I" } : Jvm.MethodName) ({ cls := "HiredByLongingModel", name := "lands", desc := "(III)I" } : Jvm.MethodName)) ∈ lw_all := lw_g (lw_at lw_m6 239 rfl) rfl
theorem q1497 : (Jvm.Cond.code ({ cls := "HiredByLongingModel", name := "lands", desc := "(III)I" } : Jvm.MethodName) prog_21_method_76_code (7 : Nat) (Option.some Jvm.ClassFile.FieldType.int)) ∈ lw_all := lw_g (lw_at lw_m7 0 rfl) rfl
theorem q1498 : (Jvm.Cond.methodLink "HiredByLongingModel" (288 : Nat) ({ cls := "HiredByLongingModel", name := "drawBelow", desc := "(I)I" } : Jvm.MethodName)) ∈ lw_all := lw_g (lw_at lw_m7 1 rfl) rfl
theorem q1499 : (Jvm.Cond.privateMethod ({ cls := "HiredByLongingModel", name := "drawBelow", desc := "(I)I" } : Jvm.MethodName)) ∈ lw_tbl := lw_at lw_m7 2 rfl
theorem q1500 : (Jvm.Cond.instanceMethod ({ cls := "HiredByLongingModel", name := "drawBelow", desc := "(I)I" } : Jvm.MethodName)) ∈ lw_all := lw_g (lw_at lw_m7 3 rfl) rfl
theorem q1501 : (Jvm.Cond.code ({ cls := "HiredByLongingModel", name := "drawBelow", desc := "(I)I" } : Jvm.MethodName) prog_21_method_75_code (2 : Nat) (Option.some Jvm.ClassFile.FieldType.int)) ∈ lw_all := lw_g (lw_at lw_m7 4 rfl) rfl
theorem q1502 : (Jvm.Cond.constant "HiredByLongingModel" (285 : Nat) (1103515245 : Int32)) ∈ lw_all := lw_g (lw_at lw_m7 5 rfl) rfl
theorem q1503 : (Jvm.Cond.constant "HiredByLongingModel" (286 : Nat) (2147483647 : Int32)) ∈ lw_all := lw_g (lw_at lw_m7 6 rfl) rfl
theorem q1504 : (Jvm.Cond.constant "HiredByLongingModel" (287 : Nat) (65536 : Int32)) ∈ lw_all := lw_g (lw_at lw_m7 7 rfl) rfl
theorem q1505 : (Jvm.Cond.methodLink "HiredByLongingModel" (291 : Nat) ({ cls := "HiredByLongingModel", name := "atGoals", desc := "()I" } : Jvm.MethodName)) ∈ lw_all := lw_g (lw_at lw_m7 8 rfl) rfl
theorem q1506 : (Jvm.Cond.privateMethod ({ cls := "HiredByLongingModel", name := "atGoals", desc := "()I" } : Jvm.MethodName)) ∈ lw_tbl := lw_at lw_m7 9 rfl
theorem q1507 : (Jvm.Cond.instanceMethod ({ cls := "HiredByLongingModel", name := "atGoals", desc := "()I" } : Jvm.MethodName)) ∈ lw_all := lw_g (lw_at lw_m7 10 rfl) rfl
theorem q1508 : (Jvm.Cond.code ({ cls := "HiredByLongingModel", name := "atGoals", desc := "()I" } : Jvm.MethodName) prog_21_method_18_code (3 : Nat) (Option.some Jvm.ClassFile.FieldType.int)) ∈ lw_all := lw_g (lw_at lw_m7 11 rfl) rfl
theorem q1510 : (Jvm.Cond.instanceMethod ({ cls := "HiredByLongingModel", name := "count", desc := "(I)I" } : Jvm.MethodName)) ∈ lw_all := lw_g (lw_at lw_m7 13 rfl) rfl
theorem q1511 : (Jvm.Cond.selects "HiredByLongingModel" ({ cls := "HiredByLongingModel", name := "count", desc := "(I)I" } : Jvm.MethodName) ({ cls := "HiredByLongingModel", name := "count", desc := "(I)I" } : Jvm.MethodName)) ∈ lw_all := lw_g (lw_at lw_m7 14 rfl) rfl
theorem q1512 : (Jvm.Cond.code ({ cls := "HiredByLongingModel", name := "count", desc := "(I)I" } : Jvm.MethodName) prog_21_method_77_code (4 : Nat) (Option.some Jvm.ClassFile.FieldType.int)) ∈ lw_all := lw_g (lw_at lw_m7 15 rfl) rfl
theorem q1514 : (Jvm.Cond.instanceMethod ({ cls := "HiredByLongingModel", name := "keep", desc := "(IIII)I" } : Jvm.MethodName)) ∈ lw_all := lw_g (lw_at lw_m7 17 rfl) rfl
theorem q1515 : (Jvm.Cond.selects "HiredByLongingModel" ({ cls := "HiredByLongingModel", name := "keep", desc := "(IIII)I" } : Jvm.MethodName) ({ cls := "HiredByLongingModel", name := "keep", desc := "(IIII)I" } : Jvm.MethodName)) ∈ lw_all := lw_g (lw_at lw_m7 18 rfl) rfl
theorem q1516 : (Jvm.Cond.code ({ cls := "HiredByLongingModel", name := "keep", desc := "(IIII)I" } : Jvm.MethodName) prog_21_method_78_code (5 : Nat) (Option.some Jvm.ClassFile.FieldType.int)) ∈ lw_all := lw_g (lw_at lw_m7 19 rfl) rfl
theorem q1517 : (Jvm.Cond.constantLong "HiredByLongingModel" (294 : Nat) (9 : Int64)) ∈ lw_all := lw_g (lw_at lw_m7 20 rfl) rfl
theorem q1519 : (Jvm.Cond.instanceMethod ({ cls := "HiredByLongingModel", name := "row", desc := "(III)I" } : Jvm.MethodName)) ∈ lw_all := lw_g (lw_at lw_m7 22 rfl) rfl
theorem q1520 : (Jvm.Cond.selects "HiredByLongingModel" ({ cls := "HiredByLongingModel", name := "row", desc := "(III)I" } : Jvm.MethodName) ({ cls := "HiredByLongingModel", name := "row", desc := "(III)I" } : Jvm.MethodName)) ∈ lw_all := lw_g (lw_at lw_m7 23 rfl) rfl
theorem q1521 : (Jvm.Cond.code ({ cls := "HiredByLongingModel", name := "row", desc := "(III)I" } : Jvm.MethodName) prog_21_method_81_code (5 : Nat) (Option.some Jvm.ClassFile.FieldType.int)) ∈ lw_all := lw_g (lw_at lw_m7 24 rfl) rfl
theorem q1523 : (Jvm.Cond.instanceMethod ({ cls := "HiredByLongingModel", name := "put", desc := "(III)I" } : Jvm.MethodName)) ∈ lw_all := lw_g (lw_at lw_m7 26 rfl) rfl
theorem q1524 : (Jvm.Cond.selects "HiredByLongingModel" ({ cls := "HiredByLongingModel", name := "put", desc := "(III)I" } : Jvm.MethodName) ({ cls := "HiredByLongingModel", name := "put", desc := "(III)I" } : Jvm.MethodName)) ∈ lw_all := lw_g (lw_at lw_m7 27 rfl) rfl
theorem q1525 : (Jvm.Cond.code ({ cls := "HiredByLongingModel", name := "put", desc := "(III)I" } : Jvm.MethodName) prog_21_method_82_code (5 : Nat) (Option.some Jvm.ClassFile.FieldType.int)) ∈ lw_all := lw_g (lw_at lw_m7 28 rfl) rfl
theorem q1526 : (Jvm.Cond.methodLink "HiredByLongingModel" (296 : Nat) ({ cls := "HiredByLongingModel", name := "narrowed", desc := "(II)J" } : Jvm.MethodName)) ∈ lw_all := lw_g (lw_at lw_m7 29 rfl) rfl
theorem q1527 : (Jvm.Cond.static ({ cls := "HiredByLongingModel", name := "narrowed", desc := "(II)J" } : Jvm.MethodName)) ∈ lw_all := lw_g (lw_at lw_m7 30 rfl) rfl
theorem q1528 : (Jvm.Cond.code ({ cls := "HiredByLongingModel", name := "narrowed", desc := "(II)J" } : Jvm.MethodName) prog_21_method_80_code (2 : Nat) (Option.some Jvm.ClassFile.FieldType.long)) ∈ lw_all := lw_g (lw_at lw_m7 31 rfl) rfl
theorem q1530 : (Jvm.Cond.instanceMethod ({ cls := "HiredByLongingModel", name := "element", desc := "(II)J" } : Jvm.MethodName)) ∈ lw_all := lw_g (lw_at lw_m7 33 rfl) rfl
theorem q1531 : (Jvm.Cond.selects "HiredByLongingModel" ({ cls := "HiredByLongingModel", name := "element", desc := "(II)J" } : Jvm.MethodName) ({ cls := "HiredByLongingModel", name := "element", desc := "(II)J" } : Jvm.MethodName)) ∈ lw_all := lw_g (lw_at lw_m7 34 rfl) rfl
theorem q1532 : (Jvm.Cond.code ({ cls := "HiredByLongingModel", name := "element", desc := "(II)J" } : Jvm.MethodName) prog_21_method_83_code (4 : Nat) (Option.some Jvm.ClassFile.FieldType.long)) ∈ lw_all := lw_g (lw_at lw_m7 35 rfl) rfl
theorem q1534 : (Jvm.Cond.instanceMethod ({ cls := "HiredByLongingModel", name := "copy", desc := "(IIIII)I" } : Jvm.MethodName)) ∈ lw_all := lw_g (lw_at lw_m7 37 rfl) rfl
theorem q1535 : (Jvm.Cond.selects "HiredByLongingModel" ({ cls := "HiredByLongingModel", name := "copy", desc := "(IIIII)I" } : Jvm.MethodName) ({ cls := "HiredByLongingModel", name := "copy", desc := "(IIIII)I" } : Jvm.MethodName)) ∈ lw_all := lw_g (lw_at lw_m7 38 rfl) rfl
theorem q1536 : (Jvm.Cond.code ({ cls := "HiredByLongingModel", name := "copy", desc := "(IIIII)I" } : Jvm.MethodName) prog_21_method_84_code (7 : Nat) (Option.some Jvm.ClassFile.FieldType.int)) ∈ lw_all := lw_g (lw_at lw_m7 39 rfl) rfl
theorem q1538 : (Jvm.Cond.instanceMethod ({ cls := "HiredByLongingModel", name := "cost", desc := "(I)I" } : Jvm.MethodName)) ∈ lw_all := lw_g (lw_at lw_m7 41 rfl) rfl
theorem q1539 : (Jvm.Cond.selects "HiredByLongingModel" ({ cls := "HiredByLongingModel", name := "cost", desc := "(I)I" } : Jvm.MethodName) ({ cls := "HiredByLongingModel", name := "cost", desc := "(I)I" } : Jvm.MethodName)) ∈ lw_all := lw_g (lw_at lw_m7 42 rfl) rfl
theorem q1540 : (Jvm.Cond.code ({ cls := "HiredByLongingModel", name := "cost", desc := "(I)I" } : Jvm.MethodName) prog_21_method_86_code (2 : Nat) (Option.some Jvm.ClassFile.FieldType.int)) ∈ lw_all := lw_g (lw_at lw_m7 43 rfl) rfl
theorem q1542 : (Jvm.Cond.instanceMethod ({ cls := "HiredByLongingModel", name := "toss", desc := "(I)I" } : Jvm.MethodName)) ∈ lw_all := lw_g (lw_at lw_m7 45 rfl) rfl
theorem q1543 : (Jvm.Cond.selects "HiredByLongingModel" ({ cls := "HiredByLongingModel", name := "toss", desc := "(I)I" } : Jvm.MethodName) ({ cls := "HiredByLongingModel", name := "toss", desc := "(I)I" } : Jvm.MethodName)) ∈ lw_all := lw_g (lw_at lw_m7 46 rfl) rfl
theorem q1544 : (Jvm.Cond.code ({ cls := "HiredByLongingModel", name := "toss", desc := "(I)I" } : Jvm.MethodName) prog_21_method_87_code (4 : Nat) (Option.some Jvm.ClassFile.FieldType.int)) ∈ lw_all := lw_g (lw_at lw_m7 47 rfl) rfl
theorem in_X4 : ∀ w ∈ wsX40, w ∈ lw_all := lw_in wsX40 [1122, 1124, 1126, 1128, 1130, 1132, 1134, 1136, 1138, 1140, 1142, 1144, 1146, 1148, 1150, 1152, 1154, 1156, 1158, 1160, 1162, 1164, 1166, 1168, 1170, 1172, 1174, 1176, 1178, 1180, 1182, 1184, 1186, 1188, 1190] (by decide +kernel) (by decide +kernel)
