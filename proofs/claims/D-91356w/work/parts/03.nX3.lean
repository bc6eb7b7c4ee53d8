/-! SewnBookModel -/
set_option maxRecDepth 100000
def RX3 : String := "SewnBookModel"
def TX3 : u_T := fun k => match k with
  | 0 => ("SewnBookModel", "signs", "Ljava/lang/String;", true)
  | 1 => ("SewnBookModel", "code", "I", false)
  | 2 => ("SewnBookModel", "folds", "I", false)
  | 3 => ("SewnBookModel", "stations", "I", false)
  | 4 => ("SewnBookModel", "thread", "I", false)
  | 5 => ("SewnBookModel", "taped", "I", false)
  | 6 => ("SewnBookModel", "faultPlace", "I", false)
  | 7 => ("SewnBookModel", "plans", "I", false)
  | 8 => ("SewnBookModel", "partMany", "I", false)
  | 9 => ("SewnBookModel", "keptMany", "I", false)
  | 10 => ("SewnBookModel", "thick", "[I", true)
  | 11 => ("SewnBookModel", "height", "[I", true)
  | 12 => ("SewnBookModel", "kind", "[I", true)
  | 13 => ("SewnBookModel", "tape", "[I", true)
  | 14 => ("SewnBookModel", "partFold", "[I", true)
  | 15 => ("SewnBookModel", "partStation", "[I", true)
  | 16 => ("SewnBookModel", "partIs", "[I", true)
  | 17 => ("SewnBookModel", "isNeeded", "[Z", true)
  | 18 => ("SewnBookModel", "planMany", "[I", true)
  | 19 => ("SewnBookModel", "planBegin", "[I", true)
  | 20 => ("SewnBookModel", "planMove", "[I", true)
  | 21 => ("SewnBookModel", "kept", "[I", true)
  | 22 => ("SewnBookModel", "goes", "[I", true)
  | 23 => ("SewnBookModel", "hole", "[I", true)
  | 24 => ("SewnBookModel", "tie", "[I", true)
  | 25 => ("SewnBookModel", "length", "I", false)
  | 26 => ("SewnBookModel", "last", "I", false)
  | 27 => ("SewnBookModel", "isOff", "[Z", true)
  | 28 => ("SewnBookModel", "far", "[I", true)
  | 29 => ("SewnBookModel", "bitOf", "[I", true)
  | 30 => ("SewnBookModel", "leads", "[I", true)
  | 31 => ("SewnBookModel", "longs", "[I", true)
  | 32 => ("SewnBookModel", "covers", "[I", true)
  | 33 => ("SewnBookModel", "first", "I", false)
  | 34 => ("SewnBookModel", "group", "[I", true)
  | _ => ("SewnBookModel", "ends", "[I", true)
def tyX3 : Nat → FieldType := fun k => match k with
  | 0 => .object "java/lang/String"
  | 1 => .int
  | 2 => .int
  | 3 => .int
  | 4 => .int
  | 5 => .int
  | 6 => .int
  | 7 => .int
  | 8 => .int
  | 9 => .int
  | 10 => .array .int
  | 11 => .array .int
  | 12 => .array .int
  | 13 => .array .int
  | 14 => .array .int
  | 15 => .array .int
  | 16 => .array .int
  | 17 => .array .boolean
  | 18 => .array .int
  | 19 => .array .int
  | 20 => .array .int
  | 21 => .array .int
  | 22 => .array .int
  | 23 => .array .int
  | 24 => .array .int
  | 25 => .int
  | 26 => .int
  | 27 => .array .boolean
  | 28 => .array .int
  | 29 => .array .int
  | 30 => .array .int
  | 31 => .array .int
  | 32 => .array .int
  | 33 => .int
  | 34 => .array .int
  | _ => .array .int
abbrev wsX30 : List Cond := u_ws RX3 TX3 36
set_option maxRecDepth 100000 in
theorem nmX3 : ∀ a, a < 36 → ∀ b, b < 36 → a ≠ b → (TX3 a).2.1 ≠ (TX3 b).2.1 := by decide +kernel
set_option maxRecDepth 100000 in
theorem tyX3_ok : ∀ k, k < 36 → parseFieldDescriptor (TX3 k).2.2.1 = some (tyX3 k) := by decide +kernel
abbrev cX3_init : ByteArray := prog_6_method_1_code
def yX3_init : MethodName := ⟨RX3, "<init>", "()V"⟩
def dkwX3_init_9 : List UInt8 := [181, 0, 94, 42, 16, 30, 188, 10, 181, 0, 97, 42, 4, 5, 182, 0, 100, 177]
abbrev dktX3_init_9 : List UInt8 := dkwX3_init_9 ++ []
def dkwX3_init_8 : List UInt8 := [17, 1, 224, 188, 10, 181, 0, 88, 42, 17, 1, 224, 188, 10, 181, 0, 91, 42, 16, 30, 188, 10]
abbrev dktX3_init_8 : List UInt8 := dkwX3_init_8 ++ dktX3_init_9
def dkwX3_init_7 : List UInt8 := [188, 10, 181, 0, 79, 42, 16, 55, 188, 10, 181, 0, 82, 42, 17, 1, 224, 188, 10, 181, 0, 85, 42]
abbrev dktX3_init_7 : List UInt8 := dkwX3_init_7 ++ dktX3_init_8
def dkwX3_init_6 : List UInt8 := [188, 10, 181, 0, 69, 42, 8, 188, 10, 181, 0, 72, 42, 17, 1, 144, 188, 4, 181, 0, 75, 42, 18, 78]
abbrev dktX3_init_6 : List UInt8 := dkwX3_init_6 ++ dktX3_init_7
def dkwX3_init_5 : List UInt8 := [181, 0, 60, 42, 17, 7, 208, 188, 10, 181, 0, 63, 42, 16, 55, 188, 10, 181, 0, 66, 42, 16, 30]
abbrev dktX3_init_5 : List UInt8 := dkwX3_init_5 ++ dktX3_init_6
def dkwX3_init_4 : List UInt8 := [42, 16, 8, 188, 10, 181, 0, 54, 42, 16, 8, 188, 10, 181, 0, 57, 42, 17, 12, 128, 188, 10]
abbrev dktX3_init_4 : List UInt8 := dkwX3_init_4 ++ dktX3_init_5
def dkwX3_init_3 : List UInt8 := [42, 16, 55, 188, 10, 181, 0, 44, 42, 16, 55, 188, 10, 181, 0, 47, 42, 16, 55, 188, 4, 181, 0, 50]
abbrev dktX3_init_3 : List UInt8 := dkwX3_init_3 ++ dktX3_init_4
def dkwX3_init_2 : List UInt8 := [16, 6, 188, 10, 181, 0, 35, 42, 17, 1, 144, 188, 10, 181, 0, 38, 42, 16, 55, 188, 10, 181, 0, 41]
abbrev dktX3_init_2 : List UInt8 := dkwX3_init_2 ++ dktX3_init_3
def dkwX3_init_1 : List UInt8 := [181, 0, 22, 42, 2, 181, 0, 25, 42, 8, 188, 10, 181, 0, 28, 42, 16, 6, 188, 10, 181, 0, 32, 42]
abbrev dktX3_init_1 : List UInt8 := dkwX3_init_1 ++ dktX3_init_2
def dkwX3_init_0 : List UInt8 := [42, 183, 0, 3, 42, 18, 9, 181, 0, 11, 42, 4, 181, 0, 15, 42, 5, 181, 0, 19, 42, 4]
abbrev dktX3_init_0 : List UInt8 := dkwX3_init_0 ++ dktX3_init_1
theorem dksX3_init_0 : cX3_init.data.toList.drop 0 = dktX3_init_0 := by decide +kernel
theorem dksX3_init_1 : cX3_init.data.toList.drop 22 = dktX3_init_1 := dk_seg dksX3_init_0 22 rfl rfl
theorem dksX3_init_2 : cX3_init.data.toList.drop 46 = dktX3_init_2 := dk_seg dksX3_init_1 24 rfl rfl
theorem dksX3_init_3 : cX3_init.data.toList.drop 70 = dktX3_init_3 := dk_seg dksX3_init_2 24 rfl rfl
theorem dksX3_init_4 : cX3_init.data.toList.drop 94 = dktX3_init_4 := dk_seg dksX3_init_3 24 rfl rfl
theorem dksX3_init_5 : cX3_init.data.toList.drop 116 = dktX3_init_5 := dk_seg dksX3_init_4 22 rfl rfl
theorem dksX3_init_6 : cX3_init.data.toList.drop 139 = dktX3_init_6 := dk_seg dksX3_init_5 23 rfl rfl
theorem dksX3_init_7 : cX3_init.data.toList.drop 163 = dktX3_init_7 := dk_seg dksX3_init_6 24 rfl rfl
theorem dksX3_init_8 : cX3_init.data.toList.drop 186 = dktX3_init_8 := dk_seg dksX3_init_7 23 rfl rfl
theorem dksX3_init_9 : cX3_init.data.toList.drop 208 = dktX3_init_9 := dk_seg dksX3_init_8 22 rfl rfl
theorem dX3_init_0 : decode cX3_init 0 = .ok (.aload_n 0, 1) := dk_42 (dk_at dksX3_init_0 0 rfl rfl)
theorem dX3_init_1 : decode cX3_init 1 = .ok (.invokespecial 3, 3) := dk_183 0 3 (dk_at dksX3_init_0 1 rfl rfl)
theorem dX3_init_4 : decode cX3_init 4 = .ok (.aload_n 0, 1) := dk_42 (dk_at dksX3_init_0 4 rfl rfl)
theorem dX3_init_5 : decode cX3_init 5 = .ok (.ldc 9, 2) := dk_18 9 (dk_at dksX3_init_0 5 rfl rfl)
theorem dX3_init_7 : decode cX3_init 7 = .ok (.putfield 11, 3) := dk_181 0 11 (dk_at dksX3_init_0 7 rfl rfl)
theorem dX3_init_10 : decode cX3_init 10 = .ok (.aload_n 0, 1) := dk_42 (dk_at dksX3_init_0 10 rfl rfl)
theorem dX3_init_11 : decode cX3_init 11 = .ok (.iconst 1, 1) := dk_4 (dk_at dksX3_init_0 11 rfl rfl)
theorem dX3_init_12 : decode cX3_init 12 = .ok (.putfield 15, 3) := dk_181 0 15 (dk_at dksX3_init_0 12 rfl rfl)
theorem dX3_init_15 : decode cX3_init 15 = .ok (.aload_n 0, 1) := dk_42 (dk_at dksX3_init_0 15 rfl rfl)
theorem dX3_init_16 : decode cX3_init 16 = .ok (.iconst 2, 1) := dk_5 (dk_at dksX3_init_0 16 rfl rfl)
theorem dX3_init_17 : decode cX3_init 17 = .ok (.putfield 19, 3) := dk_181 0 19 (dk_at dksX3_init_0 17 rfl rfl)
theorem dX3_init_20 : decode cX3_init 20 = .ok (.aload_n 0, 1) := dk_42 (dk_at dksX3_init_0 20 rfl rfl)
theorem dX3_init_21 : decode cX3_init 21 = .ok (.iconst 1, 1) := dk_4 (dk_at dksX3_init_0 21 rfl rfl)
theorem dX3_init_22 : decode cX3_init 22 = .ok (.putfield 22, 3) := dk_181 0 22 (dk_at dksX3_init_1 0 rfl rfl)
theorem dX3_init_25 : decode cX3_init 25 = .ok (.aload_n 0, 1) := dk_42 (dk_at dksX3_init_1 3 rfl rfl)
theorem dX3_init_26 : decode cX3_init 26 = .ok (.iconst (-1), 1) := dk_2 (dk_at dksX3_init_1 4 rfl rfl)
theorem dX3_init_27 : decode cX3_init 27 = .ok (.putfield 25, 3) := dk_181 0 25 (dk_at dksX3_init_1 5 rfl rfl)
theorem dX3_init_30 : decode cX3_init 30 = .ok (.aload_n 0, 1) := dk_42 (dk_at dksX3_init_1 8 rfl rfl)
theorem dX3_init_31 : decode cX3_init 31 = .ok (.iconst 5, 1) := dk_8 (dk_at dksX3_init_1 9 rfl rfl)
theorem dX3_init_32 : decode cX3_init 32 = .ok (.newarray .int, 2) := dk_188_10 (dk_at dksX3_init_1 10 rfl rfl)
theorem dX3_init_34 : decode cX3_init 34 = .ok (.putfield 28, 3) := dk_181 0 28 (dk_at dksX3_init_1 12 rfl rfl)
theorem dX3_init_37 : decode cX3_init 37 = .ok (.aload_n 0, 1) := dk_42 (dk_at dksX3_init_1 15 rfl rfl)
theorem dX3_init_38 : decode cX3_init 38 = .ok (.bipush 6, 2) := dk_16 6 (dk_at dksX3_init_1 16 rfl rfl)
theorem dX3_init_40 : decode cX3_init 40 = .ok (.newarray .int, 2) := dk_188_10 (dk_at dksX3_init_1 18 rfl rfl)
theorem dX3_init_42 : decode cX3_init 42 = .ok (.putfield 32, 3) := dk_181 0 32 (dk_at dksX3_init_1 20 rfl rfl)
theorem dX3_init_45 : decode cX3_init 45 = .ok (.aload_n 0, 1) := dk_42 (dk_at dksX3_init_1 23 rfl rfl)
theorem dX3_init_46 : decode cX3_init 46 = .ok (.bipush 6, 2) := dk_16 6 (dk_at dksX3_init_2 0 rfl rfl)
theorem dX3_init_48 : decode cX3_init 48 = .ok (.newarray .int, 2) := dk_188_10 (dk_at dksX3_init_2 2 rfl rfl)
theorem dX3_init_50 : decode cX3_init 50 = .ok (.putfield 35, 3) := dk_181 0 35 (dk_at dksX3_init_2 4 rfl rfl)
theorem dX3_init_53 : decode cX3_init 53 = .ok (.aload_n 0, 1) := dk_42 (dk_at dksX3_init_2 7 rfl rfl)
theorem dX3_init_54 : decode cX3_init 54 = .ok (.sipush 400, 3) := dk_17 1 144 (dk_at dksX3_init_2 8 rfl rfl)
theorem dX3_init_57 : decode cX3_init 57 = .ok (.newarray .int, 2) := dk_188_10 (dk_at dksX3_init_2 11 rfl rfl)
theorem dX3_init_59 : decode cX3_init 59 = .ok (.putfield 38, 3) := dk_181 0 38 (dk_at dksX3_init_2 13 rfl rfl)
theorem dX3_init_62 : decode cX3_init 62 = .ok (.aload_n 0, 1) := dk_42 (dk_at dksX3_init_2 16 rfl rfl)
theorem dX3_init_63 : decode cX3_init 63 = .ok (.bipush 55, 2) := dk_16 55 (dk_at dksX3_init_2 17 rfl rfl)
theorem dX3_init_65 : decode cX3_init 65 = .ok (.newarray .int, 2) := dk_188_10 (dk_at dksX3_init_2 19 rfl rfl)
theorem dX3_init_67 : decode cX3_init 67 = .ok (.putfield 41, 3) := dk_181 0 41 (dk_at dksX3_init_2 21 rfl rfl)
theorem dX3_init_70 : decode cX3_init 70 = .ok (.aload_n 0, 1) := dk_42 (dk_at dksX3_init_3 0 rfl rfl)
theorem dX3_init_71 : decode cX3_init 71 = .ok (.bipush 55, 2) := dk_16 55 (dk_at dksX3_init_3 1 rfl rfl)
theorem dX3_init_73 : decode cX3_init 73 = .ok (.newarray .int, 2) := dk_188_10 (dk_at dksX3_init_3 3 rfl rfl)
theorem dX3_init_75 : decode cX3_init 75 = .ok (.putfield 44, 3) := dk_181 0 44 (dk_at dksX3_init_3 5 rfl rfl)
theorem dX3_init_78 : decode cX3_init 78 = .ok (.aload_n 0, 1) := dk_42 (dk_at dksX3_init_3 8 rfl rfl)
theorem dX3_init_79 : decode cX3_init 79 = .ok (.bipush 55, 2) := dk_16 55 (dk_at dksX3_init_3 9 rfl rfl)
theorem dX3_init_81 : decode cX3_init 81 = .ok (.newarray .int, 2) := dk_188_10 (dk_at dksX3_init_3 11 rfl rfl)
theorem dX3_init_83 : decode cX3_init 83 = .ok (.putfield 47, 3) := dk_181 0 47 (dk_at dksX3_init_3 13 rfl rfl)
theorem dX3_init_86 : decode cX3_init 86 = .ok (.aload_n 0, 1) := dk_42 (dk_at dksX3_init_3 16 rfl rfl)
theorem dX3_init_87 : decode cX3_init 87 = .ok (.bipush 55, 2) := dk_16 55 (dk_at dksX3_init_3 17 rfl rfl)
theorem dX3_init_89 : decode cX3_init 89 = .ok (.newarray .boolean, 2) := dk_188_4 (dk_at dksX3_init_3 19 rfl rfl)
theorem dX3_init_91 : decode cX3_init 91 = .ok (.putfield 50, 3) := dk_181 0 50 (dk_at dksX3_init_3 21 rfl rfl)
theorem dX3_init_94 : decode cX3_init 94 = .ok (.aload_n 0, 1) := dk_42 (dk_at dksX3_init_4 0 rfl rfl)
theorem dX3_init_95 : decode cX3_init 95 = .ok (.bipush 8, 2) := dk_16 8 (dk_at dksX3_init_4 1 rfl rfl)
theorem dX3_init_97 : decode cX3_init 97 = .ok (.newarray .int, 2) := dk_188_10 (dk_at dksX3_init_4 3 rfl rfl)
theorem dX3_init_99 : decode cX3_init 99 = .ok (.putfield 54, 3) := dk_181 0 54 (dk_at dksX3_init_4 5 rfl rfl)
theorem dX3_init_102 : decode cX3_init 102 = .ok (.aload_n 0, 1) := dk_42 (dk_at dksX3_init_4 8 rfl rfl)
theorem dX3_init_103 : decode cX3_init 103 = .ok (.bipush 8, 2) := dk_16 8 (dk_at dksX3_init_4 9 rfl rfl)
theorem dX3_init_105 : decode cX3_init 105 = .ok (.newarray .int, 2) := dk_188_10 (dk_at dksX3_init_4 11 rfl rfl)
theorem dX3_init_107 : decode cX3_init 107 = .ok (.putfield 57, 3) := dk_181 0 57 (dk_at dksX3_init_4 13 rfl rfl)
theorem dX3_init_110 : decode cX3_init 110 = .ok (.aload_n 0, 1) := dk_42 (dk_at dksX3_init_4 16 rfl rfl)
theorem dX3_init_111 : decode cX3_init 111 = .ok (.sipush 3200, 3) := dk_17 12 128 (dk_at dksX3_init_4 17 rfl rfl)
theorem dX3_init_114 : decode cX3_init 114 = .ok (.newarray .int, 2) := dk_188_10 (dk_at dksX3_init_4 20 rfl rfl)
theorem dX3_init_116 : decode cX3_init 116 = .ok (.putfield 60, 3) := dk_181 0 60 (dk_at dksX3_init_5 0 rfl rfl)
theorem dX3_init_119 : decode cX3_init 119 = .ok (.aload_n 0, 1) := dk_42 (dk_at dksX3_init_5 3 rfl rfl)
theorem dX3_init_120 : decode cX3_init 120 = .ok (.sipush 2000, 3) := dk_17 7 208 (dk_at dksX3_init_5 4 rfl rfl)
theorem dX3_init_123 : decode cX3_init 123 = .ok (.newarray .int, 2) := dk_188_10 (dk_at dksX3_init_5 7 rfl rfl)
theorem dX3_init_125 : decode cX3_init 125 = .ok (.putfield 63, 3) := dk_181 0 63 (dk_at dksX3_init_5 9 rfl rfl)
theorem dX3_init_128 : decode cX3_init 128 = .ok (.aload_n 0, 1) := dk_42 (dk_at dksX3_init_5 12 rfl rfl)
theorem dX3_init_129 : decode cX3_init 129 = .ok (.bipush 55, 2) := dk_16 55 (dk_at dksX3_init_5 13 rfl rfl)
theorem dX3_init_131 : decode cX3_init 131 = .ok (.newarray .int, 2) := dk_188_10 (dk_at dksX3_init_5 15 rfl rfl)
theorem dX3_init_133 : decode cX3_init 133 = .ok (.putfield 66, 3) := dk_181 0 66 (dk_at dksX3_init_5 17 rfl rfl)
theorem dX3_init_136 : decode cX3_init 136 = .ok (.aload_n 0, 1) := dk_42 (dk_at dksX3_init_5 20 rfl rfl)
theorem dX3_init_137 : decode cX3_init 137 = .ok (.bipush 30, 2) := dk_16 30 (dk_at dksX3_init_5 21 rfl rfl)
theorem dX3_init_139 : decode cX3_init 139 = .ok (.newarray .int, 2) := dk_188_10 (dk_at dksX3_init_6 0 rfl rfl)
theorem dX3_init_141 : decode cX3_init 141 = .ok (.putfield 69, 3) := dk_181 0 69 (dk_at dksX3_init_6 2 rfl rfl)
theorem dX3_init_144 : decode cX3_init 144 = .ok (.aload_n 0, 1) := dk_42 (dk_at dksX3_init_6 5 rfl rfl)
theorem dX3_init_145 : decode cX3_init 145 = .ok (.iconst 5, 1) := dk_8 (dk_at dksX3_init_6 6 rfl rfl)
theorem dX3_init_146 : decode cX3_init 146 = .ok (.newarray .int, 2) := dk_188_10 (dk_at dksX3_init_6 7 rfl rfl)
theorem dX3_init_148 : decode cX3_init 148 = .ok (.putfield 72, 3) := dk_181 0 72 (dk_at dksX3_init_6 9 rfl rfl)
theorem dX3_init_151 : decode cX3_init 151 = .ok (.aload_n 0, 1) := dk_42 (dk_at dksX3_init_6 12 rfl rfl)
theorem dX3_init_152 : decode cX3_init 152 = .ok (.sipush 400, 3) := dk_17 1 144 (dk_at dksX3_init_6 13 rfl rfl)
theorem dX3_init_155 : decode cX3_init 155 = .ok (.newarray .boolean, 2) := dk_188_4 (dk_at dksX3_init_6 16 rfl rfl)
theorem dX3_init_157 : decode cX3_init 157 = .ok (.putfield 75, 3) := dk_181 0 75 (dk_at dksX3_init_6 18 rfl rfl)
theorem dX3_init_160 : decode cX3_init 160 = .ok (.aload_n 0, 1) := dk_42 (dk_at dksX3_init_6 21 rfl rfl)
theorem dX3_init_161 : decode cX3_init 161 = .ok (.ldc 78, 2) := dk_18 78 (dk_at dksX3_init_6 22 rfl rfl)
theorem dX3_init_163 : decode cX3_init 163 = .ok (.newarray .int, 2) := dk_188_10 (dk_at dksX3_init_7 0 rfl rfl)
theorem dX3_init_165 : decode cX3_init 165 = .ok (.putfield 79, 3) := dk_181 0 79 (dk_at dksX3_init_7 2 rfl rfl)
theorem dX3_init_168 : decode cX3_init 168 = .ok (.aload_n 0, 1) := dk_42 (dk_at dksX3_init_7 5 rfl rfl)
theorem dX3_init_169 : decode cX3_init 169 = .ok (.bipush 55, 2) := dk_16 55 (dk_at dksX3_init_7 6 rfl rfl)
theorem dX3_init_171 : decode cX3_init 171 = .ok (.newarray .int, 2) := dk_188_10 (dk_at dksX3_init_7 8 rfl rfl)
theorem dX3_init_173 : decode cX3_init 173 = .ok (.putfield 82, 3) := dk_181 0 82 (dk_at dksX3_init_7 10 rfl rfl)
theorem dX3_init_176 : decode cX3_init 176 = .ok (.aload_n 0, 1) := dk_42 (dk_at dksX3_init_7 13 rfl rfl)
theorem dX3_init_177 : decode cX3_init 177 = .ok (.sipush 480, 3) := dk_17 1 224 (dk_at dksX3_init_7 14 rfl rfl)
theorem dX3_init_180 : decode cX3_init 180 = .ok (.newarray .int, 2) := dk_188_10 (dk_at dksX3_init_7 17 rfl rfl)
theorem dX3_init_182 : decode cX3_init 182 = .ok (.putfield 85, 3) := dk_181 0 85 (dk_at dksX3_init_7 19 rfl rfl)
theorem dX3_init_185 : decode cX3_init 185 = .ok (.aload_n 0, 1) := dk_42 (dk_at dksX3_init_7 22 rfl rfl)
theorem dX3_init_186 : decode cX3_init 186 = .ok (.sipush 480, 3) := dk_17 1 224 (dk_at dksX3_init_8 0 rfl rfl)
theorem dX3_init_189 : decode cX3_init 189 = .ok (.newarray .int, 2) := dk_188_10 (dk_at dksX3_init_8 3 rfl rfl)
theorem dX3_init_191 : decode cX3_init 191 = .ok (.putfield 88, 3) := dk_181 0 88 (dk_at dksX3_init_8 5 rfl rfl)
theorem dX3_init_194 : decode cX3_init 194 = .ok (.aload_n 0, 1) := dk_42 (dk_at dksX3_init_8 8 rfl rfl)
theorem dX3_init_195 : decode cX3_init 195 = .ok (.sipush 480, 3) := dk_17 1 224 (dk_at dksX3_init_8 9 rfl rfl)
theorem dX3_init_198 : decode cX3_init 198 = .ok (.newarray .int, 2) := dk_188_10 (dk_at dksX3_init_8 12 rfl rfl)
theorem dX3_init_200 : decode cX3_init 200 = .ok (.putfield 91, 3) := dk_181 0 91 (dk_at dksX3_init_8 14 rfl rfl)
theorem dX3_init_203 : decode cX3_init 203 = .ok (.aload_n 0, 1) := dk_42 (dk_at dksX3_init_8 17 rfl rfl)
theorem dX3_init_204 : decode cX3_init 204 = .ok (.bipush 30, 2) := dk_16 30 (dk_at dksX3_init_8 18 rfl rfl)
theorem dX3_init_206 : decode cX3_init 206 = .ok (.newarray .int, 2) := dk_188_10 (dk_at dksX3_init_8 20 rfl rfl)
theorem dX3_init_208 : decode cX3_init 208 = .ok (.putfield 94, 3) := dk_181 0 94 (dk_at dksX3_init_9 0 rfl rfl)
theorem dX3_init_211 : decode cX3_init 211 = .ok (.aload_n 0, 1) := dk_42 (dk_at dksX3_init_9 3 rfl rfl)
theorem dX3_init_212 : decode cX3_init 212 = .ok (.bipush 30, 2) := dk_16 30 (dk_at dksX3_init_9 4 rfl rfl)
theorem dX3_init_214 : decode cX3_init 214 = .ok (.newarray .int, 2) := dk_188_10 (dk_at dksX3_init_9 6 rfl rfl)
theorem dX3_init_216 : decode cX3_init 216 = .ok (.putfield 97, 3) := dk_181 0 97 (dk_at dksX3_init_9 8 rfl rfl)
theorem dX3_init_219 : decode cX3_init 219 = .ok (.aload_n 0, 1) := dk_42 (dk_at dksX3_init_9 11 rfl rfl)
theorem dX3_init_220 : decode cX3_init 220 = .ok (.iconst 1, 1) := dk_4 (dk_at dksX3_init_9 12 rfl rfl)
theorem dX3_init_221 : decode cX3_init 221 = .ok (.iconst 2, 1) := dk_5 (dk_at dksX3_init_9 13 rfl rfl)
theorem dX3_init_222 : decode cX3_init 222 = .ok (.invokevirtual 100, 3) := dk_182 0 100 (dk_at dksX3_init_9 14 rfl rfl)
theorem dX3_init_225 : decode cX3_init 225 = .ok (.return_, 1) := dk_177 (dk_at dksX3_init_9 17 rfl rfl)
abbrev cX3_begin : ByteArray := prog_6_method_5_code
def yX3_begin : MethodName := ⟨RX3, "begin", "(II)V"⟩
def dkwX3_begin_3 : List UInt8 := [79, 132, 3, 1, 167, 255, 230, 42, 182, 0, 113, 177]
abbrev dktX3_begin_3 : List UInt8 := dkwX3_begin_3 ++ []
def dkwX3_begin_2 : List UInt8 := [3, 62, 29, 16, 6, 162, 0, 26, 42, 180, 0, 32, 29, 16, 20, 29, 104, 79, 42, 180, 0, 35, 29, 3]
abbrev dktX3_begin_2 : List UInt8 := dkwX3_begin_2 ++ dktX3_begin_3
def dkwX3_begin_1 : List UInt8 := [181, 0, 110, 3, 62, 29, 8, 162, 0, 17, 42, 180, 0, 28, 29, 16, 10, 79, 132, 3, 1, 167, 255, 240]
abbrev dktX3_begin_1 : List UInt8 := dkwX3_begin_1 ++ dktX3_begin_2
def dkwX3_begin_0 : List UInt8 := [42, 27, 181, 0, 15, 42, 28, 181, 0, 19, 42, 4, 181, 0, 22, 42, 3, 181, 0, 107, 42, 3]
abbrev dktX3_begin_0 : List UInt8 := dkwX3_begin_0 ++ dktX3_begin_1
theorem dksX3_begin_0 : cX3_begin.data.toList.drop 0 = dktX3_begin_0 := by decide +kernel
theorem dksX3_begin_1 : cX3_begin.data.toList.drop 22 = dktX3_begin_1 := dk_seg dksX3_begin_0 22 rfl rfl
theorem dksX3_begin_2 : cX3_begin.data.toList.drop 46 = dktX3_begin_2 := dk_seg dksX3_begin_1 24 rfl rfl
theorem dksX3_begin_3 : cX3_begin.data.toList.drop 70 = dktX3_begin_3 := dk_seg dksX3_begin_2 24 rfl rfl
theorem dX3_begin_0 : decode cX3_begin 0 = .ok (.aload_n 0, 1) := dk_42 (dk_at dksX3_begin_0 0 rfl rfl)
theorem dX3_begin_1 : decode cX3_begin 1 = .ok (.iload_n 1, 1) := dk_27 (dk_at dksX3_begin_0 1 rfl rfl)
theorem dX3_begin_2 : decode cX3_begin 2 = .ok (.putfield 15, 3) := dk_181 0 15 (dk_at dksX3_begin_0 2 rfl rfl)
theorem dX3_begin_5 : decode cX3_begin 5 = .ok (.aload_n 0, 1) := dk_42 (dk_at dksX3_begin_0 5 rfl rfl)
theorem dX3_begin_6 : decode cX3_begin 6 = .ok (.iload_n 2, 1) := dk_28 (dk_at dksX3_begin_0 6 rfl rfl)
theorem dX3_begin_7 : decode cX3_begin 7 = .ok (.putfield 19, 3) := dk_181 0 19 (dk_at dksX3_begin_0 7 rfl rfl)
theorem dX3_begin_10 : decode cX3_begin 10 = .ok (.aload_n 0, 1) := dk_42 (dk_at dksX3_begin_0 10 rfl rfl)
theorem dX3_begin_11 : decode cX3_begin 11 = .ok (.iconst 1, 1) := dk_4 (dk_at dksX3_begin_0 11 rfl rfl)
theorem dX3_begin_12 : decode cX3_begin 12 = .ok (.putfield 22, 3) := dk_181 0 22 (dk_at dksX3_begin_0 12 rfl rfl)
theorem dX3_begin_15 : decode cX3_begin 15 = .ok (.aload_n 0, 1) := dk_42 (dk_at dksX3_begin_0 15 rfl rfl)
theorem dX3_begin_16 : decode cX3_begin 16 = .ok (.iconst 0, 1) := dk_3 (dk_at dksX3_begin_0 16 rfl rfl)
theorem dX3_begin_17 : decode cX3_begin 17 = .ok (.putfield 107, 3) := dk_181 0 107 (dk_at dksX3_begin_0 17 rfl rfl)
theorem dX3_begin_20 : decode cX3_begin 20 = .ok (.aload_n 0, 1) := dk_42 (dk_at dksX3_begin_0 20 rfl rfl)
theorem dX3_begin_21 : decode cX3_begin 21 = .ok (.iconst 0, 1) := dk_3 (dk_at dksX3_begin_0 21 rfl rfl)
theorem dX3_begin_22 : decode cX3_begin 22 = .ok (.putfield 110, 3) := dk_181 0 110 (dk_at dksX3_begin_1 0 rfl rfl)
theorem dX3_begin_25 : decode cX3_begin 25 = .ok (.iconst 0, 1) := dk_3 (dk_at dksX3_begin_1 3 rfl rfl)
theorem dX3_begin_26 : decode cX3_begin 26 = .ok (.istore_n 3, 1) := dk_62 (dk_at dksX3_begin_1 4 rfl rfl)
theorem dX3_begin_27 : decode cX3_begin 27 = .ok (.iload_n 3, 1) := dk_29 (dk_at dksX3_begin_1 5 rfl rfl)
theorem dX3_begin_28 : decode cX3_begin 28 = .ok (.iconst 5, 1) := dk_8 (dk_at dksX3_begin_1 6 rfl rfl)
theorem dX3_begin_29 : decode cX3_begin 29 = .ok (.if_icmp .ge 17, 3) := dk_162 0 17 (dk_at dksX3_begin_1 7 rfl rfl)
theorem dX3_begin_32 : decode cX3_begin 32 = .ok (.aload_n 0, 1) := dk_42 (dk_at dksX3_begin_1 10 rfl rfl)
theorem dX3_begin_33 : decode cX3_begin 33 = .ok (.getfield 28, 3) := dk_180 0 28 (dk_at dksX3_begin_1 11 rfl rfl)
theorem dX3_begin_36 : decode cX3_begin 36 = .ok (.iload_n 3, 1) := dk_29 (dk_at dksX3_begin_1 14 rfl rfl)
theorem dX3_begin_37 : decode cX3_begin 37 = .ok (.bipush 10, 2) := dk_16 10 (dk_at dksX3_begin_1 15 rfl rfl)
theorem dX3_begin_39 : decode cX3_begin 39 = .ok (.iastore, 1) := dk_79 (dk_at dksX3_begin_1 17 rfl rfl)
theorem dX3_begin_40 : decode cX3_begin 40 = .ok (.iinc 3 1, 3) := dk_132 3 1 (dk_at dksX3_begin_1 18 rfl rfl)
theorem dX3_begin_43 : decode cX3_begin 43 = .ok (.goto (-16), 3) := dk_167 255 240 (dk_at dksX3_begin_1 21 rfl rfl)
theorem dX3_begin_46 : decode cX3_begin 46 = .ok (.iconst 0, 1) := dk_3 (dk_at dksX3_begin_2 0 rfl rfl)
theorem dX3_begin_47 : decode cX3_begin 47 = .ok (.istore_n 3, 1) := dk_62 (dk_at dksX3_begin_2 1 rfl rfl)
theorem dX3_begin_48 : decode cX3_begin 48 = .ok (.iload_n 3, 1) := dk_29 (dk_at dksX3_begin_2 2 rfl rfl)
theorem dX3_begin_49 : decode cX3_begin 49 = .ok (.bipush 6, 2) := dk_16 6 (dk_at dksX3_begin_2 3 rfl rfl)
theorem dX3_begin_51 : decode cX3_begin 51 = .ok (.if_icmp .ge 26, 3) := dk_162 0 26 (dk_at dksX3_begin_2 5 rfl rfl)
theorem dX3_begin_54 : decode cX3_begin 54 = .ok (.aload_n 0, 1) := dk_42 (dk_at dksX3_begin_2 8 rfl rfl)
theorem dX3_begin_55 : decode cX3_begin 55 = .ok (.getfield 32, 3) := dk_180 0 32 (dk_at dksX3_begin_2 9 rfl rfl)
theorem dX3_begin_58 : decode cX3_begin 58 = .ok (.iload_n 3, 1) := dk_29 (dk_at dksX3_begin_2 12 rfl rfl)
theorem dX3_begin_59 : decode cX3_begin 59 = .ok (.bipush 20, 2) := dk_16 20 (dk_at dksX3_begin_2 13 rfl rfl)
theorem dX3_begin_61 : decode cX3_begin 61 = .ok (.iload_n 3, 1) := dk_29 (dk_at dksX3_begin_2 15 rfl rfl)
theorem dX3_begin_62 : decode cX3_begin 62 = .ok (.imul, 1) := dk_104 (dk_at dksX3_begin_2 16 rfl rfl)
theorem dX3_begin_63 : decode cX3_begin 63 = .ok (.iastore, 1) := dk_79 (dk_at dksX3_begin_2 17 rfl rfl)
theorem dX3_begin_64 : decode cX3_begin 64 = .ok (.aload_n 0, 1) := dk_42 (dk_at dksX3_begin_2 18 rfl rfl)
theorem dX3_begin_65 : decode cX3_begin 65 = .ok (.getfield 35, 3) := dk_180 0 35 (dk_at dksX3_begin_2 19 rfl rfl)
theorem dX3_begin_68 : decode cX3_begin 68 = .ok (.iload_n 3, 1) := dk_29 (dk_at dksX3_begin_2 22 rfl rfl)
theorem dX3_begin_69 : decode cX3_begin 69 = .ok (.iconst 0, 1) := dk_3 (dk_at dksX3_begin_2 23 rfl rfl)
theorem dX3_begin_70 : decode cX3_begin 70 = .ok (.iastore, 1) := dk_79 (dk_at dksX3_begin_3 0 rfl rfl)
theorem dX3_begin_71 : decode cX3_begin 71 = .ok (.iinc 3 1, 3) := dk_132 3 1 (dk_at dksX3_begin_3 1 rfl rfl)
theorem dX3_begin_74 : decode cX3_begin 74 = .ok (.goto (-26), 3) := dk_167 255 230 (dk_at dksX3_begin_3 4 rfl rfl)
theorem dX3_begin_77 : decode cX3_begin 77 = .ok (.aload_n 0, 1) := dk_42 (dk_at dksX3_begin_3 7 rfl rfl)
theorem dX3_begin_78 : decode cX3_begin 78 = .ok (.invokevirtual 113, 3) := dk_182 0 113 (dk_at dksX3_begin_3 8 rfl rfl)
theorem dX3_begin_81 : decode cX3_begin 81 = .ok (.return_, 1) := dk_177 (dk_at dksX3_begin_3 11 rfl rfl)
abbrev cX3_lay : ByteArray := prog_6_method_7_code
def yX3_lay : MethodName := ⟨RX3, "lay", "()V"⟩
def dkwX3_lay_4 : List UInt8 := [160, 0, 10, 42, 27, 28, 5, 182, 0, 119, 132, 2, 1, 167, 255, 226, 132, 1, 1, 167, 255, 152, 177]
abbrev dktX3_lay_4 : List UInt8 := dkwX3_lay_4 ++ []
def dkwX3_lay_3 : List UInt8 := [167, 255, 228, 3, 61, 28, 4, 96, 42, 180, 0, 19, 162, 0, 26, 42, 180, 0, 35, 28, 46, 6]
abbrev dktX3_lay_3 : List UInt8 := dkwX3_lay_3 ++ dktX3_lay_4
def dkwX3_lay_2 : List UInt8 := [162, 0, 26, 42, 180, 0, 35, 28, 46, 5, 160, 0, 10, 42, 27, 28, 4, 182, 0, 119, 132, 2, 1]
abbrev dktX3_lay_2 : List UInt8 := dkwX3_lay_2 ++ dktX3_lay_3
def dkwX3_lay_1 : List UInt8 := [162, 0, 16, 42, 27, 28, 3, 182, 0, 119, 132, 2, 1, 167, 255, 236, 3, 61, 28, 42, 180, 0, 19]
abbrev dktX3_lay_1 : List UInt8 := dkwX3_lay_1 ++ dktX3_lay_2
def dkwX3_lay_0 : List UInt8 := [42, 3, 181, 0, 116, 3, 60, 27, 42, 180, 0, 15, 162, 0, 102, 3, 61, 28, 4, 96, 42, 180, 0, 19]
abbrev dktX3_lay_0 : List UInt8 := dkwX3_lay_0 ++ dktX3_lay_1
theorem dksX3_lay_0 : cX3_lay.data.toList.drop 0 = dktX3_lay_0 := by decide +kernel
theorem dksX3_lay_1 : cX3_lay.data.toList.drop 24 = dktX3_lay_1 := dk_seg dksX3_lay_0 24 rfl rfl
theorem dksX3_lay_2 : cX3_lay.data.toList.drop 47 = dktX3_lay_2 := dk_seg dksX3_lay_1 23 rfl rfl
theorem dksX3_lay_3 : cX3_lay.data.toList.drop 70 = dktX3_lay_3 := dk_seg dksX3_lay_2 23 rfl rfl
theorem dksX3_lay_4 : cX3_lay.data.toList.drop 92 = dktX3_lay_4 := dk_seg dksX3_lay_3 22 rfl rfl
theorem dX3_lay_0 : decode cX3_lay 0 = .ok (.aload_n 0, 1) := dk_42 (dk_at dksX3_lay_0 0 rfl rfl)
theorem dX3_lay_1 : decode cX3_lay 1 = .ok (.iconst 0, 1) := dk_3 (dk_at dksX3_lay_0 1 rfl rfl)
theorem dX3_lay_2 : decode cX3_lay 2 = .ok (.putfield 116, 3) := dk_181 0 116 (dk_at dksX3_lay_0 2 rfl rfl)
theorem dX3_lay_5 : decode cX3_lay 5 = .ok (.iconst 0, 1) := dk_3 (dk_at dksX3_lay_0 5 rfl rfl)
theorem dX3_lay_6 : decode cX3_lay 6 = .ok (.istore_n 1, 1) := dk_60 (dk_at dksX3_lay_0 6 rfl rfl)
theorem dX3_lay_7 : decode cX3_lay 7 = .ok (.iload_n 1, 1) := dk_27 (dk_at dksX3_lay_0 7 rfl rfl)
theorem dX3_lay_8 : decode cX3_lay 8 = .ok (.aload_n 0, 1) := dk_42 (dk_at dksX3_lay_0 8 rfl rfl)
theorem dX3_lay_9 : decode cX3_lay 9 = .ok (.getfield 15, 3) := dk_180 0 15 (dk_at dksX3_lay_0 9 rfl rfl)
theorem dX3_lay_12 : decode cX3_lay 12 = .ok (.if_icmp .ge 102, 3) := dk_162 0 102 (dk_at dksX3_lay_0 12 rfl rfl)
theorem dX3_lay_15 : decode cX3_lay 15 = .ok (.iconst 0, 1) := dk_3 (dk_at dksX3_lay_0 15 rfl rfl)
theorem dX3_lay_16 : decode cX3_lay 16 = .ok (.istore_n 2, 1) := dk_61 (dk_at dksX3_lay_0 16 rfl rfl)
theorem dX3_lay_17 : decode cX3_lay 17 = .ok (.iload_n 2, 1) := dk_28 (dk_at dksX3_lay_0 17 rfl rfl)
theorem dX3_lay_18 : decode cX3_lay 18 = .ok (.iconst 1, 1) := dk_4 (dk_at dksX3_lay_0 18 rfl rfl)
theorem dX3_lay_19 : decode cX3_lay 19 = .ok (.iadd, 1) := dk_96 (dk_at dksX3_lay_0 19 rfl rfl)
theorem dX3_lay_20 : decode cX3_lay 20 = .ok (.aload_n 0, 1) := dk_42 (dk_at dksX3_lay_0 20 rfl rfl)
theorem dX3_lay_21 : decode cX3_lay 21 = .ok (.getfield 19, 3) := dk_180 0 19 (dk_at dksX3_lay_0 21 rfl rfl)
theorem dX3_lay_24 : decode cX3_lay 24 = .ok (.if_icmp .ge 16, 3) := dk_162 0 16 (dk_at dksX3_lay_1 0 rfl rfl)
theorem dX3_lay_27 : decode cX3_lay 27 = .ok (.aload_n 0, 1) := dk_42 (dk_at dksX3_lay_1 3 rfl rfl)
theorem dX3_lay_28 : decode cX3_lay 28 = .ok (.iload_n 1, 1) := dk_27 (dk_at dksX3_lay_1 4 rfl rfl)
theorem dX3_lay_29 : decode cX3_lay 29 = .ok (.iload_n 2, 1) := dk_28 (dk_at dksX3_lay_1 5 rfl rfl)
theorem dX3_lay_30 : decode cX3_lay 30 = .ok (.iconst 0, 1) := dk_3 (dk_at dksX3_lay_1 6 rfl rfl)
theorem dX3_lay_31 : decode cX3_lay 31 = .ok (.invokevirtual 119, 3) := dk_182 0 119 (dk_at dksX3_lay_1 7 rfl rfl)
theorem dX3_lay_34 : decode cX3_lay 34 = .ok (.iinc 2 1, 3) := dk_132 2 1 (dk_at dksX3_lay_1 10 rfl rfl)
theorem dX3_lay_37 : decode cX3_lay 37 = .ok (.goto (-20), 3) := dk_167 255 236 (dk_at dksX3_lay_1 13 rfl rfl)
theorem dX3_lay_40 : decode cX3_lay 40 = .ok (.iconst 0, 1) := dk_3 (dk_at dksX3_lay_1 16 rfl rfl)
theorem dX3_lay_41 : decode cX3_lay 41 = .ok (.istore_n 2, 1) := dk_61 (dk_at dksX3_lay_1 17 rfl rfl)
theorem dX3_lay_42 : decode cX3_lay 42 = .ok (.iload_n 2, 1) := dk_28 (dk_at dksX3_lay_1 18 rfl rfl)
theorem dX3_lay_43 : decode cX3_lay 43 = .ok (.aload_n 0, 1) := dk_42 (dk_at dksX3_lay_1 19 rfl rfl)
theorem dX3_lay_44 : decode cX3_lay 44 = .ok (.getfield 19, 3) := dk_180 0 19 (dk_at dksX3_lay_1 20 rfl rfl)
theorem dX3_lay_47 : decode cX3_lay 47 = .ok (.if_icmp .ge 26, 3) := dk_162 0 26 (dk_at dksX3_lay_2 0 rfl rfl)
theorem dX3_lay_50 : decode cX3_lay 50 = .ok (.aload_n 0, 1) := dk_42 (dk_at dksX3_lay_2 3 rfl rfl)
theorem dX3_lay_51 : decode cX3_lay 51 = .ok (.getfield 35, 3) := dk_180 0 35 (dk_at dksX3_lay_2 4 rfl rfl)
theorem dX3_lay_54 : decode cX3_lay 54 = .ok (.iload_n 2, 1) := dk_28 (dk_at dksX3_lay_2 7 rfl rfl)
theorem dX3_lay_55 : decode cX3_lay 55 = .ok (.iaload, 1) := dk_46 (dk_at dksX3_lay_2 8 rfl rfl)
theorem dX3_lay_56 : decode cX3_lay 56 = .ok (.iconst 2, 1) := dk_5 (dk_at dksX3_lay_2 9 rfl rfl)
theorem dX3_lay_57 : decode cX3_lay 57 = .ok (.if_icmp .ne 10, 3) := dk_160 0 10 (dk_at dksX3_lay_2 10 rfl rfl)
theorem dX3_lay_60 : decode cX3_lay 60 = .ok (.aload_n 0, 1) := dk_42 (dk_at dksX3_lay_2 13 rfl rfl)
theorem dX3_lay_61 : decode cX3_lay 61 = .ok (.iload_n 1, 1) := dk_27 (dk_at dksX3_lay_2 14 rfl rfl)
theorem dX3_lay_62 : decode cX3_lay 62 = .ok (.iload_n 2, 1) := dk_28 (dk_at dksX3_lay_2 15 rfl rfl)
theorem dX3_lay_63 : decode cX3_lay 63 = .ok (.iconst 1, 1) := dk_4 (dk_at dksX3_lay_2 16 rfl rfl)
theorem dX3_lay_64 : decode cX3_lay 64 = .ok (.invokevirtual 119, 3) := dk_182 0 119 (dk_at dksX3_lay_2 17 rfl rfl)
theorem dX3_lay_67 : decode cX3_lay 67 = .ok (.iinc 2 1, 3) := dk_132 2 1 (dk_at dksX3_lay_2 20 rfl rfl)
theorem dX3_lay_70 : decode cX3_lay 70 = .ok (.goto (-28), 3) := dk_167 255 228 (dk_at dksX3_lay_3 0 rfl rfl)
theorem dX3_lay_73 : decode cX3_lay 73 = .ok (.iconst 0, 1) := dk_3 (dk_at dksX3_lay_3 3 rfl rfl)
theorem dX3_lay_74 : decode cX3_lay 74 = .ok (.istore_n 2, 1) := dk_61 (dk_at dksX3_lay_3 4 rfl rfl)
theorem dX3_lay_75 : decode cX3_lay 75 = .ok (.iload_n 2, 1) := dk_28 (dk_at dksX3_lay_3 5 rfl rfl)
theorem dX3_lay_76 : decode cX3_lay 76 = .ok (.iconst 1, 1) := dk_4 (dk_at dksX3_lay_3 6 rfl rfl)
theorem dX3_lay_77 : decode cX3_lay 77 = .ok (.iadd, 1) := dk_96 (dk_at dksX3_lay_3 7 rfl rfl)
theorem dX3_lay_78 : decode cX3_lay 78 = .ok (.aload_n 0, 1) := dk_42 (dk_at dksX3_lay_3 8 rfl rfl)
theorem dX3_lay_79 : decode cX3_lay 79 = .ok (.getfield 19, 3) := dk_180 0 19 (dk_at dksX3_lay_3 9 rfl rfl)
theorem dX3_lay_82 : decode cX3_lay 82 = .ok (.if_icmp .ge 26, 3) := dk_162 0 26 (dk_at dksX3_lay_3 12 rfl rfl)
theorem dX3_lay_85 : decode cX3_lay 85 = .ok (.aload_n 0, 1) := dk_42 (dk_at dksX3_lay_3 15 rfl rfl)
theorem dX3_lay_86 : decode cX3_lay 86 = .ok (.getfield 35, 3) := dk_180 0 35 (dk_at dksX3_lay_3 16 rfl rfl)
theorem dX3_lay_89 : decode cX3_lay 89 = .ok (.iload_n 2, 1) := dk_28 (dk_at dksX3_lay_3 19 rfl rfl)
theorem dX3_lay_90 : decode cX3_lay 90 = .ok (.iaload, 1) := dk_46 (dk_at dksX3_lay_3 20 rfl rfl)
theorem dX3_lay_91 : decode cX3_lay 91 = .ok (.iconst 3, 1) := dk_6 (dk_at dksX3_lay_3 21 rfl rfl)
theorem dX3_lay_92 : decode cX3_lay 92 = .ok (.if_icmp .ne 10, 3) := dk_160 0 10 (dk_at dksX3_lay_4 0 rfl rfl)
theorem dX3_lay_95 : decode cX3_lay 95 = .ok (.aload_n 0, 1) := dk_42 (dk_at dksX3_lay_4 3 rfl rfl)
theorem dX3_lay_96 : decode cX3_lay 96 = .ok (.iload_n 1, 1) := dk_27 (dk_at dksX3_lay_4 4 rfl rfl)
theorem dX3_lay_97 : decode cX3_lay 97 = .ok (.iload_n 2, 1) := dk_28 (dk_at dksX3_lay_4 5 rfl rfl)
theorem dX3_lay_98 : decode cX3_lay 98 = .ok (.iconst 2, 1) := dk_5 (dk_at dksX3_lay_4 6 rfl rfl)
theorem dX3_lay_99 : decode cX3_lay 99 = .ok (.invokevirtual 119, 3) := dk_182 0 119 (dk_at dksX3_lay_4 7 rfl rfl)
theorem dX3_lay_102 : decode cX3_lay 102 = .ok (.iinc 2 1, 3) := dk_132 2 1 (dk_at dksX3_lay_4 10 rfl rfl)
theorem dX3_lay_105 : decode cX3_lay 105 = .ok (.goto (-30), 3) := dk_167 255 226 (dk_at dksX3_lay_4 13 rfl rfl)
theorem dX3_lay_108 : decode cX3_lay 108 = .ok (.iinc 1 1, 3) := dk_132 1 1 (dk_at dksX3_lay_4 16 rfl rfl)
theorem dX3_lay_111 : decode cX3_lay 111 = .ok (.goto (-104), 3) := dk_167 255 152 (dk_at dksX3_lay_4 19 rfl rfl)
theorem dX3_lay_114 : decode cX3_lay 114 = .ok (.return_, 1) := dk_177 (dk_at dksX3_lay_4 22 rfl rfl)
abbrev cX3_part : ByteArray := prog_6_method_6_code
def yX3_part : MethodName := ⟨RX3, "part", "(III)V"⟩
def dkwX3_part_2 : List UInt8 := [181, 0, 116, 177]
abbrev dktX3_part_2 : List UInt8 := dkwX3_part_2 ++ []
def dkwX3_part_1 : List UInt8 := [42, 180, 0, 116, 29, 79, 42, 180, 0, 50, 42, 180, 0, 116, 4, 84, 42, 89, 180, 0, 116, 4, 96]
abbrev dktX3_part_1 : List UInt8 := dkwX3_part_1 ++ dktX3_part_2
def dkwX3_part_0 : List UInt8 := [42, 180, 0, 41, 42, 180, 0, 116, 27, 79, 42, 180, 0, 44, 42, 180, 0, 116, 28, 79, 42, 180, 0, 47]
abbrev dktX3_part_0 : List UInt8 := dkwX3_part_0 ++ dktX3_part_1
theorem dksX3_part_0 : cX3_part.data.toList.drop 0 = dktX3_part_0 := by decide +kernel
theorem dksX3_part_1 : cX3_part.data.toList.drop 24 = dktX3_part_1 := dk_seg dksX3_part_0 24 rfl rfl
theorem dksX3_part_2 : cX3_part.data.toList.drop 47 = dktX3_part_2 := dk_seg dksX3_part_1 23 rfl rfl
theorem dX3_part_0 : decode cX3_part 0 = .ok (.aload_n 0, 1) := dk_42 (dk_at dksX3_part_0 0 rfl rfl)
theorem dX3_part_1 : decode cX3_part 1 = .ok (.getfield 41, 3) := dk_180 0 41 (dk_at dksX3_part_0 1 rfl rfl)
theorem dX3_part_4 : decode cX3_part 4 = .ok (.aload_n 0, 1) := dk_42 (dk_at dksX3_part_0 4 rfl rfl)
theorem dX3_part_5 : decode cX3_part 5 = .ok (.getfield 116, 3) := dk_180 0 116 (dk_at dksX3_part_0 5 rfl rfl)
theorem dX3_part_8 : decode cX3_part 8 = .ok (.iload_n 1, 1) := dk_27 (dk_at dksX3_part_0 8 rfl rfl)
theorem dX3_part_9 : decode cX3_part 9 = .ok (.iastore, 1) := dk_79 (dk_at dksX3_part_0 9 rfl rfl)
theorem dX3_part_10 : decode cX3_part 10 = .ok (.aload_n 0, 1) := dk_42 (dk_at dksX3_part_0 10 rfl rfl)
theorem dX3_part_11 : decode cX3_part 11 = .ok (.getfield 44, 3) := dk_180 0 44 (dk_at dksX3_part_0 11 rfl rfl)
theorem dX3_part_14 : decode cX3_part 14 = .ok (.aload_n 0, 1) := dk_42 (dk_at dksX3_part_0 14 rfl rfl)
theorem dX3_part_15 : decode cX3_part 15 = .ok (.getfield 116, 3) := dk_180 0 116 (dk_at dksX3_part_0 15 rfl rfl)
theorem dX3_part_18 : decode cX3_part 18 = .ok (.iload_n 2, 1) := dk_28 (dk_at dksX3_part_0 18 rfl rfl)
theorem dX3_part_19 : decode cX3_part 19 = .ok (.iastore, 1) := dk_79 (dk_at dksX3_part_0 19 rfl rfl)
theorem dX3_part_20 : decode cX3_part 20 = .ok (.aload_n 0, 1) := dk_42 (dk_at dksX3_part_0 20 rfl rfl)
theorem dX3_part_21 : decode cX3_part 21 = .ok (.getfield 47, 3) := dk_180 0 47 (dk_at dksX3_part_0 21 rfl rfl)
theorem dX3_part_24 : decode cX3_part 24 = .ok (.aload_n 0, 1) := dk_42 (dk_at dksX3_part_1 0 rfl rfl)
theorem dX3_part_25 : decode cX3_part 25 = .ok (.getfield 116, 3) := dk_180 0 116 (dk_at dksX3_part_1 1 rfl rfl)
theorem dX3_part_28 : decode cX3_part 28 = .ok (.iload_n 3, 1) := dk_29 (dk_at dksX3_part_1 4 rfl rfl)
theorem dX3_part_29 : decode cX3_part 29 = .ok (.iastore, 1) := dk_79 (dk_at dksX3_part_1 5 rfl rfl)
theorem dX3_part_30 : decode cX3_part 30 = .ok (.aload_n 0, 1) := dk_42 (dk_at dksX3_part_1 6 rfl rfl)
theorem dX3_part_31 : decode cX3_part 31 = .ok (.getfield 50, 3) := dk_180 0 50 (dk_at dksX3_part_1 7 rfl rfl)
theorem dX3_part_34 : decode cX3_part 34 = .ok (.aload_n 0, 1) := dk_42 (dk_at dksX3_part_1 10 rfl rfl)
theorem dX3_part_35 : decode cX3_part 35 = .ok (.getfield 116, 3) := dk_180 0 116 (dk_at dksX3_part_1 11 rfl rfl)
theorem dX3_part_38 : decode cX3_part 38 = .ok (.iconst 1, 1) := dk_4 (dk_at dksX3_part_1 14 rfl rfl)
theorem dX3_part_39 : decode cX3_part 39 = .ok (.bastore, 1) := dk_84 (dk_at dksX3_part_1 15 rfl rfl)
theorem dX3_part_40 : decode cX3_part 40 = .ok (.aload_n 0, 1) := dk_42 (dk_at dksX3_part_1 16 rfl rfl)
theorem dX3_part_41 : decode cX3_part 41 = .ok (.dup, 1) := dk_89 (dk_at dksX3_part_1 17 rfl rfl)
theorem dX3_part_42 : decode cX3_part 42 = .ok (.getfield 116, 3) := dk_180 0 116 (dk_at dksX3_part_1 18 rfl rfl)
theorem dX3_part_45 : decode cX3_part 45 = .ok (.iconst 1, 1) := dk_4 (dk_at dksX3_part_1 21 rfl rfl)
theorem dX3_part_46 : decode cX3_part 46 = .ok (.iadd, 1) := dk_96 (dk_at dksX3_part_1 22 rfl rfl)
theorem dX3_part_47 : decode cX3_part 47 = .ok (.putfield 116, 3) := dk_181 0 116 (dk_at dksX3_part_2 0 rfl rfl)
theorem dX3_part_50 : decode cX3_part 50 = .ok (.return_, 1) := dk_177 (dk_at dksX3_part_2 3 rfl rfl)
abbrev cX3_thrown : ByteArray := prog_6_method_2_code
def yX3_thrown : MethodName := ⟨RX3, "thrown", "()I"⟩
theorem dX3_thrown_0 : decode cX3_thrown 0 = .ok (.aload_n 0, 1) := by decide +kernel
theorem dX3_thrown_1 : decode cX3_thrown 1 = .ok (.getfield 104, 3) := by decide +kernel
theorem dX3_thrown_4 : decode cX3_thrown 4 = .ok (.ireturn, 1) := by decide +kernel
abbrev cX3_book : ByteArray := prog_6_method_8_code
def yX3_book : MethodName := ⟨RX3, "book", "(II)Z"⟩
def dkwX3_book_1 : List UInt8 := [164, 0, 5, 3, 172, 42, 27, 28, 182, 0, 100, 4, 172]
abbrev dktX3_book_1 : List UInt8 := dkwX3_book_1 ++ []
def dkwX3_book_0 : List UInt8 := [42, 3, 181, 0, 104, 27, 4, 161, 0, 19, 27, 8, 163, 0, 14, 28, 5, 161, 0, 9, 28, 16, 6]
abbrev dktX3_book_0 : List UInt8 := dkwX3_book_0 ++ dktX3_book_1
theorem dksX3_book_0 : cX3_book.data.toList.drop 0 = dktX3_book_0 := by decide +kernel
theorem dksX3_book_1 : cX3_book.data.toList.drop 23 = dktX3_book_1 := dk_seg dksX3_book_0 23 rfl rfl
theorem dX3_book_0 : decode cX3_book 0 = .ok (.aload_n 0, 1) := dk_42 (dk_at dksX3_book_0 0 rfl rfl)
theorem dX3_book_1 : decode cX3_book 1 = .ok (.iconst 0, 1) := dk_3 (dk_at dksX3_book_0 1 rfl rfl)
theorem dX3_book_2 : decode cX3_book 2 = .ok (.putfield 104, 3) := dk_181 0 104 (dk_at dksX3_book_0 2 rfl rfl)
theorem dX3_book_5 : decode cX3_book 5 = .ok (.iload_n 1, 1) := dk_27 (dk_at dksX3_book_0 5 rfl rfl)
theorem dX3_book_6 : decode cX3_book 6 = .ok (.iconst 1, 1) := dk_4 (dk_at dksX3_book_0 6 rfl rfl)
theorem dX3_book_7 : decode cX3_book 7 = .ok (.if_icmp .lt 19, 3) := dk_161 0 19 (dk_at dksX3_book_0 7 rfl rfl)
theorem dX3_book_10 : decode cX3_book 10 = .ok (.iload_n 1, 1) := dk_27 (dk_at dksX3_book_0 10 rfl rfl)
theorem dX3_book_11 : decode cX3_book 11 = .ok (.iconst 5, 1) := dk_8 (dk_at dksX3_book_0 11 rfl rfl)
theorem dX3_book_12 : decode cX3_book 12 = .ok (.if_icmp .gt 14, 3) := dk_163 0 14 (dk_at dksX3_book_0 12 rfl rfl)
theorem dX3_book_15 : decode cX3_book 15 = .ok (.iload_n 2, 1) := dk_28 (dk_at dksX3_book_0 15 rfl rfl)
theorem dX3_book_16 : decode cX3_book 16 = .ok (.iconst 2, 1) := dk_5 (dk_at dksX3_book_0 16 rfl rfl)
theorem dX3_book_17 : decode cX3_book 17 = .ok (.if_icmp .lt 9, 3) := dk_161 0 9 (dk_at dksX3_book_0 17 rfl rfl)
theorem dX3_book_20 : decode cX3_book 20 = .ok (.iload_n 2, 1) := dk_28 (dk_at dksX3_book_0 20 rfl rfl)
theorem dX3_book_21 : decode cX3_book 21 = .ok (.bipush 6, 2) := dk_16 6 (dk_at dksX3_book_0 21 rfl rfl)
theorem dX3_book_23 : decode cX3_book 23 = .ok (.if_icmp .le 5, 3) := dk_164 0 5 (dk_at dksX3_book_1 0 rfl rfl)
theorem dX3_book_26 : decode cX3_book 26 = .ok (.iconst 0, 1) := dk_3 (dk_at dksX3_book_1 3 rfl rfl)
theorem dX3_book_27 : decode cX3_book 27 = .ok (.ireturn, 1) := dk_172 (dk_at dksX3_book_1 4 rfl rfl)
theorem dX3_book_28 : decode cX3_book 28 = .ok (.aload_n 0, 1) := dk_42 (dk_at dksX3_book_1 5 rfl rfl)
theorem dX3_book_29 : decode cX3_book 29 = .ok (.iload_n 1, 1) := dk_27 (dk_at dksX3_book_1 6 rfl rfl)
theorem dX3_book_30 : decode cX3_book 30 = .ok (.iload_n 2, 1) := dk_28 (dk_at dksX3_book_1 7 rfl rfl)
theorem dX3_book_31 : decode cX3_book 31 = .ok (.invokevirtual 100, 3) := dk_182 0 100 (dk_at dksX3_book_1 8 rfl rfl)
theorem dX3_book_34 : decode cX3_book 34 = .ok (.iconst 1, 1) := dk_4 (dk_at dksX3_book_1 11 rfl rfl)
theorem dX3_book_35 : decode cX3_book 35 = .ok (.ireturn, 1) := dk_172 (dk_at dksX3_book_1 12 rfl rfl)
abbrev cX3_thick : ByteArray := prog_6_method_11_code
def yX3_thick : MethodName := ⟨RX3, "thick", "(II)Z"⟩
def dkwX3_thick_2 : List UInt8 := [172]
abbrev dktX3_thick_2 : List UInt8 := dkwX3_thick_2 ++ []
def dkwX3_thick_1 : List UInt8 := [157, 0, 14, 28, 4, 161, 0, 9, 28, 16, 50, 164, 0, 5, 3, 172, 42, 180, 0, 28, 27, 28, 79, 4]
abbrev dktX3_thick_1 : List UInt8 := dkwX3_thick_1 ++ dktX3_thick_2
def dkwX3_thick_0 : List UInt8 := [42, 3, 181, 0, 104, 42, 27, 182, 0, 123, 154, 0, 9, 42, 4, 182, 0, 127, 172, 42, 180, 0, 107]
abbrev dktX3_thick_0 : List UInt8 := dkwX3_thick_0 ++ dktX3_thick_1
theorem dksX3_thick_0 : cX3_thick.data.toList.drop 0 = dktX3_thick_0 := by decide +kernel
theorem dksX3_thick_1 : cX3_thick.data.toList.drop 23 = dktX3_thick_1 := dk_seg dksX3_thick_0 23 rfl rfl
theorem dksX3_thick_2 : cX3_thick.data.toList.drop 47 = dktX3_thick_2 := dk_seg dksX3_thick_1 24 rfl rfl
theorem dX3_thick_0 : decode cX3_thick 0 = .ok (.aload_n 0, 1) := dk_42 (dk_at dksX3_thick_0 0 rfl rfl)
theorem dX3_thick_1 : decode cX3_thick 1 = .ok (.iconst 0, 1) := dk_3 (dk_at dksX3_thick_0 1 rfl rfl)
theorem dX3_thick_2 : decode cX3_thick 2 = .ok (.putfield 104, 3) := dk_181 0 104 (dk_at dksX3_thick_0 2 rfl rfl)
theorem dX3_thick_5 : decode cX3_thick 5 = .ok (.aload_n 0, 1) := dk_42 (dk_at dksX3_thick_0 5 rfl rfl)
theorem dX3_thick_6 : decode cX3_thick 6 = .ok (.iload_n 1, 1) := dk_27 (dk_at dksX3_thick_0 6 rfl rfl)
theorem dX3_thick_7 : decode cX3_thick 7 = .ok (.invokevirtual 123, 3) := dk_182 0 123 (dk_at dksX3_thick_0 7 rfl rfl)
theorem dX3_thick_10 : decode cX3_thick 10 = .ok (.ifCond .ne 9, 3) := dk_154 0 9 (dk_at dksX3_thick_0 10 rfl rfl)
theorem dX3_thick_13 : decode cX3_thick 13 = .ok (.aload_n 0, 1) := dk_42 (dk_at dksX3_thick_0 13 rfl rfl)
theorem dX3_thick_14 : decode cX3_thick 14 = .ok (.iconst 1, 1) := dk_4 (dk_at dksX3_thick_0 14 rfl rfl)
theorem dX3_thick_15 : decode cX3_thick 15 = .ok (.invokevirtual 127, 3) := dk_182 0 127 (dk_at dksX3_thick_0 15 rfl rfl)
theorem dX3_thick_18 : decode cX3_thick 18 = .ok (.ireturn, 1) := dk_172 (dk_at dksX3_thick_0 18 rfl rfl)
theorem dX3_thick_19 : decode cX3_thick 19 = .ok (.aload_n 0, 1) := dk_42 (dk_at dksX3_thick_0 19 rfl rfl)
theorem dX3_thick_20 : decode cX3_thick 20 = .ok (.getfield 107, 3) := dk_180 0 107 (dk_at dksX3_thick_0 20 rfl rfl)
theorem dX3_thick_23 : decode cX3_thick 23 = .ok (.ifCond .gt 14, 3) := dk_157 0 14 (dk_at dksX3_thick_1 0 rfl rfl)
theorem dX3_thick_26 : decode cX3_thick 26 = .ok (.iload_n 2, 1) := dk_28 (dk_at dksX3_thick_1 3 rfl rfl)
theorem dX3_thick_27 : decode cX3_thick 27 = .ok (.iconst 1, 1) := dk_4 (dk_at dksX3_thick_1 4 rfl rfl)
theorem dX3_thick_28 : decode cX3_thick 28 = .ok (.if_icmp .lt 9, 3) := dk_161 0 9 (dk_at dksX3_thick_1 5 rfl rfl)
theorem dX3_thick_31 : decode cX3_thick 31 = .ok (.iload_n 2, 1) := dk_28 (dk_at dksX3_thick_1 8 rfl rfl)
theorem dX3_thick_32 : decode cX3_thick 32 = .ok (.bipush 50, 2) := dk_16 50 (dk_at dksX3_thick_1 9 rfl rfl)
theorem dX3_thick_34 : decode cX3_thick 34 = .ok (.if_icmp .le 5, 3) := dk_164 0 5 (dk_at dksX3_thick_1 11 rfl rfl)
theorem dX3_thick_37 : decode cX3_thick 37 = .ok (.iconst 0, 1) := dk_3 (dk_at dksX3_thick_1 14 rfl rfl)
theorem dX3_thick_38 : decode cX3_thick 38 = .ok (.ireturn, 1) := dk_172 (dk_at dksX3_thick_1 15 rfl rfl)
theorem dX3_thick_39 : decode cX3_thick 39 = .ok (.aload_n 0, 1) := dk_42 (dk_at dksX3_thick_1 16 rfl rfl)
theorem dX3_thick_40 : decode cX3_thick 40 = .ok (.getfield 28, 3) := dk_180 0 28 (dk_at dksX3_thick_1 17 rfl rfl)
theorem dX3_thick_43 : decode cX3_thick 43 = .ok (.iload_n 1, 1) := dk_27 (dk_at dksX3_thick_1 20 rfl rfl)
theorem dX3_thick_44 : decode cX3_thick 44 = .ok (.iload_n 2, 1) := dk_28 (dk_at dksX3_thick_1 21 rfl rfl)
theorem dX3_thick_45 : decode cX3_thick 45 = .ok (.iastore, 1) := dk_79 (dk_at dksX3_thick_1 22 rfl rfl)
theorem dX3_thick_46 : decode cX3_thick 46 = .ok (.iconst 1, 1) := dk_4 (dk_at dksX3_thick_1 23 rfl rfl)
theorem dX3_thick_47 : decode cX3_thick 47 = .ok (.ireturn, 1) := dk_172 (dk_at dksX3_thick_2 0 rfl rfl)
abbrev cX3_isFold : ByteArray := prog_6_method_9_code
def yX3_isFold : MethodName := ⟨RX3, "isFold", "(I)Z"⟩
def dkwX3_isFold_0 : List UInt8 := [27, 155, 0, 15, 27, 42, 180, 0, 15, 162, 0, 7, 4, 167, 0, 4, 3, 172]
abbrev dktX3_isFold_0 : List UInt8 := dkwX3_isFold_0 ++ []
theorem dksX3_isFold_0 : cX3_isFold.data.toList.drop 0 = dktX3_isFold_0 := by decide +kernel
theorem dX3_isFold_0 : decode cX3_isFold 0 = .ok (.iload_n 1, 1) := dk_27 (dk_at dksX3_isFold_0 0 rfl rfl)
theorem dX3_isFold_1 : decode cX3_isFold 1 = .ok (.ifCond .lt 15, 3) := dk_155 0 15 (dk_at dksX3_isFold_0 1 rfl rfl)
theorem dX3_isFold_4 : decode cX3_isFold 4 = .ok (.iload_n 1, 1) := dk_27 (dk_at dksX3_isFold_0 4 rfl rfl)
theorem dX3_isFold_5 : decode cX3_isFold 5 = .ok (.aload_n 0, 1) := dk_42 (dk_at dksX3_isFold_0 5 rfl rfl)
theorem dX3_isFold_6 : decode cX3_isFold 6 = .ok (.getfield 15, 3) := dk_180 0 15 (dk_at dksX3_isFold_0 6 rfl rfl)
theorem dX3_isFold_9 : decode cX3_isFold 9 = .ok (.if_icmp .ge 7, 3) := dk_162 0 7 (dk_at dksX3_isFold_0 9 rfl rfl)
theorem dX3_isFold_12 : decode cX3_isFold 12 = .ok (.iconst 1, 1) := dk_4 (dk_at dksX3_isFold_0 12 rfl rfl)
theorem dX3_isFold_13 : decode cX3_isFold 13 = .ok (.goto 4, 3) := dk_167 0 4 (dk_at dksX3_isFold_0 13 rfl rfl)
theorem dX3_isFold_16 : decode cX3_isFold 16 = .ok (.iconst 0, 1) := dk_3 (dk_at dksX3_isFold_0 16 rfl rfl)
theorem dX3_isFold_17 : decode cX3_isFold 17 = .ok (.ireturn, 1) := dk_172 (dk_at dksX3_isFold_0 17 rfl rfl)
abbrev cX3_refuse : ByteArray := prog_6_method_4_code
def yX3_refuse : MethodName := ⟨RX3, "refuse", "(I)Z"⟩
def dkwX3_refuse_0 : List UInt8 := [42, 27, 181, 0, 104, 3, 172]
abbrev dktX3_refuse_0 : List UInt8 := dkwX3_refuse_0 ++ []
theorem dksX3_refuse_0 : cX3_refuse.data.toList.drop 0 = dktX3_refuse_0 := by decide +kernel
theorem dX3_refuse_0 : decode cX3_refuse 0 = .ok (.aload_n 0, 1) := dk_42 (dk_at dksX3_refuse_0 0 rfl rfl)
theorem dX3_refuse_1 : decode cX3_refuse 1 = .ok (.iload_n 1, 1) := dk_27 (dk_at dksX3_refuse_0 1 rfl rfl)
theorem dX3_refuse_2 : decode cX3_refuse 2 = .ok (.putfield 104, 3) := dk_181 0 104 (dk_at dksX3_refuse_0 2 rfl rfl)
theorem dX3_refuse_5 : decode cX3_refuse 5 = .ok (.iconst 0, 1) := dk_3 (dk_at dksX3_refuse_0 5 rfl rfl)
theorem dX3_refuse_6 : decode cX3_refuse 6 = .ok (.ireturn, 1) := dk_172 (dk_at dksX3_refuse_0 6 rfl rfl)
abbrev cX3_thread : ByteArray := prog_6_method_12_code
def yX3_thread : MethodName := ⟨RX3, "thread", "(I)Z"⟩
def dkwX3_thread_1 : List UInt8 := [42, 27, 181, 0, 22, 4, 172]
abbrev dktX3_thread_1 : List UInt8 := dkwX3_thread_1 ++ []
def dkwX3_thread_0 : List UInt8 := [42, 3, 181, 0, 104, 42, 180, 0, 107, 157, 0, 13, 27, 155, 0, 9, 27, 16, 9, 164, 0, 5, 3, 172]
abbrev dktX3_thread_0 : List UInt8 := dkwX3_thread_0 ++ dktX3_thread_1
theorem dksX3_thread_0 : cX3_thread.data.toList.drop 0 = dktX3_thread_0 := by decide +kernel
theorem dksX3_thread_1 : cX3_thread.data.toList.drop 24 = dktX3_thread_1 := dk_seg dksX3_thread_0 24 rfl rfl
theorem dX3_thread_0 : decode cX3_thread 0 = .ok (.aload_n 0, 1) := dk_42 (dk_at dksX3_thread_0 0 rfl rfl)
theorem dX3_thread_1 : decode cX3_thread 1 = .ok (.iconst 0, 1) := dk_3 (dk_at dksX3_thread_0 1 rfl rfl)
theorem dX3_thread_2 : decode cX3_thread 2 = .ok (.putfield 104, 3) := dk_181 0 104 (dk_at dksX3_thread_0 2 rfl rfl)
theorem dX3_thread_5 : decode cX3_thread 5 = .ok (.aload_n 0, 1) := dk_42 (dk_at dksX3_thread_0 5 rfl rfl)
theorem dX3_thread_6 : decode cX3_thread 6 = .ok (.getfield 107, 3) := dk_180 0 107 (dk_at dksX3_thread_0 6 rfl rfl)
theorem dX3_thread_9 : decode cX3_thread 9 = .ok (.ifCond .gt 13, 3) := dk_157 0 13 (dk_at dksX3_thread_0 9 rfl rfl)
theorem dX3_thread_12 : decode cX3_thread 12 = .ok (.iload_n 1, 1) := dk_27 (dk_at dksX3_thread_0 12 rfl rfl)
theorem dX3_thread_13 : decode cX3_thread 13 = .ok (.ifCond .lt 9, 3) := dk_155 0 9 (dk_at dksX3_thread_0 13 rfl rfl)
theorem dX3_thread_16 : decode cX3_thread 16 = .ok (.iload_n 1, 1) := dk_27 (dk_at dksX3_thread_0 16 rfl rfl)
theorem dX3_thread_17 : decode cX3_thread 17 = .ok (.bipush 9, 2) := dk_16 9 (dk_at dksX3_thread_0 17 rfl rfl)
theorem dX3_thread_19 : decode cX3_thread 19 = .ok (.if_icmp .le 5, 3) := dk_164 0 5 (dk_at dksX3_thread_0 19 rfl rfl)
theorem dX3_thread_22 : decode cX3_thread 22 = .ok (.iconst 0, 1) := dk_3 (dk_at dksX3_thread_0 22 rfl rfl)
theorem dX3_thread_23 : decode cX3_thread 23 = .ok (.ireturn, 1) := dk_172 (dk_at dksX3_thread_0 23 rfl rfl)
theorem dX3_thread_24 : decode cX3_thread 24 = .ok (.aload_n 0, 1) := dk_42 (dk_at dksX3_thread_1 0 rfl rfl)
theorem dX3_thread_25 : decode cX3_thread 25 = .ok (.iload_n 1, 1) := dk_27 (dk_at dksX3_thread_1 1 rfl rfl)
theorem dX3_thread_26 : decode cX3_thread 26 = .ok (.putfield 22, 3) := dk_181 0 22 (dk_at dksX3_thread_1 2 rfl rfl)
theorem dX3_thread_29 : decode cX3_thread 29 = .ok (.iconst 1, 1) := dk_4 (dk_at dksX3_thread_1 5 rfl rfl)
theorem dX3_thread_30 : decode cX3_thread 30 = .ok (.ireturn, 1) := dk_172 (dk_at dksX3_thread_1 6 rfl rfl)
abbrev cX3_heights : ByteArray := prog_6_method_13_code
def yX3_heights : MethodName := ⟨RX3, "heights", "(II)Z"⟩
def dkwX3_heights_5 : List UInt8 := [126, 79, 132, 4, 1, 167, 255, 214, 4, 172]
abbrev dktX3_heights_5 : List UInt8 := dkwX3_heights_5 ++ []
def dkwX3_heights_4 : List UInt8 := [21, 4, 21, 4, 6, 162, 0, 7, 27, 167, 0, 4, 28, 16, 9, 21, 4, 6, 112, 104, 122, 17, 1, 255]
abbrev dktX3_heights_4 : List UInt8 := dkwX3_heights_4 ++ dktX3_heights_5
def dkwX3_heights_3 : List UInt8 := [180, 0, 107, 158, 0, 5, 3, 172, 3, 54, 4, 21, 4, 42, 180, 0, 19, 162, 0, 39, 42, 180, 0, 32]
abbrev dktX3_heights_3 : List UInt8 := dkwX3_heights_3 ++ dktX3_heights_4
def dkwX3_heights_2 : List UInt8 := [29, 164, 0, 11, 21, 5, 17, 1, 144, 164, 0, 5, 3, 172, 21, 5, 62, 132, 4, 1, 167, 255, 200, 42]
abbrev dktX3_heights_2 : List UInt8 := dkwX3_heights_2 ++ dktX3_heights_3
def dkwX3_heights_1 : List UInt8 := [162, 0, 7, 27, 167, 0, 4, 28, 16, 9, 21, 4, 6, 112, 104, 122, 17, 1, 255, 126, 54, 5, 21, 5]
abbrev dktX3_heights_1 : List UInt8 := dkwX3_heights_1 ++ dktX3_heights_2
def dkwX3_heights_0 : List UInt8 := [42, 3, 181, 0, 104, 2, 62, 3, 54, 4, 21, 4, 42, 180, 0, 19, 162, 0, 53, 21, 4, 6]
abbrev dktX3_heights_0 : List UInt8 := dkwX3_heights_0 ++ dktX3_heights_1
theorem dksX3_heights_0 : cX3_heights.data.toList.drop 0 = dktX3_heights_0 := by decide +kernel
theorem dksX3_heights_1 : cX3_heights.data.toList.drop 22 = dktX3_heights_1 := dk_seg dksX3_heights_0 22 rfl rfl
theorem dksX3_heights_2 : cX3_heights.data.toList.drop 46 = dktX3_heights_2 := dk_seg dksX3_heights_1 24 rfl rfl
theorem dksX3_heights_3 : cX3_heights.data.toList.drop 70 = dktX3_heights_3 := dk_seg dksX3_heights_2 24 rfl rfl
theorem dksX3_heights_4 : cX3_heights.data.toList.drop 94 = dktX3_heights_4 := dk_seg dksX3_heights_3 24 rfl rfl
theorem dksX3_heights_5 : cX3_heights.data.toList.drop 118 = dktX3_heights_5 := dk_seg dksX3_heights_4 24 rfl rfl
theorem dX3_heights_0 : decode cX3_heights 0 = .ok (.aload_n 0, 1) := dk_42 (dk_at dksX3_heights_0 0 rfl rfl)
theorem dX3_heights_1 : decode cX3_heights 1 = .ok (.iconst 0, 1) := dk_3 (dk_at dksX3_heights_0 1 rfl rfl)
theorem dX3_heights_2 : decode cX3_heights 2 = .ok (.putfield 104, 3) := dk_181 0 104 (dk_at dksX3_heights_0 2 rfl rfl)
theorem dX3_heights_5 : decode cX3_heights 5 = .ok (.iconst (-1), 1) := dk_2 (dk_at dksX3_heights_0 5 rfl rfl)
theorem dX3_heights_6 : decode cX3_heights 6 = .ok (.istore_n 3, 1) := dk_62 (dk_at dksX3_heights_0 6 rfl rfl)
theorem dX3_heights_7 : decode cX3_heights 7 = .ok (.iconst 0, 1) := dk_3 (dk_at dksX3_heights_0 7 rfl rfl)
theorem dX3_heights_8 : decode cX3_heights 8 = .ok (.istore 4, 2) := dk_54 4 (dk_at dksX3_heights_0 8 rfl rfl)
theorem dX3_heights_10 : decode cX3_heights 10 = .ok (.iload 4, 2) := dk_21 4 (dk_at dksX3_heights_0 10 rfl rfl)
theorem dX3_heights_12 : decode cX3_heights 12 = .ok (.aload_n 0, 1) := dk_42 (dk_at dksX3_heights_0 12 rfl rfl)
theorem dX3_heights_13 : decode cX3_heights 13 = .ok (.getfield 19, 3) := dk_180 0 19 (dk_at dksX3_heights_0 13 rfl rfl)
theorem dX3_heights_16 : decode cX3_heights 16 = .ok (.if_icmp .ge 53, 3) := dk_162 0 53 (dk_at dksX3_heights_0 16 rfl rfl)
theorem dX3_heights_19 : decode cX3_heights 19 = .ok (.iload 4, 2) := dk_21 4 (dk_at dksX3_heights_0 19 rfl rfl)
theorem dX3_heights_21 : decode cX3_heights 21 = .ok (.iconst 3, 1) := dk_6 (dk_at dksX3_heights_0 21 rfl rfl)
theorem dX3_heights_22 : decode cX3_heights 22 = .ok (.if_icmp .ge 7, 3) := dk_162 0 7 (dk_at dksX3_heights_1 0 rfl rfl)
theorem dX3_heights_25 : decode cX3_heights 25 = .ok (.iload_n 1, 1) := dk_27 (dk_at dksX3_heights_1 3 rfl rfl)
theorem dX3_heights_26 : decode cX3_heights 26 = .ok (.goto 4, 3) := dk_167 0 4 (dk_at dksX3_heights_1 4 rfl rfl)
theorem dX3_heights_29 : decode cX3_heights 29 = .ok (.iload_n 2, 1) := dk_28 (dk_at dksX3_heights_1 7 rfl rfl)
theorem dX3_heights_30 : decode cX3_heights 30 = .ok (.bipush 9, 2) := dk_16 9 (dk_at dksX3_heights_1 8 rfl rfl)
theorem dX3_heights_32 : decode cX3_heights 32 = .ok (.iload 4, 2) := dk_21 4 (dk_at dksX3_heights_1 10 rfl rfl)
theorem dX3_heights_34 : decode cX3_heights 34 = .ok (.iconst 3, 1) := dk_6 (dk_at dksX3_heights_1 12 rfl rfl)
theorem dX3_heights_35 : decode cX3_heights 35 = .ok (.irem, 1) := dk_112 (dk_at dksX3_heights_1 13 rfl rfl)
theorem dX3_heights_36 : decode cX3_heights 36 = .ok (.imul, 1) := dk_104 (dk_at dksX3_heights_1 14 rfl rfl)
theorem dX3_heights_37 : decode cX3_heights 37 = .ok (.ishr, 1) := dk_122 (dk_at dksX3_heights_1 15 rfl rfl)
theorem dX3_heights_38 : decode cX3_heights 38 = .ok (.sipush 511, 3) := dk_17 1 255 (dk_at dksX3_heights_1 16 rfl rfl)
theorem dX3_heights_41 : decode cX3_heights 41 = .ok (.iand, 1) := dk_126 (dk_at dksX3_heights_1 19 rfl rfl)
theorem dX3_heights_42 : decode cX3_heights 42 = .ok (.istore 5, 2) := dk_54 5 (dk_at dksX3_heights_1 20 rfl rfl)
theorem dX3_heights_44 : decode cX3_heights 44 = .ok (.iload 5, 2) := dk_21 5 (dk_at dksX3_heights_1 22 rfl rfl)
theorem dX3_heights_46 : decode cX3_heights 46 = .ok (.iload_n 3, 1) := dk_29 (dk_at dksX3_heights_2 0 rfl rfl)
theorem dX3_heights_47 : decode cX3_heights 47 = .ok (.if_icmp .le 11, 3) := dk_164 0 11 (dk_at dksX3_heights_2 1 rfl rfl)
theorem dX3_heights_50 : decode cX3_heights 50 = .ok (.iload 5, 2) := dk_21 5 (dk_at dksX3_heights_2 4 rfl rfl)
theorem dX3_heights_52 : decode cX3_heights 52 = .ok (.sipush 400, 3) := dk_17 1 144 (dk_at dksX3_heights_2 6 rfl rfl)
theorem dX3_heights_55 : decode cX3_heights 55 = .ok (.if_icmp .le 5, 3) := dk_164 0 5 (dk_at dksX3_heights_2 9 rfl rfl)
theorem dX3_heights_58 : decode cX3_heights 58 = .ok (.iconst 0, 1) := dk_3 (dk_at dksX3_heights_2 12 rfl rfl)
theorem dX3_heights_59 : decode cX3_heights 59 = .ok (.ireturn, 1) := dk_172 (dk_at dksX3_heights_2 13 rfl rfl)
theorem dX3_heights_60 : decode cX3_heights 60 = .ok (.iload 5, 2) := dk_21 5 (dk_at dksX3_heights_2 14 rfl rfl)
theorem dX3_heights_62 : decode cX3_heights 62 = .ok (.istore_n 3, 1) := dk_62 (dk_at dksX3_heights_2 16 rfl rfl)
theorem dX3_heights_63 : decode cX3_heights 63 = .ok (.iinc 4 1, 3) := dk_132 4 1 (dk_at dksX3_heights_2 17 rfl rfl)
theorem dX3_heights_66 : decode cX3_heights 66 = .ok (.goto (-56), 3) := dk_167 255 200 (dk_at dksX3_heights_2 20 rfl rfl)
theorem dX3_heights_69 : decode cX3_heights 69 = .ok (.aload_n 0, 1) := dk_42 (dk_at dksX3_heights_2 23 rfl rfl)
theorem dX3_heights_70 : decode cX3_heights 70 = .ok (.getfield 107, 3) := dk_180 0 107 (dk_at dksX3_heights_3 0 rfl rfl)
theorem dX3_heights_73 : decode cX3_heights 73 = .ok (.ifCond .le 5, 3) := dk_158 0 5 (dk_at dksX3_heights_3 3 rfl rfl)
theorem dX3_heights_76 : decode cX3_heights 76 = .ok (.iconst 0, 1) := dk_3 (dk_at dksX3_heights_3 6 rfl rfl)
theorem dX3_heights_77 : decode cX3_heights 77 = .ok (.ireturn, 1) := dk_172 (dk_at dksX3_heights_3 7 rfl rfl)
theorem dX3_heights_78 : decode cX3_heights 78 = .ok (.iconst 0, 1) := dk_3 (dk_at dksX3_heights_3 8 rfl rfl)
theorem dX3_heights_79 : decode cX3_heights 79 = .ok (.istore 4, 2) := dk_54 4 (dk_at dksX3_heights_3 9 rfl rfl)
theorem dX3_heights_81 : decode cX3_heights 81 = .ok (.iload 4, 2) := dk_21 4 (dk_at dksX3_heights_3 11 rfl rfl)
theorem dX3_heights_83 : decode cX3_heights 83 = .ok (.aload_n 0, 1) := dk_42 (dk_at dksX3_heights_3 13 rfl rfl)
theorem dX3_heights_84 : decode cX3_heights 84 = .ok (.getfield 19, 3) := dk_180 0 19 (dk_at dksX3_heights_3 14 rfl rfl)
theorem dX3_heights_87 : decode cX3_heights 87 = .ok (.if_icmp .ge 39, 3) := dk_162 0 39 (dk_at dksX3_heights_3 17 rfl rfl)
theorem dX3_heights_90 : decode cX3_heights 90 = .ok (.aload_n 0, 1) := dk_42 (dk_at dksX3_heights_3 20 rfl rfl)
theorem dX3_heights_91 : decode cX3_heights 91 = .ok (.getfield 32, 3) := dk_180 0 32 (dk_at dksX3_heights_3 21 rfl rfl)
theorem dX3_heights_94 : decode cX3_heights 94 = .ok (.iload 4, 2) := dk_21 4 (dk_at dksX3_heights_4 0 rfl rfl)
theorem dX3_heights_96 : decode cX3_heights 96 = .ok (.iload 4, 2) := dk_21 4 (dk_at dksX3_heights_4 2 rfl rfl)
theorem dX3_heights_98 : decode cX3_heights 98 = .ok (.iconst 3, 1) := dk_6 (dk_at dksX3_heights_4 4 rfl rfl)
theorem dX3_heights_99 : decode cX3_heights 99 = .ok (.if_icmp .ge 7, 3) := dk_162 0 7 (dk_at dksX3_heights_4 5 rfl rfl)
theorem dX3_heights_102 : decode cX3_heights 102 = .ok (.iload_n 1, 1) := dk_27 (dk_at dksX3_heights_4 8 rfl rfl)
theorem dX3_heights_103 : decode cX3_heights 103 = .ok (.goto 4, 3) := dk_167 0 4 (dk_at dksX3_heights_4 9 rfl rfl)
theorem dX3_heights_106 : decode cX3_heights 106 = .ok (.iload_n 2, 1) := dk_28 (dk_at dksX3_heights_4 12 rfl rfl)
theorem dX3_heights_107 : decode cX3_heights 107 = .ok (.bipush 9, 2) := dk_16 9 (dk_at dksX3_heights_4 13 rfl rfl)
theorem dX3_heights_109 : decode cX3_heights 109 = .ok (.iload 4, 2) := dk_21 4 (dk_at dksX3_heights_4 15 rfl rfl)
theorem dX3_heights_111 : decode cX3_heights 111 = .ok (.iconst 3, 1) := dk_6 (dk_at dksX3_heights_4 17 rfl rfl)
theorem dX3_heights_112 : decode cX3_heights 112 = .ok (.irem, 1) := dk_112 (dk_at dksX3_heights_4 18 rfl rfl)
theorem dX3_heights_113 : decode cX3_heights 113 = .ok (.imul, 1) := dk_104 (dk_at dksX3_heights_4 19 rfl rfl)
theorem dX3_heights_114 : decode cX3_heights 114 = .ok (.ishr, 1) := dk_122 (dk_at dksX3_heights_4 20 rfl rfl)
theorem dX3_heights_115 : decode cX3_heights 115 = .ok (.sipush 511, 3) := dk_17 1 255 (dk_at dksX3_heights_4 21 rfl rfl)
theorem dX3_heights_118 : decode cX3_heights 118 = .ok (.iand, 1) := dk_126 (dk_at dksX3_heights_5 0 rfl rfl)
theorem dX3_heights_119 : decode cX3_heights 119 = .ok (.iastore, 1) := dk_79 (dk_at dksX3_heights_5 1 rfl rfl)
theorem dX3_heights_120 : decode cX3_heights 120 = .ok (.iinc 4 1, 3) := dk_132 4 1 (dk_at dksX3_heights_5 2 rfl rfl)
theorem dX3_heights_123 : decode cX3_heights 123 = .ok (.goto (-42), 3) := dk_167 255 214 (dk_at dksX3_heights_5 5 rfl rfl)
theorem dX3_heights_126 : decode cX3_heights 126 = .ok (.iconst 1, 1) := dk_4 (dk_at dksX3_heights_5 8 rfl rfl)
theorem dX3_heights_127 : decode cX3_heights 127 = .ok (.ireturn, 1) := dk_172 (dk_at dksX3_heights_5 9 rfl rfl)
abbrev cX3_kind : ByteArray := prog_6_method_14_code
def yX3_kind : MethodName := ⟨RX3, "kind", "(II)Z"⟩
def dkwX3_kind_2 : List UInt8 := [182, 0, 113, 4, 172]
abbrev dktX3_kind_2 : List UInt8 := dkwX3_kind_2 ++ []
def dkwX3_kind_1 : List UInt8 := [157, 0, 12, 28, 155, 0, 8, 28, 6, 164, 0, 5, 3, 172, 42, 180, 0, 35, 27, 28, 79, 42]
abbrev dktX3_kind_1 : List UInt8 := dkwX3_kind_1 ++ dktX3_kind_2
def dkwX3_kind_0 : List UInt8 := [42, 3, 181, 0, 104, 42, 27, 182, 0, 130, 154, 0, 9, 42, 4, 182, 0, 127, 172, 42, 180, 0, 107]
abbrev dktX3_kind_0 : List UInt8 := dkwX3_kind_0 ++ dktX3_kind_1
theorem dksX3_kind_0 : cX3_kind.data.toList.drop 0 = dktX3_kind_0 := by decide +kernel
theorem dksX3_kind_1 : cX3_kind.data.toList.drop 23 = dktX3_kind_1 := dk_seg dksX3_kind_0 23 rfl rfl
theorem dksX3_kind_2 : cX3_kind.data.toList.drop 45 = dktX3_kind_2 := dk_seg dksX3_kind_1 22 rfl rfl
theorem dX3_kind_0 : decode cX3_kind 0 = .ok (.aload_n 0, 1) := dk_42 (dk_at dksX3_kind_0 0 rfl rfl)
theorem dX3_kind_1 : decode cX3_kind 1 = .ok (.iconst 0, 1) := dk_3 (dk_at dksX3_kind_0 1 rfl rfl)
theorem dX3_kind_2 : decode cX3_kind 2 = .ok (.putfield 104, 3) := dk_181 0 104 (dk_at dksX3_kind_0 2 rfl rfl)
theorem dX3_kind_5 : decode cX3_kind 5 = .ok (.aload_n 0, 1) := dk_42 (dk_at dksX3_kind_0 5 rfl rfl)
theorem dX3_kind_6 : decode cX3_kind 6 = .ok (.iload_n 1, 1) := dk_27 (dk_at dksX3_kind_0 6 rfl rfl)
theorem dX3_kind_7 : decode cX3_kind 7 = .ok (.invokevirtual 130, 3) := dk_182 0 130 (dk_at dksX3_kind_0 7 rfl rfl)
theorem dX3_kind_10 : decode cX3_kind 10 = .ok (.ifCond .ne 9, 3) := dk_154 0 9 (dk_at dksX3_kind_0 10 rfl rfl)
theorem dX3_kind_13 : decode cX3_kind 13 = .ok (.aload_n 0, 1) := dk_42 (dk_at dksX3_kind_0 13 rfl rfl)
theorem dX3_kind_14 : decode cX3_kind 14 = .ok (.iconst 1, 1) := dk_4 (dk_at dksX3_kind_0 14 rfl rfl)
theorem dX3_kind_15 : decode cX3_kind 15 = .ok (.invokevirtual 127, 3) := dk_182 0 127 (dk_at dksX3_kind_0 15 rfl rfl)
theorem dX3_kind_18 : decode cX3_kind 18 = .ok (.ireturn, 1) := dk_172 (dk_at dksX3_kind_0 18 rfl rfl)
theorem dX3_kind_19 : decode cX3_kind 19 = .ok (.aload_n 0, 1) := dk_42 (dk_at dksX3_kind_0 19 rfl rfl)
theorem dX3_kind_20 : decode cX3_kind 20 = .ok (.getfield 107, 3) := dk_180 0 107 (dk_at dksX3_kind_0 20 rfl rfl)
theorem dX3_kind_23 : decode cX3_kind 23 = .ok (.ifCond .gt 12, 3) := dk_157 0 12 (dk_at dksX3_kind_1 0 rfl rfl)
theorem dX3_kind_26 : decode cX3_kind 26 = .ok (.iload_n 2, 1) := dk_28 (dk_at dksX3_kind_1 3 rfl rfl)
theorem dX3_kind_27 : decode cX3_kind 27 = .ok (.ifCond .lt 8, 3) := dk_155 0 8 (dk_at dksX3_kind_1 4 rfl rfl)
theorem dX3_kind_30 : decode cX3_kind 30 = .ok (.iload_n 2, 1) := dk_28 (dk_at dksX3_kind_1 7 rfl rfl)
theorem dX3_kind_31 : decode cX3_kind 31 = .ok (.iconst 3, 1) := dk_6 (dk_at dksX3_kind_1 8 rfl rfl)
theorem dX3_kind_32 : decode cX3_kind 32 = .ok (.if_icmp .le 5, 3) := dk_164 0 5 (dk_at dksX3_kind_1 9 rfl rfl)
theorem dX3_kind_35 : decode cX3_kind 35 = .ok (.iconst 0, 1) := dk_3 (dk_at dksX3_kind_1 12 rfl rfl)
theorem dX3_kind_36 : decode cX3_kind 36 = .ok (.ireturn, 1) := dk_172 (dk_at dksX3_kind_1 13 rfl rfl)
theorem dX3_kind_37 : decode cX3_kind 37 = .ok (.aload_n 0, 1) := dk_42 (dk_at dksX3_kind_1 14 rfl rfl)
theorem dX3_kind_38 : decode cX3_kind 38 = .ok (.getfield 35, 3) := dk_180 0 35 (dk_at dksX3_kind_1 15 rfl rfl)
theorem dX3_kind_41 : decode cX3_kind 41 = .ok (.iload_n 1, 1) := dk_27 (dk_at dksX3_kind_1 18 rfl rfl)
theorem dX3_kind_42 : decode cX3_kind 42 = .ok (.iload_n 2, 1) := dk_28 (dk_at dksX3_kind_1 19 rfl rfl)
theorem dX3_kind_43 : decode cX3_kind 43 = .ok (.iastore, 1) := dk_79 (dk_at dksX3_kind_1 20 rfl rfl)
theorem dX3_kind_44 : decode cX3_kind 44 = .ok (.aload_n 0, 1) := dk_42 (dk_at dksX3_kind_1 21 rfl rfl)
theorem dX3_kind_45 : decode cX3_kind 45 = .ok (.invokevirtual 113, 3) := dk_182 0 113 (dk_at dksX3_kind_2 0 rfl rfl)
theorem dX3_kind_48 : decode cX3_kind 48 = .ok (.iconst 1, 1) := dk_4 (dk_at dksX3_kind_2 3 rfl rfl)
theorem dX3_kind_49 : decode cX3_kind 49 = .ok (.ireturn, 1) := dk_172 (dk_at dksX3_kind_2 4 rfl rfl)
abbrev cX3_isStation : ByteArray := prog_6_method_10_code
def yX3_isStation : MethodName := ⟨RX3, "isStation", "(I)Z"⟩
def dkwX3_isStation_0 : List UInt8 := [27, 155, 0, 15, 27, 42, 180, 0, 19, 162, 0, 7, 4, 167, 0, 4, 3, 172]
abbrev dktX3_isStation_0 : List UInt8 := dkwX3_isStation_0 ++ []
theorem dksX3_isStation_0 : cX3_isStation.data.toList.drop 0 = dktX3_isStation_0 := by decide +kernel
theorem dX3_isStation_0 : decode cX3_isStation 0 = .ok (.iload_n 1, 1) := dk_27 (dk_at dksX3_isStation_0 0 rfl rfl)
theorem dX3_isStation_1 : decode cX3_isStation 1 = .ok (.ifCond .lt 15, 3) := dk_155 0 15 (dk_at dksX3_isStation_0 1 rfl rfl)
theorem dX3_isStation_4 : decode cX3_isStation 4 = .ok (.iload_n 1, 1) := dk_27 (dk_at dksX3_isStation_0 4 rfl rfl)
theorem dX3_isStation_5 : decode cX3_isStation 5 = .ok (.aload_n 0, 1) := dk_42 (dk_at dksX3_isStation_0 5 rfl rfl)
theorem dX3_isStation_6 : decode cX3_isStation 6 = .ok (.getfield 19, 3) := dk_180 0 19 (dk_at dksX3_isStation_0 6 rfl rfl)
theorem dX3_isStation_9 : decode cX3_isStation 9 = .ok (.if_icmp .ge 7, 3) := dk_162 0 7 (dk_at dksX3_isStation_0 9 rfl rfl)
theorem dX3_isStation_12 : decode cX3_isStation 12 = .ok (.iconst 1, 1) := dk_4 (dk_at dksX3_isStation_0 12 rfl rfl)
theorem dX3_isStation_13 : decode cX3_isStation 13 = .ok (.goto 4, 3) := dk_167 0 4 (dk_at dksX3_isStation_0 13 rfl rfl)
theorem dX3_isStation_16 : decode cX3_isStation 16 = .ok (.iconst 0, 1) := dk_3 (dk_at dksX3_isStation_0 16 rfl rfl)
theorem dX3_isStation_17 : decode cX3_isStation 17 = .ok (.ireturn, 1) := dk_172 (dk_at dksX3_isStation_0 17 rfl rfl)
abbrev cX3_parts : ByteArray := prog_6_method_15_code
def yX3_parts : MethodName := ⟨RX3, "parts", "()I"⟩
def dkwX3_parts_0 : List UInt8 := [42, 3, 181, 0, 104, 42, 180, 0, 116, 172]
abbrev dktX3_parts_0 : List UInt8 := dkwX3_parts_0 ++ []
theorem dksX3_parts_0 : cX3_parts.data.toList.drop 0 = dktX3_parts_0 := by decide +kernel
theorem dX3_parts_0 : decode cX3_parts 0 = .ok (.aload_n 0, 1) := dk_42 (dk_at dksX3_parts_0 0 rfl rfl)
theorem dX3_parts_1 : decode cX3_parts 1 = .ok (.iconst 0, 1) := dk_3 (dk_at dksX3_parts_0 1 rfl rfl)
theorem dX3_parts_2 : decode cX3_parts 2 = .ok (.putfield 104, 3) := dk_181 0 104 (dk_at dksX3_parts_0 2 rfl rfl)
theorem dX3_parts_5 : decode cX3_parts 5 = .ok (.aload_n 0, 1) := dk_42 (dk_at dksX3_parts_0 5 rfl rfl)
theorem dX3_parts_6 : decode cX3_parts 6 = .ok (.getfield 116, 3) := dk_180 0 116 (dk_at dksX3_parts_0 6 rfl rfl)
theorem dX3_parts_9 : decode cX3_parts 9 = .ok (.ireturn, 1) := dk_172 (dk_at dksX3_parts_0 9 rfl rfl)
abbrev cX3_part_2 : ByteArray := prog_6_method_17_code
def yX3_part_2 : MethodName := ⟨RX3, "part", "(II)I"⟩
def dkwX3_part_2_3 : List UInt8 := [180, 0, 50, 27, 51, 153, 0, 7, 4, 167, 0, 4, 3, 172, 42, 4, 182, 0, 136, 172]
abbrev dktX3_part_2_3 : List UInt8 := dkwX3_part_2_3 ++ []
def dkwX3_part_2_2 : List UInt8 := [42, 180, 0, 41, 27, 46, 172, 42, 180, 0, 44, 27, 46, 172, 42, 180, 0, 47, 27, 46, 172, 42]
abbrev dktX3_part_2_2 : List UInt8 := dkwX3_part_2_2 ++ dktX3_part_2_3
def dkwX3_part_2_1 : List UInt8 := [170, 0, 0, 0, 0, 0, 0, 68, 0, 0, 0, 0, 0, 0, 0, 3, 0, 0, 0, 32, 0, 0, 0, 39, 0, 0, 0, 46, 0, 0, 0, 53]
abbrev dktX3_part_2_1 : List UInt8 := dkwX3_part_2_1 ++ dktX3_part_2_2
def dkwX3_part_2_0 : List UInt8 := [42, 3, 181, 0, 104, 42, 27, 182, 0, 133, 154, 0, 9, 42, 4, 182, 0, 136, 172, 28]
abbrev dktX3_part_2_0 : List UInt8 := dkwX3_part_2_0 ++ dktX3_part_2_1
theorem dksX3_part_2_0 : cX3_part_2.data.toList.drop 0 = dktX3_part_2_0 := by decide +kernel
theorem dksX3_part_2_1 : cX3_part_2.data.toList.drop 20 = dktX3_part_2_1 := dk_seg dksX3_part_2_0 20 rfl rfl
theorem dksX3_part_2_2 : cX3_part_2.data.toList.drop 52 = dktX3_part_2_2 := dk_seg dksX3_part_2_1 32 rfl rfl
theorem dksX3_part_2_3 : cX3_part_2.data.toList.drop 74 = dktX3_part_2_3 := dk_seg dksX3_part_2_2 22 rfl rfl
theorem dX3_part_2_0 : decode cX3_part_2 0 = .ok (.aload_n 0, 1) := dk_42 (dk_at dksX3_part_2_0 0 rfl rfl)
theorem dX3_part_2_1 : decode cX3_part_2 1 = .ok (.iconst 0, 1) := dk_3 (dk_at dksX3_part_2_0 1 rfl rfl)
theorem dX3_part_2_2 : decode cX3_part_2 2 = .ok (.putfield 104, 3) := dk_181 0 104 (dk_at dksX3_part_2_0 2 rfl rfl)
theorem dX3_part_2_5 : decode cX3_part_2 5 = .ok (.aload_n 0, 1) := dk_42 (dk_at dksX3_part_2_0 5 rfl rfl)
theorem dX3_part_2_6 : decode cX3_part_2 6 = .ok (.iload_n 1, 1) := dk_27 (dk_at dksX3_part_2_0 6 rfl rfl)
theorem dX3_part_2_7 : decode cX3_part_2 7 = .ok (.invokevirtual 133, 3) := dk_182 0 133 (dk_at dksX3_part_2_0 7 rfl rfl)
theorem dX3_part_2_10 : decode cX3_part_2 10 = .ok (.ifCond .ne 9, 3) := dk_154 0 9 (dk_at dksX3_part_2_0 10 rfl rfl)
theorem dX3_part_2_13 : decode cX3_part_2 13 = .ok (.aload_n 0, 1) := dk_42 (dk_at dksX3_part_2_0 13 rfl rfl)
theorem dX3_part_2_14 : decode cX3_part_2 14 = .ok (.iconst 1, 1) := dk_4 (dk_at dksX3_part_2_0 14 rfl rfl)
theorem dX3_part_2_15 : decode cX3_part_2 15 = .ok (.invokevirtual 136, 3) := dk_182 0 136 (dk_at dksX3_part_2_0 15 rfl rfl)
theorem dX3_part_2_18 : decode cX3_part_2 18 = .ok (.ireturn, 1) := dk_172 (dk_at dksX3_part_2_0 18 rfl rfl)
theorem dX3_part_2_19 : decode cX3_part_2 19 = .ok (.iload_n 2, 1) := dk_28 (dk_at dksX3_part_2_0 19 rfl rfl)
theorem dX3_part_2_20 : decode cX3_part_2 20 = .ok (.tableswitch 68 0 3 #[32, 39, 46, 53], 32) := by decide +kernel
theorem dX3_part_2_52 : decode cX3_part_2 52 = .ok (.aload_n 0, 1) := dk_42 (dk_at dksX3_part_2_2 0 rfl rfl)
theorem dX3_part_2_53 : decode cX3_part_2 53 = .ok (.getfield 41, 3) := dk_180 0 41 (dk_at dksX3_part_2_2 1 rfl rfl)
theorem dX3_part_2_56 : decode cX3_part_2 56 = .ok (.iload_n 1, 1) := dk_27 (dk_at dksX3_part_2_2 4 rfl rfl)
theorem dX3_part_2_57 : decode cX3_part_2 57 = .ok (.iaload, 1) := dk_46 (dk_at dksX3_part_2_2 5 rfl rfl)
theorem dX3_part_2_58 : decode cX3_part_2 58 = .ok (.ireturn, 1) := dk_172 (dk_at dksX3_part_2_2 6 rfl rfl)
theorem dX3_part_2_59 : decode cX3_part_2 59 = .ok (.aload_n 0, 1) := dk_42 (dk_at dksX3_part_2_2 7 rfl rfl)
theorem dX3_part_2_60 : decode cX3_part_2 60 = .ok (.getfield 44, 3) := dk_180 0 44 (dk_at dksX3_part_2_2 8 rfl rfl)
theorem dX3_part_2_63 : decode cX3_part_2 63 = .ok (.iload_n 1, 1) := dk_27 (dk_at dksX3_part_2_2 11 rfl rfl)
theorem dX3_part_2_64 : decode cX3_part_2 64 = .ok (.iaload, 1) := dk_46 (dk_at dksX3_part_2_2 12 rfl rfl)
theorem dX3_part_2_65 : decode cX3_part_2 65 = .ok (.ireturn, 1) := dk_172 (dk_at dksX3_part_2_2 13 rfl rfl)
theorem dX3_part_2_66 : decode cX3_part_2 66 = .ok (.aload_n 0, 1) := dk_42 (dk_at dksX3_part_2_2 14 rfl rfl)
theorem dX3_part_2_67 : decode cX3_part_2 67 = .ok (.getfield 47, 3) := dk_180 0 47 (dk_at dksX3_part_2_2 15 rfl rfl)
theorem dX3_part_2_70 : decode cX3_part_2 70 = .ok (.iload_n 1, 1) := dk_27 (dk_at dksX3_part_2_2 18 rfl rfl)
theorem dX3_part_2_71 : decode cX3_part_2 71 = .ok (.iaload, 1) := dk_46 (dk_at dksX3_part_2_2 19 rfl rfl)
theorem dX3_part_2_72 : decode cX3_part_2 72 = .ok (.ireturn, 1) := dk_172 (dk_at dksX3_part_2_2 20 rfl rfl)
theorem dX3_part_2_73 : decode cX3_part_2 73 = .ok (.aload_n 0, 1) := dk_42 (dk_at dksX3_part_2_2 21 rfl rfl)
theorem dX3_part_2_74 : decode cX3_part_2 74 = .ok (.getfield 50, 3) := dk_180 0 50 (dk_at dksX3_part_2_3 0 rfl rfl)
theorem dX3_part_2_77 : decode cX3_part_2 77 = .ok (.iload_n 1, 1) := dk_27 (dk_at dksX3_part_2_3 3 rfl rfl)
theorem dX3_part_2_78 : decode cX3_part_2 78 = .ok (.baload, 1) := dk_51 (dk_at dksX3_part_2_3 4 rfl rfl)
theorem dX3_part_2_79 : decode cX3_part_2 79 = .ok (.ifCond .eq 7, 3) := dk_153 0 7 (dk_at dksX3_part_2_3 5 rfl rfl)
theorem dX3_part_2_82 : decode cX3_part_2 82 = .ok (.iconst 1, 1) := dk_4 (dk_at dksX3_part_2_3 8 rfl rfl)
theorem dX3_part_2_83 : decode cX3_part_2 83 = .ok (.goto 4, 3) := dk_167 0 4 (dk_at dksX3_part_2_3 9 rfl rfl)
theorem dX3_part_2_86 : decode cX3_part_2 86 = .ok (.iconst 0, 1) := dk_3 (dk_at dksX3_part_2_3 12 rfl rfl)
theorem dX3_part_2_87 : decode cX3_part_2 87 = .ok (.ireturn, 1) := dk_172 (dk_at dksX3_part_2_3 13 rfl rfl)
theorem dX3_part_2_88 : decode cX3_part_2 88 = .ok (.aload_n 0, 1) := dk_42 (dk_at dksX3_part_2_3 14 rfl rfl)
theorem dX3_part_2_89 : decode cX3_part_2 89 = .ok (.iconst 1, 1) := dk_4 (dk_at dksX3_part_2_3 15 rfl rfl)
theorem dX3_part_2_90 : decode cX3_part_2 90 = .ok (.invokevirtual 136, 3) := dk_182 0 136 (dk_at dksX3_part_2_3 16 rfl rfl)
theorem dX3_part_2_93 : decode cX3_part_2 93 = .ok (.ireturn, 1) := dk_172 (dk_at dksX3_part_2_3 19 rfl rfl)
abbrev cX3_isPart : ByteArray := prog_6_method_16_code
def yX3_isPart : MethodName := ⟨RX3, "isPart", "(I)Z"⟩
def dkwX3_isPart_0 : List UInt8 := [27, 155, 0, 15, 27, 42, 180, 0, 116, 162, 0, 7, 4, 167, 0, 4, 3, 172]
abbrev dktX3_isPart_0 : List UInt8 := dkwX3_isPart_0 ++ []
theorem dksX3_isPart_0 : cX3_isPart.data.toList.drop 0 = dktX3_isPart_0 := by decide +kernel
theorem dX3_isPart_0 : decode cX3_isPart 0 = .ok (.iload_n 1, 1) := dk_27 (dk_at dksX3_isPart_0 0 rfl rfl)
theorem dX3_isPart_1 : decode cX3_isPart 1 = .ok (.ifCond .lt 15, 3) := dk_155 0 15 (dk_at dksX3_isPart_0 1 rfl rfl)
theorem dX3_isPart_4 : decode cX3_isPart 4 = .ok (.iload_n 1, 1) := dk_27 (dk_at dksX3_isPart_0 4 rfl rfl)
theorem dX3_isPart_5 : decode cX3_isPart 5 = .ok (.aload_n 0, 1) := dk_42 (dk_at dksX3_isPart_0 5 rfl rfl)
theorem dX3_isPart_6 : decode cX3_isPart 6 = .ok (.getfield 116, 3) := dk_180 0 116 (dk_at dksX3_isPart_0 6 rfl rfl)
theorem dX3_isPart_9 : decode cX3_isPart 9 = .ok (.if_icmp .ge 7, 3) := dk_162 0 7 (dk_at dksX3_isPart_0 9 rfl rfl)
theorem dX3_isPart_12 : decode cX3_isPart 12 = .ok (.iconst 1, 1) := dk_4 (dk_at dksX3_isPart_0 12 rfl rfl)
theorem dX3_isPart_13 : decode cX3_isPart 13 = .ok (.goto 4, 3) := dk_167 0 4 (dk_at dksX3_isPart_0 13 rfl rfl)
theorem dX3_isPart_16 : decode cX3_isPart 16 = .ok (.iconst 0, 1) := dk_3 (dk_at dksX3_isPart_0 16 rfl rfl)
theorem dX3_isPart_17 : decode cX3_isPart 17 = .ok (.ireturn, 1) := dk_172 (dk_at dksX3_isPart_0 17 rfl rfl)
abbrev cX3_fail : ByteArray := prog_6_method_3_code
def yX3_fail : MethodName := ⟨RX3, "fail", "(I)I"⟩
def dkwX3_fail_0 : List UInt8 := [42, 27, 181, 0, 104, 3, 172]
abbrev dktX3_fail_0 : List UInt8 := dkwX3_fail_0 ++ []
theorem dksX3_fail_0 : cX3_fail.data.toList.drop 0 = dktX3_fail_0 := by decide +kernel
theorem dX3_fail_0 : decode cX3_fail 0 = .ok (.aload_n 0, 1) := dk_42 (dk_at dksX3_fail_0 0 rfl rfl)
theorem dX3_fail_1 : decode cX3_fail 1 = .ok (.iload_n 1, 1) := dk_27 (dk_at dksX3_fail_0 1 rfl rfl)
theorem dX3_fail_2 : decode cX3_fail 2 = .ok (.putfield 104, 3) := dk_181 0 104 (dk_at dksX3_fail_0 2 rfl rfl)
theorem dX3_fail_5 : decode cX3_fail 5 = .ok (.iconst 0, 1) := dk_3 (dk_at dksX3_fail_0 5 rfl rfl)
theorem dX3_fail_6 : decode cX3_fail 6 = .ok (.ireturn, 1) := dk_172 (dk_at dksX3_fail_0 6 rfl rfl)
abbrev cX3_need : ByteArray := prog_6_method_18_code
def yX3_need : MethodName := ⟨RX3, "need", "(IZ)Z"⟩
def dkwX3_need_1 : List UInt8 := [51, 62, 42, 180, 0, 50, 27, 28, 84, 29, 172]
abbrev dktX3_need_1 : List UInt8 := dkwX3_need_1 ++ []
def dkwX3_need_0 : List UInt8 := [42, 3, 181, 0, 104, 42, 27, 182, 0, 133, 154, 0, 9, 42, 4, 182, 0, 127, 172, 42, 180, 0, 50, 27]
abbrev dktX3_need_0 : List UInt8 := dkwX3_need_0 ++ dktX3_need_1
theorem dksX3_need_0 : cX3_need.data.toList.drop 0 = dktX3_need_0 := by decide +kernel
theorem dksX3_need_1 : cX3_need.data.toList.drop 24 = dktX3_need_1 := dk_seg dksX3_need_0 24 rfl rfl
theorem dX3_need_0 : decode cX3_need 0 = .ok (.aload_n 0, 1) := dk_42 (dk_at dksX3_need_0 0 rfl rfl)
theorem dX3_need_1 : decode cX3_need 1 = .ok (.iconst 0, 1) := dk_3 (dk_at dksX3_need_0 1 rfl rfl)
theorem dX3_need_2 : decode cX3_need 2 = .ok (.putfield 104, 3) := dk_181 0 104 (dk_at dksX3_need_0 2 rfl rfl)
theorem dX3_need_5 : decode cX3_need 5 = .ok (.aload_n 0, 1) := dk_42 (dk_at dksX3_need_0 5 rfl rfl)
theorem dX3_need_6 : decode cX3_need 6 = .ok (.iload_n 1, 1) := dk_27 (dk_at dksX3_need_0 6 rfl rfl)
theorem dX3_need_7 : decode cX3_need 7 = .ok (.invokevirtual 133, 3) := dk_182 0 133 (dk_at dksX3_need_0 7 rfl rfl)
theorem dX3_need_10 : decode cX3_need 10 = .ok (.ifCond .ne 9, 3) := dk_154 0 9 (dk_at dksX3_need_0 10 rfl rfl)
theorem dX3_need_13 : decode cX3_need 13 = .ok (.aload_n 0, 1) := dk_42 (dk_at dksX3_need_0 13 rfl rfl)
theorem dX3_need_14 : decode cX3_need 14 = .ok (.iconst 1, 1) := dk_4 (dk_at dksX3_need_0 14 rfl rfl)
theorem dX3_need_15 : decode cX3_need 15 = .ok (.invokevirtual 127, 3) := dk_182 0 127 (dk_at dksX3_need_0 15 rfl rfl)
theorem dX3_need_18 : decode cX3_need 18 = .ok (.ireturn, 1) := dk_172 (dk_at dksX3_need_0 18 rfl rfl)
theorem dX3_need_19 : decode cX3_need 19 = .ok (.aload_n 0, 1) := dk_42 (dk_at dksX3_need_0 19 rfl rfl)
theorem dX3_need_20 : decode cX3_need 20 = .ok (.getfield 50, 3) := dk_180 0 50 (dk_at dksX3_need_0 20 rfl rfl)
theorem dX3_need_23 : decode cX3_need 23 = .ok (.iload_n 1, 1) := dk_27 (dk_at dksX3_need_0 23 rfl rfl)
theorem dX3_need_24 : decode cX3_need 24 = .ok (.baload, 1) := dk_51 (dk_at dksX3_need_1 0 rfl rfl)
theorem dX3_need_25 : decode cX3_need 25 = .ok (.istore_n 3, 1) := dk_62 (dk_at dksX3_need_1 1 rfl rfl)
theorem dX3_need_26 : decode cX3_need 26 = .ok (.aload_n 0, 1) := dk_42 (dk_at dksX3_need_1 2 rfl rfl)
theorem dX3_need_27 : decode cX3_need 27 = .ok (.getfield 50, 3) := dk_180 0 50 (dk_at dksX3_need_1 3 rfl rfl)
theorem dX3_need_30 : decode cX3_need 30 = .ok (.iload_n 1, 1) := dk_27 (dk_at dksX3_need_1 6 rfl rfl)
theorem dX3_need_31 : decode cX3_need 31 = .ok (.iload_n 2, 1) := dk_28 (dk_at dksX3_need_1 7 rfl rfl)
theorem dX3_need_32 : decode cX3_need 32 = .ok (.bastore, 1) := dk_84 (dk_at dksX3_need_1 8 rfl rfl)
theorem dX3_need_33 : decode cX3_need 33 = .ok (.iload_n 3, 1) := dk_29 (dk_at dksX3_need_1 9 rfl rfl)
theorem dX3_need_34 : decode cX3_need 34 = .ok (.ireturn, 1) := dk_172 (dk_at dksX3_need_1 10 rfl rfl)
abbrev cX3_feed : ByteArray := prog_6_method_26_code
def yX3_feed : MethodName := ⟨RX3, "feed", "(IIIII)I"⟩
def dkwX3_feed_5 : List UInt8 := [167, 255, 162, 42, 180, 0, 149, 172]
abbrev dktX3_feed_5 : List UInt8 := dkwX3_feed_5 ++ []
def dkwX3_feed_4 : List UInt8 := [112, 104, 100, 122, 17, 0, 255, 126, 79, 42, 89, 180, 0, 149, 4, 96, 181, 0, 149, 132, 6, 1]
abbrev dktX3_feed_4 : List UInt8 := dkwX3_feed_4 ++ dktX3_feed_5
def dkwX3_feed_3 : List UInt8 := [167, 0, 5, 21, 5, 54, 7, 42, 180, 0, 38, 42, 180, 0, 149, 21, 7, 16, 24, 16, 8, 21, 6, 7]
abbrev dktX3_feed_3 : List UInt8 := dkwX3_feed_3 ++ dktX3_feed_4
def dkwX3_feed_2 : List UInt8 := [28, 167, 0, 28, 21, 6, 16, 12, 162, 0, 7, 29, 167, 0, 17, 21, 6, 16, 16, 162, 0, 8, 21, 4]
abbrev dktX3_feed_2 : List UInt8 := dkwX3_feed_2 ++ dktX3_feed_3
def dkwX3_feed_1 : List UInt8 := [21, 6, 16, 20, 162, 0, 93, 21, 6, 7, 162, 0, 7, 27, 167, 0, 39, 21, 6, 16, 8, 162, 0, 7]
abbrev dktX3_feed_1 : List UInt8 := dkwX3_feed_1 ++ dktX3_feed_2
def dkwX3_feed_0 : List UInt8 := [42, 3, 181, 0, 104, 42, 180, 0, 149, 16, 20, 96, 17, 1, 144, 164, 0, 5, 2, 172, 3, 54, 6]
abbrev dktX3_feed_0 : List UInt8 := dkwX3_feed_0 ++ dktX3_feed_1
theorem dksX3_feed_0 : cX3_feed.data.toList.drop 0 = dktX3_feed_0 := by decide +kernel
theorem dksX3_feed_1 : cX3_feed.data.toList.drop 23 = dktX3_feed_1 := dk_seg dksX3_feed_0 23 rfl rfl
theorem dksX3_feed_2 : cX3_feed.data.toList.drop 47 = dktX3_feed_2 := dk_seg dksX3_feed_1 24 rfl rfl
theorem dksX3_feed_3 : cX3_feed.data.toList.drop 71 = dktX3_feed_3 := dk_seg dksX3_feed_2 24 rfl rfl
theorem dksX3_feed_4 : cX3_feed.data.toList.drop 95 = dktX3_feed_4 := dk_seg dksX3_feed_3 24 rfl rfl
theorem dksX3_feed_5 : cX3_feed.data.toList.drop 117 = dktX3_feed_5 := dk_seg dksX3_feed_4 22 rfl rfl
theorem dX3_feed_0 : decode cX3_feed 0 = .ok (.aload_n 0, 1) := dk_42 (dk_at dksX3_feed_0 0 rfl rfl)
theorem dX3_feed_1 : decode cX3_feed 1 = .ok (.iconst 0, 1) := dk_3 (dk_at dksX3_feed_0 1 rfl rfl)
theorem dX3_feed_2 : decode cX3_feed 2 = .ok (.putfield 104, 3) := dk_181 0 104 (dk_at dksX3_feed_0 2 rfl rfl)
theorem dX3_feed_5 : decode cX3_feed 5 = .ok (.aload_n 0, 1) := dk_42 (dk_at dksX3_feed_0 5 rfl rfl)
theorem dX3_feed_6 : decode cX3_feed 6 = .ok (.getfield 149, 3) := dk_180 0 149 (dk_at dksX3_feed_0 6 rfl rfl)
theorem dX3_feed_9 : decode cX3_feed 9 = .ok (.bipush 20, 2) := dk_16 20 (dk_at dksX3_feed_0 9 rfl rfl)
theorem dX3_feed_11 : decode cX3_feed 11 = .ok (.iadd, 1) := dk_96 (dk_at dksX3_feed_0 11 rfl rfl)
theorem dX3_feed_12 : decode cX3_feed 12 = .ok (.sipush 400, 3) := dk_17 1 144 (dk_at dksX3_feed_0 12 rfl rfl)
theorem dX3_feed_15 : decode cX3_feed 15 = .ok (.if_icmp .le 5, 3) := dk_164 0 5 (dk_at dksX3_feed_0 15 rfl rfl)
theorem dX3_feed_18 : decode cX3_feed 18 = .ok (.iconst (-1), 1) := dk_2 (dk_at dksX3_feed_0 18 rfl rfl)
theorem dX3_feed_19 : decode cX3_feed 19 = .ok (.ireturn, 1) := dk_172 (dk_at dksX3_feed_0 19 rfl rfl)
theorem dX3_feed_20 : decode cX3_feed 20 = .ok (.iconst 0, 1) := dk_3 (dk_at dksX3_feed_0 20 rfl rfl)
theorem dX3_feed_21 : decode cX3_feed 21 = .ok (.istore 6, 2) := dk_54 6 (dk_at dksX3_feed_0 21 rfl rfl)
theorem dX3_feed_23 : decode cX3_feed 23 = .ok (.iload 6, 2) := dk_21 6 (dk_at dksX3_feed_1 0 rfl rfl)
theorem dX3_feed_25 : decode cX3_feed 25 = .ok (.bipush 20, 2) := dk_16 20 (dk_at dksX3_feed_1 2 rfl rfl)
theorem dX3_feed_27 : decode cX3_feed 27 = .ok (.if_icmp .ge 93, 3) := dk_162 0 93 (dk_at dksX3_feed_1 4 rfl rfl)
theorem dX3_feed_30 : decode cX3_feed 30 = .ok (.iload 6, 2) := dk_21 6 (dk_at dksX3_feed_1 7 rfl rfl)
theorem dX3_feed_32 : decode cX3_feed 32 = .ok (.iconst 4, 1) := dk_7 (dk_at dksX3_feed_1 9 rfl rfl)
theorem dX3_feed_33 : decode cX3_feed 33 = .ok (.if_icmp .ge 7, 3) := dk_162 0 7 (dk_at dksX3_feed_1 10 rfl rfl)
theorem dX3_feed_36 : decode cX3_feed 36 = .ok (.iload_n 1, 1) := dk_27 (dk_at dksX3_feed_1 13 rfl rfl)
theorem dX3_feed_37 : decode cX3_feed 37 = .ok (.goto 39, 3) := dk_167 0 39 (dk_at dksX3_feed_1 14 rfl rfl)
theorem dX3_feed_40 : decode cX3_feed 40 = .ok (.iload 6, 2) := dk_21 6 (dk_at dksX3_feed_1 17 rfl rfl)
theorem dX3_feed_42 : decode cX3_feed 42 = .ok (.bipush 8, 2) := dk_16 8 (dk_at dksX3_feed_1 19 rfl rfl)
theorem dX3_feed_44 : decode cX3_feed 44 = .ok (.if_icmp .ge 7, 3) := dk_162 0 7 (dk_at dksX3_feed_1 21 rfl rfl)
theorem dX3_feed_47 : decode cX3_feed 47 = .ok (.iload_n 2, 1) := dk_28 (dk_at dksX3_feed_2 0 rfl rfl)
theorem dX3_feed_48 : decode cX3_feed 48 = .ok (.goto 28, 3) := dk_167 0 28 (dk_at dksX3_feed_2 1 rfl rfl)
theorem dX3_feed_51 : decode cX3_feed 51 = .ok (.iload 6, 2) := dk_21 6 (dk_at dksX3_feed_2 4 rfl rfl)
theorem dX3_feed_53 : decode cX3_feed 53 = .ok (.bipush 12, 2) := dk_16 12 (dk_at dksX3_feed_2 6 rfl rfl)
theorem dX3_feed_55 : decode cX3_feed 55 = .ok (.if_icmp .ge 7, 3) := dk_162 0 7 (dk_at dksX3_feed_2 8 rfl rfl)
theorem dX3_feed_58 : decode cX3_feed 58 = .ok (.iload_n 3, 1) := dk_29 (dk_at dksX3_feed_2 11 rfl rfl)
theorem dX3_feed_59 : decode cX3_feed 59 = .ok (.goto 17, 3) := dk_167 0 17 (dk_at dksX3_feed_2 12 rfl rfl)
theorem dX3_feed_62 : decode cX3_feed 62 = .ok (.iload 6, 2) := dk_21 6 (dk_at dksX3_feed_2 15 rfl rfl)
theorem dX3_feed_64 : decode cX3_feed 64 = .ok (.bipush 16, 2) := dk_16 16 (dk_at dksX3_feed_2 17 rfl rfl)
theorem dX3_feed_66 : decode cX3_feed 66 = .ok (.if_icmp .ge 8, 3) := dk_162 0 8 (dk_at dksX3_feed_2 19 rfl rfl)
theorem dX3_feed_69 : decode cX3_feed 69 = .ok (.iload 4, 2) := dk_21 4 (dk_at dksX3_feed_2 22 rfl rfl)
theorem dX3_feed_71 : decode cX3_feed 71 = .ok (.goto 5, 3) := dk_167 0 5 (dk_at dksX3_feed_3 0 rfl rfl)
theorem dX3_feed_74 : decode cX3_feed 74 = .ok (.iload 5, 2) := dk_21 5 (dk_at dksX3_feed_3 3 rfl rfl)
theorem dX3_feed_76 : decode cX3_feed 76 = .ok (.istore 7, 2) := dk_54 7 (dk_at dksX3_feed_3 5 rfl rfl)
theorem dX3_feed_78 : decode cX3_feed 78 = .ok (.aload_n 0, 1) := dk_42 (dk_at dksX3_feed_3 7 rfl rfl)
theorem dX3_feed_79 : decode cX3_feed 79 = .ok (.getfield 38, 3) := dk_180 0 38 (dk_at dksX3_feed_3 8 rfl rfl)
theorem dX3_feed_82 : decode cX3_feed 82 = .ok (.aload_n 0, 1) := dk_42 (dk_at dksX3_feed_3 11 rfl rfl)
theorem dX3_feed_83 : decode cX3_feed 83 = .ok (.getfield 149, 3) := dk_180 0 149 (dk_at dksX3_feed_3 12 rfl rfl)
theorem dX3_feed_86 : decode cX3_feed 86 = .ok (.iload 7, 2) := dk_21 7 (dk_at dksX3_feed_3 15 rfl rfl)
theorem dX3_feed_88 : decode cX3_feed 88 = .ok (.bipush 24, 2) := dk_16 24 (dk_at dksX3_feed_3 17 rfl rfl)
theorem dX3_feed_90 : decode cX3_feed 90 = .ok (.bipush 8, 2) := dk_16 8 (dk_at dksX3_feed_3 19 rfl rfl)
theorem dX3_feed_92 : decode cX3_feed 92 = .ok (.iload 6, 2) := dk_21 6 (dk_at dksX3_feed_3 21 rfl rfl)
theorem dX3_feed_94 : decode cX3_feed 94 = .ok (.iconst 4, 1) := dk_7 (dk_at dksX3_feed_3 23 rfl rfl)
theorem dX3_feed_95 : decode cX3_feed 95 = .ok (.irem, 1) := dk_112 (dk_at dksX3_feed_4 0 rfl rfl)
theorem dX3_feed_96 : decode cX3_feed 96 = .ok (.imul, 1) := dk_104 (dk_at dksX3_feed_4 1 rfl rfl)
theorem dX3_feed_97 : decode cX3_feed 97 = .ok (.isub, 1) := dk_100 (dk_at dksX3_feed_4 2 rfl rfl)
theorem dX3_feed_98 : decode cX3_feed 98 = .ok (.ishr, 1) := dk_122 (dk_at dksX3_feed_4 3 rfl rfl)
theorem dX3_feed_99 : decode cX3_feed 99 = .ok (.sipush 255, 3) := dk_17 0 255 (dk_at dksX3_feed_4 4 rfl rfl)
theorem dX3_feed_102 : decode cX3_feed 102 = .ok (.iand, 1) := dk_126 (dk_at dksX3_feed_4 7 rfl rfl)
theorem dX3_feed_103 : decode cX3_feed 103 = .ok (.iastore, 1) := dk_79 (dk_at dksX3_feed_4 8 rfl rfl)
theorem dX3_feed_104 : decode cX3_feed 104 = .ok (.aload_n 0, 1) := dk_42 (dk_at dksX3_feed_4 9 rfl rfl)
theorem dX3_feed_105 : decode cX3_feed 105 = .ok (.dup, 1) := dk_89 (dk_at dksX3_feed_4 10 rfl rfl)
theorem dX3_feed_106 : decode cX3_feed 106 = .ok (.getfield 149, 3) := dk_180 0 149 (dk_at dksX3_feed_4 11 rfl rfl)
theorem dX3_feed_109 : decode cX3_feed 109 = .ok (.iconst 1, 1) := dk_4 (dk_at dksX3_feed_4 14 rfl rfl)
theorem dX3_feed_110 : decode cX3_feed 110 = .ok (.iadd, 1) := dk_96 (dk_at dksX3_feed_4 15 rfl rfl)
theorem dX3_feed_111 : decode cX3_feed 111 = .ok (.putfield 149, 3) := dk_181 0 149 (dk_at dksX3_feed_4 16 rfl rfl)
theorem dX3_feed_114 : decode cX3_feed 114 = .ok (.iinc 6 1, 3) := dk_132 6 1 (dk_at dksX3_feed_4 19 rfl rfl)
theorem dX3_feed_117 : decode cX3_feed 117 = .ok (.goto (-94), 3) := dk_167 255 162 (dk_at dksX3_feed_5 0 rfl rfl)
theorem dX3_feed_120 : decode cX3_feed 120 = .ok (.aload_n 0, 1) := dk_42 (dk_at dksX3_feed_5 3 rfl rfl)
theorem dX3_feed_121 : decode cX3_feed 121 = .ok (.getfield 149, 3) := dk_180 0 149 (dk_at dksX3_feed_5 4 rfl rfl)
theorem dX3_feed_124 : decode cX3_feed 124 = .ok (.ireturn, 1) := dk_172 (dk_at dksX3_feed_5 7 rfl rfl)
abbrev cX3_plan : ByteArray := prog_6_method_28_code
def yX3_plan : MethodName := ⟨RX3, "plan", "(III)I"⟩
def dkwX3_plan_10 : List UInt8 := [180, 0, 107, 4, 96, 181, 0, 107, 42, 180, 0, 107, 4, 100, 172]
abbrev dktX3_plan_10 : List UInt8 := dkwX3_plan_10 ++ []
def dkwX3_plan_9 : List UInt8 := [180, 0, 107, 21, 4, 79, 42, 180, 0, 57, 42, 180, 0, 107, 28, 29, 3, 184, 0, 158, 79, 42, 89]
abbrev dktX3_plan_9 : List UInt8 := dkwX3_plan_9 ++ dktX3_plan_10
def dkwX3_plan_8 : List UInt8 := [21, 4, 96, 21, 7, 79, 132, 4, 1, 21, 8, 54, 5, 132, 6, 1, 167, 255, 136, 42, 180, 0, 54, 42]
abbrev dktX3_plan_8 : List UInt8 := dkwX3_plan_8 ++ dktX3_plan_9
def dkwX3_plan_7 : List UInt8 := [160, 0, 8, 16, 254, 167, 0, 5, 16, 253, 172, 42, 180, 0, 60, 17, 1, 144, 42, 180, 0, 107, 104]
abbrev dktX3_plan_7 : List UInt8 := dkwX3_plan_7 ++ dktX3_plan_8
def dkwX3_plan_6 : List UInt8 := [21, 7, 182, 0, 165, 54, 8, 21, 8, 2, 160, 0, 23, 42, 21, 6, 181, 0, 25, 21, 7, 2]
abbrev dktX3_plan_6 : List UInt8 := dkwX3_plan_6 ++ dktX3_plan_7
def dkwX3_plan_5 : List UInt8 := [180, 0, 38, 21, 6, 46, 182, 0, 162, 54, 7, 21, 7, 2, 160, 0, 7, 2, 167, 0, 11, 42, 21, 5]
abbrev dktX3_plan_5 : List UInt8 := dkwX3_plan_5 ++ dktX3_plan_6
def dkwX3_plan_4 : List UInt8 := [16, 32, 159, 0, 102, 42, 180, 0, 38, 21, 6, 46, 16, 10, 160, 0, 6, 167, 0, 87, 42, 42]
abbrev dktX3_plan_4 : List UInt8 := dkwX3_plan_4 ++ dktX3_plan_5
def dkwX3_plan_3 : List UInt8 := [29, 3, 184, 0, 158, 54, 5, 3, 54, 6, 21, 6, 27, 162, 0, 120, 42, 180, 0, 38, 21, 6, 46]
abbrev dktX3_plan_3 : List UInt8 := dkwX3_plan_3 ++ dktX3_plan_4
def dkwX3_plan_2 : List UInt8 := [181, 0, 149, 42, 2, 181, 0, 25, 42, 180, 0, 107, 16, 8, 160, 0, 6, 16, 247, 172, 3, 54, 4, 28]
abbrev dktX3_plan_2 : List UInt8 := dkwX3_plan_2 ++ dktX3_plan_3
def dkwX3_plan_1 : List UInt8 := [182, 0, 136, 172, 27, 155, 0, 11, 27, 42, 180, 0, 149, 164, 0, 9, 42, 5, 182, 0, 136, 172, 42, 3]
abbrev dktX3_plan_1 : List UInt8 := dkwX3_plan_1 ++ dktX3_plan_2
def dkwX3_plan_0 : List UInt8 := [42, 3, 181, 0, 104, 42, 28, 182, 0, 123, 153, 0, 11, 42, 29, 182, 0, 130, 154, 0, 9, 42, 4]
abbrev dktX3_plan_0 : List UInt8 := dkwX3_plan_0 ++ dktX3_plan_1
theorem dksX3_plan_0 : cX3_plan.data.toList.drop 0 = dktX3_plan_0 := by decide +kernel
theorem dksX3_plan_1 : cX3_plan.data.toList.drop 23 = dktX3_plan_1 := dk_seg dksX3_plan_0 23 rfl rfl
theorem dksX3_plan_2 : cX3_plan.data.toList.drop 47 = dktX3_plan_2 := dk_seg dksX3_plan_1 24 rfl rfl
theorem dksX3_plan_3 : cX3_plan.data.toList.drop 71 = dktX3_plan_3 := dk_seg dksX3_plan_2 24 rfl rfl
theorem dksX3_plan_4 : cX3_plan.data.toList.drop 94 = dktX3_plan_4 := dk_seg dksX3_plan_3 23 rfl rfl
theorem dksX3_plan_5 : cX3_plan.data.toList.drop 116 = dktX3_plan_5 := dk_seg dksX3_plan_4 22 rfl rfl
theorem dksX3_plan_6 : cX3_plan.data.toList.drop 140 = dktX3_plan_6 := dk_seg dksX3_plan_5 24 rfl rfl
theorem dksX3_plan_7 : cX3_plan.data.toList.drop 162 = dktX3_plan_7 := dk_seg dksX3_plan_6 22 rfl rfl
theorem dksX3_plan_8 : cX3_plan.data.toList.drop 185 = dktX3_plan_8 := dk_seg dksX3_plan_7 23 rfl rfl
theorem dksX3_plan_9 : cX3_plan.data.toList.drop 209 = dktX3_plan_9 := dk_seg dksX3_plan_8 24 rfl rfl
theorem dksX3_plan_10 : cX3_plan.data.toList.drop 232 = dktX3_plan_10 := dk_seg dksX3_plan_9 23 rfl rfl
theorem dX3_plan_0 : decode cX3_plan 0 = .ok (.aload_n 0, 1) := dk_42 (dk_at dksX3_plan_0 0 rfl rfl)
theorem dX3_plan_1 : decode cX3_plan 1 = .ok (.iconst 0, 1) := dk_3 (dk_at dksX3_plan_0 1 rfl rfl)
theorem dX3_plan_2 : decode cX3_plan 2 = .ok (.putfield 104, 3) := dk_181 0 104 (dk_at dksX3_plan_0 2 rfl rfl)
theorem dX3_plan_5 : decode cX3_plan 5 = .ok (.aload_n 0, 1) := dk_42 (dk_at dksX3_plan_0 5 rfl rfl)
theorem dX3_plan_6 : decode cX3_plan 6 = .ok (.iload_n 2, 1) := dk_28 (dk_at dksX3_plan_0 6 rfl rfl)
theorem dX3_plan_7 : decode cX3_plan 7 = .ok (.invokevirtual 123, 3) := dk_182 0 123 (dk_at dksX3_plan_0 7 rfl rfl)
theorem dX3_plan_10 : decode cX3_plan 10 = .ok (.ifCond .eq 11, 3) := dk_153 0 11 (dk_at dksX3_plan_0 10 rfl rfl)
theorem dX3_plan_13 : decode cX3_plan 13 = .ok (.aload_n 0, 1) := dk_42 (dk_at dksX3_plan_0 13 rfl rfl)
theorem dX3_plan_14 : decode cX3_plan 14 = .ok (.iload_n 3, 1) := dk_29 (dk_at dksX3_plan_0 14 rfl rfl)
theorem dX3_plan_15 : decode cX3_plan 15 = .ok (.invokevirtual 130, 3) := dk_182 0 130 (dk_at dksX3_plan_0 15 rfl rfl)
theorem dX3_plan_18 : decode cX3_plan 18 = .ok (.ifCond .ne 9, 3) := dk_154 0 9 (dk_at dksX3_plan_0 18 rfl rfl)
theorem dX3_plan_21 : decode cX3_plan 21 = .ok (.aload_n 0, 1) := dk_42 (dk_at dksX3_plan_0 21 rfl rfl)
theorem dX3_plan_22 : decode cX3_plan 22 = .ok (.iconst 1, 1) := dk_4 (dk_at dksX3_plan_0 22 rfl rfl)
theorem dX3_plan_23 : decode cX3_plan 23 = .ok (.invokevirtual 136, 3) := dk_182 0 136 (dk_at dksX3_plan_1 0 rfl rfl)
theorem dX3_plan_26 : decode cX3_plan 26 = .ok (.ireturn, 1) := dk_172 (dk_at dksX3_plan_1 3 rfl rfl)
theorem dX3_plan_27 : decode cX3_plan 27 = .ok (.iload_n 1, 1) := dk_27 (dk_at dksX3_plan_1 4 rfl rfl)
theorem dX3_plan_28 : decode cX3_plan 28 = .ok (.ifCond .lt 11, 3) := dk_155 0 11 (dk_at dksX3_plan_1 5 rfl rfl)
theorem dX3_plan_31 : decode cX3_plan 31 = .ok (.iload_n 1, 1) := dk_27 (dk_at dksX3_plan_1 8 rfl rfl)
theorem dX3_plan_32 : decode cX3_plan 32 = .ok (.aload_n 0, 1) := dk_42 (dk_at dksX3_plan_1 9 rfl rfl)
theorem dX3_plan_33 : decode cX3_plan 33 = .ok (.getfield 149, 3) := dk_180 0 149 (dk_at dksX3_plan_1 10 rfl rfl)
theorem dX3_plan_36 : decode cX3_plan 36 = .ok (.if_icmp .le 9, 3) := dk_164 0 9 (dk_at dksX3_plan_1 13 rfl rfl)
theorem dX3_plan_39 : decode cX3_plan 39 = .ok (.aload_n 0, 1) := dk_42 (dk_at dksX3_plan_1 16 rfl rfl)
theorem dX3_plan_40 : decode cX3_plan 40 = .ok (.iconst 2, 1) := dk_5 (dk_at dksX3_plan_1 17 rfl rfl)
theorem dX3_plan_41 : decode cX3_plan 41 = .ok (.invokevirtual 136, 3) := dk_182 0 136 (dk_at dksX3_plan_1 18 rfl rfl)
theorem dX3_plan_44 : decode cX3_plan 44 = .ok (.ireturn, 1) := dk_172 (dk_at dksX3_plan_1 21 rfl rfl)
theorem dX3_plan_45 : decode cX3_plan 45 = .ok (.aload_n 0, 1) := dk_42 (dk_at dksX3_plan_1 22 rfl rfl)
theorem dX3_plan_46 : decode cX3_plan 46 = .ok (.iconst 0, 1) := dk_3 (dk_at dksX3_plan_1 23 rfl rfl)
theorem dX3_plan_47 : decode cX3_plan 47 = .ok (.putfield 149, 3) := dk_181 0 149 (dk_at dksX3_plan_2 0 rfl rfl)
theorem dX3_plan_50 : decode cX3_plan 50 = .ok (.aload_n 0, 1) := dk_42 (dk_at dksX3_plan_2 3 rfl rfl)
theorem dX3_plan_51 : decode cX3_plan 51 = .ok (.iconst (-1), 1) := dk_2 (dk_at dksX3_plan_2 4 rfl rfl)
theorem dX3_plan_52 : decode cX3_plan 52 = .ok (.putfield 25, 3) := dk_181 0 25 (dk_at dksX3_plan_2 5 rfl rfl)
theorem dX3_plan_55 : decode cX3_plan 55 = .ok (.aload_n 0, 1) := dk_42 (dk_at dksX3_plan_2 8 rfl rfl)
theorem dX3_plan_56 : decode cX3_plan 56 = .ok (.getfield 107, 3) := dk_180 0 107 (dk_at dksX3_plan_2 9 rfl rfl)
theorem dX3_plan_59 : decode cX3_plan 59 = .ok (.bipush 8, 2) := dk_16 8 (dk_at dksX3_plan_2 12 rfl rfl)
theorem dX3_plan_61 : decode cX3_plan 61 = .ok (.if_icmp .ne 6, 3) := dk_160 0 6 (dk_at dksX3_plan_2 14 rfl rfl)
theorem dX3_plan_64 : decode cX3_plan 64 = .ok (.bipush (-9), 2) := dk_16 247 (dk_at dksX3_plan_2 17 rfl rfl)
theorem dX3_plan_66 : decode cX3_plan 66 = .ok (.ireturn, 1) := dk_172 (dk_at dksX3_plan_2 19 rfl rfl)
theorem dX3_plan_67 : decode cX3_plan 67 = .ok (.iconst 0, 1) := dk_3 (dk_at dksX3_plan_2 20 rfl rfl)
theorem dX3_plan_68 : decode cX3_plan 68 = .ok (.istore 4, 2) := dk_54 4 (dk_at dksX3_plan_2 21 rfl rfl)
theorem dX3_plan_70 : decode cX3_plan 70 = .ok (.iload_n 2, 1) := dk_28 (dk_at dksX3_plan_2 23 rfl rfl)
theorem dX3_plan_71 : decode cX3_plan 71 = .ok (.iload_n 3, 1) := dk_29 (dk_at dksX3_plan_3 0 rfl rfl)
theorem dX3_plan_72 : decode cX3_plan 72 = .ok (.iconst 0, 1) := dk_3 (dk_at dksX3_plan_3 1 rfl rfl)
theorem dX3_plan_73 : decode cX3_plan 73 = .ok (.invokestatic 158, 3) := dk_184 0 158 (dk_at dksX3_plan_3 2 rfl rfl)
theorem dX3_plan_76 : decode cX3_plan 76 = .ok (.istore 5, 2) := dk_54 5 (dk_at dksX3_plan_3 5 rfl rfl)
theorem dX3_plan_78 : decode cX3_plan 78 = .ok (.iconst 0, 1) := dk_3 (dk_at dksX3_plan_3 7 rfl rfl)
theorem dX3_plan_79 : decode cX3_plan 79 = .ok (.istore 6, 2) := dk_54 6 (dk_at dksX3_plan_3 8 rfl rfl)
theorem dX3_plan_81 : decode cX3_plan 81 = .ok (.iload 6, 2) := dk_21 6 (dk_at dksX3_plan_3 10 rfl rfl)
theorem dX3_plan_83 : decode cX3_plan 83 = .ok (.iload_n 1, 1) := dk_27 (dk_at dksX3_plan_3 12 rfl rfl)
theorem dX3_plan_84 : decode cX3_plan 84 = .ok (.if_icmp .ge 120, 3) := dk_162 0 120 (dk_at dksX3_plan_3 13 rfl rfl)
theorem dX3_plan_87 : decode cX3_plan 87 = .ok (.aload_n 0, 1) := dk_42 (dk_at dksX3_plan_3 16 rfl rfl)
theorem dX3_plan_88 : decode cX3_plan 88 = .ok (.getfield 38, 3) := dk_180 0 38 (dk_at dksX3_plan_3 17 rfl rfl)
theorem dX3_plan_91 : decode cX3_plan 91 = .ok (.iload 6, 2) := dk_21 6 (dk_at dksX3_plan_3 20 rfl rfl)
theorem dX3_plan_93 : decode cX3_plan 93 = .ok (.iaload, 1) := dk_46 (dk_at dksX3_plan_3 22 rfl rfl)
theorem dX3_plan_94 : decode cX3_plan 94 = .ok (.bipush 32, 2) := dk_16 32 (dk_at dksX3_plan_4 0 rfl rfl)
theorem dX3_plan_96 : decode cX3_plan 96 = .ok (.if_icmp .eq 102, 3) := dk_159 0 102 (dk_at dksX3_plan_4 2 rfl rfl)
theorem dX3_plan_99 : decode cX3_plan 99 = .ok (.aload_n 0, 1) := dk_42 (dk_at dksX3_plan_4 5 rfl rfl)
theorem dX3_plan_100 : decode cX3_plan 100 = .ok (.getfield 38, 3) := dk_180 0 38 (dk_at dksX3_plan_4 6 rfl rfl)
theorem dX3_plan_103 : decode cX3_plan 103 = .ok (.iload 6, 2) := dk_21 6 (dk_at dksX3_plan_4 9 rfl rfl)
theorem dX3_plan_105 : decode cX3_plan 105 = .ok (.iaload, 1) := dk_46 (dk_at dksX3_plan_4 11 rfl rfl)
theorem dX3_plan_106 : decode cX3_plan 106 = .ok (.bipush 10, 2) := dk_16 10 (dk_at dksX3_plan_4 12 rfl rfl)
theorem dX3_plan_108 : decode cX3_plan 108 = .ok (.if_icmp .ne 6, 3) := dk_160 0 6 (dk_at dksX3_plan_4 14 rfl rfl)
theorem dX3_plan_111 : decode cX3_plan 111 = .ok (.goto 87, 3) := dk_167 0 87 (dk_at dksX3_plan_4 17 rfl rfl)
theorem dX3_plan_114 : decode cX3_plan 114 = .ok (.aload_n 0, 1) := dk_42 (dk_at dksX3_plan_4 20 rfl rfl)
theorem dX3_plan_115 : decode cX3_plan 115 = .ok (.aload_n 0, 1) := dk_42 (dk_at dksX3_plan_4 21 rfl rfl)
theorem dX3_plan_116 : decode cX3_plan 116 = .ok (.getfield 38, 3) := dk_180 0 38 (dk_at dksX3_plan_5 0 rfl rfl)
theorem dX3_plan_119 : decode cX3_plan 119 = .ok (.iload 6, 2) := dk_21 6 (dk_at dksX3_plan_5 3 rfl rfl)
theorem dX3_plan_121 : decode cX3_plan 121 = .ok (.iaload, 1) := dk_46 (dk_at dksX3_plan_5 5 rfl rfl)
theorem dX3_plan_122 : decode cX3_plan 122 = .ok (.invokevirtual 162, 3) := dk_182 0 162 (dk_at dksX3_plan_5 6 rfl rfl)
theorem dX3_plan_125 : decode cX3_plan 125 = .ok (.istore 7, 2) := dk_54 7 (dk_at dksX3_plan_5 9 rfl rfl)
theorem dX3_plan_127 : decode cX3_plan 127 = .ok (.iload 7, 2) := dk_21 7 (dk_at dksX3_plan_5 11 rfl rfl)
theorem dX3_plan_129 : decode cX3_plan 129 = .ok (.iconst (-1), 1) := dk_2 (dk_at dksX3_plan_5 13 rfl rfl)
theorem dX3_plan_130 : decode cX3_plan 130 = .ok (.if_icmp .ne 7, 3) := dk_160 0 7 (dk_at dksX3_plan_5 14 rfl rfl)
theorem dX3_plan_133 : decode cX3_plan 133 = .ok (.iconst (-1), 1) := dk_2 (dk_at dksX3_plan_5 17 rfl rfl)
theorem dX3_plan_134 : decode cX3_plan 134 = .ok (.goto 11, 3) := dk_167 0 11 (dk_at dksX3_plan_5 18 rfl rfl)
theorem dX3_plan_137 : decode cX3_plan 137 = .ok (.aload_n 0, 1) := dk_42 (dk_at dksX3_plan_5 21 rfl rfl)
theorem dX3_plan_138 : decode cX3_plan 138 = .ok (.iload 5, 2) := dk_21 5 (dk_at dksX3_plan_5 22 rfl rfl)
theorem dX3_plan_140 : decode cX3_plan 140 = .ok (.iload 7, 2) := dk_21 7 (dk_at dksX3_plan_6 0 rfl rfl)
theorem dX3_plan_142 : decode cX3_plan 142 = .ok (.invokevirtual 165, 3) := dk_182 0 165 (dk_at dksX3_plan_6 2 rfl rfl)
theorem dX3_plan_145 : decode cX3_plan 145 = .ok (.istore 8, 2) := dk_54 8 (dk_at dksX3_plan_6 5 rfl rfl)
theorem dX3_plan_147 : decode cX3_plan 147 = .ok (.iload 8, 2) := dk_21 8 (dk_at dksX3_plan_6 7 rfl rfl)
theorem dX3_plan_149 : decode cX3_plan 149 = .ok (.iconst (-1), 1) := dk_2 (dk_at dksX3_plan_6 9 rfl rfl)
theorem dX3_plan_150 : decode cX3_plan 150 = .ok (.if_icmp .ne 23, 3) := dk_160 0 23 (dk_at dksX3_plan_6 10 rfl rfl)
theorem dX3_plan_153 : decode cX3_plan 153 = .ok (.aload_n 0, 1) := dk_42 (dk_at dksX3_plan_6 13 rfl rfl)
theorem dX3_plan_154 : decode cX3_plan 154 = .ok (.iload 6, 2) := dk_21 6 (dk_at dksX3_plan_6 14 rfl rfl)
theorem dX3_plan_156 : decode cX3_plan 156 = .ok (.putfield 25, 3) := dk_181 0 25 (dk_at dksX3_plan_6 16 rfl rfl)
theorem dX3_plan_159 : decode cX3_plan 159 = .ok (.iload 7, 2) := dk_21 7 (dk_at dksX3_plan_6 19 rfl rfl)
theorem dX3_plan_161 : decode cX3_plan 161 = .ok (.iconst (-1), 1) := dk_2 (dk_at dksX3_plan_6 21 rfl rfl)
theorem dX3_plan_162 : decode cX3_plan 162 = .ok (.if_icmp .ne 8, 3) := dk_160 0 8 (dk_at dksX3_plan_7 0 rfl rfl)
theorem dX3_plan_165 : decode cX3_plan 165 = .ok (.bipush (-2), 2) := dk_16 254 (dk_at dksX3_plan_7 3 rfl rfl)
theorem dX3_plan_167 : decode cX3_plan 167 = .ok (.goto 5, 3) := dk_167 0 5 (dk_at dksX3_plan_7 5 rfl rfl)
theorem dX3_plan_170 : decode cX3_plan 170 = .ok (.bipush (-3), 2) := dk_16 253 (dk_at dksX3_plan_7 8 rfl rfl)
theorem dX3_plan_172 : decode cX3_plan 172 = .ok (.ireturn, 1) := dk_172 (dk_at dksX3_plan_7 10 rfl rfl)
theorem dX3_plan_173 : decode cX3_plan 173 = .ok (.aload_n 0, 1) := dk_42 (dk_at dksX3_plan_7 11 rfl rfl)
theorem dX3_plan_174 : decode cX3_plan 174 = .ok (.getfield 60, 3) := dk_180 0 60 (dk_at dksX3_plan_7 12 rfl rfl)
theorem dX3_plan_177 : decode cX3_plan 177 = .ok (.sipush 400, 3) := dk_17 1 144 (dk_at dksX3_plan_7 15 rfl rfl)
theorem dX3_plan_180 : decode cX3_plan 180 = .ok (.aload_n 0, 1) := dk_42 (dk_at dksX3_plan_7 18 rfl rfl)
theorem dX3_plan_181 : decode cX3_plan 181 = .ok (.getfield 107, 3) := dk_180 0 107 (dk_at dksX3_plan_7 19 rfl rfl)
theorem dX3_plan_184 : decode cX3_plan 184 = .ok (.imul, 1) := dk_104 (dk_at dksX3_plan_7 22 rfl rfl)
theorem dX3_plan_185 : decode cX3_plan 185 = .ok (.iload 4, 2) := dk_21 4 (dk_at dksX3_plan_8 0 rfl rfl)
theorem dX3_plan_187 : decode cX3_plan 187 = .ok (.iadd, 1) := dk_96 (dk_at dksX3_plan_8 2 rfl rfl)
theorem dX3_plan_188 : decode cX3_plan 188 = .ok (.iload 7, 2) := dk_21 7 (dk_at dksX3_plan_8 3 rfl rfl)
theorem dX3_plan_190 : decode cX3_plan 190 = .ok (.iastore, 1) := dk_79 (dk_at dksX3_plan_8 5 rfl rfl)
theorem dX3_plan_191 : decode cX3_plan 191 = .ok (.iinc 4 1, 3) := dk_132 4 1 (dk_at dksX3_plan_8 6 rfl rfl)
theorem dX3_plan_194 : decode cX3_plan 194 = .ok (.iload 8, 2) := dk_21 8 (dk_at dksX3_plan_8 9 rfl rfl)
theorem dX3_plan_196 : decode cX3_plan 196 = .ok (.istore 5, 2) := dk_54 5 (dk_at dksX3_plan_8 11 rfl rfl)
theorem dX3_plan_198 : decode cX3_plan 198 = .ok (.iinc 6 1, 3) := dk_132 6 1 (dk_at dksX3_plan_8 13 rfl rfl)
theorem dX3_plan_201 : decode cX3_plan 201 = .ok (.goto (-120), 3) := dk_167 255 136 (dk_at dksX3_plan_8 16 rfl rfl)
theorem dX3_plan_204 : decode cX3_plan 204 = .ok (.aload_n 0, 1) := dk_42 (dk_at dksX3_plan_8 19 rfl rfl)
theorem dX3_plan_205 : decode cX3_plan 205 = .ok (.getfield 54, 3) := dk_180 0 54 (dk_at dksX3_plan_8 20 rfl rfl)
theorem dX3_plan_208 : decode cX3_plan 208 = .ok (.aload_n 0, 1) := dk_42 (dk_at dksX3_plan_8 23 rfl rfl)
theorem dX3_plan_209 : decode cX3_plan 209 = .ok (.getfield 107, 3) := dk_180 0 107 (dk_at dksX3_plan_9 0 rfl rfl)
theorem dX3_plan_212 : decode cX3_plan 212 = .ok (.iload 4, 2) := dk_21 4 (dk_at dksX3_plan_9 3 rfl rfl)
theorem dX3_plan_214 : decode cX3_plan 214 = .ok (.iastore, 1) := dk_79 (dk_at dksX3_plan_9 5 rfl rfl)
theorem dX3_plan_215 : decode cX3_plan 215 = .ok (.aload_n 0, 1) := dk_42 (dk_at dksX3_plan_9 6 rfl rfl)
theorem dX3_plan_216 : decode cX3_plan 216 = .ok (.getfield 57, 3) := dk_180 0 57 (dk_at dksX3_plan_9 7 rfl rfl)
theorem dX3_plan_219 : decode cX3_plan 219 = .ok (.aload_n 0, 1) := dk_42 (dk_at dksX3_plan_9 10 rfl rfl)
theorem dX3_plan_220 : decode cX3_plan 220 = .ok (.getfield 107, 3) := dk_180 0 107 (dk_at dksX3_plan_9 11 rfl rfl)
theorem dX3_plan_223 : decode cX3_plan 223 = .ok (.iload_n 2, 1) := dk_28 (dk_at dksX3_plan_9 14 rfl rfl)
theorem dX3_plan_224 : decode cX3_plan 224 = .ok (.iload_n 3, 1) := dk_29 (dk_at dksX3_plan_9 15 rfl rfl)
theorem dX3_plan_225 : decode cX3_plan 225 = .ok (.iconst 0, 1) := dk_3 (dk_at dksX3_plan_9 16 rfl rfl)
theorem dX3_plan_226 : decode cX3_plan 226 = .ok (.invokestatic 158, 3) := dk_184 0 158 (dk_at dksX3_plan_9 17 rfl rfl)
theorem dX3_plan_229 : decode cX3_plan 229 = .ok (.iastore, 1) := dk_79 (dk_at dksX3_plan_9 20 rfl rfl)
theorem dX3_plan_230 : decode cX3_plan 230 = .ok (.aload_n 0, 1) := dk_42 (dk_at dksX3_plan_9 21 rfl rfl)
theorem dX3_plan_231 : decode cX3_plan 231 = .ok (.dup, 1) := dk_89 (dk_at dksX3_plan_9 22 rfl rfl)
theorem dX3_plan_232 : decode cX3_plan 232 = .ok (.getfield 107, 3) := dk_180 0 107 (dk_at dksX3_plan_10 0 rfl rfl)
theorem dX3_plan_235 : decode cX3_plan 235 = .ok (.iconst 1, 1) := dk_4 (dk_at dksX3_plan_10 3 rfl rfl)
theorem dX3_plan_236 : decode cX3_plan 236 = .ok (.iadd, 1) := dk_96 (dk_at dksX3_plan_10 4 rfl rfl)
theorem dX3_plan_237 : decode cX3_plan 237 = .ok (.putfield 107, 3) := dk_181 0 107 (dk_at dksX3_plan_10 5 rfl rfl)
theorem dX3_plan_240 : decode cX3_plan 240 = .ok (.aload_n 0, 1) := dk_42 (dk_at dksX3_plan_10 8 rfl rfl)
theorem dX3_plan_241 : decode cX3_plan 241 = .ok (.getfield 107, 3) := dk_180 0 107 (dk_at dksX3_plan_10 9 rfl rfl)
theorem dX3_plan_244 : decode cX3_plan 244 = .ok (.iconst 1, 1) := dk_4 (dk_at dksX3_plan_10 12 rfl rfl)
theorem dX3_plan_245 : decode cX3_plan 245 = .ok (.isub, 1) := dk_100 (dk_at dksX3_plan_10 13 rfl rfl)
theorem dX3_plan_246 : decode cX3_plan 246 = .ok (.ireturn, 1) := dk_172 (dk_at dksX3_plan_10 14 rfl rfl)
abbrev cX3_place : ByteArray := prog_6_method_19_code
def yX3_place : MethodName := ⟨RX3, "place", "(III)I"⟩
def dkwX3_place_0 : List UInt8 := [5, 16, 6, 26, 104, 27, 96, 104, 28, 96, 172]
abbrev dktX3_place_0 : List UInt8 := dkwX3_place_0 ++ []
theorem dksX3_place_0 : cX3_place.data.toList.drop 0 = dktX3_place_0 := by decide +kernel
theorem dX3_place_0 : decode cX3_place 0 = .ok (.iconst 2, 1) := dk_5 (dk_at dksX3_place_0 0 rfl rfl)
theorem dX3_place_1 : decode cX3_place 1 = .ok (.bipush 6, 2) := dk_16 6 (dk_at dksX3_place_0 1 rfl rfl)
theorem dX3_place_3 : decode cX3_place 3 = .ok (.iload_n 0, 1) := dk_26 (dk_at dksX3_place_0 3 rfl rfl)
theorem dX3_place_4 : decode cX3_place 4 = .ok (.imul, 1) := dk_104 (dk_at dksX3_place_0 4 rfl rfl)
theorem dX3_place_5 : decode cX3_place 5 = .ok (.iload_n 1, 1) := dk_27 (dk_at dksX3_place_0 5 rfl rfl)
theorem dX3_place_6 : decode cX3_place 6 = .ok (.iadd, 1) := dk_96 (dk_at dksX3_place_0 6 rfl rfl)
theorem dX3_place_7 : decode cX3_place 7 = .ok (.imul, 1) := dk_104 (dk_at dksX3_place_0 7 rfl rfl)
theorem dX3_place_8 : decode cX3_place 8 = .ok (.iload_n 2, 1) := dk_28 (dk_at dksX3_place_0 8 rfl rfl)
theorem dX3_place_9 : decode cX3_place 9 = .ok (.iadd, 1) := dk_96 (dk_at dksX3_place_0 9 rfl rfl)
theorem dX3_place_10 : decode cX3_place 10 = .ok (.ireturn, 1) := dk_172 (dk_at dksX3_place_0 10 rfl rfl)
abbrev cX3_signOf : ByteArray := prog_6_method_27_code
def yX3_signOf : MethodName := ⟨RX3, "signOf", "(I)I"⟩
def dkwX3_signOf_1 : List UInt8 := [167, 255, 235, 2, 172]
abbrev dktX3_signOf_1 : List UInt8 := dkwX3_signOf_1 ++ []
def dkwX3_signOf_0 : List UInt8 := [3, 61, 28, 16, 8, 162, 0, 21, 18, 9, 28, 182, 0, 152, 27, 160, 0, 5, 28, 172, 132, 2, 1]
abbrev dktX3_signOf_0 : List UInt8 := dkwX3_signOf_0 ++ dktX3_signOf_1
theorem dksX3_signOf_0 : cX3_signOf.data.toList.drop 0 = dktX3_signOf_0 := by decide +kernel
theorem dksX3_signOf_1 : cX3_signOf.data.toList.drop 23 = dktX3_signOf_1 := dk_seg dksX3_signOf_0 23 rfl rfl
theorem dX3_signOf_0 : decode cX3_signOf 0 = .ok (.iconst 0, 1) := dk_3 (dk_at dksX3_signOf_0 0 rfl rfl)
theorem dX3_signOf_1 : decode cX3_signOf 1 = .ok (.istore_n 2, 1) := dk_61 (dk_at dksX3_signOf_0 1 rfl rfl)
theorem dX3_signOf_2 : decode cX3_signOf 2 = .ok (.iload_n 2, 1) := dk_28 (dk_at dksX3_signOf_0 2 rfl rfl)
theorem dX3_signOf_3 : decode cX3_signOf 3 = .ok (.bipush 8, 2) := dk_16 8 (dk_at dksX3_signOf_0 3 rfl rfl)
theorem dX3_signOf_5 : decode cX3_signOf 5 = .ok (.if_icmp .ge 21, 3) := dk_162 0 21 (dk_at dksX3_signOf_0 5 rfl rfl)
theorem dX3_signOf_8 : decode cX3_signOf 8 = .ok (.ldc 9, 2) := dk_18 9 (dk_at dksX3_signOf_0 8 rfl rfl)
theorem dX3_signOf_10 : decode cX3_signOf 10 = .ok (.iload_n 2, 1) := dk_28 (dk_at dksX3_signOf_0 10 rfl rfl)
theorem dX3_signOf_11 : decode cX3_signOf 11 = .ok (.invokevirtual 152, 3) := dk_182 0 152 (dk_at dksX3_signOf_0 11 rfl rfl)
theorem dX3_signOf_14 : decode cX3_signOf 14 = .ok (.iload_n 1, 1) := dk_27 (dk_at dksX3_signOf_0 14 rfl rfl)
theorem dX3_signOf_15 : decode cX3_signOf 15 = .ok (.if_icmp .ne 5, 3) := dk_160 0 5 (dk_at dksX3_signOf_0 15 rfl rfl)
theorem dX3_signOf_18 : decode cX3_signOf 18 = .ok (.iload_n 2, 1) := dk_28 (dk_at dksX3_signOf_0 18 rfl rfl)
theorem dX3_signOf_19 : decode cX3_signOf 19 = .ok (.ireturn, 1) := dk_172 (dk_at dksX3_signOf_0 19 rfl rfl)
theorem dX3_signOf_20 : decode cX3_signOf 20 = .ok (.iinc 2 1, 3) := dk_132 2 1 (dk_at dksX3_signOf_0 20 rfl rfl)
theorem dX3_signOf_23 : decode cX3_signOf 23 = .ok (.goto (-21), 3) := dk_167 255 235 (dk_at dksX3_signOf_1 0 rfl rfl)
theorem dX3_signOf_26 : decode cX3_signOf 26 = .ok (.iconst (-1), 1) := dk_2 (dk_at dksX3_signOf_1 3 rfl rfl)
theorem dX3_signOf_27 : decode cX3_signOf 27 = .ok (.ireturn, 1) := dk_172 (dk_at dksX3_signOf_1 4 rfl rfl)
abbrev cX3_moved : ByteArray := prog_6_method_23_code
def yX3_moved : MethodName := ⟨RX3, "moved", "(II)I"⟩
def dkwX3_moved_11 : List UInt8 := [167, 0, 4, 2, 172]
abbrev dktX3_moved_11 : List UInt8 := dkwX3_moved_11 ++ []
def dkwX3_moved_10 : List UInt8 := [154, 0, 25, 42, 180, 0, 35, 29, 46, 4, 160, 0, 15, 21, 4, 158, 0, 10, 27, 16, 12, 100]
abbrev dktX3_moved_10 : List UInt8 := dkwX3_moved_10 ++ dktX3_moved_11
def dkwX3_moved_9 : List UInt8 := [21, 4, 4, 96, 42, 180, 0, 15, 162, 0, 10, 27, 16, 12, 96, 167, 0, 4, 2, 172, 21, 5]
abbrev dktX3_moved_9 : List UInt8 := dkwX3_moved_9 ++ dktX3_moved_10
def dkwX3_moved_8 : List UInt8 := [160, 0, 7, 27, 167, 0, 4, 2, 172, 21, 5, 154, 0, 31, 42, 180, 0, 35, 29, 46, 4, 160, 0, 21]
abbrev dktX3_moved_8 : List UInt8 := dkwX3_moved_8 ++ dktX3_moved_9
def dkwX3_moved_7 : List UInt8 := [6, 160, 0, 9, 27, 5, 100, 167, 0, 4, 2, 172, 21, 5, 154, 0, 17, 42, 180, 0, 35, 29, 46, 5]
abbrev dktX3_moved_7 : List UInt8 := dkwX3_moved_7 ++ dktX3_moved_8
def dkwX3_moved_6 : List UInt8 := [5, 96, 167, 0, 4, 2, 172, 21, 5, 154, 0, 25, 29, 158, 0, 21, 42, 180, 0, 35, 29, 4, 100, 46]
abbrev dktX3_moved_6 : List UInt8 := dkwX3_moved_6 ++ dktX3_moved_7
def dkwX3_moved_5 : List UInt8 := [154, 0, 29, 29, 4, 96, 42, 180, 0, 19, 162, 0, 19, 42, 180, 0, 35, 29, 46, 6, 160, 0, 9, 27]
abbrev dktX3_moved_5 : List UInt8 := dkwX3_moved_5 ++ dktX3_moved_6
def dkwX3_moved_4 : List UInt8 := [167, 0, 4, 2, 172, 21, 5, 153, 0, 13, 29, 158, 0, 9, 27, 5, 100, 167, 0, 4, 2, 172, 21, 5]
abbrev dktX3_moved_4 : List UInt8 := dkwX3_moved_4 ++ dktX3_moved_5
def dkwX3_moved_3 : List UInt8 := [27, 4, 130, 172, 21, 5, 153, 0, 19, 29, 4, 96, 42, 180, 0, 19, 162, 0, 9, 27, 5, 96]
abbrev dktX3_moved_3 : List UInt8 := dkwX3_moved_3 ++ dktX3_moved_4
def dkwX3_moved_2 : List UInt8 := [170, 0, 0, 0, 203, 0, 0, 0, 0, 0, 0, 0, 6, 0, 0, 0, 41, 0, 0, 0, 45, 0, 0, 0, 68, 0, 0, 0, 85, 0, 0, 0, 118, 0, 0, 0, 147, 0, 0, 0, 168]
abbrev dktX3_moved_2 : List UInt8 := dkwX3_moved_2 ++ dktX3_moved_3
def dkwX3_moved_1 : List UInt8 := [54, 5, 28]
abbrev dktX3_moved_1 : List UInt8 := dkwX3_moved_1 ++ dktX3_moved_2
def dkwX3_moved_0 : List UInt8 := [27, 184, 0, 140, 62, 27, 184, 0, 143, 54, 4, 27, 184, 0, 146, 4, 160, 0, 7, 4, 167, 0, 4, 3]
abbrev dktX3_moved_0 : List UInt8 := dkwX3_moved_0 ++ dktX3_moved_1
theorem dksX3_moved_0 : cX3_moved.data.toList.drop 0 = dktX3_moved_0 := by decide +kernel
theorem dksX3_moved_1 : cX3_moved.data.toList.drop 24 = dktX3_moved_1 := dk_seg dksX3_moved_0 24 rfl rfl
theorem dksX3_moved_2 : cX3_moved.data.toList.drop 27 = dktX3_moved_2 := dk_seg dksX3_moved_1 3 rfl rfl
theorem dksX3_moved_3 : cX3_moved.data.toList.drop 68 = dktX3_moved_3 := dk_seg dksX3_moved_2 41 rfl rfl
theorem dksX3_moved_4 : cX3_moved.data.toList.drop 90 = dktX3_moved_4 := dk_seg dksX3_moved_3 22 rfl rfl
theorem dksX3_moved_5 : cX3_moved.data.toList.drop 114 = dktX3_moved_5 := dk_seg dksX3_moved_4 24 rfl rfl
theorem dksX3_moved_6 : cX3_moved.data.toList.drop 138 = dktX3_moved_6 := dk_seg dksX3_moved_5 24 rfl rfl
theorem dksX3_moved_7 : cX3_moved.data.toList.drop 162 = dktX3_moved_7 := dk_seg dksX3_moved_6 24 rfl rfl
theorem dksX3_moved_8 : cX3_moved.data.toList.drop 186 = dktX3_moved_8 := dk_seg dksX3_moved_7 24 rfl rfl
theorem dksX3_moved_9 : cX3_moved.data.toList.drop 210 = dktX3_moved_9 := dk_seg dksX3_moved_8 24 rfl rfl
theorem dksX3_moved_10 : cX3_moved.data.toList.drop 232 = dktX3_moved_10 := dk_seg dksX3_moved_9 22 rfl rfl
theorem dksX3_moved_11 : cX3_moved.data.toList.drop 254 = dktX3_moved_11 := dk_seg dksX3_moved_10 22 rfl rfl
theorem dX3_moved_0 : decode cX3_moved 0 = .ok (.iload_n 1, 1) := dk_27 (dk_at dksX3_moved_0 0 rfl rfl)
theorem dX3_moved_1 : decode cX3_moved 1 = .ok (.invokestatic 140, 3) := dk_184 0 140 (dk_at dksX3_moved_0 1 rfl rfl)
theorem dX3_moved_4 : decode cX3_moved 4 = .ok (.istore_n 3, 1) := dk_62 (dk_at dksX3_moved_0 4 rfl rfl)
theorem dX3_moved_5 : decode cX3_moved 5 = .ok (.iload_n 1, 1) := dk_27 (dk_at dksX3_moved_0 5 rfl rfl)
theorem dX3_moved_6 : decode cX3_moved 6 = .ok (.invokestatic 143, 3) := dk_184 0 143 (dk_at dksX3_moved_0 6 rfl rfl)
theorem dX3_moved_9 : decode cX3_moved 9 = .ok (.istore 4, 2) := dk_54 4 (dk_at dksX3_moved_0 9 rfl rfl)
theorem dX3_moved_11 : decode cX3_moved 11 = .ok (.iload_n 1, 1) := dk_27 (dk_at dksX3_moved_0 11 rfl rfl)
theorem dX3_moved_12 : decode cX3_moved 12 = .ok (.invokestatic 146, 3) := dk_184 0 146 (dk_at dksX3_moved_0 12 rfl rfl)
theorem dX3_moved_15 : decode cX3_moved 15 = .ok (.iconst 1, 1) := dk_4 (dk_at dksX3_moved_0 15 rfl rfl)
theorem dX3_moved_16 : decode cX3_moved 16 = .ok (.if_icmp .ne 7, 3) := dk_160 0 7 (dk_at dksX3_moved_0 16 rfl rfl)
theorem dX3_moved_19 : decode cX3_moved 19 = .ok (.iconst 1, 1) := dk_4 (dk_at dksX3_moved_0 19 rfl rfl)
theorem dX3_moved_20 : decode cX3_moved 20 = .ok (.goto 4, 3) := dk_167 0 4 (dk_at dksX3_moved_0 20 rfl rfl)
theorem dX3_moved_23 : decode cX3_moved 23 = .ok (.iconst 0, 1) := dk_3 (dk_at dksX3_moved_0 23 rfl rfl)
theorem dX3_moved_24 : decode cX3_moved 24 = .ok (.istore 5, 2) := dk_54 5 (dk_at dksX3_moved_1 0 rfl rfl)
theorem dX3_moved_26 : decode cX3_moved 26 = .ok (.iload_n 2, 1) := dk_28 (dk_at dksX3_moved_1 2 rfl rfl)
theorem dX3_moved_27 : decode cX3_moved 27 = .ok (.tableswitch 203 0 6 #[41, 45, 68, 85, 118, 147, 168], 41) := by decide +kernel
theorem dX3_moved_68 : decode cX3_moved 68 = .ok (.iload_n 1, 1) := dk_27 (dk_at dksX3_moved_3 0 rfl rfl)
theorem dX3_moved_69 : decode cX3_moved 69 = .ok (.iconst 1, 1) := dk_4 (dk_at dksX3_moved_3 1 rfl rfl)
theorem dX3_moved_70 : decode cX3_moved 70 = .ok (.ixor, 1) := dk_130 (dk_at dksX3_moved_3 2 rfl rfl)
theorem dX3_moved_71 : decode cX3_moved 71 = .ok (.ireturn, 1) := dk_172 (dk_at dksX3_moved_3 3 rfl rfl)
theorem dX3_moved_72 : decode cX3_moved 72 = .ok (.iload 5, 2) := dk_21 5 (dk_at dksX3_moved_3 4 rfl rfl)
theorem dX3_moved_74 : decode cX3_moved 74 = .ok (.ifCond .eq 19, 3) := dk_153 0 19 (dk_at dksX3_moved_3 6 rfl rfl)
theorem dX3_moved_77 : decode cX3_moved 77 = .ok (.iload_n 3, 1) := dk_29 (dk_at dksX3_moved_3 9 rfl rfl)
theorem dX3_moved_78 : decode cX3_moved 78 = .ok (.iconst 1, 1) := dk_4 (dk_at dksX3_moved_3 10 rfl rfl)
theorem dX3_moved_79 : decode cX3_moved 79 = .ok (.iadd, 1) := dk_96 (dk_at dksX3_moved_3 11 rfl rfl)
theorem dX3_moved_80 : decode cX3_moved 80 = .ok (.aload_n 0, 1) := dk_42 (dk_at dksX3_moved_3 12 rfl rfl)
theorem dX3_moved_81 : decode cX3_moved 81 = .ok (.getfield 19, 3) := dk_180 0 19 (dk_at dksX3_moved_3 13 rfl rfl)
theorem dX3_moved_84 : decode cX3_moved 84 = .ok (.if_icmp .ge 9, 3) := dk_162 0 9 (dk_at dksX3_moved_3 16 rfl rfl)
theorem dX3_moved_87 : decode cX3_moved 87 = .ok (.iload_n 1, 1) := dk_27 (dk_at dksX3_moved_3 19 rfl rfl)
theorem dX3_moved_88 : decode cX3_moved 88 = .ok (.iconst 2, 1) := dk_5 (dk_at dksX3_moved_3 20 rfl rfl)
theorem dX3_moved_89 : decode cX3_moved 89 = .ok (.iadd, 1) := dk_96 (dk_at dksX3_moved_3 21 rfl rfl)
theorem dX3_moved_90 : decode cX3_moved 90 = .ok (.goto 4, 3) := dk_167 0 4 (dk_at dksX3_moved_4 0 rfl rfl)
theorem dX3_moved_93 : decode cX3_moved 93 = .ok (.iconst (-1), 1) := dk_2 (dk_at dksX3_moved_4 3 rfl rfl)
theorem dX3_moved_94 : decode cX3_moved 94 = .ok (.ireturn, 1) := dk_172 (dk_at dksX3_moved_4 4 rfl rfl)
theorem dX3_moved_95 : decode cX3_moved 95 = .ok (.iload 5, 2) := dk_21 5 (dk_at dksX3_moved_4 5 rfl rfl)
theorem dX3_moved_97 : decode cX3_moved 97 = .ok (.ifCond .eq 13, 3) := dk_153 0 13 (dk_at dksX3_moved_4 7 rfl rfl)
theorem dX3_moved_100 : decode cX3_moved 100 = .ok (.iload_n 3, 1) := dk_29 (dk_at dksX3_moved_4 10 rfl rfl)
theorem dX3_moved_101 : decode cX3_moved 101 = .ok (.ifCond .le 9, 3) := dk_158 0 9 (dk_at dksX3_moved_4 11 rfl rfl)
theorem dX3_moved_104 : decode cX3_moved 104 = .ok (.iload_n 1, 1) := dk_27 (dk_at dksX3_moved_4 14 rfl rfl)
theorem dX3_moved_105 : decode cX3_moved 105 = .ok (.iconst 2, 1) := dk_5 (dk_at dksX3_moved_4 15 rfl rfl)
theorem dX3_moved_106 : decode cX3_moved 106 = .ok (.isub, 1) := dk_100 (dk_at dksX3_moved_4 16 rfl rfl)
theorem dX3_moved_107 : decode cX3_moved 107 = .ok (.goto 4, 3) := dk_167 0 4 (dk_at dksX3_moved_4 17 rfl rfl)
theorem dX3_moved_110 : decode cX3_moved 110 = .ok (.iconst (-1), 1) := dk_2 (dk_at dksX3_moved_4 20 rfl rfl)
theorem dX3_moved_111 : decode cX3_moved 111 = .ok (.ireturn, 1) := dk_172 (dk_at dksX3_moved_4 21 rfl rfl)
theorem dX3_moved_112 : decode cX3_moved 112 = .ok (.iload 5, 2) := dk_21 5 (dk_at dksX3_moved_4 22 rfl rfl)
theorem dX3_moved_114 : decode cX3_moved 114 = .ok (.ifCond .ne 29, 3) := dk_154 0 29 (dk_at dksX3_moved_5 0 rfl rfl)
theorem dX3_moved_117 : decode cX3_moved 117 = .ok (.iload_n 3, 1) := dk_29 (dk_at dksX3_moved_5 3 rfl rfl)
theorem dX3_moved_118 : decode cX3_moved 118 = .ok (.iconst 1, 1) := dk_4 (dk_at dksX3_moved_5 4 rfl rfl)
theorem dX3_moved_119 : decode cX3_moved 119 = .ok (.iadd, 1) := dk_96 (dk_at dksX3_moved_5 5 rfl rfl)
theorem dX3_moved_120 : decode cX3_moved 120 = .ok (.aload_n 0, 1) := dk_42 (dk_at dksX3_moved_5 6 rfl rfl)
theorem dX3_moved_121 : decode cX3_moved 121 = .ok (.getfield 19, 3) := dk_180 0 19 (dk_at dksX3_moved_5 7 rfl rfl)
theorem dX3_moved_124 : decode cX3_moved 124 = .ok (.if_icmp .ge 19, 3) := dk_162 0 19 (dk_at dksX3_moved_5 10 rfl rfl)
theorem dX3_moved_127 : decode cX3_moved 127 = .ok (.aload_n 0, 1) := dk_42 (dk_at dksX3_moved_5 13 rfl rfl)
theorem dX3_moved_128 : decode cX3_moved 128 = .ok (.getfield 35, 3) := dk_180 0 35 (dk_at dksX3_moved_5 14 rfl rfl)
theorem dX3_moved_131 : decode cX3_moved 131 = .ok (.iload_n 3, 1) := dk_29 (dk_at dksX3_moved_5 17 rfl rfl)
theorem dX3_moved_132 : decode cX3_moved 132 = .ok (.iaload, 1) := dk_46 (dk_at dksX3_moved_5 18 rfl rfl)
theorem dX3_moved_133 : decode cX3_moved 133 = .ok (.iconst 3, 1) := dk_6 (dk_at dksX3_moved_5 19 rfl rfl)
theorem dX3_moved_134 : decode cX3_moved 134 = .ok (.if_icmp .ne 9, 3) := dk_160 0 9 (dk_at dksX3_moved_5 20 rfl rfl)
theorem dX3_moved_137 : decode cX3_moved 137 = .ok (.iload_n 1, 1) := dk_27 (dk_at dksX3_moved_5 23 rfl rfl)
theorem dX3_moved_138 : decode cX3_moved 138 = .ok (.iconst 2, 1) := dk_5 (dk_at dksX3_moved_6 0 rfl rfl)
theorem dX3_moved_139 : decode cX3_moved 139 = .ok (.iadd, 1) := dk_96 (dk_at dksX3_moved_6 1 rfl rfl)
theorem dX3_moved_140 : decode cX3_moved 140 = .ok (.goto 4, 3) := dk_167 0 4 (dk_at dksX3_moved_6 2 rfl rfl)
theorem dX3_moved_143 : decode cX3_moved 143 = .ok (.iconst (-1), 1) := dk_2 (dk_at dksX3_moved_6 5 rfl rfl)
theorem dX3_moved_144 : decode cX3_moved 144 = .ok (.ireturn, 1) := dk_172 (dk_at dksX3_moved_6 6 rfl rfl)
theorem dX3_moved_145 : decode cX3_moved 145 = .ok (.iload 5, 2) := dk_21 5 (dk_at dksX3_moved_6 7 rfl rfl)
theorem dX3_moved_147 : decode cX3_moved 147 = .ok (.ifCond .ne 25, 3) := dk_154 0 25 (dk_at dksX3_moved_6 9 rfl rfl)
theorem dX3_moved_150 : decode cX3_moved 150 = .ok (.iload_n 3, 1) := dk_29 (dk_at dksX3_moved_6 12 rfl rfl)
theorem dX3_moved_151 : decode cX3_moved 151 = .ok (.ifCond .le 21, 3) := dk_158 0 21 (dk_at dksX3_moved_6 13 rfl rfl)
theorem dX3_moved_154 : decode cX3_moved 154 = .ok (.aload_n 0, 1) := dk_42 (dk_at dksX3_moved_6 16 rfl rfl)
theorem dX3_moved_155 : decode cX3_moved 155 = .ok (.getfield 35, 3) := dk_180 0 35 (dk_at dksX3_moved_6 17 rfl rfl)
theorem dX3_moved_158 : decode cX3_moved 158 = .ok (.iload_n 3, 1) := dk_29 (dk_at dksX3_moved_6 20 rfl rfl)
theorem dX3_moved_159 : decode cX3_moved 159 = .ok (.iconst 1, 1) := dk_4 (dk_at dksX3_moved_6 21 rfl rfl)
theorem dX3_moved_160 : decode cX3_moved 160 = .ok (.isub, 1) := dk_100 (dk_at dksX3_moved_6 22 rfl rfl)
theorem dX3_moved_161 : decode cX3_moved 161 = .ok (.iaload, 1) := dk_46 (dk_at dksX3_moved_6 23 rfl rfl)
theorem dX3_moved_162 : decode cX3_moved 162 = .ok (.iconst 3, 1) := dk_6 (dk_at dksX3_moved_7 0 rfl rfl)
theorem dX3_moved_163 : decode cX3_moved 163 = .ok (.if_icmp .ne 9, 3) := dk_160 0 9 (dk_at dksX3_moved_7 1 rfl rfl)
theorem dX3_moved_166 : decode cX3_moved 166 = .ok (.iload_n 1, 1) := dk_27 (dk_at dksX3_moved_7 4 rfl rfl)
theorem dX3_moved_167 : decode cX3_moved 167 = .ok (.iconst 2, 1) := dk_5 (dk_at dksX3_moved_7 5 rfl rfl)
theorem dX3_moved_168 : decode cX3_moved 168 = .ok (.isub, 1) := dk_100 (dk_at dksX3_moved_7 6 rfl rfl)
theorem dX3_moved_169 : decode cX3_moved 169 = .ok (.goto 4, 3) := dk_167 0 4 (dk_at dksX3_moved_7 7 rfl rfl)
theorem dX3_moved_172 : decode cX3_moved 172 = .ok (.iconst (-1), 1) := dk_2 (dk_at dksX3_moved_7 10 rfl rfl)
theorem dX3_moved_173 : decode cX3_moved 173 = .ok (.ireturn, 1) := dk_172 (dk_at dksX3_moved_7 11 rfl rfl)
theorem dX3_moved_174 : decode cX3_moved 174 = .ok (.iload 5, 2) := dk_21 5 (dk_at dksX3_moved_7 12 rfl rfl)
theorem dX3_moved_176 : decode cX3_moved 176 = .ok (.ifCond .ne 17, 3) := dk_154 0 17 (dk_at dksX3_moved_7 14 rfl rfl)
theorem dX3_moved_179 : decode cX3_moved 179 = .ok (.aload_n 0, 1) := dk_42 (dk_at dksX3_moved_7 17 rfl rfl)
theorem dX3_moved_180 : decode cX3_moved 180 = .ok (.getfield 35, 3) := dk_180 0 35 (dk_at dksX3_moved_7 18 rfl rfl)
theorem dX3_moved_183 : decode cX3_moved 183 = .ok (.iload_n 3, 1) := dk_29 (dk_at dksX3_moved_7 21 rfl rfl)
theorem dX3_moved_184 : decode cX3_moved 184 = .ok (.iaload, 1) := dk_46 (dk_at dksX3_moved_7 22 rfl rfl)
theorem dX3_moved_185 : decode cX3_moved 185 = .ok (.iconst 2, 1) := dk_5 (dk_at dksX3_moved_7 23 rfl rfl)
theorem dX3_moved_186 : decode cX3_moved 186 = .ok (.if_icmp .ne 7, 3) := dk_160 0 7 (dk_at dksX3_moved_8 0 rfl rfl)
theorem dX3_moved_189 : decode cX3_moved 189 = .ok (.iload_n 1, 1) := dk_27 (dk_at dksX3_moved_8 3 rfl rfl)
theorem dX3_moved_190 : decode cX3_moved 190 = .ok (.goto 4, 3) := dk_167 0 4 (dk_at dksX3_moved_8 4 rfl rfl)
theorem dX3_moved_193 : decode cX3_moved 193 = .ok (.iconst (-1), 1) := dk_2 (dk_at dksX3_moved_8 7 rfl rfl)
theorem dX3_moved_194 : decode cX3_moved 194 = .ok (.ireturn, 1) := dk_172 (dk_at dksX3_moved_8 8 rfl rfl)
theorem dX3_moved_195 : decode cX3_moved 195 = .ok (.iload 5, 2) := dk_21 5 (dk_at dksX3_moved_8 9 rfl rfl)
theorem dX3_moved_197 : decode cX3_moved 197 = .ok (.ifCond .ne 31, 3) := dk_154 0 31 (dk_at dksX3_moved_8 11 rfl rfl)
theorem dX3_moved_200 : decode cX3_moved 200 = .ok (.aload_n 0, 1) := dk_42 (dk_at dksX3_moved_8 14 rfl rfl)
theorem dX3_moved_201 : decode cX3_moved 201 = .ok (.getfield 35, 3) := dk_180 0 35 (dk_at dksX3_moved_8 15 rfl rfl)
theorem dX3_moved_204 : decode cX3_moved 204 = .ok (.iload_n 3, 1) := dk_29 (dk_at dksX3_moved_8 18 rfl rfl)
theorem dX3_moved_205 : decode cX3_moved 205 = .ok (.iaload, 1) := dk_46 (dk_at dksX3_moved_8 19 rfl rfl)
theorem dX3_moved_206 : decode cX3_moved 206 = .ok (.iconst 1, 1) := dk_4 (dk_at dksX3_moved_8 20 rfl rfl)
theorem dX3_moved_207 : decode cX3_moved 207 = .ok (.if_icmp .ne 21, 3) := dk_160 0 21 (dk_at dksX3_moved_8 21 rfl rfl)
theorem dX3_moved_210 : decode cX3_moved 210 = .ok (.iload 4, 2) := dk_21 4 (dk_at dksX3_moved_9 0 rfl rfl)
theorem dX3_moved_212 : decode cX3_moved 212 = .ok (.iconst 1, 1) := dk_4 (dk_at dksX3_moved_9 2 rfl rfl)
theorem dX3_moved_213 : decode cX3_moved 213 = .ok (.iadd, 1) := dk_96 (dk_at dksX3_moved_9 3 rfl rfl)
theorem dX3_moved_214 : decode cX3_moved 214 = .ok (.aload_n 0, 1) := dk_42 (dk_at dksX3_moved_9 4 rfl rfl)
theorem dX3_moved_215 : decode cX3_moved 215 = .ok (.getfield 15, 3) := dk_180 0 15 (dk_at dksX3_moved_9 5 rfl rfl)
theorem dX3_moved_218 : decode cX3_moved 218 = .ok (.if_icmp .ge 10, 3) := dk_162 0 10 (dk_at dksX3_moved_9 8 rfl rfl)
theorem dX3_moved_221 : decode cX3_moved 221 = .ok (.iload_n 1, 1) := dk_27 (dk_at dksX3_moved_9 11 rfl rfl)
theorem dX3_moved_222 : decode cX3_moved 222 = .ok (.bipush 12, 2) := dk_16 12 (dk_at dksX3_moved_9 12 rfl rfl)
theorem dX3_moved_224 : decode cX3_moved 224 = .ok (.iadd, 1) := dk_96 (dk_at dksX3_moved_9 14 rfl rfl)
theorem dX3_moved_225 : decode cX3_moved 225 = .ok (.goto 4, 3) := dk_167 0 4 (dk_at dksX3_moved_9 15 rfl rfl)
theorem dX3_moved_228 : decode cX3_moved 228 = .ok (.iconst (-1), 1) := dk_2 (dk_at dksX3_moved_9 18 rfl rfl)
theorem dX3_moved_229 : decode cX3_moved 229 = .ok (.ireturn, 1) := dk_172 (dk_at dksX3_moved_9 19 rfl rfl)
theorem dX3_moved_230 : decode cX3_moved 230 = .ok (.iload 5, 2) := dk_21 5 (dk_at dksX3_moved_9 20 rfl rfl)
theorem dX3_moved_232 : decode cX3_moved 232 = .ok (.ifCond .ne 25, 3) := dk_154 0 25 (dk_at dksX3_moved_10 0 rfl rfl)
theorem dX3_moved_235 : decode cX3_moved 235 = .ok (.aload_n 0, 1) := dk_42 (dk_at dksX3_moved_10 3 rfl rfl)
theorem dX3_moved_236 : decode cX3_moved 236 = .ok (.getfield 35, 3) := dk_180 0 35 (dk_at dksX3_moved_10 4 rfl rfl)
theorem dX3_moved_239 : decode cX3_moved 239 = .ok (.iload_n 3, 1) := dk_29 (dk_at dksX3_moved_10 7 rfl rfl)
theorem dX3_moved_240 : decode cX3_moved 240 = .ok (.iaload, 1) := dk_46 (dk_at dksX3_moved_10 8 rfl rfl)
theorem dX3_moved_241 : decode cX3_moved 241 = .ok (.iconst 1, 1) := dk_4 (dk_at dksX3_moved_10 9 rfl rfl)
theorem dX3_moved_242 : decode cX3_moved 242 = .ok (.if_icmp .ne 15, 3) := dk_160 0 15 (dk_at dksX3_moved_10 10 rfl rfl)
theorem dX3_moved_245 : decode cX3_moved 245 = .ok (.iload 4, 2) := dk_21 4 (dk_at dksX3_moved_10 13 rfl rfl)
theorem dX3_moved_247 : decode cX3_moved 247 = .ok (.ifCond .le 10, 3) := dk_158 0 10 (dk_at dksX3_moved_10 15 rfl rfl)
theorem dX3_moved_250 : decode cX3_moved 250 = .ok (.iload_n 1, 1) := dk_27 (dk_at dksX3_moved_10 18 rfl rfl)
theorem dX3_moved_251 : decode cX3_moved 251 = .ok (.bipush 12, 2) := dk_16 12 (dk_at dksX3_moved_10 19 rfl rfl)
theorem dX3_moved_253 : decode cX3_moved 253 = .ok (.isub, 1) := dk_100 (dk_at dksX3_moved_10 21 rfl rfl)
theorem dX3_moved_254 : decode cX3_moved 254 = .ok (.goto 4, 3) := dk_167 0 4 (dk_at dksX3_moved_11 0 rfl rfl)
theorem dX3_moved_257 : decode cX3_moved 257 = .ok (.iconst (-1), 1) := dk_2 (dk_at dksX3_moved_11 3 rfl rfl)
theorem dX3_moved_258 : decode cX3_moved 258 = .ok (.ireturn, 1) := dk_172 (dk_at dksX3_moved_11 4 rfl rfl)
abbrev cX3_stationOf : ByteArray := prog_6_method_21_code
def yX3_stationOf : MethodName := ⟨RX3, "stationOf", "(I)I"⟩
def dkwX3_stationOf_0 : List UInt8 := [26, 5, 108, 16, 6, 112, 172]
abbrev dktX3_stationOf_0 : List UInt8 := dkwX3_stationOf_0 ++ []
theorem dksX3_stationOf_0 : cX3_stationOf.data.toList.drop 0 = dktX3_stationOf_0 := by decide +kernel
theorem dX3_stationOf_0 : decode cX3_stationOf 0 = .ok (.iload_n 0, 1) := dk_26 (dk_at dksX3_stationOf_0 0 rfl rfl)
theorem dX3_stationOf_1 : decode cX3_stationOf 1 = .ok (.iconst 2, 1) := dk_5 (dk_at dksX3_stationOf_0 1 rfl rfl)
theorem dX3_stationOf_2 : decode cX3_stationOf 2 = .ok (.idiv, 1) := dk_108 (dk_at dksX3_stationOf_0 2 rfl rfl)
theorem dX3_stationOf_3 : decode cX3_stationOf 3 = .ok (.bipush 6, 2) := dk_16 6 (dk_at dksX3_stationOf_0 3 rfl rfl)
theorem dX3_stationOf_5 : decode cX3_stationOf 5 = .ok (.irem, 1) := dk_112 (dk_at dksX3_stationOf_0 5 rfl rfl)
theorem dX3_stationOf_6 : decode cX3_stationOf 6 = .ok (.ireturn, 1) := dk_172 (dk_at dksX3_stationOf_0 6 rfl rfl)
abbrev cX3_foldOf : ByteArray := prog_6_method_22_code
def yX3_foldOf : MethodName := ⟨RX3, "foldOf", "(I)I"⟩
def dkwX3_foldOf_0 : List UInt8 := [26, 5, 108, 16, 6, 108, 172]
abbrev dktX3_foldOf_0 : List UInt8 := dkwX3_foldOf_0 ++ []
theorem dksX3_foldOf_0 : cX3_foldOf.data.toList.drop 0 = dktX3_foldOf_0 := by decide +kernel
theorem dX3_foldOf_0 : decode cX3_foldOf 0 = .ok (.iload_n 0, 1) := dk_26 (dk_at dksX3_foldOf_0 0 rfl rfl)
theorem dX3_foldOf_1 : decode cX3_foldOf 1 = .ok (.iconst 2, 1) := dk_5 (dk_at dksX3_foldOf_0 1 rfl rfl)
theorem dX3_foldOf_2 : decode cX3_foldOf 2 = .ok (.idiv, 1) := dk_108 (dk_at dksX3_foldOf_0 2 rfl rfl)
theorem dX3_foldOf_3 : decode cX3_foldOf 3 = .ok (.bipush 6, 2) := dk_16 6 (dk_at dksX3_foldOf_0 3 rfl rfl)
theorem dX3_foldOf_5 : decode cX3_foldOf 5 = .ok (.idiv, 1) := dk_108 (dk_at dksX3_foldOf_0 5 rfl rfl)
theorem dX3_foldOf_6 : decode cX3_foldOf 6 = .ok (.ireturn, 1) := dk_172 (dk_at dksX3_foldOf_0 6 rfl rfl)
abbrev cX3_sideOf : ByteArray := prog_6_method_20_code
def yX3_sideOf : MethodName := ⟨RX3, "sideOf", "(I)I"⟩
def dkwX3_sideOf_0 : List UInt8 := [26, 5, 112, 172]
abbrev dktX3_sideOf_0 : List UInt8 := dkwX3_sideOf_0 ++ []
theorem dksX3_sideOf_0 : cX3_sideOf.data.toList.drop 0 = dktX3_sideOf_0 := by decide +kernel
theorem dX3_sideOf_0 : decode cX3_sideOf 0 = .ok (.iload_n 0, 1) := dk_26 (dk_at dksX3_sideOf_0 0 rfl rfl)
theorem dX3_sideOf_1 : decode cX3_sideOf 1 = .ok (.iconst 2, 1) := dk_5 (dk_at dksX3_sideOf_0 1 rfl rfl)
theorem dX3_sideOf_2 : decode cX3_sideOf 2 = .ok (.irem, 1) := dk_112 (dk_at dksX3_sideOf_0 2 rfl rfl)
theorem dX3_sideOf_3 : decode cX3_sideOf 3 = .ok (.ireturn, 1) := dk_172 (dk_at dksX3_sideOf_0 3 rfl rfl)
abbrev cX3_fault : ByteArray := prog_6_method_29_code
def yX3_fault : MethodName := ⟨RX3, "fault", "()I"⟩
def dkwX3_fault_0 : List UInt8 := [42, 3, 181, 0, 104, 42, 180, 0, 25, 172]
abbrev dktX3_fault_0 : List UInt8 := dkwX3_fault_0 ++ []
theorem dksX3_fault_0 : cX3_fault.data.toList.drop 0 = dktX3_fault_0 := by decide +kernel
theorem dX3_fault_0 : decode cX3_fault 0 = .ok (.aload_n 0, 1) := dk_42 (dk_at dksX3_fault_0 0 rfl rfl)
theorem dX3_fault_1 : decode cX3_fault 1 = .ok (.iconst 0, 1) := dk_3 (dk_at dksX3_fault_0 1 rfl rfl)
theorem dX3_fault_2 : decode cX3_fault 2 = .ok (.putfield 104, 3) := dk_181 0 104 (dk_at dksX3_fault_0 2 rfl rfl)
theorem dX3_fault_5 : decode cX3_fault 5 = .ok (.aload_n 0, 1) := dk_42 (dk_at dksX3_fault_0 5 rfl rfl)
theorem dX3_fault_6 : decode cX3_fault 6 = .ok (.getfield 25, 3) := dk_180 0 25 (dk_at dksX3_fault_0 6 rfl rfl)
theorem dX3_fault_9 : decode cX3_fault 9 = .ok (.ireturn, 1) := dk_172 (dk_at dksX3_fault_0 9 rfl rfl)
abbrev cX3_about : ByteArray := prog_6_method_34_code
def yX3_about : MethodName := ⟨RX3, "about", "(II)I"⟩
def dkwX3_about_9 : List UInt8 := [182, 0, 136, 172]
abbrev dktX3_about_9 : List UInt8 := dkwX3_about_9 ++ []
def dkwX3_about_8 : List UInt8 := [153, 0, 7, 4, 167, 0, 4, 3, 172, 21, 4, 153, 0, 7, 4, 167, 0, 4, 3, 172, 42, 4]
abbrev dktX3_about_8 : List UInt8 := dkwX3_about_8 ++ dktX3_about_9
def dkwX3_about_7 : List UInt8 := [153, 0, 14, 42, 182, 0, 188, 153, 0, 7, 4, 167, 0, 4, 3, 172, 29, 153, 0, 14, 42, 182, 0, 192]
abbrev dktX3_about_7 : List UInt8 := dkwX3_about_7 ++ dktX3_about_8
def dkwX3_about_6 : List UInt8 := [184, 0, 140, 172, 42, 180, 0, 172, 184, 0, 146, 172, 29, 153, 0, 7, 4, 167, 0, 4, 3, 172, 29]
abbrev dktX3_about_6 : List UInt8 := dkwX3_about_6 ++ dktX3_about_7
def dkwX3_about_5 : List UInt8 := [42, 180, 0, 169, 172, 42, 180, 0, 54, 27, 46, 172, 42, 180, 0, 172, 184, 0, 143, 172, 42, 180, 0, 172]
abbrev dktX3_about_5 : List UInt8 := dkwX3_about_5 ++ dktX3_about_6
def dkwX3_about_4 : List UInt8 := [170, 0, 0, 0, 0, 141, 0, 0, 0, 0, 0, 0, 0, 8, 0, 0, 0, 50, 0, 0, 0, 55, 0, 0, 0, 62, 0, 0, 0, 70, 0, 0, 0, 78, 0, 0, 0, 86, 0, 0, 0, 96, 0, 0, 0, 113, 0, 0, 0, 130]
abbrev dktX3_about_4 : List UInt8 := dkwX3_about_4 ++ dktX3_about_5
def dkwX3_about_3 : List UInt8 := [46, 5, 161, 0, 7, 4, 167, 0, 4, 3, 54, 4, 132, 5, 1, 167, 255, 219, 28]
abbrev dktX3_about_3 : List UInt8 := dkwX3_about_3 ++ dktX3_about_4
def dkwX3_about_2 : List UInt8 := [54, 5, 21, 5, 4, 96, 42, 180, 0, 15, 162, 0, 32, 21, 4, 153, 0, 18, 42, 180, 0, 72, 21, 5]
abbrev dktX3_about_2 : List UInt8 := dkwX3_about_2 ++ dktX3_about_3
def dkwX3_about_1 : List UInt8 := [42, 180, 0, 172, 42, 180, 0, 57, 27, 46, 160, 0, 7, 4, 167, 0, 4, 3, 62, 4, 54, 4, 3]
abbrev dktX3_about_1 : List UInt8 := dkwX3_about_1 ++ dktX3_about_2
def dkwX3_about_0 : List UInt8 := [42, 3, 181, 0, 104, 42, 27, 182, 0, 181, 154, 0, 9, 42, 4, 182, 0, 136, 172, 42, 27, 182, 0, 184]
abbrev dktX3_about_0 : List UInt8 := dkwX3_about_0 ++ dktX3_about_1
theorem dksX3_about_0 : cX3_about.data.toList.drop 0 = dktX3_about_0 := by decide +kernel
theorem dksX3_about_1 : cX3_about.data.toList.drop 24 = dktX3_about_1 := dk_seg dksX3_about_0 24 rfl rfl
theorem dksX3_about_2 : cX3_about.data.toList.drop 47 = dktX3_about_2 := dk_seg dksX3_about_1 23 rfl rfl
theorem dksX3_about_3 : cX3_about.data.toList.drop 71 = dktX3_about_3 := dk_seg dksX3_about_2 24 rfl rfl
theorem dksX3_about_4 : cX3_about.data.toList.drop 90 = dktX3_about_4 := dk_seg dksX3_about_3 19 rfl rfl
theorem dksX3_about_5 : cX3_about.data.toList.drop 140 = dktX3_about_5 := dk_seg dksX3_about_4 50 rfl rfl
theorem dksX3_about_6 : cX3_about.data.toList.drop 164 = dktX3_about_6 := dk_seg dksX3_about_5 24 rfl rfl
theorem dksX3_about_7 : cX3_about.data.toList.drop 187 = dktX3_about_7 := dk_seg dksX3_about_6 23 rfl rfl
theorem dksX3_about_8 : cX3_about.data.toList.drop 211 = dktX3_about_8 := dk_seg dksX3_about_7 24 rfl rfl
theorem dksX3_about_9 : cX3_about.data.toList.drop 233 = dktX3_about_9 := dk_seg dksX3_about_8 22 rfl rfl
theorem dX3_about_0 : decode cX3_about 0 = .ok (.aload_n 0, 1) := dk_42 (dk_at dksX3_about_0 0 rfl rfl)
theorem dX3_about_1 : decode cX3_about 1 = .ok (.iconst 0, 1) := dk_3 (dk_at dksX3_about_0 1 rfl rfl)
theorem dX3_about_2 : decode cX3_about 2 = .ok (.putfield 104, 3) := dk_181 0 104 (dk_at dksX3_about_0 2 rfl rfl)
theorem dX3_about_5 : decode cX3_about 5 = .ok (.aload_n 0, 1) := dk_42 (dk_at dksX3_about_0 5 rfl rfl)
theorem dX3_about_6 : decode cX3_about 6 = .ok (.iload_n 1, 1) := dk_27 (dk_at dksX3_about_0 6 rfl rfl)
theorem dX3_about_7 : decode cX3_about 7 = .ok (.invokevirtual 181, 3) := dk_182 0 181 (dk_at dksX3_about_0 7 rfl rfl)
theorem dX3_about_10 : decode cX3_about 10 = .ok (.ifCond .ne 9, 3) := dk_154 0 9 (dk_at dksX3_about_0 10 rfl rfl)
theorem dX3_about_13 : decode cX3_about 13 = .ok (.aload_n 0, 1) := dk_42 (dk_at dksX3_about_0 13 rfl rfl)
theorem dX3_about_14 : decode cX3_about 14 = .ok (.iconst 1, 1) := dk_4 (dk_at dksX3_about_0 14 rfl rfl)
theorem dX3_about_15 : decode cX3_about 15 = .ok (.invokevirtual 136, 3) := dk_182 0 136 (dk_at dksX3_about_0 15 rfl rfl)
theorem dX3_about_18 : decode cX3_about 18 = .ok (.ireturn, 1) := dk_172 (dk_at dksX3_about_0 18 rfl rfl)
theorem dX3_about_19 : decode cX3_about 19 = .ok (.aload_n 0, 1) := dk_42 (dk_at dksX3_about_0 19 rfl rfl)
theorem dX3_about_20 : decode cX3_about 20 = .ok (.iload_n 1, 1) := dk_27 (dk_at dksX3_about_0 20 rfl rfl)
theorem dX3_about_21 : decode cX3_about 21 = .ok (.invokevirtual 184, 3) := dk_182 0 184 (dk_at dksX3_about_0 21 rfl rfl)
theorem dX3_about_24 : decode cX3_about 24 = .ok (.aload_n 0, 1) := dk_42 (dk_at dksX3_about_1 0 rfl rfl)
theorem dX3_about_25 : decode cX3_about 25 = .ok (.getfield 172, 3) := dk_180 0 172 (dk_at dksX3_about_1 1 rfl rfl)
theorem dX3_about_28 : decode cX3_about 28 = .ok (.aload_n 0, 1) := dk_42 (dk_at dksX3_about_1 4 rfl rfl)
theorem dX3_about_29 : decode cX3_about 29 = .ok (.getfield 57, 3) := dk_180 0 57 (dk_at dksX3_about_1 5 rfl rfl)
theorem dX3_about_32 : decode cX3_about 32 = .ok (.iload_n 1, 1) := dk_27 (dk_at dksX3_about_1 8 rfl rfl)
theorem dX3_about_33 : decode cX3_about 33 = .ok (.iaload, 1) := dk_46 (dk_at dksX3_about_1 9 rfl rfl)
theorem dX3_about_34 : decode cX3_about 34 = .ok (.if_icmp .ne 7, 3) := dk_160 0 7 (dk_at dksX3_about_1 10 rfl rfl)
theorem dX3_about_37 : decode cX3_about 37 = .ok (.iconst 1, 1) := dk_4 (dk_at dksX3_about_1 13 rfl rfl)
theorem dX3_about_38 : decode cX3_about 38 = .ok (.goto 4, 3) := dk_167 0 4 (dk_at dksX3_about_1 14 rfl rfl)
theorem dX3_about_41 : decode cX3_about 41 = .ok (.iconst 0, 1) := dk_3 (dk_at dksX3_about_1 17 rfl rfl)
theorem dX3_about_42 : decode cX3_about 42 = .ok (.istore_n 3, 1) := dk_62 (dk_at dksX3_about_1 18 rfl rfl)
theorem dX3_about_43 : decode cX3_about 43 = .ok (.iconst 1, 1) := dk_4 (dk_at dksX3_about_1 19 rfl rfl)
theorem dX3_about_44 : decode cX3_about 44 = .ok (.istore 4, 2) := dk_54 4 (dk_at dksX3_about_1 20 rfl rfl)
theorem dX3_about_46 : decode cX3_about 46 = .ok (.iconst 0, 1) := dk_3 (dk_at dksX3_about_1 22 rfl rfl)
theorem dX3_about_47 : decode cX3_about 47 = .ok (.istore 5, 2) := dk_54 5 (dk_at dksX3_about_2 0 rfl rfl)
theorem dX3_about_49 : decode cX3_about 49 = .ok (.iload 5, 2) := dk_21 5 (dk_at dksX3_about_2 2 rfl rfl)
theorem dX3_about_51 : decode cX3_about 51 = .ok (.iconst 1, 1) := dk_4 (dk_at dksX3_about_2 4 rfl rfl)
theorem dX3_about_52 : decode cX3_about 52 = .ok (.iadd, 1) := dk_96 (dk_at dksX3_about_2 5 rfl rfl)
theorem dX3_about_53 : decode cX3_about 53 = .ok (.aload_n 0, 1) := dk_42 (dk_at dksX3_about_2 6 rfl rfl)
theorem dX3_about_54 : decode cX3_about 54 = .ok (.getfield 15, 3) := dk_180 0 15 (dk_at dksX3_about_2 7 rfl rfl)
theorem dX3_about_57 : decode cX3_about 57 = .ok (.if_icmp .ge 32, 3) := dk_162 0 32 (dk_at dksX3_about_2 10 rfl rfl)
theorem dX3_about_60 : decode cX3_about 60 = .ok (.iload 4, 2) := dk_21 4 (dk_at dksX3_about_2 13 rfl rfl)
theorem dX3_about_62 : decode cX3_about 62 = .ok (.ifCond .eq 18, 3) := dk_153 0 18 (dk_at dksX3_about_2 15 rfl rfl)
theorem dX3_about_65 : decode cX3_about 65 = .ok (.aload_n 0, 1) := dk_42 (dk_at dksX3_about_2 18 rfl rfl)
theorem dX3_about_66 : decode cX3_about 66 = .ok (.getfield 72, 3) := dk_180 0 72 (dk_at dksX3_about_2 19 rfl rfl)
theorem dX3_about_69 : decode cX3_about 69 = .ok (.iload 5, 2) := dk_21 5 (dk_at dksX3_about_2 22 rfl rfl)
theorem dX3_about_71 : decode cX3_about 71 = .ok (.iaload, 1) := dk_46 (dk_at dksX3_about_3 0 rfl rfl)
theorem dX3_about_72 : decode cX3_about 72 = .ok (.iconst 2, 1) := dk_5 (dk_at dksX3_about_3 1 rfl rfl)
theorem dX3_about_73 : decode cX3_about 73 = .ok (.if_icmp .lt 7, 3) := dk_161 0 7 (dk_at dksX3_about_3 2 rfl rfl)
theorem dX3_about_76 : decode cX3_about 76 = .ok (.iconst 1, 1) := dk_4 (dk_at dksX3_about_3 5 rfl rfl)
theorem dX3_about_77 : decode cX3_about 77 = .ok (.goto 4, 3) := dk_167 0 4 (dk_at dksX3_about_3 6 rfl rfl)
theorem dX3_about_80 : decode cX3_about 80 = .ok (.iconst 0, 1) := dk_3 (dk_at dksX3_about_3 9 rfl rfl)
theorem dX3_about_81 : decode cX3_about 81 = .ok (.istore 4, 2) := dk_54 4 (dk_at dksX3_about_3 10 rfl rfl)
theorem dX3_about_83 : decode cX3_about 83 = .ok (.iinc 5 1, 3) := dk_132 5 1 (dk_at dksX3_about_3 12 rfl rfl)
theorem dX3_about_86 : decode cX3_about 86 = .ok (.goto (-37), 3) := dk_167 255 219 (dk_at dksX3_about_3 15 rfl rfl)
theorem dX3_about_89 : decode cX3_about 89 = .ok (.iload_n 2, 1) := dk_28 (dk_at dksX3_about_3 18 rfl rfl)
theorem dX3_about_90 : decode cX3_about 90 = .ok (.tableswitch 141 0 8 #[50, 55, 62, 70, 78, 86, 96, 113, 130], 50) := by decide +kernel
theorem dX3_about_140 : decode cX3_about 140 = .ok (.aload_n 0, 1) := dk_42 (dk_at dksX3_about_5 0 rfl rfl)
theorem dX3_about_141 : decode cX3_about 141 = .ok (.getfield 169, 3) := dk_180 0 169 (dk_at dksX3_about_5 1 rfl rfl)
theorem dX3_about_144 : decode cX3_about 144 = .ok (.ireturn, 1) := dk_172 (dk_at dksX3_about_5 4 rfl rfl)
theorem dX3_about_145 : decode cX3_about 145 = .ok (.aload_n 0, 1) := dk_42 (dk_at dksX3_about_5 5 rfl rfl)
theorem dX3_about_146 : decode cX3_about 146 = .ok (.getfield 54, 3) := dk_180 0 54 (dk_at dksX3_about_5 6 rfl rfl)
theorem dX3_about_149 : decode cX3_about 149 = .ok (.iload_n 1, 1) := dk_27 (dk_at dksX3_about_5 9 rfl rfl)
theorem dX3_about_150 : decode cX3_about 150 = .ok (.iaload, 1) := dk_46 (dk_at dksX3_about_5 10 rfl rfl)
theorem dX3_about_151 : decode cX3_about 151 = .ok (.ireturn, 1) := dk_172 (dk_at dksX3_about_5 11 rfl rfl)
theorem dX3_about_152 : decode cX3_about 152 = .ok (.aload_n 0, 1) := dk_42 (dk_at dksX3_about_5 12 rfl rfl)
theorem dX3_about_153 : decode cX3_about 153 = .ok (.getfield 172, 3) := dk_180 0 172 (dk_at dksX3_about_5 13 rfl rfl)
theorem dX3_about_156 : decode cX3_about 156 = .ok (.invokestatic 143, 3) := dk_184 0 143 (dk_at dksX3_about_5 16 rfl rfl)
theorem dX3_about_159 : decode cX3_about 159 = .ok (.ireturn, 1) := dk_172 (dk_at dksX3_about_5 19 rfl rfl)
theorem dX3_about_160 : decode cX3_about 160 = .ok (.aload_n 0, 1) := dk_42 (dk_at dksX3_about_5 20 rfl rfl)
theorem dX3_about_161 : decode cX3_about 161 = .ok (.getfield 172, 3) := dk_180 0 172 (dk_at dksX3_about_5 21 rfl rfl)
theorem dX3_about_164 : decode cX3_about 164 = .ok (.invokestatic 140, 3) := dk_184 0 140 (dk_at dksX3_about_6 0 rfl rfl)
theorem dX3_about_167 : decode cX3_about 167 = .ok (.ireturn, 1) := dk_172 (dk_at dksX3_about_6 3 rfl rfl)
theorem dX3_about_168 : decode cX3_about 168 = .ok (.aload_n 0, 1) := dk_42 (dk_at dksX3_about_6 4 rfl rfl)
theorem dX3_about_169 : decode cX3_about 169 = .ok (.getfield 172, 3) := dk_180 0 172 (dk_at dksX3_about_6 5 rfl rfl)
theorem dX3_about_172 : decode cX3_about 172 = .ok (.invokestatic 146, 3) := dk_184 0 146 (dk_at dksX3_about_6 8 rfl rfl)
theorem dX3_about_175 : decode cX3_about 175 = .ok (.ireturn, 1) := dk_172 (dk_at dksX3_about_6 11 rfl rfl)
theorem dX3_about_176 : decode cX3_about 176 = .ok (.iload_n 3, 1) := dk_29 (dk_at dksX3_about_6 12 rfl rfl)
theorem dX3_about_177 : decode cX3_about 177 = .ok (.ifCond .eq 7, 3) := dk_153 0 7 (dk_at dksX3_about_6 13 rfl rfl)
theorem dX3_about_180 : decode cX3_about 180 = .ok (.iconst 1, 1) := dk_4 (dk_at dksX3_about_6 16 rfl rfl)
theorem dX3_about_181 : decode cX3_about 181 = .ok (.goto 4, 3) := dk_167 0 4 (dk_at dksX3_about_6 17 rfl rfl)
theorem dX3_about_184 : decode cX3_about 184 = .ok (.iconst 0, 1) := dk_3 (dk_at dksX3_about_6 20 rfl rfl)
theorem dX3_about_185 : decode cX3_about 185 = .ok (.ireturn, 1) := dk_172 (dk_at dksX3_about_6 21 rfl rfl)
theorem dX3_about_186 : decode cX3_about 186 = .ok (.iload_n 3, 1) := dk_29 (dk_at dksX3_about_6 22 rfl rfl)
theorem dX3_about_187 : decode cX3_about 187 = .ok (.ifCond .eq 14, 3) := dk_153 0 14 (dk_at dksX3_about_7 0 rfl rfl)
theorem dX3_about_190 : decode cX3_about 190 = .ok (.aload_n 0, 1) := dk_42 (dk_at dksX3_about_7 3 rfl rfl)
theorem dX3_about_191 : decode cX3_about 191 = .ok (.invokevirtual 188, 3) := dk_182 0 188 (dk_at dksX3_about_7 4 rfl rfl)
theorem dX3_about_194 : decode cX3_about 194 = .ok (.ifCond .eq 7, 3) := dk_153 0 7 (dk_at dksX3_about_7 7 rfl rfl)
theorem dX3_about_197 : decode cX3_about 197 = .ok (.iconst 1, 1) := dk_4 (dk_at dksX3_about_7 10 rfl rfl)
theorem dX3_about_198 : decode cX3_about 198 = .ok (.goto 4, 3) := dk_167 0 4 (dk_at dksX3_about_7 11 rfl rfl)
theorem dX3_about_201 : decode cX3_about 201 = .ok (.iconst 0, 1) := dk_3 (dk_at dksX3_about_7 14 rfl rfl)
theorem dX3_about_202 : decode cX3_about 202 = .ok (.ireturn, 1) := dk_172 (dk_at dksX3_about_7 15 rfl rfl)
theorem dX3_about_203 : decode cX3_about 203 = .ok (.iload_n 3, 1) := dk_29 (dk_at dksX3_about_7 16 rfl rfl)
theorem dX3_about_204 : decode cX3_about 204 = .ok (.ifCond .eq 14, 3) := dk_153 0 14 (dk_at dksX3_about_7 17 rfl rfl)
theorem dX3_about_207 : decode cX3_about 207 = .ok (.aload_n 0, 1) := dk_42 (dk_at dksX3_about_7 20 rfl rfl)
theorem dX3_about_208 : decode cX3_about 208 = .ok (.invokevirtual 192, 3) := dk_182 0 192 (dk_at dksX3_about_7 21 rfl rfl)
theorem dX3_about_211 : decode cX3_about 211 = .ok (.ifCond .eq 7, 3) := dk_153 0 7 (dk_at dksX3_about_8 0 rfl rfl)
theorem dX3_about_214 : decode cX3_about 214 = .ok (.iconst 1, 1) := dk_4 (dk_at dksX3_about_8 3 rfl rfl)
theorem dX3_about_215 : decode cX3_about 215 = .ok (.goto 4, 3) := dk_167 0 4 (dk_at dksX3_about_8 4 rfl rfl)
theorem dX3_about_218 : decode cX3_about 218 = .ok (.iconst 0, 1) := dk_3 (dk_at dksX3_about_8 7 rfl rfl)
theorem dX3_about_219 : decode cX3_about 219 = .ok (.ireturn, 1) := dk_172 (dk_at dksX3_about_8 8 rfl rfl)
theorem dX3_about_220 : decode cX3_about 220 = .ok (.iload 4, 2) := dk_21 4 (dk_at dksX3_about_8 9 rfl rfl)
theorem dX3_about_222 : decode cX3_about 222 = .ok (.ifCond .eq 7, 3) := dk_153 0 7 (dk_at dksX3_about_8 11 rfl rfl)
theorem dX3_about_225 : decode cX3_about 225 = .ok (.iconst 1, 1) := dk_4 (dk_at dksX3_about_8 14 rfl rfl)
theorem dX3_about_226 : decode cX3_about 226 = .ok (.goto 4, 3) := dk_167 0 4 (dk_at dksX3_about_8 15 rfl rfl)
theorem dX3_about_229 : decode cX3_about 229 = .ok (.iconst 0, 1) := dk_3 (dk_at dksX3_about_8 18 rfl rfl)
theorem dX3_about_230 : decode cX3_about 230 = .ok (.ireturn, 1) := dk_172 (dk_at dksX3_about_8 19 rfl rfl)
theorem dX3_about_231 : decode cX3_about 231 = .ok (.aload_n 0, 1) := dk_42 (dk_at dksX3_about_8 20 rfl rfl)
theorem dX3_about_232 : decode cX3_about 232 = .ok (.iconst 1, 1) := dk_4 (dk_at dksX3_about_8 21 rfl rfl)
theorem dX3_about_233 : decode cX3_about 233 = .ok (.invokevirtual 136, 3) := dk_182 0 136 (dk_at dksX3_about_9 0 rfl rfl)
theorem dX3_about_236 : decode cX3_about 236 = .ok (.ireturn, 1) := dk_172 (dk_at dksX3_about_9 3 rfl rfl)
abbrev cX3_isPlan : ByteArray := prog_6_method_30_code
def yX3_isPlan : MethodName := ⟨RX3, "isPlan", "(I)Z"⟩
def dkwX3_isPlan_0 : List UInt8 := [27, 155, 0, 15, 27, 42, 180, 0, 107, 162, 0, 7, 4, 167, 0, 4, 3, 172]
abbrev dktX3_isPlan_0 : List UInt8 := dkwX3_isPlan_0 ++ []
theorem dksX3_isPlan_0 : cX3_isPlan.data.toList.drop 0 = dktX3_isPlan_0 := by decide +kernel
theorem dX3_isPlan_0 : decode cX3_isPlan 0 = .ok (.iload_n 1, 1) := dk_27 (dk_at dksX3_isPlan_0 0 rfl rfl)
theorem dX3_isPlan_1 : decode cX3_isPlan 1 = .ok (.ifCond .lt 15, 3) := dk_155 0 15 (dk_at dksX3_isPlan_0 1 rfl rfl)
theorem dX3_isPlan_4 : decode cX3_isPlan 4 = .ok (.iload_n 1, 1) := dk_27 (dk_at dksX3_isPlan_0 4 rfl rfl)
theorem dX3_isPlan_5 : decode cX3_isPlan 5 = .ok (.aload_n 0, 1) := dk_42 (dk_at dksX3_isPlan_0 5 rfl rfl)
theorem dX3_isPlan_6 : decode cX3_isPlan 6 = .ok (.getfield 107, 3) := dk_180 0 107 (dk_at dksX3_isPlan_0 6 rfl rfl)
theorem dX3_isPlan_9 : decode cX3_isPlan 9 = .ok (.if_icmp .ge 7, 3) := dk_162 0 7 (dk_at dksX3_isPlan_0 9 rfl rfl)
theorem dX3_isPlan_12 : decode cX3_isPlan 12 = .ok (.iconst 1, 1) := dk_4 (dk_at dksX3_isPlan_0 12 rfl rfl)
theorem dX3_isPlan_13 : decode cX3_isPlan 13 = .ok (.goto 4, 3) := dk_167 0 4 (dk_at dksX3_isPlan_0 13 rfl rfl)
theorem dX3_isPlan_16 : decode cX3_isPlan 16 = .ok (.iconst 0, 1) := dk_3 (dk_at dksX3_isPlan_0 16 rfl rfl)
theorem dX3_isPlan_17 : decode cX3_isPlan 17 = .ok (.ireturn, 1) := dk_172 (dk_at dksX3_isPlan_0 17 rfl rfl)
abbrev cX3_follow : ByteArray := prog_6_method_31_code
def yX3_follow : MethodName := ⟨RX3, "follow", "(I)V"⟩
def dkwX3_follow_9 : List UInt8 := [96, 181, 0, 169, 42, 42, 42, 180, 0, 172, 29, 182, 0, 165, 181, 0, 172, 132, 2, 1, 167, 255, 106, 177]
abbrev dktX3_follow_9 : List UInt8 := dkwX3_follow_9 ++ []
def dkwX3_follow_8 : List UInt8 := [184, 0, 143, 4, 100, 92, 46, 4, 96, 79, 42, 89, 180, 0, 169, 42, 42, 180, 0, 172, 29, 182, 0, 178]
abbrev dktX3_follow_8 : List UInt8 := dkwX3_follow_8 ++ dktX3_follow_9
def dkwX3_follow_7 : List UInt8 := [184, 0, 143, 92, 46, 4, 96, 79, 29, 16, 7, 160, 0, 21, 42, 180, 0, 72, 42, 180, 0, 172]
abbrev dktX3_follow_7 : List UInt8 := dkwX3_follow_7 ++ dktX3_follow_8
def dkwX3_follow_6 : List UInt8 := [180, 0, 172, 5, 108, 92, 46, 4, 96, 79, 29, 16, 6, 160, 0, 19, 42, 180, 0, 72, 42, 180, 0, 172]
abbrev dktX3_follow_6 : List UInt8 := dkwX3_follow_6 ++ dktX3_follow_7
def dkwX3_follow_5 : List UInt8 := [159, 0, 14, 42, 180, 0, 66, 21, 4, 92, 46, 4, 96, 79, 29, 154, 0, 18, 42, 180, 0, 69, 42]
abbrev dktX3_follow_5 : List UInt8 := dkwX3_follow_5 ++ dktX3_follow_6
def dkwX3_follow_4 : List UInt8 := [17, 1, 144, 27, 104, 28, 96, 46, 62, 42, 42, 180, 0, 172, 29, 182, 0, 175, 54, 4, 21, 4, 2]
abbrev dktX3_follow_4 : List UInt8 := dkwX3_follow_4 ++ dktX3_follow_5
def dkwX3_follow_3 : List UInt8 := [180, 0, 57, 27, 46, 181, 0, 172, 3, 61, 28, 42, 180, 0, 54, 27, 46, 162, 0, 146, 42, 180, 0, 60]
abbrev dktX3_follow_3 : List UInt8 := dkwX3_follow_3 ++ dktX3_follow_4
def dkwX3_follow_2 : List UInt8 := [162, 0, 16, 42, 180, 0, 72, 28, 3, 79, 132, 2, 1, 167, 255, 241, 42, 3, 181, 0, 169, 42, 42]
abbrev dktX3_follow_2 : List UInt8 := dkwX3_follow_2 ++ dktX3_follow_3
def dkwX3_follow_1 : List UInt8 := [16, 30, 162, 0, 16, 42, 180, 0, 69, 28, 3, 79, 132, 2, 1, 167, 255, 240, 3, 61, 28, 8]
abbrev dktX3_follow_1 : List UInt8 := dkwX3_follow_1 ++ dktX3_follow_2
def dkwX3_follow_0 : List UInt8 := [3, 61, 28, 16, 55, 162, 0, 16, 42, 180, 0, 66, 28, 3, 79, 132, 2, 1, 167, 255, 240, 3, 61, 28]
abbrev dktX3_follow_0 : List UInt8 := dkwX3_follow_0 ++ dktX3_follow_1
theorem dksX3_follow_0 : cX3_follow.data.toList.drop 0 = dktX3_follow_0 := by decide +kernel
theorem dksX3_follow_1 : cX3_follow.data.toList.drop 24 = dktX3_follow_1 := dk_seg dksX3_follow_0 24 rfl rfl
theorem dksX3_follow_2 : cX3_follow.data.toList.drop 46 = dktX3_follow_2 := dk_seg dksX3_follow_1 22 rfl rfl
theorem dksX3_follow_3 : cX3_follow.data.toList.drop 69 = dktX3_follow_3 := dk_seg dksX3_follow_2 23 rfl rfl
theorem dksX3_follow_4 : cX3_follow.data.toList.drop 93 = dktX3_follow_4 := dk_seg dksX3_follow_3 24 rfl rfl
theorem dksX3_follow_5 : cX3_follow.data.toList.drop 116 = dktX3_follow_5 := dk_seg dksX3_follow_4 23 rfl rfl
theorem dksX3_follow_6 : cX3_follow.data.toList.drop 139 = dktX3_follow_6 := dk_seg dksX3_follow_5 23 rfl rfl
theorem dksX3_follow_7 : cX3_follow.data.toList.drop 163 = dktX3_follow_7 := dk_seg dksX3_follow_6 24 rfl rfl
theorem dksX3_follow_8 : cX3_follow.data.toList.drop 185 = dktX3_follow_8 := dk_seg dksX3_follow_7 22 rfl rfl
theorem dksX3_follow_9 : cX3_follow.data.toList.drop 209 = dktX3_follow_9 := dk_seg dksX3_follow_8 24 rfl rfl
theorem dX3_follow_0 : decode cX3_follow 0 = .ok (.iconst 0, 1) := dk_3 (dk_at dksX3_follow_0 0 rfl rfl)
theorem dX3_follow_1 : decode cX3_follow 1 = .ok (.istore_n 2, 1) := dk_61 (dk_at dksX3_follow_0 1 rfl rfl)
theorem dX3_follow_2 : decode cX3_follow 2 = .ok (.iload_n 2, 1) := dk_28 (dk_at dksX3_follow_0 2 rfl rfl)
theorem dX3_follow_3 : decode cX3_follow 3 = .ok (.bipush 55, 2) := dk_16 55 (dk_at dksX3_follow_0 3 rfl rfl)
theorem dX3_follow_5 : decode cX3_follow 5 = .ok (.if_icmp .ge 16, 3) := dk_162 0 16 (dk_at dksX3_follow_0 5 rfl rfl)
theorem dX3_follow_8 : decode cX3_follow 8 = .ok (.aload_n 0, 1) := dk_42 (dk_at dksX3_follow_0 8 rfl rfl)
theorem dX3_follow_9 : decode cX3_follow 9 = .ok (.getfield 66, 3) := dk_180 0 66 (dk_at dksX3_follow_0 9 rfl rfl)
theorem dX3_follow_12 : decode cX3_follow 12 = .ok (.iload_n 2, 1) := dk_28 (dk_at dksX3_follow_0 12 rfl rfl)
theorem dX3_follow_13 : decode cX3_follow 13 = .ok (.iconst 0, 1) := dk_3 (dk_at dksX3_follow_0 13 rfl rfl)
theorem dX3_follow_14 : decode cX3_follow 14 = .ok (.iastore, 1) := dk_79 (dk_at dksX3_follow_0 14 rfl rfl)
theorem dX3_follow_15 : decode cX3_follow 15 = .ok (.iinc 2 1, 3) := dk_132 2 1 (dk_at dksX3_follow_0 15 rfl rfl)
theorem dX3_follow_18 : decode cX3_follow 18 = .ok (.goto (-16), 3) := dk_167 255 240 (dk_at dksX3_follow_0 18 rfl rfl)
theorem dX3_follow_21 : decode cX3_follow 21 = .ok (.iconst 0, 1) := dk_3 (dk_at dksX3_follow_0 21 rfl rfl)
theorem dX3_follow_22 : decode cX3_follow 22 = .ok (.istore_n 2, 1) := dk_61 (dk_at dksX3_follow_0 22 rfl rfl)
theorem dX3_follow_23 : decode cX3_follow 23 = .ok (.iload_n 2, 1) := dk_28 (dk_at dksX3_follow_0 23 rfl rfl)
theorem dX3_follow_24 : decode cX3_follow 24 = .ok (.bipush 30, 2) := dk_16 30 (dk_at dksX3_follow_1 0 rfl rfl)
theorem dX3_follow_26 : decode cX3_follow 26 = .ok (.if_icmp .ge 16, 3) := dk_162 0 16 (dk_at dksX3_follow_1 2 rfl rfl)
theorem dX3_follow_29 : decode cX3_follow 29 = .ok (.aload_n 0, 1) := dk_42 (dk_at dksX3_follow_1 5 rfl rfl)
theorem dX3_follow_30 : decode cX3_follow 30 = .ok (.getfield 69, 3) := dk_180 0 69 (dk_at dksX3_follow_1 6 rfl rfl)
theorem dX3_follow_33 : decode cX3_follow 33 = .ok (.iload_n 2, 1) := dk_28 (dk_at dksX3_follow_1 9 rfl rfl)
theorem dX3_follow_34 : decode cX3_follow 34 = .ok (.iconst 0, 1) := dk_3 (dk_at dksX3_follow_1 10 rfl rfl)
theorem dX3_follow_35 : decode cX3_follow 35 = .ok (.iastore, 1) := dk_79 (dk_at dksX3_follow_1 11 rfl rfl)
theorem dX3_follow_36 : decode cX3_follow 36 = .ok (.iinc 2 1, 3) := dk_132 2 1 (dk_at dksX3_follow_1 12 rfl rfl)
theorem dX3_follow_39 : decode cX3_follow 39 = .ok (.goto (-16), 3) := dk_167 255 240 (dk_at dksX3_follow_1 15 rfl rfl)
theorem dX3_follow_42 : decode cX3_follow 42 = .ok (.iconst 0, 1) := dk_3 (dk_at dksX3_follow_1 18 rfl rfl)
theorem dX3_follow_43 : decode cX3_follow 43 = .ok (.istore_n 2, 1) := dk_61 (dk_at dksX3_follow_1 19 rfl rfl)
theorem dX3_follow_44 : decode cX3_follow 44 = .ok (.iload_n 2, 1) := dk_28 (dk_at dksX3_follow_1 20 rfl rfl)
theorem dX3_follow_45 : decode cX3_follow 45 = .ok (.iconst 5, 1) := dk_8 (dk_at dksX3_follow_1 21 rfl rfl)
theorem dX3_follow_46 : decode cX3_follow 46 = .ok (.if_icmp .ge 16, 3) := dk_162 0 16 (dk_at dksX3_follow_2 0 rfl rfl)
theorem dX3_follow_49 : decode cX3_follow 49 = .ok (.aload_n 0, 1) := dk_42 (dk_at dksX3_follow_2 3 rfl rfl)
theorem dX3_follow_50 : decode cX3_follow 50 = .ok (.getfield 72, 3) := dk_180 0 72 (dk_at dksX3_follow_2 4 rfl rfl)
theorem dX3_follow_53 : decode cX3_follow 53 = .ok (.iload_n 2, 1) := dk_28 (dk_at dksX3_follow_2 7 rfl rfl)
theorem dX3_follow_54 : decode cX3_follow 54 = .ok (.iconst 0, 1) := dk_3 (dk_at dksX3_follow_2 8 rfl rfl)
theorem dX3_follow_55 : decode cX3_follow 55 = .ok (.iastore, 1) := dk_79 (dk_at dksX3_follow_2 9 rfl rfl)
theorem dX3_follow_56 : decode cX3_follow 56 = .ok (.iinc 2 1, 3) := dk_132 2 1 (dk_at dksX3_follow_2 10 rfl rfl)
theorem dX3_follow_59 : decode cX3_follow 59 = .ok (.goto (-15), 3) := dk_167 255 241 (dk_at dksX3_follow_2 13 rfl rfl)
theorem dX3_follow_62 : decode cX3_follow 62 = .ok (.aload_n 0, 1) := dk_42 (dk_at dksX3_follow_2 16 rfl rfl)
theorem dX3_follow_63 : decode cX3_follow 63 = .ok (.iconst 0, 1) := dk_3 (dk_at dksX3_follow_2 17 rfl rfl)
theorem dX3_follow_64 : decode cX3_follow 64 = .ok (.putfield 169, 3) := dk_181 0 169 (dk_at dksX3_follow_2 18 rfl rfl)
theorem dX3_follow_67 : decode cX3_follow 67 = .ok (.aload_n 0, 1) := dk_42 (dk_at dksX3_follow_2 21 rfl rfl)
theorem dX3_follow_68 : decode cX3_follow 68 = .ok (.aload_n 0, 1) := dk_42 (dk_at dksX3_follow_2 22 rfl rfl)
theorem dX3_follow_69 : decode cX3_follow 69 = .ok (.getfield 57, 3) := dk_180 0 57 (dk_at dksX3_follow_3 0 rfl rfl)
theorem dX3_follow_72 : decode cX3_follow 72 = .ok (.iload_n 1, 1) := dk_27 (dk_at dksX3_follow_3 3 rfl rfl)
theorem dX3_follow_73 : decode cX3_follow 73 = .ok (.iaload, 1) := dk_46 (dk_at dksX3_follow_3 4 rfl rfl)
theorem dX3_follow_74 : decode cX3_follow 74 = .ok (.putfield 172, 3) := dk_181 0 172 (dk_at dksX3_follow_3 5 rfl rfl)
theorem dX3_follow_77 : decode cX3_follow 77 = .ok (.iconst 0, 1) := dk_3 (dk_at dksX3_follow_3 8 rfl rfl)
theorem dX3_follow_78 : decode cX3_follow 78 = .ok (.istore_n 2, 1) := dk_61 (dk_at dksX3_follow_3 9 rfl rfl)
theorem dX3_follow_79 : decode cX3_follow 79 = .ok (.iload_n 2, 1) := dk_28 (dk_at dksX3_follow_3 10 rfl rfl)
theorem dX3_follow_80 : decode cX3_follow 80 = .ok (.aload_n 0, 1) := dk_42 (dk_at dksX3_follow_3 11 rfl rfl)
theorem dX3_follow_81 : decode cX3_follow 81 = .ok (.getfield 54, 3) := dk_180 0 54 (dk_at dksX3_follow_3 12 rfl rfl)
theorem dX3_follow_84 : decode cX3_follow 84 = .ok (.iload_n 1, 1) := dk_27 (dk_at dksX3_follow_3 15 rfl rfl)
theorem dX3_follow_85 : decode cX3_follow 85 = .ok (.iaload, 1) := dk_46 (dk_at dksX3_follow_3 16 rfl rfl)
theorem dX3_follow_86 : decode cX3_follow 86 = .ok (.if_icmp .ge 146, 3) := dk_162 0 146 (dk_at dksX3_follow_3 17 rfl rfl)
theorem dX3_follow_89 : decode cX3_follow 89 = .ok (.aload_n 0, 1) := dk_42 (dk_at dksX3_follow_3 20 rfl rfl)
theorem dX3_follow_90 : decode cX3_follow 90 = .ok (.getfield 60, 3) := dk_180 0 60 (dk_at dksX3_follow_3 21 rfl rfl)
theorem dX3_follow_93 : decode cX3_follow 93 = .ok (.sipush 400, 3) := dk_17 1 144 (dk_at dksX3_follow_4 0 rfl rfl)
theorem dX3_follow_96 : decode cX3_follow 96 = .ok (.iload_n 1, 1) := dk_27 (dk_at dksX3_follow_4 3 rfl rfl)
theorem dX3_follow_97 : decode cX3_follow 97 = .ok (.imul, 1) := dk_104 (dk_at dksX3_follow_4 4 rfl rfl)
theorem dX3_follow_98 : decode cX3_follow 98 = .ok (.iload_n 2, 1) := dk_28 (dk_at dksX3_follow_4 5 rfl rfl)
theorem dX3_follow_99 : decode cX3_follow 99 = .ok (.iadd, 1) := dk_96 (dk_at dksX3_follow_4 6 rfl rfl)
theorem dX3_follow_100 : decode cX3_follow 100 = .ok (.iaload, 1) := dk_46 (dk_at dksX3_follow_4 7 rfl rfl)
theorem dX3_follow_101 : decode cX3_follow 101 = .ok (.istore_n 3, 1) := dk_62 (dk_at dksX3_follow_4 8 rfl rfl)
theorem dX3_follow_102 : decode cX3_follow 102 = .ok (.aload_n 0, 1) := dk_42 (dk_at dksX3_follow_4 9 rfl rfl)
theorem dX3_follow_103 : decode cX3_follow 103 = .ok (.aload_n 0, 1) := dk_42 (dk_at dksX3_follow_4 10 rfl rfl)
theorem dX3_follow_104 : decode cX3_follow 104 = .ok (.getfield 172, 3) := dk_180 0 172 (dk_at dksX3_follow_4 11 rfl rfl)
theorem dX3_follow_107 : decode cX3_follow 107 = .ok (.iload_n 3, 1) := dk_29 (dk_at dksX3_follow_4 14 rfl rfl)
theorem dX3_follow_108 : decode cX3_follow 108 = .ok (.invokevirtual 175, 3) := dk_182 0 175 (dk_at dksX3_follow_4 15 rfl rfl)
theorem dX3_follow_111 : decode cX3_follow 111 = .ok (.istore 4, 2) := dk_54 4 (dk_at dksX3_follow_4 18 rfl rfl)
theorem dX3_follow_113 : decode cX3_follow 113 = .ok (.iload 4, 2) := dk_21 4 (dk_at dksX3_follow_4 20 rfl rfl)
theorem dX3_follow_115 : decode cX3_follow 115 = .ok (.iconst (-1), 1) := dk_2 (dk_at dksX3_follow_4 22 rfl rfl)
theorem dX3_follow_116 : decode cX3_follow 116 = .ok (.if_icmp .eq 14, 3) := dk_159 0 14 (dk_at dksX3_follow_5 0 rfl rfl)
theorem dX3_follow_119 : decode cX3_follow 119 = .ok (.aload_n 0, 1) := dk_42 (dk_at dksX3_follow_5 3 rfl rfl)
theorem dX3_follow_120 : decode cX3_follow 120 = .ok (.getfield 66, 3) := dk_180 0 66 (dk_at dksX3_follow_5 4 rfl rfl)
theorem dX3_follow_123 : decode cX3_follow 123 = .ok (.iload 4, 2) := dk_21 4 (dk_at dksX3_follow_5 7 rfl rfl)
theorem dX3_follow_125 : decode cX3_follow 125 = .ok (.dup2, 1) := dk_92 (dk_at dksX3_follow_5 9 rfl rfl)
theorem dX3_follow_126 : decode cX3_follow 126 = .ok (.iaload, 1) := dk_46 (dk_at dksX3_follow_5 10 rfl rfl)
theorem dX3_follow_127 : decode cX3_follow 127 = .ok (.iconst 1, 1) := dk_4 (dk_at dksX3_follow_5 11 rfl rfl)
theorem dX3_follow_128 : decode cX3_follow 128 = .ok (.iadd, 1) := dk_96 (dk_at dksX3_follow_5 12 rfl rfl)
theorem dX3_follow_129 : decode cX3_follow 129 = .ok (.iastore, 1) := dk_79 (dk_at dksX3_follow_5 13 rfl rfl)
theorem dX3_follow_130 : decode cX3_follow 130 = .ok (.iload_n 3, 1) := dk_29 (dk_at dksX3_follow_5 14 rfl rfl)
theorem dX3_follow_131 : decode cX3_follow 131 = .ok (.ifCond .ne 18, 3) := dk_154 0 18 (dk_at dksX3_follow_5 15 rfl rfl)
theorem dX3_follow_134 : decode cX3_follow 134 = .ok (.aload_n 0, 1) := dk_42 (dk_at dksX3_follow_5 18 rfl rfl)
theorem dX3_follow_135 : decode cX3_follow 135 = .ok (.getfield 69, 3) := dk_180 0 69 (dk_at dksX3_follow_5 19 rfl rfl)
theorem dX3_follow_138 : decode cX3_follow 138 = .ok (.aload_n 0, 1) := dk_42 (dk_at dksX3_follow_5 22 rfl rfl)
theorem dX3_follow_139 : decode cX3_follow 139 = .ok (.getfield 172, 3) := dk_180 0 172 (dk_at dksX3_follow_6 0 rfl rfl)
theorem dX3_follow_142 : decode cX3_follow 142 = .ok (.iconst 2, 1) := dk_5 (dk_at dksX3_follow_6 3 rfl rfl)
theorem dX3_follow_143 : decode cX3_follow 143 = .ok (.idiv, 1) := dk_108 (dk_at dksX3_follow_6 4 rfl rfl)
theorem dX3_follow_144 : decode cX3_follow 144 = .ok (.dup2, 1) := dk_92 (dk_at dksX3_follow_6 5 rfl rfl)
theorem dX3_follow_145 : decode cX3_follow 145 = .ok (.iaload, 1) := dk_46 (dk_at dksX3_follow_6 6 rfl rfl)
theorem dX3_follow_146 : decode cX3_follow 146 = .ok (.iconst 1, 1) := dk_4 (dk_at dksX3_follow_6 7 rfl rfl)
theorem dX3_follow_147 : decode cX3_follow 147 = .ok (.iadd, 1) := dk_96 (dk_at dksX3_follow_6 8 rfl rfl)
theorem dX3_follow_148 : decode cX3_follow 148 = .ok (.iastore, 1) := dk_79 (dk_at dksX3_follow_6 9 rfl rfl)
theorem dX3_follow_149 : decode cX3_follow 149 = .ok (.iload_n 3, 1) := dk_29 (dk_at dksX3_follow_6 10 rfl rfl)
theorem dX3_follow_150 : decode cX3_follow 150 = .ok (.bipush 6, 2) := dk_16 6 (dk_at dksX3_follow_6 11 rfl rfl)
theorem dX3_follow_152 : decode cX3_follow 152 = .ok (.if_icmp .ne 19, 3) := dk_160 0 19 (dk_at dksX3_follow_6 13 rfl rfl)
theorem dX3_follow_155 : decode cX3_follow 155 = .ok (.aload_n 0, 1) := dk_42 (dk_at dksX3_follow_6 16 rfl rfl)
theorem dX3_follow_156 : decode cX3_follow 156 = .ok (.getfield 72, 3) := dk_180 0 72 (dk_at dksX3_follow_6 17 rfl rfl)
theorem dX3_follow_159 : decode cX3_follow 159 = .ok (.aload_n 0, 1) := dk_42 (dk_at dksX3_follow_6 20 rfl rfl)
theorem dX3_follow_160 : decode cX3_follow 160 = .ok (.getfield 172, 3) := dk_180 0 172 (dk_at dksX3_follow_6 21 rfl rfl)
theorem dX3_follow_163 : decode cX3_follow 163 = .ok (.invokestatic 143, 3) := dk_184 0 143 (dk_at dksX3_follow_7 0 rfl rfl)
theorem dX3_follow_166 : decode cX3_follow 166 = .ok (.dup2, 1) := dk_92 (dk_at dksX3_follow_7 3 rfl rfl)
theorem dX3_follow_167 : decode cX3_follow 167 = .ok (.iaload, 1) := dk_46 (dk_at dksX3_follow_7 4 rfl rfl)
theorem dX3_follow_168 : decode cX3_follow 168 = .ok (.iconst 1, 1) := dk_4 (dk_at dksX3_follow_7 5 rfl rfl)
theorem dX3_follow_169 : decode cX3_follow 169 = .ok (.iadd, 1) := dk_96 (dk_at dksX3_follow_7 6 rfl rfl)
theorem dX3_follow_170 : decode cX3_follow 170 = .ok (.iastore, 1) := dk_79 (dk_at dksX3_follow_7 7 rfl rfl)
theorem dX3_follow_171 : decode cX3_follow 171 = .ok (.iload_n 3, 1) := dk_29 (dk_at dksX3_follow_7 8 rfl rfl)
theorem dX3_follow_172 : decode cX3_follow 172 = .ok (.bipush 7, 2) := dk_16 7 (dk_at dksX3_follow_7 9 rfl rfl)
theorem dX3_follow_174 : decode cX3_follow 174 = .ok (.if_icmp .ne 21, 3) := dk_160 0 21 (dk_at dksX3_follow_7 11 rfl rfl)
theorem dX3_follow_177 : decode cX3_follow 177 = .ok (.aload_n 0, 1) := dk_42 (dk_at dksX3_follow_7 14 rfl rfl)
theorem dX3_follow_178 : decode cX3_follow 178 = .ok (.getfield 72, 3) := dk_180 0 72 (dk_at dksX3_follow_7 15 rfl rfl)
theorem dX3_follow_181 : decode cX3_follow 181 = .ok (.aload_n 0, 1) := dk_42 (dk_at dksX3_follow_7 18 rfl rfl)
theorem dX3_follow_182 : decode cX3_follow 182 = .ok (.getfield 172, 3) := dk_180 0 172 (dk_at dksX3_follow_7 19 rfl rfl)
theorem dX3_follow_185 : decode cX3_follow 185 = .ok (.invokestatic 143, 3) := dk_184 0 143 (dk_at dksX3_follow_8 0 rfl rfl)
theorem dX3_follow_188 : decode cX3_follow 188 = .ok (.iconst 1, 1) := dk_4 (dk_at dksX3_follow_8 3 rfl rfl)
theorem dX3_follow_189 : decode cX3_follow 189 = .ok (.isub, 1) := dk_100 (dk_at dksX3_follow_8 4 rfl rfl)
theorem dX3_follow_190 : decode cX3_follow 190 = .ok (.dup2, 1) := dk_92 (dk_at dksX3_follow_8 5 rfl rfl)
theorem dX3_follow_191 : decode cX3_follow 191 = .ok (.iaload, 1) := dk_46 (dk_at dksX3_follow_8 6 rfl rfl)
theorem dX3_follow_192 : decode cX3_follow 192 = .ok (.iconst 1, 1) := dk_4 (dk_at dksX3_follow_8 7 rfl rfl)
theorem dX3_follow_193 : decode cX3_follow 193 = .ok (.iadd, 1) := dk_96 (dk_at dksX3_follow_8 8 rfl rfl)
theorem dX3_follow_194 : decode cX3_follow 194 = .ok (.iastore, 1) := dk_79 (dk_at dksX3_follow_8 9 rfl rfl)
theorem dX3_follow_195 : decode cX3_follow 195 = .ok (.aload_n 0, 1) := dk_42 (dk_at dksX3_follow_8 10 rfl rfl)
theorem dX3_follow_196 : decode cX3_follow 196 = .ok (.dup, 1) := dk_89 (dk_at dksX3_follow_8 11 rfl rfl)
theorem dX3_follow_197 : decode cX3_follow 197 = .ok (.getfield 169, 3) := dk_180 0 169 (dk_at dksX3_follow_8 12 rfl rfl)
theorem dX3_follow_200 : decode cX3_follow 200 = .ok (.aload_n 0, 1) := dk_42 (dk_at dksX3_follow_8 15 rfl rfl)
theorem dX3_follow_201 : decode cX3_follow 201 = .ok (.aload_n 0, 1) := dk_42 (dk_at dksX3_follow_8 16 rfl rfl)
theorem dX3_follow_202 : decode cX3_follow 202 = .ok (.getfield 172, 3) := dk_180 0 172 (dk_at dksX3_follow_8 17 rfl rfl)
theorem dX3_follow_205 : decode cX3_follow 205 = .ok (.iload_n 3, 1) := dk_29 (dk_at dksX3_follow_8 20 rfl rfl)
theorem dX3_follow_206 : decode cX3_follow 206 = .ok (.invokevirtual 178, 3) := dk_182 0 178 (dk_at dksX3_follow_8 21 rfl rfl)
theorem dX3_follow_209 : decode cX3_follow 209 = .ok (.iadd, 1) := dk_96 (dk_at dksX3_follow_9 0 rfl rfl)
theorem dX3_follow_210 : decode cX3_follow 210 = .ok (.putfield 169, 3) := dk_181 0 169 (dk_at dksX3_follow_9 1 rfl rfl)
theorem dX3_follow_213 : decode cX3_follow 213 = .ok (.aload_n 0, 1) := dk_42 (dk_at dksX3_follow_9 4 rfl rfl)
theorem dX3_follow_214 : decode cX3_follow 214 = .ok (.aload_n 0, 1) := dk_42 (dk_at dksX3_follow_9 5 rfl rfl)
theorem dX3_follow_215 : decode cX3_follow 215 = .ok (.aload_n 0, 1) := dk_42 (dk_at dksX3_follow_9 6 rfl rfl)
theorem dX3_follow_216 : decode cX3_follow 216 = .ok (.getfield 172, 3) := dk_180 0 172 (dk_at dksX3_follow_9 7 rfl rfl)
theorem dX3_follow_219 : decode cX3_follow 219 = .ok (.iload_n 3, 1) := dk_29 (dk_at dksX3_follow_9 10 rfl rfl)
theorem dX3_follow_220 : decode cX3_follow 220 = .ok (.invokevirtual 165, 3) := dk_182 0 165 (dk_at dksX3_follow_9 11 rfl rfl)
theorem dX3_follow_223 : decode cX3_follow 223 = .ok (.putfield 172, 3) := dk_181 0 172 (dk_at dksX3_follow_9 14 rfl rfl)
theorem dX3_follow_226 : decode cX3_follow 226 = .ok (.iinc 2 1, 3) := dk_132 2 1 (dk_at dksX3_follow_9 17 rfl rfl)
theorem dX3_follow_229 : decode cX3_follow 229 = .ok (.goto (-150), 3) := dk_167 255 106 (dk_at dksX3_follow_9 20 rfl rfl)
theorem dX3_follow_232 : decode cX3_follow 232 = .ok (.return_, 1) := dk_177 (dk_at dksX3_follow_9 23 rfl rfl)
abbrev cX3_alongOf : ByteArray := prog_6_method_25_code
def yX3_alongOf : MethodName := ⟨RX3, "alongOf", "(II)I"⟩
def dkwX3_alongOf_4 : List UInt8 := [42, 180, 0, 47, 21, 5, 46, 21, 4, 160, 0, 6, 21, 5, 172, 132, 5, 1, 167, 255, 204, 2, 172]
abbrev dktX3_alongOf_4 : List UInt8 := dkwX3_alongOf_4 ++ []
def dkwX3_alongOf_3 : List UInt8 := [180, 0, 41, 21, 5, 46, 27, 184, 0, 143, 160, 0, 29, 42, 180, 0, 44, 21, 5, 46, 29, 160, 0, 18]
abbrev dktX3_alongOf_3 : List UInt8 := dkwX3_alongOf_3 ++ dktX3_alongOf_4
def dkwX3_alongOf_2 : List UInt8 := [162, 0, 7, 5, 167, 0, 4, 4, 54, 4, 3, 54, 5, 21, 5, 42, 180, 0, 116, 162, 0, 49, 42]
abbrev dktX3_alongOf_2 : List UInt8 := dkwX3_alongOf_2 ++ dktX3_alongOf_3
def dkwX3_alongOf_1 : List UInt8 := [184, 0, 140, 4, 100, 167, 0, 7, 27, 184, 0, 140, 62, 28, 6, 162, 0, 7, 3, 167, 0, 13, 28, 8]
abbrev dktX3_alongOf_1 : List UInt8 := dkwX3_alongOf_1 ++ dktX3_alongOf_2
def dkwX3_alongOf_0 : List UInt8 := [28, 153, 0, 8, 28, 8, 164, 0, 5, 2, 172, 28, 5, 159, 0, 8, 28, 7, 160, 0, 12, 27]
abbrev dktX3_alongOf_0 : List UInt8 := dkwX3_alongOf_0 ++ dktX3_alongOf_1
theorem dksX3_alongOf_0 : cX3_alongOf.data.toList.drop 0 = dktX3_alongOf_0 := by decide +kernel
theorem dksX3_alongOf_1 : cX3_alongOf.data.toList.drop 22 = dktX3_alongOf_1 := dk_seg dksX3_alongOf_0 22 rfl rfl
theorem dksX3_alongOf_2 : cX3_alongOf.data.toList.drop 46 = dktX3_alongOf_2 := dk_seg dksX3_alongOf_1 24 rfl rfl
theorem dksX3_alongOf_3 : cX3_alongOf.data.toList.drop 69 = dktX3_alongOf_3 := dk_seg dksX3_alongOf_2 23 rfl rfl
theorem dksX3_alongOf_4 : cX3_alongOf.data.toList.drop 93 = dktX3_alongOf_4 := dk_seg dksX3_alongOf_3 24 rfl rfl
theorem dX3_alongOf_0 : decode cX3_alongOf 0 = .ok (.iload_n 2, 1) := dk_28 (dk_at dksX3_alongOf_0 0 rfl rfl)
theorem dX3_alongOf_1 : decode cX3_alongOf 1 = .ok (.ifCond .eq 8, 3) := dk_153 0 8 (dk_at dksX3_alongOf_0 1 rfl rfl)
theorem dX3_alongOf_4 : decode cX3_alongOf 4 = .ok (.iload_n 2, 1) := dk_28 (dk_at dksX3_alongOf_0 4 rfl rfl)
theorem dX3_alongOf_5 : decode cX3_alongOf 5 = .ok (.iconst 5, 1) := dk_8 (dk_at dksX3_alongOf_0 5 rfl rfl)
theorem dX3_alongOf_6 : decode cX3_alongOf 6 = .ok (.if_icmp .le 5, 3) := dk_164 0 5 (dk_at dksX3_alongOf_0 6 rfl rfl)
theorem dX3_alongOf_9 : decode cX3_alongOf 9 = .ok (.iconst (-1), 1) := dk_2 (dk_at dksX3_alongOf_0 9 rfl rfl)
theorem dX3_alongOf_10 : decode cX3_alongOf 10 = .ok (.ireturn, 1) := dk_172 (dk_at dksX3_alongOf_0 10 rfl rfl)
theorem dX3_alongOf_11 : decode cX3_alongOf 11 = .ok (.iload_n 2, 1) := dk_28 (dk_at dksX3_alongOf_0 11 rfl rfl)
theorem dX3_alongOf_12 : decode cX3_alongOf 12 = .ok (.iconst 2, 1) := dk_5 (dk_at dksX3_alongOf_0 12 rfl rfl)
theorem dX3_alongOf_13 : decode cX3_alongOf 13 = .ok (.if_icmp .eq 8, 3) := dk_159 0 8 (dk_at dksX3_alongOf_0 13 rfl rfl)
theorem dX3_alongOf_16 : decode cX3_alongOf 16 = .ok (.iload_n 2, 1) := dk_28 (dk_at dksX3_alongOf_0 16 rfl rfl)
theorem dX3_alongOf_17 : decode cX3_alongOf 17 = .ok (.iconst 4, 1) := dk_7 (dk_at dksX3_alongOf_0 17 rfl rfl)
theorem dX3_alongOf_18 : decode cX3_alongOf 18 = .ok (.if_icmp .ne 12, 3) := dk_160 0 12 (dk_at dksX3_alongOf_0 18 rfl rfl)
theorem dX3_alongOf_21 : decode cX3_alongOf 21 = .ok (.iload_n 1, 1) := dk_27 (dk_at dksX3_alongOf_0 21 rfl rfl)
theorem dX3_alongOf_22 : decode cX3_alongOf 22 = .ok (.invokestatic 140, 3) := dk_184 0 140 (dk_at dksX3_alongOf_1 0 rfl rfl)
theorem dX3_alongOf_25 : decode cX3_alongOf 25 = .ok (.iconst 1, 1) := dk_4 (dk_at dksX3_alongOf_1 3 rfl rfl)
theorem dX3_alongOf_26 : decode cX3_alongOf 26 = .ok (.isub, 1) := dk_100 (dk_at dksX3_alongOf_1 4 rfl rfl)
theorem dX3_alongOf_27 : decode cX3_alongOf 27 = .ok (.goto 7, 3) := dk_167 0 7 (dk_at dksX3_alongOf_1 5 rfl rfl)
theorem dX3_alongOf_30 : decode cX3_alongOf 30 = .ok (.iload_n 1, 1) := dk_27 (dk_at dksX3_alongOf_1 8 rfl rfl)
theorem dX3_alongOf_31 : decode cX3_alongOf 31 = .ok (.invokestatic 140, 3) := dk_184 0 140 (dk_at dksX3_alongOf_1 9 rfl rfl)
theorem dX3_alongOf_34 : decode cX3_alongOf 34 = .ok (.istore_n 3, 1) := dk_62 (dk_at dksX3_alongOf_1 12 rfl rfl)
theorem dX3_alongOf_35 : decode cX3_alongOf 35 = .ok (.iload_n 2, 1) := dk_28 (dk_at dksX3_alongOf_1 13 rfl rfl)
theorem dX3_alongOf_36 : decode cX3_alongOf 36 = .ok (.iconst 3, 1) := dk_6 (dk_at dksX3_alongOf_1 14 rfl rfl)
theorem dX3_alongOf_37 : decode cX3_alongOf 37 = .ok (.if_icmp .ge 7, 3) := dk_162 0 7 (dk_at dksX3_alongOf_1 15 rfl rfl)
theorem dX3_alongOf_40 : decode cX3_alongOf 40 = .ok (.iconst 0, 1) := dk_3 (dk_at dksX3_alongOf_1 18 rfl rfl)
theorem dX3_alongOf_41 : decode cX3_alongOf 41 = .ok (.goto 13, 3) := dk_167 0 13 (dk_at dksX3_alongOf_1 19 rfl rfl)
theorem dX3_alongOf_44 : decode cX3_alongOf 44 = .ok (.iload_n 2, 1) := dk_28 (dk_at dksX3_alongOf_1 22 rfl rfl)
theorem dX3_alongOf_45 : decode cX3_alongOf 45 = .ok (.iconst 5, 1) := dk_8 (dk_at dksX3_alongOf_1 23 rfl rfl)
theorem dX3_alongOf_46 : decode cX3_alongOf 46 = .ok (.if_icmp .ge 7, 3) := dk_162 0 7 (dk_at dksX3_alongOf_2 0 rfl rfl)
theorem dX3_alongOf_49 : decode cX3_alongOf 49 = .ok (.iconst 2, 1) := dk_5 (dk_at dksX3_alongOf_2 3 rfl rfl)
theorem dX3_alongOf_50 : decode cX3_alongOf 50 = .ok (.goto 4, 3) := dk_167 0 4 (dk_at dksX3_alongOf_2 4 rfl rfl)
theorem dX3_alongOf_53 : decode cX3_alongOf 53 = .ok (.iconst 1, 1) := dk_4 (dk_at dksX3_alongOf_2 7 rfl rfl)
theorem dX3_alongOf_54 : decode cX3_alongOf 54 = .ok (.istore 4, 2) := dk_54 4 (dk_at dksX3_alongOf_2 8 rfl rfl)
theorem dX3_alongOf_56 : decode cX3_alongOf 56 = .ok (.iconst 0, 1) := dk_3 (dk_at dksX3_alongOf_2 10 rfl rfl)
theorem dX3_alongOf_57 : decode cX3_alongOf 57 = .ok (.istore 5, 2) := dk_54 5 (dk_at dksX3_alongOf_2 11 rfl rfl)
theorem dX3_alongOf_59 : decode cX3_alongOf 59 = .ok (.iload 5, 2) := dk_21 5 (dk_at dksX3_alongOf_2 13 rfl rfl)
theorem dX3_alongOf_61 : decode cX3_alongOf 61 = .ok (.aload_n 0, 1) := dk_42 (dk_at dksX3_alongOf_2 15 rfl rfl)
theorem dX3_alongOf_62 : decode cX3_alongOf 62 = .ok (.getfield 116, 3) := dk_180 0 116 (dk_at dksX3_alongOf_2 16 rfl rfl)
theorem dX3_alongOf_65 : decode cX3_alongOf 65 = .ok (.if_icmp .ge 49, 3) := dk_162 0 49 (dk_at dksX3_alongOf_2 19 rfl rfl)
theorem dX3_alongOf_68 : decode cX3_alongOf 68 = .ok (.aload_n 0, 1) := dk_42 (dk_at dksX3_alongOf_2 22 rfl rfl)
theorem dX3_alongOf_69 : decode cX3_alongOf 69 = .ok (.getfield 41, 3) := dk_180 0 41 (dk_at dksX3_alongOf_3 0 rfl rfl)
theorem dX3_alongOf_72 : decode cX3_alongOf 72 = .ok (.iload 5, 2) := dk_21 5 (dk_at dksX3_alongOf_3 3 rfl rfl)
theorem dX3_alongOf_74 : decode cX3_alongOf 74 = .ok (.iaload, 1) := dk_46 (dk_at dksX3_alongOf_3 5 rfl rfl)
theorem dX3_alongOf_75 : decode cX3_alongOf 75 = .ok (.iload_n 1, 1) := dk_27 (dk_at dksX3_alongOf_3 6 rfl rfl)
theorem dX3_alongOf_76 : decode cX3_alongOf 76 = .ok (.invokestatic 143, 3) := dk_184 0 143 (dk_at dksX3_alongOf_3 7 rfl rfl)
theorem dX3_alongOf_79 : decode cX3_alongOf 79 = .ok (.if_icmp .ne 29, 3) := dk_160 0 29 (dk_at dksX3_alongOf_3 10 rfl rfl)
theorem dX3_alongOf_82 : decode cX3_alongOf 82 = .ok (.aload_n 0, 1) := dk_42 (dk_at dksX3_alongOf_3 13 rfl rfl)
theorem dX3_alongOf_83 : decode cX3_alongOf 83 = .ok (.getfield 44, 3) := dk_180 0 44 (dk_at dksX3_alongOf_3 14 rfl rfl)
theorem dX3_alongOf_86 : decode cX3_alongOf 86 = .ok (.iload 5, 2) := dk_21 5 (dk_at dksX3_alongOf_3 17 rfl rfl)
theorem dX3_alongOf_88 : decode cX3_alongOf 88 = .ok (.iaload, 1) := dk_46 (dk_at dksX3_alongOf_3 19 rfl rfl)
theorem dX3_alongOf_89 : decode cX3_alongOf 89 = .ok (.iload_n 3, 1) := dk_29 (dk_at dksX3_alongOf_3 20 rfl rfl)
theorem dX3_alongOf_90 : decode cX3_alongOf 90 = .ok (.if_icmp .ne 18, 3) := dk_160 0 18 (dk_at dksX3_alongOf_3 21 rfl rfl)
theorem dX3_alongOf_93 : decode cX3_alongOf 93 = .ok (.aload_n 0, 1) := dk_42 (dk_at dksX3_alongOf_4 0 rfl rfl)
theorem dX3_alongOf_94 : decode cX3_alongOf 94 = .ok (.getfield 47, 3) := dk_180 0 47 (dk_at dksX3_alongOf_4 1 rfl rfl)
theorem dX3_alongOf_97 : decode cX3_alongOf 97 = .ok (.iload 5, 2) := dk_21 5 (dk_at dksX3_alongOf_4 4 rfl rfl)
theorem dX3_alongOf_99 : decode cX3_alongOf 99 = .ok (.iaload, 1) := dk_46 (dk_at dksX3_alongOf_4 6 rfl rfl)
theorem dX3_alongOf_100 : decode cX3_alongOf 100 = .ok (.iload 4, 2) := dk_21 4 (dk_at dksX3_alongOf_4 7 rfl rfl)
theorem dX3_alongOf_102 : decode cX3_alongOf 102 = .ok (.if_icmp .ne 6, 3) := dk_160 0 6 (dk_at dksX3_alongOf_4 9 rfl rfl)
theorem dX3_alongOf_105 : decode cX3_alongOf 105 = .ok (.iload 5, 2) := dk_21 5 (dk_at dksX3_alongOf_4 12 rfl rfl)
theorem dX3_alongOf_107 : decode cX3_alongOf 107 = .ok (.ireturn, 1) := dk_172 (dk_at dksX3_alongOf_4 14 rfl rfl)
theorem dX3_alongOf_108 : decode cX3_alongOf 108 = .ok (.iinc 5 1, 3) := dk_132 5 1 (dk_at dksX3_alongOf_4 15 rfl rfl)
theorem dX3_alongOf_111 : decode cX3_alongOf 111 = .ok (.goto (-52), 3) := dk_167 255 204 (dk_at dksX3_alongOf_4 18 rfl rfl)
theorem dX3_alongOf_114 : decode cX3_alongOf 114 = .ok (.iconst (-1), 1) := dk_2 (dk_at dksX3_alongOf_4 21 rfl rfl)
theorem dX3_alongOf_115 : decode cX3_alongOf 115 = .ok (.ireturn, 1) := dk_172 (dk_at dksX3_alongOf_4 22 rfl rfl)
abbrev cX3_longOf : ByteArray := prog_6_method_24_code
def yX3_longOf : MethodName := ⟨RX3, "longOf", "(II)I"⟩
def dkwX3_longOf_6 : List UInt8 := [180, 0, 28, 21, 4, 46, 42, 180, 0, 28, 21, 4, 4, 100, 46, 96, 4, 96, 5, 108, 172]
abbrev dktX3_longOf_6 : List UInt8 := dkwX3_longOf_6 ++ []
def dkwX3_longOf_5 : List UInt8 := [42, 180, 0, 28, 21, 4, 46, 42, 180, 0, 28, 21, 4, 4, 96, 46, 96, 4, 96, 5, 108, 172, 42]
abbrev dktX3_longOf_5 : List UInt8 := dkwX3_longOf_5 ++ dktX3_longOf_6
def dkwX3_longOf_4 : List UInt8 := [100, 5, 96, 172, 42, 180, 0, 32, 29, 46, 42, 180, 0, 32, 29, 4, 100, 46, 100, 5, 96, 172, 7, 172]
abbrev dktX3_longOf_4 : List UInt8 := dkwX3_longOf_4 ++ dktX3_longOf_5
def dkwX3_longOf_3 : List UInt8 := [42, 180, 0, 32, 29, 4, 100, 46, 100, 172, 42, 180, 0, 32, 29, 4, 96, 46, 42, 180, 0, 32, 29, 46]
abbrev dktX3_longOf_3 : List UInt8 := dkwX3_longOf_3 ++ dktX3_longOf_4
def dkwX3_longOf_2 : List UInt8 := [4, 172, 42, 180, 0, 32, 29, 4, 96, 46, 42, 180, 0, 32, 29, 46, 100, 172, 42, 180, 0, 32, 29, 46]
abbrev dktX3_longOf_2 : List UInt8 := dkwX3_longOf_2 ++ dktX3_longOf_3
def dkwX3_longOf_1 : List UInt8 := [170, 0, 0, 0, 0, 0, 0, 138, 0, 0, 0, 0, 0, 0, 0, 6, 0, 0, 0, 44, 0, 0, 0, 46, 0, 0, 0, 62, 0, 0, 0, 78, 0, 0, 0, 96, 0, 0, 0, 114, 0, 0, 0, 116]
abbrev dktX3_longOf_1 : List UInt8 := dkwX3_longOf_1 ++ dktX3_longOf_2
def dkwX3_longOf_0 : List UInt8 := [27, 184, 0, 140, 62, 27, 184, 0, 143, 54, 4, 28]
abbrev dktX3_longOf_0 : List UInt8 := dkwX3_longOf_0 ++ dktX3_longOf_1
theorem dksX3_longOf_0 : cX3_longOf.data.toList.drop 0 = dktX3_longOf_0 := by decide +kernel
theorem dksX3_longOf_1 : cX3_longOf.data.toList.drop 12 = dktX3_longOf_1 := dk_seg dksX3_longOf_0 12 rfl rfl
theorem dksX3_longOf_2 : cX3_longOf.data.toList.drop 56 = dktX3_longOf_2 := dk_seg dksX3_longOf_1 44 rfl rfl
theorem dksX3_longOf_3 : cX3_longOf.data.toList.drop 80 = dktX3_longOf_3 := dk_seg dksX3_longOf_2 24 rfl rfl
theorem dksX3_longOf_4 : cX3_longOf.data.toList.drop 104 = dktX3_longOf_4 := dk_seg dksX3_longOf_3 24 rfl rfl
theorem dksX3_longOf_5 : cX3_longOf.data.toList.drop 128 = dktX3_longOf_5 := dk_seg dksX3_longOf_4 24 rfl rfl
theorem dksX3_longOf_6 : cX3_longOf.data.toList.drop 151 = dktX3_longOf_6 := dk_seg dksX3_longOf_5 23 rfl rfl
theorem dX3_longOf_0 : decode cX3_longOf 0 = .ok (.iload_n 1, 1) := dk_27 (dk_at dksX3_longOf_0 0 rfl rfl)
theorem dX3_longOf_1 : decode cX3_longOf 1 = .ok (.invokestatic 140, 3) := dk_184 0 140 (dk_at dksX3_longOf_0 1 rfl rfl)
theorem dX3_longOf_4 : decode cX3_longOf 4 = .ok (.istore_n 3, 1) := dk_62 (dk_at dksX3_longOf_0 4 rfl rfl)
theorem dX3_longOf_5 : decode cX3_longOf 5 = .ok (.iload_n 1, 1) := dk_27 (dk_at dksX3_longOf_0 5 rfl rfl)
theorem dX3_longOf_6 : decode cX3_longOf 6 = .ok (.invokestatic 143, 3) := dk_184 0 143 (dk_at dksX3_longOf_0 6 rfl rfl)
theorem dX3_longOf_9 : decode cX3_longOf 9 = .ok (.istore 4, 2) := dk_54 4 (dk_at dksX3_longOf_0 9 rfl rfl)
theorem dX3_longOf_11 : decode cX3_longOf 11 = .ok (.iload_n 2, 1) := dk_28 (dk_at dksX3_longOf_0 11 rfl rfl)
theorem dX3_longOf_12 : decode cX3_longOf 12 = .ok (.tableswitch 138 0 6 #[44, 46, 62, 78, 96, 114, 116], 44) := by decide +kernel
theorem dX3_longOf_56 : decode cX3_longOf 56 = .ok (.iconst 1, 1) := dk_4 (dk_at dksX3_longOf_2 0 rfl rfl)
theorem dX3_longOf_57 : decode cX3_longOf 57 = .ok (.ireturn, 1) := dk_172 (dk_at dksX3_longOf_2 1 rfl rfl)
theorem dX3_longOf_58 : decode cX3_longOf 58 = .ok (.aload_n 0, 1) := dk_42 (dk_at dksX3_longOf_2 2 rfl rfl)
theorem dX3_longOf_59 : decode cX3_longOf 59 = .ok (.getfield 32, 3) := dk_180 0 32 (dk_at dksX3_longOf_2 3 rfl rfl)
theorem dX3_longOf_62 : decode cX3_longOf 62 = .ok (.iload_n 3, 1) := dk_29 (dk_at dksX3_longOf_2 6 rfl rfl)
theorem dX3_longOf_63 : decode cX3_longOf 63 = .ok (.iconst 1, 1) := dk_4 (dk_at dksX3_longOf_2 7 rfl rfl)
theorem dX3_longOf_64 : decode cX3_longOf 64 = .ok (.iadd, 1) := dk_96 (dk_at dksX3_longOf_2 8 rfl rfl)
theorem dX3_longOf_65 : decode cX3_longOf 65 = .ok (.iaload, 1) := dk_46 (dk_at dksX3_longOf_2 9 rfl rfl)
theorem dX3_longOf_66 : decode cX3_longOf 66 = .ok (.aload_n 0, 1) := dk_42 (dk_at dksX3_longOf_2 10 rfl rfl)
theorem dX3_longOf_67 : decode cX3_longOf 67 = .ok (.getfield 32, 3) := dk_180 0 32 (dk_at dksX3_longOf_2 11 rfl rfl)
theorem dX3_longOf_70 : decode cX3_longOf 70 = .ok (.iload_n 3, 1) := dk_29 (dk_at dksX3_longOf_2 14 rfl rfl)
theorem dX3_longOf_71 : decode cX3_longOf 71 = .ok (.iaload, 1) := dk_46 (dk_at dksX3_longOf_2 15 rfl rfl)
theorem dX3_longOf_72 : decode cX3_longOf 72 = .ok (.isub, 1) := dk_100 (dk_at dksX3_longOf_2 16 rfl rfl)
theorem dX3_longOf_73 : decode cX3_longOf 73 = .ok (.ireturn, 1) := dk_172 (dk_at dksX3_longOf_2 17 rfl rfl)
theorem dX3_longOf_74 : decode cX3_longOf 74 = .ok (.aload_n 0, 1) := dk_42 (dk_at dksX3_longOf_2 18 rfl rfl)
theorem dX3_longOf_75 : decode cX3_longOf 75 = .ok (.getfield 32, 3) := dk_180 0 32 (dk_at dksX3_longOf_2 19 rfl rfl)
theorem dX3_longOf_78 : decode cX3_longOf 78 = .ok (.iload_n 3, 1) := dk_29 (dk_at dksX3_longOf_2 22 rfl rfl)
theorem dX3_longOf_79 : decode cX3_longOf 79 = .ok (.iaload, 1) := dk_46 (dk_at dksX3_longOf_2 23 rfl rfl)
theorem dX3_longOf_80 : decode cX3_longOf 80 = .ok (.aload_n 0, 1) := dk_42 (dk_at dksX3_longOf_3 0 rfl rfl)
theorem dX3_longOf_81 : decode cX3_longOf 81 = .ok (.getfield 32, 3) := dk_180 0 32 (dk_at dksX3_longOf_3 1 rfl rfl)
theorem dX3_longOf_84 : decode cX3_longOf 84 = .ok (.iload_n 3, 1) := dk_29 (dk_at dksX3_longOf_3 4 rfl rfl)
theorem dX3_longOf_85 : decode cX3_longOf 85 = .ok (.iconst 1, 1) := dk_4 (dk_at dksX3_longOf_3 5 rfl rfl)
theorem dX3_longOf_86 : decode cX3_longOf 86 = .ok (.isub, 1) := dk_100 (dk_at dksX3_longOf_3 6 rfl rfl)
theorem dX3_longOf_87 : decode cX3_longOf 87 = .ok (.iaload, 1) := dk_46 (dk_at dksX3_longOf_3 7 rfl rfl)
theorem dX3_longOf_88 : decode cX3_longOf 88 = .ok (.isub, 1) := dk_100 (dk_at dksX3_longOf_3 8 rfl rfl)
theorem dX3_longOf_89 : decode cX3_longOf 89 = .ok (.ireturn, 1) := dk_172 (dk_at dksX3_longOf_3 9 rfl rfl)
theorem dX3_longOf_90 : decode cX3_longOf 90 = .ok (.aload_n 0, 1) := dk_42 (dk_at dksX3_longOf_3 10 rfl rfl)
theorem dX3_longOf_91 : decode cX3_longOf 91 = .ok (.getfield 32, 3) := dk_180 0 32 (dk_at dksX3_longOf_3 11 rfl rfl)
theorem dX3_longOf_94 : decode cX3_longOf 94 = .ok (.iload_n 3, 1) := dk_29 (dk_at dksX3_longOf_3 14 rfl rfl)
theorem dX3_longOf_95 : decode cX3_longOf 95 = .ok (.iconst 1, 1) := dk_4 (dk_at dksX3_longOf_3 15 rfl rfl)
theorem dX3_longOf_96 : decode cX3_longOf 96 = .ok (.iadd, 1) := dk_96 (dk_at dksX3_longOf_3 16 rfl rfl)
theorem dX3_longOf_97 : decode cX3_longOf 97 = .ok (.iaload, 1) := dk_46 (dk_at dksX3_longOf_3 17 rfl rfl)
theorem dX3_longOf_98 : decode cX3_longOf 98 = .ok (.aload_n 0, 1) := dk_42 (dk_at dksX3_longOf_3 18 rfl rfl)
theorem dX3_longOf_99 : decode cX3_longOf 99 = .ok (.getfield 32, 3) := dk_180 0 32 (dk_at dksX3_longOf_3 19 rfl rfl)
theorem dX3_longOf_102 : decode cX3_longOf 102 = .ok (.iload_n 3, 1) := dk_29 (dk_at dksX3_longOf_3 22 rfl rfl)
theorem dX3_longOf_103 : decode cX3_longOf 103 = .ok (.iaload, 1) := dk_46 (dk_at dksX3_longOf_3 23 rfl rfl)
theorem dX3_longOf_104 : decode cX3_longOf 104 = .ok (.isub, 1) := dk_100 (dk_at dksX3_longOf_4 0 rfl rfl)
theorem dX3_longOf_105 : decode cX3_longOf 105 = .ok (.iconst 2, 1) := dk_5 (dk_at dksX3_longOf_4 1 rfl rfl)
theorem dX3_longOf_106 : decode cX3_longOf 106 = .ok (.iadd, 1) := dk_96 (dk_at dksX3_longOf_4 2 rfl rfl)
theorem dX3_longOf_107 : decode cX3_longOf 107 = .ok (.ireturn, 1) := dk_172 (dk_at dksX3_longOf_4 3 rfl rfl)
theorem dX3_longOf_108 : decode cX3_longOf 108 = .ok (.aload_n 0, 1) := dk_42 (dk_at dksX3_longOf_4 4 rfl rfl)
theorem dX3_longOf_109 : decode cX3_longOf 109 = .ok (.getfield 32, 3) := dk_180 0 32 (dk_at dksX3_longOf_4 5 rfl rfl)
theorem dX3_longOf_112 : decode cX3_longOf 112 = .ok (.iload_n 3, 1) := dk_29 (dk_at dksX3_longOf_4 8 rfl rfl)
theorem dX3_longOf_113 : decode cX3_longOf 113 = .ok (.iaload, 1) := dk_46 (dk_at dksX3_longOf_4 9 rfl rfl)
theorem dX3_longOf_114 : decode cX3_longOf 114 = .ok (.aload_n 0, 1) := dk_42 (dk_at dksX3_longOf_4 10 rfl rfl)
theorem dX3_longOf_115 : decode cX3_longOf 115 = .ok (.getfield 32, 3) := dk_180 0 32 (dk_at dksX3_longOf_4 11 rfl rfl)
theorem dX3_longOf_118 : decode cX3_longOf 118 = .ok (.iload_n 3, 1) := dk_29 (dk_at dksX3_longOf_4 14 rfl rfl)
theorem dX3_longOf_119 : decode cX3_longOf 119 = .ok (.iconst 1, 1) := dk_4 (dk_at dksX3_longOf_4 15 rfl rfl)
theorem dX3_longOf_120 : decode cX3_longOf 120 = .ok (.isub, 1) := dk_100 (dk_at dksX3_longOf_4 16 rfl rfl)
theorem dX3_longOf_121 : decode cX3_longOf 121 = .ok (.iaload, 1) := dk_46 (dk_at dksX3_longOf_4 17 rfl rfl)
theorem dX3_longOf_122 : decode cX3_longOf 122 = .ok (.isub, 1) := dk_100 (dk_at dksX3_longOf_4 18 rfl rfl)
theorem dX3_longOf_123 : decode cX3_longOf 123 = .ok (.iconst 2, 1) := dk_5 (dk_at dksX3_longOf_4 19 rfl rfl)
theorem dX3_longOf_124 : decode cX3_longOf 124 = .ok (.iadd, 1) := dk_96 (dk_at dksX3_longOf_4 20 rfl rfl)
theorem dX3_longOf_125 : decode cX3_longOf 125 = .ok (.ireturn, 1) := dk_172 (dk_at dksX3_longOf_4 21 rfl rfl)
theorem dX3_longOf_126 : decode cX3_longOf 126 = .ok (.iconst 4, 1) := dk_7 (dk_at dksX3_longOf_4 22 rfl rfl)
theorem dX3_longOf_127 : decode cX3_longOf 127 = .ok (.ireturn, 1) := dk_172 (dk_at dksX3_longOf_4 23 rfl rfl)
theorem dX3_longOf_128 : decode cX3_longOf 128 = .ok (.aload_n 0, 1) := dk_42 (dk_at dksX3_longOf_5 0 rfl rfl)
theorem dX3_longOf_129 : decode cX3_longOf 129 = .ok (.getfield 28, 3) := dk_180 0 28 (dk_at dksX3_longOf_5 1 rfl rfl)
theorem dX3_longOf_132 : decode cX3_longOf 132 = .ok (.iload 4, 2) := dk_21 4 (dk_at dksX3_longOf_5 4 rfl rfl)
theorem dX3_longOf_134 : decode cX3_longOf 134 = .ok (.iaload, 1) := dk_46 (dk_at dksX3_longOf_5 6 rfl rfl)
theorem dX3_longOf_135 : decode cX3_longOf 135 = .ok (.aload_n 0, 1) := dk_42 (dk_at dksX3_longOf_5 7 rfl rfl)
theorem dX3_longOf_136 : decode cX3_longOf 136 = .ok (.getfield 28, 3) := dk_180 0 28 (dk_at dksX3_longOf_5 8 rfl rfl)
theorem dX3_longOf_139 : decode cX3_longOf 139 = .ok (.iload 4, 2) := dk_21 4 (dk_at dksX3_longOf_5 11 rfl rfl)
theorem dX3_longOf_141 : decode cX3_longOf 141 = .ok (.iconst 1, 1) := dk_4 (dk_at dksX3_longOf_5 13 rfl rfl)
theorem dX3_longOf_142 : decode cX3_longOf 142 = .ok (.iadd, 1) := dk_96 (dk_at dksX3_longOf_5 14 rfl rfl)
theorem dX3_longOf_143 : decode cX3_longOf 143 = .ok (.iaload, 1) := dk_46 (dk_at dksX3_longOf_5 15 rfl rfl)
theorem dX3_longOf_144 : decode cX3_longOf 144 = .ok (.iadd, 1) := dk_96 (dk_at dksX3_longOf_5 16 rfl rfl)
theorem dX3_longOf_145 : decode cX3_longOf 145 = .ok (.iconst 1, 1) := dk_4 (dk_at dksX3_longOf_5 17 rfl rfl)
theorem dX3_longOf_146 : decode cX3_longOf 146 = .ok (.iadd, 1) := dk_96 (dk_at dksX3_longOf_5 18 rfl rfl)
theorem dX3_longOf_147 : decode cX3_longOf 147 = .ok (.iconst 2, 1) := dk_5 (dk_at dksX3_longOf_5 19 rfl rfl)
theorem dX3_longOf_148 : decode cX3_longOf 148 = .ok (.idiv, 1) := dk_108 (dk_at dksX3_longOf_5 20 rfl rfl)
theorem dX3_longOf_149 : decode cX3_longOf 149 = .ok (.ireturn, 1) := dk_172 (dk_at dksX3_longOf_5 21 rfl rfl)
theorem dX3_longOf_150 : decode cX3_longOf 150 = .ok (.aload_n 0, 1) := dk_42 (dk_at dksX3_longOf_5 22 rfl rfl)
theorem dX3_longOf_151 : decode cX3_longOf 151 = .ok (.getfield 28, 3) := dk_180 0 28 (dk_at dksX3_longOf_6 0 rfl rfl)
theorem dX3_longOf_154 : decode cX3_longOf 154 = .ok (.iload 4, 2) := dk_21 4 (dk_at dksX3_longOf_6 3 rfl rfl)
theorem dX3_longOf_156 : decode cX3_longOf 156 = .ok (.iaload, 1) := dk_46 (dk_at dksX3_longOf_6 5 rfl rfl)
theorem dX3_longOf_157 : decode cX3_longOf 157 = .ok (.aload_n 0, 1) := dk_42 (dk_at dksX3_longOf_6 6 rfl rfl)
theorem dX3_longOf_158 : decode cX3_longOf 158 = .ok (.getfield 28, 3) := dk_180 0 28 (dk_at dksX3_longOf_6 7 rfl rfl)
theorem dX3_longOf_161 : decode cX3_longOf 161 = .ok (.iload 4, 2) := dk_21 4 (dk_at dksX3_longOf_6 10 rfl rfl)
theorem dX3_longOf_163 : decode cX3_longOf 163 = .ok (.iconst 1, 1) := dk_4 (dk_at dksX3_longOf_6 12 rfl rfl)
theorem dX3_longOf_164 : decode cX3_longOf 164 = .ok (.isub, 1) := dk_100 (dk_at dksX3_longOf_6 13 rfl rfl)
theorem dX3_longOf_165 : decode cX3_longOf 165 = .ok (.iaload, 1) := dk_46 (dk_at dksX3_longOf_6 14 rfl rfl)
theorem dX3_longOf_166 : decode cX3_longOf 166 = .ok (.iadd, 1) := dk_96 (dk_at dksX3_longOf_6 15 rfl rfl)
theorem dX3_longOf_167 : decode cX3_longOf 167 = .ok (.iconst 1, 1) := dk_4 (dk_at dksX3_longOf_6 16 rfl rfl)
theorem dX3_longOf_168 : decode cX3_longOf 168 = .ok (.iadd, 1) := dk_96 (dk_at dksX3_longOf_6 17 rfl rfl)
theorem dX3_longOf_169 : decode cX3_longOf 169 = .ok (.iconst 2, 1) := dk_5 (dk_at dksX3_longOf_6 18 rfl rfl)
theorem dX3_longOf_170 : decode cX3_longOf 170 = .ok (.idiv, 1) := dk_108 (dk_at dksX3_longOf_6 19 rfl rfl)
theorem dX3_longOf_171 : decode cX3_longOf 171 = .ok (.ireturn, 1) := dk_172 (dk_at dksX3_longOf_6 20 rfl rfl)
abbrev cX3_isWhole : ByteArray := prog_6_method_32_code
def yX3_isWhole : MethodName := ⟨RX3, "isWhole", "()Z"⟩
def dkwX3_isWhole_2 : List UInt8 := [27, 172]
abbrev dktX3_isWhole_2 : List UInt8 := dkwX3_isWhole_2 ++ []
def dkwX3_isWhole_1 : List UInt8 := [153, 0, 12, 42, 180, 0, 66, 28, 46, 158, 0, 7, 4, 167, 0, 4, 3, 60, 132, 2, 1, 167, 255, 217]
abbrev dktX3_isWhole_1 : List UInt8 := dkwX3_isWhole_1 ++ dktX3_isWhole_2
def dkwX3_isWhole_0 : List UInt8 := [4, 60, 3, 61, 28, 42, 180, 0, 116, 162, 0, 37, 27, 153, 0, 25, 42, 180, 0, 50, 28, 51]
abbrev dktX3_isWhole_0 : List UInt8 := dkwX3_isWhole_0 ++ dktX3_isWhole_1
theorem dksX3_isWhole_0 : cX3_isWhole.data.toList.drop 0 = dktX3_isWhole_0 := by decide +kernel
theorem dksX3_isWhole_1 : cX3_isWhole.data.toList.drop 22 = dktX3_isWhole_1 := dk_seg dksX3_isWhole_0 22 rfl rfl
theorem dksX3_isWhole_2 : cX3_isWhole.data.toList.drop 46 = dktX3_isWhole_2 := dk_seg dksX3_isWhole_1 24 rfl rfl
theorem dX3_isWhole_0 : decode cX3_isWhole 0 = .ok (.iconst 1, 1) := dk_4 (dk_at dksX3_isWhole_0 0 rfl rfl)
theorem dX3_isWhole_1 : decode cX3_isWhole 1 = .ok (.istore_n 1, 1) := dk_60 (dk_at dksX3_isWhole_0 1 rfl rfl)
theorem dX3_isWhole_2 : decode cX3_isWhole 2 = .ok (.iconst 0, 1) := dk_3 (dk_at dksX3_isWhole_0 2 rfl rfl)
theorem dX3_isWhole_3 : decode cX3_isWhole 3 = .ok (.istore_n 2, 1) := dk_61 (dk_at dksX3_isWhole_0 3 rfl rfl)
theorem dX3_isWhole_4 : decode cX3_isWhole 4 = .ok (.iload_n 2, 1) := dk_28 (dk_at dksX3_isWhole_0 4 rfl rfl)
theorem dX3_isWhole_5 : decode cX3_isWhole 5 = .ok (.aload_n 0, 1) := dk_42 (dk_at dksX3_isWhole_0 5 rfl rfl)
theorem dX3_isWhole_6 : decode cX3_isWhole 6 = .ok (.getfield 116, 3) := dk_180 0 116 (dk_at dksX3_isWhole_0 6 rfl rfl)
theorem dX3_isWhole_9 : decode cX3_isWhole 9 = .ok (.if_icmp .ge 37, 3) := dk_162 0 37 (dk_at dksX3_isWhole_0 9 rfl rfl)
theorem dX3_isWhole_12 : decode cX3_isWhole 12 = .ok (.iload_n 1, 1) := dk_27 (dk_at dksX3_isWhole_0 12 rfl rfl)
theorem dX3_isWhole_13 : decode cX3_isWhole 13 = .ok (.ifCond .eq 25, 3) := dk_153 0 25 (dk_at dksX3_isWhole_0 13 rfl rfl)
theorem dX3_isWhole_16 : decode cX3_isWhole 16 = .ok (.aload_n 0, 1) := dk_42 (dk_at dksX3_isWhole_0 16 rfl rfl)
theorem dX3_isWhole_17 : decode cX3_isWhole 17 = .ok (.getfield 50, 3) := dk_180 0 50 (dk_at dksX3_isWhole_0 17 rfl rfl)
theorem dX3_isWhole_20 : decode cX3_isWhole 20 = .ok (.iload_n 2, 1) := dk_28 (dk_at dksX3_isWhole_0 20 rfl rfl)
theorem dX3_isWhole_21 : decode cX3_isWhole 21 = .ok (.baload, 1) := dk_51 (dk_at dksX3_isWhole_0 21 rfl rfl)
theorem dX3_isWhole_22 : decode cX3_isWhole 22 = .ok (.ifCond .eq 12, 3) := dk_153 0 12 (dk_at dksX3_isWhole_1 0 rfl rfl)
theorem dX3_isWhole_25 : decode cX3_isWhole 25 = .ok (.aload_n 0, 1) := dk_42 (dk_at dksX3_isWhole_1 3 rfl rfl)
theorem dX3_isWhole_26 : decode cX3_isWhole 26 = .ok (.getfield 66, 3) := dk_180 0 66 (dk_at dksX3_isWhole_1 4 rfl rfl)
theorem dX3_isWhole_29 : decode cX3_isWhole 29 = .ok (.iload_n 2, 1) := dk_28 (dk_at dksX3_isWhole_1 7 rfl rfl)
theorem dX3_isWhole_30 : decode cX3_isWhole 30 = .ok (.iaload, 1) := dk_46 (dk_at dksX3_isWhole_1 8 rfl rfl)
theorem dX3_isWhole_31 : decode cX3_isWhole 31 = .ok (.ifCond .le 7, 3) := dk_158 0 7 (dk_at dksX3_isWhole_1 9 rfl rfl)
theorem dX3_isWhole_34 : decode cX3_isWhole 34 = .ok (.iconst 1, 1) := dk_4 (dk_at dksX3_isWhole_1 12 rfl rfl)
theorem dX3_isWhole_35 : decode cX3_isWhole 35 = .ok (.goto 4, 3) := dk_167 0 4 (dk_at dksX3_isWhole_1 13 rfl rfl)
theorem dX3_isWhole_38 : decode cX3_isWhole 38 = .ok (.iconst 0, 1) := dk_3 (dk_at dksX3_isWhole_1 16 rfl rfl)
theorem dX3_isWhole_39 : decode cX3_isWhole 39 = .ok (.istore_n 1, 1) := dk_60 (dk_at dksX3_isWhole_1 17 rfl rfl)
theorem dX3_isWhole_40 : decode cX3_isWhole 40 = .ok (.iinc 2 1, 3) := dk_132 2 1 (dk_at dksX3_isWhole_1 18 rfl rfl)
theorem dX3_isWhole_43 : decode cX3_isWhole 43 = .ok (.goto (-39), 3) := dk_167 255 217 (dk_at dksX3_isWhole_1 21 rfl rfl)
theorem dX3_isWhole_46 : decode cX3_isWhole 46 = .ok (.iload_n 1, 1) := dk_27 (dk_at dksX3_isWhole_2 0 rfl rfl)
theorem dX3_isWhole_47 : decode cX3_isWhole 47 = .ok (.ireturn, 1) := dk_172 (dk_at dksX3_isWhole_2 1 rfl rfl)
abbrev cX3_isClean : ByteArray := prog_6_method_33_code
def yX3_isClean : MethodName := ⟨RX3, "isClean", "()Z"⟩
def dkwX3_isClean_2 : List UInt8 := [132, 2, 1, 167, 255, 212, 27, 172]
abbrev dktX3_isClean_2 : List UInt8 := dkwX3_isClean_2 ++ []
def dkwX3_isClean_1 : List UInt8 := [180, 0, 50, 28, 51, 153, 0, 7, 4, 167, 0, 4, 3, 160, 0, 7, 4, 167, 0, 4, 3, 60]
abbrev dktX3_isClean_1 : List UInt8 := dkwX3_isClean_1 ++ dktX3_isClean_2
def dkwX3_isClean_0 : List UInt8 := [4, 60, 3, 61, 28, 42, 180, 0, 116, 162, 0, 42, 27, 153, 0, 30, 42, 180, 0, 66, 28, 46, 42]
abbrev dktX3_isClean_0 : List UInt8 := dkwX3_isClean_0 ++ dktX3_isClean_1
theorem dksX3_isClean_0 : cX3_isClean.data.toList.drop 0 = dktX3_isClean_0 := by decide +kernel
theorem dksX3_isClean_1 : cX3_isClean.data.toList.drop 23 = dktX3_isClean_1 := dk_seg dksX3_isClean_0 23 rfl rfl
theorem dksX3_isClean_2 : cX3_isClean.data.toList.drop 45 = dktX3_isClean_2 := dk_seg dksX3_isClean_1 22 rfl rfl
theorem dX3_isClean_0 : decode cX3_isClean 0 = .ok (.iconst 1, 1) := dk_4 (dk_at dksX3_isClean_0 0 rfl rfl)
theorem dX3_isClean_1 : decode cX3_isClean 1 = .ok (.istore_n 1, 1) := dk_60 (dk_at dksX3_isClean_0 1 rfl rfl)
theorem dX3_isClean_2 : decode cX3_isClean 2 = .ok (.iconst 0, 1) := dk_3 (dk_at dksX3_isClean_0 2 rfl rfl)
theorem dX3_isClean_3 : decode cX3_isClean 3 = .ok (.istore_n 2, 1) := dk_61 (dk_at dksX3_isClean_0 3 rfl rfl)
theorem dX3_isClean_4 : decode cX3_isClean 4 = .ok (.iload_n 2, 1) := dk_28 (dk_at dksX3_isClean_0 4 rfl rfl)
theorem dX3_isClean_5 : decode cX3_isClean 5 = .ok (.aload_n 0, 1) := dk_42 (dk_at dksX3_isClean_0 5 rfl rfl)
theorem dX3_isClean_6 : decode cX3_isClean 6 = .ok (.getfield 116, 3) := dk_180 0 116 (dk_at dksX3_isClean_0 6 rfl rfl)
theorem dX3_isClean_9 : decode cX3_isClean 9 = .ok (.if_icmp .ge 42, 3) := dk_162 0 42 (dk_at dksX3_isClean_0 9 rfl rfl)
theorem dX3_isClean_12 : decode cX3_isClean 12 = .ok (.iload_n 1, 1) := dk_27 (dk_at dksX3_isClean_0 12 rfl rfl)
theorem dX3_isClean_13 : decode cX3_isClean 13 = .ok (.ifCond .eq 30, 3) := dk_153 0 30 (dk_at dksX3_isClean_0 13 rfl rfl)
theorem dX3_isClean_16 : decode cX3_isClean 16 = .ok (.aload_n 0, 1) := dk_42 (dk_at dksX3_isClean_0 16 rfl rfl)
theorem dX3_isClean_17 : decode cX3_isClean 17 = .ok (.getfield 66, 3) := dk_180 0 66 (dk_at dksX3_isClean_0 17 rfl rfl)
theorem dX3_isClean_20 : decode cX3_isClean 20 = .ok (.iload_n 2, 1) := dk_28 (dk_at dksX3_isClean_0 20 rfl rfl)
theorem dX3_isClean_21 : decode cX3_isClean 21 = .ok (.iaload, 1) := dk_46 (dk_at dksX3_isClean_0 21 rfl rfl)
theorem dX3_isClean_22 : decode cX3_isClean 22 = .ok (.aload_n 0, 1) := dk_42 (dk_at dksX3_isClean_0 22 rfl rfl)
theorem dX3_isClean_23 : decode cX3_isClean 23 = .ok (.getfield 50, 3) := dk_180 0 50 (dk_at dksX3_isClean_1 0 rfl rfl)
theorem dX3_isClean_26 : decode cX3_isClean 26 = .ok (.iload_n 2, 1) := dk_28 (dk_at dksX3_isClean_1 3 rfl rfl)
theorem dX3_isClean_27 : decode cX3_isClean 27 = .ok (.baload, 1) := dk_51 (dk_at dksX3_isClean_1 4 rfl rfl)
theorem dX3_isClean_28 : decode cX3_isClean 28 = .ok (.ifCond .eq 7, 3) := dk_153 0 7 (dk_at dksX3_isClean_1 5 rfl rfl)
theorem dX3_isClean_31 : decode cX3_isClean 31 = .ok (.iconst 1, 1) := dk_4 (dk_at dksX3_isClean_1 8 rfl rfl)
theorem dX3_isClean_32 : decode cX3_isClean 32 = .ok (.goto 4, 3) := dk_167 0 4 (dk_at dksX3_isClean_1 9 rfl rfl)
theorem dX3_isClean_35 : decode cX3_isClean 35 = .ok (.iconst 0, 1) := dk_3 (dk_at dksX3_isClean_1 12 rfl rfl)
theorem dX3_isClean_36 : decode cX3_isClean 36 = .ok (.if_icmp .ne 7, 3) := dk_160 0 7 (dk_at dksX3_isClean_1 13 rfl rfl)
theorem dX3_isClean_39 : decode cX3_isClean 39 = .ok (.iconst 1, 1) := dk_4 (dk_at dksX3_isClean_1 16 rfl rfl)
theorem dX3_isClean_40 : decode cX3_isClean 40 = .ok (.goto 4, 3) := dk_167 0 4 (dk_at dksX3_isClean_1 17 rfl rfl)
theorem dX3_isClean_43 : decode cX3_isClean 43 = .ok (.iconst 0, 1) := dk_3 (dk_at dksX3_isClean_1 20 rfl rfl)
theorem dX3_isClean_44 : decode cX3_isClean 44 = .ok (.istore_n 1, 1) := dk_60 (dk_at dksX3_isClean_1 21 rfl rfl)
theorem dX3_isClean_45 : decode cX3_isClean 45 = .ok (.iinc 2 1, 3) := dk_132 2 1 (dk_at dksX3_isClean_2 0 rfl rfl)
theorem dX3_isClean_48 : decode cX3_isClean 48 = .ok (.goto (-44), 3) := dk_167 255 212 (dk_at dksX3_isClean_2 3 rfl rfl)
theorem dX3_isClean_51 : decode cX3_isClean 51 = .ok (.iload_n 1, 1) := dk_27 (dk_at dksX3_isClean_2 6 rfl rfl)
theorem dX3_isClean_52 : decode cX3_isClean 52 = .ok (.ireturn, 1) := dk_172 (dk_at dksX3_isClean_2 7 rfl rfl)
abbrev cX3_along : ByteArray := prog_6_method_35_code
def yX3_along : MethodName := ⟨RX3, "along", "(II)I"⟩
def dkwX3_along_1 : List UInt8 := [182, 0, 136, 172, 42, 27, 182, 0, 184, 42, 180, 0, 66, 28, 46, 172]
abbrev dktX3_along_1 : List UInt8 := dkwX3_along_1 ++ []
def dkwX3_along_0 : List UInt8 := [42, 3, 181, 0, 104, 42, 27, 182, 0, 181, 153, 0, 11, 42, 28, 182, 0, 133, 154, 0, 9, 42, 4]
abbrev dktX3_along_0 : List UInt8 := dkwX3_along_0 ++ dktX3_along_1
theorem dksX3_along_0 : cX3_along.data.toList.drop 0 = dktX3_along_0 := by decide +kernel
theorem dksX3_along_1 : cX3_along.data.toList.drop 23 = dktX3_along_1 := dk_seg dksX3_along_0 23 rfl rfl
theorem dX3_along_0 : decode cX3_along 0 = .ok (.aload_n 0, 1) := dk_42 (dk_at dksX3_along_0 0 rfl rfl)
theorem dX3_along_1 : decode cX3_along 1 = .ok (.iconst 0, 1) := dk_3 (dk_at dksX3_along_0 1 rfl rfl)
theorem dX3_along_2 : decode cX3_along 2 = .ok (.putfield 104, 3) := dk_181 0 104 (dk_at dksX3_along_0 2 rfl rfl)
theorem dX3_along_5 : decode cX3_along 5 = .ok (.aload_n 0, 1) := dk_42 (dk_at dksX3_along_0 5 rfl rfl)
theorem dX3_along_6 : decode cX3_along 6 = .ok (.iload_n 1, 1) := dk_27 (dk_at dksX3_along_0 6 rfl rfl)
theorem dX3_along_7 : decode cX3_along 7 = .ok (.invokevirtual 181, 3) := dk_182 0 181 (dk_at dksX3_along_0 7 rfl rfl)
theorem dX3_along_10 : decode cX3_along 10 = .ok (.ifCond .eq 11, 3) := dk_153 0 11 (dk_at dksX3_along_0 10 rfl rfl)
theorem dX3_along_13 : decode cX3_along 13 = .ok (.aload_n 0, 1) := dk_42 (dk_at dksX3_along_0 13 rfl rfl)
theorem dX3_along_14 : decode cX3_along 14 = .ok (.iload_n 2, 1) := dk_28 (dk_at dksX3_along_0 14 rfl rfl)
theorem dX3_along_15 : decode cX3_along 15 = .ok (.invokevirtual 133, 3) := dk_182 0 133 (dk_at dksX3_along_0 15 rfl rfl)
theorem dX3_along_18 : decode cX3_along 18 = .ok (.ifCond .ne 9, 3) := dk_154 0 9 (dk_at dksX3_along_0 18 rfl rfl)
theorem dX3_along_21 : decode cX3_along 21 = .ok (.aload_n 0, 1) := dk_42 (dk_at dksX3_along_0 21 rfl rfl)
theorem dX3_along_22 : decode cX3_along 22 = .ok (.iconst 1, 1) := dk_4 (dk_at dksX3_along_0 22 rfl rfl)
theorem dX3_along_23 : decode cX3_along 23 = .ok (.invokevirtual 136, 3) := dk_182 0 136 (dk_at dksX3_along_1 0 rfl rfl)
theorem dX3_along_26 : decode cX3_along 26 = .ok (.ireturn, 1) := dk_172 (dk_at dksX3_along_1 3 rfl rfl)
theorem dX3_along_27 : decode cX3_along 27 = .ok (.aload_n 0, 1) := dk_42 (dk_at dksX3_along_1 4 rfl rfl)
theorem dX3_along_28 : decode cX3_along 28 = .ok (.iload_n 1, 1) := dk_27 (dk_at dksX3_along_1 5 rfl rfl)
theorem dX3_along_29 : decode cX3_along 29 = .ok (.invokevirtual 184, 3) := dk_182 0 184 (dk_at dksX3_along_1 6 rfl rfl)
theorem dX3_along_32 : decode cX3_along 32 = .ok (.aload_n 0, 1) := dk_42 (dk_at dksX3_along_1 9 rfl rfl)
theorem dX3_along_33 : decode cX3_along 33 = .ok (.getfield 66, 3) := dk_180 0 66 (dk_at dksX3_along_1 10 rfl rfl)
theorem dX3_along_36 : decode cX3_along 36 = .ok (.iload_n 2, 1) := dk_28 (dk_at dksX3_along_1 13 rfl rfl)
theorem dX3_along_37 : decode cX3_along 37 = .ok (.iaload, 1) := dk_46 (dk_at dksX3_along_1 14 rfl rfl)
theorem dX3_along_38 : decode cX3_along 38 = .ok (.ireturn, 1) := dk_172 (dk_at dksX3_along_1 15 rfl rfl)
abbrev cX3_holes : ByteArray := prog_6_method_36_code
def yX3_holes : MethodName := ⟨RX3, "holes", "(III)I"⟩
def dkwX3_holes_2 : List UInt8 := [104, 29, 96, 46, 172]
abbrev dktX3_holes_2 : List UInt8 := dkwX3_holes_2 ++ []
def dkwX3_holes_1 : List UInt8 := [182, 0, 130, 154, 0, 9, 42, 4, 182, 0, 136, 172, 42, 27, 182, 0, 184, 42, 180, 0, 69, 16, 6, 28]
abbrev dktX3_holes_1 : List UInt8 := dkwX3_holes_1 ++ dktX3_holes_2
def dkwX3_holes_0 : List UInt8 := [42, 3, 181, 0, 104, 42, 27, 182, 0, 181, 153, 0, 19, 42, 28, 182, 0, 123, 153, 0, 11, 42, 29]
abbrev dktX3_holes_0 : List UInt8 := dkwX3_holes_0 ++ dktX3_holes_1
theorem dksX3_holes_0 : cX3_holes.data.toList.drop 0 = dktX3_holes_0 := by decide +kernel
theorem dksX3_holes_1 : cX3_holes.data.toList.drop 23 = dktX3_holes_1 := dk_seg dksX3_holes_0 23 rfl rfl
theorem dksX3_holes_2 : cX3_holes.data.toList.drop 47 = dktX3_holes_2 := dk_seg dksX3_holes_1 24 rfl rfl
theorem dX3_holes_0 : decode cX3_holes 0 = .ok (.aload_n 0, 1) := dk_42 (dk_at dksX3_holes_0 0 rfl rfl)
theorem dX3_holes_1 : decode cX3_holes 1 = .ok (.iconst 0, 1) := dk_3 (dk_at dksX3_holes_0 1 rfl rfl)
theorem dX3_holes_2 : decode cX3_holes 2 = .ok (.putfield 104, 3) := dk_181 0 104 (dk_at dksX3_holes_0 2 rfl rfl)
theorem dX3_holes_5 : decode cX3_holes 5 = .ok (.aload_n 0, 1) := dk_42 (dk_at dksX3_holes_0 5 rfl rfl)
theorem dX3_holes_6 : decode cX3_holes 6 = .ok (.iload_n 1, 1) := dk_27 (dk_at dksX3_holes_0 6 rfl rfl)
theorem dX3_holes_7 : decode cX3_holes 7 = .ok (.invokevirtual 181, 3) := dk_182 0 181 (dk_at dksX3_holes_0 7 rfl rfl)
theorem dX3_holes_10 : decode cX3_holes 10 = .ok (.ifCond .eq 19, 3) := dk_153 0 19 (dk_at dksX3_holes_0 10 rfl rfl)
theorem dX3_holes_13 : decode cX3_holes 13 = .ok (.aload_n 0, 1) := dk_42 (dk_at dksX3_holes_0 13 rfl rfl)
theorem dX3_holes_14 : decode cX3_holes 14 = .ok (.iload_n 2, 1) := dk_28 (dk_at dksX3_holes_0 14 rfl rfl)
theorem dX3_holes_15 : decode cX3_holes 15 = .ok (.invokevirtual 123, 3) := dk_182 0 123 (dk_at dksX3_holes_0 15 rfl rfl)
theorem dX3_holes_18 : decode cX3_holes 18 = .ok (.ifCond .eq 11, 3) := dk_153 0 11 (dk_at dksX3_holes_0 18 rfl rfl)
theorem dX3_holes_21 : decode cX3_holes 21 = .ok (.aload_n 0, 1) := dk_42 (dk_at dksX3_holes_0 21 rfl rfl)
theorem dX3_holes_22 : decode cX3_holes 22 = .ok (.iload_n 3, 1) := dk_29 (dk_at dksX3_holes_0 22 rfl rfl)
theorem dX3_holes_23 : decode cX3_holes 23 = .ok (.invokevirtual 130, 3) := dk_182 0 130 (dk_at dksX3_holes_1 0 rfl rfl)
theorem dX3_holes_26 : decode cX3_holes 26 = .ok (.ifCond .ne 9, 3) := dk_154 0 9 (dk_at dksX3_holes_1 3 rfl rfl)
theorem dX3_holes_29 : decode cX3_holes 29 = .ok (.aload_n 0, 1) := dk_42 (dk_at dksX3_holes_1 6 rfl rfl)
theorem dX3_holes_30 : decode cX3_holes 30 = .ok (.iconst 1, 1) := dk_4 (dk_at dksX3_holes_1 7 rfl rfl)
theorem dX3_holes_31 : decode cX3_holes 31 = .ok (.invokevirtual 136, 3) := dk_182 0 136 (dk_at dksX3_holes_1 8 rfl rfl)
theorem dX3_holes_34 : decode cX3_holes 34 = .ok (.ireturn, 1) := dk_172 (dk_at dksX3_holes_1 11 rfl rfl)
theorem dX3_holes_35 : decode cX3_holes 35 = .ok (.aload_n 0, 1) := dk_42 (dk_at dksX3_holes_1 12 rfl rfl)
theorem dX3_holes_36 : decode cX3_holes 36 = .ok (.iload_n 1, 1) := dk_27 (dk_at dksX3_holes_1 13 rfl rfl)
theorem dX3_holes_37 : decode cX3_holes 37 = .ok (.invokevirtual 184, 3) := dk_182 0 184 (dk_at dksX3_holes_1 14 rfl rfl)
theorem dX3_holes_40 : decode cX3_holes 40 = .ok (.aload_n 0, 1) := dk_42 (dk_at dksX3_holes_1 17 rfl rfl)
theorem dX3_holes_41 : decode cX3_holes 41 = .ok (.getfield 69, 3) := dk_180 0 69 (dk_at dksX3_holes_1 18 rfl rfl)
theorem dX3_holes_44 : decode cX3_holes 44 = .ok (.bipush 6, 2) := dk_16 6 (dk_at dksX3_holes_1 21 rfl rfl)
theorem dX3_holes_46 : decode cX3_holes 46 = .ok (.iload_n 2, 1) := dk_28 (dk_at dksX3_holes_1 23 rfl rfl)
theorem dX3_holes_47 : decode cX3_holes 47 = .ok (.imul, 1) := dk_104 (dk_at dksX3_holes_2 0 rfl rfl)
theorem dX3_holes_48 : decode cX3_holes 48 = .ok (.iload_n 3, 1) := dk_29 (dk_at dksX3_holes_2 1 rfl rfl)
theorem dX3_holes_49 : decode cX3_holes 49 = .ok (.iadd, 1) := dk_96 (dk_at dksX3_holes_2 2 rfl rfl)
theorem dX3_holes_50 : decode cX3_holes 50 = .ok (.iaload, 1) := dk_46 (dk_at dksX3_holes_2 3 rfl rfl)
theorem dX3_holes_51 : decode cX3_holes 51 = .ok (.ireturn, 1) := dk_172 (dk_at dksX3_holes_2 4 rfl rfl)
abbrev cX3_tied : ByteArray := prog_6_method_37_code
def yX3_tied : MethodName := ⟨RX3, "tied", "(II)I"⟩
def dkwX3_tied_1 : List UInt8 := [161, 0, 9, 42, 4, 182, 0, 136, 172, 42, 27, 182, 0, 184, 42, 180, 0, 72, 28, 46, 172]
abbrev dktX3_tied_1 : List UInt8 := dkwX3_tied_1 ++ []
def dkwX3_tied_0 : List UInt8 := [42, 3, 181, 0, 104, 42, 27, 182, 0, 181, 153, 0, 17, 28, 155, 0, 13, 28, 42, 180, 0, 15, 4, 100]
abbrev dktX3_tied_0 : List UInt8 := dkwX3_tied_0 ++ dktX3_tied_1
theorem dksX3_tied_0 : cX3_tied.data.toList.drop 0 = dktX3_tied_0 := by decide +kernel
theorem dksX3_tied_1 : cX3_tied.data.toList.drop 24 = dktX3_tied_1 := dk_seg dksX3_tied_0 24 rfl rfl
theorem dX3_tied_0 : decode cX3_tied 0 = .ok (.aload_n 0, 1) := dk_42 (dk_at dksX3_tied_0 0 rfl rfl)
theorem dX3_tied_1 : decode cX3_tied 1 = .ok (.iconst 0, 1) := dk_3 (dk_at dksX3_tied_0 1 rfl rfl)
theorem dX3_tied_2 : decode cX3_tied 2 = .ok (.putfield 104, 3) := dk_181 0 104 (dk_at dksX3_tied_0 2 rfl rfl)
theorem dX3_tied_5 : decode cX3_tied 5 = .ok (.aload_n 0, 1) := dk_42 (dk_at dksX3_tied_0 5 rfl rfl)
theorem dX3_tied_6 : decode cX3_tied 6 = .ok (.iload_n 1, 1) := dk_27 (dk_at dksX3_tied_0 6 rfl rfl)
theorem dX3_tied_7 : decode cX3_tied 7 = .ok (.invokevirtual 181, 3) := dk_182 0 181 (dk_at dksX3_tied_0 7 rfl rfl)
theorem dX3_tied_10 : decode cX3_tied 10 = .ok (.ifCond .eq 17, 3) := dk_153 0 17 (dk_at dksX3_tied_0 10 rfl rfl)
theorem dX3_tied_13 : decode cX3_tied 13 = .ok (.iload_n 2, 1) := dk_28 (dk_at dksX3_tied_0 13 rfl rfl)
theorem dX3_tied_14 : decode cX3_tied 14 = .ok (.ifCond .lt 13, 3) := dk_155 0 13 (dk_at dksX3_tied_0 14 rfl rfl)
theorem dX3_tied_17 : decode cX3_tied 17 = .ok (.iload_n 2, 1) := dk_28 (dk_at dksX3_tied_0 17 rfl rfl)
theorem dX3_tied_18 : decode cX3_tied 18 = .ok (.aload_n 0, 1) := dk_42 (dk_at dksX3_tied_0 18 rfl rfl)
theorem dX3_tied_19 : decode cX3_tied 19 = .ok (.getfield 15, 3) := dk_180 0 15 (dk_at dksX3_tied_0 19 rfl rfl)
theorem dX3_tied_22 : decode cX3_tied 22 = .ok (.iconst 1, 1) := dk_4 (dk_at dksX3_tied_0 22 rfl rfl)
theorem dX3_tied_23 : decode cX3_tied 23 = .ok (.isub, 1) := dk_100 (dk_at dksX3_tied_0 23 rfl rfl)
theorem dX3_tied_24 : decode cX3_tied 24 = .ok (.if_icmp .lt 9, 3) := dk_161 0 9 (dk_at dksX3_tied_1 0 rfl rfl)
theorem dX3_tied_27 : decode cX3_tied 27 = .ok (.aload_n 0, 1) := dk_42 (dk_at dksX3_tied_1 3 rfl rfl)
theorem dX3_tied_28 : decode cX3_tied 28 = .ok (.iconst 1, 1) := dk_4 (dk_at dksX3_tied_1 4 rfl rfl)
theorem dX3_tied_29 : decode cX3_tied 29 = .ok (.invokevirtual 136, 3) := dk_182 0 136 (dk_at dksX3_tied_1 5 rfl rfl)
theorem dX3_tied_32 : decode cX3_tied 32 = .ok (.ireturn, 1) := dk_172 (dk_at dksX3_tied_1 8 rfl rfl)
theorem dX3_tied_33 : decode cX3_tied 33 = .ok (.aload_n 0, 1) := dk_42 (dk_at dksX3_tied_1 9 rfl rfl)
theorem dX3_tied_34 : decode cX3_tied 34 = .ok (.iload_n 1, 1) := dk_27 (dk_at dksX3_tied_1 10 rfl rfl)
theorem dX3_tied_35 : decode cX3_tied 35 = .ok (.invokevirtual 184, 3) := dk_182 0 184 (dk_at dksX3_tied_1 11 rfl rfl)
theorem dX3_tied_38 : decode cX3_tied 38 = .ok (.aload_n 0, 1) := dk_42 (dk_at dksX3_tied_1 14 rfl rfl)
theorem dX3_tied_39 : decode cX3_tied 39 = .ok (.getfield 72, 3) := dk_180 0 72 (dk_at dksX3_tied_1 15 rfl rfl)
theorem dX3_tied_42 : decode cX3_tied 42 = .ok (.iload_n 2, 1) := dk_28 (dk_at dksX3_tied_1 18 rfl rfl)
theorem dX3_tied_43 : decode cX3_tied 43 = .ok (.iaload, 1) := dk_46 (dk_at dksX3_tied_1 19 rfl rfl)
theorem dX3_tied_44 : decode cX3_tied 44 = .ok (.ireturn, 1) := dk_172 (dk_at dksX3_tied_1 20 rfl rfl)
abbrev cX3_swells : ByteArray := prog_6_method_38_code
def yX3_swells : MethodName := ⟨RX3, "swells", "(II)I"⟩
def dkwX3_swells_5 : List UInt8 := [46, 104, 96, 62, 132, 4, 1, 167, 255, 195, 29, 172]
abbrev dktX3_swells_5 : List UInt8 := dkwX3_swells_5 ++ []
def dkwX3_swells_4 : List UInt8 := [42, 180, 0, 44, 21, 4, 46, 4, 96, 28, 160, 0, 18, 29, 42, 180, 0, 22, 42, 180, 0, 66, 21, 4]
abbrev dktX3_swells_4 : List UInt8 := dkwX3_swells_4 ++ dktX3_swells_5
def dkwX3_swells_3 : List UInt8 := [162, 0, 58, 42, 180, 0, 47, 21, 4, 46, 154, 0, 42, 42, 180, 0, 44, 21, 4, 46, 28, 159, 0, 16]
abbrev dktX3_swells_3 : List UInt8 := dkwX3_swells_3 ++ dktX3_swells_4
def dkwX3_swells_2 : List UInt8 := [42, 180, 0, 28, 21, 4, 46, 96, 62, 132, 4, 1, 167, 255, 234, 3, 54, 4, 21, 4, 42, 180, 0, 116]
abbrev dktX3_swells_2 : List UInt8 := dkwX3_swells_2 ++ dktX3_swells_3
def dkwX3_swells_1 : List UInt8 := [182, 0, 136, 172, 42, 27, 182, 0, 184, 3, 62, 3, 54, 4, 21, 4, 42, 180, 0, 15, 162, 0, 19, 29]
abbrev dktX3_swells_1 : List UInt8 := dkwX3_swells_1 ++ dktX3_swells_2
def dkwX3_swells_0 : List UInt8 := [42, 3, 181, 0, 104, 42, 27, 182, 0, 181, 153, 0, 11, 42, 28, 182, 0, 130, 154, 0, 9, 42, 4]
abbrev dktX3_swells_0 : List UInt8 := dkwX3_swells_0 ++ dktX3_swells_1
theorem dksX3_swells_0 : cX3_swells.data.toList.drop 0 = dktX3_swells_0 := by decide +kernel
theorem dksX3_swells_1 : cX3_swells.data.toList.drop 23 = dktX3_swells_1 := dk_seg dksX3_swells_0 23 rfl rfl
theorem dksX3_swells_2 : cX3_swells.data.toList.drop 47 = dktX3_swells_2 := dk_seg dksX3_swells_1 24 rfl rfl
theorem dksX3_swells_3 : cX3_swells.data.toList.drop 71 = dktX3_swells_3 := dk_seg dksX3_swells_2 24 rfl rfl
theorem dksX3_swells_4 : cX3_swells.data.toList.drop 95 = dktX3_swells_4 := dk_seg dksX3_swells_3 24 rfl rfl
theorem dksX3_swells_5 : cX3_swells.data.toList.drop 119 = dktX3_swells_5 := dk_seg dksX3_swells_4 24 rfl rfl
theorem dX3_swells_0 : decode cX3_swells 0 = .ok (.aload_n 0, 1) := dk_42 (dk_at dksX3_swells_0 0 rfl rfl)
theorem dX3_swells_1 : decode cX3_swells 1 = .ok (.iconst 0, 1) := dk_3 (dk_at dksX3_swells_0 1 rfl rfl)
theorem dX3_swells_2 : decode cX3_swells 2 = .ok (.putfield 104, 3) := dk_181 0 104 (dk_at dksX3_swells_0 2 rfl rfl)
theorem dX3_swells_5 : decode cX3_swells 5 = .ok (.aload_n 0, 1) := dk_42 (dk_at dksX3_swells_0 5 rfl rfl)
theorem dX3_swells_6 : decode cX3_swells 6 = .ok (.iload_n 1, 1) := dk_27 (dk_at dksX3_swells_0 6 rfl rfl)
theorem dX3_swells_7 : decode cX3_swells 7 = .ok (.invokevirtual 181, 3) := dk_182 0 181 (dk_at dksX3_swells_0 7 rfl rfl)
theorem dX3_swells_10 : decode cX3_swells 10 = .ok (.ifCond .eq 11, 3) := dk_153 0 11 (dk_at dksX3_swells_0 10 rfl rfl)
theorem dX3_swells_13 : decode cX3_swells 13 = .ok (.aload_n 0, 1) := dk_42 (dk_at dksX3_swells_0 13 rfl rfl)
theorem dX3_swells_14 : decode cX3_swells 14 = .ok (.iload_n 2, 1) := dk_28 (dk_at dksX3_swells_0 14 rfl rfl)
theorem dX3_swells_15 : decode cX3_swells 15 = .ok (.invokevirtual 130, 3) := dk_182 0 130 (dk_at dksX3_swells_0 15 rfl rfl)
theorem dX3_swells_18 : decode cX3_swells 18 = .ok (.ifCond .ne 9, 3) := dk_154 0 9 (dk_at dksX3_swells_0 18 rfl rfl)
theorem dX3_swells_21 : decode cX3_swells 21 = .ok (.aload_n 0, 1) := dk_42 (dk_at dksX3_swells_0 21 rfl rfl)
theorem dX3_swells_22 : decode cX3_swells 22 = .ok (.iconst 1, 1) := dk_4 (dk_at dksX3_swells_0 22 rfl rfl)
theorem dX3_swells_23 : decode cX3_swells 23 = .ok (.invokevirtual 136, 3) := dk_182 0 136 (dk_at dksX3_swells_1 0 rfl rfl)
theorem dX3_swells_26 : decode cX3_swells 26 = .ok (.ireturn, 1) := dk_172 (dk_at dksX3_swells_1 3 rfl rfl)
theorem dX3_swells_27 : decode cX3_swells 27 = .ok (.aload_n 0, 1) := dk_42 (dk_at dksX3_swells_1 4 rfl rfl)
theorem dX3_swells_28 : decode cX3_swells 28 = .ok (.iload_n 1, 1) := dk_27 (dk_at dksX3_swells_1 5 rfl rfl)
theorem dX3_swells_29 : decode cX3_swells 29 = .ok (.invokevirtual 184, 3) := dk_182 0 184 (dk_at dksX3_swells_1 6 rfl rfl)
theorem dX3_swells_32 : decode cX3_swells 32 = .ok (.iconst 0, 1) := dk_3 (dk_at dksX3_swells_1 9 rfl rfl)
theorem dX3_swells_33 : decode cX3_swells 33 = .ok (.istore_n 3, 1) := dk_62 (dk_at dksX3_swells_1 10 rfl rfl)
theorem dX3_swells_34 : decode cX3_swells 34 = .ok (.iconst 0, 1) := dk_3 (dk_at dksX3_swells_1 11 rfl rfl)
theorem dX3_swells_35 : decode cX3_swells 35 = .ok (.istore 4, 2) := dk_54 4 (dk_at dksX3_swells_1 12 rfl rfl)
theorem dX3_swells_37 : decode cX3_swells 37 = .ok (.iload 4, 2) := dk_21 4 (dk_at dksX3_swells_1 14 rfl rfl)
theorem dX3_swells_39 : decode cX3_swells 39 = .ok (.aload_n 0, 1) := dk_42 (dk_at dksX3_swells_1 16 rfl rfl)
theorem dX3_swells_40 : decode cX3_swells 40 = .ok (.getfield 15, 3) := dk_180 0 15 (dk_at dksX3_swells_1 17 rfl rfl)
theorem dX3_swells_43 : decode cX3_swells 43 = .ok (.if_icmp .ge 19, 3) := dk_162 0 19 (dk_at dksX3_swells_1 20 rfl rfl)
theorem dX3_swells_46 : decode cX3_swells 46 = .ok (.iload_n 3, 1) := dk_29 (dk_at dksX3_swells_1 23 rfl rfl)
theorem dX3_swells_47 : decode cX3_swells 47 = .ok (.aload_n 0, 1) := dk_42 (dk_at dksX3_swells_2 0 rfl rfl)
theorem dX3_swells_48 : decode cX3_swells 48 = .ok (.getfield 28, 3) := dk_180 0 28 (dk_at dksX3_swells_2 1 rfl rfl)
theorem dX3_swells_51 : decode cX3_swells 51 = .ok (.iload 4, 2) := dk_21 4 (dk_at dksX3_swells_2 4 rfl rfl)
theorem dX3_swells_53 : decode cX3_swells 53 = .ok (.iaload, 1) := dk_46 (dk_at dksX3_swells_2 6 rfl rfl)
theorem dX3_swells_54 : decode cX3_swells 54 = .ok (.iadd, 1) := dk_96 (dk_at dksX3_swells_2 7 rfl rfl)
theorem dX3_swells_55 : decode cX3_swells 55 = .ok (.istore_n 3, 1) := dk_62 (dk_at dksX3_swells_2 8 rfl rfl)
theorem dX3_swells_56 : decode cX3_swells 56 = .ok (.iinc 4 1, 3) := dk_132 4 1 (dk_at dksX3_swells_2 9 rfl rfl)
theorem dX3_swells_59 : decode cX3_swells 59 = .ok (.goto (-22), 3) := dk_167 255 234 (dk_at dksX3_swells_2 12 rfl rfl)
theorem dX3_swells_62 : decode cX3_swells 62 = .ok (.iconst 0, 1) := dk_3 (dk_at dksX3_swells_2 15 rfl rfl)
theorem dX3_swells_63 : decode cX3_swells 63 = .ok (.istore 4, 2) := dk_54 4 (dk_at dksX3_swells_2 16 rfl rfl)
theorem dX3_swells_65 : decode cX3_swells 65 = .ok (.iload 4, 2) := dk_21 4 (dk_at dksX3_swells_2 18 rfl rfl)
theorem dX3_swells_67 : decode cX3_swells 67 = .ok (.aload_n 0, 1) := dk_42 (dk_at dksX3_swells_2 20 rfl rfl)
theorem dX3_swells_68 : decode cX3_swells 68 = .ok (.getfield 116, 3) := dk_180 0 116 (dk_at dksX3_swells_2 21 rfl rfl)
theorem dX3_swells_71 : decode cX3_swells 71 = .ok (.if_icmp .ge 58, 3) := dk_162 0 58 (dk_at dksX3_swells_3 0 rfl rfl)
theorem dX3_swells_74 : decode cX3_swells 74 = .ok (.aload_n 0, 1) := dk_42 (dk_at dksX3_swells_3 3 rfl rfl)
theorem dX3_swells_75 : decode cX3_swells 75 = .ok (.getfield 47, 3) := dk_180 0 47 (dk_at dksX3_swells_3 4 rfl rfl)
theorem dX3_swells_78 : decode cX3_swells 78 = .ok (.iload 4, 2) := dk_21 4 (dk_at dksX3_swells_3 7 rfl rfl)
theorem dX3_swells_80 : decode cX3_swells 80 = .ok (.iaload, 1) := dk_46 (dk_at dksX3_swells_3 9 rfl rfl)
theorem dX3_swells_81 : decode cX3_swells 81 = .ok (.ifCond .ne 42, 3) := dk_154 0 42 (dk_at dksX3_swells_3 10 rfl rfl)
theorem dX3_swells_84 : decode cX3_swells 84 = .ok (.aload_n 0, 1) := dk_42 (dk_at dksX3_swells_3 13 rfl rfl)
theorem dX3_swells_85 : decode cX3_swells 85 = .ok (.getfield 44, 3) := dk_180 0 44 (dk_at dksX3_swells_3 14 rfl rfl)
theorem dX3_swells_88 : decode cX3_swells 88 = .ok (.iload 4, 2) := dk_21 4 (dk_at dksX3_swells_3 17 rfl rfl)
theorem dX3_swells_90 : decode cX3_swells 90 = .ok (.iaload, 1) := dk_46 (dk_at dksX3_swells_3 19 rfl rfl)
theorem dX3_swells_91 : decode cX3_swells 91 = .ok (.iload_n 2, 1) := dk_28 (dk_at dksX3_swells_3 20 rfl rfl)
theorem dX3_swells_92 : decode cX3_swells 92 = .ok (.if_icmp .eq 16, 3) := dk_159 0 16 (dk_at dksX3_swells_3 21 rfl rfl)
theorem dX3_swells_95 : decode cX3_swells 95 = .ok (.aload_n 0, 1) := dk_42 (dk_at dksX3_swells_4 0 rfl rfl)
theorem dX3_swells_96 : decode cX3_swells 96 = .ok (.getfield 44, 3) := dk_180 0 44 (dk_at dksX3_swells_4 1 rfl rfl)
theorem dX3_swells_99 : decode cX3_swells 99 = .ok (.iload 4, 2) := dk_21 4 (dk_at dksX3_swells_4 4 rfl rfl)
theorem dX3_swells_101 : decode cX3_swells 101 = .ok (.iaload, 1) := dk_46 (dk_at dksX3_swells_4 6 rfl rfl)
theorem dX3_swells_102 : decode cX3_swells 102 = .ok (.iconst 1, 1) := dk_4 (dk_at dksX3_swells_4 7 rfl rfl)
theorem dX3_swells_103 : decode cX3_swells 103 = .ok (.iadd, 1) := dk_96 (dk_at dksX3_swells_4 8 rfl rfl)
theorem dX3_swells_104 : decode cX3_swells 104 = .ok (.iload_n 2, 1) := dk_28 (dk_at dksX3_swells_4 9 rfl rfl)
theorem dX3_swells_105 : decode cX3_swells 105 = .ok (.if_icmp .ne 18, 3) := dk_160 0 18 (dk_at dksX3_swells_4 10 rfl rfl)
theorem dX3_swells_108 : decode cX3_swells 108 = .ok (.iload_n 3, 1) := dk_29 (dk_at dksX3_swells_4 13 rfl rfl)
theorem dX3_swells_109 : decode cX3_swells 109 = .ok (.aload_n 0, 1) := dk_42 (dk_at dksX3_swells_4 14 rfl rfl)
theorem dX3_swells_110 : decode cX3_swells 110 = .ok (.getfield 22, 3) := dk_180 0 22 (dk_at dksX3_swells_4 15 rfl rfl)
theorem dX3_swells_113 : decode cX3_swells 113 = .ok (.aload_n 0, 1) := dk_42 (dk_at dksX3_swells_4 18 rfl rfl)
theorem dX3_swells_114 : decode cX3_swells 114 = .ok (.getfield 66, 3) := dk_180 0 66 (dk_at dksX3_swells_4 19 rfl rfl)
theorem dX3_swells_117 : decode cX3_swells 117 = .ok (.iload 4, 2) := dk_21 4 (dk_at dksX3_swells_4 22 rfl rfl)
theorem dX3_swells_119 : decode cX3_swells 119 = .ok (.iaload, 1) := dk_46 (dk_at dksX3_swells_5 0 rfl rfl)
theorem dX3_swells_120 : decode cX3_swells 120 = .ok (.imul, 1) := dk_104 (dk_at dksX3_swells_5 1 rfl rfl)
theorem dX3_swells_121 : decode cX3_swells 121 = .ok (.iadd, 1) := dk_96 (dk_at dksX3_swells_5 2 rfl rfl)
theorem dX3_swells_122 : decode cX3_swells 122 = .ok (.istore_n 3, 1) := dk_62 (dk_at dksX3_swells_5 3 rfl rfl)
theorem dX3_swells_123 : decode cX3_swells 123 = .ok (.iinc 4 1, 3) := dk_132 4 1 (dk_at dksX3_swells_5 4 rfl rfl)
theorem dX3_swells_126 : decode cX3_swells 126 = .ok (.goto (-61), 3) := dk_167 255 195 (dk_at dksX3_swells_5 7 rfl rfl)
theorem dX3_swells_129 : decode cX3_swells 129 = .ok (.iload_n 3, 1) := dk_29 (dk_at dksX3_swells_5 10 rfl rfl)
theorem dX3_swells_130 : decode cX3_swells 130 = .ok (.ireturn, 1) := dk_172 (dk_at dksX3_swells_5 11 rfl rfl)
abbrev cX3_loose : ByteArray := prog_6_method_39_code
def yX3_loose : MethodName := ⟨RX3, "loose", "(II)I"⟩
def dkwX3_loose_14 : List UInt8 := [21, 9, 182, 0, 165, 54, 7, 132, 8, 1, 167, 255, 186, 21, 6, 172]
abbrev dktX3_loose_14 : List UInt8 := dkwX3_loose_14 ++ []
def dkwX3_loose_13 : List UInt8 := [182, 0, 175, 2, 159, 0, 17, 21, 6, 4, 21, 7, 184, 0, 143, 120, 2, 130, 126, 54, 6, 42, 21, 7]
abbrev dktX3_loose_13 : List UInt8 := dkwX3_loose_13 ++ dktX3_loose_14
def dkwX3_loose_12 : List UInt8 := [104, 21, 8, 96, 46, 54, 9, 42, 180, 0, 75, 21, 8, 51, 154, 0, 29, 42, 21, 7, 21, 9]
abbrev dktX3_loose_12 : List UInt8 := dkwX3_loose_12 ++ dktX3_loose_13
def dkwX3_loose_11 : List UInt8 := [180, 0, 57, 27, 46, 54, 7, 3, 54, 8, 21, 8, 29, 162, 0, 70, 42, 180, 0, 60, 17, 1, 144, 27]
abbrev dktX3_loose_11 : List UInt8 := dkwX3_loose_11 ++ dktX3_loose_12
def dkwX3_loose_10 : List UInt8 := [167, 0, 4, 3, 54, 5, 132, 6, 1, 167, 255, 184, 4, 42, 180, 0, 15, 120, 4, 100, 54, 6, 42]
abbrev dktX3_loose_10 : List UInt8 := dkwX3_loose_10 ++ dktX3_loose_11
def dkwX3_loose_9 : List UInt8 := [112, 4, 84, 42, 180, 0, 60, 17, 1, 144, 27, 104, 21, 7, 29, 96, 29, 112, 96, 46, 153, 0, 7, 4]
abbrev dktX3_loose_9 : List UInt8 := dkwX3_loose_9 ++ dktX3_loose_10
def dkwX3_loose_8 : List UInt8 := [54, 7, 21, 7, 156, 0, 11, 21, 4, 154, 0, 6, 167, 0, 48, 42, 180, 0, 75, 21, 7, 29, 96, 29]
abbrev dktX3_loose_8 : List UInt8 := dkwX3_loose_8 ++ dktX3_loose_9
def dkwX3_loose_7 : List UInt8 := [167, 255, 187, 4, 54, 5, 4, 54, 6, 21, 6, 29, 163, 0, 72, 21, 5, 153, 0, 67, 28, 21, 6, 100]
abbrev dktX3_loose_7 : List UInt8 := dkwX3_loose_7 ++ dktX3_loose_8
def dkwX3_loose_6 : List UInt8 := [17, 1, 144, 27, 104, 21, 7, 29, 112, 96, 46, 153, 0, 7, 4, 167, 0, 4, 3, 54, 5, 132, 6, 1]
abbrev dktX3_loose_6 : List UInt8 := dkwX3_loose_6 ++ dktX3_loose_7
def dkwX3_loose_5 : List UInt8 := [21, 4, 154, 0, 6, 167, 0, 44, 42, 180, 0, 75, 21, 7, 29, 112, 4, 84, 42, 180, 0, 60]
abbrev dktX3_loose_5 : List UInt8 := dkwX3_loose_5 ++ dktX3_loose_6
def dkwX3_loose_4 : List UInt8 := [21, 6, 29, 162, 0, 69, 21, 5, 153, 0, 64, 28, 21, 6, 96, 54, 7, 21, 7, 29, 161, 0, 11]
abbrev dktX3_loose_4 : List UInt8 := dkwX3_loose_4 ++ dktX3_loose_5
def dkwX3_loose_3 : List UInt8 := [29, 162, 0, 17, 42, 180, 0, 75, 21, 5, 3, 84, 132, 5, 1, 167, 255, 239, 4, 54, 5, 3, 54, 6]
abbrev dktX3_loose_3 : List UInt8 := dkwX3_loose_3 ++ dktX3_loose_4
def dkwX3_loose_2 : List UInt8 := [180, 0, 172, 42, 180, 0, 57, 27, 46, 160, 0, 7, 4, 167, 0, 4, 3, 54, 4, 3, 54, 5, 21, 5]
abbrev dktX3_loose_2 : List UInt8 := dkwX3_loose_2 ++ dktX3_loose_3
def dkwX3_loose_1 : List UInt8 := [161, 0, 9, 42, 4, 182, 0, 136, 172, 42, 27, 182, 0, 184, 42, 180, 0, 54, 27, 46, 62, 42]
abbrev dktX3_loose_1 : List UInt8 := dkwX3_loose_1 ++ dktX3_loose_2
def dkwX3_loose_0 : List UInt8 := [42, 3, 181, 0, 104, 42, 27, 182, 0, 181, 153, 0, 17, 28, 155, 0, 13, 28, 42, 180, 0, 54, 27, 46]
abbrev dktX3_loose_0 : List UInt8 := dkwX3_loose_0 ++ dktX3_loose_1
theorem dksX3_loose_0 : cX3_loose.data.toList.drop 0 = dktX3_loose_0 := by decide +kernel
theorem dksX3_loose_1 : cX3_loose.data.toList.drop 24 = dktX3_loose_1 := dk_seg dksX3_loose_0 24 rfl rfl
theorem dksX3_loose_2 : cX3_loose.data.toList.drop 46 = dktX3_loose_2 := dk_seg dksX3_loose_1 22 rfl rfl
theorem dksX3_loose_3 : cX3_loose.data.toList.drop 70 = dktX3_loose_3 := dk_seg dksX3_loose_2 24 rfl rfl
theorem dksX3_loose_4 : cX3_loose.data.toList.drop 94 = dktX3_loose_4 := dk_seg dksX3_loose_3 24 rfl rfl
theorem dksX3_loose_5 : cX3_loose.data.toList.drop 117 = dktX3_loose_5 := dk_seg dksX3_loose_4 23 rfl rfl
theorem dksX3_loose_6 : cX3_loose.data.toList.drop 139 = dktX3_loose_6 := dk_seg dksX3_loose_5 22 rfl rfl
theorem dksX3_loose_7 : cX3_loose.data.toList.drop 163 = dktX3_loose_7 := dk_seg dksX3_loose_6 24 rfl rfl
theorem dksX3_loose_8 : cX3_loose.data.toList.drop 187 = dktX3_loose_8 := dk_seg dksX3_loose_7 24 rfl rfl
theorem dksX3_loose_9 : cX3_loose.data.toList.drop 211 = dktX3_loose_9 := dk_seg dksX3_loose_8 24 rfl rfl
theorem dksX3_loose_10 : cX3_loose.data.toList.drop 235 = dktX3_loose_10 := dk_seg dksX3_loose_9 24 rfl rfl
theorem dksX3_loose_11 : cX3_loose.data.toList.drop 258 = dktX3_loose_11 := dk_seg dksX3_loose_10 23 rfl rfl
theorem dksX3_loose_12 : cX3_loose.data.toList.drop 282 = dktX3_loose_12 := dk_seg dksX3_loose_11 24 rfl rfl
theorem dksX3_loose_13 : cX3_loose.data.toList.drop 304 = dktX3_loose_13 := dk_seg dksX3_loose_12 22 rfl rfl
theorem dksX3_loose_14 : cX3_loose.data.toList.drop 328 = dktX3_loose_14 := dk_seg dksX3_loose_13 24 rfl rfl
theorem dX3_loose_0 : decode cX3_loose 0 = .ok (.aload_n 0, 1) := dk_42 (dk_at dksX3_loose_0 0 rfl rfl)
theorem dX3_loose_1 : decode cX3_loose 1 = .ok (.iconst 0, 1) := dk_3 (dk_at dksX3_loose_0 1 rfl rfl)
theorem dX3_loose_2 : decode cX3_loose 2 = .ok (.putfield 104, 3) := dk_181 0 104 (dk_at dksX3_loose_0 2 rfl rfl)
theorem dX3_loose_5 : decode cX3_loose 5 = .ok (.aload_n 0, 1) := dk_42 (dk_at dksX3_loose_0 5 rfl rfl)
theorem dX3_loose_6 : decode cX3_loose 6 = .ok (.iload_n 1, 1) := dk_27 (dk_at dksX3_loose_0 6 rfl rfl)
theorem dX3_loose_7 : decode cX3_loose 7 = .ok (.invokevirtual 181, 3) := dk_182 0 181 (dk_at dksX3_loose_0 7 rfl rfl)
theorem dX3_loose_10 : decode cX3_loose 10 = .ok (.ifCond .eq 17, 3) := dk_153 0 17 (dk_at dksX3_loose_0 10 rfl rfl)
theorem dX3_loose_13 : decode cX3_loose 13 = .ok (.iload_n 2, 1) := dk_28 (dk_at dksX3_loose_0 13 rfl rfl)
theorem dX3_loose_14 : decode cX3_loose 14 = .ok (.ifCond .lt 13, 3) := dk_155 0 13 (dk_at dksX3_loose_0 14 rfl rfl)
theorem dX3_loose_17 : decode cX3_loose 17 = .ok (.iload_n 2, 1) := dk_28 (dk_at dksX3_loose_0 17 rfl rfl)
theorem dX3_loose_18 : decode cX3_loose 18 = .ok (.aload_n 0, 1) := dk_42 (dk_at dksX3_loose_0 18 rfl rfl)
theorem dX3_loose_19 : decode cX3_loose 19 = .ok (.getfield 54, 3) := dk_180 0 54 (dk_at dksX3_loose_0 19 rfl rfl)
theorem dX3_loose_22 : decode cX3_loose 22 = .ok (.iload_n 1, 1) := dk_27 (dk_at dksX3_loose_0 22 rfl rfl)
theorem dX3_loose_23 : decode cX3_loose 23 = .ok (.iaload, 1) := dk_46 (dk_at dksX3_loose_0 23 rfl rfl)
theorem dX3_loose_24 : decode cX3_loose 24 = .ok (.if_icmp .lt 9, 3) := dk_161 0 9 (dk_at dksX3_loose_1 0 rfl rfl)
theorem dX3_loose_27 : decode cX3_loose 27 = .ok (.aload_n 0, 1) := dk_42 (dk_at dksX3_loose_1 3 rfl rfl)
theorem dX3_loose_28 : decode cX3_loose 28 = .ok (.iconst 1, 1) := dk_4 (dk_at dksX3_loose_1 4 rfl rfl)
theorem dX3_loose_29 : decode cX3_loose 29 = .ok (.invokevirtual 136, 3) := dk_182 0 136 (dk_at dksX3_loose_1 5 rfl rfl)
theorem dX3_loose_32 : decode cX3_loose 32 = .ok (.ireturn, 1) := dk_172 (dk_at dksX3_loose_1 8 rfl rfl)
theorem dX3_loose_33 : decode cX3_loose 33 = .ok (.aload_n 0, 1) := dk_42 (dk_at dksX3_loose_1 9 rfl rfl)
theorem dX3_loose_34 : decode cX3_loose 34 = .ok (.iload_n 1, 1) := dk_27 (dk_at dksX3_loose_1 10 rfl rfl)
theorem dX3_loose_35 : decode cX3_loose 35 = .ok (.invokevirtual 184, 3) := dk_182 0 184 (dk_at dksX3_loose_1 11 rfl rfl)
theorem dX3_loose_38 : decode cX3_loose 38 = .ok (.aload_n 0, 1) := dk_42 (dk_at dksX3_loose_1 14 rfl rfl)
theorem dX3_loose_39 : decode cX3_loose 39 = .ok (.getfield 54, 3) := dk_180 0 54 (dk_at dksX3_loose_1 15 rfl rfl)
theorem dX3_loose_42 : decode cX3_loose 42 = .ok (.iload_n 1, 1) := dk_27 (dk_at dksX3_loose_1 18 rfl rfl)
theorem dX3_loose_43 : decode cX3_loose 43 = .ok (.iaload, 1) := dk_46 (dk_at dksX3_loose_1 19 rfl rfl)
theorem dX3_loose_44 : decode cX3_loose 44 = .ok (.istore_n 3, 1) := dk_62 (dk_at dksX3_loose_1 20 rfl rfl)
theorem dX3_loose_45 : decode cX3_loose 45 = .ok (.aload_n 0, 1) := dk_42 (dk_at dksX3_loose_1 21 rfl rfl)
theorem dX3_loose_46 : decode cX3_loose 46 = .ok (.getfield 172, 3) := dk_180 0 172 (dk_at dksX3_loose_2 0 rfl rfl)
theorem dX3_loose_49 : decode cX3_loose 49 = .ok (.aload_n 0, 1) := dk_42 (dk_at dksX3_loose_2 3 rfl rfl)
theorem dX3_loose_50 : decode cX3_loose 50 = .ok (.getfield 57, 3) := dk_180 0 57 (dk_at dksX3_loose_2 4 rfl rfl)
theorem dX3_loose_53 : decode cX3_loose 53 = .ok (.iload_n 1, 1) := dk_27 (dk_at dksX3_loose_2 7 rfl rfl)
theorem dX3_loose_54 : decode cX3_loose 54 = .ok (.iaload, 1) := dk_46 (dk_at dksX3_loose_2 8 rfl rfl)
theorem dX3_loose_55 : decode cX3_loose 55 = .ok (.if_icmp .ne 7, 3) := dk_160 0 7 (dk_at dksX3_loose_2 9 rfl rfl)
theorem dX3_loose_58 : decode cX3_loose 58 = .ok (.iconst 1, 1) := dk_4 (dk_at dksX3_loose_2 12 rfl rfl)
theorem dX3_loose_59 : decode cX3_loose 59 = .ok (.goto 4, 3) := dk_167 0 4 (dk_at dksX3_loose_2 13 rfl rfl)
theorem dX3_loose_62 : decode cX3_loose 62 = .ok (.iconst 0, 1) := dk_3 (dk_at dksX3_loose_2 16 rfl rfl)
theorem dX3_loose_63 : decode cX3_loose 63 = .ok (.istore 4, 2) := dk_54 4 (dk_at dksX3_loose_2 17 rfl rfl)
theorem dX3_loose_65 : decode cX3_loose 65 = .ok (.iconst 0, 1) := dk_3 (dk_at dksX3_loose_2 19 rfl rfl)
theorem dX3_loose_66 : decode cX3_loose 66 = .ok (.istore 5, 2) := dk_54 5 (dk_at dksX3_loose_2 20 rfl rfl)
theorem dX3_loose_68 : decode cX3_loose 68 = .ok (.iload 5, 2) := dk_21 5 (dk_at dksX3_loose_2 22 rfl rfl)
theorem dX3_loose_70 : decode cX3_loose 70 = .ok (.iload_n 3, 1) := dk_29 (dk_at dksX3_loose_3 0 rfl rfl)
theorem dX3_loose_71 : decode cX3_loose 71 = .ok (.if_icmp .ge 17, 3) := dk_162 0 17 (dk_at dksX3_loose_3 1 rfl rfl)
theorem dX3_loose_74 : decode cX3_loose 74 = .ok (.aload_n 0, 1) := dk_42 (dk_at dksX3_loose_3 4 rfl rfl)
theorem dX3_loose_75 : decode cX3_loose 75 = .ok (.getfield 75, 3) := dk_180 0 75 (dk_at dksX3_loose_3 5 rfl rfl)
theorem dX3_loose_78 : decode cX3_loose 78 = .ok (.iload 5, 2) := dk_21 5 (dk_at dksX3_loose_3 8 rfl rfl)
theorem dX3_loose_80 : decode cX3_loose 80 = .ok (.iconst 0, 1) := dk_3 (dk_at dksX3_loose_3 10 rfl rfl)
theorem dX3_loose_81 : decode cX3_loose 81 = .ok (.bastore, 1) := dk_84 (dk_at dksX3_loose_3 11 rfl rfl)
theorem dX3_loose_82 : decode cX3_loose 82 = .ok (.iinc 5 1, 3) := dk_132 5 1 (dk_at dksX3_loose_3 12 rfl rfl)
theorem dX3_loose_85 : decode cX3_loose 85 = .ok (.goto (-17), 3) := dk_167 255 239 (dk_at dksX3_loose_3 15 rfl rfl)
theorem dX3_loose_88 : decode cX3_loose 88 = .ok (.iconst 1, 1) := dk_4 (dk_at dksX3_loose_3 18 rfl rfl)
theorem dX3_loose_89 : decode cX3_loose 89 = .ok (.istore 5, 2) := dk_54 5 (dk_at dksX3_loose_3 19 rfl rfl)
theorem dX3_loose_91 : decode cX3_loose 91 = .ok (.iconst 0, 1) := dk_3 (dk_at dksX3_loose_3 21 rfl rfl)
theorem dX3_loose_92 : decode cX3_loose 92 = .ok (.istore 6, 2) := dk_54 6 (dk_at dksX3_loose_3 22 rfl rfl)
theorem dX3_loose_94 : decode cX3_loose 94 = .ok (.iload 6, 2) := dk_21 6 (dk_at dksX3_loose_4 0 rfl rfl)
theorem dX3_loose_96 : decode cX3_loose 96 = .ok (.iload_n 3, 1) := dk_29 (dk_at dksX3_loose_4 2 rfl rfl)
theorem dX3_loose_97 : decode cX3_loose 97 = .ok (.if_icmp .ge 69, 3) := dk_162 0 69 (dk_at dksX3_loose_4 3 rfl rfl)
theorem dX3_loose_100 : decode cX3_loose 100 = .ok (.iload 5, 2) := dk_21 5 (dk_at dksX3_loose_4 6 rfl rfl)
theorem dX3_loose_102 : decode cX3_loose 102 = .ok (.ifCond .eq 64, 3) := dk_153 0 64 (dk_at dksX3_loose_4 8 rfl rfl)
theorem dX3_loose_105 : decode cX3_loose 105 = .ok (.iload_n 2, 1) := dk_28 (dk_at dksX3_loose_4 11 rfl rfl)
theorem dX3_loose_106 : decode cX3_loose 106 = .ok (.iload 6, 2) := dk_21 6 (dk_at dksX3_loose_4 12 rfl rfl)
theorem dX3_loose_108 : decode cX3_loose 108 = .ok (.iadd, 1) := dk_96 (dk_at dksX3_loose_4 14 rfl rfl)
theorem dX3_loose_109 : decode cX3_loose 109 = .ok (.istore 7, 2) := dk_54 7 (dk_at dksX3_loose_4 15 rfl rfl)
theorem dX3_loose_111 : decode cX3_loose 111 = .ok (.iload 7, 2) := dk_21 7 (dk_at dksX3_loose_4 17 rfl rfl)
theorem dX3_loose_113 : decode cX3_loose 113 = .ok (.iload_n 3, 1) := dk_29 (dk_at dksX3_loose_4 19 rfl rfl)
theorem dX3_loose_114 : decode cX3_loose 114 = .ok (.if_icmp .lt 11, 3) := dk_161 0 11 (dk_at dksX3_loose_4 20 rfl rfl)
theorem dX3_loose_117 : decode cX3_loose 117 = .ok (.iload 4, 2) := dk_21 4 (dk_at dksX3_loose_5 0 rfl rfl)
theorem dX3_loose_119 : decode cX3_loose 119 = .ok (.ifCond .ne 6, 3) := dk_154 0 6 (dk_at dksX3_loose_5 2 rfl rfl)
theorem dX3_loose_122 : decode cX3_loose 122 = .ok (.goto 44, 3) := dk_167 0 44 (dk_at dksX3_loose_5 5 rfl rfl)
theorem dX3_loose_125 : decode cX3_loose 125 = .ok (.aload_n 0, 1) := dk_42 (dk_at dksX3_loose_5 8 rfl rfl)
theorem dX3_loose_126 : decode cX3_loose 126 = .ok (.getfield 75, 3) := dk_180 0 75 (dk_at dksX3_loose_5 9 rfl rfl)
theorem dX3_loose_129 : decode cX3_loose 129 = .ok (.iload 7, 2) := dk_21 7 (dk_at dksX3_loose_5 12 rfl rfl)
theorem dX3_loose_131 : decode cX3_loose 131 = .ok (.iload_n 3, 1) := dk_29 (dk_at dksX3_loose_5 14 rfl rfl)
theorem dX3_loose_132 : decode cX3_loose 132 = .ok (.irem, 1) := dk_112 (dk_at dksX3_loose_5 15 rfl rfl)
theorem dX3_loose_133 : decode cX3_loose 133 = .ok (.iconst 1, 1) := dk_4 (dk_at dksX3_loose_5 16 rfl rfl)
theorem dX3_loose_134 : decode cX3_loose 134 = .ok (.bastore, 1) := dk_84 (dk_at dksX3_loose_5 17 rfl rfl)
theorem dX3_loose_135 : decode cX3_loose 135 = .ok (.aload_n 0, 1) := dk_42 (dk_at dksX3_loose_5 18 rfl rfl)
theorem dX3_loose_136 : decode cX3_loose 136 = .ok (.getfield 60, 3) := dk_180 0 60 (dk_at dksX3_loose_5 19 rfl rfl)
theorem dX3_loose_139 : decode cX3_loose 139 = .ok (.sipush 400, 3) := dk_17 1 144 (dk_at dksX3_loose_6 0 rfl rfl)
theorem dX3_loose_142 : decode cX3_loose 142 = .ok (.iload_n 1, 1) := dk_27 (dk_at dksX3_loose_6 3 rfl rfl)
theorem dX3_loose_143 : decode cX3_loose 143 = .ok (.imul, 1) := dk_104 (dk_at dksX3_loose_6 4 rfl rfl)
theorem dX3_loose_144 : decode cX3_loose 144 = .ok (.iload 7, 2) := dk_21 7 (dk_at dksX3_loose_6 5 rfl rfl)
theorem dX3_loose_146 : decode cX3_loose 146 = .ok (.iload_n 3, 1) := dk_29 (dk_at dksX3_loose_6 7 rfl rfl)
theorem dX3_loose_147 : decode cX3_loose 147 = .ok (.irem, 1) := dk_112 (dk_at dksX3_loose_6 8 rfl rfl)
theorem dX3_loose_148 : decode cX3_loose 148 = .ok (.iadd, 1) := dk_96 (dk_at dksX3_loose_6 9 rfl rfl)
theorem dX3_loose_149 : decode cX3_loose 149 = .ok (.iaload, 1) := dk_46 (dk_at dksX3_loose_6 10 rfl rfl)
theorem dX3_loose_150 : decode cX3_loose 150 = .ok (.ifCond .eq 7, 3) := dk_153 0 7 (dk_at dksX3_loose_6 11 rfl rfl)
theorem dX3_loose_153 : decode cX3_loose 153 = .ok (.iconst 1, 1) := dk_4 (dk_at dksX3_loose_6 14 rfl rfl)
theorem dX3_loose_154 : decode cX3_loose 154 = .ok (.goto 4, 3) := dk_167 0 4 (dk_at dksX3_loose_6 15 rfl rfl)
theorem dX3_loose_157 : decode cX3_loose 157 = .ok (.iconst 0, 1) := dk_3 (dk_at dksX3_loose_6 18 rfl rfl)
theorem dX3_loose_158 : decode cX3_loose 158 = .ok (.istore 5, 2) := dk_54 5 (dk_at dksX3_loose_6 19 rfl rfl)
theorem dX3_loose_160 : decode cX3_loose 160 = .ok (.iinc 6 1, 3) := dk_132 6 1 (dk_at dksX3_loose_6 21 rfl rfl)
theorem dX3_loose_163 : decode cX3_loose 163 = .ok (.goto (-69), 3) := dk_167 255 187 (dk_at dksX3_loose_7 0 rfl rfl)
theorem dX3_loose_166 : decode cX3_loose 166 = .ok (.iconst 1, 1) := dk_4 (dk_at dksX3_loose_7 3 rfl rfl)
theorem dX3_loose_167 : decode cX3_loose 167 = .ok (.istore 5, 2) := dk_54 5 (dk_at dksX3_loose_7 4 rfl rfl)
theorem dX3_loose_169 : decode cX3_loose 169 = .ok (.iconst 1, 1) := dk_4 (dk_at dksX3_loose_7 6 rfl rfl)
theorem dX3_loose_170 : decode cX3_loose 170 = .ok (.istore 6, 2) := dk_54 6 (dk_at dksX3_loose_7 7 rfl rfl)
theorem dX3_loose_172 : decode cX3_loose 172 = .ok (.iload 6, 2) := dk_21 6 (dk_at dksX3_loose_7 9 rfl rfl)
theorem dX3_loose_174 : decode cX3_loose 174 = .ok (.iload_n 3, 1) := dk_29 (dk_at dksX3_loose_7 11 rfl rfl)
theorem dX3_loose_175 : decode cX3_loose 175 = .ok (.if_icmp .gt 72, 3) := dk_163 0 72 (dk_at dksX3_loose_7 12 rfl rfl)
theorem dX3_loose_178 : decode cX3_loose 178 = .ok (.iload 5, 2) := dk_21 5 (dk_at dksX3_loose_7 15 rfl rfl)
theorem dX3_loose_180 : decode cX3_loose 180 = .ok (.ifCond .eq 67, 3) := dk_153 0 67 (dk_at dksX3_loose_7 17 rfl rfl)
theorem dX3_loose_183 : decode cX3_loose 183 = .ok (.iload_n 2, 1) := dk_28 (dk_at dksX3_loose_7 20 rfl rfl)
theorem dX3_loose_184 : decode cX3_loose 184 = .ok (.iload 6, 2) := dk_21 6 (dk_at dksX3_loose_7 21 rfl rfl)
theorem dX3_loose_186 : decode cX3_loose 186 = .ok (.isub, 1) := dk_100 (dk_at dksX3_loose_7 23 rfl rfl)
theorem dX3_loose_187 : decode cX3_loose 187 = .ok (.istore 7, 2) := dk_54 7 (dk_at dksX3_loose_8 0 rfl rfl)
theorem dX3_loose_189 : decode cX3_loose 189 = .ok (.iload 7, 2) := dk_21 7 (dk_at dksX3_loose_8 2 rfl rfl)
theorem dX3_loose_191 : decode cX3_loose 191 = .ok (.ifCond .ge 11, 3) := dk_156 0 11 (dk_at dksX3_loose_8 4 rfl rfl)
theorem dX3_loose_194 : decode cX3_loose 194 = .ok (.iload 4, 2) := dk_21 4 (dk_at dksX3_loose_8 7 rfl rfl)
theorem dX3_loose_196 : decode cX3_loose 196 = .ok (.ifCond .ne 6, 3) := dk_154 0 6 (dk_at dksX3_loose_8 9 rfl rfl)
theorem dX3_loose_199 : decode cX3_loose 199 = .ok (.goto 48, 3) := dk_167 0 48 (dk_at dksX3_loose_8 12 rfl rfl)
theorem dX3_loose_202 : decode cX3_loose 202 = .ok (.aload_n 0, 1) := dk_42 (dk_at dksX3_loose_8 15 rfl rfl)
theorem dX3_loose_203 : decode cX3_loose 203 = .ok (.getfield 75, 3) := dk_180 0 75 (dk_at dksX3_loose_8 16 rfl rfl)
theorem dX3_loose_206 : decode cX3_loose 206 = .ok (.iload 7, 2) := dk_21 7 (dk_at dksX3_loose_8 19 rfl rfl)
theorem dX3_loose_208 : decode cX3_loose 208 = .ok (.iload_n 3, 1) := dk_29 (dk_at dksX3_loose_8 21 rfl rfl)
theorem dX3_loose_209 : decode cX3_loose 209 = .ok (.iadd, 1) := dk_96 (dk_at dksX3_loose_8 22 rfl rfl)
theorem dX3_loose_210 : decode cX3_loose 210 = .ok (.iload_n 3, 1) := dk_29 (dk_at dksX3_loose_8 23 rfl rfl)
theorem dX3_loose_211 : decode cX3_loose 211 = .ok (.irem, 1) := dk_112 (dk_at dksX3_loose_9 0 rfl rfl)
theorem dX3_loose_212 : decode cX3_loose 212 = .ok (.iconst 1, 1) := dk_4 (dk_at dksX3_loose_9 1 rfl rfl)
theorem dX3_loose_213 : decode cX3_loose 213 = .ok (.bastore, 1) := dk_84 (dk_at dksX3_loose_9 2 rfl rfl)
theorem dX3_loose_214 : decode cX3_loose 214 = .ok (.aload_n 0, 1) := dk_42 (dk_at dksX3_loose_9 3 rfl rfl)
theorem dX3_loose_215 : decode cX3_loose 215 = .ok (.getfield 60, 3) := dk_180 0 60 (dk_at dksX3_loose_9 4 rfl rfl)
theorem dX3_loose_218 : decode cX3_loose 218 = .ok (.sipush 400, 3) := dk_17 1 144 (dk_at dksX3_loose_9 7 rfl rfl)
theorem dX3_loose_221 : decode cX3_loose 221 = .ok (.iload_n 1, 1) := dk_27 (dk_at dksX3_loose_9 10 rfl rfl)
theorem dX3_loose_222 : decode cX3_loose 222 = .ok (.imul, 1) := dk_104 (dk_at dksX3_loose_9 11 rfl rfl)
theorem dX3_loose_223 : decode cX3_loose 223 = .ok (.iload 7, 2) := dk_21 7 (dk_at dksX3_loose_9 12 rfl rfl)
theorem dX3_loose_225 : decode cX3_loose 225 = .ok (.iload_n 3, 1) := dk_29 (dk_at dksX3_loose_9 14 rfl rfl)
theorem dX3_loose_226 : decode cX3_loose 226 = .ok (.iadd, 1) := dk_96 (dk_at dksX3_loose_9 15 rfl rfl)
theorem dX3_loose_227 : decode cX3_loose 227 = .ok (.iload_n 3, 1) := dk_29 (dk_at dksX3_loose_9 16 rfl rfl)
theorem dX3_loose_228 : decode cX3_loose 228 = .ok (.irem, 1) := dk_112 (dk_at dksX3_loose_9 17 rfl rfl)
theorem dX3_loose_229 : decode cX3_loose 229 = .ok (.iadd, 1) := dk_96 (dk_at dksX3_loose_9 18 rfl rfl)
theorem dX3_loose_230 : decode cX3_loose 230 = .ok (.iaload, 1) := dk_46 (dk_at dksX3_loose_9 19 rfl rfl)
theorem dX3_loose_231 : decode cX3_loose 231 = .ok (.ifCond .eq 7, 3) := dk_153 0 7 (dk_at dksX3_loose_9 20 rfl rfl)
theorem dX3_loose_234 : decode cX3_loose 234 = .ok (.iconst 1, 1) := dk_4 (dk_at dksX3_loose_9 23 rfl rfl)
theorem dX3_loose_235 : decode cX3_loose 235 = .ok (.goto 4, 3) := dk_167 0 4 (dk_at dksX3_loose_10 0 rfl rfl)
theorem dX3_loose_238 : decode cX3_loose 238 = .ok (.iconst 0, 1) := dk_3 (dk_at dksX3_loose_10 3 rfl rfl)
theorem dX3_loose_239 : decode cX3_loose 239 = .ok (.istore 5, 2) := dk_54 5 (dk_at dksX3_loose_10 4 rfl rfl)
theorem dX3_loose_241 : decode cX3_loose 241 = .ok (.iinc 6 1, 3) := dk_132 6 1 (dk_at dksX3_loose_10 6 rfl rfl)
theorem dX3_loose_244 : decode cX3_loose 244 = .ok (.goto (-72), 3) := dk_167 255 184 (dk_at dksX3_loose_10 9 rfl rfl)
theorem dX3_loose_247 : decode cX3_loose 247 = .ok (.iconst 1, 1) := dk_4 (dk_at dksX3_loose_10 12 rfl rfl)
theorem dX3_loose_248 : decode cX3_loose 248 = .ok (.aload_n 0, 1) := dk_42 (dk_at dksX3_loose_10 13 rfl rfl)
theorem dX3_loose_249 : decode cX3_loose 249 = .ok (.getfield 15, 3) := dk_180 0 15 (dk_at dksX3_loose_10 14 rfl rfl)
theorem dX3_loose_252 : decode cX3_loose 252 = .ok (.ishl, 1) := dk_120 (dk_at dksX3_loose_10 17 rfl rfl)
theorem dX3_loose_253 : decode cX3_loose 253 = .ok (.iconst 1, 1) := dk_4 (dk_at dksX3_loose_10 18 rfl rfl)
theorem dX3_loose_254 : decode cX3_loose 254 = .ok (.isub, 1) := dk_100 (dk_at dksX3_loose_10 19 rfl rfl)
theorem dX3_loose_255 : decode cX3_loose 255 = .ok (.istore 6, 2) := dk_54 6 (dk_at dksX3_loose_10 20 rfl rfl)
theorem dX3_loose_257 : decode cX3_loose 257 = .ok (.aload_n 0, 1) := dk_42 (dk_at dksX3_loose_10 22 rfl rfl)
theorem dX3_loose_258 : decode cX3_loose 258 = .ok (.getfield 57, 3) := dk_180 0 57 (dk_at dksX3_loose_11 0 rfl rfl)
theorem dX3_loose_261 : decode cX3_loose 261 = .ok (.iload_n 1, 1) := dk_27 (dk_at dksX3_loose_11 3 rfl rfl)
theorem dX3_loose_262 : decode cX3_loose 262 = .ok (.iaload, 1) := dk_46 (dk_at dksX3_loose_11 4 rfl rfl)
theorem dX3_loose_263 : decode cX3_loose 263 = .ok (.istore 7, 2) := dk_54 7 (dk_at dksX3_loose_11 5 rfl rfl)
theorem dX3_loose_265 : decode cX3_loose 265 = .ok (.iconst 0, 1) := dk_3 (dk_at dksX3_loose_11 7 rfl rfl)
theorem dX3_loose_266 : decode cX3_loose 266 = .ok (.istore 8, 2) := dk_54 8 (dk_at dksX3_loose_11 8 rfl rfl)
theorem dX3_loose_268 : decode cX3_loose 268 = .ok (.iload 8, 2) := dk_21 8 (dk_at dksX3_loose_11 10 rfl rfl)
theorem dX3_loose_270 : decode cX3_loose 270 = .ok (.iload_n 3, 1) := dk_29 (dk_at dksX3_loose_11 12 rfl rfl)
theorem dX3_loose_271 : decode cX3_loose 271 = .ok (.if_icmp .ge 70, 3) := dk_162 0 70 (dk_at dksX3_loose_11 13 rfl rfl)
theorem dX3_loose_274 : decode cX3_loose 274 = .ok (.aload_n 0, 1) := dk_42 (dk_at dksX3_loose_11 16 rfl rfl)
theorem dX3_loose_275 : decode cX3_loose 275 = .ok (.getfield 60, 3) := dk_180 0 60 (dk_at dksX3_loose_11 17 rfl rfl)
theorem dX3_loose_278 : decode cX3_loose 278 = .ok (.sipush 400, 3) := dk_17 1 144 (dk_at dksX3_loose_11 20 rfl rfl)
theorem dX3_loose_281 : decode cX3_loose 281 = .ok (.iload_n 1, 1) := dk_27 (dk_at dksX3_loose_11 23 rfl rfl)
theorem dX3_loose_282 : decode cX3_loose 282 = .ok (.imul, 1) := dk_104 (dk_at dksX3_loose_12 0 rfl rfl)
theorem dX3_loose_283 : decode cX3_loose 283 = .ok (.iload 8, 2) := dk_21 8 (dk_at dksX3_loose_12 1 rfl rfl)
theorem dX3_loose_285 : decode cX3_loose 285 = .ok (.iadd, 1) := dk_96 (dk_at dksX3_loose_12 3 rfl rfl)
theorem dX3_loose_286 : decode cX3_loose 286 = .ok (.iaload, 1) := dk_46 (dk_at dksX3_loose_12 4 rfl rfl)
theorem dX3_loose_287 : decode cX3_loose 287 = .ok (.istore 9, 2) := dk_54 9 (dk_at dksX3_loose_12 5 rfl rfl)
theorem dX3_loose_289 : decode cX3_loose 289 = .ok (.aload_n 0, 1) := dk_42 (dk_at dksX3_loose_12 7 rfl rfl)
theorem dX3_loose_290 : decode cX3_loose 290 = .ok (.getfield 75, 3) := dk_180 0 75 (dk_at dksX3_loose_12 8 rfl rfl)
theorem dX3_loose_293 : decode cX3_loose 293 = .ok (.iload 8, 2) := dk_21 8 (dk_at dksX3_loose_12 11 rfl rfl)
theorem dX3_loose_295 : decode cX3_loose 295 = .ok (.baload, 1) := dk_51 (dk_at dksX3_loose_12 13 rfl rfl)
theorem dX3_loose_296 : decode cX3_loose 296 = .ok (.ifCond .ne 29, 3) := dk_154 0 29 (dk_at dksX3_loose_12 14 rfl rfl)
theorem dX3_loose_299 : decode cX3_loose 299 = .ok (.aload_n 0, 1) := dk_42 (dk_at dksX3_loose_12 17 rfl rfl)
theorem dX3_loose_300 : decode cX3_loose 300 = .ok (.iload 7, 2) := dk_21 7 (dk_at dksX3_loose_12 18 rfl rfl)
theorem dX3_loose_302 : decode cX3_loose 302 = .ok (.iload 9, 2) := dk_21 9 (dk_at dksX3_loose_12 20 rfl rfl)
theorem dX3_loose_304 : decode cX3_loose 304 = .ok (.invokevirtual 175, 3) := dk_182 0 175 (dk_at dksX3_loose_13 0 rfl rfl)
theorem dX3_loose_307 : decode cX3_loose 307 = .ok (.iconst (-1), 1) := dk_2 (dk_at dksX3_loose_13 3 rfl rfl)
theorem dX3_loose_308 : decode cX3_loose 308 = .ok (.if_icmp .eq 17, 3) := dk_159 0 17 (dk_at dksX3_loose_13 4 rfl rfl)
theorem dX3_loose_311 : decode cX3_loose 311 = .ok (.iload 6, 2) := dk_21 6 (dk_at dksX3_loose_13 7 rfl rfl)
theorem dX3_loose_313 : decode cX3_loose 313 = .ok (.iconst 1, 1) := dk_4 (dk_at dksX3_loose_13 9 rfl rfl)
theorem dX3_loose_314 : decode cX3_loose 314 = .ok (.iload 7, 2) := dk_21 7 (dk_at dksX3_loose_13 10 rfl rfl)
theorem dX3_loose_316 : decode cX3_loose 316 = .ok (.invokestatic 143, 3) := dk_184 0 143 (dk_at dksX3_loose_13 12 rfl rfl)
theorem dX3_loose_319 : decode cX3_loose 319 = .ok (.ishl, 1) := dk_120 (dk_at dksX3_loose_13 15 rfl rfl)
theorem dX3_loose_320 : decode cX3_loose 320 = .ok (.iconst (-1), 1) := dk_2 (dk_at dksX3_loose_13 16 rfl rfl)
theorem dX3_loose_321 : decode cX3_loose 321 = .ok (.ixor, 1) := dk_130 (dk_at dksX3_loose_13 17 rfl rfl)
theorem dX3_loose_322 : decode cX3_loose 322 = .ok (.iand, 1) := dk_126 (dk_at dksX3_loose_13 18 rfl rfl)
theorem dX3_loose_323 : decode cX3_loose 323 = .ok (.istore 6, 2) := dk_54 6 (dk_at dksX3_loose_13 19 rfl rfl)
theorem dX3_loose_325 : decode cX3_loose 325 = .ok (.aload_n 0, 1) := dk_42 (dk_at dksX3_loose_13 21 rfl rfl)
theorem dX3_loose_326 : decode cX3_loose 326 = .ok (.iload 7, 2) := dk_21 7 (dk_at dksX3_loose_13 22 rfl rfl)
theorem dX3_loose_328 : decode cX3_loose 328 = .ok (.iload 9, 2) := dk_21 9 (dk_at dksX3_loose_14 0 rfl rfl)
theorem dX3_loose_330 : decode cX3_loose 330 = .ok (.invokevirtual 165, 3) := dk_182 0 165 (dk_at dksX3_loose_14 2 rfl rfl)
theorem dX3_loose_333 : decode cX3_loose 333 = .ok (.istore 7, 2) := dk_54 7 (dk_at dksX3_loose_14 5 rfl rfl)
theorem dX3_loose_335 : decode cX3_loose 335 = .ok (.iinc 8 1, 3) := dk_132 8 1 (dk_at dksX3_loose_14 7 rfl rfl)
theorem dX3_loose_338 : decode cX3_loose 338 = .ok (.goto (-70), 3) := dk_167 255 186 (dk_at dksX3_loose_14 10 rfl rfl)
theorem dX3_loose_341 : decode cX3_loose 341 = .ok (.iload 6, 2) := dk_21 6 (dk_at dksX3_loose_14 13 rfl rfl)
theorem dX3_loose_343 : decode cX3_loose 343 = .ok (.ireturn, 1) := dk_172 (dk_at dksX3_loose_14 15 rfl rfl)
abbrev cX3_best : ByteArray := prog_6_method_44_code
def yX3_best : MethodName := ⟨RX3, "best", "(IZ)I"⟩
def dkwX3_best_9 : List UInt8 := [54, 7, 167, 255, 171, 21, 6, 17, 8, 0, 108, 172]
abbrev dktX3_best_9 : List UInt8 := dkwX3_best_9 ++ []
def dkwX3_best_8 : List UInt8 := [54, 9, 21, 8, 42, 180, 0, 91, 21, 9, 46, 28, 184, 0, 200, 54, 8, 42, 180, 0, 85, 21, 9, 46]
abbrev dktX3_best_8 : List UInt8 := dkwX3_best_8 ++ dktX3_best_9
def dkwX3_best_7 : List UInt8 := [180, 0, 203, 79, 42, 89, 180, 0, 110, 4, 96, 181, 0, 110, 16, 8, 21, 7, 104, 42, 180, 0, 203, 96]
abbrev dktX3_best_7 : List UInt8 := dkwX3_best_7 ++ dktX3_best_8
def dkwX3_best_6 : List UInt8 := [158, 0, 75, 42, 21, 7, 21, 8, 28, 182, 0, 196, 87, 42, 180, 0, 63, 42, 180, 0, 110, 42]
abbrev dktX3_best_6 : List UInt8 := dkwX3_best_6 ++ dktX3_best_7
def dkwX3_best_5 : List UInt8 := [181, 0, 110, 21, 5, 54, 7, 3, 54, 8, 42, 180, 0, 79, 16, 60, 21, 8, 104, 21, 7, 96, 46]
abbrev dktX3_best_5 : List UInt8 := dkwX3_best_5 ++ dktX3_best_6
def dkwX3_best_4 : List UInt8 := [182, 0, 209, 42, 180, 0, 79, 21, 5, 46, 54, 6, 21, 6, 18, 195, 161, 0, 5, 2, 172, 42, 3]
abbrev dktX3_best_4 : List UInt8 := dkwX3_best_4 ++ dktX3_best_5
def dkwX3_best_3 : List UInt8 := [172, 4, 29, 120, 54, 4, 3, 27, 3, 184, 0, 158, 54, 5, 42, 182, 0, 206, 42, 21, 5, 21, 4, 28]
abbrev dktX3_best_3 : List UInt8 := dkwX3_best_3 ++ dktX3_best_4
def dkwX3_best_2 : List UInt8 := [51, 153, 0, 7, 4, 167, 0, 4, 3, 96, 62, 132, 4, 1, 167, 255, 218, 29, 16, 10, 164, 0, 5, 2]
abbrev dktX3_best_2 : List UInt8 := dkwX3_best_2 ++ dktX3_best_3
def dkwX3_best_1 : List UInt8 := [21, 4, 42, 180, 0, 116, 162, 0, 35, 42, 180, 0, 82, 21, 4, 29, 79, 29, 42, 180, 0, 50, 21, 4]
abbrev dktX3_best_1 : List UInt8 := dkwX3_best_1 ++ dktX3_best_2
def dkwX3_best_0 : List UInt8 := [42, 3, 181, 0, 104, 42, 27, 182, 0, 130, 154, 0, 9, 42, 4, 182, 0, 136, 172, 3, 62, 3, 54, 4]
abbrev dktX3_best_0 : List UInt8 := dkwX3_best_0 ++ dktX3_best_1
theorem dksX3_best_0 : cX3_best.data.toList.drop 0 = dktX3_best_0 := by decide +kernel
theorem dksX3_best_1 : cX3_best.data.toList.drop 24 = dktX3_best_1 := dk_seg dksX3_best_0 24 rfl rfl
theorem dksX3_best_2 : cX3_best.data.toList.drop 48 = dktX3_best_2 := dk_seg dksX3_best_1 24 rfl rfl
theorem dksX3_best_3 : cX3_best.data.toList.drop 72 = dktX3_best_3 := dk_seg dksX3_best_2 24 rfl rfl
theorem dksX3_best_4 : cX3_best.data.toList.drop 96 = dktX3_best_4 := dk_seg dksX3_best_3 24 rfl rfl
theorem dksX3_best_5 : cX3_best.data.toList.drop 119 = dktX3_best_5 := dk_seg dksX3_best_4 23 rfl rfl
theorem dksX3_best_6 : cX3_best.data.toList.drop 142 = dktX3_best_6 := dk_seg dksX3_best_5 23 rfl rfl
theorem dksX3_best_7 : cX3_best.data.toList.drop 164 = dktX3_best_7 := dk_seg dksX3_best_6 22 rfl rfl
theorem dksX3_best_8 : cX3_best.data.toList.drop 188 = dktX3_best_8 := dk_seg dksX3_best_7 24 rfl rfl
theorem dksX3_best_9 : cX3_best.data.toList.drop 212 = dktX3_best_9 := dk_seg dksX3_best_8 24 rfl rfl
theorem dX3_best_0 : decode cX3_best 0 = .ok (.aload_n 0, 1) := dk_42 (dk_at dksX3_best_0 0 rfl rfl)
theorem dX3_best_1 : decode cX3_best 1 = .ok (.iconst 0, 1) := dk_3 (dk_at dksX3_best_0 1 rfl rfl)
theorem dX3_best_2 : decode cX3_best 2 = .ok (.putfield 104, 3) := dk_181 0 104 (dk_at dksX3_best_0 2 rfl rfl)
theorem dX3_best_5 : decode cX3_best 5 = .ok (.aload_n 0, 1) := dk_42 (dk_at dksX3_best_0 5 rfl rfl)
theorem dX3_best_6 : decode cX3_best 6 = .ok (.iload_n 1, 1) := dk_27 (dk_at dksX3_best_0 6 rfl rfl)
theorem dX3_best_7 : decode cX3_best 7 = .ok (.invokevirtual 130, 3) := dk_182 0 130 (dk_at dksX3_best_0 7 rfl rfl)
theorem dX3_best_10 : decode cX3_best 10 = .ok (.ifCond .ne 9, 3) := dk_154 0 9 (dk_at dksX3_best_0 10 rfl rfl)
theorem dX3_best_13 : decode cX3_best 13 = .ok (.aload_n 0, 1) := dk_42 (dk_at dksX3_best_0 13 rfl rfl)
theorem dX3_best_14 : decode cX3_best 14 = .ok (.iconst 1, 1) := dk_4 (dk_at dksX3_best_0 14 rfl rfl)
theorem dX3_best_15 : decode cX3_best 15 = .ok (.invokevirtual 136, 3) := dk_182 0 136 (dk_at dksX3_best_0 15 rfl rfl)
theorem dX3_best_18 : decode cX3_best 18 = .ok (.ireturn, 1) := dk_172 (dk_at dksX3_best_0 18 rfl rfl)
theorem dX3_best_19 : decode cX3_best 19 = .ok (.iconst 0, 1) := dk_3 (dk_at dksX3_best_0 19 rfl rfl)
theorem dX3_best_20 : decode cX3_best 20 = .ok (.istore_n 3, 1) := dk_62 (dk_at dksX3_best_0 20 rfl rfl)
theorem dX3_best_21 : decode cX3_best 21 = .ok (.iconst 0, 1) := dk_3 (dk_at dksX3_best_0 21 rfl rfl)
theorem dX3_best_22 : decode cX3_best 22 = .ok (.istore 4, 2) := dk_54 4 (dk_at dksX3_best_0 22 rfl rfl)
theorem dX3_best_24 : decode cX3_best 24 = .ok (.iload 4, 2) := dk_21 4 (dk_at dksX3_best_1 0 rfl rfl)
theorem dX3_best_26 : decode cX3_best 26 = .ok (.aload_n 0, 1) := dk_42 (dk_at dksX3_best_1 2 rfl rfl)
theorem dX3_best_27 : decode cX3_best 27 = .ok (.getfield 116, 3) := dk_180 0 116 (dk_at dksX3_best_1 3 rfl rfl)
theorem dX3_best_30 : decode cX3_best 30 = .ok (.if_icmp .ge 35, 3) := dk_162 0 35 (dk_at dksX3_best_1 6 rfl rfl)
theorem dX3_best_33 : decode cX3_best 33 = .ok (.aload_n 0, 1) := dk_42 (dk_at dksX3_best_1 9 rfl rfl)
theorem dX3_best_34 : decode cX3_best 34 = .ok (.getfield 82, 3) := dk_180 0 82 (dk_at dksX3_best_1 10 rfl rfl)
theorem dX3_best_37 : decode cX3_best 37 = .ok (.iload 4, 2) := dk_21 4 (dk_at dksX3_best_1 13 rfl rfl)
theorem dX3_best_39 : decode cX3_best 39 = .ok (.iload_n 3, 1) := dk_29 (dk_at dksX3_best_1 15 rfl rfl)
theorem dX3_best_40 : decode cX3_best 40 = .ok (.iastore, 1) := dk_79 (dk_at dksX3_best_1 16 rfl rfl)
theorem dX3_best_41 : decode cX3_best 41 = .ok (.iload_n 3, 1) := dk_29 (dk_at dksX3_best_1 17 rfl rfl)
theorem dX3_best_42 : decode cX3_best 42 = .ok (.aload_n 0, 1) := dk_42 (dk_at dksX3_best_1 18 rfl rfl)
theorem dX3_best_43 : decode cX3_best 43 = .ok (.getfield 50, 3) := dk_180 0 50 (dk_at dksX3_best_1 19 rfl rfl)
theorem dX3_best_46 : decode cX3_best 46 = .ok (.iload 4, 2) := dk_21 4 (dk_at dksX3_best_1 22 rfl rfl)
theorem dX3_best_48 : decode cX3_best 48 = .ok (.baload, 1) := dk_51 (dk_at dksX3_best_2 0 rfl rfl)
theorem dX3_best_49 : decode cX3_best 49 = .ok (.ifCond .eq 7, 3) := dk_153 0 7 (dk_at dksX3_best_2 1 rfl rfl)
theorem dX3_best_52 : decode cX3_best 52 = .ok (.iconst 1, 1) := dk_4 (dk_at dksX3_best_2 4 rfl rfl)
theorem dX3_best_53 : decode cX3_best 53 = .ok (.goto 4, 3) := dk_167 0 4 (dk_at dksX3_best_2 5 rfl rfl)
theorem dX3_best_56 : decode cX3_best 56 = .ok (.iconst 0, 1) := dk_3 (dk_at dksX3_best_2 8 rfl rfl)
theorem dX3_best_57 : decode cX3_best 57 = .ok (.iadd, 1) := dk_96 (dk_at dksX3_best_2 9 rfl rfl)
theorem dX3_best_58 : decode cX3_best 58 = .ok (.istore_n 3, 1) := dk_62 (dk_at dksX3_best_2 10 rfl rfl)
theorem dX3_best_59 : decode cX3_best 59 = .ok (.iinc 4 1, 3) := dk_132 4 1 (dk_at dksX3_best_2 11 rfl rfl)
theorem dX3_best_62 : decode cX3_best 62 = .ok (.goto (-38), 3) := dk_167 255 218 (dk_at dksX3_best_2 14 rfl rfl)
theorem dX3_best_65 : decode cX3_best 65 = .ok (.iload_n 3, 1) := dk_29 (dk_at dksX3_best_2 17 rfl rfl)
theorem dX3_best_66 : decode cX3_best 66 = .ok (.bipush 10, 2) := dk_16 10 (dk_at dksX3_best_2 18 rfl rfl)
theorem dX3_best_68 : decode cX3_best 68 = .ok (.if_icmp .le 5, 3) := dk_164 0 5 (dk_at dksX3_best_2 20 rfl rfl)
theorem dX3_best_71 : decode cX3_best 71 = .ok (.iconst (-1), 1) := dk_2 (dk_at dksX3_best_2 23 rfl rfl)
theorem dX3_best_72 : decode cX3_best 72 = .ok (.ireturn, 1) := dk_172 (dk_at dksX3_best_3 0 rfl rfl)
theorem dX3_best_73 : decode cX3_best 73 = .ok (.iconst 1, 1) := dk_4 (dk_at dksX3_best_3 1 rfl rfl)
theorem dX3_best_74 : decode cX3_best 74 = .ok (.iload_n 3, 1) := dk_29 (dk_at dksX3_best_3 2 rfl rfl)
theorem dX3_best_75 : decode cX3_best 75 = .ok (.ishl, 1) := dk_120 (dk_at dksX3_best_3 3 rfl rfl)
theorem dX3_best_76 : decode cX3_best 76 = .ok (.istore 4, 2) := dk_54 4 (dk_at dksX3_best_3 4 rfl rfl)
theorem dX3_best_78 : decode cX3_best 78 = .ok (.iconst 0, 1) := dk_3 (dk_at dksX3_best_3 6 rfl rfl)
theorem dX3_best_79 : decode cX3_best 79 = .ok (.iload_n 1, 1) := dk_27 (dk_at dksX3_best_3 7 rfl rfl)
theorem dX3_best_80 : decode cX3_best 80 = .ok (.iconst 0, 1) := dk_3 (dk_at dksX3_best_3 8 rfl rfl)
theorem dX3_best_81 : decode cX3_best 81 = .ok (.invokestatic 158, 3) := dk_184 0 158 (dk_at dksX3_best_3 9 rfl rfl)
theorem dX3_best_84 : decode cX3_best 84 = .ok (.istore 5, 2) := dk_54 5 (dk_at dksX3_best_3 12 rfl rfl)
theorem dX3_best_86 : decode cX3_best 86 = .ok (.aload_n 0, 1) := dk_42 (dk_at dksX3_best_3 14 rfl rfl)
theorem dX3_best_87 : decode cX3_best 87 = .ok (.invokevirtual 206, 3) := dk_182 0 206 (dk_at dksX3_best_3 15 rfl rfl)
theorem dX3_best_90 : decode cX3_best 90 = .ok (.aload_n 0, 1) := dk_42 (dk_at dksX3_best_3 18 rfl rfl)
theorem dX3_best_91 : decode cX3_best 91 = .ok (.iload 5, 2) := dk_21 5 (dk_at dksX3_best_3 19 rfl rfl)
theorem dX3_best_93 : decode cX3_best 93 = .ok (.iload 4, 2) := dk_21 4 (dk_at dksX3_best_3 21 rfl rfl)
theorem dX3_best_95 : decode cX3_best 95 = .ok (.iload_n 2, 1) := dk_28 (dk_at dksX3_best_3 23 rfl rfl)
theorem dX3_best_96 : decode cX3_best 96 = .ok (.invokevirtual 209, 3) := dk_182 0 209 (dk_at dksX3_best_4 0 rfl rfl)
theorem dX3_best_99 : decode cX3_best 99 = .ok (.aload_n 0, 1) := dk_42 (dk_at dksX3_best_4 3 rfl rfl)
theorem dX3_best_100 : decode cX3_best 100 = .ok (.getfield 79, 3) := dk_180 0 79 (dk_at dksX3_best_4 4 rfl rfl)
theorem dX3_best_103 : decode cX3_best 103 = .ok (.iload 5, 2) := dk_21 5 (dk_at dksX3_best_4 7 rfl rfl)
theorem dX3_best_105 : decode cX3_best 105 = .ok (.iaload, 1) := dk_46 (dk_at dksX3_best_4 9 rfl rfl)
theorem dX3_best_106 : decode cX3_best 106 = .ok (.istore 6, 2) := dk_54 6 (dk_at dksX3_best_4 10 rfl rfl)
theorem dX3_best_108 : decode cX3_best 108 = .ok (.iload 6, 2) := dk_21 6 (dk_at dksX3_best_4 12 rfl rfl)
theorem dX3_best_110 : decode cX3_best 110 = .ok (.ldc 195, 2) := dk_18 195 (dk_at dksX3_best_4 14 rfl rfl)
theorem dX3_best_112 : decode cX3_best 112 = .ok (.if_icmp .lt 5, 3) := dk_161 0 5 (dk_at dksX3_best_4 16 rfl rfl)
theorem dX3_best_115 : decode cX3_best 115 = .ok (.iconst (-1), 1) := dk_2 (dk_at dksX3_best_4 19 rfl rfl)
theorem dX3_best_116 : decode cX3_best 116 = .ok (.ireturn, 1) := dk_172 (dk_at dksX3_best_4 20 rfl rfl)
theorem dX3_best_117 : decode cX3_best 117 = .ok (.aload_n 0, 1) := dk_42 (dk_at dksX3_best_4 21 rfl rfl)
theorem dX3_best_118 : decode cX3_best 118 = .ok (.iconst 0, 1) := dk_3 (dk_at dksX3_best_4 22 rfl rfl)
theorem dX3_best_119 : decode cX3_best 119 = .ok (.putfield 110, 3) := dk_181 0 110 (dk_at dksX3_best_5 0 rfl rfl)
theorem dX3_best_122 : decode cX3_best 122 = .ok (.iload 5, 2) := dk_21 5 (dk_at dksX3_best_5 3 rfl rfl)
theorem dX3_best_124 : decode cX3_best 124 = .ok (.istore 7, 2) := dk_54 7 (dk_at dksX3_best_5 5 rfl rfl)
theorem dX3_best_126 : decode cX3_best 126 = .ok (.iconst 0, 1) := dk_3 (dk_at dksX3_best_5 7 rfl rfl)
theorem dX3_best_127 : decode cX3_best 127 = .ok (.istore 8, 2) := dk_54 8 (dk_at dksX3_best_5 8 rfl rfl)
theorem dX3_best_129 : decode cX3_best 129 = .ok (.aload_n 0, 1) := dk_42 (dk_at dksX3_best_5 10 rfl rfl)
theorem dX3_best_130 : decode cX3_best 130 = .ok (.getfield 79, 3) := dk_180 0 79 (dk_at dksX3_best_5 11 rfl rfl)
theorem dX3_best_133 : decode cX3_best 133 = .ok (.bipush 60, 2) := dk_16 60 (dk_at dksX3_best_5 14 rfl rfl)
theorem dX3_best_135 : decode cX3_best 135 = .ok (.iload 8, 2) := dk_21 8 (dk_at dksX3_best_5 16 rfl rfl)
theorem dX3_best_137 : decode cX3_best 137 = .ok (.imul, 1) := dk_104 (dk_at dksX3_best_5 18 rfl rfl)
theorem dX3_best_138 : decode cX3_best 138 = .ok (.iload 7, 2) := dk_21 7 (dk_at dksX3_best_5 19 rfl rfl)
theorem dX3_best_140 : decode cX3_best 140 = .ok (.iadd, 1) := dk_96 (dk_at dksX3_best_5 21 rfl rfl)
theorem dX3_best_141 : decode cX3_best 141 = .ok (.iaload, 1) := dk_46 (dk_at dksX3_best_5 22 rfl rfl)
theorem dX3_best_142 : decode cX3_best 142 = .ok (.ifCond .le 75, 3) := dk_158 0 75 (dk_at dksX3_best_6 0 rfl rfl)
theorem dX3_best_145 : decode cX3_best 145 = .ok (.aload_n 0, 1) := dk_42 (dk_at dksX3_best_6 3 rfl rfl)
theorem dX3_best_146 : decode cX3_best 146 = .ok (.iload 7, 2) := dk_21 7 (dk_at dksX3_best_6 4 rfl rfl)
theorem dX3_best_148 : decode cX3_best 148 = .ok (.iload 8, 2) := dk_21 8 (dk_at dksX3_best_6 6 rfl rfl)
theorem dX3_best_150 : decode cX3_best 150 = .ok (.iload_n 2, 1) := dk_28 (dk_at dksX3_best_6 8 rfl rfl)
theorem dX3_best_151 : decode cX3_best 151 = .ok (.invokevirtual 196, 3) := dk_182 0 196 (dk_at dksX3_best_6 9 rfl rfl)
theorem dX3_best_154 : decode cX3_best 154 = .ok (.pop, 1) := dk_87 (dk_at dksX3_best_6 12 rfl rfl)
theorem dX3_best_155 : decode cX3_best 155 = .ok (.aload_n 0, 1) := dk_42 (dk_at dksX3_best_6 13 rfl rfl)
theorem dX3_best_156 : decode cX3_best 156 = .ok (.getfield 63, 3) := dk_180 0 63 (dk_at dksX3_best_6 14 rfl rfl)
theorem dX3_best_159 : decode cX3_best 159 = .ok (.aload_n 0, 1) := dk_42 (dk_at dksX3_best_6 17 rfl rfl)
theorem dX3_best_160 : decode cX3_best 160 = .ok (.getfield 110, 3) := dk_180 0 110 (dk_at dksX3_best_6 18 rfl rfl)
theorem dX3_best_163 : decode cX3_best 163 = .ok (.aload_n 0, 1) := dk_42 (dk_at dksX3_best_6 21 rfl rfl)
theorem dX3_best_164 : decode cX3_best 164 = .ok (.getfield 203, 3) := dk_180 0 203 (dk_at dksX3_best_7 0 rfl rfl)
theorem dX3_best_167 : decode cX3_best 167 = .ok (.iastore, 1) := dk_79 (dk_at dksX3_best_7 3 rfl rfl)
theorem dX3_best_168 : decode cX3_best 168 = .ok (.aload_n 0, 1) := dk_42 (dk_at dksX3_best_7 4 rfl rfl)
theorem dX3_best_169 : decode cX3_best 169 = .ok (.dup, 1) := dk_89 (dk_at dksX3_best_7 5 rfl rfl)
theorem dX3_best_170 : decode cX3_best 170 = .ok (.getfield 110, 3) := dk_180 0 110 (dk_at dksX3_best_7 6 rfl rfl)
theorem dX3_best_173 : decode cX3_best 173 = .ok (.iconst 1, 1) := dk_4 (dk_at dksX3_best_7 9 rfl rfl)
theorem dX3_best_174 : decode cX3_best 174 = .ok (.iadd, 1) := dk_96 (dk_at dksX3_best_7 10 rfl rfl)
theorem dX3_best_175 : decode cX3_best 175 = .ok (.putfield 110, 3) := dk_181 0 110 (dk_at dksX3_best_7 11 rfl rfl)
theorem dX3_best_178 : decode cX3_best 178 = .ok (.bipush 8, 2) := dk_16 8 (dk_at dksX3_best_7 14 rfl rfl)
theorem dX3_best_180 : decode cX3_best 180 = .ok (.iload 7, 2) := dk_21 7 (dk_at dksX3_best_7 16 rfl rfl)
theorem dX3_best_182 : decode cX3_best 182 = .ok (.imul, 1) := dk_104 (dk_at dksX3_best_7 18 rfl rfl)
theorem dX3_best_183 : decode cX3_best 183 = .ok (.aload_n 0, 1) := dk_42 (dk_at dksX3_best_7 19 rfl rfl)
theorem dX3_best_184 : decode cX3_best 184 = .ok (.getfield 203, 3) := dk_180 0 203 (dk_at dksX3_best_7 20 rfl rfl)
theorem dX3_best_187 : decode cX3_best 187 = .ok (.iadd, 1) := dk_96 (dk_at dksX3_best_7 23 rfl rfl)
theorem dX3_best_188 : decode cX3_best 188 = .ok (.istore 9, 2) := dk_54 9 (dk_at dksX3_best_8 0 rfl rfl)
theorem dX3_best_190 : decode cX3_best 190 = .ok (.iload 8, 2) := dk_21 8 (dk_at dksX3_best_8 2 rfl rfl)
theorem dX3_best_192 : decode cX3_best 192 = .ok (.aload_n 0, 1) := dk_42 (dk_at dksX3_best_8 4 rfl rfl)
theorem dX3_best_193 : decode cX3_best 193 = .ok (.getfield 91, 3) := dk_180 0 91 (dk_at dksX3_best_8 5 rfl rfl)
theorem dX3_best_196 : decode cX3_best 196 = .ok (.iload 9, 2) := dk_21 9 (dk_at dksX3_best_8 8 rfl rfl)
theorem dX3_best_198 : decode cX3_best 198 = .ok (.iaload, 1) := dk_46 (dk_at dksX3_best_8 10 rfl rfl)
theorem dX3_best_199 : decode cX3_best 199 = .ok (.iload_n 2, 1) := dk_28 (dk_at dksX3_best_8 11 rfl rfl)
theorem dX3_best_200 : decode cX3_best 200 = .ok (.invokestatic 200, 3) := dk_184 0 200 (dk_at dksX3_best_8 12 rfl rfl)
theorem dX3_best_203 : decode cX3_best 203 = .ok (.istore 8, 2) := dk_54 8 (dk_at dksX3_best_8 15 rfl rfl)
theorem dX3_best_205 : decode cX3_best 205 = .ok (.aload_n 0, 1) := dk_42 (dk_at dksX3_best_8 17 rfl rfl)
theorem dX3_best_206 : decode cX3_best 206 = .ok (.getfield 85, 3) := dk_180 0 85 (dk_at dksX3_best_8 18 rfl rfl)
theorem dX3_best_209 : decode cX3_best 209 = .ok (.iload 9, 2) := dk_21 9 (dk_at dksX3_best_8 21 rfl rfl)
theorem dX3_best_211 : decode cX3_best 211 = .ok (.iaload, 1) := dk_46 (dk_at dksX3_best_8 23 rfl rfl)
theorem dX3_best_212 : decode cX3_best 212 = .ok (.istore 7, 2) := dk_54 7 (dk_at dksX3_best_9 0 rfl rfl)
theorem dX3_best_214 : decode cX3_best 214 = .ok (.goto (-85), 3) := dk_167 255 171 (dk_at dksX3_best_9 2 rfl rfl)
theorem dX3_best_217 : decode cX3_best 217 = .ok (.iload 6, 2) := dk_21 6 (dk_at dksX3_best_9 5 rfl rfl)
theorem dX3_best_219 : decode cX3_best 219 = .ok (.sipush 2048, 3) := dk_17 8 0 (dk_at dksX3_best_9 7 rfl rfl)
theorem dX3_best_222 : decode cX3_best 222 = .ok (.idiv, 1) := dk_108 (dk_at dksX3_best_9 10 rfl rfl)
theorem dX3_best_223 : decode cX3_best 223 = .ok (.ireturn, 1) := dk_172 (dk_at dksX3_best_9 11 rfl rfl)
abbrev cX3_tables : ByteArray := prog_6_method_40_code
def yX3_tables : MethodName := ⟨RX3, "tables", "()V"⟩
def dkwX3_tables_6 : List UInt8 := [167, 255, 117, 177]
abbrev dktX3_tables_6 : List UInt8 := dkwX3_tables_6 ++ []
def dkwX3_tables_5 : List UInt8 := [42, 180, 0, 82, 21, 4, 46, 167, 0, 5, 16, 254, 79, 132, 2, 1, 167, 255, 131, 132, 1, 1]
abbrev dktX3_tables_5 : List UInt8 := dkwX3_tables_5 ++ dktX3_tables_6
def dkwX3_tables_4 : List UInt8 := [180, 0, 91, 29, 21, 4, 2, 160, 0, 7, 2, 167, 0, 25, 42, 180, 0, 50, 21, 4, 51, 153, 0, 13]
abbrev dktX3_tables_4 : List UInt8 := dkwX3_tables_4 ++ dktX3_tables_5
def dkwX3_tables_3 : List UInt8 := [167, 0, 61, 42, 27, 28, 182, 0, 175, 54, 4, 42, 180, 0, 88, 29, 42, 27, 28, 182, 0, 178, 79, 42]
abbrev dktX3_tables_3 : List UInt8 := dkwX3_tables_3 ++ dktX3_tables_4
def dkwX3_tables_2 : List UInt8 := [162, 0, 12, 42, 27, 28, 182, 0, 165, 167, 0, 4, 2, 79, 42, 180, 0, 85, 29, 46, 2, 160, 0, 6]
abbrev dktX3_tables_2 : List UInt8 := dkwX3_tables_2 ++ dktX3_tables_3
def dkwX3_tables_1 : List UInt8 := [180, 0, 85, 29, 27, 184, 0, 143, 42, 180, 0, 15, 162, 0, 23, 27, 184, 0, 140, 42, 180, 0, 19]
abbrev dktX3_tables_1 : List UInt8 := dkwX3_tables_1 ++ dktX3_tables_2
def dkwX3_tables_0 : List UInt8 := [3, 60, 27, 16, 60, 162, 0, 139, 3, 61, 28, 16, 8, 162, 0, 125, 16, 8, 27, 104, 28, 96, 62, 42]
abbrev dktX3_tables_0 : List UInt8 := dkwX3_tables_0 ++ dktX3_tables_1
theorem dksX3_tables_0 : cX3_tables.data.toList.drop 0 = dktX3_tables_0 := by decide +kernel
theorem dksX3_tables_1 : cX3_tables.data.toList.drop 24 = dktX3_tables_1 := dk_seg dksX3_tables_0 24 rfl rfl
theorem dksX3_tables_2 : cX3_tables.data.toList.drop 47 = dktX3_tables_2 := dk_seg dksX3_tables_1 23 rfl rfl
theorem dksX3_tables_3 : cX3_tables.data.toList.drop 71 = dktX3_tables_3 := dk_seg dksX3_tables_2 24 rfl rfl
theorem dksX3_tables_4 : cX3_tables.data.toList.drop 95 = dktX3_tables_4 := dk_seg dksX3_tables_3 24 rfl rfl
theorem dksX3_tables_5 : cX3_tables.data.toList.drop 119 = dktX3_tables_5 := dk_seg dksX3_tables_4 24 rfl rfl
theorem dksX3_tables_6 : cX3_tables.data.toList.drop 141 = dktX3_tables_6 := dk_seg dksX3_tables_5 22 rfl rfl
theorem dX3_tables_0 : decode cX3_tables 0 = .ok (.iconst 0, 1) := dk_3 (dk_at dksX3_tables_0 0 rfl rfl)
theorem dX3_tables_1 : decode cX3_tables 1 = .ok (.istore_n 1, 1) := dk_60 (dk_at dksX3_tables_0 1 rfl rfl)
theorem dX3_tables_2 : decode cX3_tables 2 = .ok (.iload_n 1, 1) := dk_27 (dk_at dksX3_tables_0 2 rfl rfl)
theorem dX3_tables_3 : decode cX3_tables 3 = .ok (.bipush 60, 2) := dk_16 60 (dk_at dksX3_tables_0 3 rfl rfl)
theorem dX3_tables_5 : decode cX3_tables 5 = .ok (.if_icmp .ge 139, 3) := dk_162 0 139 (dk_at dksX3_tables_0 5 rfl rfl)
theorem dX3_tables_8 : decode cX3_tables 8 = .ok (.iconst 0, 1) := dk_3 (dk_at dksX3_tables_0 8 rfl rfl)
theorem dX3_tables_9 : decode cX3_tables 9 = .ok (.istore_n 2, 1) := dk_61 (dk_at dksX3_tables_0 9 rfl rfl)
theorem dX3_tables_10 : decode cX3_tables 10 = .ok (.iload_n 2, 1) := dk_28 (dk_at dksX3_tables_0 10 rfl rfl)
theorem dX3_tables_11 : decode cX3_tables 11 = .ok (.bipush 8, 2) := dk_16 8 (dk_at dksX3_tables_0 11 rfl rfl)
theorem dX3_tables_13 : decode cX3_tables 13 = .ok (.if_icmp .ge 125, 3) := dk_162 0 125 (dk_at dksX3_tables_0 13 rfl rfl)
theorem dX3_tables_16 : decode cX3_tables 16 = .ok (.bipush 8, 2) := dk_16 8 (dk_at dksX3_tables_0 16 rfl rfl)
theorem dX3_tables_18 : decode cX3_tables 18 = .ok (.iload_n 1, 1) := dk_27 (dk_at dksX3_tables_0 18 rfl rfl)
theorem dX3_tables_19 : decode cX3_tables 19 = .ok (.imul, 1) := dk_104 (dk_at dksX3_tables_0 19 rfl rfl)
theorem dX3_tables_20 : decode cX3_tables 20 = .ok (.iload_n 2, 1) := dk_28 (dk_at dksX3_tables_0 20 rfl rfl)
theorem dX3_tables_21 : decode cX3_tables 21 = .ok (.iadd, 1) := dk_96 (dk_at dksX3_tables_0 21 rfl rfl)
theorem dX3_tables_22 : decode cX3_tables 22 = .ok (.istore_n 3, 1) := dk_62 (dk_at dksX3_tables_0 22 rfl rfl)
theorem dX3_tables_23 : decode cX3_tables 23 = .ok (.aload_n 0, 1) := dk_42 (dk_at dksX3_tables_0 23 rfl rfl)
theorem dX3_tables_24 : decode cX3_tables 24 = .ok (.getfield 85, 3) := dk_180 0 85 (dk_at dksX3_tables_1 0 rfl rfl)
theorem dX3_tables_27 : decode cX3_tables 27 = .ok (.iload_n 3, 1) := dk_29 (dk_at dksX3_tables_1 3 rfl rfl)
theorem dX3_tables_28 : decode cX3_tables 28 = .ok (.iload_n 1, 1) := dk_27 (dk_at dksX3_tables_1 4 rfl rfl)
theorem dX3_tables_29 : decode cX3_tables 29 = .ok (.invokestatic 143, 3) := dk_184 0 143 (dk_at dksX3_tables_1 5 rfl rfl)
theorem dX3_tables_32 : decode cX3_tables 32 = .ok (.aload_n 0, 1) := dk_42 (dk_at dksX3_tables_1 8 rfl rfl)
theorem dX3_tables_33 : decode cX3_tables 33 = .ok (.getfield 15, 3) := dk_180 0 15 (dk_at dksX3_tables_1 9 rfl rfl)
theorem dX3_tables_36 : decode cX3_tables 36 = .ok (.if_icmp .ge 23, 3) := dk_162 0 23 (dk_at dksX3_tables_1 12 rfl rfl)
theorem dX3_tables_39 : decode cX3_tables 39 = .ok (.iload_n 1, 1) := dk_27 (dk_at dksX3_tables_1 15 rfl rfl)
theorem dX3_tables_40 : decode cX3_tables 40 = .ok (.invokestatic 140, 3) := dk_184 0 140 (dk_at dksX3_tables_1 16 rfl rfl)
theorem dX3_tables_43 : decode cX3_tables 43 = .ok (.aload_n 0, 1) := dk_42 (dk_at dksX3_tables_1 19 rfl rfl)
theorem dX3_tables_44 : decode cX3_tables 44 = .ok (.getfield 19, 3) := dk_180 0 19 (dk_at dksX3_tables_1 20 rfl rfl)
theorem dX3_tables_47 : decode cX3_tables 47 = .ok (.if_icmp .ge 12, 3) := dk_162 0 12 (dk_at dksX3_tables_2 0 rfl rfl)
theorem dX3_tables_50 : decode cX3_tables 50 = .ok (.aload_n 0, 1) := dk_42 (dk_at dksX3_tables_2 3 rfl rfl)
theorem dX3_tables_51 : decode cX3_tables 51 = .ok (.iload_n 1, 1) := dk_27 (dk_at dksX3_tables_2 4 rfl rfl)
theorem dX3_tables_52 : decode cX3_tables 52 = .ok (.iload_n 2, 1) := dk_28 (dk_at dksX3_tables_2 5 rfl rfl)
theorem dX3_tables_53 : decode cX3_tables 53 = .ok (.invokevirtual 165, 3) := dk_182 0 165 (dk_at dksX3_tables_2 6 rfl rfl)
theorem dX3_tables_56 : decode cX3_tables 56 = .ok (.goto 4, 3) := dk_167 0 4 (dk_at dksX3_tables_2 9 rfl rfl)
theorem dX3_tables_59 : decode cX3_tables 59 = .ok (.iconst (-1), 1) := dk_2 (dk_at dksX3_tables_2 12 rfl rfl)
theorem dX3_tables_60 : decode cX3_tables 60 = .ok (.iastore, 1) := dk_79 (dk_at dksX3_tables_2 13 rfl rfl)
theorem dX3_tables_61 : decode cX3_tables 61 = .ok (.aload_n 0, 1) := dk_42 (dk_at dksX3_tables_2 14 rfl rfl)
theorem dX3_tables_62 : decode cX3_tables 62 = .ok (.getfield 85, 3) := dk_180 0 85 (dk_at dksX3_tables_2 15 rfl rfl)
theorem dX3_tables_65 : decode cX3_tables 65 = .ok (.iload_n 3, 1) := dk_29 (dk_at dksX3_tables_2 18 rfl rfl)
theorem dX3_tables_66 : decode cX3_tables 66 = .ok (.iaload, 1) := dk_46 (dk_at dksX3_tables_2 19 rfl rfl)
theorem dX3_tables_67 : decode cX3_tables 67 = .ok (.iconst (-1), 1) := dk_2 (dk_at dksX3_tables_2 20 rfl rfl)
theorem dX3_tables_68 : decode cX3_tables 68 = .ok (.if_icmp .ne 6, 3) := dk_160 0 6 (dk_at dksX3_tables_2 21 rfl rfl)
theorem dX3_tables_71 : decode cX3_tables 71 = .ok (.goto 61, 3) := dk_167 0 61 (dk_at dksX3_tables_3 0 rfl rfl)
theorem dX3_tables_74 : decode cX3_tables 74 = .ok (.aload_n 0, 1) := dk_42 (dk_at dksX3_tables_3 3 rfl rfl)
theorem dX3_tables_75 : decode cX3_tables 75 = .ok (.iload_n 1, 1) := dk_27 (dk_at dksX3_tables_3 4 rfl rfl)
theorem dX3_tables_76 : decode cX3_tables 76 = .ok (.iload_n 2, 1) := dk_28 (dk_at dksX3_tables_3 5 rfl rfl)
theorem dX3_tables_77 : decode cX3_tables 77 = .ok (.invokevirtual 175, 3) := dk_182 0 175 (dk_at dksX3_tables_3 6 rfl rfl)
theorem dX3_tables_80 : decode cX3_tables 80 = .ok (.istore 4, 2) := dk_54 4 (dk_at dksX3_tables_3 9 rfl rfl)
theorem dX3_tables_82 : decode cX3_tables 82 = .ok (.aload_n 0, 1) := dk_42 (dk_at dksX3_tables_3 11 rfl rfl)
theorem dX3_tables_83 : decode cX3_tables 83 = .ok (.getfield 88, 3) := dk_180 0 88 (dk_at dksX3_tables_3 12 rfl rfl)
theorem dX3_tables_86 : decode cX3_tables 86 = .ok (.iload_n 3, 1) := dk_29 (dk_at dksX3_tables_3 15 rfl rfl)
theorem dX3_tables_87 : decode cX3_tables 87 = .ok (.aload_n 0, 1) := dk_42 (dk_at dksX3_tables_3 16 rfl rfl)
theorem dX3_tables_88 : decode cX3_tables 88 = .ok (.iload_n 1, 1) := dk_27 (dk_at dksX3_tables_3 17 rfl rfl)
theorem dX3_tables_89 : decode cX3_tables 89 = .ok (.iload_n 2, 1) := dk_28 (dk_at dksX3_tables_3 18 rfl rfl)
theorem dX3_tables_90 : decode cX3_tables 90 = .ok (.invokevirtual 178, 3) := dk_182 0 178 (dk_at dksX3_tables_3 19 rfl rfl)
theorem dX3_tables_93 : decode cX3_tables 93 = .ok (.iastore, 1) := dk_79 (dk_at dksX3_tables_3 22 rfl rfl)
theorem dX3_tables_94 : decode cX3_tables 94 = .ok (.aload_n 0, 1) := dk_42 (dk_at dksX3_tables_3 23 rfl rfl)
theorem dX3_tables_95 : decode cX3_tables 95 = .ok (.getfield 91, 3) := dk_180 0 91 (dk_at dksX3_tables_4 0 rfl rfl)
theorem dX3_tables_98 : decode cX3_tables 98 = .ok (.iload_n 3, 1) := dk_29 (dk_at dksX3_tables_4 3 rfl rfl)
theorem dX3_tables_99 : decode cX3_tables 99 = .ok (.iload 4, 2) := dk_21 4 (dk_at dksX3_tables_4 4 rfl rfl)
theorem dX3_tables_101 : decode cX3_tables 101 = .ok (.iconst (-1), 1) := dk_2 (dk_at dksX3_tables_4 6 rfl rfl)
theorem dX3_tables_102 : decode cX3_tables 102 = .ok (.if_icmp .ne 7, 3) := dk_160 0 7 (dk_at dksX3_tables_4 7 rfl rfl)
theorem dX3_tables_105 : decode cX3_tables 105 = .ok (.iconst (-1), 1) := dk_2 (dk_at dksX3_tables_4 10 rfl rfl)
theorem dX3_tables_106 : decode cX3_tables 106 = .ok (.goto 25, 3) := dk_167 0 25 (dk_at dksX3_tables_4 11 rfl rfl)
theorem dX3_tables_109 : decode cX3_tables 109 = .ok (.aload_n 0, 1) := dk_42 (dk_at dksX3_tables_4 14 rfl rfl)
theorem dX3_tables_110 : decode cX3_tables 110 = .ok (.getfield 50, 3) := dk_180 0 50 (dk_at dksX3_tables_4 15 rfl rfl)
theorem dX3_tables_113 : decode cX3_tables 113 = .ok (.iload 4, 2) := dk_21 4 (dk_at dksX3_tables_4 18 rfl rfl)
theorem dX3_tables_115 : decode cX3_tables 115 = .ok (.baload, 1) := dk_51 (dk_at dksX3_tables_4 20 rfl rfl)
theorem dX3_tables_116 : decode cX3_tables 116 = .ok (.ifCond .eq 13, 3) := dk_153 0 13 (dk_at dksX3_tables_4 21 rfl rfl)
theorem dX3_tables_119 : decode cX3_tables 119 = .ok (.aload_n 0, 1) := dk_42 (dk_at dksX3_tables_5 0 rfl rfl)
theorem dX3_tables_120 : decode cX3_tables 120 = .ok (.getfield 82, 3) := dk_180 0 82 (dk_at dksX3_tables_5 1 rfl rfl)
theorem dX3_tables_123 : decode cX3_tables 123 = .ok (.iload 4, 2) := dk_21 4 (dk_at dksX3_tables_5 4 rfl rfl)
theorem dX3_tables_125 : decode cX3_tables 125 = .ok (.iaload, 1) := dk_46 (dk_at dksX3_tables_5 6 rfl rfl)
theorem dX3_tables_126 : decode cX3_tables 126 = .ok (.goto 5, 3) := dk_167 0 5 (dk_at dksX3_tables_5 7 rfl rfl)
theorem dX3_tables_129 : decode cX3_tables 129 = .ok (.bipush (-2), 2) := dk_16 254 (dk_at dksX3_tables_5 10 rfl rfl)
theorem dX3_tables_131 : decode cX3_tables 131 = .ok (.iastore, 1) := dk_79 (dk_at dksX3_tables_5 12 rfl rfl)
theorem dX3_tables_132 : decode cX3_tables 132 = .ok (.iinc 2 1, 3) := dk_132 2 1 (dk_at dksX3_tables_5 13 rfl rfl)
theorem dX3_tables_135 : decode cX3_tables 135 = .ok (.goto (-125), 3) := dk_167 255 131 (dk_at dksX3_tables_5 16 rfl rfl)
theorem dX3_tables_138 : decode cX3_tables 138 = .ok (.iinc 1 1, 3) := dk_132 1 1 (dk_at dksX3_tables_5 19 rfl rfl)
theorem dX3_tables_141 : decode cX3_tables 141 = .ok (.goto (-139), 3) := dk_167 255 117 (dk_at dksX3_tables_6 0 rfl rfl)
theorem dX3_tables_144 : decode cX3_tables 144 = .ok (.return_, 1) := dk_177 (dk_at dksX3_tables_6 3 rfl rfl)
abbrev cX3_reckon : ByteArray := prog_6_method_42_code
def yX3_reckon : MethodName := ⟨RX3, "reckon", "(IIZ)V"⟩
def dkwX3_reckon_5 : List UInt8 := [54, 5, 132, 6, 1, 167, 255, 196, 167, 255, 182, 132, 4, 255, 167, 255, 168, 177]
abbrev dktX3_reckon_5 : List UInt8 := dkwX3_reckon_5 ++ []
def dkwX3_reckon_4 : List UInt8 := [96, 46, 161, 0, 6, 167, 0, 21, 42, 180, 0, 79, 16, 60, 21, 4, 104, 21, 6, 96, 21, 7, 79, 4]
abbrev dktX3_reckon_4 : List UInt8 := dkwX3_reckon_4 ++ dktX3_reckon_5
def dkwX3_reckon_3 : List UInt8 := [42, 21, 6, 21, 4, 29, 182, 0, 196, 54, 7, 21, 7, 42, 180, 0, 79, 16, 60, 21, 4, 104, 21, 6]
abbrev dktX3_reckon_3 : List UInt8 := dkwX3_reckon_3 ++ dktX3_reckon_4
def dkwX3_reckon_2 : List UInt8 := [155, 0, 89, 4, 54, 5, 21, 5, 153, 0, 75, 3, 54, 5, 3, 54, 6, 21, 6, 16, 60, 162, 0, 59]
abbrev dktX3_reckon_2 : List UInt8 := dkwX3_reckon_2 ++ dktX3_reckon_3
def dkwX3_reckon_1 : List UInt8 := [167, 255, 235, 42, 180, 0, 79, 16, 60, 28, 4, 100, 104, 27, 96, 3, 79, 28, 4, 100, 54, 4, 21, 4]
abbrev dktX3_reckon_1 : List UInt8 := dkwX3_reckon_1 ++ dktX3_reckon_2
def dkwX3_reckon_0 : List UInt8 := [3, 54, 4, 21, 4, 16, 60, 28, 104, 162, 0, 18, 42, 180, 0, 79, 21, 4, 18, 195, 79, 132, 4, 1]
abbrev dktX3_reckon_0 : List UInt8 := dkwX3_reckon_0 ++ dktX3_reckon_1
theorem dksX3_reckon_0 : cX3_reckon.data.toList.drop 0 = dktX3_reckon_0 := by decide +kernel
theorem dksX3_reckon_1 : cX3_reckon.data.toList.drop 24 = dktX3_reckon_1 := dk_seg dksX3_reckon_0 24 rfl rfl
theorem dksX3_reckon_2 : cX3_reckon.data.toList.drop 48 = dktX3_reckon_2 := dk_seg dksX3_reckon_1 24 rfl rfl
theorem dksX3_reckon_3 : cX3_reckon.data.toList.drop 72 = dktX3_reckon_3 := dk_seg dksX3_reckon_2 24 rfl rfl
theorem dksX3_reckon_4 : cX3_reckon.data.toList.drop 96 = dktX3_reckon_4 := dk_seg dksX3_reckon_3 24 rfl rfl
theorem dksX3_reckon_5 : cX3_reckon.data.toList.drop 120 = dktX3_reckon_5 := dk_seg dksX3_reckon_4 24 rfl rfl
theorem dX3_reckon_0 : decode cX3_reckon 0 = .ok (.iconst 0, 1) := dk_3 (dk_at dksX3_reckon_0 0 rfl rfl)
theorem dX3_reckon_1 : decode cX3_reckon 1 = .ok (.istore 4, 2) := dk_54 4 (dk_at dksX3_reckon_0 1 rfl rfl)
theorem dX3_reckon_3 : decode cX3_reckon 3 = .ok (.iload 4, 2) := dk_21 4 (dk_at dksX3_reckon_0 3 rfl rfl)
theorem dX3_reckon_5 : decode cX3_reckon 5 = .ok (.bipush 60, 2) := dk_16 60 (dk_at dksX3_reckon_0 5 rfl rfl)
theorem dX3_reckon_7 : decode cX3_reckon 7 = .ok (.iload_n 2, 1) := dk_28 (dk_at dksX3_reckon_0 7 rfl rfl)
theorem dX3_reckon_8 : decode cX3_reckon 8 = .ok (.imul, 1) := dk_104 (dk_at dksX3_reckon_0 8 rfl rfl)
theorem dX3_reckon_9 : decode cX3_reckon 9 = .ok (.if_icmp .ge 18, 3) := dk_162 0 18 (dk_at dksX3_reckon_0 9 rfl rfl)
theorem dX3_reckon_12 : decode cX3_reckon 12 = .ok (.aload_n 0, 1) := dk_42 (dk_at dksX3_reckon_0 12 rfl rfl)
theorem dX3_reckon_13 : decode cX3_reckon 13 = .ok (.getfield 79, 3) := dk_180 0 79 (dk_at dksX3_reckon_0 13 rfl rfl)
theorem dX3_reckon_16 : decode cX3_reckon 16 = .ok (.iload 4, 2) := dk_21 4 (dk_at dksX3_reckon_0 16 rfl rfl)
theorem dX3_reckon_18 : decode cX3_reckon 18 = .ok (.ldc 195, 2) := dk_18 195 (dk_at dksX3_reckon_0 18 rfl rfl)
theorem dX3_reckon_20 : decode cX3_reckon 20 = .ok (.iastore, 1) := dk_79 (dk_at dksX3_reckon_0 20 rfl rfl)
theorem dX3_reckon_21 : decode cX3_reckon 21 = .ok (.iinc 4 1, 3) := dk_132 4 1 (dk_at dksX3_reckon_0 21 rfl rfl)
theorem dX3_reckon_24 : decode cX3_reckon 24 = .ok (.goto (-21), 3) := dk_167 255 235 (dk_at dksX3_reckon_1 0 rfl rfl)
theorem dX3_reckon_27 : decode cX3_reckon 27 = .ok (.aload_n 0, 1) := dk_42 (dk_at dksX3_reckon_1 3 rfl rfl)
theorem dX3_reckon_28 : decode cX3_reckon 28 = .ok (.getfield 79, 3) := dk_180 0 79 (dk_at dksX3_reckon_1 4 rfl rfl)
theorem dX3_reckon_31 : decode cX3_reckon 31 = .ok (.bipush 60, 2) := dk_16 60 (dk_at dksX3_reckon_1 7 rfl rfl)
theorem dX3_reckon_33 : decode cX3_reckon 33 = .ok (.iload_n 2, 1) := dk_28 (dk_at dksX3_reckon_1 9 rfl rfl)
theorem dX3_reckon_34 : decode cX3_reckon 34 = .ok (.iconst 1, 1) := dk_4 (dk_at dksX3_reckon_1 10 rfl rfl)
theorem dX3_reckon_35 : decode cX3_reckon 35 = .ok (.isub, 1) := dk_100 (dk_at dksX3_reckon_1 11 rfl rfl)
theorem dX3_reckon_36 : decode cX3_reckon 36 = .ok (.imul, 1) := dk_104 (dk_at dksX3_reckon_1 12 rfl rfl)
theorem dX3_reckon_37 : decode cX3_reckon 37 = .ok (.iload_n 1, 1) := dk_27 (dk_at dksX3_reckon_1 13 rfl rfl)
theorem dX3_reckon_38 : decode cX3_reckon 38 = .ok (.iadd, 1) := dk_96 (dk_at dksX3_reckon_1 14 rfl rfl)
theorem dX3_reckon_39 : decode cX3_reckon 39 = .ok (.iconst 0, 1) := dk_3 (dk_at dksX3_reckon_1 15 rfl rfl)
theorem dX3_reckon_40 : decode cX3_reckon 40 = .ok (.iastore, 1) := dk_79 (dk_at dksX3_reckon_1 16 rfl rfl)
theorem dX3_reckon_41 : decode cX3_reckon 41 = .ok (.iload_n 2, 1) := dk_28 (dk_at dksX3_reckon_1 17 rfl rfl)
theorem dX3_reckon_42 : decode cX3_reckon 42 = .ok (.iconst 1, 1) := dk_4 (dk_at dksX3_reckon_1 18 rfl rfl)
theorem dX3_reckon_43 : decode cX3_reckon 43 = .ok (.isub, 1) := dk_100 (dk_at dksX3_reckon_1 19 rfl rfl)
theorem dX3_reckon_44 : decode cX3_reckon 44 = .ok (.istore 4, 2) := dk_54 4 (dk_at dksX3_reckon_1 20 rfl rfl)
theorem dX3_reckon_46 : decode cX3_reckon 46 = .ok (.iload 4, 2) := dk_21 4 (dk_at dksX3_reckon_1 22 rfl rfl)
theorem dX3_reckon_48 : decode cX3_reckon 48 = .ok (.ifCond .lt 89, 3) := dk_155 0 89 (dk_at dksX3_reckon_2 0 rfl rfl)
theorem dX3_reckon_51 : decode cX3_reckon 51 = .ok (.iconst 1, 1) := dk_4 (dk_at dksX3_reckon_2 3 rfl rfl)
theorem dX3_reckon_52 : decode cX3_reckon 52 = .ok (.istore 5, 2) := dk_54 5 (dk_at dksX3_reckon_2 4 rfl rfl)
theorem dX3_reckon_54 : decode cX3_reckon 54 = .ok (.iload 5, 2) := dk_21 5 (dk_at dksX3_reckon_2 6 rfl rfl)
theorem dX3_reckon_56 : decode cX3_reckon 56 = .ok (.ifCond .eq 75, 3) := dk_153 0 75 (dk_at dksX3_reckon_2 8 rfl rfl)
theorem dX3_reckon_59 : decode cX3_reckon 59 = .ok (.iconst 0, 1) := dk_3 (dk_at dksX3_reckon_2 11 rfl rfl)
theorem dX3_reckon_60 : decode cX3_reckon 60 = .ok (.istore 5, 2) := dk_54 5 (dk_at dksX3_reckon_2 12 rfl rfl)
theorem dX3_reckon_62 : decode cX3_reckon 62 = .ok (.iconst 0, 1) := dk_3 (dk_at dksX3_reckon_2 14 rfl rfl)
theorem dX3_reckon_63 : decode cX3_reckon 63 = .ok (.istore 6, 2) := dk_54 6 (dk_at dksX3_reckon_2 15 rfl rfl)
theorem dX3_reckon_65 : decode cX3_reckon 65 = .ok (.iload 6, 2) := dk_21 6 (dk_at dksX3_reckon_2 17 rfl rfl)
theorem dX3_reckon_67 : decode cX3_reckon 67 = .ok (.bipush 60, 2) := dk_16 60 (dk_at dksX3_reckon_2 19 rfl rfl)
theorem dX3_reckon_69 : decode cX3_reckon 69 = .ok (.if_icmp .ge 59, 3) := dk_162 0 59 (dk_at dksX3_reckon_2 21 rfl rfl)
theorem dX3_reckon_72 : decode cX3_reckon 72 = .ok (.aload_n 0, 1) := dk_42 (dk_at dksX3_reckon_3 0 rfl rfl)
theorem dX3_reckon_73 : decode cX3_reckon 73 = .ok (.iload 6, 2) := dk_21 6 (dk_at dksX3_reckon_3 1 rfl rfl)
theorem dX3_reckon_75 : decode cX3_reckon 75 = .ok (.iload 4, 2) := dk_21 4 (dk_at dksX3_reckon_3 3 rfl rfl)
theorem dX3_reckon_77 : decode cX3_reckon 77 = .ok (.iload_n 3, 1) := dk_29 (dk_at dksX3_reckon_3 5 rfl rfl)
theorem dX3_reckon_78 : decode cX3_reckon 78 = .ok (.invokevirtual 196, 3) := dk_182 0 196 (dk_at dksX3_reckon_3 6 rfl rfl)
theorem dX3_reckon_81 : decode cX3_reckon 81 = .ok (.istore 7, 2) := dk_54 7 (dk_at dksX3_reckon_3 9 rfl rfl)
theorem dX3_reckon_83 : decode cX3_reckon 83 = .ok (.iload 7, 2) := dk_21 7 (dk_at dksX3_reckon_3 11 rfl rfl)
theorem dX3_reckon_85 : decode cX3_reckon 85 = .ok (.aload_n 0, 1) := dk_42 (dk_at dksX3_reckon_3 13 rfl rfl)
theorem dX3_reckon_86 : decode cX3_reckon 86 = .ok (.getfield 79, 3) := dk_180 0 79 (dk_at dksX3_reckon_3 14 rfl rfl)
theorem dX3_reckon_89 : decode cX3_reckon 89 = .ok (.bipush 60, 2) := dk_16 60 (dk_at dksX3_reckon_3 17 rfl rfl)
theorem dX3_reckon_91 : decode cX3_reckon 91 = .ok (.iload 4, 2) := dk_21 4 (dk_at dksX3_reckon_3 19 rfl rfl)
theorem dX3_reckon_93 : decode cX3_reckon 93 = .ok (.imul, 1) := dk_104 (dk_at dksX3_reckon_3 21 rfl rfl)
theorem dX3_reckon_94 : decode cX3_reckon 94 = .ok (.iload 6, 2) := dk_21 6 (dk_at dksX3_reckon_3 22 rfl rfl)
theorem dX3_reckon_96 : decode cX3_reckon 96 = .ok (.iadd, 1) := dk_96 (dk_at dksX3_reckon_4 0 rfl rfl)
theorem dX3_reckon_97 : decode cX3_reckon 97 = .ok (.iaload, 1) := dk_46 (dk_at dksX3_reckon_4 1 rfl rfl)
theorem dX3_reckon_98 : decode cX3_reckon 98 = .ok (.if_icmp .lt 6, 3) := dk_161 0 6 (dk_at dksX3_reckon_4 2 rfl rfl)
theorem dX3_reckon_101 : decode cX3_reckon 101 = .ok (.goto 21, 3) := dk_167 0 21 (dk_at dksX3_reckon_4 5 rfl rfl)
theorem dX3_reckon_104 : decode cX3_reckon 104 = .ok (.aload_n 0, 1) := dk_42 (dk_at dksX3_reckon_4 8 rfl rfl)
theorem dX3_reckon_105 : decode cX3_reckon 105 = .ok (.getfield 79, 3) := dk_180 0 79 (dk_at dksX3_reckon_4 9 rfl rfl)
theorem dX3_reckon_108 : decode cX3_reckon 108 = .ok (.bipush 60, 2) := dk_16 60 (dk_at dksX3_reckon_4 12 rfl rfl)
theorem dX3_reckon_110 : decode cX3_reckon 110 = .ok (.iload 4, 2) := dk_21 4 (dk_at dksX3_reckon_4 14 rfl rfl)
theorem dX3_reckon_112 : decode cX3_reckon 112 = .ok (.imul, 1) := dk_104 (dk_at dksX3_reckon_4 16 rfl rfl)
theorem dX3_reckon_113 : decode cX3_reckon 113 = .ok (.iload 6, 2) := dk_21 6 (dk_at dksX3_reckon_4 17 rfl rfl)
theorem dX3_reckon_115 : decode cX3_reckon 115 = .ok (.iadd, 1) := dk_96 (dk_at dksX3_reckon_4 19 rfl rfl)
theorem dX3_reckon_116 : decode cX3_reckon 116 = .ok (.iload 7, 2) := dk_21 7 (dk_at dksX3_reckon_4 20 rfl rfl)
theorem dX3_reckon_118 : decode cX3_reckon 118 = .ok (.iastore, 1) := dk_79 (dk_at dksX3_reckon_4 22 rfl rfl)
theorem dX3_reckon_119 : decode cX3_reckon 119 = .ok (.iconst 1, 1) := dk_4 (dk_at dksX3_reckon_4 23 rfl rfl)
theorem dX3_reckon_120 : decode cX3_reckon 120 = .ok (.istore 5, 2) := dk_54 5 (dk_at dksX3_reckon_5 0 rfl rfl)
theorem dX3_reckon_122 : decode cX3_reckon 122 = .ok (.iinc 6 1, 3) := dk_132 6 1 (dk_at dksX3_reckon_5 2 rfl rfl)
theorem dX3_reckon_125 : decode cX3_reckon 125 = .ok (.goto (-60), 3) := dk_167 255 196 (dk_at dksX3_reckon_5 5 rfl rfl)
theorem dX3_reckon_128 : decode cX3_reckon 128 = .ok (.goto (-74), 3) := dk_167 255 182 (dk_at dksX3_reckon_5 8 rfl rfl)
theorem dX3_reckon_131 : decode cX3_reckon 131 = .ok (.iinc 4 (-1), 3) := dk_132 4 255 (dk_at dksX3_reckon_5 11 rfl rfl)
theorem dX3_reckon_134 : decode cX3_reckon 134 = .ok (.goto (-88), 3) := dk_167 255 168 (dk_at dksX3_reckon_5 14 rfl rfl)
theorem dX3_reckon_137 : decode cX3_reckon 137 = .ok (.return_, 1) := dk_177 (dk_at dksX3_reckon_5 17 rfl rfl)
abbrev cX3_best_2 : ByteArray := prog_6_method_43_code
def yX3_best_2 : MethodName := ⟨RX3, "best", "(IIZ)I"⟩
def dkwX3_best_2_6 : List UInt8 := [167, 255, 123, 21, 4, 172]
abbrev dktX3_best_2_6 : List UInt8 := dkwX3_best_2_6 ++ []
def dkwX3_best_2_5 : List UInt8 := [21, 8, 21, 4, 161, 0, 6, 167, 0, 13, 21, 8, 54, 4, 42, 21, 5, 181, 0, 203, 132, 5, 1]
abbrev dktX3_best_2_5 : List UInt8 := dkwX3_best_2_5 ++ dktX3_best_2_6
def dkwX3_best_2_4 : List UInt8 := [180, 0, 85, 21, 6, 46, 96, 46, 17, 8, 0, 42, 180, 0, 88, 21, 6, 46, 104, 96, 4, 96, 54, 8]
abbrev dktX3_best_2_4 : List UInt8 := dkwX3_best_2_4 ++ dktX3_best_2_5
def dkwX3_best_2_3 : List UInt8 := [21, 6, 46, 96, 46, 18, 195, 161, 0, 6, 167, 0, 57, 42, 180, 0, 79, 16, 60, 21, 7, 104, 42]
abbrev dktX3_best_2_3 : List UInt8 := dkwX3_best_2_3 ++ dktX3_best_2_4
def dkwX3_best_2_2 : List UInt8 := [184, 0, 200, 54, 7, 21, 7, 2, 159, 0, 83, 42, 180, 0, 79, 16, 60, 21, 7, 104, 42, 180, 0, 85]
abbrev dktX3_best_2_2 : List UInt8 := dkwX3_best_2_2 ++ dktX3_best_2_3
def dkwX3_best_2_1 : List UInt8 := [180, 0, 85, 21, 6, 46, 2, 160, 0, 6, 167, 0, 103, 28, 42, 180, 0, 91, 21, 6, 46, 29]
abbrev dktX3_best_2_1 : List UInt8 := dkwX3_best_2_1 ++ dktX3_best_2_2
def dkwX3_best_2_0 : List UInt8 := [18, 195, 54, 4, 3, 54, 5, 21, 5, 16, 8, 162, 0, 132, 16, 8, 27, 104, 21, 5, 96, 54, 6, 42]
abbrev dktX3_best_2_0 : List UInt8 := dkwX3_best_2_0 ++ dktX3_best_2_1
theorem dksX3_best_2_0 : cX3_best_2.data.toList.drop 0 = dktX3_best_2_0 := by decide +kernel
theorem dksX3_best_2_1 : cX3_best_2.data.toList.drop 24 = dktX3_best_2_1 := dk_seg dksX3_best_2_0 24 rfl rfl
theorem dksX3_best_2_2 : cX3_best_2.data.toList.drop 46 = dktX3_best_2_2 := dk_seg dksX3_best_2_1 22 rfl rfl
theorem dksX3_best_2_3 : cX3_best_2.data.toList.drop 70 = dktX3_best_2_3 := dk_seg dksX3_best_2_2 24 rfl rfl
theorem dksX3_best_2_4 : cX3_best_2.data.toList.drop 93 = dktX3_best_2_4 := dk_seg dksX3_best_2_3 23 rfl rfl
theorem dksX3_best_2_5 : cX3_best_2.data.toList.drop 117 = dktX3_best_2_5 := dk_seg dksX3_best_2_4 24 rfl rfl
theorem dksX3_best_2_6 : cX3_best_2.data.toList.drop 140 = dktX3_best_2_6 := dk_seg dksX3_best_2_5 23 rfl rfl
theorem dX3_best_2_0 : decode cX3_best_2 0 = .ok (.ldc 195, 2) := dk_18 195 (dk_at dksX3_best_2_0 0 rfl rfl)
theorem dX3_best_2_2 : decode cX3_best_2 2 = .ok (.istore 4, 2) := dk_54 4 (dk_at dksX3_best_2_0 2 rfl rfl)
theorem dX3_best_2_4 : decode cX3_best_2 4 = .ok (.iconst 0, 1) := dk_3 (dk_at dksX3_best_2_0 4 rfl rfl)
theorem dX3_best_2_5 : decode cX3_best_2 5 = .ok (.istore 5, 2) := dk_54 5 (dk_at dksX3_best_2_0 5 rfl rfl)
theorem dX3_best_2_7 : decode cX3_best_2 7 = .ok (.iload 5, 2) := dk_21 5 (dk_at dksX3_best_2_0 7 rfl rfl)
theorem dX3_best_2_9 : decode cX3_best_2 9 = .ok (.bipush 8, 2) := dk_16 8 (dk_at dksX3_best_2_0 9 rfl rfl)
theorem dX3_best_2_11 : decode cX3_best_2 11 = .ok (.if_icmp .ge 132, 3) := dk_162 0 132 (dk_at dksX3_best_2_0 11 rfl rfl)
theorem dX3_best_2_14 : decode cX3_best_2 14 = .ok (.bipush 8, 2) := dk_16 8 (dk_at dksX3_best_2_0 14 rfl rfl)
theorem dX3_best_2_16 : decode cX3_best_2 16 = .ok (.iload_n 1, 1) := dk_27 (dk_at dksX3_best_2_0 16 rfl rfl)
theorem dX3_best_2_17 : decode cX3_best_2 17 = .ok (.imul, 1) := dk_104 (dk_at dksX3_best_2_0 17 rfl rfl)
theorem dX3_best_2_18 : decode cX3_best_2 18 = .ok (.iload 5, 2) := dk_21 5 (dk_at dksX3_best_2_0 18 rfl rfl)
theorem dX3_best_2_20 : decode cX3_best_2 20 = .ok (.iadd, 1) := dk_96 (dk_at dksX3_best_2_0 20 rfl rfl)
theorem dX3_best_2_21 : decode cX3_best_2 21 = .ok (.istore 6, 2) := dk_54 6 (dk_at dksX3_best_2_0 21 rfl rfl)
theorem dX3_best_2_23 : decode cX3_best_2 23 = .ok (.aload_n 0, 1) := dk_42 (dk_at dksX3_best_2_0 23 rfl rfl)
theorem dX3_best_2_24 : decode cX3_best_2 24 = .ok (.getfield 85, 3) := dk_180 0 85 (dk_at dksX3_best_2_1 0 rfl rfl)
theorem dX3_best_2_27 : decode cX3_best_2 27 = .ok (.iload 6, 2) := dk_21 6 (dk_at dksX3_best_2_1 3 rfl rfl)
theorem dX3_best_2_29 : decode cX3_best_2 29 = .ok (.iaload, 1) := dk_46 (dk_at dksX3_best_2_1 5 rfl rfl)
theorem dX3_best_2_30 : decode cX3_best_2 30 = .ok (.iconst (-1), 1) := dk_2 (dk_at dksX3_best_2_1 6 rfl rfl)
theorem dX3_best_2_31 : decode cX3_best_2 31 = .ok (.if_icmp .ne 6, 3) := dk_160 0 6 (dk_at dksX3_best_2_1 7 rfl rfl)
theorem dX3_best_2_34 : decode cX3_best_2 34 = .ok (.goto 103, 3) := dk_167 0 103 (dk_at dksX3_best_2_1 10 rfl rfl)
theorem dX3_best_2_37 : decode cX3_best_2 37 = .ok (.iload_n 2, 1) := dk_28 (dk_at dksX3_best_2_1 13 rfl rfl)
theorem dX3_best_2_38 : decode cX3_best_2 38 = .ok (.aload_n 0, 1) := dk_42 (dk_at dksX3_best_2_1 14 rfl rfl)
theorem dX3_best_2_39 : decode cX3_best_2 39 = .ok (.getfield 91, 3) := dk_180 0 91 (dk_at dksX3_best_2_1 15 rfl rfl)
theorem dX3_best_2_42 : decode cX3_best_2 42 = .ok (.iload 6, 2) := dk_21 6 (dk_at dksX3_best_2_1 18 rfl rfl)
theorem dX3_best_2_44 : decode cX3_best_2 44 = .ok (.iaload, 1) := dk_46 (dk_at dksX3_best_2_1 20 rfl rfl)
theorem dX3_best_2_45 : decode cX3_best_2 45 = .ok (.iload_n 3, 1) := dk_29 (dk_at dksX3_best_2_1 21 rfl rfl)
theorem dX3_best_2_46 : decode cX3_best_2 46 = .ok (.invokestatic 200, 3) := dk_184 0 200 (dk_at dksX3_best_2_2 0 rfl rfl)
theorem dX3_best_2_49 : decode cX3_best_2 49 = .ok (.istore 7, 2) := dk_54 7 (dk_at dksX3_best_2_2 3 rfl rfl)
theorem dX3_best_2_51 : decode cX3_best_2 51 = .ok (.iload 7, 2) := dk_21 7 (dk_at dksX3_best_2_2 5 rfl rfl)
theorem dX3_best_2_53 : decode cX3_best_2 53 = .ok (.iconst (-1), 1) := dk_2 (dk_at dksX3_best_2_2 7 rfl rfl)
theorem dX3_best_2_54 : decode cX3_best_2 54 = .ok (.if_icmp .eq 83, 3) := dk_159 0 83 (dk_at dksX3_best_2_2 8 rfl rfl)
theorem dX3_best_2_57 : decode cX3_best_2 57 = .ok (.aload_n 0, 1) := dk_42 (dk_at dksX3_best_2_2 11 rfl rfl)
theorem dX3_best_2_58 : decode cX3_best_2 58 = .ok (.getfield 79, 3) := dk_180 0 79 (dk_at dksX3_best_2_2 12 rfl rfl)
theorem dX3_best_2_61 : decode cX3_best_2 61 = .ok (.bipush 60, 2) := dk_16 60 (dk_at dksX3_best_2_2 15 rfl rfl)
theorem dX3_best_2_63 : decode cX3_best_2 63 = .ok (.iload 7, 2) := dk_21 7 (dk_at dksX3_best_2_2 17 rfl rfl)
theorem dX3_best_2_65 : decode cX3_best_2 65 = .ok (.imul, 1) := dk_104 (dk_at dksX3_best_2_2 19 rfl rfl)
theorem dX3_best_2_66 : decode cX3_best_2 66 = .ok (.aload_n 0, 1) := dk_42 (dk_at dksX3_best_2_2 20 rfl rfl)
theorem dX3_best_2_67 : decode cX3_best_2 67 = .ok (.getfield 85, 3) := dk_180 0 85 (dk_at dksX3_best_2_2 21 rfl rfl)
theorem dX3_best_2_70 : decode cX3_best_2 70 = .ok (.iload 6, 2) := dk_21 6 (dk_at dksX3_best_2_3 0 rfl rfl)
theorem dX3_best_2_72 : decode cX3_best_2 72 = .ok (.iaload, 1) := dk_46 (dk_at dksX3_best_2_3 2 rfl rfl)
theorem dX3_best_2_73 : decode cX3_best_2 73 = .ok (.iadd, 1) := dk_96 (dk_at dksX3_best_2_3 3 rfl rfl)
theorem dX3_best_2_74 : decode cX3_best_2 74 = .ok (.iaload, 1) := dk_46 (dk_at dksX3_best_2_3 4 rfl rfl)
theorem dX3_best_2_75 : decode cX3_best_2 75 = .ok (.ldc 195, 2) := dk_18 195 (dk_at dksX3_best_2_3 5 rfl rfl)
theorem dX3_best_2_77 : decode cX3_best_2 77 = .ok (.if_icmp .lt 6, 3) := dk_161 0 6 (dk_at dksX3_best_2_3 7 rfl rfl)
theorem dX3_best_2_80 : decode cX3_best_2 80 = .ok (.goto 57, 3) := dk_167 0 57 (dk_at dksX3_best_2_3 10 rfl rfl)
theorem dX3_best_2_83 : decode cX3_best_2 83 = .ok (.aload_n 0, 1) := dk_42 (dk_at dksX3_best_2_3 13 rfl rfl)
theorem dX3_best_2_84 : decode cX3_best_2 84 = .ok (.getfield 79, 3) := dk_180 0 79 (dk_at dksX3_best_2_3 14 rfl rfl)
theorem dX3_best_2_87 : decode cX3_best_2 87 = .ok (.bipush 60, 2) := dk_16 60 (dk_at dksX3_best_2_3 17 rfl rfl)
theorem dX3_best_2_89 : decode cX3_best_2 89 = .ok (.iload 7, 2) := dk_21 7 (dk_at dksX3_best_2_3 19 rfl rfl)
theorem dX3_best_2_91 : decode cX3_best_2 91 = .ok (.imul, 1) := dk_104 (dk_at dksX3_best_2_3 21 rfl rfl)
theorem dX3_best_2_92 : decode cX3_best_2 92 = .ok (.aload_n 0, 1) := dk_42 (dk_at dksX3_best_2_3 22 rfl rfl)
theorem dX3_best_2_93 : decode cX3_best_2 93 = .ok (.getfield 85, 3) := dk_180 0 85 (dk_at dksX3_best_2_4 0 rfl rfl)
theorem dX3_best_2_96 : decode cX3_best_2 96 = .ok (.iload 6, 2) := dk_21 6 (dk_at dksX3_best_2_4 3 rfl rfl)
theorem dX3_best_2_98 : decode cX3_best_2 98 = .ok (.iaload, 1) := dk_46 (dk_at dksX3_best_2_4 5 rfl rfl)
theorem dX3_best_2_99 : decode cX3_best_2 99 = .ok (.iadd, 1) := dk_96 (dk_at dksX3_best_2_4 6 rfl rfl)
theorem dX3_best_2_100 : decode cX3_best_2 100 = .ok (.iaload, 1) := dk_46 (dk_at dksX3_best_2_4 7 rfl rfl)
theorem dX3_best_2_101 : decode cX3_best_2 101 = .ok (.sipush 2048, 3) := dk_17 8 0 (dk_at dksX3_best_2_4 8 rfl rfl)
theorem dX3_best_2_104 : decode cX3_best_2 104 = .ok (.aload_n 0, 1) := dk_42 (dk_at dksX3_best_2_4 11 rfl rfl)
theorem dX3_best_2_105 : decode cX3_best_2 105 = .ok (.getfield 88, 3) := dk_180 0 88 (dk_at dksX3_best_2_4 12 rfl rfl)
theorem dX3_best_2_108 : decode cX3_best_2 108 = .ok (.iload 6, 2) := dk_21 6 (dk_at dksX3_best_2_4 15 rfl rfl)
theorem dX3_best_2_110 : decode cX3_best_2 110 = .ok (.iaload, 1) := dk_46 (dk_at dksX3_best_2_4 17 rfl rfl)
theorem dX3_best_2_111 : decode cX3_best_2 111 = .ok (.imul, 1) := dk_104 (dk_at dksX3_best_2_4 18 rfl rfl)
theorem dX3_best_2_112 : decode cX3_best_2 112 = .ok (.iadd, 1) := dk_96 (dk_at dksX3_best_2_4 19 rfl rfl)
theorem dX3_best_2_113 : decode cX3_best_2 113 = .ok (.iconst 1, 1) := dk_4 (dk_at dksX3_best_2_4 20 rfl rfl)
theorem dX3_best_2_114 : decode cX3_best_2 114 = .ok (.iadd, 1) := dk_96 (dk_at dksX3_best_2_4 21 rfl rfl)
theorem dX3_best_2_115 : decode cX3_best_2 115 = .ok (.istore 8, 2) := dk_54 8 (dk_at dksX3_best_2_4 22 rfl rfl)
theorem dX3_best_2_117 : decode cX3_best_2 117 = .ok (.iload 8, 2) := dk_21 8 (dk_at dksX3_best_2_5 0 rfl rfl)
theorem dX3_best_2_119 : decode cX3_best_2 119 = .ok (.iload 4, 2) := dk_21 4 (dk_at dksX3_best_2_5 2 rfl rfl)
theorem dX3_best_2_121 : decode cX3_best_2 121 = .ok (.if_icmp .lt 6, 3) := dk_161 0 6 (dk_at dksX3_best_2_5 4 rfl rfl)
theorem dX3_best_2_124 : decode cX3_best_2 124 = .ok (.goto 13, 3) := dk_167 0 13 (dk_at dksX3_best_2_5 7 rfl rfl)
theorem dX3_best_2_127 : decode cX3_best_2 127 = .ok (.iload 8, 2) := dk_21 8 (dk_at dksX3_best_2_5 10 rfl rfl)
theorem dX3_best_2_129 : decode cX3_best_2 129 = .ok (.istore 4, 2) := dk_54 4 (dk_at dksX3_best_2_5 12 rfl rfl)
theorem dX3_best_2_131 : decode cX3_best_2 131 = .ok (.aload_n 0, 1) := dk_42 (dk_at dksX3_best_2_5 14 rfl rfl)
theorem dX3_best_2_132 : decode cX3_best_2 132 = .ok (.iload 5, 2) := dk_21 5 (dk_at dksX3_best_2_5 15 rfl rfl)
theorem dX3_best_2_134 : decode cX3_best_2 134 = .ok (.putfield 203, 3) := dk_181 0 203 (dk_at dksX3_best_2_5 17 rfl rfl)
theorem dX3_best_2_137 : decode cX3_best_2 137 = .ok (.iinc 5 1, 3) := dk_132 5 1 (dk_at dksX3_best_2_5 20 rfl rfl)
theorem dX3_best_2_140 : decode cX3_best_2 140 = .ok (.goto (-133), 3) := dk_167 255 123 (dk_at dksX3_best_2_6 0 rfl rfl)
theorem dX3_best_2_143 : decode cX3_best_2 143 = .ok (.iload 4, 2) := dk_21 4 (dk_at dksX3_best_2_6 3 rfl rfl)
theorem dX3_best_2_145 : decode cX3_best_2 145 = .ok (.ireturn, 1) := dk_172 (dk_at dksX3_best_2_6 5 rfl rfl)
abbrev cX3_behind : ByteArray := prog_6_method_41_code
def yX3_behind : MethodName := ⟨RX3, "behind", "(IIZ)I"⟩
def dkwX3_behind_1 : List UInt8 := [153, 0, 16, 26, 27, 122, 4, 126, 4, 160, 0, 7, 2, 167, 0, 8, 26, 4, 27, 120, 128, 172]
abbrev dktX3_behind_1 : List UInt8 := dkwX3_behind_1 ++ []
def dkwX3_behind_0 : List UInt8 := [27, 2, 160, 0, 5, 26, 172, 27, 16, 254, 160, 0, 13, 28, 153, 0, 7, 2, 167, 0, 4, 26, 172, 28]
abbrev dktX3_behind_0 : List UInt8 := dkwX3_behind_0 ++ dktX3_behind_1
theorem dksX3_behind_0 : cX3_behind.data.toList.drop 0 = dktX3_behind_0 := by decide +kernel
theorem dksX3_behind_1 : cX3_behind.data.toList.drop 24 = dktX3_behind_1 := dk_seg dksX3_behind_0 24 rfl rfl
theorem dX3_behind_0 : decode cX3_behind 0 = .ok (.iload_n 1, 1) := dk_27 (dk_at dksX3_behind_0 0 rfl rfl)
theorem dX3_behind_1 : decode cX3_behind 1 = .ok (.iconst (-1), 1) := dk_2 (dk_at dksX3_behind_0 1 rfl rfl)
theorem dX3_behind_2 : decode cX3_behind 2 = .ok (.if_icmp .ne 5, 3) := dk_160 0 5 (dk_at dksX3_behind_0 2 rfl rfl)
theorem dX3_behind_5 : decode cX3_behind 5 = .ok (.iload_n 0, 1) := dk_26 (dk_at dksX3_behind_0 5 rfl rfl)
theorem dX3_behind_6 : decode cX3_behind 6 = .ok (.ireturn, 1) := dk_172 (dk_at dksX3_behind_0 6 rfl rfl)
theorem dX3_behind_7 : decode cX3_behind 7 = .ok (.iload_n 1, 1) := dk_27 (dk_at dksX3_behind_0 7 rfl rfl)
theorem dX3_behind_8 : decode cX3_behind 8 = .ok (.bipush (-2), 2) := dk_16 254 (dk_at dksX3_behind_0 8 rfl rfl)
theorem dX3_behind_10 : decode cX3_behind 10 = .ok (.if_icmp .ne 13, 3) := dk_160 0 13 (dk_at dksX3_behind_0 10 rfl rfl)
theorem dX3_behind_13 : decode cX3_behind 13 = .ok (.iload_n 2, 1) := dk_28 (dk_at dksX3_behind_0 13 rfl rfl)
theorem dX3_behind_14 : decode cX3_behind 14 = .ok (.ifCond .eq 7, 3) := dk_153 0 7 (dk_at dksX3_behind_0 14 rfl rfl)
theorem dX3_behind_17 : decode cX3_behind 17 = .ok (.iconst (-1), 1) := dk_2 (dk_at dksX3_behind_0 17 rfl rfl)
theorem dX3_behind_18 : decode cX3_behind 18 = .ok (.goto 4, 3) := dk_167 0 4 (dk_at dksX3_behind_0 18 rfl rfl)
theorem dX3_behind_21 : decode cX3_behind 21 = .ok (.iload_n 0, 1) := dk_26 (dk_at dksX3_behind_0 21 rfl rfl)
theorem dX3_behind_22 : decode cX3_behind 22 = .ok (.ireturn, 1) := dk_172 (dk_at dksX3_behind_0 22 rfl rfl)
theorem dX3_behind_23 : decode cX3_behind 23 = .ok (.iload_n 2, 1) := dk_28 (dk_at dksX3_behind_0 23 rfl rfl)
theorem dX3_behind_24 : decode cX3_behind 24 = .ok (.ifCond .eq 16, 3) := dk_153 0 16 (dk_at dksX3_behind_1 0 rfl rfl)
theorem dX3_behind_27 : decode cX3_behind 27 = .ok (.iload_n 0, 1) := dk_26 (dk_at dksX3_behind_1 3 rfl rfl)
theorem dX3_behind_28 : decode cX3_behind 28 = .ok (.iload_n 1, 1) := dk_27 (dk_at dksX3_behind_1 4 rfl rfl)
theorem dX3_behind_29 : decode cX3_behind 29 = .ok (.ishr, 1) := dk_122 (dk_at dksX3_behind_1 5 rfl rfl)
theorem dX3_behind_30 : decode cX3_behind 30 = .ok (.iconst 1, 1) := dk_4 (dk_at dksX3_behind_1 6 rfl rfl)
theorem dX3_behind_31 : decode cX3_behind 31 = .ok (.iand, 1) := dk_126 (dk_at dksX3_behind_1 7 rfl rfl)
theorem dX3_behind_32 : decode cX3_behind 32 = .ok (.iconst 1, 1) := dk_4 (dk_at dksX3_behind_1 8 rfl rfl)
theorem dX3_behind_33 : decode cX3_behind 33 = .ok (.if_icmp .ne 7, 3) := dk_160 0 7 (dk_at dksX3_behind_1 9 rfl rfl)
theorem dX3_behind_36 : decode cX3_behind 36 = .ok (.iconst (-1), 1) := dk_2 (dk_at dksX3_behind_1 12 rfl rfl)
theorem dX3_behind_37 : decode cX3_behind 37 = .ok (.goto 8, 3) := dk_167 0 8 (dk_at dksX3_behind_1 13 rfl rfl)
theorem dX3_behind_40 : decode cX3_behind 40 = .ok (.iload_n 0, 1) := dk_26 (dk_at dksX3_behind_1 16 rfl rfl)
theorem dX3_behind_41 : decode cX3_behind 41 = .ok (.iconst 1, 1) := dk_4 (dk_at dksX3_behind_1 17 rfl rfl)
theorem dX3_behind_42 : decode cX3_behind 42 = .ok (.iload_n 1, 1) := dk_27 (dk_at dksX3_behind_1 18 rfl rfl)
theorem dX3_behind_43 : decode cX3_behind 43 = .ok (.ishl, 1) := dk_120 (dk_at dksX3_behind_1 19 rfl rfl)
theorem dX3_behind_44 : decode cX3_behind 44 = .ok (.ior, 1) := dk_128 (dk_at dksX3_behind_1 20 rfl rfl)
theorem dX3_behind_45 : decode cX3_behind 45 = .ok (.ireturn, 1) := dk_172 (dk_at dksX3_behind_1 21 rfl rfl)
abbrev cX3_move : ByteArray := prog_6_method_45_code
def yX3_move : MethodName := ⟨RX3, "move", "(I)I"⟩
def dkwX3_move_1 : List UInt8 := [180, 0, 110, 161, 0, 11, 42, 4, 182, 0, 136, 167, 0, 9, 42, 180, 0, 63, 27, 46, 172]
abbrev dktX3_move_1 : List UInt8 := dkwX3_move_1 ++ []
def dkwX3_move_0 : List UInt8 := [42, 3, 181, 0, 104, 27, 2, 160, 0, 10, 42, 180, 0, 110, 167, 0, 29, 27, 155, 0, 11, 27, 42]
abbrev dktX3_move_0 : List UInt8 := dkwX3_move_0 ++ dktX3_move_1
theorem dksX3_move_0 : cX3_move.data.toList.drop 0 = dktX3_move_0 := by decide +kernel
theorem dksX3_move_1 : cX3_move.data.toList.drop 23 = dktX3_move_1 := dk_seg dksX3_move_0 23 rfl rfl
theorem dX3_move_0 : decode cX3_move 0 = .ok (.aload_n 0, 1) := dk_42 (dk_at dksX3_move_0 0 rfl rfl)
theorem dX3_move_1 : decode cX3_move 1 = .ok (.iconst 0, 1) := dk_3 (dk_at dksX3_move_0 1 rfl rfl)
theorem dX3_move_2 : decode cX3_move 2 = .ok (.putfield 104, 3) := dk_181 0 104 (dk_at dksX3_move_0 2 rfl rfl)
theorem dX3_move_5 : decode cX3_move 5 = .ok (.iload_n 1, 1) := dk_27 (dk_at dksX3_move_0 5 rfl rfl)
theorem dX3_move_6 : decode cX3_move 6 = .ok (.iconst (-1), 1) := dk_2 (dk_at dksX3_move_0 6 rfl rfl)
theorem dX3_move_7 : decode cX3_move 7 = .ok (.if_icmp .ne 10, 3) := dk_160 0 10 (dk_at dksX3_move_0 7 rfl rfl)
theorem dX3_move_10 : decode cX3_move 10 = .ok (.aload_n 0, 1) := dk_42 (dk_at dksX3_move_0 10 rfl rfl)
theorem dX3_move_11 : decode cX3_move 11 = .ok (.getfield 110, 3) := dk_180 0 110 (dk_at dksX3_move_0 11 rfl rfl)
theorem dX3_move_14 : decode cX3_move 14 = .ok (.goto 29, 3) := dk_167 0 29 (dk_at dksX3_move_0 14 rfl rfl)
theorem dX3_move_17 : decode cX3_move 17 = .ok (.iload_n 1, 1) := dk_27 (dk_at dksX3_move_0 17 rfl rfl)
theorem dX3_move_18 : decode cX3_move 18 = .ok (.ifCond .lt 11, 3) := dk_155 0 11 (dk_at dksX3_move_0 18 rfl rfl)
theorem dX3_move_21 : decode cX3_move 21 = .ok (.iload_n 1, 1) := dk_27 (dk_at dksX3_move_0 21 rfl rfl)
theorem dX3_move_22 : decode cX3_move 22 = .ok (.aload_n 0, 1) := dk_42 (dk_at dksX3_move_0 22 rfl rfl)
theorem dX3_move_23 : decode cX3_move 23 = .ok (.getfield 110, 3) := dk_180 0 110 (dk_at dksX3_move_1 0 rfl rfl)
theorem dX3_move_26 : decode cX3_move 26 = .ok (.if_icmp .lt 11, 3) := dk_161 0 11 (dk_at dksX3_move_1 3 rfl rfl)
theorem dX3_move_29 : decode cX3_move 29 = .ok (.aload_n 0, 1) := dk_42 (dk_at dksX3_move_1 6 rfl rfl)
theorem dX3_move_30 : decode cX3_move 30 = .ok (.iconst 1, 1) := dk_4 (dk_at dksX3_move_1 7 rfl rfl)
theorem dX3_move_31 : decode cX3_move 31 = .ok (.invokevirtual 136, 3) := dk_182 0 136 (dk_at dksX3_move_1 8 rfl rfl)
theorem dX3_move_34 : decode cX3_move 34 = .ok (.goto 9, 3) := dk_167 0 9 (dk_at dksX3_move_1 11 rfl rfl)
theorem dX3_move_37 : decode cX3_move 37 = .ok (.aload_n 0, 1) := dk_42 (dk_at dksX3_move_1 14 rfl rfl)
theorem dX3_move_38 : decode cX3_move 38 = .ok (.getfield 63, 3) := dk_180 0 63 (dk_at dksX3_move_1 15 rfl rfl)
theorem dX3_move_41 : decode cX3_move 41 = .ok (.iload_n 1, 1) := dk_27 (dk_at dksX3_move_1 18 rfl rfl)
theorem dX3_move_42 : decode cX3_move 42 = .ok (.iaload, 1) := dk_46 (dk_at dksX3_move_1 19 rfl rfl)
theorem dX3_move_43 : decode cX3_move 43 = .ok (.ireturn, 1) := dk_172 (dk_at dksX3_move_1 20 rfl rfl)
abbrev cX3_marks : ByteArray := prog_6_method_47_code
def yX3_marks : MethodName := ⟨RX3, "marks", "(I)Z"⟩
def dkwX3_marks_17 : List UInt8 := [21, 4, 46, 96, 46, 42, 180, 0, 94, 29, 46, 159, 0, 5, 3, 172, 132, 4, 1, 167, 255, 193, 4, 172]
abbrev dktX3_marks_17 : List UInt8 := dkwX3_marks_17 ++ []
def dkwX3_marks_16 : List UInt8 := [126, 4, 160, 0, 37, 42, 180, 0, 94, 16, 6, 42, 180, 0, 41, 21, 4, 46, 104, 42, 180, 0, 44]
abbrev dktX3_marks_16 : List UInt8 := dkwX3_marks_16 ++ dktX3_marks_17
def dkwX3_marks_15 : List UInt8 := [3, 54, 4, 21, 4, 42, 180, 0, 116, 162, 0, 60, 21, 4, 16, 31, 162, 0, 53, 27, 21, 4, 122, 4]
abbrev dktX3_marks_15 : List UInt8 := dkwX3_marks_15 ++ dktX3_marks_16
def dkwX3_marks_14 : List UInt8 := [46, 4, 159, 0, 13, 42, 21, 5, 21, 5, 4, 96, 182, 0, 213, 21, 5, 62, 132, 4, 1, 167, 255, 181]
abbrev dktX3_marks_14 : List UInt8 := dkwX3_marks_14 ++ dktX3_marks_15
def dkwX3_marks_13 : List UInt8 := [42, 180, 0, 41, 21, 4, 46, 104, 42, 180, 0, 44, 21, 4, 46, 96, 54, 5, 42, 180, 0, 47, 21, 4]
abbrev dktX3_marks_13 : List UInt8 := dkwX3_marks_13 ++ dktX3_marks_14
def dkwX3_marks_12 : List UInt8 := [162, 0, 72, 21, 4, 16, 31, 162, 0, 65, 27, 21, 4, 122, 4, 126, 154, 0, 6, 167, 0, 47, 16, 6]
abbrev dktX3_marks_12 : List UInt8 := dkwX3_marks_12 ++ dktX3_marks_13
def dkwX3_marks_11 : List UInt8 := [160, 0, 5, 3, 172, 132, 3, 1, 167, 255, 233, 2, 62, 3, 54, 4, 21, 4, 42, 180, 0, 116]
abbrev dktX3_marks_11 : List UInt8 := dkwX3_marks_11 ++ dktX3_marks_12
def dkwX3_marks_10 : List UInt8 := [132, 3, 1, 167, 255, 161, 3, 62, 29, 16, 30, 162, 0, 23, 42, 180, 0, 97, 29, 46, 5, 112, 4]
abbrev dktX3_marks_10 : List UInt8 := dkwX3_marks_10 ++ dktX3_marks_11
def dkwX3_marks_9 : List UInt8 := [180, 0, 47, 29, 46, 4, 160, 0, 8, 21, 4, 167, 0, 7, 21, 4, 4, 96, 46, 92, 46, 4, 96, 79]
abbrev dktX3_marks_9 : List UInt8 := dkwX3_marks_9 ++ dktX3_marks_10
def dkwX3_marks_8 : List UInt8 := [180, 0, 97, 42, 180, 0, 94, 21, 4, 46, 92, 46, 4, 96, 79, 42, 180, 0, 97, 42, 180, 0, 94, 42]
abbrev dktX3_marks_8 : List UInt8 := dkwX3_marks_8 ++ dktX3_marks_9
def dkwX3_marks_7 : List UInt8 := [167, 0, 70, 16, 6, 42, 180, 0, 41, 29, 46, 104, 42, 180, 0, 44, 29, 46, 96, 54, 4, 42]
abbrev dktX3_marks_7 : List UInt8 := dkwX3_marks_7 ++ dktX3_marks_8
def dkwX3_marks_6 : List UInt8 := [29, 42, 180, 0, 116, 162, 0, 93, 29, 16, 31, 162, 0, 87, 27, 29, 122, 4, 126, 154, 0, 6]
abbrev dktX3_marks_6 : List UInt8 := dkwX3_marks_6 ++ dktX3_marks_7
def dkwX3_marks_5 : List UInt8 := [29, 4, 96, 104, 21, 4, 96, 182, 0, 213, 132, 4, 1, 167, 255, 213, 132, 3, 1, 167, 255, 194, 3, 62]
abbrev dktX3_marks_5 : List UInt8 := dkwX3_marks_5 ++ dktX3_marks_6
def dkwX3_marks_4 : List UInt8 := [162, 0, 40, 42, 180, 0, 35, 21, 4, 46, 4, 160, 0, 23, 42, 16, 6, 29, 104, 21, 4, 96, 16, 6]
abbrev dktX3_marks_4 : List UInt8 := dkwX3_marks_4 ++ dktX3_marks_5
def dkwX3_marks_3 : List UInt8 := [167, 255, 233, 3, 62, 29, 4, 96, 42, 180, 0, 15, 162, 0, 58, 3, 54, 4, 21, 4, 42, 180, 0, 19]
abbrev dktX3_marks_3 : List UInt8 := dkwX3_marks_3 ++ dktX3_marks_4
def dkwX3_marks_2 : List UInt8 := [16, 30, 162, 0, 23, 42, 180, 0, 94, 29, 29, 79, 42, 180, 0, 97, 29, 3, 79, 132, 3, 1]
abbrev dktX3_marks_2 : List UInt8 := dkwX3_marks_2 ++ dktX3_marks_3
def dkwX3_marks_1 : List UInt8 := [27, 29, 122, 4, 126, 96, 61, 132, 3, 1, 167, 255, 231, 28, 16, 10, 164, 0, 5, 3, 172, 3, 62, 29]
abbrev dktX3_marks_1 : List UInt8 := dkwX3_marks_1 ++ dktX3_marks_2
def dkwX3_marks_0 : List UInt8 := [42, 3, 181, 0, 104, 3, 61, 3, 62, 29, 42, 180, 0, 116, 162, 0, 23, 29, 16, 31, 162, 0, 17, 28]
abbrev dktX3_marks_0 : List UInt8 := dkwX3_marks_0 ++ dktX3_marks_1
theorem dksX3_marks_0 : cX3_marks.data.toList.drop 0 = dktX3_marks_0 := by decide +kernel
theorem dksX3_marks_1 : cX3_marks.data.toList.drop 24 = dktX3_marks_1 := dk_seg dksX3_marks_0 24 rfl rfl
theorem dksX3_marks_2 : cX3_marks.data.toList.drop 48 = dktX3_marks_2 := dk_seg dksX3_marks_1 24 rfl rfl
theorem dksX3_marks_3 : cX3_marks.data.toList.drop 70 = dktX3_marks_3 := dk_seg dksX3_marks_2 22 rfl rfl
theorem dksX3_marks_4 : cX3_marks.data.toList.drop 94 = dktX3_marks_4 := dk_seg dksX3_marks_3 24 rfl rfl
theorem dksX3_marks_5 : cX3_marks.data.toList.drop 118 = dktX3_marks_5 := dk_seg dksX3_marks_4 24 rfl rfl
theorem dksX3_marks_6 : cX3_marks.data.toList.drop 142 = dktX3_marks_6 := dk_seg dksX3_marks_5 24 rfl rfl
theorem dksX3_marks_7 : cX3_marks.data.toList.drop 164 = dktX3_marks_7 := dk_seg dksX3_marks_6 22 rfl rfl
theorem dksX3_marks_8 : cX3_marks.data.toList.drop 186 = dktX3_marks_8 := dk_seg dksX3_marks_7 22 rfl rfl
theorem dksX3_marks_9 : cX3_marks.data.toList.drop 210 = dktX3_marks_9 := dk_seg dksX3_marks_8 24 rfl rfl
theorem dksX3_marks_10 : cX3_marks.data.toList.drop 234 = dktX3_marks_10 := dk_seg dksX3_marks_9 24 rfl rfl
theorem dksX3_marks_11 : cX3_marks.data.toList.drop 257 = dktX3_marks_11 := dk_seg dksX3_marks_10 23 rfl rfl
theorem dksX3_marks_12 : cX3_marks.data.toList.drop 279 = dktX3_marks_12 := dk_seg dksX3_marks_11 22 rfl rfl
theorem dksX3_marks_13 : cX3_marks.data.toList.drop 303 = dktX3_marks_13 := dk_seg dksX3_marks_12 24 rfl rfl
theorem dksX3_marks_14 : cX3_marks.data.toList.drop 327 = dktX3_marks_14 := dk_seg dksX3_marks_13 24 rfl rfl
theorem dksX3_marks_15 : cX3_marks.data.toList.drop 351 = dktX3_marks_15 := dk_seg dksX3_marks_14 24 rfl rfl
theorem dksX3_marks_16 : cX3_marks.data.toList.drop 375 = dktX3_marks_16 := dk_seg dksX3_marks_15 24 rfl rfl
theorem dksX3_marks_17 : cX3_marks.data.toList.drop 398 = dktX3_marks_17 := dk_seg dksX3_marks_16 23 rfl rfl
theorem dX3_marks_0 : decode cX3_marks 0 = .ok (.aload_n 0, 1) := dk_42 (dk_at dksX3_marks_0 0 rfl rfl)
theorem dX3_marks_1 : decode cX3_marks 1 = .ok (.iconst 0, 1) := dk_3 (dk_at dksX3_marks_0 1 rfl rfl)
theorem dX3_marks_2 : decode cX3_marks 2 = .ok (.putfield 104, 3) := dk_181 0 104 (dk_at dksX3_marks_0 2 rfl rfl)
theorem dX3_marks_5 : decode cX3_marks 5 = .ok (.iconst 0, 1) := dk_3 (dk_at dksX3_marks_0 5 rfl rfl)
theorem dX3_marks_6 : decode cX3_marks 6 = .ok (.istore_n 2, 1) := dk_61 (dk_at dksX3_marks_0 6 rfl rfl)
theorem dX3_marks_7 : decode cX3_marks 7 = .ok (.iconst 0, 1) := dk_3 (dk_at dksX3_marks_0 7 rfl rfl)
theorem dX3_marks_8 : decode cX3_marks 8 = .ok (.istore_n 3, 1) := dk_62 (dk_at dksX3_marks_0 8 rfl rfl)
theorem dX3_marks_9 : decode cX3_marks 9 = .ok (.iload_n 3, 1) := dk_29 (dk_at dksX3_marks_0 9 rfl rfl)
theorem dX3_marks_10 : decode cX3_marks 10 = .ok (.aload_n 0, 1) := dk_42 (dk_at dksX3_marks_0 10 rfl rfl)
theorem dX3_marks_11 : decode cX3_marks 11 = .ok (.getfield 116, 3) := dk_180 0 116 (dk_at dksX3_marks_0 11 rfl rfl)
theorem dX3_marks_14 : decode cX3_marks 14 = .ok (.if_icmp .ge 23, 3) := dk_162 0 23 (dk_at dksX3_marks_0 14 rfl rfl)
theorem dX3_marks_17 : decode cX3_marks 17 = .ok (.iload_n 3, 1) := dk_29 (dk_at dksX3_marks_0 17 rfl rfl)
theorem dX3_marks_18 : decode cX3_marks 18 = .ok (.bipush 31, 2) := dk_16 31 (dk_at dksX3_marks_0 18 rfl rfl)
theorem dX3_marks_20 : decode cX3_marks 20 = .ok (.if_icmp .ge 17, 3) := dk_162 0 17 (dk_at dksX3_marks_0 20 rfl rfl)
theorem dX3_marks_23 : decode cX3_marks 23 = .ok (.iload_n 2, 1) := dk_28 (dk_at dksX3_marks_0 23 rfl rfl)
theorem dX3_marks_24 : decode cX3_marks 24 = .ok (.iload_n 1, 1) := dk_27 (dk_at dksX3_marks_1 0 rfl rfl)
theorem dX3_marks_25 : decode cX3_marks 25 = .ok (.iload_n 3, 1) := dk_29 (dk_at dksX3_marks_1 1 rfl rfl)
theorem dX3_marks_26 : decode cX3_marks 26 = .ok (.ishr, 1) := dk_122 (dk_at dksX3_marks_1 2 rfl rfl)
theorem dX3_marks_27 : decode cX3_marks 27 = .ok (.iconst 1, 1) := dk_4 (dk_at dksX3_marks_1 3 rfl rfl)
theorem dX3_marks_28 : decode cX3_marks 28 = .ok (.iand, 1) := dk_126 (dk_at dksX3_marks_1 4 rfl rfl)
theorem dX3_marks_29 : decode cX3_marks 29 = .ok (.iadd, 1) := dk_96 (dk_at dksX3_marks_1 5 rfl rfl)
theorem dX3_marks_30 : decode cX3_marks 30 = .ok (.istore_n 2, 1) := dk_61 (dk_at dksX3_marks_1 6 rfl rfl)
theorem dX3_marks_31 : decode cX3_marks 31 = .ok (.iinc 3 1, 3) := dk_132 3 1 (dk_at dksX3_marks_1 7 rfl rfl)
theorem dX3_marks_34 : decode cX3_marks 34 = .ok (.goto (-25), 3) := dk_167 255 231 (dk_at dksX3_marks_1 10 rfl rfl)
theorem dX3_marks_37 : decode cX3_marks 37 = .ok (.iload_n 2, 1) := dk_28 (dk_at dksX3_marks_1 13 rfl rfl)
theorem dX3_marks_38 : decode cX3_marks 38 = .ok (.bipush 10, 2) := dk_16 10 (dk_at dksX3_marks_1 14 rfl rfl)
theorem dX3_marks_40 : decode cX3_marks 40 = .ok (.if_icmp .le 5, 3) := dk_164 0 5 (dk_at dksX3_marks_1 16 rfl rfl)
theorem dX3_marks_43 : decode cX3_marks 43 = .ok (.iconst 0, 1) := dk_3 (dk_at dksX3_marks_1 19 rfl rfl)
theorem dX3_marks_44 : decode cX3_marks 44 = .ok (.ireturn, 1) := dk_172 (dk_at dksX3_marks_1 20 rfl rfl)
theorem dX3_marks_45 : decode cX3_marks 45 = .ok (.iconst 0, 1) := dk_3 (dk_at dksX3_marks_1 21 rfl rfl)
theorem dX3_marks_46 : decode cX3_marks 46 = .ok (.istore_n 3, 1) := dk_62 (dk_at dksX3_marks_1 22 rfl rfl)
theorem dX3_marks_47 : decode cX3_marks 47 = .ok (.iload_n 3, 1) := dk_29 (dk_at dksX3_marks_1 23 rfl rfl)
theorem dX3_marks_48 : decode cX3_marks 48 = .ok (.bipush 30, 2) := dk_16 30 (dk_at dksX3_marks_2 0 rfl rfl)
theorem dX3_marks_50 : decode cX3_marks 50 = .ok (.if_icmp .ge 23, 3) := dk_162 0 23 (dk_at dksX3_marks_2 2 rfl rfl)
theorem dX3_marks_53 : decode cX3_marks 53 = .ok (.aload_n 0, 1) := dk_42 (dk_at dksX3_marks_2 5 rfl rfl)
theorem dX3_marks_54 : decode cX3_marks 54 = .ok (.getfield 94, 3) := dk_180 0 94 (dk_at dksX3_marks_2 6 rfl rfl)
theorem dX3_marks_57 : decode cX3_marks 57 = .ok (.iload_n 3, 1) := dk_29 (dk_at dksX3_marks_2 9 rfl rfl)
theorem dX3_marks_58 : decode cX3_marks 58 = .ok (.iload_n 3, 1) := dk_29 (dk_at dksX3_marks_2 10 rfl rfl)
theorem dX3_marks_59 : decode cX3_marks 59 = .ok (.iastore, 1) := dk_79 (dk_at dksX3_marks_2 11 rfl rfl)
theorem dX3_marks_60 : decode cX3_marks 60 = .ok (.aload_n 0, 1) := dk_42 (dk_at dksX3_marks_2 12 rfl rfl)
theorem dX3_marks_61 : decode cX3_marks 61 = .ok (.getfield 97, 3) := dk_180 0 97 (dk_at dksX3_marks_2 13 rfl rfl)
theorem dX3_marks_64 : decode cX3_marks 64 = .ok (.iload_n 3, 1) := dk_29 (dk_at dksX3_marks_2 16 rfl rfl)
theorem dX3_marks_65 : decode cX3_marks 65 = .ok (.iconst 0, 1) := dk_3 (dk_at dksX3_marks_2 17 rfl rfl)
theorem dX3_marks_66 : decode cX3_marks 66 = .ok (.iastore, 1) := dk_79 (dk_at dksX3_marks_2 18 rfl rfl)
theorem dX3_marks_67 : decode cX3_marks 67 = .ok (.iinc 3 1, 3) := dk_132 3 1 (dk_at dksX3_marks_2 19 rfl rfl)
theorem dX3_marks_70 : decode cX3_marks 70 = .ok (.goto (-23), 3) := dk_167 255 233 (dk_at dksX3_marks_3 0 rfl rfl)
theorem dX3_marks_73 : decode cX3_marks 73 = .ok (.iconst 0, 1) := dk_3 (dk_at dksX3_marks_3 3 rfl rfl)
theorem dX3_marks_74 : decode cX3_marks 74 = .ok (.istore_n 3, 1) := dk_62 (dk_at dksX3_marks_3 4 rfl rfl)
theorem dX3_marks_75 : decode cX3_marks 75 = .ok (.iload_n 3, 1) := dk_29 (dk_at dksX3_marks_3 5 rfl rfl)
theorem dX3_marks_76 : decode cX3_marks 76 = .ok (.iconst 1, 1) := dk_4 (dk_at dksX3_marks_3 6 rfl rfl)
theorem dX3_marks_77 : decode cX3_marks 77 = .ok (.iadd, 1) := dk_96 (dk_at dksX3_marks_3 7 rfl rfl)
theorem dX3_marks_78 : decode cX3_marks 78 = .ok (.aload_n 0, 1) := dk_42 (dk_at dksX3_marks_3 8 rfl rfl)
theorem dX3_marks_79 : decode cX3_marks 79 = .ok (.getfield 15, 3) := dk_180 0 15 (dk_at dksX3_marks_3 9 rfl rfl)
theorem dX3_marks_82 : decode cX3_marks 82 = .ok (.if_icmp .ge 58, 3) := dk_162 0 58 (dk_at dksX3_marks_3 12 rfl rfl)
theorem dX3_marks_85 : decode cX3_marks 85 = .ok (.iconst 0, 1) := dk_3 (dk_at dksX3_marks_3 15 rfl rfl)
theorem dX3_marks_86 : decode cX3_marks 86 = .ok (.istore 4, 2) := dk_54 4 (dk_at dksX3_marks_3 16 rfl rfl)
theorem dX3_marks_88 : decode cX3_marks 88 = .ok (.iload 4, 2) := dk_21 4 (dk_at dksX3_marks_3 18 rfl rfl)
theorem dX3_marks_90 : decode cX3_marks 90 = .ok (.aload_n 0, 1) := dk_42 (dk_at dksX3_marks_3 20 rfl rfl)
theorem dX3_marks_91 : decode cX3_marks 91 = .ok (.getfield 19, 3) := dk_180 0 19 (dk_at dksX3_marks_3 21 rfl rfl)
theorem dX3_marks_94 : decode cX3_marks 94 = .ok (.if_icmp .ge 40, 3) := dk_162 0 40 (dk_at dksX3_marks_4 0 rfl rfl)
theorem dX3_marks_97 : decode cX3_marks 97 = .ok (.aload_n 0, 1) := dk_42 (dk_at dksX3_marks_4 3 rfl rfl)
theorem dX3_marks_98 : decode cX3_marks 98 = .ok (.getfield 35, 3) := dk_180 0 35 (dk_at dksX3_marks_4 4 rfl rfl)
theorem dX3_marks_101 : decode cX3_marks 101 = .ok (.iload 4, 2) := dk_21 4 (dk_at dksX3_marks_4 7 rfl rfl)
theorem dX3_marks_103 : decode cX3_marks 103 = .ok (.iaload, 1) := dk_46 (dk_at dksX3_marks_4 9 rfl rfl)
theorem dX3_marks_104 : decode cX3_marks 104 = .ok (.iconst 1, 1) := dk_4 (dk_at dksX3_marks_4 10 rfl rfl)
theorem dX3_marks_105 : decode cX3_marks 105 = .ok (.if_icmp .ne 23, 3) := dk_160 0 23 (dk_at dksX3_marks_4 11 rfl rfl)
theorem dX3_marks_108 : decode cX3_marks 108 = .ok (.aload_n 0, 1) := dk_42 (dk_at dksX3_marks_4 14 rfl rfl)
theorem dX3_marks_109 : decode cX3_marks 109 = .ok (.bipush 6, 2) := dk_16 6 (dk_at dksX3_marks_4 15 rfl rfl)
theorem dX3_marks_111 : decode cX3_marks 111 = .ok (.iload_n 3, 1) := dk_29 (dk_at dksX3_marks_4 17 rfl rfl)
theorem dX3_marks_112 : decode cX3_marks 112 = .ok (.imul, 1) := dk_104 (dk_at dksX3_marks_4 18 rfl rfl)
theorem dX3_marks_113 : decode cX3_marks 113 = .ok (.iload 4, 2) := dk_21 4 (dk_at dksX3_marks_4 19 rfl rfl)
theorem dX3_marks_115 : decode cX3_marks 115 = .ok (.iadd, 1) := dk_96 (dk_at dksX3_marks_4 21 rfl rfl)
theorem dX3_marks_116 : decode cX3_marks 116 = .ok (.bipush 6, 2) := dk_16 6 (dk_at dksX3_marks_4 22 rfl rfl)
theorem dX3_marks_118 : decode cX3_marks 118 = .ok (.iload_n 3, 1) := dk_29 (dk_at dksX3_marks_5 0 rfl rfl)
theorem dX3_marks_119 : decode cX3_marks 119 = .ok (.iconst 1, 1) := dk_4 (dk_at dksX3_marks_5 1 rfl rfl)
theorem dX3_marks_120 : decode cX3_marks 120 = .ok (.iadd, 1) := dk_96 (dk_at dksX3_marks_5 2 rfl rfl)
theorem dX3_marks_121 : decode cX3_marks 121 = .ok (.imul, 1) := dk_104 (dk_at dksX3_marks_5 3 rfl rfl)
theorem dX3_marks_122 : decode cX3_marks 122 = .ok (.iload 4, 2) := dk_21 4 (dk_at dksX3_marks_5 4 rfl rfl)
theorem dX3_marks_124 : decode cX3_marks 124 = .ok (.iadd, 1) := dk_96 (dk_at dksX3_marks_5 6 rfl rfl)
theorem dX3_marks_125 : decode cX3_marks 125 = .ok (.invokevirtual 213, 3) := dk_182 0 213 (dk_at dksX3_marks_5 7 rfl rfl)
theorem dX3_marks_128 : decode cX3_marks 128 = .ok (.iinc 4 1, 3) := dk_132 4 1 (dk_at dksX3_marks_5 10 rfl rfl)
theorem dX3_marks_131 : decode cX3_marks 131 = .ok (.goto (-43), 3) := dk_167 255 213 (dk_at dksX3_marks_5 13 rfl rfl)
theorem dX3_marks_134 : decode cX3_marks 134 = .ok (.iinc 3 1, 3) := dk_132 3 1 (dk_at dksX3_marks_5 16 rfl rfl)
theorem dX3_marks_137 : decode cX3_marks 137 = .ok (.goto (-62), 3) := dk_167 255 194 (dk_at dksX3_marks_5 19 rfl rfl)
theorem dX3_marks_140 : decode cX3_marks 140 = .ok (.iconst 0, 1) := dk_3 (dk_at dksX3_marks_5 22 rfl rfl)
theorem dX3_marks_141 : decode cX3_marks 141 = .ok (.istore_n 3, 1) := dk_62 (dk_at dksX3_marks_5 23 rfl rfl)
theorem dX3_marks_142 : decode cX3_marks 142 = .ok (.iload_n 3, 1) := dk_29 (dk_at dksX3_marks_6 0 rfl rfl)
theorem dX3_marks_143 : decode cX3_marks 143 = .ok (.aload_n 0, 1) := dk_42 (dk_at dksX3_marks_6 1 rfl rfl)
theorem dX3_marks_144 : decode cX3_marks 144 = .ok (.getfield 116, 3) := dk_180 0 116 (dk_at dksX3_marks_6 2 rfl rfl)
theorem dX3_marks_147 : decode cX3_marks 147 = .ok (.if_icmp .ge 93, 3) := dk_162 0 93 (dk_at dksX3_marks_6 5 rfl rfl)
theorem dX3_marks_150 : decode cX3_marks 150 = .ok (.iload_n 3, 1) := dk_29 (dk_at dksX3_marks_6 8 rfl rfl)
theorem dX3_marks_151 : decode cX3_marks 151 = .ok (.bipush 31, 2) := dk_16 31 (dk_at dksX3_marks_6 9 rfl rfl)
theorem dX3_marks_153 : decode cX3_marks 153 = .ok (.if_icmp .ge 87, 3) := dk_162 0 87 (dk_at dksX3_marks_6 11 rfl rfl)
theorem dX3_marks_156 : decode cX3_marks 156 = .ok (.iload_n 1, 1) := dk_27 (dk_at dksX3_marks_6 14 rfl rfl)
theorem dX3_marks_157 : decode cX3_marks 157 = .ok (.iload_n 3, 1) := dk_29 (dk_at dksX3_marks_6 15 rfl rfl)
theorem dX3_marks_158 : decode cX3_marks 158 = .ok (.ishr, 1) := dk_122 (dk_at dksX3_marks_6 16 rfl rfl)
theorem dX3_marks_159 : decode cX3_marks 159 = .ok (.iconst 1, 1) := dk_4 (dk_at dksX3_marks_6 17 rfl rfl)
theorem dX3_marks_160 : decode cX3_marks 160 = .ok (.iand, 1) := dk_126 (dk_at dksX3_marks_6 18 rfl rfl)
theorem dX3_marks_161 : decode cX3_marks 161 = .ok (.ifCond .ne 6, 3) := dk_154 0 6 (dk_at dksX3_marks_6 19 rfl rfl)
theorem dX3_marks_164 : decode cX3_marks 164 = .ok (.goto 70, 3) := dk_167 0 70 (dk_at dksX3_marks_7 0 rfl rfl)
theorem dX3_marks_167 : decode cX3_marks 167 = .ok (.bipush 6, 2) := dk_16 6 (dk_at dksX3_marks_7 3 rfl rfl)
theorem dX3_marks_169 : decode cX3_marks 169 = .ok (.aload_n 0, 1) := dk_42 (dk_at dksX3_marks_7 5 rfl rfl)
theorem dX3_marks_170 : decode cX3_marks 170 = .ok (.getfield 41, 3) := dk_180 0 41 (dk_at dksX3_marks_7 6 rfl rfl)
theorem dX3_marks_173 : decode cX3_marks 173 = .ok (.iload_n 3, 1) := dk_29 (dk_at dksX3_marks_7 9 rfl rfl)
theorem dX3_marks_174 : decode cX3_marks 174 = .ok (.iaload, 1) := dk_46 (dk_at dksX3_marks_7 10 rfl rfl)
theorem dX3_marks_175 : decode cX3_marks 175 = .ok (.imul, 1) := dk_104 (dk_at dksX3_marks_7 11 rfl rfl)
theorem dX3_marks_176 : decode cX3_marks 176 = .ok (.aload_n 0, 1) := dk_42 (dk_at dksX3_marks_7 12 rfl rfl)
theorem dX3_marks_177 : decode cX3_marks 177 = .ok (.getfield 44, 3) := dk_180 0 44 (dk_at dksX3_marks_7 13 rfl rfl)
theorem dX3_marks_180 : decode cX3_marks 180 = .ok (.iload_n 3, 1) := dk_29 (dk_at dksX3_marks_7 16 rfl rfl)
theorem dX3_marks_181 : decode cX3_marks 181 = .ok (.iaload, 1) := dk_46 (dk_at dksX3_marks_7 17 rfl rfl)
theorem dX3_marks_182 : decode cX3_marks 182 = .ok (.iadd, 1) := dk_96 (dk_at dksX3_marks_7 18 rfl rfl)
theorem dX3_marks_183 : decode cX3_marks 183 = .ok (.istore 4, 2) := dk_54 4 (dk_at dksX3_marks_7 19 rfl rfl)
theorem dX3_marks_185 : decode cX3_marks 185 = .ok (.aload_n 0, 1) := dk_42 (dk_at dksX3_marks_7 21 rfl rfl)
theorem dX3_marks_186 : decode cX3_marks 186 = .ok (.getfield 97, 3) := dk_180 0 97 (dk_at dksX3_marks_8 0 rfl rfl)
theorem dX3_marks_189 : decode cX3_marks 189 = .ok (.aload_n 0, 1) := dk_42 (dk_at dksX3_marks_8 3 rfl rfl)
theorem dX3_marks_190 : decode cX3_marks 190 = .ok (.getfield 94, 3) := dk_180 0 94 (dk_at dksX3_marks_8 4 rfl rfl)
theorem dX3_marks_193 : decode cX3_marks 193 = .ok (.iload 4, 2) := dk_21 4 (dk_at dksX3_marks_8 7 rfl rfl)
theorem dX3_marks_195 : decode cX3_marks 195 = .ok (.iaload, 1) := dk_46 (dk_at dksX3_marks_8 9 rfl rfl)
theorem dX3_marks_196 : decode cX3_marks 196 = .ok (.dup2, 1) := dk_92 (dk_at dksX3_marks_8 10 rfl rfl)
theorem dX3_marks_197 : decode cX3_marks 197 = .ok (.iaload, 1) := dk_46 (dk_at dksX3_marks_8 11 rfl rfl)
theorem dX3_marks_198 : decode cX3_marks 198 = .ok (.iconst 1, 1) := dk_4 (dk_at dksX3_marks_8 12 rfl rfl)
theorem dX3_marks_199 : decode cX3_marks 199 = .ok (.iadd, 1) := dk_96 (dk_at dksX3_marks_8 13 rfl rfl)
theorem dX3_marks_200 : decode cX3_marks 200 = .ok (.iastore, 1) := dk_79 (dk_at dksX3_marks_8 14 rfl rfl)
theorem dX3_marks_201 : decode cX3_marks 201 = .ok (.aload_n 0, 1) := dk_42 (dk_at dksX3_marks_8 15 rfl rfl)
theorem dX3_marks_202 : decode cX3_marks 202 = .ok (.getfield 97, 3) := dk_180 0 97 (dk_at dksX3_marks_8 16 rfl rfl)
theorem dX3_marks_205 : decode cX3_marks 205 = .ok (.aload_n 0, 1) := dk_42 (dk_at dksX3_marks_8 19 rfl rfl)
theorem dX3_marks_206 : decode cX3_marks 206 = .ok (.getfield 94, 3) := dk_180 0 94 (dk_at dksX3_marks_8 20 rfl rfl)
theorem dX3_marks_209 : decode cX3_marks 209 = .ok (.aload_n 0, 1) := dk_42 (dk_at dksX3_marks_8 23 rfl rfl)
theorem dX3_marks_210 : decode cX3_marks 210 = .ok (.getfield 47, 3) := dk_180 0 47 (dk_at dksX3_marks_9 0 rfl rfl)
theorem dX3_marks_213 : decode cX3_marks 213 = .ok (.iload_n 3, 1) := dk_29 (dk_at dksX3_marks_9 3 rfl rfl)
theorem dX3_marks_214 : decode cX3_marks 214 = .ok (.iaload, 1) := dk_46 (dk_at dksX3_marks_9 4 rfl rfl)
theorem dX3_marks_215 : decode cX3_marks 215 = .ok (.iconst 1, 1) := dk_4 (dk_at dksX3_marks_9 5 rfl rfl)
theorem dX3_marks_216 : decode cX3_marks 216 = .ok (.if_icmp .ne 8, 3) := dk_160 0 8 (dk_at dksX3_marks_9 6 rfl rfl)
theorem dX3_marks_219 : decode cX3_marks 219 = .ok (.iload 4, 2) := dk_21 4 (dk_at dksX3_marks_9 9 rfl rfl)
theorem dX3_marks_221 : decode cX3_marks 221 = .ok (.goto 7, 3) := dk_167 0 7 (dk_at dksX3_marks_9 11 rfl rfl)
theorem dX3_marks_224 : decode cX3_marks 224 = .ok (.iload 4, 2) := dk_21 4 (dk_at dksX3_marks_9 14 rfl rfl)
theorem dX3_marks_226 : decode cX3_marks 226 = .ok (.iconst 1, 1) := dk_4 (dk_at dksX3_marks_9 16 rfl rfl)
theorem dX3_marks_227 : decode cX3_marks 227 = .ok (.iadd, 1) := dk_96 (dk_at dksX3_marks_9 17 rfl rfl)
theorem dX3_marks_228 : decode cX3_marks 228 = .ok (.iaload, 1) := dk_46 (dk_at dksX3_marks_9 18 rfl rfl)
theorem dX3_marks_229 : decode cX3_marks 229 = .ok (.dup2, 1) := dk_92 (dk_at dksX3_marks_9 19 rfl rfl)
theorem dX3_marks_230 : decode cX3_marks 230 = .ok (.iaload, 1) := dk_46 (dk_at dksX3_marks_9 20 rfl rfl)
theorem dX3_marks_231 : decode cX3_marks 231 = .ok (.iconst 1, 1) := dk_4 (dk_at dksX3_marks_9 21 rfl rfl)
theorem dX3_marks_232 : decode cX3_marks 232 = .ok (.iadd, 1) := dk_96 (dk_at dksX3_marks_9 22 rfl rfl)
theorem dX3_marks_233 : decode cX3_marks 233 = .ok (.iastore, 1) := dk_79 (dk_at dksX3_marks_9 23 rfl rfl)
theorem dX3_marks_234 : decode cX3_marks 234 = .ok (.iinc 3 1, 3) := dk_132 3 1 (dk_at dksX3_marks_10 0 rfl rfl)
theorem dX3_marks_237 : decode cX3_marks 237 = .ok (.goto (-95), 3) := dk_167 255 161 (dk_at dksX3_marks_10 3 rfl rfl)
theorem dX3_marks_240 : decode cX3_marks 240 = .ok (.iconst 0, 1) := dk_3 (dk_at dksX3_marks_10 6 rfl rfl)
theorem dX3_marks_241 : decode cX3_marks 241 = .ok (.istore_n 3, 1) := dk_62 (dk_at dksX3_marks_10 7 rfl rfl)
theorem dX3_marks_242 : decode cX3_marks 242 = .ok (.iload_n 3, 1) := dk_29 (dk_at dksX3_marks_10 8 rfl rfl)
theorem dX3_marks_243 : decode cX3_marks 243 = .ok (.bipush 30, 2) := dk_16 30 (dk_at dksX3_marks_10 9 rfl rfl)
theorem dX3_marks_245 : decode cX3_marks 245 = .ok (.if_icmp .ge 23, 3) := dk_162 0 23 (dk_at dksX3_marks_10 11 rfl rfl)
theorem dX3_marks_248 : decode cX3_marks 248 = .ok (.aload_n 0, 1) := dk_42 (dk_at dksX3_marks_10 14 rfl rfl)
theorem dX3_marks_249 : decode cX3_marks 249 = .ok (.getfield 97, 3) := dk_180 0 97 (dk_at dksX3_marks_10 15 rfl rfl)
theorem dX3_marks_252 : decode cX3_marks 252 = .ok (.iload_n 3, 1) := dk_29 (dk_at dksX3_marks_10 18 rfl rfl)
theorem dX3_marks_253 : decode cX3_marks 253 = .ok (.iaload, 1) := dk_46 (dk_at dksX3_marks_10 19 rfl rfl)
theorem dX3_marks_254 : decode cX3_marks 254 = .ok (.iconst 2, 1) := dk_5 (dk_at dksX3_marks_10 20 rfl rfl)
theorem dX3_marks_255 : decode cX3_marks 255 = .ok (.irem, 1) := dk_112 (dk_at dksX3_marks_10 21 rfl rfl)
theorem dX3_marks_256 : decode cX3_marks 256 = .ok (.iconst 1, 1) := dk_4 (dk_at dksX3_marks_10 22 rfl rfl)
theorem dX3_marks_257 : decode cX3_marks 257 = .ok (.if_icmp .ne 5, 3) := dk_160 0 5 (dk_at dksX3_marks_11 0 rfl rfl)
theorem dX3_marks_260 : decode cX3_marks 260 = .ok (.iconst 0, 1) := dk_3 (dk_at dksX3_marks_11 3 rfl rfl)
theorem dX3_marks_261 : decode cX3_marks 261 = .ok (.ireturn, 1) := dk_172 (dk_at dksX3_marks_11 4 rfl rfl)
theorem dX3_marks_262 : decode cX3_marks 262 = .ok (.iinc 3 1, 3) := dk_132 3 1 (dk_at dksX3_marks_11 5 rfl rfl)
theorem dX3_marks_265 : decode cX3_marks 265 = .ok (.goto (-23), 3) := dk_167 255 233 (dk_at dksX3_marks_11 8 rfl rfl)
theorem dX3_marks_268 : decode cX3_marks 268 = .ok (.iconst (-1), 1) := dk_2 (dk_at dksX3_marks_11 11 rfl rfl)
theorem dX3_marks_269 : decode cX3_marks 269 = .ok (.istore_n 3, 1) := dk_62 (dk_at dksX3_marks_11 12 rfl rfl)
theorem dX3_marks_270 : decode cX3_marks 270 = .ok (.iconst 0, 1) := dk_3 (dk_at dksX3_marks_11 13 rfl rfl)
theorem dX3_marks_271 : decode cX3_marks 271 = .ok (.istore 4, 2) := dk_54 4 (dk_at dksX3_marks_11 14 rfl rfl)
theorem dX3_marks_273 : decode cX3_marks 273 = .ok (.iload 4, 2) := dk_21 4 (dk_at dksX3_marks_11 16 rfl rfl)
theorem dX3_marks_275 : decode cX3_marks 275 = .ok (.aload_n 0, 1) := dk_42 (dk_at dksX3_marks_11 18 rfl rfl)
theorem dX3_marks_276 : decode cX3_marks 276 = .ok (.getfield 116, 3) := dk_180 0 116 (dk_at dksX3_marks_11 19 rfl rfl)
theorem dX3_marks_279 : decode cX3_marks 279 = .ok (.if_icmp .ge 72, 3) := dk_162 0 72 (dk_at dksX3_marks_12 0 rfl rfl)
theorem dX3_marks_282 : decode cX3_marks 282 = .ok (.iload 4, 2) := dk_21 4 (dk_at dksX3_marks_12 3 rfl rfl)
theorem dX3_marks_284 : decode cX3_marks 284 = .ok (.bipush 31, 2) := dk_16 31 (dk_at dksX3_marks_12 5 rfl rfl)
theorem dX3_marks_286 : decode cX3_marks 286 = .ok (.if_icmp .ge 65, 3) := dk_162 0 65 (dk_at dksX3_marks_12 7 rfl rfl)
theorem dX3_marks_289 : decode cX3_marks 289 = .ok (.iload_n 1, 1) := dk_27 (dk_at dksX3_marks_12 10 rfl rfl)
theorem dX3_marks_290 : decode cX3_marks 290 = .ok (.iload 4, 2) := dk_21 4 (dk_at dksX3_marks_12 11 rfl rfl)
theorem dX3_marks_292 : decode cX3_marks 292 = .ok (.ishr, 1) := dk_122 (dk_at dksX3_marks_12 13 rfl rfl)
theorem dX3_marks_293 : decode cX3_marks 293 = .ok (.iconst 1, 1) := dk_4 (dk_at dksX3_marks_12 14 rfl rfl)
theorem dX3_marks_294 : decode cX3_marks 294 = .ok (.iand, 1) := dk_126 (dk_at dksX3_marks_12 15 rfl rfl)
theorem dX3_marks_295 : decode cX3_marks 295 = .ok (.ifCond .ne 6, 3) := dk_154 0 6 (dk_at dksX3_marks_12 16 rfl rfl)
theorem dX3_marks_298 : decode cX3_marks 298 = .ok (.goto 47, 3) := dk_167 0 47 (dk_at dksX3_marks_12 19 rfl rfl)
theorem dX3_marks_301 : decode cX3_marks 301 = .ok (.bipush 6, 2) := dk_16 6 (dk_at dksX3_marks_12 22 rfl rfl)
theorem dX3_marks_303 : decode cX3_marks 303 = .ok (.aload_n 0, 1) := dk_42 (dk_at dksX3_marks_13 0 rfl rfl)
theorem dX3_marks_304 : decode cX3_marks 304 = .ok (.getfield 41, 3) := dk_180 0 41 (dk_at dksX3_marks_13 1 rfl rfl)
theorem dX3_marks_307 : decode cX3_marks 307 = .ok (.iload 4, 2) := dk_21 4 (dk_at dksX3_marks_13 4 rfl rfl)
theorem dX3_marks_309 : decode cX3_marks 309 = .ok (.iaload, 1) := dk_46 (dk_at dksX3_marks_13 6 rfl rfl)
theorem dX3_marks_310 : decode cX3_marks 310 = .ok (.imul, 1) := dk_104 (dk_at dksX3_marks_13 7 rfl rfl)
theorem dX3_marks_311 : decode cX3_marks 311 = .ok (.aload_n 0, 1) := dk_42 (dk_at dksX3_marks_13 8 rfl rfl)
theorem dX3_marks_312 : decode cX3_marks 312 = .ok (.getfield 44, 3) := dk_180 0 44 (dk_at dksX3_marks_13 9 rfl rfl)
theorem dX3_marks_315 : decode cX3_marks 315 = .ok (.iload 4, 2) := dk_21 4 (dk_at dksX3_marks_13 12 rfl rfl)
theorem dX3_marks_317 : decode cX3_marks 317 = .ok (.iaload, 1) := dk_46 (dk_at dksX3_marks_13 14 rfl rfl)
theorem dX3_marks_318 : decode cX3_marks 318 = .ok (.iadd, 1) := dk_96 (dk_at dksX3_marks_13 15 rfl rfl)
theorem dX3_marks_319 : decode cX3_marks 319 = .ok (.istore 5, 2) := dk_54 5 (dk_at dksX3_marks_13 16 rfl rfl)
theorem dX3_marks_321 : decode cX3_marks 321 = .ok (.aload_n 0, 1) := dk_42 (dk_at dksX3_marks_13 18 rfl rfl)
theorem dX3_marks_322 : decode cX3_marks 322 = .ok (.getfield 47, 3) := dk_180 0 47 (dk_at dksX3_marks_13 19 rfl rfl)
theorem dX3_marks_325 : decode cX3_marks 325 = .ok (.iload 4, 2) := dk_21 4 (dk_at dksX3_marks_13 22 rfl rfl)
theorem dX3_marks_327 : decode cX3_marks 327 = .ok (.iaload, 1) := dk_46 (dk_at dksX3_marks_14 0 rfl rfl)
theorem dX3_marks_328 : decode cX3_marks 328 = .ok (.iconst 1, 1) := dk_4 (dk_at dksX3_marks_14 1 rfl rfl)
theorem dX3_marks_329 : decode cX3_marks 329 = .ok (.if_icmp .eq 13, 3) := dk_159 0 13 (dk_at dksX3_marks_14 2 rfl rfl)
theorem dX3_marks_332 : decode cX3_marks 332 = .ok (.aload_n 0, 1) := dk_42 (dk_at dksX3_marks_14 5 rfl rfl)
theorem dX3_marks_333 : decode cX3_marks 333 = .ok (.iload 5, 2) := dk_21 5 (dk_at dksX3_marks_14 6 rfl rfl)
theorem dX3_marks_335 : decode cX3_marks 335 = .ok (.iload 5, 2) := dk_21 5 (dk_at dksX3_marks_14 8 rfl rfl)
theorem dX3_marks_337 : decode cX3_marks 337 = .ok (.iconst 1, 1) := dk_4 (dk_at dksX3_marks_14 10 rfl rfl)
theorem dX3_marks_338 : decode cX3_marks 338 = .ok (.iadd, 1) := dk_96 (dk_at dksX3_marks_14 11 rfl rfl)
theorem dX3_marks_339 : decode cX3_marks 339 = .ok (.invokevirtual 213, 3) := dk_182 0 213 (dk_at dksX3_marks_14 12 rfl rfl)
theorem dX3_marks_342 : decode cX3_marks 342 = .ok (.iload 5, 2) := dk_21 5 (dk_at dksX3_marks_14 15 rfl rfl)
theorem dX3_marks_344 : decode cX3_marks 344 = .ok (.istore_n 3, 1) := dk_62 (dk_at dksX3_marks_14 17 rfl rfl)
theorem dX3_marks_345 : decode cX3_marks 345 = .ok (.iinc 4 1, 3) := dk_132 4 1 (dk_at dksX3_marks_14 18 rfl rfl)
theorem dX3_marks_348 : decode cX3_marks 348 = .ok (.goto (-75), 3) := dk_167 255 181 (dk_at dksX3_marks_14 21 rfl rfl)
theorem dX3_marks_351 : decode cX3_marks 351 = .ok (.iconst 0, 1) := dk_3 (dk_at dksX3_marks_15 0 rfl rfl)
theorem dX3_marks_352 : decode cX3_marks 352 = .ok (.istore 4, 2) := dk_54 4 (dk_at dksX3_marks_15 1 rfl rfl)
theorem dX3_marks_354 : decode cX3_marks 354 = .ok (.iload 4, 2) := dk_21 4 (dk_at dksX3_marks_15 3 rfl rfl)
theorem dX3_marks_356 : decode cX3_marks 356 = .ok (.aload_n 0, 1) := dk_42 (dk_at dksX3_marks_15 5 rfl rfl)
theorem dX3_marks_357 : decode cX3_marks 357 = .ok (.getfield 116, 3) := dk_180 0 116 (dk_at dksX3_marks_15 6 rfl rfl)
theorem dX3_marks_360 : decode cX3_marks 360 = .ok (.if_icmp .ge 60, 3) := dk_162 0 60 (dk_at dksX3_marks_15 9 rfl rfl)
theorem dX3_marks_363 : decode cX3_marks 363 = .ok (.iload 4, 2) := dk_21 4 (dk_at dksX3_marks_15 12 rfl rfl)
theorem dX3_marks_365 : decode cX3_marks 365 = .ok (.bipush 31, 2) := dk_16 31 (dk_at dksX3_marks_15 14 rfl rfl)
theorem dX3_marks_367 : decode cX3_marks 367 = .ok (.if_icmp .ge 53, 3) := dk_162 0 53 (dk_at dksX3_marks_15 16 rfl rfl)
theorem dX3_marks_370 : decode cX3_marks 370 = .ok (.iload_n 1, 1) := dk_27 (dk_at dksX3_marks_15 19 rfl rfl)
theorem dX3_marks_371 : decode cX3_marks 371 = .ok (.iload 4, 2) := dk_21 4 (dk_at dksX3_marks_15 20 rfl rfl)
theorem dX3_marks_373 : decode cX3_marks 373 = .ok (.ishr, 1) := dk_122 (dk_at dksX3_marks_15 22 rfl rfl)
theorem dX3_marks_374 : decode cX3_marks 374 = .ok (.iconst 1, 1) := dk_4 (dk_at dksX3_marks_15 23 rfl rfl)
theorem dX3_marks_375 : decode cX3_marks 375 = .ok (.iand, 1) := dk_126 (dk_at dksX3_marks_16 0 rfl rfl)
theorem dX3_marks_376 : decode cX3_marks 376 = .ok (.iconst 1, 1) := dk_4 (dk_at dksX3_marks_16 1 rfl rfl)
theorem dX3_marks_377 : decode cX3_marks 377 = .ok (.if_icmp .ne 37, 3) := dk_160 0 37 (dk_at dksX3_marks_16 2 rfl rfl)
theorem dX3_marks_380 : decode cX3_marks 380 = .ok (.aload_n 0, 1) := dk_42 (dk_at dksX3_marks_16 5 rfl rfl)
theorem dX3_marks_381 : decode cX3_marks 381 = .ok (.getfield 94, 3) := dk_180 0 94 (dk_at dksX3_marks_16 6 rfl rfl)
theorem dX3_marks_384 : decode cX3_marks 384 = .ok (.bipush 6, 2) := dk_16 6 (dk_at dksX3_marks_16 9 rfl rfl)
theorem dX3_marks_386 : decode cX3_marks 386 = .ok (.aload_n 0, 1) := dk_42 (dk_at dksX3_marks_16 11 rfl rfl)
theorem dX3_marks_387 : decode cX3_marks 387 = .ok (.getfield 41, 3) := dk_180 0 41 (dk_at dksX3_marks_16 12 rfl rfl)
theorem dX3_marks_390 : decode cX3_marks 390 = .ok (.iload 4, 2) := dk_21 4 (dk_at dksX3_marks_16 15 rfl rfl)
theorem dX3_marks_392 : decode cX3_marks 392 = .ok (.iaload, 1) := dk_46 (dk_at dksX3_marks_16 17 rfl rfl)
theorem dX3_marks_393 : decode cX3_marks 393 = .ok (.imul, 1) := dk_104 (dk_at dksX3_marks_16 18 rfl rfl)
theorem dX3_marks_394 : decode cX3_marks 394 = .ok (.aload_n 0, 1) := dk_42 (dk_at dksX3_marks_16 19 rfl rfl)
theorem dX3_marks_395 : decode cX3_marks 395 = .ok (.getfield 44, 3) := dk_180 0 44 (dk_at dksX3_marks_16 20 rfl rfl)
theorem dX3_marks_398 : decode cX3_marks 398 = .ok (.iload 4, 2) := dk_21 4 (dk_at dksX3_marks_17 0 rfl rfl)
theorem dX3_marks_400 : decode cX3_marks 400 = .ok (.iaload, 1) := dk_46 (dk_at dksX3_marks_17 2 rfl rfl)
theorem dX3_marks_401 : decode cX3_marks 401 = .ok (.iadd, 1) := dk_96 (dk_at dksX3_marks_17 3 rfl rfl)
theorem dX3_marks_402 : decode cX3_marks 402 = .ok (.iaload, 1) := dk_46 (dk_at dksX3_marks_17 4 rfl rfl)
theorem dX3_marks_403 : decode cX3_marks 403 = .ok (.aload_n 0, 1) := dk_42 (dk_at dksX3_marks_17 5 rfl rfl)
theorem dX3_marks_404 : decode cX3_marks 404 = .ok (.getfield 94, 3) := dk_180 0 94 (dk_at dksX3_marks_17 6 rfl rfl)
theorem dX3_marks_407 : decode cX3_marks 407 = .ok (.iload_n 3, 1) := dk_29 (dk_at dksX3_marks_17 9 rfl rfl)
theorem dX3_marks_408 : decode cX3_marks 408 = .ok (.iaload, 1) := dk_46 (dk_at dksX3_marks_17 10 rfl rfl)
theorem dX3_marks_409 : decode cX3_marks 409 = .ok (.if_icmp .eq 5, 3) := dk_159 0 5 (dk_at dksX3_marks_17 11 rfl rfl)
theorem dX3_marks_412 : decode cX3_marks 412 = .ok (.iconst 0, 1) := dk_3 (dk_at dksX3_marks_17 14 rfl rfl)
theorem dX3_marks_413 : decode cX3_marks 413 = .ok (.ireturn, 1) := dk_172 (dk_at dksX3_marks_17 15 rfl rfl)
theorem dX3_marks_414 : decode cX3_marks 414 = .ok (.iinc 4 1, 3) := dk_132 4 1 (dk_at dksX3_marks_17 16 rfl rfl)
theorem dX3_marks_417 : decode cX3_marks 417 = .ok (.goto (-63), 3) := dk_167 255 193 (dk_at dksX3_marks_17 19 rfl rfl)
theorem dX3_marks_420 : decode cX3_marks 420 = .ok (.iconst 1, 1) := dk_4 (dk_at dksX3_marks_17 22 rfl rfl)
theorem dX3_marks_421 : decode cX3_marks 421 = .ok (.ireturn, 1) := dk_172 (dk_at dksX3_marks_17 23 rfl rfl)
abbrev cX3_join : ByteArray := prog_6_method_46_code
def yX3_join : MethodName := ⟨RX3, "join", "(II)V"⟩
def dkwX3_join_2 : List UInt8 := [132, 5, 1, 167, 255, 226, 177]
abbrev dktX3_join_2 : List UInt8 := dkwX3_join_2 ++ []
def dkwX3_join_1 : List UInt8 := [162, 0, 29, 42, 180, 0, 94, 21, 5, 46, 29, 160, 0, 12, 42, 180, 0, 94, 21, 5, 21, 4, 79]
abbrev dktX3_join_1 : List UInt8 := dkwX3_join_1 ++ dktX3_join_2
def dkwX3_join_0 : List UInt8 := [42, 180, 0, 94, 28, 46, 62, 42, 180, 0, 94, 27, 46, 54, 4, 3, 54, 5, 21, 5, 16, 30]
abbrev dktX3_join_0 : List UInt8 := dkwX3_join_0 ++ dktX3_join_1
theorem dksX3_join_0 : cX3_join.data.toList.drop 0 = dktX3_join_0 := by decide +kernel
theorem dksX3_join_1 : cX3_join.data.toList.drop 22 = dktX3_join_1 := dk_seg dksX3_join_0 22 rfl rfl
theorem dksX3_join_2 : cX3_join.data.toList.drop 45 = dktX3_join_2 := dk_seg dksX3_join_1 23 rfl rfl
theorem dX3_join_0 : decode cX3_join 0 = .ok (.aload_n 0, 1) := dk_42 (dk_at dksX3_join_0 0 rfl rfl)
theorem dX3_join_1 : decode cX3_join 1 = .ok (.getfield 94, 3) := dk_180 0 94 (dk_at dksX3_join_0 1 rfl rfl)
theorem dX3_join_4 : decode cX3_join 4 = .ok (.iload_n 2, 1) := dk_28 (dk_at dksX3_join_0 4 rfl rfl)
theorem dX3_join_5 : decode cX3_join 5 = .ok (.iaload, 1) := dk_46 (dk_at dksX3_join_0 5 rfl rfl)
theorem dX3_join_6 : decode cX3_join 6 = .ok (.istore_n 3, 1) := dk_62 (dk_at dksX3_join_0 6 rfl rfl)
theorem dX3_join_7 : decode cX3_join 7 = .ok (.aload_n 0, 1) := dk_42 (dk_at dksX3_join_0 7 rfl rfl)
theorem dX3_join_8 : decode cX3_join 8 = .ok (.getfield 94, 3) := dk_180 0 94 (dk_at dksX3_join_0 8 rfl rfl)
theorem dX3_join_11 : decode cX3_join 11 = .ok (.iload_n 1, 1) := dk_27 (dk_at dksX3_join_0 11 rfl rfl)
theorem dX3_join_12 : decode cX3_join 12 = .ok (.iaload, 1) := dk_46 (dk_at dksX3_join_0 12 rfl rfl)
theorem dX3_join_13 : decode cX3_join 13 = .ok (.istore 4, 2) := dk_54 4 (dk_at dksX3_join_0 13 rfl rfl)
theorem dX3_join_15 : decode cX3_join 15 = .ok (.iconst 0, 1) := dk_3 (dk_at dksX3_join_0 15 rfl rfl)
theorem dX3_join_16 : decode cX3_join 16 = .ok (.istore 5, 2) := dk_54 5 (dk_at dksX3_join_0 16 rfl rfl)
theorem dX3_join_18 : decode cX3_join 18 = .ok (.iload 5, 2) := dk_21 5 (dk_at dksX3_join_0 18 rfl rfl)
theorem dX3_join_20 : decode cX3_join 20 = .ok (.bipush 30, 2) := dk_16 30 (dk_at dksX3_join_0 20 rfl rfl)
theorem dX3_join_22 : decode cX3_join 22 = .ok (.if_icmp .ge 29, 3) := dk_162 0 29 (dk_at dksX3_join_1 0 rfl rfl)
theorem dX3_join_25 : decode cX3_join 25 = .ok (.aload_n 0, 1) := dk_42 (dk_at dksX3_join_1 3 rfl rfl)
theorem dX3_join_26 : decode cX3_join 26 = .ok (.getfield 94, 3) := dk_180 0 94 (dk_at dksX3_join_1 4 rfl rfl)
theorem dX3_join_29 : decode cX3_join 29 = .ok (.iload 5, 2) := dk_21 5 (dk_at dksX3_join_1 7 rfl rfl)
theorem dX3_join_31 : decode cX3_join 31 = .ok (.iaload, 1) := dk_46 (dk_at dksX3_join_1 9 rfl rfl)
theorem dX3_join_32 : decode cX3_join 32 = .ok (.iload_n 3, 1) := dk_29 (dk_at dksX3_join_1 10 rfl rfl)
theorem dX3_join_33 : decode cX3_join 33 = .ok (.if_icmp .ne 12, 3) := dk_160 0 12 (dk_at dksX3_join_1 11 rfl rfl)
theorem dX3_join_36 : decode cX3_join 36 = .ok (.aload_n 0, 1) := dk_42 (dk_at dksX3_join_1 14 rfl rfl)
theorem dX3_join_37 : decode cX3_join 37 = .ok (.getfield 94, 3) := dk_180 0 94 (dk_at dksX3_join_1 15 rfl rfl)
theorem dX3_join_40 : decode cX3_join 40 = .ok (.iload 5, 2) := dk_21 5 (dk_at dksX3_join_1 18 rfl rfl)
theorem dX3_join_42 : decode cX3_join 42 = .ok (.iload 4, 2) := dk_21 4 (dk_at dksX3_join_1 20 rfl rfl)
theorem dX3_join_44 : decode cX3_join 44 = .ok (.iastore, 1) := dk_79 (dk_at dksX3_join_1 22 rfl rfl)
theorem dX3_join_45 : decode cX3_join 45 = .ok (.iinc 5 1, 3) := dk_132 5 1 (dk_at dksX3_join_2 0 rfl rfl)
theorem dX3_join_48 : decode cX3_join 48 = .ok (.goto (-30), 3) := dk_167 255 226 (dk_at dksX3_join_2 3 rfl rfl)
theorem dX3_join_51 : decode cX3_join 51 = .ok (.return_, 1) := dk_177 (dk_at dksX3_join_2 6 rfl rfl)
abbrev cX3_count : ByteArray := prog_6_method_48_code
def yX3_count : MethodName := ⟨RX3, "count", "(I)I"⟩
def dkwX3_count_4 : List UInt8 := [182, 0, 136, 172]
abbrev dktX3_count_4 : List UInt8 := dkwX3_count_4 ++ []
def dkwX3_count_3 : List UInt8 := [42, 180, 0, 15, 172, 42, 180, 0, 19, 172, 42, 180, 0, 107, 172, 28, 172, 42, 180, 0, 149, 172, 42, 4]
abbrev dktX3_count_3 : List UInt8 := dkwX3_count_3 ++ dktX3_count_4
def dkwX3_count_2 : List UInt8 := [170, 0, 0, 0, 0, 0, 57, 0, 0, 0, 0, 0, 0, 0, 4, 0, 0, 0, 35, 0, 0, 0, 40, 0, 0, 0, 45, 0, 0, 0, 50, 0, 0, 0, 52]
abbrev dktX3_count_2 : List UInt8 := dkwX3_count_2 ++ dktX3_count_3
def dkwX3_count_1 : List UInt8 := [153, 0, 7, 4, 167, 0, 4, 3, 96, 61, 132, 3, 1, 167, 255, 228, 27]
abbrev dktX3_count_1 : List UInt8 := dkwX3_count_1 ++ dktX3_count_2
def dkwX3_count_0 : List UInt8 := [42, 3, 181, 0, 104, 3, 61, 3, 62, 29, 42, 180, 0, 116, 162, 0, 26, 28, 42, 180, 0, 50, 29, 51]
abbrev dktX3_count_0 : List UInt8 := dkwX3_count_0 ++ dktX3_count_1
theorem dksX3_count_0 : cX3_count.data.toList.drop 0 = dktX3_count_0 := by decide +kernel
theorem dksX3_count_1 : cX3_count.data.toList.drop 24 = dktX3_count_1 := dk_seg dksX3_count_0 24 rfl rfl
theorem dksX3_count_2 : cX3_count.data.toList.drop 41 = dktX3_count_2 := dk_seg dksX3_count_1 17 rfl rfl
theorem dksX3_count_3 : cX3_count.data.toList.drop 76 = dktX3_count_3 := dk_seg dksX3_count_2 35 rfl rfl
theorem dksX3_count_4 : cX3_count.data.toList.drop 100 = dktX3_count_4 := dk_seg dksX3_count_3 24 rfl rfl
theorem dX3_count_0 : decode cX3_count 0 = .ok (.aload_n 0, 1) := dk_42 (dk_at dksX3_count_0 0 rfl rfl)
theorem dX3_count_1 : decode cX3_count 1 = .ok (.iconst 0, 1) := dk_3 (dk_at dksX3_count_0 1 rfl rfl)
theorem dX3_count_2 : decode cX3_count 2 = .ok (.putfield 104, 3) := dk_181 0 104 (dk_at dksX3_count_0 2 rfl rfl)
theorem dX3_count_5 : decode cX3_count 5 = .ok (.iconst 0, 1) := dk_3 (dk_at dksX3_count_0 5 rfl rfl)
theorem dX3_count_6 : decode cX3_count 6 = .ok (.istore_n 2, 1) := dk_61 (dk_at dksX3_count_0 6 rfl rfl)
theorem dX3_count_7 : decode cX3_count 7 = .ok (.iconst 0, 1) := dk_3 (dk_at dksX3_count_0 7 rfl rfl)
theorem dX3_count_8 : decode cX3_count 8 = .ok (.istore_n 3, 1) := dk_62 (dk_at dksX3_count_0 8 rfl rfl)
theorem dX3_count_9 : decode cX3_count 9 = .ok (.iload_n 3, 1) := dk_29 (dk_at dksX3_count_0 9 rfl rfl)
theorem dX3_count_10 : decode cX3_count 10 = .ok (.aload_n 0, 1) := dk_42 (dk_at dksX3_count_0 10 rfl rfl)
theorem dX3_count_11 : decode cX3_count 11 = .ok (.getfield 116, 3) := dk_180 0 116 (dk_at dksX3_count_0 11 rfl rfl)
theorem dX3_count_14 : decode cX3_count 14 = .ok (.if_icmp .ge 26, 3) := dk_162 0 26 (dk_at dksX3_count_0 14 rfl rfl)
theorem dX3_count_17 : decode cX3_count 17 = .ok (.iload_n 2, 1) := dk_28 (dk_at dksX3_count_0 17 rfl rfl)
theorem dX3_count_18 : decode cX3_count 18 = .ok (.aload_n 0, 1) := dk_42 (dk_at dksX3_count_0 18 rfl rfl)
theorem dX3_count_19 : decode cX3_count 19 = .ok (.getfield 50, 3) := dk_180 0 50 (dk_at dksX3_count_0 19 rfl rfl)
theorem dX3_count_22 : decode cX3_count 22 = .ok (.iload_n 3, 1) := dk_29 (dk_at dksX3_count_0 22 rfl rfl)
theorem dX3_count_23 : decode cX3_count 23 = .ok (.baload, 1) := dk_51 (dk_at dksX3_count_0 23 rfl rfl)
theorem dX3_count_24 : decode cX3_count 24 = .ok (.ifCond .eq 7, 3) := dk_153 0 7 (dk_at dksX3_count_1 0 rfl rfl)
theorem dX3_count_27 : decode cX3_count 27 = .ok (.iconst 1, 1) := dk_4 (dk_at dksX3_count_1 3 rfl rfl)
theorem dX3_count_28 : decode cX3_count 28 = .ok (.goto 4, 3) := dk_167 0 4 (dk_at dksX3_count_1 4 rfl rfl)
theorem dX3_count_31 : decode cX3_count 31 = .ok (.iconst 0, 1) := dk_3 (dk_at dksX3_count_1 7 rfl rfl)
theorem dX3_count_32 : decode cX3_count 32 = .ok (.iadd, 1) := dk_96 (dk_at dksX3_count_1 8 rfl rfl)
theorem dX3_count_33 : decode cX3_count 33 = .ok (.istore_n 2, 1) := dk_61 (dk_at dksX3_count_1 9 rfl rfl)
theorem dX3_count_34 : decode cX3_count 34 = .ok (.iinc 3 1, 3) := dk_132 3 1 (dk_at dksX3_count_1 10 rfl rfl)
theorem dX3_count_37 : decode cX3_count 37 = .ok (.goto (-28), 3) := dk_167 255 228 (dk_at dksX3_count_1 13 rfl rfl)
theorem dX3_count_40 : decode cX3_count 40 = .ok (.iload_n 1, 1) := dk_27 (dk_at dksX3_count_1 16 rfl rfl)
theorem dX3_count_41 : decode cX3_count 41 = .ok (.tableswitch 57 0 4 #[35, 40, 45, 50, 52], 35) := by decide +kernel
theorem dX3_count_76 : decode cX3_count 76 = .ok (.aload_n 0, 1) := dk_42 (dk_at dksX3_count_3 0 rfl rfl)
theorem dX3_count_77 : decode cX3_count 77 = .ok (.getfield 15, 3) := dk_180 0 15 (dk_at dksX3_count_3 1 rfl rfl)
theorem dX3_count_80 : decode cX3_count 80 = .ok (.ireturn, 1) := dk_172 (dk_at dksX3_count_3 4 rfl rfl)
theorem dX3_count_81 : decode cX3_count 81 = .ok (.aload_n 0, 1) := dk_42 (dk_at dksX3_count_3 5 rfl rfl)
theorem dX3_count_82 : decode cX3_count 82 = .ok (.getfield 19, 3) := dk_180 0 19 (dk_at dksX3_count_3 6 rfl rfl)
theorem dX3_count_85 : decode cX3_count 85 = .ok (.ireturn, 1) := dk_172 (dk_at dksX3_count_3 9 rfl rfl)
theorem dX3_count_86 : decode cX3_count 86 = .ok (.aload_n 0, 1) := dk_42 (dk_at dksX3_count_3 10 rfl rfl)
theorem dX3_count_87 : decode cX3_count 87 = .ok (.getfield 107, 3) := dk_180 0 107 (dk_at dksX3_count_3 11 rfl rfl)
theorem dX3_count_90 : decode cX3_count 90 = .ok (.ireturn, 1) := dk_172 (dk_at dksX3_count_3 14 rfl rfl)
theorem dX3_count_91 : decode cX3_count 91 = .ok (.iload_n 2, 1) := dk_28 (dk_at dksX3_count_3 15 rfl rfl)
theorem dX3_count_92 : decode cX3_count 92 = .ok (.ireturn, 1) := dk_172 (dk_at dksX3_count_3 16 rfl rfl)
theorem dX3_count_93 : decode cX3_count 93 = .ok (.aload_n 0, 1) := dk_42 (dk_at dksX3_count_3 17 rfl rfl)
theorem dX3_count_94 : decode cX3_count 94 = .ok (.getfield 149, 3) := dk_180 0 149 (dk_at dksX3_count_3 18 rfl rfl)
theorem dX3_count_97 : decode cX3_count 97 = .ok (.ireturn, 1) := dk_172 (dk_at dksX3_count_3 21 rfl rfl)
theorem dX3_count_98 : decode cX3_count 98 = .ok (.aload_n 0, 1) := dk_42 (dk_at dksX3_count_3 22 rfl rfl)
theorem dX3_count_99 : decode cX3_count 99 = .ok (.iconst 1, 1) := dk_4 (dk_at dksX3_count_3 23 rfl rfl)
theorem dX3_count_100 : decode cX3_count 100 = .ok (.invokevirtual 136, 3) := dk_182 0 136 (dk_at dksX3_count_4 0 rfl rfl)
theorem dX3_count_103 : decode cX3_count 103 = .ok (.ireturn, 1) := dk_172 (dk_at dksX3_count_4 3 rfl rfl)
theorem q69 : (Jvm.Cond.initialized "SewnBookModel") ∈ lw_all := lw_g (lw_at lw_m1 22 rfl) rfl
theorem q492 : (Jvm.Cond.selects "SewnBookModel" ({ cls := "java/lang/Object", name := "getClass", desc := "()Ljava/lang/Class;" } : Jvm.MethodName) ({ cls := "java/lang/Object", name := "getClass", desc := "()Ljava/lang/Class;" } : Jvm.MethodName)) ∈ lw_all := lw_g (lw_at lw_m2 205 rfl) rfl
theorem q978 : (Jvm.Cond.instantiable "SewnBookModel" (36 : Nat)) ∈ lw_all := lw_g (lw_at lw_m4 211 rfl) rfl
theorem q980 : (Jvm.Cond.instanceMethod ({ cls := "SewnBookModel", name := "<init>", desc := "()V" } : Jvm.MethodName)) ∈ lw_all := lw_g (lw_at lw_m4 213 rfl) rfl
theorem q981 : (Jvm.Cond.code ({ cls := "SewnBookModel", name := "<init>", desc := "()V" } : Jvm.MethodName) prog_6_method_1_code (1 : Nat) (Option.none : Option Jvm.ClassFile.FieldType)) ∈ lw_all := lw_g (lw_at lw_m4 214 rfl) rfl
theorem q982 : (Jvm.Cond.methodLink "SewnBookModel" (3 : Nat) ({ cls := "java/lang/Object", name := "<init>", desc := "()V" } : Jvm.MethodName)) ∈ lw_all := lw_g (lw_at lw_m4 215 rfl) rfl
theorem q983 : (Jvm.Cond.stringRef "SewnBookModel" (9 : Nat) "nudUDo+-") ∈ lw_tbl := lw_at lw_m4 216 rfl
theorem q984 : (Jvm.Cond.constant "SewnBookModel" (78 : Nat) (61440 : Int32)) ∈ lw_all := lw_g (lw_at lw_m4 217 rfl) rfl
theorem q985 : (Jvm.Cond.methodLink "SewnBookModel" (100 : Nat) ({ cls := "SewnBookModel", name := "begin", desc := "(II)V" } : Jvm.MethodName)) ∈ lw_all := lw_g (lw_at lw_m4 218 rfl) rfl
theorem q986 : (Jvm.Cond.privateMethod ({ cls := "SewnBookModel", name := "begin", desc := "(II)V" } : Jvm.MethodName)) ∈ lw_tbl := lw_at lw_m4 219 rfl
theorem q987 : (Jvm.Cond.instanceMethod ({ cls := "SewnBookModel", name := "begin", desc := "(II)V" } : Jvm.MethodName)) ∈ lw_all := lw_g (lw_at lw_m4 220 rfl) rfl
theorem q988 : (Jvm.Cond.code ({ cls := "SewnBookModel", name := "begin", desc := "(II)V" } : Jvm.MethodName) prog_6_method_5_code (4 : Nat) (Option.none : Option Jvm.ClassFile.FieldType)) ∈ lw_all := lw_g (lw_at lw_m4 221 rfl) rfl
theorem q989 : (Jvm.Cond.methodLink "SewnBookModel" (113 : Nat) ({ cls := "SewnBookModel", name := "lay", desc := "()V" } : Jvm.MethodName)) ∈ lw_all := lw_g (lw_at lw_m4 222 rfl) rfl
theorem q990 : (Jvm.Cond.privateMethod ({ cls := "SewnBookModel", name := "lay", desc := "()V" } : Jvm.MethodName)) ∈ lw_tbl := lw_at lw_m4 223 rfl
theorem q991 : (Jvm.Cond.instanceMethod ({ cls := "SewnBookModel", name := "lay", desc := "()V" } : Jvm.MethodName)) ∈ lw_all := lw_g (lw_at lw_m4 224 rfl) rfl
theorem q992 : (Jvm.Cond.code ({ cls := "SewnBookModel", name := "lay", desc := "()V" } : Jvm.MethodName) prog_6_method_7_code (3 : Nat) (Option.none : Option Jvm.ClassFile.FieldType)) ∈ lw_all := lw_g (lw_at lw_m4 225 rfl) rfl
theorem q993 : (Jvm.Cond.methodLink "SewnBookModel" (119 : Nat) ({ cls := "SewnBookModel", name := "part", desc := "(III)V" } : Jvm.MethodName)) ∈ lw_all := lw_g (lw_at lw_m4 226 rfl) rfl
theorem q994 : (Jvm.Cond.privateMethod ({ cls := "SewnBookModel", name := "part", desc := "(III)V" } : Jvm.MethodName)) ∈ lw_tbl := lw_at lw_m4 227 rfl
theorem q995 : (Jvm.Cond.instanceMethod ({ cls := "SewnBookModel", name := "part", desc := "(III)V" } : Jvm.MethodName)) ∈ lw_all := lw_g (lw_at lw_m4 228 rfl) rfl
theorem q996 : (Jvm.Cond.code ({ cls := "SewnBookModel", name := "part", desc := "(III)V" } : Jvm.MethodName) prog_6_method_6_code (4 : Nat) (Option.none : Option Jvm.ClassFile.FieldType)) ∈ lw_all := lw_g (lw_at lw_m4 229 rfl) rfl
theorem q997 : (Jvm.Cond.fieldLink "SewnBookModel" (11 : Nat) "SewnBookModel" "signs" "Ljava/lang/String;") ∈ lw_all := lw_g (lw_at lw_m4 230 rfl) rfl
theorem q998 : (Jvm.Cond.fieldLink "SewnBookModel" (104 : Nat) "SewnBookModel" "code" "I") ∈ lw_all := lw_g (lw_at lw_m4 231 rfl) rfl
theorem q999 : (Jvm.Cond.fieldLink "SewnBookModel" (15 : Nat) "SewnBookModel" "folds" "I") ∈ lw_all := lw_g (lw_at lw_m4 232 rfl) rfl
theorem q1000 : (Jvm.Cond.fieldLink "SewnBookModel" (19 : Nat) "SewnBookModel" "stations" "I") ∈ lw_all := lw_g (lw_at lw_m4 233 rfl) rfl
theorem q1001 : (Jvm.Cond.fieldLink "SewnBookModel" (22 : Nat) "SewnBookModel" "thread" "I") ∈ lw_all := lw_g (lw_at lw_m4 234 rfl) rfl
theorem q1002 : (Jvm.Cond.fieldLink "SewnBookModel" (149 : Nat) "SewnBookModel" "taped" "I") ∈ lw_all := lw_g (lw_at lw_m4 235 rfl) rfl
theorem q1003 : (Jvm.Cond.fieldLink "SewnBookModel" (25 : Nat) "SewnBookModel" "faultPlace" "I") ∈ lw_all := lw_g (lw_at lw_m4 236 rfl) rfl
theorem q1004 : (Jvm.Cond.fieldLink "SewnBookModel" (107 : Nat) "SewnBookModel" "plans" "I") ∈ lw_all := lw_g (lw_at lw_m4 237 rfl) rfl
theorem q1005 : (Jvm.Cond.fieldLink "SewnBookModel" (116 : Nat) "SewnBookModel" "partMany" "I") ∈ lw_all := lw_g (lw_at lw_m4 238 rfl) rfl
theorem q1006 : (Jvm.Cond.fieldLink "SewnBookModel" (110 : Nat) "SewnBookModel" "keptMany" "I") ∈ lw_all := lw_g (lw_at lw_m4 239 rfl) rfl
theorem q1007 : (Jvm.Cond.fieldLink "SewnBookModel" (28 : Nat) "SewnBookModel" "thick" "[I") ∈ lw_all := lw_g (lw_at lw_m5 0 rfl) rfl
theorem q1008 : (Jvm.Cond.fieldLink "SewnBookModel" (32 : Nat) "SewnBookModel" "height" "[I") ∈ lw_all := lw_g (lw_at lw_m5 1 rfl) rfl
theorem q1009 : (Jvm.Cond.fieldLink "SewnBookModel" (35 : Nat) "SewnBookModel" "kind" "[I") ∈ lw_all := lw_g (lw_at lw_m5 2 rfl) rfl
theorem q1010 : (Jvm.Cond.fieldLink "SewnBookModel" (38 : Nat) "SewnBookModel" "tape" "[I") ∈ lw_all := lw_g (lw_at lw_m5 3 rfl) rfl
theorem q1011 : (Jvm.Cond.fieldLink "SewnBookModel" (41 : Nat) "SewnBookModel" "partFold" "[I") ∈ lw_all := lw_g (lw_at lw_m5 4 rfl) rfl
theorem q1012 : (Jvm.Cond.fieldLink "SewnBookModel" (44 : Nat) "SewnBookModel" "partStation" "[I") ∈ lw_all := lw_g (lw_at lw_m5 5 rfl) rfl
theorem q1013 : (Jvm.Cond.fieldLink "SewnBookModel" (47 : Nat) "SewnBookModel" "partIs" "[I") ∈ lw_all := lw_g (lw_at lw_m5 6 rfl) rfl
theorem q1014 : (Jvm.Cond.fieldLink "SewnBookModel" (50 : Nat) "SewnBookModel" "isNeeded" "[Z") ∈ lw_all := lw_g (lw_at lw_m5 7 rfl) rfl
theorem q1015 : (Jvm.Cond.fieldLink "SewnBookModel" (54 : Nat) "SewnBookModel" "planMany" "[I") ∈ lw_all := lw_g (lw_at lw_m5 8 rfl) rfl
theorem q1016 : (Jvm.Cond.fieldLink "SewnBookModel" (57 : Nat) "SewnBookModel" "planBegin" "[I") ∈ lw_all := lw_g (lw_at lw_m5 9 rfl) rfl
theorem q1017 : (Jvm.Cond.fieldLink "SewnBookModel" (60 : Nat) "SewnBookModel" "planMove" "[I") ∈ lw_all := lw_g (lw_at lw_m5 10 rfl) rfl
theorem q1018 : (Jvm.Cond.fieldLink "SewnBookModel" (63 : Nat) "SewnBookModel" "kept" "[I") ∈ lw_all := lw_g (lw_at lw_m5 11 rfl) rfl
theorem q1019 : (Jvm.Cond.fieldLink "SewnBookModel" (66 : Nat) "SewnBookModel" "goes" "[I") ∈ lw_all := lw_g (lw_at lw_m5 12 rfl) rfl
theorem q1020 : (Jvm.Cond.fieldLink "SewnBookModel" (69 : Nat) "SewnBookModel" "hole" "[I") ∈ lw_all := lw_g (lw_at lw_m5 13 rfl) rfl
theorem q1021 : (Jvm.Cond.fieldLink "SewnBookModel" (72 : Nat) "SewnBookModel" "tie" "[I") ∈ lw_all := lw_g (lw_at lw_m5 14 rfl) rfl
theorem q1022 : (Jvm.Cond.fieldLink "SewnBookModel" (169 : Nat) "SewnBookModel" "length" "I") ∈ lw_all := lw_g (lw_at lw_m5 15 rfl) rfl
theorem q1023 : (Jvm.Cond.fieldLink "SewnBookModel" (172 : Nat) "SewnBookModel" "last" "I") ∈ lw_all := lw_g (lw_at lw_m5 16 rfl) rfl
theorem q1024 : (Jvm.Cond.fieldLink "SewnBookModel" (75 : Nat) "SewnBookModel" "isOff" "[Z") ∈ lw_all := lw_g (lw_at lw_m5 17 rfl) rfl
theorem q1025 : (Jvm.Cond.fieldLink "SewnBookModel" (79 : Nat) "SewnBookModel" "far" "[I") ∈ lw_all := lw_g (lw_at lw_m5 18 rfl) rfl
theorem q1026 : (Jvm.Cond.fieldLink "SewnBookModel" (82 : Nat) "SewnBookModel" "bitOf" "[I") ∈ lw_all := lw_g (lw_at lw_m5 19 rfl) rfl
theorem q1027 : (Jvm.Cond.fieldLink "SewnBookModel" (85 : Nat) "SewnBookModel" "leads" "[I") ∈ lw_all := lw_g (lw_at lw_m5 20 rfl) rfl
theorem q1028 : (Jvm.Cond.fieldLink "SewnBookModel" (88 : Nat) "SewnBookModel" "longs" "[I") ∈ lw_all := lw_g (lw_at lw_m5 21 rfl) rfl
theorem q1029 : (Jvm.Cond.fieldLink "SewnBookModel" (91 : Nat) "SewnBookModel" "covers" "[I") ∈ lw_all := lw_g (lw_at lw_m5 22 rfl) rfl
theorem q1030 : (Jvm.Cond.fieldLink "SewnBookModel" (203 : Nat) "SewnBookModel" "first" "I") ∈ lw_all := lw_g (lw_at lw_m5 23 rfl) rfl
theorem q1031 : (Jvm.Cond.fieldLink "SewnBookModel" (94 : Nat) "SewnBookModel" "group" "[I") ∈ lw_all := lw_g (lw_at lw_m5 24 rfl) rfl
theorem q1032 : (Jvm.Cond.fieldLink "SewnBookModel" (97 : Nat) "SewnBookModel" "ends" "[I") ∈ lw_all := lw_g (lw_at lw_m5 25 rfl) rfl
theorem q1033 : (Jvm.Cond.laysFinal "SewnBookModel" "SewnBookModel" "signs" "Ljava/lang/String;") ∈ lw_all := lw_g (lw_at lw_m5 26 rfl) rfl
theorem q1034 : (Jvm.Cond.soleField "SewnBookModel" "signs") ∈ lw_all := lw_g (lw_at lw_m5 27 rfl) rfl
theorem q1035 : (Jvm.Cond.lays "SewnBookModel" "SewnBookModel" "code" "I") ∈ lw_all := lw_g (lw_at lw_m5 28 rfl) rfl
theorem q1036 : (Jvm.Cond.soleField "SewnBookModel" "code") ∈ lw_all := lw_g (lw_at lw_m5 29 rfl) rfl
theorem q1037 : (Jvm.Cond.lays "SewnBookModel" "SewnBookModel" "folds" "I") ∈ lw_all := lw_g (lw_at lw_m5 30 rfl) rfl
theorem q1038 : (Jvm.Cond.soleField "SewnBookModel" "folds") ∈ lw_all := lw_g (lw_at lw_m5 31 rfl) rfl
theorem q1039 : (Jvm.Cond.lays "SewnBookModel" "SewnBookModel" "stations" "I") ∈ lw_all := lw_g (lw_at lw_m5 32 rfl) rfl
theorem q1040 : (Jvm.Cond.soleField "SewnBookModel" "stations") ∈ lw_all := lw_g (lw_at lw_m5 33 rfl) rfl
theorem q1041 : (Jvm.Cond.lays "SewnBookModel" "SewnBookModel" "thread" "I") ∈ lw_all := lw_g (lw_at lw_m5 34 rfl) rfl
theorem q1042 : (Jvm.Cond.soleField "SewnBookModel" "thread") ∈ lw_all := lw_g (lw_at lw_m5 35 rfl) rfl
theorem q1043 : (Jvm.Cond.lays "SewnBookModel" "SewnBookModel" "taped" "I") ∈ lw_all := lw_g (lw_at lw_m5 36 rfl) rfl
theorem q1044 : (Jvm.Cond.soleField "SewnBookModel" "taped") ∈ lw_all := lw_g (lw_at lw_m5 37 rfl) rfl
theorem q1045 : (Jvm.Cond.lays "SewnBookModel" "SewnBookModel" "faultPlace" "I") ∈ lw_all := lw_g (lw_at lw_m5 38 rfl) rfl
theorem q1046 : (Jvm.Cond.soleField "SewnBookModel" "faultPlace") ∈ lw_all := lw_g (lw_at lw_m5 39 rfl) rfl
theorem q1047 : (Jvm.Cond.lays "SewnBookModel" "SewnBookModel" "plans" "I") ∈ lw_all := lw_g (lw_at lw_m5 40 rfl) rfl
theorem q1048 : (Jvm.Cond.soleField "SewnBookModel" "plans") ∈ lw_all := lw_g (lw_at lw_m5 41 rfl) rfl
theorem q1049 : (Jvm.Cond.lays "SewnBookModel" "SewnBookModel" "partMany" "I") ∈ lw_all := lw_g (lw_at lw_m5 42 rfl) rfl
theorem q1050 : (Jvm.Cond.soleField "SewnBookModel" "partMany") ∈ lw_all := lw_g (lw_at lw_m5 43 rfl) rfl
theorem q1051 : (Jvm.Cond.lays "SewnBookModel" "SewnBookModel" "keptMany" "I") ∈ lw_all := lw_g (lw_at lw_m5 44 rfl) rfl
theorem q1052 : (Jvm.Cond.soleField "SewnBookModel" "keptMany") ∈ lw_all := lw_g (lw_at lw_m5 45 rfl) rfl
theorem q1053 : (Jvm.Cond.laysFinal "SewnBookModel" "SewnBookModel" "thick" "[I") ∈ lw_all := lw_g (lw_at lw_m5 46 rfl) rfl
theorem q1054 : (Jvm.Cond.soleField "SewnBookModel" "thick") ∈ lw_all := lw_g (lw_at lw_m5 47 rfl) rfl
theorem q1055 : (Jvm.Cond.laysFinal "SewnBookModel" "SewnBookModel" "height" "[I") ∈ lw_all := lw_g (lw_at lw_m5 48 rfl) rfl
theorem q1056 : (Jvm.Cond.soleField "SewnBookModel" "height") ∈ lw_all := lw_g (lw_at lw_m5 49 rfl) rfl
theorem q1057 : (Jvm.Cond.laysFinal "SewnBookModel" "SewnBookModel" "kind" "[I") ∈ lw_all := lw_g (lw_at lw_m5 50 rfl) rfl
theorem q1058 : (Jvm.Cond.soleField "SewnBookModel" "kind") ∈ lw_all := lw_g (lw_at lw_m5 51 rfl) rfl
theorem q1059 : (Jvm.Cond.laysFinal "SewnBookModel" "SewnBookModel" "tape" "[I") ∈ lw_all := lw_g (lw_at lw_m5 52 rfl) rfl
theorem q1060 : (Jvm.Cond.soleField "SewnBookModel" "tape") ∈ lw_all := lw_g (lw_at lw_m5 53 rfl) rfl
theorem q1061 : (Jvm.Cond.laysFinal "SewnBookModel" "SewnBookModel" "partFold" "[I") ∈ lw_all := lw_g (lw_at lw_m5 54 rfl) rfl
theorem q1062 : (Jvm.Cond.soleField "SewnBookModel" "partFold") ∈ lw_all := lw_g (lw_at lw_m5 55 rfl) rfl
theorem q1063 : (Jvm.Cond.laysFinal "SewnBookModel" "SewnBookModel" "partStation" "[I") ∈ lw_all := lw_g (lw_at lw_m5 56 rfl) rfl
theorem q1064 : (Jvm.Cond.soleField "SewnBookModel" "partStation") ∈ lw_all := lw_g (lw_at lw_m5 57 rfl) rfl
theorem q1065 : (Jvm.Cond.laysFinal "SewnBookModel" "SewnBookModel" "partIs" "[I") ∈ lw_all := lw_g (lw_at lw_m5 58 rfl) rfl
theorem q1066 : (Jvm.Cond.soleField "SewnBookModel" "partIs") ∈ lw_all := lw_g (lw_at lw_m5 59 rfl) rfl
theorem q1067 : (Jvm.Cond.laysFinal "SewnBookModel" "SewnBookModel" "isNeeded" "[Z") ∈ lw_all := lw_g (lw_at lw_m5 60 rfl) rfl
theorem q1068 : (Jvm.Cond.soleField "SewnBookModel" "isNeeded") ∈ lw_all := lw_g (lw_at lw_m5 61 rfl) rfl
theorem q1069 : (Jvm.Cond.laysFinal "SewnBookModel" "SewnBookModel" "planMany" "[I") ∈ lw_all := lw_g (lw_at lw_m5 62 rfl) rfl
theorem q1070 : (Jvm.Cond.soleField "SewnBookModel" "planMany") ∈ lw_all := lw_g (lw_at lw_m5 63 rfl) rfl
theorem q1071 : (Jvm.Cond.laysFinal "SewnBookModel" "SewnBookModel" "planBegin" "[I") ∈ lw_all := lw_g (lw_at lw_m5 64 rfl) rfl
theorem q1072 : (Jvm.Cond.soleField "SewnBookModel" "planBegin") ∈ lw_all := lw_g (lw_at lw_m5 65 rfl) rfl
theorem q1073 : (Jvm.Cond.laysFinal "SewnBookModel" "SewnBookModel" "planMove" "[I") ∈ lw_all := lw_g (lw_at lw_m5 66 rfl) rfl
theorem q1074 : (Jvm.Cond.soleField "SewnBookModel" "planMove") ∈ lw_all := lw_g (lw_at lw_m5 67 rfl) rfl
theorem q1075 : (Jvm.Cond.laysFinal "SewnBookModel" "SewnBookModel" "kept" "[I") ∈ lw_all := lw_g (lw_at lw_m5 68 rfl) rfl
theorem q1076 : (Jvm.Cond.soleField "SewnBookModel" "kept") ∈ lw_all := lw_g (lw_at lw_m5 69 rfl) rfl
theorem q1077 : (Jvm.Cond.laysFinal "SewnBookModel" "SewnBookModel" "goes" "[I") ∈ lw_all := lw_g (lw_at lw_m5 70 rfl) rfl
theorem q1078 : (Jvm.Cond.soleField "SewnBookModel" "goes") ∈ lw_all := lw_g (lw_at lw_m5 71 rfl) rfl
theorem q1079 : (Jvm.Cond.laysFinal "SewnBookModel" "SewnBookModel" "hole" "[I") ∈ lw_all := lw_g (lw_at lw_m5 72 rfl) rfl
theorem q1080 : (Jvm.Cond.soleField "SewnBookModel" "hole") ∈ lw_all := lw_g (lw_at lw_m5 73 rfl) rfl
theorem q1081 : (Jvm.Cond.laysFinal "SewnBookModel" "SewnBookModel" "tie" "[I") ∈ lw_all := lw_g (lw_at lw_m5 74 rfl) rfl
theorem q1082 : (Jvm.Cond.soleField "SewnBookModel" "tie") ∈ lw_all := lw_g (lw_at lw_m5 75 rfl) rfl
theorem q1083 : (Jvm.Cond.lays "SewnBookModel" "SewnBookModel" "length" "I") ∈ lw_all := lw_g (lw_at lw_m5 76 rfl) rfl
theorem q1084 : (Jvm.Cond.soleField "SewnBookModel" "length") ∈ lw_all := lw_g (lw_at lw_m5 77 rfl) rfl
theorem q1085 : (Jvm.Cond.lays "SewnBookModel" "SewnBookModel" "last" "I") ∈ lw_all := lw_g (lw_at lw_m5 78 rfl) rfl
theorem q1086 : (Jvm.Cond.soleField "SewnBookModel" "last") ∈ lw_all := lw_g (lw_at lw_m5 79 rfl) rfl
theorem q1087 : (Jvm.Cond.laysFinal "SewnBookModel" "SewnBookModel" "isOff" "[Z") ∈ lw_all := lw_g (lw_at lw_m5 80 rfl) rfl
theorem q1088 : (Jvm.Cond.soleField "SewnBookModel" "isOff") ∈ lw_all := lw_g (lw_at lw_m5 81 rfl) rfl
theorem q1089 : (Jvm.Cond.laysFinal "SewnBookModel" "SewnBookModel" "far" "[I") ∈ lw_all := lw_g (lw_at lw_m5 82 rfl) rfl
theorem q1090 : (Jvm.Cond.soleField "SewnBookModel" "far") ∈ lw_all := lw_g (lw_at lw_m5 83 rfl) rfl
theorem q1091 : (Jvm.Cond.laysFinal "SewnBookModel" "SewnBookModel" "bitOf" "[I") ∈ lw_all := lw_g (lw_at lw_m5 84 rfl) rfl
theorem q1092 : (Jvm.Cond.soleField "SewnBookModel" "bitOf") ∈ lw_all := lw_g (lw_at lw_m5 85 rfl) rfl
theorem q1093 : (Jvm.Cond.laysFinal "SewnBookModel" "SewnBookModel" "leads" "[I") ∈ lw_all := lw_g (lw_at lw_m5 86 rfl) rfl
theorem q1094 : (Jvm.Cond.soleField "SewnBookModel" "leads") ∈ lw_all := lw_g (lw_at lw_m5 87 rfl) rfl
theorem q1095 : (Jvm.Cond.laysFinal "SewnBookModel" "SewnBookModel" "longs" "[I") ∈ lw_all := lw_g (lw_at lw_m5 88 rfl) rfl
theorem q1096 : (Jvm.Cond.soleField "SewnBookModel" "longs") ∈ lw_all := lw_g (lw_at lw_m5 89 rfl) rfl
theorem q1097 : (Jvm.Cond.laysFinal "SewnBookModel" "SewnBookModel" "covers" "[I") ∈ lw_all := lw_g (lw_at lw_m5 90 rfl) rfl
theorem q1098 : (Jvm.Cond.soleField "SewnBookModel" "covers") ∈ lw_all := lw_g (lw_at lw_m5 91 rfl) rfl
theorem q1099 : (Jvm.Cond.lays "SewnBookModel" "SewnBookModel" "first" "I") ∈ lw_all := lw_g (lw_at lw_m5 92 rfl) rfl
theorem q1100 : (Jvm.Cond.soleField "SewnBookModel" "first") ∈ lw_all := lw_g (lw_at lw_m5 93 rfl) rfl
theorem q1101 : (Jvm.Cond.laysFinal "SewnBookModel" "SewnBookModel" "group" "[I") ∈ lw_all := lw_g (lw_at lw_m5 94 rfl) rfl
theorem q1102 : (Jvm.Cond.soleField "SewnBookModel" "group") ∈ lw_all := lw_g (lw_at lw_m5 95 rfl) rfl
theorem q1103 : (Jvm.Cond.laysFinal "SewnBookModel" "SewnBookModel" "ends" "[I") ∈ lw_all := lw_g (lw_at lw_m5 96 rfl) rfl
theorem q1104 : (Jvm.Cond.soleField "SewnBookModel" "ends") ∈ lw_all := lw_g (lw_at lw_m5 97 rfl) rfl
theorem q1105 : (Jvm.Cond.superclass "SewnBookModel" "java/lang/Object") ∈ lw_all := lw_g (lw_at lw_m5 98 rfl) rfl
theorem q1107 : (Jvm.Cond.instanceMethod ({ cls := "SewnBookModel", name := "thrown", desc := "()I" } : Jvm.MethodName)) ∈ lw_all := lw_g (lw_at lw_m5 100 rfl) rfl
theorem q1108 : (Jvm.Cond.selects "SewnBookModel" ({ cls := "SewnBookModel", name := "thrown", desc := "()I" } : Jvm.MethodName) ({ cls := "SewnBookModel", name := "thrown", desc := "()I" } : Jvm.MethodName)) ∈ lw_all := lw_g (lw_at lw_m5 101 rfl) rfl
theorem q1109 : (Jvm.Cond.code ({ cls := "SewnBookModel", name := "thrown", desc := "()I" } : Jvm.MethodName) prog_6_method_2_code (1 : Nat) (Option.some Jvm.ClassFile.FieldType.int)) ∈ lw_all := lw_g (lw_at lw_m5 102 rfl) rfl
theorem q1111 : (Jvm.Cond.instanceMethod ({ cls := "SewnBookModel", name := "book", desc := "(II)Z" } : Jvm.MethodName)) ∈ lw_all := lw_g (lw_at lw_m5 104 rfl) rfl
theorem q1112 : (Jvm.Cond.selects "SewnBookModel" ({ cls := "SewnBookModel", name := "book", desc := "(II)Z" } : Jvm.MethodName) ({ cls := "SewnBookModel", name := "book", desc := "(II)Z" } : Jvm.MethodName)) ∈ lw_all := lw_g (lw_at lw_m5 105 rfl) rfl
theorem q1113 : (Jvm.Cond.code ({ cls := "SewnBookModel", name := "book", desc := "(II)Z" } : Jvm.MethodName) prog_6_method_8_code (3 : Nat) (Option.some Jvm.ClassFile.FieldType.boolean)) ∈ lw_all := lw_g (lw_at lw_m5 106 rfl) rfl
theorem q1115 : (Jvm.Cond.instanceMethod ({ cls := "SewnBookModel", name := "thick", desc := "(II)Z" } : Jvm.MethodName)) ∈ lw_all := lw_g (lw_at lw_m5 108 rfl) rfl
theorem q1116 : (Jvm.Cond.selects "SewnBookModel" ({ cls := "SewnBookModel", name := "thick", desc := "(II)Z" } : Jvm.MethodName) ({ cls := "SewnBookModel", name := "thick", desc := "(II)Z" } : Jvm.MethodName)) ∈ lw_all := lw_g (lw_at lw_m5 109 rfl) rfl
theorem q1117 : (Jvm.Cond.code ({ cls := "SewnBookModel", name := "thick", desc := "(II)Z" } : Jvm.MethodName) prog_6_method_11_code (3 : Nat) (Option.some Jvm.ClassFile.FieldType.boolean)) ∈ lw_all := lw_g (lw_at lw_m5 110 rfl) rfl
theorem q1118 : (Jvm.Cond.methodLink "SewnBookModel" (123 : Nat) ({ cls := "SewnBookModel", name := "isFold", desc := "(I)Z" } : Jvm.MethodName)) ∈ lw_all := lw_g (lw_at lw_m5 111 rfl) rfl
theorem q1119 : (Jvm.Cond.privateMethod ({ cls := "SewnBookModel", name := "isFold", desc := "(I)Z" } : Jvm.MethodName)) ∈ lw_tbl := lw_at lw_m5 112 rfl
theorem q1120 : (Jvm.Cond.instanceMethod ({ cls := "SewnBookModel", name := "isFold", desc := "(I)Z" } : Jvm.MethodName)) ∈ lw_all := lw_g (lw_at lw_m5 113 rfl) rfl
theorem q1121 : (Jvm.Cond.code ({ cls := "SewnBookModel", name := "isFold", desc := "(I)Z" } : Jvm.MethodName) prog_6_method_9_code (2 : Nat) (Option.some Jvm.ClassFile.FieldType.boolean)) ∈ lw_all := lw_g (lw_at lw_m5 114 rfl) rfl
theorem q1122 : (Jvm.Cond.methodLink "SewnBookModel" (127 : Nat) ({ cls := "SewnBookModel", name := "refuse", desc := "(I)Z" } : Jvm.MethodName)) ∈ lw_all := lw_g (lw_at lw_m5 115 rfl) rfl
theorem q1123 : (Jvm.Cond.privateMethod ({ cls := "SewnBookModel", name := "refuse", desc := "(I)Z" } : Jvm.MethodName)) ∈ lw_tbl := lw_at lw_m5 116 rfl
theorem q1124 : (Jvm.Cond.instanceMethod ({ cls := "SewnBookModel", name := "refuse", desc := "(I)Z" } : Jvm.MethodName)) ∈ lw_all := lw_g (lw_at lw_m5 117 rfl) rfl
theorem q1125 : (Jvm.Cond.code ({ cls := "SewnBookModel", name := "refuse", desc := "(I)Z" } : Jvm.MethodName) prog_6_method_4_code (2 : Nat) (Option.some Jvm.ClassFile.FieldType.boolean)) ∈ lw_all := lw_g (lw_at lw_m5 118 rfl) rfl
theorem q1127 : (Jvm.Cond.instanceMethod ({ cls := "SewnBookModel", name := "thread", desc := "(I)Z" } : Jvm.MethodName)) ∈ lw_all := lw_g (lw_at lw_m5 120 rfl) rfl
theorem q1128 : (Jvm.Cond.selects "SewnBookModel" ({ cls := "SewnBookModel", name := "thread", desc := "(I)Z" } : Jvm.MethodName) ({ cls := "SewnBookModel", name := "thread", desc := "(I)Z" } : Jvm.MethodName)) ∈ lw_all := lw_g (lw_at lw_m5 121 rfl) rfl
theorem q1129 : (Jvm.Cond.code ({ cls := "SewnBookModel", name := "thread", desc := "(I)Z" } : Jvm.MethodName) prog_6_method_12_code (2 : Nat) (Option.some Jvm.ClassFile.FieldType.boolean)) ∈ lw_all := lw_g (lw_at lw_m5 122 rfl) rfl
theorem q1131 : (Jvm.Cond.instanceMethod ({ cls := "SewnBookModel", name := "heights", desc := "(II)Z" } : Jvm.MethodName)) ∈ lw_all := lw_g (lw_at lw_m5 124 rfl) rfl
theorem q1132 : (Jvm.Cond.selects "SewnBookModel" ({ cls := "SewnBookModel", name := "heights", desc := "(II)Z" } : Jvm.MethodName) ({ cls := "SewnBookModel", name := "heights", desc := "(II)Z" } : Jvm.MethodName)) ∈ lw_all := lw_g (lw_at lw_m5 125 rfl) rfl
theorem q1133 : (Jvm.Cond.code ({ cls := "SewnBookModel", name := "heights", desc := "(II)Z" } : Jvm.MethodName) prog_6_method_13_code (6 : Nat) (Option.some Jvm.ClassFile.FieldType.boolean)) ∈ lw_all := lw_g (lw_at lw_m5 126 rfl) rfl
theorem q1135 : (Jvm.Cond.instanceMethod ({ cls := "SewnBookModel", name := "kind", desc := "(II)Z" } : Jvm.MethodName)) ∈ lw_all := lw_g (lw_at lw_m5 128 rfl) rfl
theorem q1136 : (Jvm.Cond.selects "SewnBookModel" ({ cls := "SewnBookModel", name := "kind", desc := "(II)Z" } : Jvm.MethodName) ({ cls := "SewnBookModel", name := "kind", desc := "(II)Z" } : Jvm.MethodName)) ∈ lw_all := lw_g (lw_at lw_m5 129 rfl) rfl
theorem q1137 : (Jvm.Cond.code ({ cls := "SewnBookModel", name := "kind", desc := "(II)Z" } : Jvm.MethodName) prog_6_method_14_code (3 : Nat) (Option.some Jvm.ClassFile.FieldType.boolean)) ∈ lw_all := lw_g (lw_at lw_m5 130 rfl) rfl
theorem q1138 : (Jvm.Cond.methodLink "SewnBookModel" (130 : Nat) ({ cls := "SewnBookModel", name := "isStation", desc := "(I)Z" } : Jvm.MethodName)) ∈ lw_all := lw_g (lw_at lw_m5 131 rfl) rfl
theorem q1139 : (Jvm.Cond.privateMethod ({ cls := "SewnBookModel", name := "isStation", desc := "(I)Z" } : Jvm.MethodName)) ∈ lw_tbl := lw_at lw_m5 132 rfl
theorem q1140 : (Jvm.Cond.instanceMethod ({ cls := "SewnBookModel", name := "isStation", desc := "(I)Z" } : Jvm.MethodName)) ∈ lw_all := lw_g (lw_at lw_m5 133 rfl) rfl
theorem q1141 : (Jvm.Cond.code ({ cls := "SewnBookModel", name := "isStation", desc := "(I)Z" } : Jvm.MethodName) prog_6_method_10_code (2 : Nat) (Option.some Jvm.ClassFile.FieldType.boolean)) ∈ lw_all := lw_g (lw_at lw_m5 134 rfl) rfl
theorem q1143 : (Jvm.Cond.instanceMethod ({ cls := "SewnBookModel", name := "parts", desc := "()I" } : Jvm.MethodName)) ∈ lw_all := lw_g (lw_at lw_m5 136 rfl) rfl
theorem q1144 : (Jvm.Cond.selects "SewnBookModel" ({ cls := "SewnBookModel", name := "parts", desc := "()I" } : Jvm.MethodName) ({ cls := "SewnBookModel", name := "parts", desc := "()I" } : Jvm.MethodName)) ∈ lw_all := lw_g (lw_at lw_m5 137 rfl) rfl
theorem q1145 : (Jvm.Cond.code ({ cls := "SewnBookModel", name := "parts", desc := "()I" } : Jvm.MethodName) prog_6_method_15_code (1 : Nat) (Option.some Jvm.ClassFile.FieldType.int)) ∈ lw_all := lw_g (lw_at lw_m5 138 rfl) rfl
theorem q1147 : (Jvm.Cond.instanceMethod ({ cls := "SewnBookModel", name := "part", desc := "(II)I" } : Jvm.MethodName)) ∈ lw_all := lw_g (lw_at lw_m5 140 rfl) rfl
theorem q1148 : (Jvm.Cond.selects "SewnBookModel" ({ cls := "SewnBookModel", name := "part", desc := "(II)I" } : Jvm.MethodName) ({ cls := "SewnBookModel", name := "part", desc := "(II)I" } : Jvm.MethodName)) ∈ lw_all := lw_g (lw_at lw_m5 141 rfl) rfl
theorem q1149 : (Jvm.Cond.code ({ cls := "SewnBookModel", name := "part", desc := "(II)I" } : Jvm.MethodName) prog_6_method_17_code (3 : Nat) (Option.some Jvm.ClassFile.FieldType.int)) ∈ lw_all := lw_g (lw_at lw_m5 142 rfl) rfl
theorem q1150 : (Jvm.Cond.methodLink "SewnBookModel" (133 : Nat) ({ cls := "SewnBookModel", name := "isPart", desc := "(I)Z" } : Jvm.MethodName)) ∈ lw_all := lw_g (lw_at lw_m5 143 rfl) rfl
theorem q1151 : (Jvm.Cond.privateMethod ({ cls := "SewnBookModel", name := "isPart", desc := "(I)Z" } : Jvm.MethodName)) ∈ lw_tbl := lw_at lw_m5 144 rfl
theorem q1152 : (Jvm.Cond.instanceMethod ({ cls := "SewnBookModel", name := "isPart", desc := "(I)Z" } : Jvm.MethodName)) ∈ lw_all := lw_g (lw_at lw_m5 145 rfl) rfl
theorem q1153 : (Jvm.Cond.code ({ cls := "SewnBookModel", name := "isPart", desc := "(I)Z" } : Jvm.MethodName) prog_6_method_16_code (2 : Nat) (Option.some Jvm.ClassFile.FieldType.boolean)) ∈ lw_all := lw_g (lw_at lw_m5 146 rfl) rfl
theorem q1154 : (Jvm.Cond.methodLink "SewnBookModel" (136 : Nat) ({ cls := "SewnBookModel", name := "fail", desc := "(I)I" } : Jvm.MethodName)) ∈ lw_all := lw_g (lw_at lw_m5 147 rfl) rfl
theorem q1155 : (Jvm.Cond.privateMethod ({ cls := "SewnBookModel", name := "fail", desc := "(I)I" } : Jvm.MethodName)) ∈ lw_tbl := lw_at lw_m5 148 rfl
theorem q1156 : (Jvm.Cond.instanceMethod ({ cls := "SewnBookModel", name := "fail", desc := "(I)I" } : Jvm.MethodName)) ∈ lw_all := lw_g (lw_at lw_m5 149 rfl) rfl
theorem q1157 : (Jvm.Cond.code ({ cls := "SewnBookModel", name := "fail", desc := "(I)I" } : Jvm.MethodName) prog_6_method_3_code (2 : Nat) (Option.some Jvm.ClassFile.FieldType.int)) ∈ lw_all := lw_g (lw_at lw_m5 150 rfl) rfl
theorem q1159 : (Jvm.Cond.instanceMethod ({ cls := "SewnBookModel", name := "need", desc := "(IZ)Z" } : Jvm.MethodName)) ∈ lw_all := lw_g (lw_at lw_m5 152 rfl) rfl
theorem q1160 : (Jvm.Cond.selects "SewnBookModel" ({ cls := "SewnBookModel", name := "need", desc := "(IZ)Z" } : Jvm.MethodName) ({ cls := "SewnBookModel", name := "need", desc := "(IZ)Z" } : Jvm.MethodName)) ∈ lw_all := lw_g (lw_at lw_m5 153 rfl) rfl
theorem q1161 : (Jvm.Cond.code ({ cls := "SewnBookModel", name := "need", desc := "(IZ)Z" } : Jvm.MethodName) prog_6_method_18_code (4 : Nat) (Option.some Jvm.ClassFile.FieldType.boolean)) ∈ lw_all := lw_g (lw_at lw_m5 154 rfl) rfl
theorem q1163 : (Jvm.Cond.instanceMethod ({ cls := "SewnBookModel", name := "feed", desc := "(IIIII)I" } : Jvm.MethodName)) ∈ lw_all := lw_g (lw_at lw_m5 156 rfl) rfl
theorem q1164 : (Jvm.Cond.selects "SewnBookModel" ({ cls := "SewnBookModel", name := "feed", desc := "(IIIII)I" } : Jvm.MethodName) ({ cls := "SewnBookModel", name := "feed", desc := "(IIIII)I" } : Jvm.MethodName)) ∈ lw_all := lw_g (lw_at lw_m5 157 rfl) rfl
theorem q1165 : (Jvm.Cond.code ({ cls := "SewnBookModel", name := "feed", desc := "(IIIII)I" } : Jvm.MethodName) prog_6_method_26_code (8 : Nat) (Option.some Jvm.ClassFile.FieldType.int)) ∈ lw_all := lw_g (lw_at lw_m5 158 rfl) rfl
theorem q1167 : (Jvm.Cond.instanceMethod ({ cls := "SewnBookModel", name := "plan", desc := "(III)I" } : Jvm.MethodName)) ∈ lw_all := lw_g (lw_at lw_m5 160 rfl) rfl
theorem q1168 : (Jvm.Cond.selects "SewnBookModel" ({ cls := "SewnBookModel", name := "plan", desc := "(III)I" } : Jvm.MethodName) ({ cls := "SewnBookModel", name := "plan", desc := "(III)I" } : Jvm.MethodName)) ∈ lw_all := lw_g (lw_at lw_m5 161 rfl) rfl
theorem q1169 : (Jvm.Cond.code ({ cls := "SewnBookModel", name := "plan", desc := "(III)I" } : Jvm.MethodName) prog_6_method_28_code (9 : Nat) (Option.some Jvm.ClassFile.FieldType.int)) ∈ lw_all := lw_g (lw_at lw_m5 162 rfl) rfl
theorem q1170 : (Jvm.Cond.methodLink "SewnBookModel" (158 : Nat) ({ cls := "SewnBookModel", name := "place", desc := "(III)I" } : Jvm.MethodName)) ∈ lw_all := lw_g (lw_at lw_m5 163 rfl) rfl
theorem q1171 : (Jvm.Cond.static ({ cls := "SewnBookModel", name := "place", desc := "(III)I" } : Jvm.MethodName)) ∈ lw_all := lw_g (lw_at lw_m5 164 rfl) rfl
theorem q1172 : (Jvm.Cond.code ({ cls := "SewnBookModel", name := "place", desc := "(III)I" } : Jvm.MethodName) prog_6_method_19_code (3 : Nat) (Option.some Jvm.ClassFile.FieldType.int)) ∈ lw_all := lw_g (lw_at lw_m5 165 rfl) rfl
theorem q1173 : (Jvm.Cond.methodLink "SewnBookModel" (162 : Nat) ({ cls := "SewnBookModel", name := "signOf", desc := "(I)I" } : Jvm.MethodName)) ∈ lw_all := lw_g (lw_at lw_m5 166 rfl) rfl
theorem q1174 : (Jvm.Cond.privateMethod ({ cls := "SewnBookModel", name := "signOf", desc := "(I)I" } : Jvm.MethodName)) ∈ lw_tbl := lw_at lw_m5 167 rfl
theorem q1175 : (Jvm.Cond.instanceMethod ({ cls := "SewnBookModel", name := "signOf", desc := "(I)I" } : Jvm.MethodName)) ∈ lw_all := lw_g (lw_at lw_m5 168 rfl) rfl
theorem q1176 : (Jvm.Cond.code ({ cls := "SewnBookModel", name := "signOf", desc := "(I)I" } : Jvm.MethodName) prog_6_method_27_code (3 : Nat) (Option.some Jvm.ClassFile.FieldType.int)) ∈ lw_all := lw_g (lw_at lw_m5 169 rfl) rfl
theorem q1177 : (Jvm.Cond.methodLink "SewnBookModel" (152 : Nat) ({ cls := "java/lang/String", name := "charAt", desc := "(I)C" } : Jvm.MethodName)) ∈ lw_all := lw_g (lw_at lw_m5 170 rfl) rfl
theorem q1195 : (Jvm.Cond.methodLink "SewnBookModel" (165 : Nat) ({ cls := "SewnBookModel", name := "moved", desc := "(II)I" } : Jvm.MethodName)) ∈ lw_all := lw_g (lw_at lw_m5 188 rfl) rfl
theorem q1196 : (Jvm.Cond.privateMethod ({ cls := "SewnBookModel", name := "moved", desc := "(II)I" } : Jvm.MethodName)) ∈ lw_tbl := lw_at lw_m5 189 rfl
theorem q1197 : (Jvm.Cond.instanceMethod ({ cls := "SewnBookModel", name := "moved", desc := "(II)I" } : Jvm.MethodName)) ∈ lw_all := lw_g (lw_at lw_m5 190 rfl) rfl
theorem q1198 : (Jvm.Cond.code ({ cls := "SewnBookModel", name := "moved", desc := "(II)I" } : Jvm.MethodName) prog_6_method_23_code (6 : Nat) (Option.some Jvm.ClassFile.FieldType.int)) ∈ lw_all := lw_g (lw_at lw_m5 191 rfl) rfl
theorem q1199 : (Jvm.Cond.methodLink "SewnBookModel" (140 : Nat) ({ cls := "SewnBookModel", name := "stationOf", desc := "(I)I" } : Jvm.MethodName)) ∈ lw_all := lw_g (lw_at lw_m5 192 rfl) rfl
theorem q1200 : (Jvm.Cond.static ({ cls := "SewnBookModel", name := "stationOf", desc := "(I)I" } : Jvm.MethodName)) ∈ lw_all := lw_g (lw_at lw_m5 193 rfl) rfl
theorem q1201 : (Jvm.Cond.code ({ cls := "SewnBookModel", name := "stationOf", desc := "(I)I" } : Jvm.MethodName) prog_6_method_21_code (1 : Nat) (Option.some Jvm.ClassFile.FieldType.int)) ∈ lw_all := lw_g (lw_at lw_m5 194 rfl) rfl
theorem q1202 : (Jvm.Cond.methodLink "SewnBookModel" (143 : Nat) ({ cls := "SewnBookModel", name := "foldOf", desc := "(I)I" } : Jvm.MethodName)) ∈ lw_all := lw_g (lw_at lw_m5 195 rfl) rfl
theorem q1203 : (Jvm.Cond.static ({ cls := "SewnBookModel", name := "foldOf", desc := "(I)I" } : Jvm.MethodName)) ∈ lw_all := lw_g (lw_at lw_m5 196 rfl) rfl
theorem q1204 : (Jvm.Cond.code ({ cls := "SewnBookModel", name := "foldOf", desc := "(I)I" } : Jvm.MethodName) prog_6_method_22_code (1 : Nat) (Option.some Jvm.ClassFile.FieldType.int)) ∈ lw_all := lw_g (lw_at lw_m5 197 rfl) rfl
theorem q1205 : (Jvm.Cond.methodLink "SewnBookModel" (146 : Nat) ({ cls := "SewnBookModel", name := "sideOf", desc := "(I)I" } : Jvm.MethodName)) ∈ lw_all := lw_g (lw_at lw_m5 198 rfl) rfl
theorem q1206 : (Jvm.Cond.static ({ cls := "SewnBookModel", name := "sideOf", desc := "(I)I" } : Jvm.MethodName)) ∈ lw_all := lw_g (lw_at lw_m5 199 rfl) rfl
theorem q1207 : (Jvm.Cond.code ({ cls := "SewnBookModel", name := "sideOf", desc := "(I)I" } : Jvm.MethodName) prog_6_method_20_code (1 : Nat) (Option.some Jvm.ClassFile.FieldType.int)) ∈ lw_all := lw_g (lw_at lw_m5 200 rfl) rfl
theorem q1209 : (Jvm.Cond.instanceMethod ({ cls := "SewnBookModel", name := "fault", desc := "()I" } : Jvm.MethodName)) ∈ lw_all := lw_g (lw_at lw_m5 202 rfl) rfl
theorem q1210 : (Jvm.Cond.selects "SewnBookModel" ({ cls := "SewnBookModel", name := "fault", desc := "()I" } : Jvm.MethodName) ({ cls := "SewnBookModel", name := "fault", desc := "()I" } : Jvm.MethodName)) ∈ lw_all := lw_g (lw_at lw_m5 203 rfl) rfl
theorem q1211 : (Jvm.Cond.code ({ cls := "SewnBookModel", name := "fault", desc := "()I" } : Jvm.MethodName) prog_6_method_29_code (1 : Nat) (Option.some Jvm.ClassFile.FieldType.int)) ∈ lw_all := lw_g (lw_at lw_m5 204 rfl) rfl
theorem q1213 : (Jvm.Cond.instanceMethod ({ cls := "SewnBookModel", name := "about", desc := "(II)I" } : Jvm.MethodName)) ∈ lw_all := lw_g (lw_at lw_m5 206 rfl) rfl
theorem q1214 : (Jvm.Cond.selects "SewnBookModel" ({ cls := "SewnBookModel", name := "about", desc := "(II)I" } : Jvm.MethodName) ({ cls := "SewnBookModel", name := "about", desc := "(II)I" } : Jvm.MethodName)) ∈ lw_all := lw_g (lw_at lw_m5 207 rfl) rfl
theorem q1215 : (Jvm.Cond.code ({ cls := "SewnBookModel", name := "about", desc := "(II)I" } : Jvm.MethodName) prog_6_method_34_code (6 : Nat) (Option.some Jvm.ClassFile.FieldType.int)) ∈ lw_all := lw_g (lw_at lw_m5 208 rfl) rfl
theorem q1216 : (Jvm.Cond.methodLink "SewnBookModel" (181 : Nat) ({ cls := "SewnBookModel", name := "isPlan", desc := "(I)Z" } : Jvm.MethodName)) ∈ lw_all := lw_g (lw_at lw_m5 209 rfl) rfl
theorem q1217 : (Jvm.Cond.privateMethod ({ cls := "SewnBookModel", name := "isPlan", desc := "(I)Z" } : Jvm.MethodName)) ∈ lw_tbl := lw_at lw_m5 210 rfl
theorem q1218 : (Jvm.Cond.instanceMethod ({ cls := "SewnBookModel", name := "isPlan", desc := "(I)Z" } : Jvm.MethodName)) ∈ lw_all := lw_g (lw_at lw_m5 211 rfl) rfl
theorem q1219 : (Jvm.Cond.code ({ cls := "SewnBookModel", name := "isPlan", desc := "(I)Z" } : Jvm.MethodName) prog_6_method_30_code (2 : Nat) (Option.some Jvm.ClassFile.FieldType.boolean)) ∈ lw_all := lw_g (lw_at lw_m5 212 rfl) rfl
theorem q1220 : (Jvm.Cond.methodLink "SewnBookModel" (184 : Nat) ({ cls := "SewnBookModel", name := "follow", desc := "(I)V" } : Jvm.MethodName)) ∈ lw_all := lw_g (lw_at lw_m5 213 rfl) rfl
theorem q1221 : (Jvm.Cond.privateMethod ({ cls := "SewnBookModel", name := "follow", desc := "(I)V" } : Jvm.MethodName)) ∈ lw_tbl := lw_at lw_m5 214 rfl
theorem q1222 : (Jvm.Cond.instanceMethod ({ cls := "SewnBookModel", name := "follow", desc := "(I)V" } : Jvm.MethodName)) ∈ lw_all := lw_g (lw_at lw_m5 215 rfl) rfl
theorem q1223 : (Jvm.Cond.code ({ cls := "SewnBookModel", name := "follow", desc := "(I)V" } : Jvm.MethodName) prog_6_method_31_code (5 : Nat) (Option.none : Option Jvm.ClassFile.FieldType)) ∈ lw_all := lw_g (lw_at lw_m5 216 rfl) rfl
theorem q1224 : (Jvm.Cond.methodLink "SewnBookModel" (175 : Nat) ({ cls := "SewnBookModel", name := "alongOf", desc := "(II)I" } : Jvm.MethodName)) ∈ lw_all := lw_g (lw_at lw_m5 217 rfl) rfl
theorem q1225 : (Jvm.Cond.privateMethod ({ cls := "SewnBookModel", name := "alongOf", desc := "(II)I" } : Jvm.MethodName)) ∈ lw_tbl := lw_at lw_m5 218 rfl
theorem q1226 : (Jvm.Cond.instanceMethod ({ cls := "SewnBookModel", name := "alongOf", desc := "(II)I" } : Jvm.MethodName)) ∈ lw_all := lw_g (lw_at lw_m5 219 rfl) rfl
theorem q1227 : (Jvm.Cond.code ({ cls := "SewnBookModel", name := "alongOf", desc := "(II)I" } : Jvm.MethodName) prog_6_method_25_code (6 : Nat) (Option.some Jvm.ClassFile.FieldType.int)) ∈ lw_all := lw_g (lw_at lw_m5 220 rfl) rfl
theorem q1228 : (Jvm.Cond.methodLink "SewnBookModel" (178 : Nat) ({ cls := "SewnBookModel", name := "longOf", desc := "(II)I" } : Jvm.MethodName)) ∈ lw_all := lw_g (lw_at lw_m5 221 rfl) rfl
theorem q1229 : (Jvm.Cond.privateMethod ({ cls := "SewnBookModel", name := "longOf", desc := "(II)I" } : Jvm.MethodName)) ∈ lw_tbl := lw_at lw_m5 222 rfl
theorem q1230 : (Jvm.Cond.instanceMethod ({ cls := "SewnBookModel", name := "longOf", desc := "(II)I" } : Jvm.MethodName)) ∈ lw_all := lw_g (lw_at lw_m5 223 rfl) rfl
theorem q1231 : (Jvm.Cond.code ({ cls := "SewnBookModel", name := "longOf", desc := "(II)I" } : Jvm.MethodName) prog_6_method_24_code (5 : Nat) (Option.some Jvm.ClassFile.FieldType.int)) ∈ lw_all := lw_g (lw_at lw_m5 224 rfl) rfl
theorem q1232 : (Jvm.Cond.methodLink "SewnBookModel" (188 : Nat) ({ cls := "SewnBookModel", name := "isWhole", desc := "()Z" } : Jvm.MethodName)) ∈ lw_all := lw_g (lw_at lw_m5 225 rfl) rfl
theorem q1233 : (Jvm.Cond.privateMethod ({ cls := "SewnBookModel", name := "isWhole", desc := "()Z" } : Jvm.MethodName)) ∈ lw_tbl := lw_at lw_m5 226 rfl
theorem q1234 : (Jvm.Cond.instanceMethod ({ cls := "SewnBookModel", name := "isWhole", desc := "()Z" } : Jvm.MethodName)) ∈ lw_all := lw_g (lw_at lw_m5 227 rfl) rfl
theorem q1235 : (Jvm.Cond.code ({ cls := "SewnBookModel", name := "isWhole", desc := "()Z" } : Jvm.MethodName) prog_6_method_32_code (3 : Nat) (Option.some Jvm.ClassFile.FieldType.boolean)) ∈ lw_all := lw_g (lw_at lw_m5 228 rfl) rfl
theorem q1236 : (Jvm.Cond.methodLink "SewnBookModel" (192 : Nat) ({ cls := "SewnBookModel", name := "isClean", desc := "()Z" } : Jvm.MethodName)) ∈ lw_all := lw_g (lw_at lw_m5 229 rfl) rfl
theorem q1237 : (Jvm.Cond.privateMethod ({ cls := "SewnBookModel", name := "isClean", desc := "()Z" } : Jvm.MethodName)) ∈ lw_tbl := lw_at lw_m5 230 rfl
theorem q1238 : (Jvm.Cond.instanceMethod ({ cls := "SewnBookModel", name := "isClean", desc := "()Z" } : Jvm.MethodName)) ∈ lw_all := lw_g (lw_at lw_m5 231 rfl) rfl
theorem q1239 : (Jvm.Cond.code ({ cls := "SewnBookModel", name := "isClean", desc := "()Z" } : Jvm.MethodName) prog_6_method_33_code (3 : Nat) (Option.some Jvm.ClassFile.FieldType.boolean)) ∈ lw_all := lw_g (lw_at lw_m5 232 rfl) rfl
theorem q1241 : (Jvm.Cond.instanceMethod ({ cls := "SewnBookModel", name := "along", desc := "(II)I" } : Jvm.MethodName)) ∈ lw_all := lw_g (lw_at lw_m5 234 rfl) rfl
theorem q1242 : (Jvm.Cond.selects "SewnBookModel" ({ cls := "SewnBookModel", name := "along", desc := "(II)I" } : Jvm.MethodName) ({ cls := "SewnBookModel", name := "along", desc := "(II)I" } : Jvm.MethodName)) ∈ lw_all := lw_g (lw_at lw_m5 235 rfl) rfl
theorem q1243 : (Jvm.Cond.code ({ cls := "SewnBookModel", name := "along", desc := "(II)I" } : Jvm.MethodName) prog_6_method_35_code (3 : Nat) (Option.some Jvm.ClassFile.FieldType.int)) ∈ lw_all := lw_g (lw_at lw_m5 236 rfl) rfl
theorem q1245 : (Jvm.Cond.instanceMethod ({ cls := "SewnBookModel", name := "holes", desc := "(III)I" } : Jvm.MethodName)) ∈ lw_all := lw_g (lw_at lw_m5 238 rfl) rfl
theorem q1246 : (Jvm.Cond.selects "SewnBookModel" ({ cls := "SewnBookModel", name := "holes", desc := "(III)I" } : Jvm.MethodName) ({ cls := "SewnBookModel", name := "holes", desc := "(III)I" } : Jvm.MethodName)) ∈ lw_all := lw_g (lw_at lw_m5 239 rfl) rfl
theorem q1247 : (Jvm.Cond.code ({ cls := "SewnBookModel", name := "holes", desc := "(III)I" } : Jvm.MethodName) prog_6_method_36_code (4 : Nat) (Option.some Jvm.ClassFile.FieldType.int)) ∈ lw_all := lw_g (lw_at lw_m6 0 rfl) rfl
theorem q1249 : (Jvm.Cond.instanceMethod ({ cls := "SewnBookModel", name := "tied", desc := "(II)I" } : Jvm.MethodName)) ∈ lw_all := lw_g (lw_at lw_m6 2 rfl) rfl
theorem q1250 : (Jvm.Cond.selects "SewnBookModel" ({ cls := "SewnBookModel", name := "tied", desc := "(II)I" } : Jvm.MethodName) ({ cls := "SewnBookModel", name := "tied", desc := "(II)I" } : Jvm.MethodName)) ∈ lw_all := lw_g (lw_at lw_m6 3 rfl) rfl
theorem q1251 : (Jvm.Cond.code ({ cls := "SewnBookModel", name := "tied", desc := "(II)I" } : Jvm.MethodName) prog_6_method_37_code (3 : Nat) (Option.some Jvm.ClassFile.FieldType.int)) ∈ lw_all := lw_g (lw_at lw_m6 4 rfl) rfl
theorem q1253 : (Jvm.Cond.instanceMethod ({ cls := "SewnBookModel", name := "swells", desc := "(II)I" } : Jvm.MethodName)) ∈ lw_all := lw_g (lw_at lw_m6 6 rfl) rfl
theorem q1254 : (Jvm.Cond.selects "SewnBookModel" ({ cls := "SewnBookModel", name := "swells", desc := "(II)I" } : Jvm.MethodName) ({ cls := "SewnBookModel", name := "swells", desc := "(II)I" } : Jvm.MethodName)) ∈ lw_all := lw_g (lw_at lw_m6 7 rfl) rfl
theorem q1255 : (Jvm.Cond.code ({ cls := "SewnBookModel", name := "swells", desc := "(II)I" } : Jvm.MethodName) prog_6_method_38_code (5 : Nat) (Option.some Jvm.ClassFile.FieldType.int)) ∈ lw_all := lw_g (lw_at lw_m6 8 rfl) rfl
theorem q1257 : (Jvm.Cond.instanceMethod ({ cls := "SewnBookModel", name := "loose", desc := "(II)I" } : Jvm.MethodName)) ∈ lw_all := lw_g (lw_at lw_m6 10 rfl) rfl
theorem q1258 : (Jvm.Cond.selects "SewnBookModel" ({ cls := "SewnBookModel", name := "loose", desc := "(II)I" } : Jvm.MethodName) ({ cls := "SewnBookModel", name := "loose", desc := "(II)I" } : Jvm.MethodName)) ∈ lw_all := lw_g (lw_at lw_m6 11 rfl) rfl
theorem q1259 : (Jvm.Cond.code ({ cls := "SewnBookModel", name := "loose", desc := "(II)I" } : Jvm.MethodName) prog_6_method_39_code (10 : Nat) (Option.some Jvm.ClassFile.FieldType.int)) ∈ lw_all := lw_g (lw_at lw_m6 12 rfl) rfl
theorem q1261 : (Jvm.Cond.instanceMethod ({ cls := "SewnBookModel", name := "best", desc := "(IZ)I" } : Jvm.MethodName)) ∈ lw_all := lw_g (lw_at lw_m6 14 rfl) rfl
theorem q1262 : (Jvm.Cond.selects "SewnBookModel" ({ cls := "SewnBookModel", name := "best", desc := "(IZ)I" } : Jvm.MethodName) ({ cls := "SewnBookModel", name := "best", desc := "(IZ)I" } : Jvm.MethodName)) ∈ lw_all := lw_g (lw_at lw_m6 15 rfl) rfl
theorem q1263 : (Jvm.Cond.code ({ cls := "SewnBookModel", name := "best", desc := "(IZ)I" } : Jvm.MethodName) prog_6_method_44_code (10 : Nat) (Option.some Jvm.ClassFile.FieldType.int)) ∈ lw_all := lw_g (lw_at lw_m6 16 rfl) rfl
theorem q1264 : (Jvm.Cond.methodLink "SewnBookModel" (206 : Nat) ({ cls := "SewnBookModel", name := "tables", desc := "()V" } : Jvm.MethodName)) ∈ lw_all := lw_g (lw_at lw_m6 17 rfl) rfl
theorem q1265 : (Jvm.Cond.privateMethod ({ cls := "SewnBookModel", name := "tables", desc := "()V" } : Jvm.MethodName)) ∈ lw_tbl := lw_at lw_m6 18 rfl
theorem q1266 : (Jvm.Cond.instanceMethod ({ cls := "SewnBookModel", name := "tables", desc := "()V" } : Jvm.MethodName)) ∈ lw_all := lw_g (lw_at lw_m6 19 rfl) rfl
theorem q1267 : (Jvm.Cond.code ({ cls := "SewnBookModel", name := "tables", desc := "()V" } : Jvm.MethodName) prog_6_method_40_code (5 : Nat) (Option.none : Option Jvm.ClassFile.FieldType)) ∈ lw_all := lw_g (lw_at lw_m6 20 rfl) rfl
theorem q1268 : (Jvm.Cond.methodLink "SewnBookModel" (209 : Nat) ({ cls := "SewnBookModel", name := "reckon", desc := "(IIZ)V" } : Jvm.MethodName)) ∈ lw_all := lw_g (lw_at lw_m6 21 rfl) rfl
theorem q1269 : (Jvm.Cond.privateMethod ({ cls := "SewnBookModel", name := "reckon", desc := "(IIZ)V" } : Jvm.MethodName)) ∈ lw_tbl := lw_at lw_m6 22 rfl
theorem q1270 : (Jvm.Cond.instanceMethod ({ cls := "SewnBookModel", name := "reckon", desc := "(IIZ)V" } : Jvm.MethodName)) ∈ lw_all := lw_g (lw_at lw_m6 23 rfl) rfl
theorem q1271 : (Jvm.Cond.code ({ cls := "SewnBookModel", name := "reckon", desc := "(IIZ)V" } : Jvm.MethodName) prog_6_method_42_code (8 : Nat) (Option.none : Option Jvm.ClassFile.FieldType)) ∈ lw_all := lw_g (lw_at lw_m6 24 rfl) rfl
theorem q1272 : (Jvm.Cond.constant "SewnBookModel" (195 : Nat) (1073741824 : Int32)) ∈ lw_all := lw_g (lw_at lw_m6 25 rfl) rfl
theorem q1273 : (Jvm.Cond.methodLink "SewnBookModel" (196 : Nat) ({ cls := "SewnBookModel", name := "best", desc := "(IIZ)I" } : Jvm.MethodName)) ∈ lw_all := lw_g (lw_at lw_m6 26 rfl) rfl
theorem q1274 : (Jvm.Cond.privateMethod ({ cls := "SewnBookModel", name := "best", desc := "(IIZ)I" } : Jvm.MethodName)) ∈ lw_tbl := lw_at lw_m6 27 rfl
theorem q1275 : (Jvm.Cond.instanceMethod ({ cls := "SewnBookModel", name := "best", desc := "(IIZ)I" } : Jvm.MethodName)) ∈ lw_all := lw_g (lw_at lw_m6 28 rfl) rfl
theorem q1276 : (Jvm.Cond.code ({ cls := "SewnBookModel", name := "best", desc := "(IIZ)I" } : Jvm.MethodName) prog_6_method_43_code (9 : Nat) (Option.some Jvm.ClassFile.FieldType.int)) ∈ lw_all := lw_g (lw_at lw_m6 29 rfl) rfl
theorem q1277 : (Jvm.Cond.methodLink "SewnBookModel" (200 : Nat) ({ cls := "SewnBookModel", name := "behind", desc := "(IIZ)I" } : Jvm.MethodName)) ∈ lw_all := lw_g (lw_at lw_m6 30 rfl) rfl
theorem q1278 : (Jvm.Cond.static ({ cls := "SewnBookModel", name := "behind", desc := "(IIZ)I" } : Jvm.MethodName)) ∈ lw_all := lw_g (lw_at lw_m6 31 rfl) rfl
theorem q1279 : (Jvm.Cond.code ({ cls := "SewnBookModel", name := "behind", desc := "(IIZ)I" } : Jvm.MethodName) prog_6_method_41_code (3 : Nat) (Option.some Jvm.ClassFile.FieldType.int)) ∈ lw_all := lw_g (lw_at lw_m6 32 rfl) rfl
theorem q1281 : (Jvm.Cond.instanceMethod ({ cls := "SewnBookModel", name := "move", desc := "(I)I" } : Jvm.MethodName)) ∈ lw_all := lw_g (lw_at lw_m6 34 rfl) rfl
theorem q1282 : (Jvm.Cond.selects "SewnBookModel" ({ cls := "SewnBookModel", name := "move", desc := "(I)I" } : Jvm.MethodName) ({ cls := "SewnBookModel", name := "move", desc := "(I)I" } : Jvm.MethodName)) ∈ lw_all := lw_g (lw_at lw_m6 35 rfl) rfl
theorem q1283 : (Jvm.Cond.code ({ cls := "SewnBookModel", name := "move", desc := "(I)I" } : Jvm.MethodName) prog_6_method_45_code (2 : Nat) (Option.some Jvm.ClassFile.FieldType.int)) ∈ lw_all := lw_g (lw_at lw_m6 36 rfl) rfl
theorem q1285 : (Jvm.Cond.instanceMethod ({ cls := "SewnBookModel", name := "marks", desc := "(I)Z" } : Jvm.MethodName)) ∈ lw_all := lw_g (lw_at lw_m6 38 rfl) rfl
theorem q1286 : (Jvm.Cond.selects "SewnBookModel" ({ cls := "SewnBookModel", name := "marks", desc := "(I)Z" } : Jvm.MethodName) ({ cls := "SewnBookModel", name := "marks", desc := "(I)Z" } : Jvm.MethodName)) ∈ lw_all := lw_g (lw_at lw_m6 39 rfl) rfl
theorem q1287 : (Jvm.Cond.code ({ cls := "SewnBookModel", name := "marks", desc := "(I)Z" } : Jvm.MethodName) prog_6_method_47_code (6 : Nat) (Option.some Jvm.ClassFile.FieldType.boolean)) ∈ lw_all := lw_g (lw_at lw_m6 40 rfl) rfl
theorem q1288 : (Jvm.Cond.methodLink "SewnBookModel" (213 : Nat) ({ cls := "SewnBookModel", name := "join", desc := "(II)V" } : Jvm.MethodName)) ∈ lw_all := lw_g (lw_at lw_m6 41 rfl) rfl
theorem q1289 : (Jvm.Cond.privateMethod ({ cls := "SewnBookModel", name := "join", desc := "(II)V" } : Jvm.MethodName)) ∈ lw_tbl := lw_at lw_m6 42 rfl
theorem q1290 : (Jvm.Cond.instanceMethod ({ cls := "SewnBookModel", name := "join", desc := "(II)V" } : Jvm.MethodName)) ∈ lw_all := lw_g (lw_at lw_m6 43 rfl) rfl
theorem q1291 : (Jvm.Cond.code ({ cls := "SewnBookModel", name := "join", desc := "(II)V" } : Jvm.MethodName) prog_6_method_46_code (6 : Nat) (Option.none : Option Jvm.ClassFile.FieldType)) ∈ lw_all := lw_g (lw_at lw_m6 44 rfl) rfl
theorem q1293 : (Jvm.Cond.instanceMethod ({ cls := "SewnBookModel", name := "count", desc := "(I)I" } : Jvm.MethodName)) ∈ lw_all := lw_g (lw_at lw_m6 46 rfl) rfl
theorem q1294 : (Jvm.Cond.selects "SewnBookModel" ({ cls := "SewnBookModel", name := "count", desc := "(I)I" } : Jvm.MethodName) ({ cls := "SewnBookModel", name := "count", desc := "(I)I" } : Jvm.MethodName)) ∈ lw_all := lw_g (lw_at lw_m6 47 rfl) rfl
theorem q1295 : (Jvm.Cond.code ({ cls := "SewnBookModel", name := "count", desc := "(I)I" } : Jvm.MethodName) prog_6_method_48_code (4 : Nat) (Option.some Jvm.ClassFile.FieldType.int)) ∈ lw_all := lw_g (lw_at lw_m6 48 rfl) rfl
theorem q1312 : (Jvm.Cond.castable "SewnBookModel" "java/lang/Object") ∈ lw_tbl := lw_at lw_m6 65 rfl
theorem in_X3 : ∀ w ∈ wsX30, w ∈ lw_all := lw_in wsX30 [1033, 1035, 1037, 1039, 1041, 1043, 1045, 1047, 1049, 1051, 1053, 1055, 1057, 1059, 1061, 1063, 1065, 1067, 1069, 1071, 1073, 1075, 1077, 1079, 1081, 1083, 1085, 1087, 1089, 1091, 1093, 1095, 1097, 1099, 1101, 1103] (by decide +kernel) (by decide +kernel)
