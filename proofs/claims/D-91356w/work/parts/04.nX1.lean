/-! SewnBook -/
set_option maxRecDepth 100000
def RX1 : String := "SewnBook"
def TX1 : u_T := fun k => match k with
  | 0 => ("SewnBook", "folds", "I", false)
  | 1 => ("SewnBook", "stations", "I", false)
  | 2 => ("SewnBook", "thread", "I", false)
  | 3 => ("SewnBook", "thick", "[I", true)
  | 4 => ("SewnBook", "height", "[I", true)
  | 5 => ("SewnBook", "kind", "[I", true)
  | 6 => ("SewnBook", "parts", "Ljava/util/ArrayList;", true)
  | 7 => ("SewnBook", "plans", "Ljava/util/ArrayList;", true)
  | 8 => ("SewnBook", "tape", "[B", true)
  | 9 => ("SewnBook", "taped", "I", false)
  | 10 => ("SewnBook", "faultPlace", "I", false)
  | 11 => ("SewnBook", "kept", "Ljava/util/ArrayList;", true)
  | 12 => ("SewnBook", "rest", "[I", true)
  | 13 => ("SewnBook", "bit", "[I", true)
  | 14 => ("SewnBook", "leadsTo", "[I", true)
  | 15 => ("SewnBook", "costs", "[I", true)
  | 16 => ("SewnBook", "goes", "[I", true)
  | 17 => ("SewnBook", "comes", "[I", true)
  | 18 => ("SewnBook", "many", "[I", true)
  | 19 => ("SewnBook", "isDone", "[Z", true)
  | _ => ("SewnBook", "reached", "[J", true)
def tyX1 : Nat → FieldType := fun k => match k with
  | 0 => .int
  | 1 => .int
  | 2 => .int
  | 3 => .array .int
  | 4 => .array .int
  | 5 => .array .int
  | 6 => .object "java/util/ArrayList"
  | 7 => .object "java/util/ArrayList"
  | 8 => .array .byte
  | 9 => .int
  | 10 => .int
  | 11 => .object "java/util/ArrayList"
  | 12 => .array .int
  | 13 => .array .int
  | 14 => .array .int
  | 15 => .array .int
  | 16 => .array .int
  | 17 => .array .int
  | 18 => .array .int
  | 19 => .array .boolean
  | _ => .array .long
abbrev wsX10 : List Cond := u_ws RX1 TX1 21
set_option maxRecDepth 100000 in
theorem nmX1 : ∀ a, a < 21 → ∀ b, b < 21 → a ≠ b → (TX1 a).2.1 ≠ (TX1 b).2.1 := by decide +kernel
set_option maxRecDepth 100000 in
theorem tyX1_ok : ∀ k, k < 21 → parseFieldDescriptor (TX1 k).2.2.1 = some (tyX1 k) := by decide +kernel
abbrev cX1_init : ByteArray := prog_1_method_1_code
def yX1_init : MethodName := ⟨RX1, "<init>", "()V"⟩
def dkwX1_init_7 : List UInt8 := [182, 0, 72, 87, 177]
abbrev dktX1_init_7 : List UInt8 := dkwX1_init_7 ++ []
def dkwX1_init_6 : List UInt8 := [181, 0, 61, 42, 16, 60, 188, 4, 181, 0, 64, 42, 17, 4, 0, 188, 11, 181, 0, 68, 42, 4, 5]
abbrev dktX1_init_6 : List UInt8 := dkwX1_init_6 ++ dktX1_init_7
def dkwX1_init_5 : List UInt8 := [17, 1, 224, 188, 10, 181, 0, 55, 42, 17, 1, 224, 188, 10, 181, 0, 58, 42, 16, 60, 188, 10]
abbrev dktX1_init_5 : List UInt8 := dkwX1_init_5 ++ dktX1_init_6
def dkwX1_init_4 : List UInt8 := [181, 0, 46, 42, 17, 1, 224, 188, 10, 181, 0, 49, 42, 17, 1, 224, 188, 10, 181, 0, 52, 42]
abbrev dktX1_init_4 : List UInt8 := dkwX1_init_4 ++ dktX1_init_5
def dkwX1_init_3 : List UInt8 := [89, 16, 8, 183, 0, 21, 181, 0, 39, 42, 18, 42, 188, 10, 181, 0, 43, 42, 16, 55, 188, 10]
abbrev dktX1_init_3 : List UInt8 := dkwX1_init_3 ++ dktX1_init_4
def dkwX1_init_2 : List UInt8 := [183, 0, 21, 181, 0, 28, 42, 17, 1, 144, 188, 8, 181, 0, 31, 42, 2, 181, 0, 35, 42, 187, 0, 19]
abbrev dktX1_init_2 : List UInt8 := dkwX1_init_2 ++ dktX1_init_3
def dkwX1_init_1 : List UInt8 := [181, 0, 16, 42, 187, 0, 19, 89, 16, 55, 183, 0, 21, 181, 0, 24, 42, 187, 0, 19, 89, 5]
abbrev dktX1_init_1 : List UInt8 := dkwX1_init_1 ++ dktX1_init_2
def dkwX1_init_0 : List UInt8 := [42, 183, 0, 1, 42, 8, 188, 10, 181, 0, 9, 42, 16, 6, 188, 10, 181, 0, 13, 42, 16, 6, 188, 10]
abbrev dktX1_init_0 : List UInt8 := dkwX1_init_0 ++ dktX1_init_1
theorem dksX1_init_0 : cX1_init.data.toList.drop 0 = dktX1_init_0 := by decide +kernel
theorem dksX1_init_1 : cX1_init.data.toList.drop 24 = dktX1_init_1 := dk_seg dksX1_init_0 24 rfl rfl
theorem dksX1_init_2 : cX1_init.data.toList.drop 46 = dktX1_init_2 := dk_seg dksX1_init_1 22 rfl rfl
theorem dksX1_init_3 : cX1_init.data.toList.drop 70 = dktX1_init_3 := dk_seg dksX1_init_2 24 rfl rfl
theorem dksX1_init_4 : cX1_init.data.toList.drop 92 = dktX1_init_4 := dk_seg dksX1_init_3 22 rfl rfl
theorem dksX1_init_5 : cX1_init.data.toList.drop 114 = dktX1_init_5 := dk_seg dksX1_init_4 22 rfl rfl
theorem dksX1_init_6 : cX1_init.data.toList.drop 136 = dktX1_init_6 := dk_seg dksX1_init_5 22 rfl rfl
theorem dksX1_init_7 : cX1_init.data.toList.drop 159 = dktX1_init_7 := dk_seg dksX1_init_6 23 rfl rfl
theorem dX1_init_0 : decode cX1_init 0 = .ok (.aload_n 0, 1) := dk_42 (dk_at dksX1_init_0 0 rfl rfl)
theorem dX1_init_1 : decode cX1_init 1 = .ok (.invokespecial 1, 3) := dk_183 0 1 (dk_at dksX1_init_0 1 rfl rfl)
theorem dX1_init_4 : decode cX1_init 4 = .ok (.aload_n 0, 1) := dk_42 (dk_at dksX1_init_0 4 rfl rfl)
theorem dX1_init_5 : decode cX1_init 5 = .ok (.iconst 5, 1) := dk_8 (dk_at dksX1_init_0 5 rfl rfl)
theorem dX1_init_6 : decode cX1_init 6 = .ok (.newarray .int, 2) := dk_188_10 (dk_at dksX1_init_0 6 rfl rfl)
theorem dX1_init_8 : decode cX1_init 8 = .ok (.putfield 9, 3) := dk_181 0 9 (dk_at dksX1_init_0 8 rfl rfl)
theorem dX1_init_11 : decode cX1_init 11 = .ok (.aload_n 0, 1) := dk_42 (dk_at dksX1_init_0 11 rfl rfl)
theorem dX1_init_12 : decode cX1_init 12 = .ok (.bipush 6, 2) := dk_16 6 (dk_at dksX1_init_0 12 rfl rfl)
theorem dX1_init_14 : decode cX1_init 14 = .ok (.newarray .int, 2) := dk_188_10 (dk_at dksX1_init_0 14 rfl rfl)
theorem dX1_init_16 : decode cX1_init 16 = .ok (.putfield 13, 3) := dk_181 0 13 (dk_at dksX1_init_0 16 rfl rfl)
theorem dX1_init_19 : decode cX1_init 19 = .ok (.aload_n 0, 1) := dk_42 (dk_at dksX1_init_0 19 rfl rfl)
theorem dX1_init_20 : decode cX1_init 20 = .ok (.bipush 6, 2) := dk_16 6 (dk_at dksX1_init_0 20 rfl rfl)
theorem dX1_init_22 : decode cX1_init 22 = .ok (.newarray .int, 2) := dk_188_10 (dk_at dksX1_init_0 22 rfl rfl)
theorem dX1_init_24 : decode cX1_init 24 = .ok (.putfield 16, 3) := dk_181 0 16 (dk_at dksX1_init_1 0 rfl rfl)
theorem dX1_init_27 : decode cX1_init 27 = .ok (.aload_n 0, 1) := dk_42 (dk_at dksX1_init_1 3 rfl rfl)
theorem dX1_init_28 : decode cX1_init 28 = .ok (.new 19, 3) := dk_187 0 19 (dk_at dksX1_init_1 4 rfl rfl)
theorem dX1_init_31 : decode cX1_init 31 = .ok (.dup, 1) := dk_89 (dk_at dksX1_init_1 7 rfl rfl)
theorem dX1_init_32 : decode cX1_init 32 = .ok (.bipush 55, 2) := dk_16 55 (dk_at dksX1_init_1 8 rfl rfl)
theorem dX1_init_34 : decode cX1_init 34 = .ok (.invokespecial 21, 3) := dk_183 0 21 (dk_at dksX1_init_1 10 rfl rfl)
theorem dX1_init_37 : decode cX1_init 37 = .ok (.putfield 24, 3) := dk_181 0 24 (dk_at dksX1_init_1 13 rfl rfl)
theorem dX1_init_40 : decode cX1_init 40 = .ok (.aload_n 0, 1) := dk_42 (dk_at dksX1_init_1 16 rfl rfl)
theorem dX1_init_41 : decode cX1_init 41 = .ok (.new 19, 3) := dk_187 0 19 (dk_at dksX1_init_1 17 rfl rfl)
theorem dX1_init_44 : decode cX1_init 44 = .ok (.dup, 1) := dk_89 (dk_at dksX1_init_1 20 rfl rfl)
theorem dX1_init_45 : decode cX1_init 45 = .ok (.iconst 2, 1) := dk_5 (dk_at dksX1_init_1 21 rfl rfl)
theorem dX1_init_46 : decode cX1_init 46 = .ok (.invokespecial 21, 3) := dk_183 0 21 (dk_at dksX1_init_2 0 rfl rfl)
theorem dX1_init_49 : decode cX1_init 49 = .ok (.putfield 28, 3) := dk_181 0 28 (dk_at dksX1_init_2 3 rfl rfl)
theorem dX1_init_52 : decode cX1_init 52 = .ok (.aload_n 0, 1) := dk_42 (dk_at dksX1_init_2 6 rfl rfl)
theorem dX1_init_53 : decode cX1_init 53 = .ok (.sipush 400, 3) := dk_17 1 144 (dk_at dksX1_init_2 7 rfl rfl)
theorem dX1_init_56 : decode cX1_init 56 = .ok (.newarray .byte, 2) := dk_188_8 (dk_at dksX1_init_2 10 rfl rfl)
theorem dX1_init_58 : decode cX1_init 58 = .ok (.putfield 31, 3) := dk_181 0 31 (dk_at dksX1_init_2 12 rfl rfl)
theorem dX1_init_61 : decode cX1_init 61 = .ok (.aload_n 0, 1) := dk_42 (dk_at dksX1_init_2 15 rfl rfl)
theorem dX1_init_62 : decode cX1_init 62 = .ok (.iconst (-1), 1) := dk_2 (dk_at dksX1_init_2 16 rfl rfl)
theorem dX1_init_63 : decode cX1_init 63 = .ok (.putfield 35, 3) := dk_181 0 35 (dk_at dksX1_init_2 17 rfl rfl)
theorem dX1_init_66 : decode cX1_init 66 = .ok (.aload_n 0, 1) := dk_42 (dk_at dksX1_init_2 20 rfl rfl)
theorem dX1_init_67 : decode cX1_init 67 = .ok (.new 19, 3) := dk_187 0 19 (dk_at dksX1_init_2 21 rfl rfl)
theorem dX1_init_70 : decode cX1_init 70 = .ok (.dup, 1) := dk_89 (dk_at dksX1_init_3 0 rfl rfl)
theorem dX1_init_71 : decode cX1_init 71 = .ok (.bipush 8, 2) := dk_16 8 (dk_at dksX1_init_3 1 rfl rfl)
theorem dX1_init_73 : decode cX1_init 73 = .ok (.invokespecial 21, 3) := dk_183 0 21 (dk_at dksX1_init_3 3 rfl rfl)
theorem dX1_init_76 : decode cX1_init 76 = .ok (.putfield 39, 3) := dk_181 0 39 (dk_at dksX1_init_3 6 rfl rfl)
theorem dX1_init_79 : decode cX1_init 79 = .ok (.aload_n 0, 1) := dk_42 (dk_at dksX1_init_3 9 rfl rfl)
theorem dX1_init_80 : decode cX1_init 80 = .ok (.ldc 42, 2) := dk_18 42 (dk_at dksX1_init_3 10 rfl rfl)
theorem dX1_init_82 : decode cX1_init 82 = .ok (.newarray .int, 2) := dk_188_10 (dk_at dksX1_init_3 12 rfl rfl)
theorem dX1_init_84 : decode cX1_init 84 = .ok (.putfield 43, 3) := dk_181 0 43 (dk_at dksX1_init_3 14 rfl rfl)
theorem dX1_init_87 : decode cX1_init 87 = .ok (.aload_n 0, 1) := dk_42 (dk_at dksX1_init_3 17 rfl rfl)
theorem dX1_init_88 : decode cX1_init 88 = .ok (.bipush 55, 2) := dk_16 55 (dk_at dksX1_init_3 18 rfl rfl)
theorem dX1_init_90 : decode cX1_init 90 = .ok (.newarray .int, 2) := dk_188_10 (dk_at dksX1_init_3 20 rfl rfl)
theorem dX1_init_92 : decode cX1_init 92 = .ok (.putfield 46, 3) := dk_181 0 46 (dk_at dksX1_init_4 0 rfl rfl)
theorem dX1_init_95 : decode cX1_init 95 = .ok (.aload_n 0, 1) := dk_42 (dk_at dksX1_init_4 3 rfl rfl)
theorem dX1_init_96 : decode cX1_init 96 = .ok (.sipush 480, 3) := dk_17 1 224 (dk_at dksX1_init_4 4 rfl rfl)
theorem dX1_init_99 : decode cX1_init 99 = .ok (.newarray .int, 2) := dk_188_10 (dk_at dksX1_init_4 7 rfl rfl)
theorem dX1_init_101 : decode cX1_init 101 = .ok (.putfield 49, 3) := dk_181 0 49 (dk_at dksX1_init_4 9 rfl rfl)
theorem dX1_init_104 : decode cX1_init 104 = .ok (.aload_n 0, 1) := dk_42 (dk_at dksX1_init_4 12 rfl rfl)
theorem dX1_init_105 : decode cX1_init 105 = .ok (.sipush 480, 3) := dk_17 1 224 (dk_at dksX1_init_4 13 rfl rfl)
theorem dX1_init_108 : decode cX1_init 108 = .ok (.newarray .int, 2) := dk_188_10 (dk_at dksX1_init_4 16 rfl rfl)
theorem dX1_init_110 : decode cX1_init 110 = .ok (.putfield 52, 3) := dk_181 0 52 (dk_at dksX1_init_4 18 rfl rfl)
theorem dX1_init_113 : decode cX1_init 113 = .ok (.aload_n 0, 1) := dk_42 (dk_at dksX1_init_4 21 rfl rfl)
theorem dX1_init_114 : decode cX1_init 114 = .ok (.sipush 480, 3) := dk_17 1 224 (dk_at dksX1_init_5 0 rfl rfl)
theorem dX1_init_117 : decode cX1_init 117 = .ok (.newarray .int, 2) := dk_188_10 (dk_at dksX1_init_5 3 rfl rfl)
theorem dX1_init_119 : decode cX1_init 119 = .ok (.putfield 55, 3) := dk_181 0 55 (dk_at dksX1_init_5 5 rfl rfl)
theorem dX1_init_122 : decode cX1_init 122 = .ok (.aload_n 0, 1) := dk_42 (dk_at dksX1_init_5 8 rfl rfl)
theorem dX1_init_123 : decode cX1_init 123 = .ok (.sipush 480, 3) := dk_17 1 224 (dk_at dksX1_init_5 9 rfl rfl)
theorem dX1_init_126 : decode cX1_init 126 = .ok (.newarray .int, 2) := dk_188_10 (dk_at dksX1_init_5 12 rfl rfl)
theorem dX1_init_128 : decode cX1_init 128 = .ok (.putfield 58, 3) := dk_181 0 58 (dk_at dksX1_init_5 14 rfl rfl)
theorem dX1_init_131 : decode cX1_init 131 = .ok (.aload_n 0, 1) := dk_42 (dk_at dksX1_init_5 17 rfl rfl)
theorem dX1_init_132 : decode cX1_init 132 = .ok (.bipush 60, 2) := dk_16 60 (dk_at dksX1_init_5 18 rfl rfl)
theorem dX1_init_134 : decode cX1_init 134 = .ok (.newarray .int, 2) := dk_188_10 (dk_at dksX1_init_5 20 rfl rfl)
theorem dX1_init_136 : decode cX1_init 136 = .ok (.putfield 61, 3) := dk_181 0 61 (dk_at dksX1_init_6 0 rfl rfl)
theorem dX1_init_139 : decode cX1_init 139 = .ok (.aload_n 0, 1) := dk_42 (dk_at dksX1_init_6 3 rfl rfl)
theorem dX1_init_140 : decode cX1_init 140 = .ok (.bipush 60, 2) := dk_16 60 (dk_at dksX1_init_6 4 rfl rfl)
theorem dX1_init_142 : decode cX1_init 142 = .ok (.newarray .boolean, 2) := dk_188_4 (dk_at dksX1_init_6 6 rfl rfl)
theorem dX1_init_144 : decode cX1_init 144 = .ok (.putfield 64, 3) := dk_181 0 64 (dk_at dksX1_init_6 8 rfl rfl)
theorem dX1_init_147 : decode cX1_init 147 = .ok (.aload_n 0, 1) := dk_42 (dk_at dksX1_init_6 11 rfl rfl)
theorem dX1_init_148 : decode cX1_init 148 = .ok (.sipush 1024, 3) := dk_17 4 0 (dk_at dksX1_init_6 12 rfl rfl)
theorem dX1_init_151 : decode cX1_init 151 = .ok (.newarray .long, 2) := dk_188_11 (dk_at dksX1_init_6 15 rfl rfl)
theorem dX1_init_153 : decode cX1_init 153 = .ok (.putfield 68, 3) := dk_181 0 68 (dk_at dksX1_init_6 17 rfl rfl)
theorem dX1_init_156 : decode cX1_init 156 = .ok (.aload_n 0, 1) := dk_42 (dk_at dksX1_init_6 20 rfl rfl)
theorem dX1_init_157 : decode cX1_init 157 = .ok (.iconst 1, 1) := dk_4 (dk_at dksX1_init_6 21 rfl rfl)
theorem dX1_init_158 : decode cX1_init 158 = .ok (.iconst 2, 1) := dk_5 (dk_at dksX1_init_6 22 rfl rfl)
theorem dX1_init_159 : decode cX1_init 159 = .ok (.invokevirtual 72, 3) := dk_182 0 72 (dk_at dksX1_init_7 0 rfl rfl)
theorem dX1_init_162 : decode cX1_init 162 = .ok (.pop, 1) := dk_87 (dk_at dksX1_init_7 3 rfl rfl)
theorem dX1_init_163 : decode cX1_init 163 = .ok (.return_, 1) := dk_177 (dk_at dksX1_init_7 4 rfl rfl)
abbrev cX1_book : ByteArray := prog_1_method_4_code
def yX1_book : MethodName := ⟨RX1, "book", "(II)Z"⟩
def dkwX1_book_4 : List UInt8 := [180, 0, 28, 182, 0, 91, 42, 180, 0, 39, 182, 0, 91, 42, 182, 0, 94, 4, 172]
abbrev dktX1_book_4 : List UInt8 := dkwX1_book_4 ++ []
def dkwX1_book_3 : List UInt8 := [180, 0, 13, 29, 16, 20, 29, 104, 79, 42, 180, 0, 16, 29, 3, 79, 132, 3, 1, 167, 255, 230, 42]
abbrev dktX1_book_3 : List UInt8 := dkwX1_book_3 ++ dktX1_book_4
def dkwX1_book_2 : List UInt8 := [180, 0, 9, 29, 16, 10, 79, 132, 3, 1, 167, 255, 240, 3, 62, 29, 16, 6, 162, 0, 26, 42]
abbrev dktX1_book_2 : List UInt8 := dkwX1_book_2 ++ dktX1_book_3
def dkwX1_book_1 : List UInt8 := [27, 181, 0, 82, 42, 28, 181, 0, 85, 42, 4, 181, 0, 88, 3, 62, 29, 8, 162, 0, 17, 42]
abbrev dktX1_book_1 : List UInt8 := dkwX1_book_1 ++ dktX1_book_2
def dkwX1_book_0 : List UInt8 := [27, 4, 161, 0, 19, 27, 8, 163, 0, 14, 28, 5, 161, 0, 9, 28, 16, 6, 164, 0, 5, 3, 172, 42]
abbrev dktX1_book_0 : List UInt8 := dkwX1_book_0 ++ dktX1_book_1
theorem dksX1_book_0 : cX1_book.data.toList.drop 0 = dktX1_book_0 := by decide +kernel
theorem dksX1_book_1 : cX1_book.data.toList.drop 24 = dktX1_book_1 := dk_seg dksX1_book_0 24 rfl rfl
theorem dksX1_book_2 : cX1_book.data.toList.drop 46 = dktX1_book_2 := dk_seg dksX1_book_1 22 rfl rfl
theorem dksX1_book_3 : cX1_book.data.toList.drop 68 = dktX1_book_3 := dk_seg dksX1_book_2 22 rfl rfl
theorem dksX1_book_4 : cX1_book.data.toList.drop 91 = dktX1_book_4 := dk_seg dksX1_book_3 23 rfl rfl
theorem dX1_book_0 : decode cX1_book 0 = .ok (.iload_n 1, 1) := dk_27 (dk_at dksX1_book_0 0 rfl rfl)
theorem dX1_book_1 : decode cX1_book 1 = .ok (.iconst 1, 1) := dk_4 (dk_at dksX1_book_0 1 rfl rfl)
theorem dX1_book_2 : decode cX1_book 2 = .ok (.if_icmp .lt 19, 3) := dk_161 0 19 (dk_at dksX1_book_0 2 rfl rfl)
theorem dX1_book_5 : decode cX1_book 5 = .ok (.iload_n 1, 1) := dk_27 (dk_at dksX1_book_0 5 rfl rfl)
theorem dX1_book_6 : decode cX1_book 6 = .ok (.iconst 5, 1) := dk_8 (dk_at dksX1_book_0 6 rfl rfl)
theorem dX1_book_7 : decode cX1_book 7 = .ok (.if_icmp .gt 14, 3) := dk_163 0 14 (dk_at dksX1_book_0 7 rfl rfl)
theorem dX1_book_10 : decode cX1_book 10 = .ok (.iload_n 2, 1) := dk_28 (dk_at dksX1_book_0 10 rfl rfl)
theorem dX1_book_11 : decode cX1_book 11 = .ok (.iconst 2, 1) := dk_5 (dk_at dksX1_book_0 11 rfl rfl)
theorem dX1_book_12 : decode cX1_book 12 = .ok (.if_icmp .lt 9, 3) := dk_161 0 9 (dk_at dksX1_book_0 12 rfl rfl)
theorem dX1_book_15 : decode cX1_book 15 = .ok (.iload_n 2, 1) := dk_28 (dk_at dksX1_book_0 15 rfl rfl)
theorem dX1_book_16 : decode cX1_book 16 = .ok (.bipush 6, 2) := dk_16 6 (dk_at dksX1_book_0 16 rfl rfl)
theorem dX1_book_18 : decode cX1_book 18 = .ok (.if_icmp .le 5, 3) := dk_164 0 5 (dk_at dksX1_book_0 18 rfl rfl)
theorem dX1_book_21 : decode cX1_book 21 = .ok (.iconst 0, 1) := dk_3 (dk_at dksX1_book_0 21 rfl rfl)
theorem dX1_book_22 : decode cX1_book 22 = .ok (.ireturn, 1) := dk_172 (dk_at dksX1_book_0 22 rfl rfl)
theorem dX1_book_23 : decode cX1_book 23 = .ok (.aload_n 0, 1) := dk_42 (dk_at dksX1_book_0 23 rfl rfl)
theorem dX1_book_24 : decode cX1_book 24 = .ok (.iload_n 1, 1) := dk_27 (dk_at dksX1_book_1 0 rfl rfl)
theorem dX1_book_25 : decode cX1_book 25 = .ok (.putfield 82, 3) := dk_181 0 82 (dk_at dksX1_book_1 1 rfl rfl)
theorem dX1_book_28 : decode cX1_book 28 = .ok (.aload_n 0, 1) := dk_42 (dk_at dksX1_book_1 4 rfl rfl)
theorem dX1_book_29 : decode cX1_book 29 = .ok (.iload_n 2, 1) := dk_28 (dk_at dksX1_book_1 5 rfl rfl)
theorem dX1_book_30 : decode cX1_book 30 = .ok (.putfield 85, 3) := dk_181 0 85 (dk_at dksX1_book_1 6 rfl rfl)
theorem dX1_book_33 : decode cX1_book 33 = .ok (.aload_n 0, 1) := dk_42 (dk_at dksX1_book_1 9 rfl rfl)
theorem dX1_book_34 : decode cX1_book 34 = .ok (.iconst 1, 1) := dk_4 (dk_at dksX1_book_1 10 rfl rfl)
theorem dX1_book_35 : decode cX1_book 35 = .ok (.putfield 88, 3) := dk_181 0 88 (dk_at dksX1_book_1 11 rfl rfl)
theorem dX1_book_38 : decode cX1_book 38 = .ok (.iconst 0, 1) := dk_3 (dk_at dksX1_book_1 14 rfl rfl)
theorem dX1_book_39 : decode cX1_book 39 = .ok (.istore_n 3, 1) := dk_62 (dk_at dksX1_book_1 15 rfl rfl)
theorem dX1_book_40 : decode cX1_book 40 = .ok (.iload_n 3, 1) := dk_29 (dk_at dksX1_book_1 16 rfl rfl)
theorem dX1_book_41 : decode cX1_book 41 = .ok (.iconst 5, 1) := dk_8 (dk_at dksX1_book_1 17 rfl rfl)
theorem dX1_book_42 : decode cX1_book 42 = .ok (.if_icmp .ge 17, 3) := dk_162 0 17 (dk_at dksX1_book_1 18 rfl rfl)
theorem dX1_book_45 : decode cX1_book 45 = .ok (.aload_n 0, 1) := dk_42 (dk_at dksX1_book_1 21 rfl rfl)
theorem dX1_book_46 : decode cX1_book 46 = .ok (.getfield 9, 3) := dk_180 0 9 (dk_at dksX1_book_2 0 rfl rfl)
theorem dX1_book_49 : decode cX1_book 49 = .ok (.iload_n 3, 1) := dk_29 (dk_at dksX1_book_2 3 rfl rfl)
theorem dX1_book_50 : decode cX1_book 50 = .ok (.bipush 10, 2) := dk_16 10 (dk_at dksX1_book_2 4 rfl rfl)
theorem dX1_book_52 : decode cX1_book 52 = .ok (.iastore, 1) := dk_79 (dk_at dksX1_book_2 6 rfl rfl)
theorem dX1_book_53 : decode cX1_book 53 = .ok (.iinc 3 1, 3) := dk_132 3 1 (dk_at dksX1_book_2 7 rfl rfl)
theorem dX1_book_56 : decode cX1_book 56 = .ok (.goto (-16), 3) := dk_167 255 240 (dk_at dksX1_book_2 10 rfl rfl)
theorem dX1_book_59 : decode cX1_book 59 = .ok (.iconst 0, 1) := dk_3 (dk_at dksX1_book_2 13 rfl rfl)
theorem dX1_book_60 : decode cX1_book 60 = .ok (.istore_n 3, 1) := dk_62 (dk_at dksX1_book_2 14 rfl rfl)
theorem dX1_book_61 : decode cX1_book 61 = .ok (.iload_n 3, 1) := dk_29 (dk_at dksX1_book_2 15 rfl rfl)
theorem dX1_book_62 : decode cX1_book 62 = .ok (.bipush 6, 2) := dk_16 6 (dk_at dksX1_book_2 16 rfl rfl)
theorem dX1_book_64 : decode cX1_book 64 = .ok (.if_icmp .ge 26, 3) := dk_162 0 26 (dk_at dksX1_book_2 18 rfl rfl)
theorem dX1_book_67 : decode cX1_book 67 = .ok (.aload_n 0, 1) := dk_42 (dk_at dksX1_book_2 21 rfl rfl)
theorem dX1_book_68 : decode cX1_book 68 = .ok (.getfield 13, 3) := dk_180 0 13 (dk_at dksX1_book_3 0 rfl rfl)
theorem dX1_book_71 : decode cX1_book 71 = .ok (.iload_n 3, 1) := dk_29 (dk_at dksX1_book_3 3 rfl rfl)
theorem dX1_book_72 : decode cX1_book 72 = .ok (.bipush 20, 2) := dk_16 20 (dk_at dksX1_book_3 4 rfl rfl)
theorem dX1_book_74 : decode cX1_book 74 = .ok (.iload_n 3, 1) := dk_29 (dk_at dksX1_book_3 6 rfl rfl)
theorem dX1_book_75 : decode cX1_book 75 = .ok (.imul, 1) := dk_104 (dk_at dksX1_book_3 7 rfl rfl)
theorem dX1_book_76 : decode cX1_book 76 = .ok (.iastore, 1) := dk_79 (dk_at dksX1_book_3 8 rfl rfl)
theorem dX1_book_77 : decode cX1_book 77 = .ok (.aload_n 0, 1) := dk_42 (dk_at dksX1_book_3 9 rfl rfl)
theorem dX1_book_78 : decode cX1_book 78 = .ok (.getfield 16, 3) := dk_180 0 16 (dk_at dksX1_book_3 10 rfl rfl)
theorem dX1_book_81 : decode cX1_book 81 = .ok (.iload_n 3, 1) := dk_29 (dk_at dksX1_book_3 13 rfl rfl)
theorem dX1_book_82 : decode cX1_book 82 = .ok (.iconst 0, 1) := dk_3 (dk_at dksX1_book_3 14 rfl rfl)
theorem dX1_book_83 : decode cX1_book 83 = .ok (.iastore, 1) := dk_79 (dk_at dksX1_book_3 15 rfl rfl)
theorem dX1_book_84 : decode cX1_book 84 = .ok (.iinc 3 1, 3) := dk_132 3 1 (dk_at dksX1_book_3 16 rfl rfl)
theorem dX1_book_87 : decode cX1_book 87 = .ok (.goto (-26), 3) := dk_167 255 230 (dk_at dksX1_book_3 19 rfl rfl)
theorem dX1_book_90 : decode cX1_book 90 = .ok (.aload_n 0, 1) := dk_42 (dk_at dksX1_book_3 22 rfl rfl)
theorem dX1_book_91 : decode cX1_book 91 = .ok (.getfield 28, 3) := dk_180 0 28 (dk_at dksX1_book_4 0 rfl rfl)
theorem dX1_book_94 : decode cX1_book 94 = .ok (.invokevirtual 91, 3) := dk_182 0 91 (dk_at dksX1_book_4 3 rfl rfl)
theorem dX1_book_97 : decode cX1_book 97 = .ok (.aload_n 0, 1) := dk_42 (dk_at dksX1_book_4 6 rfl rfl)
theorem dX1_book_98 : decode cX1_book 98 = .ok (.getfield 39, 3) := dk_180 0 39 (dk_at dksX1_book_4 7 rfl rfl)
theorem dX1_book_101 : decode cX1_book 101 = .ok (.invokevirtual 91, 3) := dk_182 0 91 (dk_at dksX1_book_4 10 rfl rfl)
theorem dX1_book_104 : decode cX1_book 104 = .ok (.aload_n 0, 1) := dk_42 (dk_at dksX1_book_4 13 rfl rfl)
theorem dX1_book_105 : decode cX1_book 105 = .ok (.invokevirtual 94, 3) := dk_182 0 94 (dk_at dksX1_book_4 14 rfl rfl)
theorem dX1_book_108 : decode cX1_book 108 = .ok (.iconst 1, 1) := dk_4 (dk_at dksX1_book_4 17 rfl rfl)
theorem dX1_book_109 : decode cX1_book 109 = .ok (.ireturn, 1) := dk_172 (dk_at dksX1_book_4 18 rfl rfl)
abbrev cX1_makes : ByteArray := prog_1_method_5_code
def yX1_makes : MethodName := ⟨RX1, "makes", "()V"⟩
def dkwX1_makes_6 : List UInt8 := [167, 255, 215, 132, 1, 1, 167, 255, 119, 177]
abbrev dktX1_makes_6 : List UInt8 := dkwX1_makes_6 ++ []
def dkwX1_makes_5 : List UInt8 := [160, 0, 21, 42, 180, 0, 24, 187, 0, 97, 89, 27, 28, 5, 183, 0, 99, 182, 0, 102, 87, 132, 2, 1]
abbrev dktX1_makes_5 : List UInt8 := dkwX1_makes_5 ++ dktX1_makes_6
def dkwX1_makes_4 : List UInt8 := [167, 255, 217, 3, 61, 28, 4, 96, 42, 180, 0, 85, 162, 0, 37, 42, 180, 0, 16, 28, 46, 6]
abbrev dktX1_makes_4 : List UInt8 := dkwX1_makes_4 ++ dktX1_makes_5
def dkwX1_makes_3 : List UInt8 := [160, 0, 21, 42, 180, 0, 24, 187, 0, 97, 89, 27, 28, 4, 183, 0, 99, 182, 0, 102, 87, 132, 2, 1]
abbrev dktX1_makes_3 : List UInt8 := dkwX1_makes_3 ++ dktX1_makes_4
def dkwX1_makes_2 : List UInt8 := [132, 2, 1, 167, 255, 225, 3, 61, 28, 42, 180, 0, 85, 162, 0, 37, 42, 180, 0, 16, 28, 46, 5]
abbrev dktX1_makes_2 : List UInt8 := dkwX1_makes_2 ++ dktX1_makes_3
def dkwX1_makes_1 : List UInt8 := [180, 0, 85, 162, 0, 27, 42, 180, 0, 24, 187, 0, 97, 89, 27, 28, 3, 183, 0, 99, 182, 0, 102, 87]
abbrev dktX1_makes_1 : List UInt8 := dkwX1_makes_1 ++ dktX1_makes_2
def dkwX1_makes_0 : List UInt8 := [42, 180, 0, 24, 182, 0, 91, 3, 60, 27, 42, 180, 0, 82, 162, 0, 135, 3, 61, 28, 4, 96, 42]
abbrev dktX1_makes_0 : List UInt8 := dkwX1_makes_0 ++ dktX1_makes_1
theorem dksX1_makes_0 : cX1_makes.data.toList.drop 0 = dktX1_makes_0 := by decide +kernel
theorem dksX1_makes_1 : cX1_makes.data.toList.drop 23 = dktX1_makes_1 := dk_seg dksX1_makes_0 23 rfl rfl
theorem dksX1_makes_2 : cX1_makes.data.toList.drop 47 = dktX1_makes_2 := dk_seg dksX1_makes_1 24 rfl rfl
theorem dksX1_makes_3 : cX1_makes.data.toList.drop 70 = dktX1_makes_3 := dk_seg dksX1_makes_2 23 rfl rfl
theorem dksX1_makes_4 : cX1_makes.data.toList.drop 94 = dktX1_makes_4 := dk_seg dksX1_makes_3 24 rfl rfl
theorem dksX1_makes_5 : cX1_makes.data.toList.drop 116 = dktX1_makes_5 := dk_seg dksX1_makes_4 22 rfl rfl
theorem dksX1_makes_6 : cX1_makes.data.toList.drop 140 = dktX1_makes_6 := dk_seg dksX1_makes_5 24 rfl rfl
theorem dX1_makes_0 : decode cX1_makes 0 = .ok (.aload_n 0, 1) := dk_42 (dk_at dksX1_makes_0 0 rfl rfl)
theorem dX1_makes_1 : decode cX1_makes 1 = .ok (.getfield 24, 3) := dk_180 0 24 (dk_at dksX1_makes_0 1 rfl rfl)
theorem dX1_makes_4 : decode cX1_makes 4 = .ok (.invokevirtual 91, 3) := dk_182 0 91 (dk_at dksX1_makes_0 4 rfl rfl)
theorem dX1_makes_7 : decode cX1_makes 7 = .ok (.iconst 0, 1) := dk_3 (dk_at dksX1_makes_0 7 rfl rfl)
theorem dX1_makes_8 : decode cX1_makes 8 = .ok (.istore_n 1, 1) := dk_60 (dk_at dksX1_makes_0 8 rfl rfl)
theorem dX1_makes_9 : decode cX1_makes 9 = .ok (.iload_n 1, 1) := dk_27 (dk_at dksX1_makes_0 9 rfl rfl)
theorem dX1_makes_10 : decode cX1_makes 10 = .ok (.aload_n 0, 1) := dk_42 (dk_at dksX1_makes_0 10 rfl rfl)
theorem dX1_makes_11 : decode cX1_makes 11 = .ok (.getfield 82, 3) := dk_180 0 82 (dk_at dksX1_makes_0 11 rfl rfl)
theorem dX1_makes_14 : decode cX1_makes 14 = .ok (.if_icmp .ge 135, 3) := dk_162 0 135 (dk_at dksX1_makes_0 14 rfl rfl)
theorem dX1_makes_17 : decode cX1_makes 17 = .ok (.iconst 0, 1) := dk_3 (dk_at dksX1_makes_0 17 rfl rfl)
theorem dX1_makes_18 : decode cX1_makes 18 = .ok (.istore_n 2, 1) := dk_61 (dk_at dksX1_makes_0 18 rfl rfl)
theorem dX1_makes_19 : decode cX1_makes 19 = .ok (.iload_n 2, 1) := dk_28 (dk_at dksX1_makes_0 19 rfl rfl)
theorem dX1_makes_20 : decode cX1_makes 20 = .ok (.iconst 1, 1) := dk_4 (dk_at dksX1_makes_0 20 rfl rfl)
theorem dX1_makes_21 : decode cX1_makes 21 = .ok (.iadd, 1) := dk_96 (dk_at dksX1_makes_0 21 rfl rfl)
theorem dX1_makes_22 : decode cX1_makes 22 = .ok (.aload_n 0, 1) := dk_42 (dk_at dksX1_makes_0 22 rfl rfl)
theorem dX1_makes_23 : decode cX1_makes 23 = .ok (.getfield 85, 3) := dk_180 0 85 (dk_at dksX1_makes_1 0 rfl rfl)
theorem dX1_makes_26 : decode cX1_makes 26 = .ok (.if_icmp .ge 27, 3) := dk_162 0 27 (dk_at dksX1_makes_1 3 rfl rfl)
theorem dX1_makes_29 : decode cX1_makes 29 = .ok (.aload_n 0, 1) := dk_42 (dk_at dksX1_makes_1 6 rfl rfl)
theorem dX1_makes_30 : decode cX1_makes 30 = .ok (.getfield 24, 3) := dk_180 0 24 (dk_at dksX1_makes_1 7 rfl rfl)
theorem dX1_makes_33 : decode cX1_makes 33 = .ok (.new 97, 3) := dk_187 0 97 (dk_at dksX1_makes_1 10 rfl rfl)
theorem dX1_makes_36 : decode cX1_makes 36 = .ok (.dup, 1) := dk_89 (dk_at dksX1_makes_1 13 rfl rfl)
theorem dX1_makes_37 : decode cX1_makes 37 = .ok (.iload_n 1, 1) := dk_27 (dk_at dksX1_makes_1 14 rfl rfl)
theorem dX1_makes_38 : decode cX1_makes 38 = .ok (.iload_n 2, 1) := dk_28 (dk_at dksX1_makes_1 15 rfl rfl)
theorem dX1_makes_39 : decode cX1_makes 39 = .ok (.iconst 0, 1) := dk_3 (dk_at dksX1_makes_1 16 rfl rfl)
theorem dX1_makes_40 : decode cX1_makes 40 = .ok (.invokespecial 99, 3) := dk_183 0 99 (dk_at dksX1_makes_1 17 rfl rfl)
theorem dX1_makes_43 : decode cX1_makes 43 = .ok (.invokevirtual 102, 3) := dk_182 0 102 (dk_at dksX1_makes_1 20 rfl rfl)
theorem dX1_makes_46 : decode cX1_makes 46 = .ok (.pop, 1) := dk_87 (dk_at dksX1_makes_1 23 rfl rfl)
theorem dX1_makes_47 : decode cX1_makes 47 = .ok (.iinc 2 1, 3) := dk_132 2 1 (dk_at dksX1_makes_2 0 rfl rfl)
theorem dX1_makes_50 : decode cX1_makes 50 = .ok (.goto (-31), 3) := dk_167 255 225 (dk_at dksX1_makes_2 3 rfl rfl)
theorem dX1_makes_53 : decode cX1_makes 53 = .ok (.iconst 0, 1) := dk_3 (dk_at dksX1_makes_2 6 rfl rfl)
theorem dX1_makes_54 : decode cX1_makes 54 = .ok (.istore_n 2, 1) := dk_61 (dk_at dksX1_makes_2 7 rfl rfl)
theorem dX1_makes_55 : decode cX1_makes 55 = .ok (.iload_n 2, 1) := dk_28 (dk_at dksX1_makes_2 8 rfl rfl)
theorem dX1_makes_56 : decode cX1_makes 56 = .ok (.aload_n 0, 1) := dk_42 (dk_at dksX1_makes_2 9 rfl rfl)
theorem dX1_makes_57 : decode cX1_makes 57 = .ok (.getfield 85, 3) := dk_180 0 85 (dk_at dksX1_makes_2 10 rfl rfl)
theorem dX1_makes_60 : decode cX1_makes 60 = .ok (.if_icmp .ge 37, 3) := dk_162 0 37 (dk_at dksX1_makes_2 13 rfl rfl)
theorem dX1_makes_63 : decode cX1_makes 63 = .ok (.aload_n 0, 1) := dk_42 (dk_at dksX1_makes_2 16 rfl rfl)
theorem dX1_makes_64 : decode cX1_makes 64 = .ok (.getfield 16, 3) := dk_180 0 16 (dk_at dksX1_makes_2 17 rfl rfl)
theorem dX1_makes_67 : decode cX1_makes 67 = .ok (.iload_n 2, 1) := dk_28 (dk_at dksX1_makes_2 20 rfl rfl)
theorem dX1_makes_68 : decode cX1_makes 68 = .ok (.iaload, 1) := dk_46 (dk_at dksX1_makes_2 21 rfl rfl)
theorem dX1_makes_69 : decode cX1_makes 69 = .ok (.iconst 2, 1) := dk_5 (dk_at dksX1_makes_2 22 rfl rfl)
theorem dX1_makes_70 : decode cX1_makes 70 = .ok (.if_icmp .ne 21, 3) := dk_160 0 21 (dk_at dksX1_makes_3 0 rfl rfl)
theorem dX1_makes_73 : decode cX1_makes 73 = .ok (.aload_n 0, 1) := dk_42 (dk_at dksX1_makes_3 3 rfl rfl)
theorem dX1_makes_74 : decode cX1_makes 74 = .ok (.getfield 24, 3) := dk_180 0 24 (dk_at dksX1_makes_3 4 rfl rfl)
theorem dX1_makes_77 : decode cX1_makes 77 = .ok (.new 97, 3) := dk_187 0 97 (dk_at dksX1_makes_3 7 rfl rfl)
theorem dX1_makes_80 : decode cX1_makes 80 = .ok (.dup, 1) := dk_89 (dk_at dksX1_makes_3 10 rfl rfl)
theorem dX1_makes_81 : decode cX1_makes 81 = .ok (.iload_n 1, 1) := dk_27 (dk_at dksX1_makes_3 11 rfl rfl)
theorem dX1_makes_82 : decode cX1_makes 82 = .ok (.iload_n 2, 1) := dk_28 (dk_at dksX1_makes_3 12 rfl rfl)
theorem dX1_makes_83 : decode cX1_makes 83 = .ok (.iconst 1, 1) := dk_4 (dk_at dksX1_makes_3 13 rfl rfl)
theorem dX1_makes_84 : decode cX1_makes 84 = .ok (.invokespecial 99, 3) := dk_183 0 99 (dk_at dksX1_makes_3 14 rfl rfl)
theorem dX1_makes_87 : decode cX1_makes 87 = .ok (.invokevirtual 102, 3) := dk_182 0 102 (dk_at dksX1_makes_3 17 rfl rfl)
theorem dX1_makes_90 : decode cX1_makes 90 = .ok (.pop, 1) := dk_87 (dk_at dksX1_makes_3 20 rfl rfl)
theorem dX1_makes_91 : decode cX1_makes 91 = .ok (.iinc 2 1, 3) := dk_132 2 1 (dk_at dksX1_makes_3 21 rfl rfl)
theorem dX1_makes_94 : decode cX1_makes 94 = .ok (.goto (-39), 3) := dk_167 255 217 (dk_at dksX1_makes_4 0 rfl rfl)
theorem dX1_makes_97 : decode cX1_makes 97 = .ok (.iconst 0, 1) := dk_3 (dk_at dksX1_makes_4 3 rfl rfl)
theorem dX1_makes_98 : decode cX1_makes 98 = .ok (.istore_n 2, 1) := dk_61 (dk_at dksX1_makes_4 4 rfl rfl)
theorem dX1_makes_99 : decode cX1_makes 99 = .ok (.iload_n 2, 1) := dk_28 (dk_at dksX1_makes_4 5 rfl rfl)
theorem dX1_makes_100 : decode cX1_makes 100 = .ok (.iconst 1, 1) := dk_4 (dk_at dksX1_makes_4 6 rfl rfl)
theorem dX1_makes_101 : decode cX1_makes 101 = .ok (.iadd, 1) := dk_96 (dk_at dksX1_makes_4 7 rfl rfl)
theorem dX1_makes_102 : decode cX1_makes 102 = .ok (.aload_n 0, 1) := dk_42 (dk_at dksX1_makes_4 8 rfl rfl)
theorem dX1_makes_103 : decode cX1_makes 103 = .ok (.getfield 85, 3) := dk_180 0 85 (dk_at dksX1_makes_4 9 rfl rfl)
theorem dX1_makes_106 : decode cX1_makes 106 = .ok (.if_icmp .ge 37, 3) := dk_162 0 37 (dk_at dksX1_makes_4 12 rfl rfl)
theorem dX1_makes_109 : decode cX1_makes 109 = .ok (.aload_n 0, 1) := dk_42 (dk_at dksX1_makes_4 15 rfl rfl)
theorem dX1_makes_110 : decode cX1_makes 110 = .ok (.getfield 16, 3) := dk_180 0 16 (dk_at dksX1_makes_4 16 rfl rfl)
theorem dX1_makes_113 : decode cX1_makes 113 = .ok (.iload_n 2, 1) := dk_28 (dk_at dksX1_makes_4 19 rfl rfl)
theorem dX1_makes_114 : decode cX1_makes 114 = .ok (.iaload, 1) := dk_46 (dk_at dksX1_makes_4 20 rfl rfl)
theorem dX1_makes_115 : decode cX1_makes 115 = .ok (.iconst 3, 1) := dk_6 (dk_at dksX1_makes_4 21 rfl rfl)
theorem dX1_makes_116 : decode cX1_makes 116 = .ok (.if_icmp .ne 21, 3) := dk_160 0 21 (dk_at dksX1_makes_5 0 rfl rfl)
theorem dX1_makes_119 : decode cX1_makes 119 = .ok (.aload_n 0, 1) := dk_42 (dk_at dksX1_makes_5 3 rfl rfl)
theorem dX1_makes_120 : decode cX1_makes 120 = .ok (.getfield 24, 3) := dk_180 0 24 (dk_at dksX1_makes_5 4 rfl rfl)
theorem dX1_makes_123 : decode cX1_makes 123 = .ok (.new 97, 3) := dk_187 0 97 (dk_at dksX1_makes_5 7 rfl rfl)
theorem dX1_makes_126 : decode cX1_makes 126 = .ok (.dup, 1) := dk_89 (dk_at dksX1_makes_5 10 rfl rfl)
theorem dX1_makes_127 : decode cX1_makes 127 = .ok (.iload_n 1, 1) := dk_27 (dk_at dksX1_makes_5 11 rfl rfl)
theorem dX1_makes_128 : decode cX1_makes 128 = .ok (.iload_n 2, 1) := dk_28 (dk_at dksX1_makes_5 12 rfl rfl)
theorem dX1_makes_129 : decode cX1_makes 129 = .ok (.iconst 2, 1) := dk_5 (dk_at dksX1_makes_5 13 rfl rfl)
theorem dX1_makes_130 : decode cX1_makes 130 = .ok (.invokespecial 99, 3) := dk_183 0 99 (dk_at dksX1_makes_5 14 rfl rfl)
theorem dX1_makes_133 : decode cX1_makes 133 = .ok (.invokevirtual 102, 3) := dk_182 0 102 (dk_at dksX1_makes_5 17 rfl rfl)
theorem dX1_makes_136 : decode cX1_makes 136 = .ok (.pop, 1) := dk_87 (dk_at dksX1_makes_5 20 rfl rfl)
theorem dX1_makes_137 : decode cX1_makes 137 = .ok (.iinc 2 1, 3) := dk_132 2 1 (dk_at dksX1_makes_5 21 rfl rfl)
theorem dX1_makes_140 : decode cX1_makes 140 = .ok (.goto (-41), 3) := dk_167 255 215 (dk_at dksX1_makes_6 0 rfl rfl)
theorem dX1_makes_143 : decode cX1_makes 143 = .ok (.iinc 1 1, 3) := dk_132 1 1 (dk_at dksX1_makes_6 3 rfl rfl)
theorem dX1_makes_146 : decode cX1_makes 146 = .ok (.goto (-137), 3) := dk_167 255 119 (dk_at dksX1_makes_6 6 rfl rfl)
theorem dX1_makes_149 : decode cX1_makes 149 = .ok (.return_, 1) := dk_177 (dk_at dksX1_makes_6 9 rfl rfl)
abbrev cX1_thread : ByteArray := prog_1_method_11_code
def yX1_thread : MethodName := ⟨RX1, "thread", "(I)Z"⟩
def dkwX1_thread_1 : List UInt8 := [181, 0, 88, 4, 172]
abbrev dktX1_thread_1 : List UInt8 := dkwX1_thread_1 ++ []
def dkwX1_thread_0 : List UInt8 := [42, 180, 0, 28, 182, 0, 110, 157, 0, 13, 27, 155, 0, 9, 27, 16, 9, 164, 0, 5, 3, 172, 42, 27]
abbrev dktX1_thread_0 : List UInt8 := dkwX1_thread_0 ++ dktX1_thread_1
theorem dksX1_thread_0 : cX1_thread.data.toList.drop 0 = dktX1_thread_0 := by decide +kernel
theorem dksX1_thread_1 : cX1_thread.data.toList.drop 24 = dktX1_thread_1 := dk_seg dksX1_thread_0 24 rfl rfl
theorem dX1_thread_0 : decode cX1_thread 0 = .ok (.aload_n 0, 1) := dk_42 (dk_at dksX1_thread_0 0 rfl rfl)
theorem dX1_thread_1 : decode cX1_thread 1 = .ok (.getfield 28, 3) := dk_180 0 28 (dk_at dksX1_thread_0 1 rfl rfl)
theorem dX1_thread_4 : decode cX1_thread 4 = .ok (.invokevirtual 110, 3) := dk_182 0 110 (dk_at dksX1_thread_0 4 rfl rfl)
theorem dX1_thread_7 : decode cX1_thread 7 = .ok (.ifCond .gt 13, 3) := dk_157 0 13 (dk_at dksX1_thread_0 7 rfl rfl)
theorem dX1_thread_10 : decode cX1_thread 10 = .ok (.iload_n 1, 1) := dk_27 (dk_at dksX1_thread_0 10 rfl rfl)
theorem dX1_thread_11 : decode cX1_thread 11 = .ok (.ifCond .lt 9, 3) := dk_155 0 9 (dk_at dksX1_thread_0 11 rfl rfl)
theorem dX1_thread_14 : decode cX1_thread 14 = .ok (.iload_n 1, 1) := dk_27 (dk_at dksX1_thread_0 14 rfl rfl)
theorem dX1_thread_15 : decode cX1_thread 15 = .ok (.bipush 9, 2) := dk_16 9 (dk_at dksX1_thread_0 15 rfl rfl)
theorem dX1_thread_17 : decode cX1_thread 17 = .ok (.if_icmp .le 5, 3) := dk_164 0 5 (dk_at dksX1_thread_0 17 rfl rfl)
theorem dX1_thread_20 : decode cX1_thread 20 = .ok (.iconst 0, 1) := dk_3 (dk_at dksX1_thread_0 20 rfl rfl)
theorem dX1_thread_21 : decode cX1_thread 21 = .ok (.ireturn, 1) := dk_172 (dk_at dksX1_thread_0 21 rfl rfl)
theorem dX1_thread_22 : decode cX1_thread 22 = .ok (.aload_n 0, 1) := dk_42 (dk_at dksX1_thread_0 22 rfl rfl)
theorem dX1_thread_23 : decode cX1_thread 23 = .ok (.iload_n 1, 1) := dk_27 (dk_at dksX1_thread_0 23 rfl rfl)
theorem dX1_thread_24 : decode cX1_thread 24 = .ok (.putfield 88, 3) := dk_181 0 88 (dk_at dksX1_thread_1 0 rfl rfl)
theorem dX1_thread_27 : decode cX1_thread 27 = .ok (.iconst 1, 1) := dk_4 (dk_at dksX1_thread_1 3 rfl rfl)
theorem dX1_thread_28 : decode cX1_thread 28 = .ok (.ireturn, 1) := dk_172 (dk_at dksX1_thread_1 4 rfl rfl)
abbrev cX1_heights : ByteArray := prog_1_method_12_code
def yX1_heights : MethodName := ⟨RX1, "heights", "(II)Z"⟩
def dkwX1_heights_6 : List UInt8 := [100, 104, 122, 17, 1, 255, 126, 79, 132, 5, 1, 167, 255, 203, 21, 4, 172]
abbrev dktX1_heights_6 : List UInt8 := dkwX1_heights_6 ++ []
def dkwX1_heights_5 : List UInt8 := [21, 5, 21, 5, 6, 162, 0, 13, 27, 16, 9, 21, 5, 104, 122, 167, 0, 12, 28, 16, 9, 21, 5, 6]
abbrev dktX1_heights_5 : List UInt8 := dkwX1_heights_5 ++ dktX1_heights_6
def dkwX1_heights_4 : List UInt8 := [167, 255, 184, 3, 54, 5, 21, 5, 42, 180, 0, 85, 162, 0, 50, 21, 4, 153, 0, 45, 42, 180, 0, 13]
abbrev dktX1_heights_4 : List UInt8 := dkwX1_heights_4 ++ dktX1_heights_5
def dkwX1_heights_3 : List UInt8 := [164, 0, 15, 21, 6, 17, 1, 144, 163, 0, 7, 4, 167, 0, 4, 3, 54, 4, 21, 6, 62, 132, 5, 1]
abbrev dktX1_heights_3 : List UInt8 := dkwX1_heights_3 ++ dktX1_heights_4
def dkwX1_heights_2 : List UInt8 := [16, 9, 21, 5, 6, 100, 104, 122, 17, 1, 255, 126, 54, 6, 21, 4, 153, 0, 21, 21, 6, 29]
abbrev dktX1_heights_2 : List UInt8 := dkwX1_heights_2 ++ dktX1_heights_3
def dkwX1_heights_1 : List UInt8 := [42, 180, 0, 85, 162, 0, 69, 21, 5, 6, 162, 0, 13, 27, 16, 9, 21, 5, 104, 122, 167, 0, 12, 28]
abbrev dktX1_heights_1 : List UInt8 := dkwX1_heights_1 ++ dktX1_heights_2
def dkwX1_heights_0 : List UInt8 := [2, 62, 42, 180, 0, 28, 182, 0, 110, 154, 0, 7, 4, 167, 0, 4, 3, 54, 4, 3, 54, 5, 21, 5]
abbrev dktX1_heights_0 : List UInt8 := dkwX1_heights_0 ++ dktX1_heights_1
theorem dksX1_heights_0 : cX1_heights.data.toList.drop 0 = dktX1_heights_0 := by decide +kernel
theorem dksX1_heights_1 : cX1_heights.data.toList.drop 24 = dktX1_heights_1 := dk_seg dksX1_heights_0 24 rfl rfl
theorem dksX1_heights_2 : cX1_heights.data.toList.drop 48 = dktX1_heights_2 := dk_seg dksX1_heights_1 24 rfl rfl
theorem dksX1_heights_3 : cX1_heights.data.toList.drop 70 = dktX1_heights_3 := dk_seg dksX1_heights_2 22 rfl rfl
theorem dksX1_heights_4 : cX1_heights.data.toList.drop 94 = dktX1_heights_4 := dk_seg dksX1_heights_3 24 rfl rfl
theorem dksX1_heights_5 : cX1_heights.data.toList.drop 118 = dktX1_heights_5 := dk_seg dksX1_heights_4 24 rfl rfl
theorem dksX1_heights_6 : cX1_heights.data.toList.drop 142 = dktX1_heights_6 := dk_seg dksX1_heights_5 24 rfl rfl
theorem dX1_heights_0 : decode cX1_heights 0 = .ok (.iconst (-1), 1) := dk_2 (dk_at dksX1_heights_0 0 rfl rfl)
theorem dX1_heights_1 : decode cX1_heights 1 = .ok (.istore_n 3, 1) := dk_62 (dk_at dksX1_heights_0 1 rfl rfl)
theorem dX1_heights_2 : decode cX1_heights 2 = .ok (.aload_n 0, 1) := dk_42 (dk_at dksX1_heights_0 2 rfl rfl)
theorem dX1_heights_3 : decode cX1_heights 3 = .ok (.getfield 28, 3) := dk_180 0 28 (dk_at dksX1_heights_0 3 rfl rfl)
theorem dX1_heights_6 : decode cX1_heights 6 = .ok (.invokevirtual 110, 3) := dk_182 0 110 (dk_at dksX1_heights_0 6 rfl rfl)
theorem dX1_heights_9 : decode cX1_heights 9 = .ok (.ifCond .ne 7, 3) := dk_154 0 7 (dk_at dksX1_heights_0 9 rfl rfl)
theorem dX1_heights_12 : decode cX1_heights 12 = .ok (.iconst 1, 1) := dk_4 (dk_at dksX1_heights_0 12 rfl rfl)
theorem dX1_heights_13 : decode cX1_heights 13 = .ok (.goto 4, 3) := dk_167 0 4 (dk_at dksX1_heights_0 13 rfl rfl)
theorem dX1_heights_16 : decode cX1_heights 16 = .ok (.iconst 0, 1) := dk_3 (dk_at dksX1_heights_0 16 rfl rfl)
theorem dX1_heights_17 : decode cX1_heights 17 = .ok (.istore 4, 2) := dk_54 4 (dk_at dksX1_heights_0 17 rfl rfl)
theorem dX1_heights_19 : decode cX1_heights 19 = .ok (.iconst 0, 1) := dk_3 (dk_at dksX1_heights_0 19 rfl rfl)
theorem dX1_heights_20 : decode cX1_heights 20 = .ok (.istore 5, 2) := dk_54 5 (dk_at dksX1_heights_0 20 rfl rfl)
theorem dX1_heights_22 : decode cX1_heights 22 = .ok (.iload 5, 2) := dk_21 5 (dk_at dksX1_heights_0 22 rfl rfl)
theorem dX1_heights_24 : decode cX1_heights 24 = .ok (.aload_n 0, 1) := dk_42 (dk_at dksX1_heights_1 0 rfl rfl)
theorem dX1_heights_25 : decode cX1_heights 25 = .ok (.getfield 85, 3) := dk_180 0 85 (dk_at dksX1_heights_1 1 rfl rfl)
theorem dX1_heights_28 : decode cX1_heights 28 = .ok (.if_icmp .ge 69, 3) := dk_162 0 69 (dk_at dksX1_heights_1 4 rfl rfl)
theorem dX1_heights_31 : decode cX1_heights 31 = .ok (.iload 5, 2) := dk_21 5 (dk_at dksX1_heights_1 7 rfl rfl)
theorem dX1_heights_33 : decode cX1_heights 33 = .ok (.iconst 3, 1) := dk_6 (dk_at dksX1_heights_1 9 rfl rfl)
theorem dX1_heights_34 : decode cX1_heights 34 = .ok (.if_icmp .ge 13, 3) := dk_162 0 13 (dk_at dksX1_heights_1 10 rfl rfl)
theorem dX1_heights_37 : decode cX1_heights 37 = .ok (.iload_n 1, 1) := dk_27 (dk_at dksX1_heights_1 13 rfl rfl)
theorem dX1_heights_38 : decode cX1_heights 38 = .ok (.bipush 9, 2) := dk_16 9 (dk_at dksX1_heights_1 14 rfl rfl)
theorem dX1_heights_40 : decode cX1_heights 40 = .ok (.iload 5, 2) := dk_21 5 (dk_at dksX1_heights_1 16 rfl rfl)
theorem dX1_heights_42 : decode cX1_heights 42 = .ok (.imul, 1) := dk_104 (dk_at dksX1_heights_1 18 rfl rfl)
theorem dX1_heights_43 : decode cX1_heights 43 = .ok (.ishr, 1) := dk_122 (dk_at dksX1_heights_1 19 rfl rfl)
theorem dX1_heights_44 : decode cX1_heights 44 = .ok (.goto 12, 3) := dk_167 0 12 (dk_at dksX1_heights_1 20 rfl rfl)
theorem dX1_heights_47 : decode cX1_heights 47 = .ok (.iload_n 2, 1) := dk_28 (dk_at dksX1_heights_1 23 rfl rfl)
theorem dX1_heights_48 : decode cX1_heights 48 = .ok (.bipush 9, 2) := dk_16 9 (dk_at dksX1_heights_2 0 rfl rfl)
theorem dX1_heights_50 : decode cX1_heights 50 = .ok (.iload 5, 2) := dk_21 5 (dk_at dksX1_heights_2 2 rfl rfl)
theorem dX1_heights_52 : decode cX1_heights 52 = .ok (.iconst 3, 1) := dk_6 (dk_at dksX1_heights_2 4 rfl rfl)
theorem dX1_heights_53 : decode cX1_heights 53 = .ok (.isub, 1) := dk_100 (dk_at dksX1_heights_2 5 rfl rfl)
theorem dX1_heights_54 : decode cX1_heights 54 = .ok (.imul, 1) := dk_104 (dk_at dksX1_heights_2 6 rfl rfl)
theorem dX1_heights_55 : decode cX1_heights 55 = .ok (.ishr, 1) := dk_122 (dk_at dksX1_heights_2 7 rfl rfl)
theorem dX1_heights_56 : decode cX1_heights 56 = .ok (.sipush 511, 3) := dk_17 1 255 (dk_at dksX1_heights_2 8 rfl rfl)
theorem dX1_heights_59 : decode cX1_heights 59 = .ok (.iand, 1) := dk_126 (dk_at dksX1_heights_2 11 rfl rfl)
theorem dX1_heights_60 : decode cX1_heights 60 = .ok (.istore 6, 2) := dk_54 6 (dk_at dksX1_heights_2 12 rfl rfl)
theorem dX1_heights_62 : decode cX1_heights 62 = .ok (.iload 4, 2) := dk_21 4 (dk_at dksX1_heights_2 14 rfl rfl)
theorem dX1_heights_64 : decode cX1_heights 64 = .ok (.ifCond .eq 21, 3) := dk_153 0 21 (dk_at dksX1_heights_2 16 rfl rfl)
theorem dX1_heights_67 : decode cX1_heights 67 = .ok (.iload 6, 2) := dk_21 6 (dk_at dksX1_heights_2 19 rfl rfl)
theorem dX1_heights_69 : decode cX1_heights 69 = .ok (.iload_n 3, 1) := dk_29 (dk_at dksX1_heights_2 21 rfl rfl)
theorem dX1_heights_70 : decode cX1_heights 70 = .ok (.if_icmp .le 15, 3) := dk_164 0 15 (dk_at dksX1_heights_3 0 rfl rfl)
theorem dX1_heights_73 : decode cX1_heights 73 = .ok (.iload 6, 2) := dk_21 6 (dk_at dksX1_heights_3 3 rfl rfl)
theorem dX1_heights_75 : decode cX1_heights 75 = .ok (.sipush 400, 3) := dk_17 1 144 (dk_at dksX1_heights_3 5 rfl rfl)
theorem dX1_heights_78 : decode cX1_heights 78 = .ok (.if_icmp .gt 7, 3) := dk_163 0 7 (dk_at dksX1_heights_3 8 rfl rfl)
theorem dX1_heights_81 : decode cX1_heights 81 = .ok (.iconst 1, 1) := dk_4 (dk_at dksX1_heights_3 11 rfl rfl)
theorem dX1_heights_82 : decode cX1_heights 82 = .ok (.goto 4, 3) := dk_167 0 4 (dk_at dksX1_heights_3 12 rfl rfl)
theorem dX1_heights_85 : decode cX1_heights 85 = .ok (.iconst 0, 1) := dk_3 (dk_at dksX1_heights_3 15 rfl rfl)
theorem dX1_heights_86 : decode cX1_heights 86 = .ok (.istore 4, 2) := dk_54 4 (dk_at dksX1_heights_3 16 rfl rfl)
theorem dX1_heights_88 : decode cX1_heights 88 = .ok (.iload 6, 2) := dk_21 6 (dk_at dksX1_heights_3 18 rfl rfl)
theorem dX1_heights_90 : decode cX1_heights 90 = .ok (.istore_n 3, 1) := dk_62 (dk_at dksX1_heights_3 20 rfl rfl)
theorem dX1_heights_91 : decode cX1_heights 91 = .ok (.iinc 5 1, 3) := dk_132 5 1 (dk_at dksX1_heights_3 21 rfl rfl)
theorem dX1_heights_94 : decode cX1_heights 94 = .ok (.goto (-72), 3) := dk_167 255 184 (dk_at dksX1_heights_4 0 rfl rfl)
theorem dX1_heights_97 : decode cX1_heights 97 = .ok (.iconst 0, 1) := dk_3 (dk_at dksX1_heights_4 3 rfl rfl)
theorem dX1_heights_98 : decode cX1_heights 98 = .ok (.istore 5, 2) := dk_54 5 (dk_at dksX1_heights_4 4 rfl rfl)
theorem dX1_heights_100 : decode cX1_heights 100 = .ok (.iload 5, 2) := dk_21 5 (dk_at dksX1_heights_4 6 rfl rfl)
theorem dX1_heights_102 : decode cX1_heights 102 = .ok (.aload_n 0, 1) := dk_42 (dk_at dksX1_heights_4 8 rfl rfl)
theorem dX1_heights_103 : decode cX1_heights 103 = .ok (.getfield 85, 3) := dk_180 0 85 (dk_at dksX1_heights_4 9 rfl rfl)
theorem dX1_heights_106 : decode cX1_heights 106 = .ok (.if_icmp .ge 50, 3) := dk_162 0 50 (dk_at dksX1_heights_4 12 rfl rfl)
theorem dX1_heights_109 : decode cX1_heights 109 = .ok (.iload 4, 2) := dk_21 4 (dk_at dksX1_heights_4 15 rfl rfl)
theorem dX1_heights_111 : decode cX1_heights 111 = .ok (.ifCond .eq 45, 3) := dk_153 0 45 (dk_at dksX1_heights_4 17 rfl rfl)
theorem dX1_heights_114 : decode cX1_heights 114 = .ok (.aload_n 0, 1) := dk_42 (dk_at dksX1_heights_4 20 rfl rfl)
theorem dX1_heights_115 : decode cX1_heights 115 = .ok (.getfield 13, 3) := dk_180 0 13 (dk_at dksX1_heights_4 21 rfl rfl)
theorem dX1_heights_118 : decode cX1_heights 118 = .ok (.iload 5, 2) := dk_21 5 (dk_at dksX1_heights_5 0 rfl rfl)
theorem dX1_heights_120 : decode cX1_heights 120 = .ok (.iload 5, 2) := dk_21 5 (dk_at dksX1_heights_5 2 rfl rfl)
theorem dX1_heights_122 : decode cX1_heights 122 = .ok (.iconst 3, 1) := dk_6 (dk_at dksX1_heights_5 4 rfl rfl)
theorem dX1_heights_123 : decode cX1_heights 123 = .ok (.if_icmp .ge 13, 3) := dk_162 0 13 (dk_at dksX1_heights_5 5 rfl rfl)
theorem dX1_heights_126 : decode cX1_heights 126 = .ok (.iload_n 1, 1) := dk_27 (dk_at dksX1_heights_5 8 rfl rfl)
theorem dX1_heights_127 : decode cX1_heights 127 = .ok (.bipush 9, 2) := dk_16 9 (dk_at dksX1_heights_5 9 rfl rfl)
theorem dX1_heights_129 : decode cX1_heights 129 = .ok (.iload 5, 2) := dk_21 5 (dk_at dksX1_heights_5 11 rfl rfl)
theorem dX1_heights_131 : decode cX1_heights 131 = .ok (.imul, 1) := dk_104 (dk_at dksX1_heights_5 13 rfl rfl)
theorem dX1_heights_132 : decode cX1_heights 132 = .ok (.ishr, 1) := dk_122 (dk_at dksX1_heights_5 14 rfl rfl)
theorem dX1_heights_133 : decode cX1_heights 133 = .ok (.goto 12, 3) := dk_167 0 12 (dk_at dksX1_heights_5 15 rfl rfl)
theorem dX1_heights_136 : decode cX1_heights 136 = .ok (.iload_n 2, 1) := dk_28 (dk_at dksX1_heights_5 18 rfl rfl)
theorem dX1_heights_137 : decode cX1_heights 137 = .ok (.bipush 9, 2) := dk_16 9 (dk_at dksX1_heights_5 19 rfl rfl)
theorem dX1_heights_139 : decode cX1_heights 139 = .ok (.iload 5, 2) := dk_21 5 (dk_at dksX1_heights_5 21 rfl rfl)
theorem dX1_heights_141 : decode cX1_heights 141 = .ok (.iconst 3, 1) := dk_6 (dk_at dksX1_heights_5 23 rfl rfl)
theorem dX1_heights_142 : decode cX1_heights 142 = .ok (.isub, 1) := dk_100 (dk_at dksX1_heights_6 0 rfl rfl)
theorem dX1_heights_143 : decode cX1_heights 143 = .ok (.imul, 1) := dk_104 (dk_at dksX1_heights_6 1 rfl rfl)
theorem dX1_heights_144 : decode cX1_heights 144 = .ok (.ishr, 1) := dk_122 (dk_at dksX1_heights_6 2 rfl rfl)
theorem dX1_heights_145 : decode cX1_heights 145 = .ok (.sipush 511, 3) := dk_17 1 255 (dk_at dksX1_heights_6 3 rfl rfl)
theorem dX1_heights_148 : decode cX1_heights 148 = .ok (.iand, 1) := dk_126 (dk_at dksX1_heights_6 6 rfl rfl)
theorem dX1_heights_149 : decode cX1_heights 149 = .ok (.iastore, 1) := dk_79 (dk_at dksX1_heights_6 7 rfl rfl)
theorem dX1_heights_150 : decode cX1_heights 150 = .ok (.iinc 5 1, 3) := dk_132 5 1 (dk_at dksX1_heights_6 8 rfl rfl)
theorem dX1_heights_153 : decode cX1_heights 153 = .ok (.goto (-53), 3) := dk_167 255 203 (dk_at dksX1_heights_6 11 rfl rfl)
theorem dX1_heights_156 : decode cX1_heights 156 = .ok (.iload 4, 2) := dk_21 4 (dk_at dksX1_heights_6 14 rfl rfl)
theorem dX1_heights_158 : decode cX1_heights 158 = .ok (.ireturn, 1) := dk_172 (dk_at dksX1_heights_6 16 rfl rfl)
abbrev cX1_parts : ByteArray := prog_1_method_14_code
def yX1_parts : MethodName := ⟨RX1, "parts", "()I"⟩
def dkwX1_parts_0 : List UInt8 := [42, 180, 0, 24, 182, 0, 110, 172]
abbrev dktX1_parts_0 : List UInt8 := dkwX1_parts_0 ++ []
theorem dksX1_parts_0 : cX1_parts.data.toList.drop 0 = dktX1_parts_0 := by decide +kernel
theorem dX1_parts_0 : decode cX1_parts 0 = .ok (.aload_n 0, 1) := dk_42 (dk_at dksX1_parts_0 0 rfl rfl)
theorem dX1_parts_1 : decode cX1_parts 1 = .ok (.getfield 24, 3) := dk_180 0 24 (dk_at dksX1_parts_0 1 rfl rfl)
theorem dX1_parts_4 : decode cX1_parts 4 = .ok (.invokevirtual 110, 3) := dk_182 0 110 (dk_at dksX1_parts_0 4 rfl rfl)
theorem dX1_parts_7 : decode cX1_parts 7 = .ok (.ireturn, 1) := dk_172 (dk_at dksX1_parts_0 7 rfl rfl)
abbrev cX1_feed : ByteArray := prog_1_method_26_code
def yX1_feed : MethodName := ⟨RX1, "feed", "(IIIII)I"⟩
def dkwX1_feed_2 : List UInt8 := [172]
abbrev dktX1_feed_2 : List UInt8 := dkwX1_feed_2 ++ []
def dkwX1_feed_1 : List UInt8 := [182, 0, 162, 42, 29, 182, 0, 162, 42, 21, 4, 182, 0, 162, 42, 21, 5, 182, 0, 162, 42, 180, 0, 159]
abbrev dktX1_feed_1 : List UInt8 := dkwX1_feed_1 ++ dktX1_feed_2
def dkwX1_feed_0 : List UInt8 := [42, 180, 0, 159, 16, 20, 96, 17, 1, 144, 164, 0, 5, 2, 172, 42, 27, 182, 0, 162, 42, 28]
abbrev dktX1_feed_0 : List UInt8 := dkwX1_feed_0 ++ dktX1_feed_1
theorem dksX1_feed_0 : cX1_feed.data.toList.drop 0 = dktX1_feed_0 := by decide +kernel
theorem dksX1_feed_1 : cX1_feed.data.toList.drop 22 = dktX1_feed_1 := dk_seg dksX1_feed_0 22 rfl rfl
theorem dksX1_feed_2 : cX1_feed.data.toList.drop 46 = dktX1_feed_2 := dk_seg dksX1_feed_1 24 rfl rfl
theorem dX1_feed_0 : decode cX1_feed 0 = .ok (.aload_n 0, 1) := dk_42 (dk_at dksX1_feed_0 0 rfl rfl)
theorem dX1_feed_1 : decode cX1_feed 1 = .ok (.getfield 159, 3) := dk_180 0 159 (dk_at dksX1_feed_0 1 rfl rfl)
theorem dX1_feed_4 : decode cX1_feed 4 = .ok (.bipush 20, 2) := dk_16 20 (dk_at dksX1_feed_0 4 rfl rfl)
theorem dX1_feed_6 : decode cX1_feed 6 = .ok (.iadd, 1) := dk_96 (dk_at dksX1_feed_0 6 rfl rfl)
theorem dX1_feed_7 : decode cX1_feed 7 = .ok (.sipush 400, 3) := dk_17 1 144 (dk_at dksX1_feed_0 7 rfl rfl)
theorem dX1_feed_10 : decode cX1_feed 10 = .ok (.if_icmp .le 5, 3) := dk_164 0 5 (dk_at dksX1_feed_0 10 rfl rfl)
theorem dX1_feed_13 : decode cX1_feed 13 = .ok (.iconst (-1), 1) := dk_2 (dk_at dksX1_feed_0 13 rfl rfl)
theorem dX1_feed_14 : decode cX1_feed 14 = .ok (.ireturn, 1) := dk_172 (dk_at dksX1_feed_0 14 rfl rfl)
theorem dX1_feed_15 : decode cX1_feed 15 = .ok (.aload_n 0, 1) := dk_42 (dk_at dksX1_feed_0 15 rfl rfl)
theorem dX1_feed_16 : decode cX1_feed 16 = .ok (.iload_n 1, 1) := dk_27 (dk_at dksX1_feed_0 16 rfl rfl)
theorem dX1_feed_17 : decode cX1_feed 17 = .ok (.invokevirtual 162, 3) := dk_182 0 162 (dk_at dksX1_feed_0 17 rfl rfl)
theorem dX1_feed_20 : decode cX1_feed 20 = .ok (.aload_n 0, 1) := dk_42 (dk_at dksX1_feed_0 20 rfl rfl)
theorem dX1_feed_21 : decode cX1_feed 21 = .ok (.iload_n 2, 1) := dk_28 (dk_at dksX1_feed_0 21 rfl rfl)
theorem dX1_feed_22 : decode cX1_feed 22 = .ok (.invokevirtual 162, 3) := dk_182 0 162 (dk_at dksX1_feed_1 0 rfl rfl)
theorem dX1_feed_25 : decode cX1_feed 25 = .ok (.aload_n 0, 1) := dk_42 (dk_at dksX1_feed_1 3 rfl rfl)
theorem dX1_feed_26 : decode cX1_feed 26 = .ok (.iload_n 3, 1) := dk_29 (dk_at dksX1_feed_1 4 rfl rfl)
theorem dX1_feed_27 : decode cX1_feed 27 = .ok (.invokevirtual 162, 3) := dk_182 0 162 (dk_at dksX1_feed_1 5 rfl rfl)
theorem dX1_feed_30 : decode cX1_feed 30 = .ok (.aload_n 0, 1) := dk_42 (dk_at dksX1_feed_1 8 rfl rfl)
theorem dX1_feed_31 : decode cX1_feed 31 = .ok (.iload 4, 2) := dk_21 4 (dk_at dksX1_feed_1 9 rfl rfl)
theorem dX1_feed_33 : decode cX1_feed 33 = .ok (.invokevirtual 162, 3) := dk_182 0 162 (dk_at dksX1_feed_1 11 rfl rfl)
theorem dX1_feed_36 : decode cX1_feed 36 = .ok (.aload_n 0, 1) := dk_42 (dk_at dksX1_feed_1 14 rfl rfl)
theorem dX1_feed_37 : decode cX1_feed 37 = .ok (.iload 5, 2) := dk_21 5 (dk_at dksX1_feed_1 15 rfl rfl)
theorem dX1_feed_39 : decode cX1_feed 39 = .ok (.invokevirtual 162, 3) := dk_182 0 162 (dk_at dksX1_feed_1 17 rfl rfl)
theorem dX1_feed_42 : decode cX1_feed 42 = .ok (.aload_n 0, 1) := dk_42 (dk_at dksX1_feed_1 20 rfl rfl)
theorem dX1_feed_43 : decode cX1_feed 43 = .ok (.getfield 159, 3) := dk_180 0 159 (dk_at dksX1_feed_1 21 rfl rfl)
theorem dX1_feed_46 : decode cX1_feed 46 = .ok (.ireturn, 1) := dk_172 (dk_at dksX1_feed_2 0 rfl rfl)
abbrev cX1_lay : ByteArray := prog_1_method_27_code
def yX1_lay : MethodName := ⟨RX1, "lay", "(I)V"⟩
def dkwX1_lay_1 : List UInt8 := [180, 0, 159, 4, 96, 181, 0, 159, 132, 2, 248, 167, 255, 226, 177]
abbrev dktX1_lay_1 : List UInt8 := dkwX1_lay_1 ++ []
def dkwX1_lay_0 : List UInt8 := [16, 24, 61, 28, 155, 0, 32, 42, 180, 0, 31, 42, 180, 0, 159, 27, 28, 122, 145, 84, 42, 89]
abbrev dktX1_lay_0 : List UInt8 := dkwX1_lay_0 ++ dktX1_lay_1
theorem dksX1_lay_0 : cX1_lay.data.toList.drop 0 = dktX1_lay_0 := by decide +kernel
theorem dksX1_lay_1 : cX1_lay.data.toList.drop 22 = dktX1_lay_1 := dk_seg dksX1_lay_0 22 rfl rfl
theorem dX1_lay_0 : decode cX1_lay 0 = .ok (.bipush 24, 2) := dk_16 24 (dk_at dksX1_lay_0 0 rfl rfl)
theorem dX1_lay_2 : decode cX1_lay 2 = .ok (.istore_n 2, 1) := dk_61 (dk_at dksX1_lay_0 2 rfl rfl)
theorem dX1_lay_3 : decode cX1_lay 3 = .ok (.iload_n 2, 1) := dk_28 (dk_at dksX1_lay_0 3 rfl rfl)
theorem dX1_lay_4 : decode cX1_lay 4 = .ok (.ifCond .lt 32, 3) := dk_155 0 32 (dk_at dksX1_lay_0 4 rfl rfl)
theorem dX1_lay_7 : decode cX1_lay 7 = .ok (.aload_n 0, 1) := dk_42 (dk_at dksX1_lay_0 7 rfl rfl)
theorem dX1_lay_8 : decode cX1_lay 8 = .ok (.getfield 31, 3) := dk_180 0 31 (dk_at dksX1_lay_0 8 rfl rfl)
theorem dX1_lay_11 : decode cX1_lay 11 = .ok (.aload_n 0, 1) := dk_42 (dk_at dksX1_lay_0 11 rfl rfl)
theorem dX1_lay_12 : decode cX1_lay 12 = .ok (.getfield 159, 3) := dk_180 0 159 (dk_at dksX1_lay_0 12 rfl rfl)
theorem dX1_lay_15 : decode cX1_lay 15 = .ok (.iload_n 1, 1) := dk_27 (dk_at dksX1_lay_0 15 rfl rfl)
theorem dX1_lay_16 : decode cX1_lay 16 = .ok (.iload_n 2, 1) := dk_28 (dk_at dksX1_lay_0 16 rfl rfl)
theorem dX1_lay_17 : decode cX1_lay 17 = .ok (.ishr, 1) := dk_122 (dk_at dksX1_lay_0 17 rfl rfl)
theorem dX1_lay_18 : decode cX1_lay 18 = .ok (.i2b, 1) := dk_145 (dk_at dksX1_lay_0 18 rfl rfl)
theorem dX1_lay_19 : decode cX1_lay 19 = .ok (.bastore, 1) := dk_84 (dk_at dksX1_lay_0 19 rfl rfl)
theorem dX1_lay_20 : decode cX1_lay 20 = .ok (.aload_n 0, 1) := dk_42 (dk_at dksX1_lay_0 20 rfl rfl)
theorem dX1_lay_21 : decode cX1_lay 21 = .ok (.dup, 1) := dk_89 (dk_at dksX1_lay_0 21 rfl rfl)
theorem dX1_lay_22 : decode cX1_lay 22 = .ok (.getfield 159, 3) := dk_180 0 159 (dk_at dksX1_lay_1 0 rfl rfl)
theorem dX1_lay_25 : decode cX1_lay 25 = .ok (.iconst 1, 1) := dk_4 (dk_at dksX1_lay_1 3 rfl rfl)
theorem dX1_lay_26 : decode cX1_lay 26 = .ok (.iadd, 1) := dk_96 (dk_at dksX1_lay_1 4 rfl rfl)
theorem dX1_lay_27 : decode cX1_lay 27 = .ok (.putfield 159, 3) := dk_181 0 159 (dk_at dksX1_lay_1 5 rfl rfl)
theorem dX1_lay_30 : decode cX1_lay 30 = .ok (.iinc 2 (-8), 3) := dk_132 2 248 (dk_at dksX1_lay_1 8 rfl rfl)
theorem dX1_lay_33 : decode cX1_lay 33 = .ok (.goto (-30), 3) := dk_167 255 226 (dk_at dksX1_lay_1 11 rfl rfl)
theorem dX1_lay_36 : decode cX1_lay 36 = .ok (.return_, 1) := dk_177 (dk_at dksX1_lay_1 14 rfl rfl)
abbrev cX1_fault : ByteArray := prog_1_method_30_code
def yX1_fault : MethodName := ⟨RX1, "fault", "()I"⟩
theorem dX1_fault_0 : decode cX1_fault 0 = .ok (.aload_n 0, 1) := by decide +kernel
theorem dX1_fault_1 : decode cX1_fault 1 = .ok (.getfield 35, 3) := by decide +kernel
theorem dX1_fault_4 : decode cX1_fault 4 = .ok (.ireturn, 1) := by decide +kernel
abbrev cX1_marks : ByteArray := prog_1_method_50_code
def yX1_marks : MethodName := ⟨RX1, "marks", "(I)Z"⟩
def dkwX1_marks_5 : List UInt8 := [182, 1, 17, 153, 0, 5, 4, 172, 132, 4, 1, 167, 255, 223, 132, 3, 1, 167, 255, 206, 3, 172]
abbrev dktX1_marks_5 : List UInt8 := dkwX1_marks_5 ++ []
def dkwX1_marks_4 : List UInt8 := [54, 4, 21, 4, 42, 180, 0, 85, 162, 0, 30, 42, 29, 21, 4, 3, 184, 0, 151, 4, 28, 120, 4, 100]
abbrev dktX1_marks_4 : List UInt8 := dkwX1_marks_4 ++ dktX1_marks_5
def dkwX1_marks_3 : List UInt8 := [28, 16, 10, 164, 0, 5, 3, 172, 42, 182, 1, 6, 3, 62, 29, 42, 180, 0, 82, 162, 0, 48, 3]
abbrev dktX1_marks_3 : List UInt8 := dkwX1_marks_3 ++ dktX1_marks_4
def dkwX1_marks_2 : List UInt8 := [167, 0, 4, 2, 79, 28, 21, 4, 153, 0, 7, 4, 167, 0, 4, 3, 96, 61, 132, 3, 1, 167, 255, 191]
abbrev dktX1_marks_2 : List UInt8 := dkwX1_marks_2 ++ dktX1_marks_3
def dkwX1_marks_1 : List UInt8 := [4, 126, 4, 160, 0, 7, 4, 167, 0, 4, 3, 54, 4, 42, 180, 0, 46, 29, 21, 4, 153, 0, 7, 28]
abbrev dktX1_marks_1 : List UInt8 := dkwX1_marks_1 ++ dktX1_marks_2
def dkwX1_marks_0 : List UInt8 := [3, 61, 3, 62, 29, 42, 180, 0, 24, 182, 0, 110, 162, 0, 60, 29, 16, 31, 162, 0, 16, 27, 29, 122]
abbrev dktX1_marks_0 : List UInt8 := dkwX1_marks_0 ++ dktX1_marks_1
theorem dksX1_marks_0 : cX1_marks.data.toList.drop 0 = dktX1_marks_0 := by decide +kernel
theorem dksX1_marks_1 : cX1_marks.data.toList.drop 24 = dktX1_marks_1 := dk_seg dksX1_marks_0 24 rfl rfl
theorem dksX1_marks_2 : cX1_marks.data.toList.drop 48 = dktX1_marks_2 := dk_seg dksX1_marks_1 24 rfl rfl
theorem dksX1_marks_3 : cX1_marks.data.toList.drop 72 = dktX1_marks_3 := dk_seg dksX1_marks_2 24 rfl rfl
theorem dksX1_marks_4 : cX1_marks.data.toList.drop 95 = dktX1_marks_4 := dk_seg dksX1_marks_3 23 rfl rfl
theorem dksX1_marks_5 : cX1_marks.data.toList.drop 119 = dktX1_marks_5 := dk_seg dksX1_marks_4 24 rfl rfl
theorem dX1_marks_0 : decode cX1_marks 0 = .ok (.iconst 0, 1) := dk_3 (dk_at dksX1_marks_0 0 rfl rfl)
theorem dX1_marks_1 : decode cX1_marks 1 = .ok (.istore_n 2, 1) := dk_61 (dk_at dksX1_marks_0 1 rfl rfl)
theorem dX1_marks_2 : decode cX1_marks 2 = .ok (.iconst 0, 1) := dk_3 (dk_at dksX1_marks_0 2 rfl rfl)
theorem dX1_marks_3 : decode cX1_marks 3 = .ok (.istore_n 3, 1) := dk_62 (dk_at dksX1_marks_0 3 rfl rfl)
theorem dX1_marks_4 : decode cX1_marks 4 = .ok (.iload_n 3, 1) := dk_29 (dk_at dksX1_marks_0 4 rfl rfl)
theorem dX1_marks_5 : decode cX1_marks 5 = .ok (.aload_n 0, 1) := dk_42 (dk_at dksX1_marks_0 5 rfl rfl)
theorem dX1_marks_6 : decode cX1_marks 6 = .ok (.getfield 24, 3) := dk_180 0 24 (dk_at dksX1_marks_0 6 rfl rfl)
theorem dX1_marks_9 : decode cX1_marks 9 = .ok (.invokevirtual 110, 3) := dk_182 0 110 (dk_at dksX1_marks_0 9 rfl rfl)
theorem dX1_marks_12 : decode cX1_marks 12 = .ok (.if_icmp .ge 60, 3) := dk_162 0 60 (dk_at dksX1_marks_0 12 rfl rfl)
theorem dX1_marks_15 : decode cX1_marks 15 = .ok (.iload_n 3, 1) := dk_29 (dk_at dksX1_marks_0 15 rfl rfl)
theorem dX1_marks_16 : decode cX1_marks 16 = .ok (.bipush 31, 2) := dk_16 31 (dk_at dksX1_marks_0 16 rfl rfl)
theorem dX1_marks_18 : decode cX1_marks 18 = .ok (.if_icmp .ge 16, 3) := dk_162 0 16 (dk_at dksX1_marks_0 18 rfl rfl)
theorem dX1_marks_21 : decode cX1_marks 21 = .ok (.iload_n 1, 1) := dk_27 (dk_at dksX1_marks_0 21 rfl rfl)
theorem dX1_marks_22 : decode cX1_marks 22 = .ok (.iload_n 3, 1) := dk_29 (dk_at dksX1_marks_0 22 rfl rfl)
theorem dX1_marks_23 : decode cX1_marks 23 = .ok (.ishr, 1) := dk_122 (dk_at dksX1_marks_0 23 rfl rfl)
theorem dX1_marks_24 : decode cX1_marks 24 = .ok (.iconst 1, 1) := dk_4 (dk_at dksX1_marks_1 0 rfl rfl)
theorem dX1_marks_25 : decode cX1_marks 25 = .ok (.iand, 1) := dk_126 (dk_at dksX1_marks_1 1 rfl rfl)
theorem dX1_marks_26 : decode cX1_marks 26 = .ok (.iconst 1, 1) := dk_4 (dk_at dksX1_marks_1 2 rfl rfl)
theorem dX1_marks_27 : decode cX1_marks 27 = .ok (.if_icmp .ne 7, 3) := dk_160 0 7 (dk_at dksX1_marks_1 3 rfl rfl)
theorem dX1_marks_30 : decode cX1_marks 30 = .ok (.iconst 1, 1) := dk_4 (dk_at dksX1_marks_1 6 rfl rfl)
theorem dX1_marks_31 : decode cX1_marks 31 = .ok (.goto 4, 3) := dk_167 0 4 (dk_at dksX1_marks_1 7 rfl rfl)
theorem dX1_marks_34 : decode cX1_marks 34 = .ok (.iconst 0, 1) := dk_3 (dk_at dksX1_marks_1 10 rfl rfl)
theorem dX1_marks_35 : decode cX1_marks 35 = .ok (.istore 4, 2) := dk_54 4 (dk_at dksX1_marks_1 11 rfl rfl)
theorem dX1_marks_37 : decode cX1_marks 37 = .ok (.aload_n 0, 1) := dk_42 (dk_at dksX1_marks_1 13 rfl rfl)
theorem dX1_marks_38 : decode cX1_marks 38 = .ok (.getfield 46, 3) := dk_180 0 46 (dk_at dksX1_marks_1 14 rfl rfl)
theorem dX1_marks_41 : decode cX1_marks 41 = .ok (.iload_n 3, 1) := dk_29 (dk_at dksX1_marks_1 17 rfl rfl)
theorem dX1_marks_42 : decode cX1_marks 42 = .ok (.iload 4, 2) := dk_21 4 (dk_at dksX1_marks_1 18 rfl rfl)
theorem dX1_marks_44 : decode cX1_marks 44 = .ok (.ifCond .eq 7, 3) := dk_153 0 7 (dk_at dksX1_marks_1 20 rfl rfl)
theorem dX1_marks_47 : decode cX1_marks 47 = .ok (.iload_n 2, 1) := dk_28 (dk_at dksX1_marks_1 23 rfl rfl)
theorem dX1_marks_48 : decode cX1_marks 48 = .ok (.goto 4, 3) := dk_167 0 4 (dk_at dksX1_marks_2 0 rfl rfl)
theorem dX1_marks_51 : decode cX1_marks 51 = .ok (.iconst (-1), 1) := dk_2 (dk_at dksX1_marks_2 3 rfl rfl)
theorem dX1_marks_52 : decode cX1_marks 52 = .ok (.iastore, 1) := dk_79 (dk_at dksX1_marks_2 4 rfl rfl)
theorem dX1_marks_53 : decode cX1_marks 53 = .ok (.iload_n 2, 1) := dk_28 (dk_at dksX1_marks_2 5 rfl rfl)
theorem dX1_marks_54 : decode cX1_marks 54 = .ok (.iload 4, 2) := dk_21 4 (dk_at dksX1_marks_2 6 rfl rfl)
theorem dX1_marks_56 : decode cX1_marks 56 = .ok (.ifCond .eq 7, 3) := dk_153 0 7 (dk_at dksX1_marks_2 8 rfl rfl)
theorem dX1_marks_59 : decode cX1_marks 59 = .ok (.iconst 1, 1) := dk_4 (dk_at dksX1_marks_2 11 rfl rfl)
theorem dX1_marks_60 : decode cX1_marks 60 = .ok (.goto 4, 3) := dk_167 0 4 (dk_at dksX1_marks_2 12 rfl rfl)
theorem dX1_marks_63 : decode cX1_marks 63 = .ok (.iconst 0, 1) := dk_3 (dk_at dksX1_marks_2 15 rfl rfl)
theorem dX1_marks_64 : decode cX1_marks 64 = .ok (.iadd, 1) := dk_96 (dk_at dksX1_marks_2 16 rfl rfl)
theorem dX1_marks_65 : decode cX1_marks 65 = .ok (.istore_n 2, 1) := dk_61 (dk_at dksX1_marks_2 17 rfl rfl)
theorem dX1_marks_66 : decode cX1_marks 66 = .ok (.iinc 3 1, 3) := dk_132 3 1 (dk_at dksX1_marks_2 18 rfl rfl)
theorem dX1_marks_69 : decode cX1_marks 69 = .ok (.goto (-65), 3) := dk_167 255 191 (dk_at dksX1_marks_2 21 rfl rfl)
theorem dX1_marks_72 : decode cX1_marks 72 = .ok (.iload_n 2, 1) := dk_28 (dk_at dksX1_marks_3 0 rfl rfl)
theorem dX1_marks_73 : decode cX1_marks 73 = .ok (.bipush 10, 2) := dk_16 10 (dk_at dksX1_marks_3 1 rfl rfl)
theorem dX1_marks_75 : decode cX1_marks 75 = .ok (.if_icmp .le 5, 3) := dk_164 0 5 (dk_at dksX1_marks_3 3 rfl rfl)
theorem dX1_marks_78 : decode cX1_marks 78 = .ok (.iconst 0, 1) := dk_3 (dk_at dksX1_marks_3 6 rfl rfl)
theorem dX1_marks_79 : decode cX1_marks 79 = .ok (.ireturn, 1) := dk_172 (dk_at dksX1_marks_3 7 rfl rfl)
theorem dX1_marks_80 : decode cX1_marks 80 = .ok (.aload_n 0, 1) := dk_42 (dk_at dksX1_marks_3 8 rfl rfl)
theorem dX1_marks_81 : decode cX1_marks 81 = .ok (.invokevirtual 262, 3) := dk_182 1 6 (dk_at dksX1_marks_3 9 rfl rfl)
theorem dX1_marks_84 : decode cX1_marks 84 = .ok (.iconst 0, 1) := dk_3 (dk_at dksX1_marks_3 12 rfl rfl)
theorem dX1_marks_85 : decode cX1_marks 85 = .ok (.istore_n 3, 1) := dk_62 (dk_at dksX1_marks_3 13 rfl rfl)
theorem dX1_marks_86 : decode cX1_marks 86 = .ok (.iload_n 3, 1) := dk_29 (dk_at dksX1_marks_3 14 rfl rfl)
theorem dX1_marks_87 : decode cX1_marks 87 = .ok (.aload_n 0, 1) := dk_42 (dk_at dksX1_marks_3 15 rfl rfl)
theorem dX1_marks_88 : decode cX1_marks 88 = .ok (.getfield 82, 3) := dk_180 0 82 (dk_at dksX1_marks_3 16 rfl rfl)
theorem dX1_marks_91 : decode cX1_marks 91 = .ok (.if_icmp .ge 48, 3) := dk_162 0 48 (dk_at dksX1_marks_3 19 rfl rfl)
theorem dX1_marks_94 : decode cX1_marks 94 = .ok (.iconst 0, 1) := dk_3 (dk_at dksX1_marks_3 22 rfl rfl)
theorem dX1_marks_95 : decode cX1_marks 95 = .ok (.istore 4, 2) := dk_54 4 (dk_at dksX1_marks_4 0 rfl rfl)
theorem dX1_marks_97 : decode cX1_marks 97 = .ok (.iload 4, 2) := dk_21 4 (dk_at dksX1_marks_4 2 rfl rfl)
theorem dX1_marks_99 : decode cX1_marks 99 = .ok (.aload_n 0, 1) := dk_42 (dk_at dksX1_marks_4 4 rfl rfl)
theorem dX1_marks_100 : decode cX1_marks 100 = .ok (.getfield 85, 3) := dk_180 0 85 (dk_at dksX1_marks_4 5 rfl rfl)
theorem dX1_marks_103 : decode cX1_marks 103 = .ok (.if_icmp .ge 30, 3) := dk_162 0 30 (dk_at dksX1_marks_4 8 rfl rfl)
theorem dX1_marks_106 : decode cX1_marks 106 = .ok (.aload_n 0, 1) := dk_42 (dk_at dksX1_marks_4 11 rfl rfl)
theorem dX1_marks_107 : decode cX1_marks 107 = .ok (.iload_n 3, 1) := dk_29 (dk_at dksX1_marks_4 12 rfl rfl)
theorem dX1_marks_108 : decode cX1_marks 108 = .ok (.iload 4, 2) := dk_21 4 (dk_at dksX1_marks_4 13 rfl rfl)
theorem dX1_marks_110 : decode cX1_marks 110 = .ok (.iconst 0, 1) := dk_3 (dk_at dksX1_marks_4 15 rfl rfl)
theorem dX1_marks_111 : decode cX1_marks 111 = .ok (.invokestatic 151, 3) := dk_184 0 151 (dk_at dksX1_marks_4 16 rfl rfl)
theorem dX1_marks_114 : decode cX1_marks 114 = .ok (.iconst 1, 1) := dk_4 (dk_at dksX1_marks_4 19 rfl rfl)
theorem dX1_marks_115 : decode cX1_marks 115 = .ok (.iload_n 2, 1) := dk_28 (dk_at dksX1_marks_4 20 rfl rfl)
theorem dX1_marks_116 : decode cX1_marks 116 = .ok (.ishl, 1) := dk_120 (dk_at dksX1_marks_4 21 rfl rfl)
theorem dX1_marks_117 : decode cX1_marks 117 = .ok (.iconst 1, 1) := dk_4 (dk_at dksX1_marks_4 22 rfl rfl)
theorem dX1_marks_118 : decode cX1_marks 118 = .ok (.isub, 1) := dk_100 (dk_at dksX1_marks_4 23 rfl rfl)
theorem dX1_marks_119 : decode cX1_marks 119 = .ok (.invokevirtual 273, 3) := dk_182 1 17 (dk_at dksX1_marks_5 0 rfl rfl)
theorem dX1_marks_122 : decode cX1_marks 122 = .ok (.ifCond .eq 5, 3) := dk_153 0 5 (dk_at dksX1_marks_5 3 rfl rfl)
theorem dX1_marks_125 : decode cX1_marks 125 = .ok (.iconst 1, 1) := dk_4 (dk_at dksX1_marks_5 6 rfl rfl)
theorem dX1_marks_126 : decode cX1_marks 126 = .ok (.ireturn, 1) := dk_172 (dk_at dksX1_marks_5 7 rfl rfl)
theorem dX1_marks_127 : decode cX1_marks 127 = .ok (.iinc 4 1, 3) := dk_132 4 1 (dk_at dksX1_marks_5 8 rfl rfl)
theorem dX1_marks_130 : decode cX1_marks 130 = .ok (.goto (-33), 3) := dk_167 255 223 (dk_at dksX1_marks_5 11 rfl rfl)
theorem dX1_marks_133 : decode cX1_marks 133 = .ok (.iinc 3 1, 3) := dk_132 3 1 (dk_at dksX1_marks_5 14 rfl rfl)
theorem dX1_marks_136 : decode cX1_marks 136 = .ok (.goto (-50), 3) := dk_167 255 206 (dk_at dksX1_marks_5 17 rfl rfl)
theorem dX1_marks_139 : decode cX1_marks 139 = .ok (.iconst 0, 1) := dk_3 (dk_at dksX1_marks_5 20 rfl rfl)
theorem dX1_marks_140 : decode cX1_marks 140 = .ok (.ireturn, 1) := dk_172 (dk_at dksX1_marks_5 21 rfl rfl)
abbrev cX1_tables : ByteArray := prog_1_method_42_code
def yX1_tables : MethodName := ⟨RX1, "tables", "()V"⟩
def dkwX1_tables_9 : List UInt8 := [46, 4, 96, 79, 132, 3, 1, 167, 255, 96, 132, 1, 1, 167, 255, 54, 177]
abbrev dktX1_tables_9 : List UInt8 := dkwX1_tables_9 ++ []
def dkwX1_tables_8 : List UInt8 := [42, 180, 0, 49, 21, 4, 46, 46, 96, 21, 4, 79, 42, 180, 0, 61, 42, 180, 0, 49, 21, 4, 46, 92]
abbrev dktX1_tables_8 : List UInt8 := dkwX1_tables_8 ++ dktX1_tables_9
def dkwX1_tables_7 : List UInt8 := [160, 0, 6, 167, 0, 49, 42, 180, 0, 58, 16, 8, 42, 180, 0, 49, 21, 4, 46, 104, 42, 180, 0, 61]
abbrev dktX1_tables_7 : List UInt8 := dkwX1_tables_7 ++ dktX1_tables_8
def dkwX1_tables_6 : List UInt8 := [160, 0, 7, 2, 167, 0, 9, 42, 27, 29, 182, 0, 215, 79, 42, 180, 0, 49, 21, 4, 46, 2]
abbrev dktX1_tables_6 : List UInt8 := dkwX1_tables_6 ++ dktX1_tables_7
def dkwX1_tables_5 : List UInt8 := [27, 29, 182, 0, 188, 104, 4, 96, 79, 42, 180, 0, 55, 21, 4, 42, 180, 0, 49, 21, 4, 46, 2]
abbrev dktX1_tables_5 : List UInt8 := dkwX1_tables_5 ++ dktX1_tables_6
def dkwX1_tables_4 : List UInt8 := [180, 0, 52, 21, 4, 42, 180, 0, 49, 21, 4, 46, 2, 160, 0, 7, 3, 167, 0, 15, 17, 4, 0, 42]
abbrev dktX1_tables_4 : List UInt8 := dkwX1_tables_4 ++ dktX1_tables_5
def dkwX1_tables_3 : List UInt8 := [54, 4, 42, 180, 0, 49, 21, 4, 28, 153, 0, 12, 42, 27, 29, 182, 0, 181, 167, 0, 4, 2, 79, 42]
abbrev dktX1_tables_3 : List UInt8 := dkwX1_tables_3 ++ dktX1_tables_4
def dkwX1_tables_2 : List UInt8 := [162, 0, 7, 4, 167, 0, 4, 3, 61, 3, 62, 29, 16, 8, 162, 0, 160, 16, 8, 27, 104, 29, 96]
abbrev dktX1_tables_2 : List UInt8 := dkwX1_tables_2 ++ dktX1_tables_3
def dkwX1_tables_1 : List UInt8 := [16, 60, 162, 0, 202, 27, 184, 0, 142, 42, 180, 0, 82, 162, 0, 18, 27, 184, 0, 145, 42, 180, 0, 85]
abbrev dktX1_tables_1 : List UInt8 := dkwX1_tables_1 ++ dktX1_tables_2
def dkwX1_tables_0 : List UInt8 := [3, 60, 27, 16, 60, 162, 0, 16, 42, 180, 0, 61, 27, 3, 79, 132, 1, 1, 167, 255, 240, 3, 60, 27]
abbrev dktX1_tables_0 : List UInt8 := dkwX1_tables_0 ++ dktX1_tables_1
theorem dksX1_tables_0 : cX1_tables.data.toList.drop 0 = dktX1_tables_0 := by decide +kernel
theorem dksX1_tables_1 : cX1_tables.data.toList.drop 24 = dktX1_tables_1 := dk_seg dksX1_tables_0 24 rfl rfl
theorem dksX1_tables_2 : cX1_tables.data.toList.drop 48 = dktX1_tables_2 := dk_seg dksX1_tables_1 24 rfl rfl
theorem dksX1_tables_3 : cX1_tables.data.toList.drop 71 = dktX1_tables_3 := dk_seg dksX1_tables_2 23 rfl rfl
theorem dksX1_tables_4 : cX1_tables.data.toList.drop 95 = dktX1_tables_4 := dk_seg dksX1_tables_3 24 rfl rfl
theorem dksX1_tables_5 : cX1_tables.data.toList.drop 119 = dktX1_tables_5 := dk_seg dksX1_tables_4 24 rfl rfl
theorem dksX1_tables_6 : cX1_tables.data.toList.drop 142 = dktX1_tables_6 := dk_seg dksX1_tables_5 23 rfl rfl
theorem dksX1_tables_7 : cX1_tables.data.toList.drop 164 = dktX1_tables_7 := dk_seg dksX1_tables_6 22 rfl rfl
theorem dksX1_tables_8 : cX1_tables.data.toList.drop 188 = dktX1_tables_8 := dk_seg dksX1_tables_7 24 rfl rfl
theorem dksX1_tables_9 : cX1_tables.data.toList.drop 212 = dktX1_tables_9 := dk_seg dksX1_tables_8 24 rfl rfl
theorem dX1_tables_0 : decode cX1_tables 0 = .ok (.iconst 0, 1) := dk_3 (dk_at dksX1_tables_0 0 rfl rfl)
theorem dX1_tables_1 : decode cX1_tables 1 = .ok (.istore_n 1, 1) := dk_60 (dk_at dksX1_tables_0 1 rfl rfl)
theorem dX1_tables_2 : decode cX1_tables 2 = .ok (.iload_n 1, 1) := dk_27 (dk_at dksX1_tables_0 2 rfl rfl)
theorem dX1_tables_3 : decode cX1_tables 3 = .ok (.bipush 60, 2) := dk_16 60 (dk_at dksX1_tables_0 3 rfl rfl)
theorem dX1_tables_5 : decode cX1_tables 5 = .ok (.if_icmp .ge 16, 3) := dk_162 0 16 (dk_at dksX1_tables_0 5 rfl rfl)
theorem dX1_tables_8 : decode cX1_tables 8 = .ok (.aload_n 0, 1) := dk_42 (dk_at dksX1_tables_0 8 rfl rfl)
theorem dX1_tables_9 : decode cX1_tables 9 = .ok (.getfield 61, 3) := dk_180 0 61 (dk_at dksX1_tables_0 9 rfl rfl)
theorem dX1_tables_12 : decode cX1_tables 12 = .ok (.iload_n 1, 1) := dk_27 (dk_at dksX1_tables_0 12 rfl rfl)
theorem dX1_tables_13 : decode cX1_tables 13 = .ok (.iconst 0, 1) := dk_3 (dk_at dksX1_tables_0 13 rfl rfl)
theorem dX1_tables_14 : decode cX1_tables 14 = .ok (.iastore, 1) := dk_79 (dk_at dksX1_tables_0 14 rfl rfl)
theorem dX1_tables_15 : decode cX1_tables 15 = .ok (.iinc 1 1, 3) := dk_132 1 1 (dk_at dksX1_tables_0 15 rfl rfl)
theorem dX1_tables_18 : decode cX1_tables 18 = .ok (.goto (-16), 3) := dk_167 255 240 (dk_at dksX1_tables_0 18 rfl rfl)
theorem dX1_tables_21 : decode cX1_tables 21 = .ok (.iconst 0, 1) := dk_3 (dk_at dksX1_tables_0 21 rfl rfl)
theorem dX1_tables_22 : decode cX1_tables 22 = .ok (.istore_n 1, 1) := dk_60 (dk_at dksX1_tables_0 22 rfl rfl)
theorem dX1_tables_23 : decode cX1_tables 23 = .ok (.iload_n 1, 1) := dk_27 (dk_at dksX1_tables_0 23 rfl rfl)
theorem dX1_tables_24 : decode cX1_tables 24 = .ok (.bipush 60, 2) := dk_16 60 (dk_at dksX1_tables_1 0 rfl rfl)
theorem dX1_tables_26 : decode cX1_tables 26 = .ok (.if_icmp .ge 202, 3) := dk_162 0 202 (dk_at dksX1_tables_1 2 rfl rfl)
theorem dX1_tables_29 : decode cX1_tables 29 = .ok (.iload_n 1, 1) := dk_27 (dk_at dksX1_tables_1 5 rfl rfl)
theorem dX1_tables_30 : decode cX1_tables 30 = .ok (.invokestatic 142, 3) := dk_184 0 142 (dk_at dksX1_tables_1 6 rfl rfl)
theorem dX1_tables_33 : decode cX1_tables 33 = .ok (.aload_n 0, 1) := dk_42 (dk_at dksX1_tables_1 9 rfl rfl)
theorem dX1_tables_34 : decode cX1_tables 34 = .ok (.getfield 82, 3) := dk_180 0 82 (dk_at dksX1_tables_1 10 rfl rfl)
theorem dX1_tables_37 : decode cX1_tables 37 = .ok (.if_icmp .ge 18, 3) := dk_162 0 18 (dk_at dksX1_tables_1 13 rfl rfl)
theorem dX1_tables_40 : decode cX1_tables 40 = .ok (.iload_n 1, 1) := dk_27 (dk_at dksX1_tables_1 16 rfl rfl)
theorem dX1_tables_41 : decode cX1_tables 41 = .ok (.invokestatic 145, 3) := dk_184 0 145 (dk_at dksX1_tables_1 17 rfl rfl)
theorem dX1_tables_44 : decode cX1_tables 44 = .ok (.aload_n 0, 1) := dk_42 (dk_at dksX1_tables_1 20 rfl rfl)
theorem dX1_tables_45 : decode cX1_tables 45 = .ok (.getfield 85, 3) := dk_180 0 85 (dk_at dksX1_tables_1 21 rfl rfl)
theorem dX1_tables_48 : decode cX1_tables 48 = .ok (.if_icmp .ge 7, 3) := dk_162 0 7 (dk_at dksX1_tables_2 0 rfl rfl)
theorem dX1_tables_51 : decode cX1_tables 51 = .ok (.iconst 1, 1) := dk_4 (dk_at dksX1_tables_2 3 rfl rfl)
theorem dX1_tables_52 : decode cX1_tables 52 = .ok (.goto 4, 3) := dk_167 0 4 (dk_at dksX1_tables_2 4 rfl rfl)
theorem dX1_tables_55 : decode cX1_tables 55 = .ok (.iconst 0, 1) := dk_3 (dk_at dksX1_tables_2 7 rfl rfl)
theorem dX1_tables_56 : decode cX1_tables 56 = .ok (.istore_n 2, 1) := dk_61 (dk_at dksX1_tables_2 8 rfl rfl)
theorem dX1_tables_57 : decode cX1_tables 57 = .ok (.iconst 0, 1) := dk_3 (dk_at dksX1_tables_2 9 rfl rfl)
theorem dX1_tables_58 : decode cX1_tables 58 = .ok (.istore_n 3, 1) := dk_62 (dk_at dksX1_tables_2 10 rfl rfl)
theorem dX1_tables_59 : decode cX1_tables 59 = .ok (.iload_n 3, 1) := dk_29 (dk_at dksX1_tables_2 11 rfl rfl)
theorem dX1_tables_60 : decode cX1_tables 60 = .ok (.bipush 8, 2) := dk_16 8 (dk_at dksX1_tables_2 12 rfl rfl)
theorem dX1_tables_62 : decode cX1_tables 62 = .ok (.if_icmp .ge 160, 3) := dk_162 0 160 (dk_at dksX1_tables_2 14 rfl rfl)
theorem dX1_tables_65 : decode cX1_tables 65 = .ok (.bipush 8, 2) := dk_16 8 (dk_at dksX1_tables_2 17 rfl rfl)
theorem dX1_tables_67 : decode cX1_tables 67 = .ok (.iload_n 1, 1) := dk_27 (dk_at dksX1_tables_2 19 rfl rfl)
theorem dX1_tables_68 : decode cX1_tables 68 = .ok (.imul, 1) := dk_104 (dk_at dksX1_tables_2 20 rfl rfl)
theorem dX1_tables_69 : decode cX1_tables 69 = .ok (.iload_n 3, 1) := dk_29 (dk_at dksX1_tables_2 21 rfl rfl)
theorem dX1_tables_70 : decode cX1_tables 70 = .ok (.iadd, 1) := dk_96 (dk_at dksX1_tables_2 22 rfl rfl)
theorem dX1_tables_71 : decode cX1_tables 71 = .ok (.istore 4, 2) := dk_54 4 (dk_at dksX1_tables_3 0 rfl rfl)
theorem dX1_tables_73 : decode cX1_tables 73 = .ok (.aload_n 0, 1) := dk_42 (dk_at dksX1_tables_3 2 rfl rfl)
theorem dX1_tables_74 : decode cX1_tables 74 = .ok (.getfield 49, 3) := dk_180 0 49 (dk_at dksX1_tables_3 3 rfl rfl)
theorem dX1_tables_77 : decode cX1_tables 77 = .ok (.iload 4, 2) := dk_21 4 (dk_at dksX1_tables_3 6 rfl rfl)
theorem dX1_tables_79 : decode cX1_tables 79 = .ok (.iload_n 2, 1) := dk_28 (dk_at dksX1_tables_3 8 rfl rfl)
theorem dX1_tables_80 : decode cX1_tables 80 = .ok (.ifCond .eq 12, 3) := dk_153 0 12 (dk_at dksX1_tables_3 9 rfl rfl)
theorem dX1_tables_83 : decode cX1_tables 83 = .ok (.aload_n 0, 1) := dk_42 (dk_at dksX1_tables_3 12 rfl rfl)
theorem dX1_tables_84 : decode cX1_tables 84 = .ok (.iload_n 1, 1) := dk_27 (dk_at dksX1_tables_3 13 rfl rfl)
theorem dX1_tables_85 : decode cX1_tables 85 = .ok (.iload_n 3, 1) := dk_29 (dk_at dksX1_tables_3 14 rfl rfl)
theorem dX1_tables_86 : decode cX1_tables 86 = .ok (.invokevirtual 181, 3) := dk_182 0 181 (dk_at dksX1_tables_3 15 rfl rfl)
theorem dX1_tables_89 : decode cX1_tables 89 = .ok (.goto 4, 3) := dk_167 0 4 (dk_at dksX1_tables_3 18 rfl rfl)
theorem dX1_tables_92 : decode cX1_tables 92 = .ok (.iconst (-1), 1) := dk_2 (dk_at dksX1_tables_3 21 rfl rfl)
theorem dX1_tables_93 : decode cX1_tables 93 = .ok (.iastore, 1) := dk_79 (dk_at dksX1_tables_3 22 rfl rfl)
theorem dX1_tables_94 : decode cX1_tables 94 = .ok (.aload_n 0, 1) := dk_42 (dk_at dksX1_tables_3 23 rfl rfl)
theorem dX1_tables_95 : decode cX1_tables 95 = .ok (.getfield 52, 3) := dk_180 0 52 (dk_at dksX1_tables_4 0 rfl rfl)
theorem dX1_tables_98 : decode cX1_tables 98 = .ok (.iload 4, 2) := dk_21 4 (dk_at dksX1_tables_4 3 rfl rfl)
theorem dX1_tables_100 : decode cX1_tables 100 = .ok (.aload_n 0, 1) := dk_42 (dk_at dksX1_tables_4 5 rfl rfl)
theorem dX1_tables_101 : decode cX1_tables 101 = .ok (.getfield 49, 3) := dk_180 0 49 (dk_at dksX1_tables_4 6 rfl rfl)
theorem dX1_tables_104 : decode cX1_tables 104 = .ok (.iload 4, 2) := dk_21 4 (dk_at dksX1_tables_4 9 rfl rfl)
theorem dX1_tables_106 : decode cX1_tables 106 = .ok (.iaload, 1) := dk_46 (dk_at dksX1_tables_4 11 rfl rfl)
theorem dX1_tables_107 : decode cX1_tables 107 = .ok (.iconst (-1), 1) := dk_2 (dk_at dksX1_tables_4 12 rfl rfl)
theorem dX1_tables_108 : decode cX1_tables 108 = .ok (.if_icmp .ne 7, 3) := dk_160 0 7 (dk_at dksX1_tables_4 13 rfl rfl)
theorem dX1_tables_111 : decode cX1_tables 111 = .ok (.iconst 0, 1) := dk_3 (dk_at dksX1_tables_4 16 rfl rfl)
theorem dX1_tables_112 : decode cX1_tables 112 = .ok (.goto 15, 3) := dk_167 0 15 (dk_at dksX1_tables_4 17 rfl rfl)
theorem dX1_tables_115 : decode cX1_tables 115 = .ok (.sipush 1024, 3) := dk_17 4 0 (dk_at dksX1_tables_4 20 rfl rfl)
theorem dX1_tables_118 : decode cX1_tables 118 = .ok (.aload_n 0, 1) := dk_42 (dk_at dksX1_tables_4 23 rfl rfl)
theorem dX1_tables_119 : decode cX1_tables 119 = .ok (.iload_n 1, 1) := dk_27 (dk_at dksX1_tables_5 0 rfl rfl)
theorem dX1_tables_120 : decode cX1_tables 120 = .ok (.iload_n 3, 1) := dk_29 (dk_at dksX1_tables_5 1 rfl rfl)
theorem dX1_tables_121 : decode cX1_tables 121 = .ok (.invokevirtual 188, 3) := dk_182 0 188 (dk_at dksX1_tables_5 2 rfl rfl)
theorem dX1_tables_124 : decode cX1_tables 124 = .ok (.imul, 1) := dk_104 (dk_at dksX1_tables_5 5 rfl rfl)
theorem dX1_tables_125 : decode cX1_tables 125 = .ok (.iconst 1, 1) := dk_4 (dk_at dksX1_tables_5 6 rfl rfl)
theorem dX1_tables_126 : decode cX1_tables 126 = .ok (.iadd, 1) := dk_96 (dk_at dksX1_tables_5 7 rfl rfl)
theorem dX1_tables_127 : decode cX1_tables 127 = .ok (.iastore, 1) := dk_79 (dk_at dksX1_tables_5 8 rfl rfl)
theorem dX1_tables_128 : decode cX1_tables 128 = .ok (.aload_n 0, 1) := dk_42 (dk_at dksX1_tables_5 9 rfl rfl)
theorem dX1_tables_129 : decode cX1_tables 129 = .ok (.getfield 55, 3) := dk_180 0 55 (dk_at dksX1_tables_5 10 rfl rfl)
theorem dX1_tables_132 : decode cX1_tables 132 = .ok (.iload 4, 2) := dk_21 4 (dk_at dksX1_tables_5 13 rfl rfl)
theorem dX1_tables_134 : decode cX1_tables 134 = .ok (.aload_n 0, 1) := dk_42 (dk_at dksX1_tables_5 15 rfl rfl)
theorem dX1_tables_135 : decode cX1_tables 135 = .ok (.getfield 49, 3) := dk_180 0 49 (dk_at dksX1_tables_5 16 rfl rfl)
theorem dX1_tables_138 : decode cX1_tables 138 = .ok (.iload 4, 2) := dk_21 4 (dk_at dksX1_tables_5 19 rfl rfl)
theorem dX1_tables_140 : decode cX1_tables 140 = .ok (.iaload, 1) := dk_46 (dk_at dksX1_tables_5 21 rfl rfl)
theorem dX1_tables_141 : decode cX1_tables 141 = .ok (.iconst (-1), 1) := dk_2 (dk_at dksX1_tables_5 22 rfl rfl)
theorem dX1_tables_142 : decode cX1_tables 142 = .ok (.if_icmp .ne 7, 3) := dk_160 0 7 (dk_at dksX1_tables_6 0 rfl rfl)
theorem dX1_tables_145 : decode cX1_tables 145 = .ok (.iconst (-1), 1) := dk_2 (dk_at dksX1_tables_6 3 rfl rfl)
theorem dX1_tables_146 : decode cX1_tables 146 = .ok (.goto 9, 3) := dk_167 0 9 (dk_at dksX1_tables_6 4 rfl rfl)
theorem dX1_tables_149 : decode cX1_tables 149 = .ok (.aload_n 0, 1) := dk_42 (dk_at dksX1_tables_6 7 rfl rfl)
theorem dX1_tables_150 : decode cX1_tables 150 = .ok (.iload_n 1, 1) := dk_27 (dk_at dksX1_tables_6 8 rfl rfl)
theorem dX1_tables_151 : decode cX1_tables 151 = .ok (.iload_n 3, 1) := dk_29 (dk_at dksX1_tables_6 9 rfl rfl)
theorem dX1_tables_152 : decode cX1_tables 152 = .ok (.invokevirtual 215, 3) := dk_182 0 215 (dk_at dksX1_tables_6 10 rfl rfl)
theorem dX1_tables_155 : decode cX1_tables 155 = .ok (.iastore, 1) := dk_79 (dk_at dksX1_tables_6 13 rfl rfl)
theorem dX1_tables_156 : decode cX1_tables 156 = .ok (.aload_n 0, 1) := dk_42 (dk_at dksX1_tables_6 14 rfl rfl)
theorem dX1_tables_157 : decode cX1_tables 157 = .ok (.getfield 49, 3) := dk_180 0 49 (dk_at dksX1_tables_6 15 rfl rfl)
theorem dX1_tables_160 : decode cX1_tables 160 = .ok (.iload 4, 2) := dk_21 4 (dk_at dksX1_tables_6 18 rfl rfl)
theorem dX1_tables_162 : decode cX1_tables 162 = .ok (.iaload, 1) := dk_46 (dk_at dksX1_tables_6 20 rfl rfl)
theorem dX1_tables_163 : decode cX1_tables 163 = .ok (.iconst (-1), 1) := dk_2 (dk_at dksX1_tables_6 21 rfl rfl)
theorem dX1_tables_164 : decode cX1_tables 164 = .ok (.if_icmp .ne 6, 3) := dk_160 0 6 (dk_at dksX1_tables_7 0 rfl rfl)
theorem dX1_tables_167 : decode cX1_tables 167 = .ok (.goto 49, 3) := dk_167 0 49 (dk_at dksX1_tables_7 3 rfl rfl)
theorem dX1_tables_170 : decode cX1_tables 170 = .ok (.aload_n 0, 1) := dk_42 (dk_at dksX1_tables_7 6 rfl rfl)
theorem dX1_tables_171 : decode cX1_tables 171 = .ok (.getfield 58, 3) := dk_180 0 58 (dk_at dksX1_tables_7 7 rfl rfl)
theorem dX1_tables_174 : decode cX1_tables 174 = .ok (.bipush 8, 2) := dk_16 8 (dk_at dksX1_tables_7 10 rfl rfl)
theorem dX1_tables_176 : decode cX1_tables 176 = .ok (.aload_n 0, 1) := dk_42 (dk_at dksX1_tables_7 12 rfl rfl)
theorem dX1_tables_177 : decode cX1_tables 177 = .ok (.getfield 49, 3) := dk_180 0 49 (dk_at dksX1_tables_7 13 rfl rfl)
theorem dX1_tables_180 : decode cX1_tables 180 = .ok (.iload 4, 2) := dk_21 4 (dk_at dksX1_tables_7 16 rfl rfl)
theorem dX1_tables_182 : decode cX1_tables 182 = .ok (.iaload, 1) := dk_46 (dk_at dksX1_tables_7 18 rfl rfl)
theorem dX1_tables_183 : decode cX1_tables 183 = .ok (.imul, 1) := dk_104 (dk_at dksX1_tables_7 19 rfl rfl)
theorem dX1_tables_184 : decode cX1_tables 184 = .ok (.aload_n 0, 1) := dk_42 (dk_at dksX1_tables_7 20 rfl rfl)
theorem dX1_tables_185 : decode cX1_tables 185 = .ok (.getfield 61, 3) := dk_180 0 61 (dk_at dksX1_tables_7 21 rfl rfl)
theorem dX1_tables_188 : decode cX1_tables 188 = .ok (.aload_n 0, 1) := dk_42 (dk_at dksX1_tables_8 0 rfl rfl)
theorem dX1_tables_189 : decode cX1_tables 189 = .ok (.getfield 49, 3) := dk_180 0 49 (dk_at dksX1_tables_8 1 rfl rfl)
theorem dX1_tables_192 : decode cX1_tables 192 = .ok (.iload 4, 2) := dk_21 4 (dk_at dksX1_tables_8 4 rfl rfl)
theorem dX1_tables_194 : decode cX1_tables 194 = .ok (.iaload, 1) := dk_46 (dk_at dksX1_tables_8 6 rfl rfl)
theorem dX1_tables_195 : decode cX1_tables 195 = .ok (.iaload, 1) := dk_46 (dk_at dksX1_tables_8 7 rfl rfl)
theorem dX1_tables_196 : decode cX1_tables 196 = .ok (.iadd, 1) := dk_96 (dk_at dksX1_tables_8 8 rfl rfl)
theorem dX1_tables_197 : decode cX1_tables 197 = .ok (.iload 4, 2) := dk_21 4 (dk_at dksX1_tables_8 9 rfl rfl)
theorem dX1_tables_199 : decode cX1_tables 199 = .ok (.iastore, 1) := dk_79 (dk_at dksX1_tables_8 11 rfl rfl)
theorem dX1_tables_200 : decode cX1_tables 200 = .ok (.aload_n 0, 1) := dk_42 (dk_at dksX1_tables_8 12 rfl rfl)
theorem dX1_tables_201 : decode cX1_tables 201 = .ok (.getfield 61, 3) := dk_180 0 61 (dk_at dksX1_tables_8 13 rfl rfl)
theorem dX1_tables_204 : decode cX1_tables 204 = .ok (.aload_n 0, 1) := dk_42 (dk_at dksX1_tables_8 16 rfl rfl)
theorem dX1_tables_205 : decode cX1_tables 205 = .ok (.getfield 49, 3) := dk_180 0 49 (dk_at dksX1_tables_8 17 rfl rfl)
theorem dX1_tables_208 : decode cX1_tables 208 = .ok (.iload 4, 2) := dk_21 4 (dk_at dksX1_tables_8 20 rfl rfl)
theorem dX1_tables_210 : decode cX1_tables 210 = .ok (.iaload, 1) := dk_46 (dk_at dksX1_tables_8 22 rfl rfl)
theorem dX1_tables_211 : decode cX1_tables 211 = .ok (.dup2, 1) := dk_92 (dk_at dksX1_tables_8 23 rfl rfl)
theorem dX1_tables_212 : decode cX1_tables 212 = .ok (.iaload, 1) := dk_46 (dk_at dksX1_tables_9 0 rfl rfl)
theorem dX1_tables_213 : decode cX1_tables 213 = .ok (.iconst 1, 1) := dk_4 (dk_at dksX1_tables_9 1 rfl rfl)
theorem dX1_tables_214 : decode cX1_tables 214 = .ok (.iadd, 1) := dk_96 (dk_at dksX1_tables_9 2 rfl rfl)
theorem dX1_tables_215 : decode cX1_tables 215 = .ok (.iastore, 1) := dk_79 (dk_at dksX1_tables_9 3 rfl rfl)
theorem dX1_tables_216 : decode cX1_tables 216 = .ok (.iinc 3 1, 3) := dk_132 3 1 (dk_at dksX1_tables_9 4 rfl rfl)
theorem dX1_tables_219 : decode cX1_tables 219 = .ok (.goto (-160), 3) := dk_167 255 96 (dk_at dksX1_tables_9 7 rfl rfl)
theorem dX1_tables_222 : decode cX1_tables 222 = .ok (.iinc 1 1, 3) := dk_132 1 1 (dk_at dksX1_tables_9 10 rfl rfl)
theorem dX1_tables_225 : decode cX1_tables 225 = .ok (.goto (-202), 3) := dk_167 255 54 (dk_at dksX1_tables_9 13 rfl rfl)
theorem dX1_tables_228 : decode cX1_tables 228 = .ok (.return_, 1) := dk_177 (dk_at dksX1_tables_9 16 rfl rfl)
abbrev cX1_fold : ByteArray := prog_1_method_18_code
def yX1_fold : MethodName := ⟨RX1, "fold", "(I)I"⟩
def dkwX1_fold_0 : List UInt8 := [26, 5, 108, 16, 6, 108, 172]
abbrev dktX1_fold_0 : List UInt8 := dkwX1_fold_0 ++ []
theorem dksX1_fold_0 : cX1_fold.data.toList.drop 0 = dktX1_fold_0 := by decide +kernel
theorem dX1_fold_0 : decode cX1_fold 0 = .ok (.iload_n 0, 1) := dk_26 (dk_at dksX1_fold_0 0 rfl rfl)
theorem dX1_fold_1 : decode cX1_fold 1 = .ok (.iconst 2, 1) := dk_5 (dk_at dksX1_fold_0 1 rfl rfl)
theorem dX1_fold_2 : decode cX1_fold 2 = .ok (.idiv, 1) := dk_108 (dk_at dksX1_fold_0 2 rfl rfl)
theorem dX1_fold_3 : decode cX1_fold 3 = .ok (.bipush 6, 2) := dk_16 6 (dk_at dksX1_fold_0 3 rfl rfl)
theorem dX1_fold_5 : decode cX1_fold 5 = .ok (.idiv, 1) := dk_108 (dk_at dksX1_fold_0 5 rfl rfl)
theorem dX1_fold_6 : decode cX1_fold 6 = .ok (.ireturn, 1) := dk_172 (dk_at dksX1_fold_0 6 rfl rfl)
abbrev cX1_station : ByteArray := prog_1_method_19_code
def yX1_station : MethodName := ⟨RX1, "station", "(I)I"⟩
def dkwX1_station_0 : List UInt8 := [26, 5, 108, 16, 6, 112, 172]
abbrev dktX1_station_0 : List UInt8 := dkwX1_station_0 ++ []
theorem dksX1_station_0 : cX1_station.data.toList.drop 0 = dktX1_station_0 := by decide +kernel
theorem dX1_station_0 : decode cX1_station 0 = .ok (.iload_n 0, 1) := dk_26 (dk_at dksX1_station_0 0 rfl rfl)
theorem dX1_station_1 : decode cX1_station 1 = .ok (.iconst 2, 1) := dk_5 (dk_at dksX1_station_0 1 rfl rfl)
theorem dX1_station_2 : decode cX1_station 2 = .ok (.idiv, 1) := dk_108 (dk_at dksX1_station_0 2 rfl rfl)
theorem dX1_station_3 : decode cX1_station 3 = .ok (.bipush 6, 2) := dk_16 6 (dk_at dksX1_station_0 3 rfl rfl)
theorem dX1_station_5 : decode cX1_station 5 = .ok (.irem, 1) := dk_112 (dk_at dksX1_station_0 5 rfl rfl)
theorem dX1_station_6 : decode cX1_station 6 = .ok (.ireturn, 1) := dk_172 (dk_at dksX1_station_0 6 rfl rfl)
abbrev cX1_leads : ByteArray := prog_1_method_22_code
def yX1_leads : MethodName := ⟨RX1, "leads", "(II)I"⟩
def dkwX1_leads_12 : List UInt8 := [184, 0, 151, 167, 0, 4, 2, 172]
abbrev dktX1_leads_12 : List UInt8 := dkwX1_leads_12 ++ []
def dkwX1_leads_11 : List UInt8 := [154, 0, 30, 42, 180, 0, 16, 21, 4, 46, 4, 160, 0, 19, 29, 158, 0, 15, 29, 4, 100, 21, 4, 3]
abbrev dktX1_leads_11 : List UInt8 := dkwX1_leads_11 ++ dktX1_leads_12
def dkwX1_leads_10 : List UInt8 := [96, 42, 180, 0, 82, 162, 0, 15, 29, 4, 96, 21, 4, 3, 184, 0, 151, 167, 0, 4, 2, 172, 21, 5]
abbrev dktX1_leads_10 : List UInt8 := dkwX1_leads_10 ++ dktX1_leads_11
def dkwX1_leads_9 : List UInt8 := [27, 167, 0, 4, 2, 172, 21, 5, 154, 0, 36, 42, 180, 0, 16, 21, 4, 46, 4, 160, 0, 25, 29, 4]
abbrev dktX1_leads_9 : List UInt8 := dkwX1_leads_9 ++ dktX1_leads_10
def dkwX1_leads_8 : List UInt8 := [184, 0, 151, 167, 0, 4, 2, 172, 21, 5, 154, 0, 18, 42, 180, 0, 16, 21, 4, 46, 5, 160, 0, 7]
abbrev dktX1_leads_8 : List UInt8 := dkwX1_leads_8 ++ dktX1_leads_9
def dkwX1_leads_7 : List UInt8 := [158, 0, 28, 42, 180, 0, 16, 21, 4, 4, 100, 46, 6, 160, 0, 15, 29, 21, 4, 4, 100, 3]
abbrev dktX1_leads_7 : List UInt8 := dkwX1_leads_7 ++ dktX1_leads_8
def dkwX1_leads_6 : List UInt8 := [160, 0, 15, 29, 21, 4, 4, 96, 3, 184, 0, 151, 167, 0, 4, 2, 172, 21, 5, 154, 0, 33, 21, 4]
abbrev dktX1_leads_6 : List UInt8 := dkwX1_leads_6 ++ dktX1_leads_7
def dkwX1_leads_5 : List UInt8 := [21, 5, 154, 0, 37, 21, 4, 4, 96, 42, 180, 0, 85, 162, 0, 26, 42, 180, 0, 16, 21, 4, 46, 6]
abbrev dktX1_leads_5 : List UInt8 := dkwX1_leads_5 ++ dktX1_leads_6
def dkwX1_leads_4 : List UInt8 := [21, 5, 153, 0, 20, 21, 4, 158, 0, 15, 29, 21, 4, 4, 100, 4, 184, 0, 151, 167, 0, 4, 2, 172]
abbrev dktX1_leads_4 : List UInt8 := dkwX1_leads_4 ++ dktX1_leads_5
def dkwX1_leads_3 : List UInt8 := [4, 96, 42, 180, 0, 85, 162, 0, 15, 29, 21, 4, 4, 96, 4, 184, 0, 151, 167, 0, 4, 2, 172]
abbrev dktX1_leads_3 : List UInt8 := dkwX1_leads_3 ++ dktX1_leads_4
def dkwX1_leads_2 : List UInt8 := [29, 21, 4, 21, 5, 154, 0, 7, 4, 167, 0, 4, 3, 184, 0, 151, 172, 21, 5, 153, 0, 26, 21, 4]
abbrev dktX1_leads_2 : List UInt8 := dkwX1_leads_2 ++ dktX1_leads_3
def dkwX1_leads_1 : List UInt8 := [170, 0, 0, 0, 0, 253, 0, 0, 0, 0, 0, 0, 0, 6, 0, 0, 0, 42, 0, 0, 0, 59, 0, 0, 0, 89, 0, 0, 0, 113, 0, 0, 0, 154, 0, 0, 0, 191, 0, 0, 0, 213]
abbrev dktX1_leads_1 : List UInt8 := dkwX1_leads_1 ++ dktX1_leads_2
def dkwX1_leads_0 : List UInt8 := [27, 184, 0, 142, 62, 27, 184, 0, 145, 54, 4, 27, 184, 0, 147, 54, 5, 28]
abbrev dktX1_leads_0 : List UInt8 := dkwX1_leads_0 ++ dktX1_leads_1
theorem dksX1_leads_0 : cX1_leads.data.toList.drop 0 = dktX1_leads_0 := by decide +kernel
theorem dksX1_leads_1 : cX1_leads.data.toList.drop 18 = dktX1_leads_1 := dk_seg dksX1_leads_0 18 rfl rfl
theorem dksX1_leads_2 : cX1_leads.data.toList.drop 60 = dktX1_leads_2 := dk_seg dksX1_leads_1 42 rfl rfl
theorem dksX1_leads_3 : cX1_leads.data.toList.drop 84 = dktX1_leads_3 := dk_seg dksX1_leads_2 24 rfl rfl
theorem dksX1_leads_4 : cX1_leads.data.toList.drop 107 = dktX1_leads_4 := dk_seg dksX1_leads_3 23 rfl rfl
theorem dksX1_leads_5 : cX1_leads.data.toList.drop 131 = dktX1_leads_5 := dk_seg dksX1_leads_4 24 rfl rfl
theorem dksX1_leads_6 : cX1_leads.data.toList.drop 155 = dktX1_leads_6 := dk_seg dksX1_leads_5 24 rfl rfl
theorem dksX1_leads_7 : cX1_leads.data.toList.drop 179 = dktX1_leads_7 := dk_seg dksX1_leads_6 24 rfl rfl
theorem dksX1_leads_8 : cX1_leads.data.toList.drop 201 = dktX1_leads_8 := dk_seg dksX1_leads_7 22 rfl rfl
theorem dksX1_leads_9 : cX1_leads.data.toList.drop 225 = dktX1_leads_9 := dk_seg dksX1_leads_8 24 rfl rfl
theorem dksX1_leads_10 : cX1_leads.data.toList.drop 249 = dktX1_leads_10 := dk_seg dksX1_leads_9 24 rfl rfl
theorem dksX1_leads_11 : cX1_leads.data.toList.drop 273 = dktX1_leads_11 := dk_seg dksX1_leads_10 24 rfl rfl
theorem dksX1_leads_12 : cX1_leads.data.toList.drop 297 = dktX1_leads_12 := dk_seg dksX1_leads_11 24 rfl rfl
theorem dX1_leads_0 : decode cX1_leads 0 = .ok (.iload_n 1, 1) := dk_27 (dk_at dksX1_leads_0 0 rfl rfl)
theorem dX1_leads_1 : decode cX1_leads 1 = .ok (.invokestatic 142, 3) := dk_184 0 142 (dk_at dksX1_leads_0 1 rfl rfl)
theorem dX1_leads_4 : decode cX1_leads 4 = .ok (.istore_n 3, 1) := dk_62 (dk_at dksX1_leads_0 4 rfl rfl)
theorem dX1_leads_5 : decode cX1_leads 5 = .ok (.iload_n 1, 1) := dk_27 (dk_at dksX1_leads_0 5 rfl rfl)
theorem dX1_leads_6 : decode cX1_leads 6 = .ok (.invokestatic 145, 3) := dk_184 0 145 (dk_at dksX1_leads_0 6 rfl rfl)
theorem dX1_leads_9 : decode cX1_leads 9 = .ok (.istore 4, 2) := dk_54 4 (dk_at dksX1_leads_0 9 rfl rfl)
theorem dX1_leads_11 : decode cX1_leads 11 = .ok (.iload_n 1, 1) := dk_27 (dk_at dksX1_leads_0 11 rfl rfl)
theorem dX1_leads_12 : decode cX1_leads 12 = .ok (.invokestatic 147, 3) := dk_184 0 147 (dk_at dksX1_leads_0 12 rfl rfl)
theorem dX1_leads_15 : decode cX1_leads 15 = .ok (.istore 5, 2) := dk_54 5 (dk_at dksX1_leads_0 15 rfl rfl)
theorem dX1_leads_17 : decode cX1_leads 17 = .ok (.iload_n 2, 1) := dk_28 (dk_at dksX1_leads_0 17 rfl rfl)
theorem dX1_leads_18 : decode cX1_leads 18 = .ok (.tableswitch 253 0 6 #[42, 59, 89, 113, 154, 191, 213], 42) := by decide +kernel
theorem dX1_leads_60 : decode cX1_leads 60 = .ok (.iload_n 3, 1) := dk_29 (dk_at dksX1_leads_2 0 rfl rfl)
theorem dX1_leads_61 : decode cX1_leads 61 = .ok (.iload 4, 2) := dk_21 4 (dk_at dksX1_leads_2 1 rfl rfl)
theorem dX1_leads_63 : decode cX1_leads 63 = .ok (.iload 5, 2) := dk_21 5 (dk_at dksX1_leads_2 3 rfl rfl)
theorem dX1_leads_65 : decode cX1_leads 65 = .ok (.ifCond .ne 7, 3) := dk_154 0 7 (dk_at dksX1_leads_2 5 rfl rfl)
theorem dX1_leads_68 : decode cX1_leads 68 = .ok (.iconst 1, 1) := dk_4 (dk_at dksX1_leads_2 8 rfl rfl)
theorem dX1_leads_69 : decode cX1_leads 69 = .ok (.goto 4, 3) := dk_167 0 4 (dk_at dksX1_leads_2 9 rfl rfl)
theorem dX1_leads_72 : decode cX1_leads 72 = .ok (.iconst 0, 1) := dk_3 (dk_at dksX1_leads_2 12 rfl rfl)
theorem dX1_leads_73 : decode cX1_leads 73 = .ok (.invokestatic 151, 3) := dk_184 0 151 (dk_at dksX1_leads_2 13 rfl rfl)
theorem dX1_leads_76 : decode cX1_leads 76 = .ok (.ireturn, 1) := dk_172 (dk_at dksX1_leads_2 16 rfl rfl)
theorem dX1_leads_77 : decode cX1_leads 77 = .ok (.iload 5, 2) := dk_21 5 (dk_at dksX1_leads_2 17 rfl rfl)
theorem dX1_leads_79 : decode cX1_leads 79 = .ok (.ifCond .eq 26, 3) := dk_153 0 26 (dk_at dksX1_leads_2 19 rfl rfl)
theorem dX1_leads_82 : decode cX1_leads 82 = .ok (.iload 4, 2) := dk_21 4 (dk_at dksX1_leads_2 22 rfl rfl)
theorem dX1_leads_84 : decode cX1_leads 84 = .ok (.iconst 1, 1) := dk_4 (dk_at dksX1_leads_3 0 rfl rfl)
theorem dX1_leads_85 : decode cX1_leads 85 = .ok (.iadd, 1) := dk_96 (dk_at dksX1_leads_3 1 rfl rfl)
theorem dX1_leads_86 : decode cX1_leads 86 = .ok (.aload_n 0, 1) := dk_42 (dk_at dksX1_leads_3 2 rfl rfl)
theorem dX1_leads_87 : decode cX1_leads 87 = .ok (.getfield 85, 3) := dk_180 0 85 (dk_at dksX1_leads_3 3 rfl rfl)
theorem dX1_leads_90 : decode cX1_leads 90 = .ok (.if_icmp .ge 15, 3) := dk_162 0 15 (dk_at dksX1_leads_3 6 rfl rfl)
theorem dX1_leads_93 : decode cX1_leads 93 = .ok (.iload_n 3, 1) := dk_29 (dk_at dksX1_leads_3 9 rfl rfl)
theorem dX1_leads_94 : decode cX1_leads 94 = .ok (.iload 4, 2) := dk_21 4 (dk_at dksX1_leads_3 10 rfl rfl)
theorem dX1_leads_96 : decode cX1_leads 96 = .ok (.iconst 1, 1) := dk_4 (dk_at dksX1_leads_3 12 rfl rfl)
theorem dX1_leads_97 : decode cX1_leads 97 = .ok (.iadd, 1) := dk_96 (dk_at dksX1_leads_3 13 rfl rfl)
theorem dX1_leads_98 : decode cX1_leads 98 = .ok (.iconst 1, 1) := dk_4 (dk_at dksX1_leads_3 14 rfl rfl)
theorem dX1_leads_99 : decode cX1_leads 99 = .ok (.invokestatic 151, 3) := dk_184 0 151 (dk_at dksX1_leads_3 15 rfl rfl)
theorem dX1_leads_102 : decode cX1_leads 102 = .ok (.goto 4, 3) := dk_167 0 4 (dk_at dksX1_leads_3 18 rfl rfl)
theorem dX1_leads_105 : decode cX1_leads 105 = .ok (.iconst (-1), 1) := dk_2 (dk_at dksX1_leads_3 21 rfl rfl)
theorem dX1_leads_106 : decode cX1_leads 106 = .ok (.ireturn, 1) := dk_172 (dk_at dksX1_leads_3 22 rfl rfl)
theorem dX1_leads_107 : decode cX1_leads 107 = .ok (.iload 5, 2) := dk_21 5 (dk_at dksX1_leads_4 0 rfl rfl)
theorem dX1_leads_109 : decode cX1_leads 109 = .ok (.ifCond .eq 20, 3) := dk_153 0 20 (dk_at dksX1_leads_4 2 rfl rfl)
theorem dX1_leads_112 : decode cX1_leads 112 = .ok (.iload 4, 2) := dk_21 4 (dk_at dksX1_leads_4 5 rfl rfl)
theorem dX1_leads_114 : decode cX1_leads 114 = .ok (.ifCond .le 15, 3) := dk_158 0 15 (dk_at dksX1_leads_4 7 rfl rfl)
theorem dX1_leads_117 : decode cX1_leads 117 = .ok (.iload_n 3, 1) := dk_29 (dk_at dksX1_leads_4 10 rfl rfl)
theorem dX1_leads_118 : decode cX1_leads 118 = .ok (.iload 4, 2) := dk_21 4 (dk_at dksX1_leads_4 11 rfl rfl)
theorem dX1_leads_120 : decode cX1_leads 120 = .ok (.iconst 1, 1) := dk_4 (dk_at dksX1_leads_4 13 rfl rfl)
theorem dX1_leads_121 : decode cX1_leads 121 = .ok (.isub, 1) := dk_100 (dk_at dksX1_leads_4 14 rfl rfl)
theorem dX1_leads_122 : decode cX1_leads 122 = .ok (.iconst 1, 1) := dk_4 (dk_at dksX1_leads_4 15 rfl rfl)
theorem dX1_leads_123 : decode cX1_leads 123 = .ok (.invokestatic 151, 3) := dk_184 0 151 (dk_at dksX1_leads_4 16 rfl rfl)
theorem dX1_leads_126 : decode cX1_leads 126 = .ok (.goto 4, 3) := dk_167 0 4 (dk_at dksX1_leads_4 19 rfl rfl)
theorem dX1_leads_129 : decode cX1_leads 129 = .ok (.iconst (-1), 1) := dk_2 (dk_at dksX1_leads_4 22 rfl rfl)
theorem dX1_leads_130 : decode cX1_leads 130 = .ok (.ireturn, 1) := dk_172 (dk_at dksX1_leads_4 23 rfl rfl)
theorem dX1_leads_131 : decode cX1_leads 131 = .ok (.iload 5, 2) := dk_21 5 (dk_at dksX1_leads_5 0 rfl rfl)
theorem dX1_leads_133 : decode cX1_leads 133 = .ok (.ifCond .ne 37, 3) := dk_154 0 37 (dk_at dksX1_leads_5 2 rfl rfl)
theorem dX1_leads_136 : decode cX1_leads 136 = .ok (.iload 4, 2) := dk_21 4 (dk_at dksX1_leads_5 5 rfl rfl)
theorem dX1_leads_138 : decode cX1_leads 138 = .ok (.iconst 1, 1) := dk_4 (dk_at dksX1_leads_5 7 rfl rfl)
theorem dX1_leads_139 : decode cX1_leads 139 = .ok (.iadd, 1) := dk_96 (dk_at dksX1_leads_5 8 rfl rfl)
theorem dX1_leads_140 : decode cX1_leads 140 = .ok (.aload_n 0, 1) := dk_42 (dk_at dksX1_leads_5 9 rfl rfl)
theorem dX1_leads_141 : decode cX1_leads 141 = .ok (.getfield 85, 3) := dk_180 0 85 (dk_at dksX1_leads_5 10 rfl rfl)
theorem dX1_leads_144 : decode cX1_leads 144 = .ok (.if_icmp .ge 26, 3) := dk_162 0 26 (dk_at dksX1_leads_5 13 rfl rfl)
theorem dX1_leads_147 : decode cX1_leads 147 = .ok (.aload_n 0, 1) := dk_42 (dk_at dksX1_leads_5 16 rfl rfl)
theorem dX1_leads_148 : decode cX1_leads 148 = .ok (.getfield 16, 3) := dk_180 0 16 (dk_at dksX1_leads_5 17 rfl rfl)
theorem dX1_leads_151 : decode cX1_leads 151 = .ok (.iload 4, 2) := dk_21 4 (dk_at dksX1_leads_5 20 rfl rfl)
theorem dX1_leads_153 : decode cX1_leads 153 = .ok (.iaload, 1) := dk_46 (dk_at dksX1_leads_5 22 rfl rfl)
theorem dX1_leads_154 : decode cX1_leads 154 = .ok (.iconst 3, 1) := dk_6 (dk_at dksX1_leads_5 23 rfl rfl)
theorem dX1_leads_155 : decode cX1_leads 155 = .ok (.if_icmp .ne 15, 3) := dk_160 0 15 (dk_at dksX1_leads_6 0 rfl rfl)
theorem dX1_leads_158 : decode cX1_leads 158 = .ok (.iload_n 3, 1) := dk_29 (dk_at dksX1_leads_6 3 rfl rfl)
theorem dX1_leads_159 : decode cX1_leads 159 = .ok (.iload 4, 2) := dk_21 4 (dk_at dksX1_leads_6 4 rfl rfl)
theorem dX1_leads_161 : decode cX1_leads 161 = .ok (.iconst 1, 1) := dk_4 (dk_at dksX1_leads_6 6 rfl rfl)
theorem dX1_leads_162 : decode cX1_leads 162 = .ok (.iadd, 1) := dk_96 (dk_at dksX1_leads_6 7 rfl rfl)
theorem dX1_leads_163 : decode cX1_leads 163 = .ok (.iconst 0, 1) := dk_3 (dk_at dksX1_leads_6 8 rfl rfl)
theorem dX1_leads_164 : decode cX1_leads 164 = .ok (.invokestatic 151, 3) := dk_184 0 151 (dk_at dksX1_leads_6 9 rfl rfl)
theorem dX1_leads_167 : decode cX1_leads 167 = .ok (.goto 4, 3) := dk_167 0 4 (dk_at dksX1_leads_6 12 rfl rfl)
theorem dX1_leads_170 : decode cX1_leads 170 = .ok (.iconst (-1), 1) := dk_2 (dk_at dksX1_leads_6 15 rfl rfl)
theorem dX1_leads_171 : decode cX1_leads 171 = .ok (.ireturn, 1) := dk_172 (dk_at dksX1_leads_6 16 rfl rfl)
theorem dX1_leads_172 : decode cX1_leads 172 = .ok (.iload 5, 2) := dk_21 5 (dk_at dksX1_leads_6 17 rfl rfl)
theorem dX1_leads_174 : decode cX1_leads 174 = .ok (.ifCond .ne 33, 3) := dk_154 0 33 (dk_at dksX1_leads_6 19 rfl rfl)
theorem dX1_leads_177 : decode cX1_leads 177 = .ok (.iload 4, 2) := dk_21 4 (dk_at dksX1_leads_6 22 rfl rfl)
theorem dX1_leads_179 : decode cX1_leads 179 = .ok (.ifCond .le 28, 3) := dk_158 0 28 (dk_at dksX1_leads_7 0 rfl rfl)
theorem dX1_leads_182 : decode cX1_leads 182 = .ok (.aload_n 0, 1) := dk_42 (dk_at dksX1_leads_7 3 rfl rfl)
theorem dX1_leads_183 : decode cX1_leads 183 = .ok (.getfield 16, 3) := dk_180 0 16 (dk_at dksX1_leads_7 4 rfl rfl)
theorem dX1_leads_186 : decode cX1_leads 186 = .ok (.iload 4, 2) := dk_21 4 (dk_at dksX1_leads_7 7 rfl rfl)
theorem dX1_leads_188 : decode cX1_leads 188 = .ok (.iconst 1, 1) := dk_4 (dk_at dksX1_leads_7 9 rfl rfl)
theorem dX1_leads_189 : decode cX1_leads 189 = .ok (.isub, 1) := dk_100 (dk_at dksX1_leads_7 10 rfl rfl)
theorem dX1_leads_190 : decode cX1_leads 190 = .ok (.iaload, 1) := dk_46 (dk_at dksX1_leads_7 11 rfl rfl)
theorem dX1_leads_191 : decode cX1_leads 191 = .ok (.iconst 3, 1) := dk_6 (dk_at dksX1_leads_7 12 rfl rfl)
theorem dX1_leads_192 : decode cX1_leads 192 = .ok (.if_icmp .ne 15, 3) := dk_160 0 15 (dk_at dksX1_leads_7 13 rfl rfl)
theorem dX1_leads_195 : decode cX1_leads 195 = .ok (.iload_n 3, 1) := dk_29 (dk_at dksX1_leads_7 16 rfl rfl)
theorem dX1_leads_196 : decode cX1_leads 196 = .ok (.iload 4, 2) := dk_21 4 (dk_at dksX1_leads_7 17 rfl rfl)
theorem dX1_leads_198 : decode cX1_leads 198 = .ok (.iconst 1, 1) := dk_4 (dk_at dksX1_leads_7 19 rfl rfl)
theorem dX1_leads_199 : decode cX1_leads 199 = .ok (.isub, 1) := dk_100 (dk_at dksX1_leads_7 20 rfl rfl)
theorem dX1_leads_200 : decode cX1_leads 200 = .ok (.iconst 0, 1) := dk_3 (dk_at dksX1_leads_7 21 rfl rfl)
theorem dX1_leads_201 : decode cX1_leads 201 = .ok (.invokestatic 151, 3) := dk_184 0 151 (dk_at dksX1_leads_8 0 rfl rfl)
theorem dX1_leads_204 : decode cX1_leads 204 = .ok (.goto 4, 3) := dk_167 0 4 (dk_at dksX1_leads_8 3 rfl rfl)
theorem dX1_leads_207 : decode cX1_leads 207 = .ok (.iconst (-1), 1) := dk_2 (dk_at dksX1_leads_8 6 rfl rfl)
theorem dX1_leads_208 : decode cX1_leads 208 = .ok (.ireturn, 1) := dk_172 (dk_at dksX1_leads_8 7 rfl rfl)
theorem dX1_leads_209 : decode cX1_leads 209 = .ok (.iload 5, 2) := dk_21 5 (dk_at dksX1_leads_8 8 rfl rfl)
theorem dX1_leads_211 : decode cX1_leads 211 = .ok (.ifCond .ne 18, 3) := dk_154 0 18 (dk_at dksX1_leads_8 10 rfl rfl)
theorem dX1_leads_214 : decode cX1_leads 214 = .ok (.aload_n 0, 1) := dk_42 (dk_at dksX1_leads_8 13 rfl rfl)
theorem dX1_leads_215 : decode cX1_leads 215 = .ok (.getfield 16, 3) := dk_180 0 16 (dk_at dksX1_leads_8 14 rfl rfl)
theorem dX1_leads_218 : decode cX1_leads 218 = .ok (.iload 4, 2) := dk_21 4 (dk_at dksX1_leads_8 17 rfl rfl)
theorem dX1_leads_220 : decode cX1_leads 220 = .ok (.iaload, 1) := dk_46 (dk_at dksX1_leads_8 19 rfl rfl)
theorem dX1_leads_221 : decode cX1_leads 221 = .ok (.iconst 2, 1) := dk_5 (dk_at dksX1_leads_8 20 rfl rfl)
theorem dX1_leads_222 : decode cX1_leads 222 = .ok (.if_icmp .ne 7, 3) := dk_160 0 7 (dk_at dksX1_leads_8 21 rfl rfl)
theorem dX1_leads_225 : decode cX1_leads 225 = .ok (.iload_n 1, 1) := dk_27 (dk_at dksX1_leads_9 0 rfl rfl)
theorem dX1_leads_226 : decode cX1_leads 226 = .ok (.goto 4, 3) := dk_167 0 4 (dk_at dksX1_leads_9 1 rfl rfl)
theorem dX1_leads_229 : decode cX1_leads 229 = .ok (.iconst (-1), 1) := dk_2 (dk_at dksX1_leads_9 4 rfl rfl)
theorem dX1_leads_230 : decode cX1_leads 230 = .ok (.ireturn, 1) := dk_172 (dk_at dksX1_leads_9 5 rfl rfl)
theorem dX1_leads_231 : decode cX1_leads 231 = .ok (.iload 5, 2) := dk_21 5 (dk_at dksX1_leads_9 6 rfl rfl)
theorem dX1_leads_233 : decode cX1_leads 233 = .ok (.ifCond .ne 36, 3) := dk_154 0 36 (dk_at dksX1_leads_9 8 rfl rfl)
theorem dX1_leads_236 : decode cX1_leads 236 = .ok (.aload_n 0, 1) := dk_42 (dk_at dksX1_leads_9 11 rfl rfl)
theorem dX1_leads_237 : decode cX1_leads 237 = .ok (.getfield 16, 3) := dk_180 0 16 (dk_at dksX1_leads_9 12 rfl rfl)
theorem dX1_leads_240 : decode cX1_leads 240 = .ok (.iload 4, 2) := dk_21 4 (dk_at dksX1_leads_9 15 rfl rfl)
theorem dX1_leads_242 : decode cX1_leads 242 = .ok (.iaload, 1) := dk_46 (dk_at dksX1_leads_9 17 rfl rfl)
theorem dX1_leads_243 : decode cX1_leads 243 = .ok (.iconst 1, 1) := dk_4 (dk_at dksX1_leads_9 18 rfl rfl)
theorem dX1_leads_244 : decode cX1_leads 244 = .ok (.if_icmp .ne 25, 3) := dk_160 0 25 (dk_at dksX1_leads_9 19 rfl rfl)
theorem dX1_leads_247 : decode cX1_leads 247 = .ok (.iload_n 3, 1) := dk_29 (dk_at dksX1_leads_9 22 rfl rfl)
theorem dX1_leads_248 : decode cX1_leads 248 = .ok (.iconst 1, 1) := dk_4 (dk_at dksX1_leads_9 23 rfl rfl)
theorem dX1_leads_249 : decode cX1_leads 249 = .ok (.iadd, 1) := dk_96 (dk_at dksX1_leads_10 0 rfl rfl)
theorem dX1_leads_250 : decode cX1_leads 250 = .ok (.aload_n 0, 1) := dk_42 (dk_at dksX1_leads_10 1 rfl rfl)
theorem dX1_leads_251 : decode cX1_leads 251 = .ok (.getfield 82, 3) := dk_180 0 82 (dk_at dksX1_leads_10 2 rfl rfl)
theorem dX1_leads_254 : decode cX1_leads 254 = .ok (.if_icmp .ge 15, 3) := dk_162 0 15 (dk_at dksX1_leads_10 5 rfl rfl)
theorem dX1_leads_257 : decode cX1_leads 257 = .ok (.iload_n 3, 1) := dk_29 (dk_at dksX1_leads_10 8 rfl rfl)
theorem dX1_leads_258 : decode cX1_leads 258 = .ok (.iconst 1, 1) := dk_4 (dk_at dksX1_leads_10 9 rfl rfl)
theorem dX1_leads_259 : decode cX1_leads 259 = .ok (.iadd, 1) := dk_96 (dk_at dksX1_leads_10 10 rfl rfl)
theorem dX1_leads_260 : decode cX1_leads 260 = .ok (.iload 4, 2) := dk_21 4 (dk_at dksX1_leads_10 11 rfl rfl)
theorem dX1_leads_262 : decode cX1_leads 262 = .ok (.iconst 0, 1) := dk_3 (dk_at dksX1_leads_10 13 rfl rfl)
theorem dX1_leads_263 : decode cX1_leads 263 = .ok (.invokestatic 151, 3) := dk_184 0 151 (dk_at dksX1_leads_10 14 rfl rfl)
theorem dX1_leads_266 : decode cX1_leads 266 = .ok (.goto 4, 3) := dk_167 0 4 (dk_at dksX1_leads_10 17 rfl rfl)
theorem dX1_leads_269 : decode cX1_leads 269 = .ok (.iconst (-1), 1) := dk_2 (dk_at dksX1_leads_10 20 rfl rfl)
theorem dX1_leads_270 : decode cX1_leads 270 = .ok (.ireturn, 1) := dk_172 (dk_at dksX1_leads_10 21 rfl rfl)
theorem dX1_leads_271 : decode cX1_leads 271 = .ok (.iload 5, 2) := dk_21 5 (dk_at dksX1_leads_10 22 rfl rfl)
theorem dX1_leads_273 : decode cX1_leads 273 = .ok (.ifCond .ne 30, 3) := dk_154 0 30 (dk_at dksX1_leads_11 0 rfl rfl)
theorem dX1_leads_276 : decode cX1_leads 276 = .ok (.aload_n 0, 1) := dk_42 (dk_at dksX1_leads_11 3 rfl rfl)
theorem dX1_leads_277 : decode cX1_leads 277 = .ok (.getfield 16, 3) := dk_180 0 16 (dk_at dksX1_leads_11 4 rfl rfl)
theorem dX1_leads_280 : decode cX1_leads 280 = .ok (.iload 4, 2) := dk_21 4 (dk_at dksX1_leads_11 7 rfl rfl)
theorem dX1_leads_282 : decode cX1_leads 282 = .ok (.iaload, 1) := dk_46 (dk_at dksX1_leads_11 9 rfl rfl)
theorem dX1_leads_283 : decode cX1_leads 283 = .ok (.iconst 1, 1) := dk_4 (dk_at dksX1_leads_11 10 rfl rfl)
theorem dX1_leads_284 : decode cX1_leads 284 = .ok (.if_icmp .ne 19, 3) := dk_160 0 19 (dk_at dksX1_leads_11 11 rfl rfl)
theorem dX1_leads_287 : decode cX1_leads 287 = .ok (.iload_n 3, 1) := dk_29 (dk_at dksX1_leads_11 14 rfl rfl)
theorem dX1_leads_288 : decode cX1_leads 288 = .ok (.ifCond .le 15, 3) := dk_158 0 15 (dk_at dksX1_leads_11 15 rfl rfl)
theorem dX1_leads_291 : decode cX1_leads 291 = .ok (.iload_n 3, 1) := dk_29 (dk_at dksX1_leads_11 18 rfl rfl)
theorem dX1_leads_292 : decode cX1_leads 292 = .ok (.iconst 1, 1) := dk_4 (dk_at dksX1_leads_11 19 rfl rfl)
theorem dX1_leads_293 : decode cX1_leads 293 = .ok (.isub, 1) := dk_100 (dk_at dksX1_leads_11 20 rfl rfl)
theorem dX1_leads_294 : decode cX1_leads 294 = .ok (.iload 4, 2) := dk_21 4 (dk_at dksX1_leads_11 21 rfl rfl)
theorem dX1_leads_296 : decode cX1_leads 296 = .ok (.iconst 0, 1) := dk_3 (dk_at dksX1_leads_11 23 rfl rfl)
theorem dX1_leads_297 : decode cX1_leads 297 = .ok (.invokestatic 151, 3) := dk_184 0 151 (dk_at dksX1_leads_12 0 rfl rfl)
theorem dX1_leads_300 : decode cX1_leads 300 = .ok (.goto 4, 3) := dk_167 0 4 (dk_at dksX1_leads_12 3 rfl rfl)
theorem dX1_leads_303 : decode cX1_leads 303 = .ok (.iconst (-1), 1) := dk_2 (dk_at dksX1_leads_12 6 rfl rfl)
theorem dX1_leads_304 : decode cX1_leads 304 = .ok (.ireturn, 1) := dk_172 (dk_at dksX1_leads_12 7 rfl rfl)
abbrev cX1_isInside : ByteArray := prog_1_method_20_code
def yX1_isInside : MethodName := ⟨RX1, "isInside", "(I)Z"⟩
def dkwX1_isInside_0 : List UInt8 := [26, 5, 112, 4, 160, 0, 7, 4, 167, 0, 4, 3, 172]
abbrev dktX1_isInside_0 : List UInt8 := dkwX1_isInside_0 ++ []
theorem dksX1_isInside_0 : cX1_isInside.data.toList.drop 0 = dktX1_isInside_0 := by decide +kernel
theorem dX1_isInside_0 : decode cX1_isInside 0 = .ok (.iload_n 0, 1) := dk_26 (dk_at dksX1_isInside_0 0 rfl rfl)
theorem dX1_isInside_1 : decode cX1_isInside 1 = .ok (.iconst 2, 1) := dk_5 (dk_at dksX1_isInside_0 1 rfl rfl)
theorem dX1_isInside_2 : decode cX1_isInside 2 = .ok (.irem, 1) := dk_112 (dk_at dksX1_isInside_0 2 rfl rfl)
theorem dX1_isInside_3 : decode cX1_isInside 3 = .ok (.iconst 1, 1) := dk_4 (dk_at dksX1_isInside_0 3 rfl rfl)
theorem dX1_isInside_4 : decode cX1_isInside 4 = .ok (.if_icmp .ne 7, 3) := dk_160 0 7 (dk_at dksX1_isInside_0 4 rfl rfl)
theorem dX1_isInside_7 : decode cX1_isInside 7 = .ok (.iconst 1, 1) := dk_4 (dk_at dksX1_isInside_0 7 rfl rfl)
theorem dX1_isInside_8 : decode cX1_isInside 8 = .ok (.goto 4, 3) := dk_167 0 4 (dk_at dksX1_isInside_0 8 rfl rfl)
theorem dX1_isInside_11 : decode cX1_isInside 11 = .ok (.iconst 0, 1) := dk_3 (dk_at dksX1_isInside_0 11 rfl rfl)
theorem dX1_isInside_12 : decode cX1_isInside 12 = .ok (.ireturn, 1) := dk_172 (dk_at dksX1_isInside_0 12 rfl rfl)
abbrev cX1_place : ByteArray := prog_1_method_21_code
def yX1_place : MethodName := ⟨RX1, "place", "(IIZ)I"⟩
def dkwX1_place_0 : List UInt8 := [5, 16, 6, 26, 104, 27, 96, 104, 28, 153, 0, 7, 4, 167, 0, 4, 3, 96, 172]
abbrev dktX1_place_0 : List UInt8 := dkwX1_place_0 ++ []
theorem dksX1_place_0 : cX1_place.data.toList.drop 0 = dktX1_place_0 := by decide +kernel
theorem dX1_place_0 : decode cX1_place 0 = .ok (.iconst 2, 1) := dk_5 (dk_at dksX1_place_0 0 rfl rfl)
theorem dX1_place_1 : decode cX1_place 1 = .ok (.bipush 6, 2) := dk_16 6 (dk_at dksX1_place_0 1 rfl rfl)
theorem dX1_place_3 : decode cX1_place 3 = .ok (.iload_n 0, 1) := dk_26 (dk_at dksX1_place_0 3 rfl rfl)
theorem dX1_place_4 : decode cX1_place 4 = .ok (.imul, 1) := dk_104 (dk_at dksX1_place_0 4 rfl rfl)
theorem dX1_place_5 : decode cX1_place 5 = .ok (.iload_n 1, 1) := dk_27 (dk_at dksX1_place_0 5 rfl rfl)
theorem dX1_place_6 : decode cX1_place 6 = .ok (.iadd, 1) := dk_96 (dk_at dksX1_place_0 6 rfl rfl)
theorem dX1_place_7 : decode cX1_place 7 = .ok (.imul, 1) := dk_104 (dk_at dksX1_place_0 7 rfl rfl)
theorem dX1_place_8 : decode cX1_place 8 = .ok (.iload_n 2, 1) := dk_28 (dk_at dksX1_place_0 8 rfl rfl)
theorem dX1_place_9 : decode cX1_place 9 = .ok (.ifCond .eq 7, 3) := dk_153 0 7 (dk_at dksX1_place_0 9 rfl rfl)
theorem dX1_place_12 : decode cX1_place 12 = .ok (.iconst 1, 1) := dk_4 (dk_at dksX1_place_0 12 rfl rfl)
theorem dX1_place_13 : decode cX1_place 13 = .ok (.goto 4, 3) := dk_167 0 4 (dk_at dksX1_place_0 13 rfl rfl)
theorem dX1_place_16 : decode cX1_place 16 = .ok (.iconst 0, 1) := dk_3 (dk_at dksX1_place_0 16 rfl rfl)
theorem dX1_place_17 : decode cX1_place 17 = .ok (.iadd, 1) := dk_96 (dk_at dksX1_place_0 17 rfl rfl)
theorem dX1_place_18 : decode cX1_place 18 = .ok (.ireturn, 1) := dk_172 (dk_at dksX1_place_0 18 rfl rfl)
abbrev cX1_length : ByteArray := prog_1_method_23_code
def yX1_length : MethodName := ⟨RX1, "length", "(II)I"⟩
def dkwX1_length_6 : List UInt8 := [96, 5, 108, 172, 42, 180, 0, 9, 29, 46, 42, 180, 0, 9, 29, 4, 100, 46, 96, 4, 96, 5, 108, 172]
abbrev dktX1_length_6 : List UInt8 := dkwX1_length_6 ++ []
def dkwX1_length_5 : List UInt8 := [100, 46, 100, 5, 96, 172, 7, 172, 42, 180, 0, 9, 29, 46, 42, 180, 0, 9, 29, 4, 96, 46, 96, 4]
abbrev dktX1_length_5 : List UInt8 := dkwX1_length_5 ++ dktX1_length_6
def dkwX1_length_4 : List UInt8 := [180, 0, 13, 21, 4, 46, 100, 5, 96, 172, 42, 180, 0, 13, 21, 4, 46, 42, 180, 0, 13, 21, 4, 4]
abbrev dktX1_length_4 : List UInt8 := dkwX1_length_4 ++ dktX1_length_5
def dkwX1_length_3 : List UInt8 := [21, 4, 46, 42, 180, 0, 13, 21, 4, 4, 100, 46, 100, 172, 42, 180, 0, 13, 21, 4, 4, 96, 46, 42]
abbrev dktX1_length_3 : List UInt8 := dkwX1_length_3 ++ dktX1_length_4
def dkwX1_length_2 : List UInt8 := [4, 172, 42, 180, 0, 13, 21, 4, 4, 96, 46, 42, 180, 0, 13, 21, 4, 46, 100, 172, 42, 180, 0, 13]
abbrev dktX1_length_2 : List UInt8 := dkwX1_length_2 ++ dktX1_length_3
def dkwX1_length_1 : List UInt8 := [170, 0, 0, 0, 0, 0, 0, 144, 0, 0, 0, 0, 0, 0, 0, 6, 0, 0, 0, 44, 0, 0, 0, 46, 0, 0, 0, 64, 0, 0, 0, 82, 0, 0, 0, 102, 0, 0, 0, 122, 0, 0, 0, 124]
abbrev dktX1_length_1 : List UInt8 := dkwX1_length_1 ++ dktX1_length_2
def dkwX1_length_0 : List UInt8 := [27, 184, 0, 142, 62, 27, 184, 0, 145, 54, 4, 28]
abbrev dktX1_length_0 : List UInt8 := dkwX1_length_0 ++ dktX1_length_1
theorem dksX1_length_0 : cX1_length.data.toList.drop 0 = dktX1_length_0 := by decide +kernel
theorem dksX1_length_1 : cX1_length.data.toList.drop 12 = dktX1_length_1 := dk_seg dksX1_length_0 12 rfl rfl
theorem dksX1_length_2 : cX1_length.data.toList.drop 56 = dktX1_length_2 := dk_seg dksX1_length_1 44 rfl rfl
theorem dksX1_length_3 : cX1_length.data.toList.drop 80 = dktX1_length_3 := dk_seg dksX1_length_2 24 rfl rfl
theorem dksX1_length_4 : cX1_length.data.toList.drop 104 = dktX1_length_4 := dk_seg dksX1_length_3 24 rfl rfl
theorem dksX1_length_5 : cX1_length.data.toList.drop 128 = dktX1_length_5 := dk_seg dksX1_length_4 24 rfl rfl
theorem dksX1_length_6 : cX1_length.data.toList.drop 152 = dktX1_length_6 := dk_seg dksX1_length_5 24 rfl rfl
theorem dX1_length_0 : decode cX1_length 0 = .ok (.iload_n 1, 1) := dk_27 (dk_at dksX1_length_0 0 rfl rfl)
theorem dX1_length_1 : decode cX1_length 1 = .ok (.invokestatic 142, 3) := dk_184 0 142 (dk_at dksX1_length_0 1 rfl rfl)
theorem dX1_length_4 : decode cX1_length 4 = .ok (.istore_n 3, 1) := dk_62 (dk_at dksX1_length_0 4 rfl rfl)
theorem dX1_length_5 : decode cX1_length 5 = .ok (.iload_n 1, 1) := dk_27 (dk_at dksX1_length_0 5 rfl rfl)
theorem dX1_length_6 : decode cX1_length 6 = .ok (.invokestatic 145, 3) := dk_184 0 145 (dk_at dksX1_length_0 6 rfl rfl)
theorem dX1_length_9 : decode cX1_length 9 = .ok (.istore 4, 2) := dk_54 4 (dk_at dksX1_length_0 9 rfl rfl)
theorem dX1_length_11 : decode cX1_length 11 = .ok (.iload_n 2, 1) := dk_28 (dk_at dksX1_length_0 11 rfl rfl)
theorem dX1_length_12 : decode cX1_length 12 = .ok (.tableswitch 144 0 6 #[44, 46, 64, 82, 102, 122, 124], 44) := by decide +kernel
theorem dX1_length_56 : decode cX1_length 56 = .ok (.iconst 1, 1) := dk_4 (dk_at dksX1_length_2 0 rfl rfl)
theorem dX1_length_57 : decode cX1_length 57 = .ok (.ireturn, 1) := dk_172 (dk_at dksX1_length_2 1 rfl rfl)
theorem dX1_length_58 : decode cX1_length 58 = .ok (.aload_n 0, 1) := dk_42 (dk_at dksX1_length_2 2 rfl rfl)
theorem dX1_length_59 : decode cX1_length 59 = .ok (.getfield 13, 3) := dk_180 0 13 (dk_at dksX1_length_2 3 rfl rfl)
theorem dX1_length_62 : decode cX1_length 62 = .ok (.iload 4, 2) := dk_21 4 (dk_at dksX1_length_2 6 rfl rfl)
theorem dX1_length_64 : decode cX1_length 64 = .ok (.iconst 1, 1) := dk_4 (dk_at dksX1_length_2 8 rfl rfl)
theorem dX1_length_65 : decode cX1_length 65 = .ok (.iadd, 1) := dk_96 (dk_at dksX1_length_2 9 rfl rfl)
theorem dX1_length_66 : decode cX1_length 66 = .ok (.iaload, 1) := dk_46 (dk_at dksX1_length_2 10 rfl rfl)
theorem dX1_length_67 : decode cX1_length 67 = .ok (.aload_n 0, 1) := dk_42 (dk_at dksX1_length_2 11 rfl rfl)
theorem dX1_length_68 : decode cX1_length 68 = .ok (.getfield 13, 3) := dk_180 0 13 (dk_at dksX1_length_2 12 rfl rfl)
theorem dX1_length_71 : decode cX1_length 71 = .ok (.iload 4, 2) := dk_21 4 (dk_at dksX1_length_2 15 rfl rfl)
theorem dX1_length_73 : decode cX1_length 73 = .ok (.iaload, 1) := dk_46 (dk_at dksX1_length_2 17 rfl rfl)
theorem dX1_length_74 : decode cX1_length 74 = .ok (.isub, 1) := dk_100 (dk_at dksX1_length_2 18 rfl rfl)
theorem dX1_length_75 : decode cX1_length 75 = .ok (.ireturn, 1) := dk_172 (dk_at dksX1_length_2 19 rfl rfl)
theorem dX1_length_76 : decode cX1_length 76 = .ok (.aload_n 0, 1) := dk_42 (dk_at dksX1_length_2 20 rfl rfl)
theorem dX1_length_77 : decode cX1_length 77 = .ok (.getfield 13, 3) := dk_180 0 13 (dk_at dksX1_length_2 21 rfl rfl)
theorem dX1_length_80 : decode cX1_length 80 = .ok (.iload 4, 2) := dk_21 4 (dk_at dksX1_length_3 0 rfl rfl)
theorem dX1_length_82 : decode cX1_length 82 = .ok (.iaload, 1) := dk_46 (dk_at dksX1_length_3 2 rfl rfl)
theorem dX1_length_83 : decode cX1_length 83 = .ok (.aload_n 0, 1) := dk_42 (dk_at dksX1_length_3 3 rfl rfl)
theorem dX1_length_84 : decode cX1_length 84 = .ok (.getfield 13, 3) := dk_180 0 13 (dk_at dksX1_length_3 4 rfl rfl)
theorem dX1_length_87 : decode cX1_length 87 = .ok (.iload 4, 2) := dk_21 4 (dk_at dksX1_length_3 7 rfl rfl)
theorem dX1_length_89 : decode cX1_length 89 = .ok (.iconst 1, 1) := dk_4 (dk_at dksX1_length_3 9 rfl rfl)
theorem dX1_length_90 : decode cX1_length 90 = .ok (.isub, 1) := dk_100 (dk_at dksX1_length_3 10 rfl rfl)
theorem dX1_length_91 : decode cX1_length 91 = .ok (.iaload, 1) := dk_46 (dk_at dksX1_length_3 11 rfl rfl)
theorem dX1_length_92 : decode cX1_length 92 = .ok (.isub, 1) := dk_100 (dk_at dksX1_length_3 12 rfl rfl)
theorem dX1_length_93 : decode cX1_length 93 = .ok (.ireturn, 1) := dk_172 (dk_at dksX1_length_3 13 rfl rfl)
theorem dX1_length_94 : decode cX1_length 94 = .ok (.aload_n 0, 1) := dk_42 (dk_at dksX1_length_3 14 rfl rfl)
theorem dX1_length_95 : decode cX1_length 95 = .ok (.getfield 13, 3) := dk_180 0 13 (dk_at dksX1_length_3 15 rfl rfl)
theorem dX1_length_98 : decode cX1_length 98 = .ok (.iload 4, 2) := dk_21 4 (dk_at dksX1_length_3 18 rfl rfl)
theorem dX1_length_100 : decode cX1_length 100 = .ok (.iconst 1, 1) := dk_4 (dk_at dksX1_length_3 20 rfl rfl)
theorem dX1_length_101 : decode cX1_length 101 = .ok (.iadd, 1) := dk_96 (dk_at dksX1_length_3 21 rfl rfl)
theorem dX1_length_102 : decode cX1_length 102 = .ok (.iaload, 1) := dk_46 (dk_at dksX1_length_3 22 rfl rfl)
theorem dX1_length_103 : decode cX1_length 103 = .ok (.aload_n 0, 1) := dk_42 (dk_at dksX1_length_3 23 rfl rfl)
theorem dX1_length_104 : decode cX1_length 104 = .ok (.getfield 13, 3) := dk_180 0 13 (dk_at dksX1_length_4 0 rfl rfl)
theorem dX1_length_107 : decode cX1_length 107 = .ok (.iload 4, 2) := dk_21 4 (dk_at dksX1_length_4 3 rfl rfl)
theorem dX1_length_109 : decode cX1_length 109 = .ok (.iaload, 1) := dk_46 (dk_at dksX1_length_4 5 rfl rfl)
theorem dX1_length_110 : decode cX1_length 110 = .ok (.isub, 1) := dk_100 (dk_at dksX1_length_4 6 rfl rfl)
theorem dX1_length_111 : decode cX1_length 111 = .ok (.iconst 2, 1) := dk_5 (dk_at dksX1_length_4 7 rfl rfl)
theorem dX1_length_112 : decode cX1_length 112 = .ok (.iadd, 1) := dk_96 (dk_at dksX1_length_4 8 rfl rfl)
theorem dX1_length_113 : decode cX1_length 113 = .ok (.ireturn, 1) := dk_172 (dk_at dksX1_length_4 9 rfl rfl)
theorem dX1_length_114 : decode cX1_length 114 = .ok (.aload_n 0, 1) := dk_42 (dk_at dksX1_length_4 10 rfl rfl)
theorem dX1_length_115 : decode cX1_length 115 = .ok (.getfield 13, 3) := dk_180 0 13 (dk_at dksX1_length_4 11 rfl rfl)
theorem dX1_length_118 : decode cX1_length 118 = .ok (.iload 4, 2) := dk_21 4 (dk_at dksX1_length_4 14 rfl rfl)
theorem dX1_length_120 : decode cX1_length 120 = .ok (.iaload, 1) := dk_46 (dk_at dksX1_length_4 16 rfl rfl)
theorem dX1_length_121 : decode cX1_length 121 = .ok (.aload_n 0, 1) := dk_42 (dk_at dksX1_length_4 17 rfl rfl)
theorem dX1_length_122 : decode cX1_length 122 = .ok (.getfield 13, 3) := dk_180 0 13 (dk_at dksX1_length_4 18 rfl rfl)
theorem dX1_length_125 : decode cX1_length 125 = .ok (.iload 4, 2) := dk_21 4 (dk_at dksX1_length_4 21 rfl rfl)
theorem dX1_length_127 : decode cX1_length 127 = .ok (.iconst 1, 1) := dk_4 (dk_at dksX1_length_4 23 rfl rfl)
theorem dX1_length_128 : decode cX1_length 128 = .ok (.isub, 1) := dk_100 (dk_at dksX1_length_5 0 rfl rfl)
theorem dX1_length_129 : decode cX1_length 129 = .ok (.iaload, 1) := dk_46 (dk_at dksX1_length_5 1 rfl rfl)
theorem dX1_length_130 : decode cX1_length 130 = .ok (.isub, 1) := dk_100 (dk_at dksX1_length_5 2 rfl rfl)
theorem dX1_length_131 : decode cX1_length 131 = .ok (.iconst 2, 1) := dk_5 (dk_at dksX1_length_5 3 rfl rfl)
theorem dX1_length_132 : decode cX1_length 132 = .ok (.iadd, 1) := dk_96 (dk_at dksX1_length_5 4 rfl rfl)
theorem dX1_length_133 : decode cX1_length 133 = .ok (.ireturn, 1) := dk_172 (dk_at dksX1_length_5 5 rfl rfl)
theorem dX1_length_134 : decode cX1_length 134 = .ok (.iconst 4, 1) := dk_7 (dk_at dksX1_length_5 6 rfl rfl)
theorem dX1_length_135 : decode cX1_length 135 = .ok (.ireturn, 1) := dk_172 (dk_at dksX1_length_5 7 rfl rfl)
theorem dX1_length_136 : decode cX1_length 136 = .ok (.aload_n 0, 1) := dk_42 (dk_at dksX1_length_5 8 rfl rfl)
theorem dX1_length_137 : decode cX1_length 137 = .ok (.getfield 9, 3) := dk_180 0 9 (dk_at dksX1_length_5 9 rfl rfl)
theorem dX1_length_140 : decode cX1_length 140 = .ok (.iload_n 3, 1) := dk_29 (dk_at dksX1_length_5 12 rfl rfl)
theorem dX1_length_141 : decode cX1_length 141 = .ok (.iaload, 1) := dk_46 (dk_at dksX1_length_5 13 rfl rfl)
theorem dX1_length_142 : decode cX1_length 142 = .ok (.aload_n 0, 1) := dk_42 (dk_at dksX1_length_5 14 rfl rfl)
theorem dX1_length_143 : decode cX1_length 143 = .ok (.getfield 9, 3) := dk_180 0 9 (dk_at dksX1_length_5 15 rfl rfl)
theorem dX1_length_146 : decode cX1_length 146 = .ok (.iload_n 3, 1) := dk_29 (dk_at dksX1_length_5 18 rfl rfl)
theorem dX1_length_147 : decode cX1_length 147 = .ok (.iconst 1, 1) := dk_4 (dk_at dksX1_length_5 19 rfl rfl)
theorem dX1_length_148 : decode cX1_length 148 = .ok (.iadd, 1) := dk_96 (dk_at dksX1_length_5 20 rfl rfl)
theorem dX1_length_149 : decode cX1_length 149 = .ok (.iaload, 1) := dk_46 (dk_at dksX1_length_5 21 rfl rfl)
theorem dX1_length_150 : decode cX1_length 150 = .ok (.iadd, 1) := dk_96 (dk_at dksX1_length_5 22 rfl rfl)
theorem dX1_length_151 : decode cX1_length 151 = .ok (.iconst 1, 1) := dk_4 (dk_at dksX1_length_5 23 rfl rfl)
theorem dX1_length_152 : decode cX1_length 152 = .ok (.iadd, 1) := dk_96 (dk_at dksX1_length_6 0 rfl rfl)
theorem dX1_length_153 : decode cX1_length 153 = .ok (.iconst 2, 1) := dk_5 (dk_at dksX1_length_6 1 rfl rfl)
theorem dX1_length_154 : decode cX1_length 154 = .ok (.idiv, 1) := dk_108 (dk_at dksX1_length_6 2 rfl rfl)
theorem dX1_length_155 : decode cX1_length 155 = .ok (.ireturn, 1) := dk_172 (dk_at dksX1_length_6 3 rfl rfl)
theorem dX1_length_156 : decode cX1_length 156 = .ok (.aload_n 0, 1) := dk_42 (dk_at dksX1_length_6 4 rfl rfl)
theorem dX1_length_157 : decode cX1_length 157 = .ok (.getfield 9, 3) := dk_180 0 9 (dk_at dksX1_length_6 5 rfl rfl)
theorem dX1_length_160 : decode cX1_length 160 = .ok (.iload_n 3, 1) := dk_29 (dk_at dksX1_length_6 8 rfl rfl)
theorem dX1_length_161 : decode cX1_length 161 = .ok (.iaload, 1) := dk_46 (dk_at dksX1_length_6 9 rfl rfl)
theorem dX1_length_162 : decode cX1_length 162 = .ok (.aload_n 0, 1) := dk_42 (dk_at dksX1_length_6 10 rfl rfl)
theorem dX1_length_163 : decode cX1_length 163 = .ok (.getfield 9, 3) := dk_180 0 9 (dk_at dksX1_length_6 11 rfl rfl)
theorem dX1_length_166 : decode cX1_length 166 = .ok (.iload_n 3, 1) := dk_29 (dk_at dksX1_length_6 14 rfl rfl)
theorem dX1_length_167 : decode cX1_length 167 = .ok (.iconst 1, 1) := dk_4 (dk_at dksX1_length_6 15 rfl rfl)
theorem dX1_length_168 : decode cX1_length 168 = .ok (.isub, 1) := dk_100 (dk_at dksX1_length_6 16 rfl rfl)
theorem dX1_length_169 : decode cX1_length 169 = .ok (.iaload, 1) := dk_46 (dk_at dksX1_length_6 17 rfl rfl)
theorem dX1_length_170 : decode cX1_length 170 = .ok (.iadd, 1) := dk_96 (dk_at dksX1_length_6 18 rfl rfl)
theorem dX1_length_171 : decode cX1_length 171 = .ok (.iconst 1, 1) := dk_4 (dk_at dksX1_length_6 19 rfl rfl)
theorem dX1_length_172 : decode cX1_length 172 = .ok (.iadd, 1) := dk_96 (dk_at dksX1_length_6 20 rfl rfl)
theorem dX1_length_173 : decode cX1_length 173 = .ok (.iconst 2, 1) := dk_5 (dk_at dksX1_length_6 21 rfl rfl)
theorem dX1_length_174 : decode cX1_length 174 = .ok (.idiv, 1) := dk_108 (dk_at dksX1_length_6 22 rfl rfl)
theorem dX1_length_175 : decode cX1_length 175 = .ok (.ireturn, 1) := dk_172 (dk_at dksX1_length_6 23 rfl rfl)
abbrev cX1_goesAlong : ByteArray := prog_1_method_24_code
def yX1_goesAlong : MethodName := ⟨RX1, "goesAlong", "(II)I"⟩
def dkwX1_goesAlong_4 : List UInt8 := [42, 27, 184, 0, 142, 29, 4, 182, 0, 155, 172, 2, 172]
abbrev dktX1_goesAlong_4 : List UInt8 := dkwX1_goesAlong_4 ++ []
def dkwX1_goesAlong_3 : List UInt8 := [42, 27, 184, 0, 142, 29, 5, 182, 0, 155, 172, 42, 27, 184, 0, 142, 29, 4, 100, 5, 182, 0, 155, 172]
abbrev dktX1_goesAlong_3 : List UInt8 := dkwX1_goesAlong_3 ++ dktX1_goesAlong_4
def dkwX1_goesAlong_2 : List UInt8 := [42, 27, 184, 0, 142, 29, 3, 182, 0, 155, 172, 42, 27, 184, 0, 142, 29, 4, 100, 3, 182, 0, 155, 172]
abbrev dktX1_goesAlong_2 : List UInt8 := dkwX1_goesAlong_2 ++ dktX1_goesAlong_3
def dkwX1_goesAlong_1 : List UInt8 := [170, 0, 0, 0, 0, 93, 0, 0, 0, 1, 0, 0, 0, 5, 0, 0, 0, 34, 0, 0, 0, 45, 0, 0, 0, 58, 0, 0, 0, 69, 0, 0, 0, 82]
abbrev dktX1_goesAlong_1 : List UInt8 := dkwX1_goesAlong_1 ++ dktX1_goesAlong_2
def dkwX1_goesAlong_0 : List UInt8 := [27, 184, 0, 145, 62, 28]
abbrev dktX1_goesAlong_0 : List UInt8 := dkwX1_goesAlong_0 ++ dktX1_goesAlong_1
theorem dksX1_goesAlong_0 : cX1_goesAlong.data.toList.drop 0 = dktX1_goesAlong_0 := by decide +kernel
theorem dksX1_goesAlong_1 : cX1_goesAlong.data.toList.drop 6 = dktX1_goesAlong_1 := dk_seg dksX1_goesAlong_0 6 rfl rfl
theorem dksX1_goesAlong_2 : cX1_goesAlong.data.toList.drop 40 = dktX1_goesAlong_2 := dk_seg dksX1_goesAlong_1 34 rfl rfl
theorem dksX1_goesAlong_3 : cX1_goesAlong.data.toList.drop 64 = dktX1_goesAlong_3 := dk_seg dksX1_goesAlong_2 24 rfl rfl
theorem dksX1_goesAlong_4 : cX1_goesAlong.data.toList.drop 88 = dktX1_goesAlong_4 := dk_seg dksX1_goesAlong_3 24 rfl rfl
theorem dX1_goesAlong_0 : decode cX1_goesAlong 0 = .ok (.iload_n 1, 1) := dk_27 (dk_at dksX1_goesAlong_0 0 rfl rfl)
theorem dX1_goesAlong_1 : decode cX1_goesAlong 1 = .ok (.invokestatic 145, 3) := dk_184 0 145 (dk_at dksX1_goesAlong_0 1 rfl rfl)
theorem dX1_goesAlong_4 : decode cX1_goesAlong 4 = .ok (.istore_n 3, 1) := dk_62 (dk_at dksX1_goesAlong_0 4 rfl rfl)
theorem dX1_goesAlong_5 : decode cX1_goesAlong 5 = .ok (.iload_n 2, 1) := dk_28 (dk_at dksX1_goesAlong_0 5 rfl rfl)
theorem dX1_goesAlong_6 : decode cX1_goesAlong 6 = .ok (.tableswitch 93 1 5 #[34, 45, 58, 69, 82], 34) := by decide +kernel
theorem dX1_goesAlong_40 : decode cX1_goesAlong 40 = .ok (.aload_n 0, 1) := dk_42 (dk_at dksX1_goesAlong_2 0 rfl rfl)
theorem dX1_goesAlong_41 : decode cX1_goesAlong 41 = .ok (.iload_n 1, 1) := dk_27 (dk_at dksX1_goesAlong_2 1 rfl rfl)
theorem dX1_goesAlong_42 : decode cX1_goesAlong 42 = .ok (.invokestatic 142, 3) := dk_184 0 142 (dk_at dksX1_goesAlong_2 2 rfl rfl)
theorem dX1_goesAlong_45 : decode cX1_goesAlong 45 = .ok (.iload_n 3, 1) := dk_29 (dk_at dksX1_goesAlong_2 5 rfl rfl)
theorem dX1_goesAlong_46 : decode cX1_goesAlong 46 = .ok (.iconst 0, 1) := dk_3 (dk_at dksX1_goesAlong_2 6 rfl rfl)
theorem dX1_goesAlong_47 : decode cX1_goesAlong 47 = .ok (.invokevirtual 155, 3) := dk_182 0 155 (dk_at dksX1_goesAlong_2 7 rfl rfl)
theorem dX1_goesAlong_50 : decode cX1_goesAlong 50 = .ok (.ireturn, 1) := dk_172 (dk_at dksX1_goesAlong_2 10 rfl rfl)
theorem dX1_goesAlong_51 : decode cX1_goesAlong 51 = .ok (.aload_n 0, 1) := dk_42 (dk_at dksX1_goesAlong_2 11 rfl rfl)
theorem dX1_goesAlong_52 : decode cX1_goesAlong 52 = .ok (.iload_n 1, 1) := dk_27 (dk_at dksX1_goesAlong_2 12 rfl rfl)
theorem dX1_goesAlong_53 : decode cX1_goesAlong 53 = .ok (.invokestatic 142, 3) := dk_184 0 142 (dk_at dksX1_goesAlong_2 13 rfl rfl)
theorem dX1_goesAlong_56 : decode cX1_goesAlong 56 = .ok (.iload_n 3, 1) := dk_29 (dk_at dksX1_goesAlong_2 16 rfl rfl)
theorem dX1_goesAlong_57 : decode cX1_goesAlong 57 = .ok (.iconst 1, 1) := dk_4 (dk_at dksX1_goesAlong_2 17 rfl rfl)
theorem dX1_goesAlong_58 : decode cX1_goesAlong 58 = .ok (.isub, 1) := dk_100 (dk_at dksX1_goesAlong_2 18 rfl rfl)
theorem dX1_goesAlong_59 : decode cX1_goesAlong 59 = .ok (.iconst 0, 1) := dk_3 (dk_at dksX1_goesAlong_2 19 rfl rfl)
theorem dX1_goesAlong_60 : decode cX1_goesAlong 60 = .ok (.invokevirtual 155, 3) := dk_182 0 155 (dk_at dksX1_goesAlong_2 20 rfl rfl)
theorem dX1_goesAlong_63 : decode cX1_goesAlong 63 = .ok (.ireturn, 1) := dk_172 (dk_at dksX1_goesAlong_2 23 rfl rfl)
theorem dX1_goesAlong_64 : decode cX1_goesAlong 64 = .ok (.aload_n 0, 1) := dk_42 (dk_at dksX1_goesAlong_3 0 rfl rfl)
theorem dX1_goesAlong_65 : decode cX1_goesAlong 65 = .ok (.iload_n 1, 1) := dk_27 (dk_at dksX1_goesAlong_3 1 rfl rfl)
theorem dX1_goesAlong_66 : decode cX1_goesAlong 66 = .ok (.invokestatic 142, 3) := dk_184 0 142 (dk_at dksX1_goesAlong_3 2 rfl rfl)
theorem dX1_goesAlong_69 : decode cX1_goesAlong 69 = .ok (.iload_n 3, 1) := dk_29 (dk_at dksX1_goesAlong_3 5 rfl rfl)
theorem dX1_goesAlong_70 : decode cX1_goesAlong 70 = .ok (.iconst 2, 1) := dk_5 (dk_at dksX1_goesAlong_3 6 rfl rfl)
theorem dX1_goesAlong_71 : decode cX1_goesAlong 71 = .ok (.invokevirtual 155, 3) := dk_182 0 155 (dk_at dksX1_goesAlong_3 7 rfl rfl)
theorem dX1_goesAlong_74 : decode cX1_goesAlong 74 = .ok (.ireturn, 1) := dk_172 (dk_at dksX1_goesAlong_3 10 rfl rfl)
theorem dX1_goesAlong_75 : decode cX1_goesAlong 75 = .ok (.aload_n 0, 1) := dk_42 (dk_at dksX1_goesAlong_3 11 rfl rfl)
theorem dX1_goesAlong_76 : decode cX1_goesAlong 76 = .ok (.iload_n 1, 1) := dk_27 (dk_at dksX1_goesAlong_3 12 rfl rfl)
theorem dX1_goesAlong_77 : decode cX1_goesAlong 77 = .ok (.invokestatic 142, 3) := dk_184 0 142 (dk_at dksX1_goesAlong_3 13 rfl rfl)
theorem dX1_goesAlong_80 : decode cX1_goesAlong 80 = .ok (.iload_n 3, 1) := dk_29 (dk_at dksX1_goesAlong_3 16 rfl rfl)
theorem dX1_goesAlong_81 : decode cX1_goesAlong 81 = .ok (.iconst 1, 1) := dk_4 (dk_at dksX1_goesAlong_3 17 rfl rfl)
theorem dX1_goesAlong_82 : decode cX1_goesAlong 82 = .ok (.isub, 1) := dk_100 (dk_at dksX1_goesAlong_3 18 rfl rfl)
theorem dX1_goesAlong_83 : decode cX1_goesAlong 83 = .ok (.iconst 2, 1) := dk_5 (dk_at dksX1_goesAlong_3 19 rfl rfl)
theorem dX1_goesAlong_84 : decode cX1_goesAlong 84 = .ok (.invokevirtual 155, 3) := dk_182 0 155 (dk_at dksX1_goesAlong_3 20 rfl rfl)
theorem dX1_goesAlong_87 : decode cX1_goesAlong 87 = .ok (.ireturn, 1) := dk_172 (dk_at dksX1_goesAlong_3 23 rfl rfl)
theorem dX1_goesAlong_88 : decode cX1_goesAlong 88 = .ok (.aload_n 0, 1) := dk_42 (dk_at dksX1_goesAlong_4 0 rfl rfl)
theorem dX1_goesAlong_89 : decode cX1_goesAlong 89 = .ok (.iload_n 1, 1) := dk_27 (dk_at dksX1_goesAlong_4 1 rfl rfl)
theorem dX1_goesAlong_90 : decode cX1_goesAlong 90 = .ok (.invokestatic 142, 3) := dk_184 0 142 (dk_at dksX1_goesAlong_4 2 rfl rfl)
theorem dX1_goesAlong_93 : decode cX1_goesAlong 93 = .ok (.iload_n 3, 1) := dk_29 (dk_at dksX1_goesAlong_4 5 rfl rfl)
theorem dX1_goesAlong_94 : decode cX1_goesAlong 94 = .ok (.iconst 1, 1) := dk_4 (dk_at dksX1_goesAlong_4 6 rfl rfl)
theorem dX1_goesAlong_95 : decode cX1_goesAlong 95 = .ok (.invokevirtual 155, 3) := dk_182 0 155 (dk_at dksX1_goesAlong_4 7 rfl rfl)
theorem dX1_goesAlong_98 : decode cX1_goesAlong 98 = .ok (.ireturn, 1) := dk_172 (dk_at dksX1_goesAlong_4 10 rfl rfl)
theorem dX1_goesAlong_99 : decode cX1_goesAlong 99 = .ok (.iconst (-1), 1) := dk_2 (dk_at dksX1_goesAlong_4 11 rfl rfl)
theorem dX1_goesAlong_100 : decode cX1_goesAlong 100 = .ok (.ireturn, 1) := dk_172 (dk_at dksX1_goesAlong_4 12 rfl rfl)
abbrev cX1_find : ByteArray := prog_1_method_25_code
def yX1_find : MethodName := ⟨RX1, "find", "(III)I"⟩
def dkwX1_find_3 : List UInt8 := [160, 0, 6, 21, 4, 172, 132, 4, 1, 167, 255, 181, 2, 172]
abbrev dktX1_find_3 : List UInt8 := dkwX1_find_3 ++ []
def dkwX1_find_2 : List UInt8 := [180, 0, 133, 28, 160, 0, 25, 42, 180, 0, 24, 21, 4, 182, 0, 114, 192, 0, 97, 180, 0, 136, 29]
abbrev dktX1_find_2 : List UInt8 := dkwX1_find_2 ++ dktX1_find_3
def dkwX1_find_1 : List UInt8 := [192, 0, 97, 180, 0, 130, 27, 160, 0, 44, 42, 180, 0, 24, 21, 4, 182, 0, 114, 192, 0, 97]
abbrev dktX1_find_1 : List UInt8 := dkwX1_find_1 ++ dktX1_find_2
def dkwX1_find_0 : List UInt8 := [3, 54, 4, 21, 4, 42, 180, 0, 24, 182, 0, 110, 162, 0, 69, 42, 180, 0, 24, 21, 4, 182, 0, 114]
abbrev dktX1_find_0 : List UInt8 := dkwX1_find_0 ++ dktX1_find_1
theorem dksX1_find_0 : cX1_find.data.toList.drop 0 = dktX1_find_0 := by decide +kernel
theorem dksX1_find_1 : cX1_find.data.toList.drop 24 = dktX1_find_1 := dk_seg dksX1_find_0 24 rfl rfl
theorem dksX1_find_2 : cX1_find.data.toList.drop 46 = dktX1_find_2 := dk_seg dksX1_find_1 22 rfl rfl
theorem dksX1_find_3 : cX1_find.data.toList.drop 69 = dktX1_find_3 := dk_seg dksX1_find_2 23 rfl rfl
theorem dX1_find_0 : decode cX1_find 0 = .ok (.iconst 0, 1) := dk_3 (dk_at dksX1_find_0 0 rfl rfl)
theorem dX1_find_1 : decode cX1_find 1 = .ok (.istore 4, 2) := dk_54 4 (dk_at dksX1_find_0 1 rfl rfl)
theorem dX1_find_3 : decode cX1_find 3 = .ok (.iload 4, 2) := dk_21 4 (dk_at dksX1_find_0 3 rfl rfl)
theorem dX1_find_5 : decode cX1_find 5 = .ok (.aload_n 0, 1) := dk_42 (dk_at dksX1_find_0 5 rfl rfl)
theorem dX1_find_6 : decode cX1_find 6 = .ok (.getfield 24, 3) := dk_180 0 24 (dk_at dksX1_find_0 6 rfl rfl)
theorem dX1_find_9 : decode cX1_find 9 = .ok (.invokevirtual 110, 3) := dk_182 0 110 (dk_at dksX1_find_0 9 rfl rfl)
theorem dX1_find_12 : decode cX1_find 12 = .ok (.if_icmp .ge 69, 3) := dk_162 0 69 (dk_at dksX1_find_0 12 rfl rfl)
theorem dX1_find_15 : decode cX1_find 15 = .ok (.aload_n 0, 1) := dk_42 (dk_at dksX1_find_0 15 rfl rfl)
theorem dX1_find_16 : decode cX1_find 16 = .ok (.getfield 24, 3) := dk_180 0 24 (dk_at dksX1_find_0 16 rfl rfl)
theorem dX1_find_19 : decode cX1_find 19 = .ok (.iload 4, 2) := dk_21 4 (dk_at dksX1_find_0 19 rfl rfl)
theorem dX1_find_21 : decode cX1_find 21 = .ok (.invokevirtual 114, 3) := dk_182 0 114 (dk_at dksX1_find_0 21 rfl rfl)
theorem dX1_find_24 : decode cX1_find 24 = .ok (.checkcast 97, 3) := dk_192 0 97 (dk_at dksX1_find_1 0 rfl rfl)
theorem dX1_find_27 : decode cX1_find 27 = .ok (.getfield 130, 3) := dk_180 0 130 (dk_at dksX1_find_1 3 rfl rfl)
theorem dX1_find_30 : decode cX1_find 30 = .ok (.iload_n 1, 1) := dk_27 (dk_at dksX1_find_1 6 rfl rfl)
theorem dX1_find_31 : decode cX1_find 31 = .ok (.if_icmp .ne 44, 3) := dk_160 0 44 (dk_at dksX1_find_1 7 rfl rfl)
theorem dX1_find_34 : decode cX1_find 34 = .ok (.aload_n 0, 1) := dk_42 (dk_at dksX1_find_1 10 rfl rfl)
theorem dX1_find_35 : decode cX1_find 35 = .ok (.getfield 24, 3) := dk_180 0 24 (dk_at dksX1_find_1 11 rfl rfl)
theorem dX1_find_38 : decode cX1_find 38 = .ok (.iload 4, 2) := dk_21 4 (dk_at dksX1_find_1 14 rfl rfl)
theorem dX1_find_40 : decode cX1_find 40 = .ok (.invokevirtual 114, 3) := dk_182 0 114 (dk_at dksX1_find_1 16 rfl rfl)
theorem dX1_find_43 : decode cX1_find 43 = .ok (.checkcast 97, 3) := dk_192 0 97 (dk_at dksX1_find_1 19 rfl rfl)
theorem dX1_find_46 : decode cX1_find 46 = .ok (.getfield 133, 3) := dk_180 0 133 (dk_at dksX1_find_2 0 rfl rfl)
theorem dX1_find_49 : decode cX1_find 49 = .ok (.iload_n 2, 1) := dk_28 (dk_at dksX1_find_2 3 rfl rfl)
theorem dX1_find_50 : decode cX1_find 50 = .ok (.if_icmp .ne 25, 3) := dk_160 0 25 (dk_at dksX1_find_2 4 rfl rfl)
theorem dX1_find_53 : decode cX1_find 53 = .ok (.aload_n 0, 1) := dk_42 (dk_at dksX1_find_2 7 rfl rfl)
theorem dX1_find_54 : decode cX1_find 54 = .ok (.getfield 24, 3) := dk_180 0 24 (dk_at dksX1_find_2 8 rfl rfl)
theorem dX1_find_57 : decode cX1_find 57 = .ok (.iload 4, 2) := dk_21 4 (dk_at dksX1_find_2 11 rfl rfl)
theorem dX1_find_59 : decode cX1_find 59 = .ok (.invokevirtual 114, 3) := dk_182 0 114 (dk_at dksX1_find_2 13 rfl rfl)
theorem dX1_find_62 : decode cX1_find 62 = .ok (.checkcast 97, 3) := dk_192 0 97 (dk_at dksX1_find_2 16 rfl rfl)
theorem dX1_find_65 : decode cX1_find 65 = .ok (.getfield 136, 3) := dk_180 0 136 (dk_at dksX1_find_2 19 rfl rfl)
theorem dX1_find_68 : decode cX1_find 68 = .ok (.iload_n 3, 1) := dk_29 (dk_at dksX1_find_2 22 rfl rfl)
theorem dX1_find_69 : decode cX1_find 69 = .ok (.if_icmp .ne 6, 3) := dk_160 0 6 (dk_at dksX1_find_3 0 rfl rfl)
theorem dX1_find_72 : decode cX1_find 72 = .ok (.iload 4, 2) := dk_21 4 (dk_at dksX1_find_3 3 rfl rfl)
theorem dX1_find_74 : decode cX1_find 74 = .ok (.ireturn, 1) := dk_172 (dk_at dksX1_find_3 5 rfl rfl)
theorem dX1_find_75 : decode cX1_find 75 = .ok (.iinc 4 1, 3) := dk_132 4 1 (dk_at dksX1_find_3 6 rfl rfl)
theorem dX1_find_78 : decode cX1_find 78 = .ok (.goto (-75), 3) := dk_167 255 181 (dk_at dksX1_find_3 9 rfl rfl)
theorem dX1_find_81 : decode cX1_find 81 = .ok (.iconst (-1), 1) := dk_2 (dk_at dksX1_find_3 12 rfl rfl)
theorem dX1_find_82 : decode cX1_find 82 = .ok (.ireturn, 1) := dk_172 (dk_at dksX1_find_3 13 rfl rfl)
abbrev cX1_isThread : ByteArray := prog_1_method_49_code
def yX1_isThread : MethodName := ⟨RX1, "isThread", "(II)Z"⟩
def dkwX1_isThread_8 : List UInt8 := [167, 0, 4, 3, 172]
abbrev dktX1_isThread_8 : List UInt8 := dkwX1_isThread_8 ++ []
def dkwX1_isThread_7 : List UInt8 := [132, 3, 1, 167, 255, 120, 42, 180, 0, 68, 28, 47, 27, 123, 10, 127, 10, 148, 154, 0, 7, 4]
abbrev dktX1_isThread_7 : List UInt8 := dkwX1_isThread_7 ++ dktX1_isThread_8
def dkwX1_isThread_6 : List UInt8 := [21, 4, 104, 21, 5, 96, 46, 121, 129, 80, 132, 5, 1, 167, 255, 199, 132, 4, 1, 167, 255, 164]
abbrev dktX1_isThread_6 : List UInt8 := dkwX1_isThread_6 ++ dktX1_isThread_7
def dkwX1_isThread_5 : List UInt8 := [54, 6, 21, 6, 29, 164, 0, 28, 42, 180, 0, 68, 21, 6, 92, 47, 10, 42, 180, 0, 49, 16, 8]
abbrev dktX1_isThread_5 : List UInt8 := dkwX1_isThread_5 ++ dktX1_isThread_6
def dkwX1_isThread_4 : List UInt8 := [3, 54, 5, 21, 5, 16, 8, 162, 0, 56, 42, 29, 16, 8, 21, 4, 104, 21, 5, 96, 4, 182, 0, 246]
abbrev dktX1_isThread_4 : List UInt8 := dkwX1_isThread_4 ++ dktX1_isThread_5
def dkwX1_isThread_3 : List UInt8 := [16, 60, 162, 0, 91, 42, 180, 0, 68, 29, 47, 21, 4, 123, 10, 127, 9, 148, 154, 0, 6, 167, 0, 66]
abbrev dktX1_isThread_3 : List UInt8 := dkwX1_isThread_3 ++ dktX1_isThread_4
def dkwX1_isThread_2 : List UInt8 := [167, 0, 117, 42, 180, 0, 68, 29, 42, 42, 180, 0, 68, 29, 47, 182, 1, 13, 80, 3, 54, 4, 21, 4]
abbrev dktX1_isThread_2 : List UInt8 := dkwX1_isThread_2 ++ dktX1_isThread_3
def dkwX1_isThread_1 : List UInt8 := [3, 10, 27, 121, 80, 3, 62, 29, 28, 163, 0, 137, 42, 180, 0, 68, 29, 47, 9, 148, 154, 0, 6]
abbrev dktX1_isThread_1 : List UInt8 := dkwX1_isThread_1 ++ dktX1_isThread_2
def dkwX1_isThread_0 : List UInt8 := [3, 62, 29, 28, 163, 0, 16, 42, 180, 0, 68, 29, 9, 80, 132, 3, 1, 167, 255, 241, 42, 180, 0, 68]
abbrev dktX1_isThread_0 : List UInt8 := dkwX1_isThread_0 ++ dktX1_isThread_1
theorem dksX1_isThread_0 : cX1_isThread.data.toList.drop 0 = dktX1_isThread_0 := by decide +kernel
theorem dksX1_isThread_1 : cX1_isThread.data.toList.drop 24 = dktX1_isThread_1 := dk_seg dksX1_isThread_0 24 rfl rfl
theorem dksX1_isThread_2 : cX1_isThread.data.toList.drop 47 = dktX1_isThread_2 := dk_seg dksX1_isThread_1 23 rfl rfl
theorem dksX1_isThread_3 : cX1_isThread.data.toList.drop 71 = dktX1_isThread_3 := dk_seg dksX1_isThread_2 24 rfl rfl
theorem dksX1_isThread_4 : cX1_isThread.data.toList.drop 95 = dktX1_isThread_4 := dk_seg dksX1_isThread_3 24 rfl rfl
theorem dksX1_isThread_5 : cX1_isThread.data.toList.drop 119 = dktX1_isThread_5 := dk_seg dksX1_isThread_4 24 rfl rfl
theorem dksX1_isThread_6 : cX1_isThread.data.toList.drop 142 = dktX1_isThread_6 := dk_seg dksX1_isThread_5 23 rfl rfl
theorem dksX1_isThread_7 : cX1_isThread.data.toList.drop 164 = dktX1_isThread_7 := dk_seg dksX1_isThread_6 22 rfl rfl
theorem dksX1_isThread_8 : cX1_isThread.data.toList.drop 186 = dktX1_isThread_8 := dk_seg dksX1_isThread_7 22 rfl rfl
theorem dX1_isThread_0 : decode cX1_isThread 0 = .ok (.iconst 0, 1) := dk_3 (dk_at dksX1_isThread_0 0 rfl rfl)
theorem dX1_isThread_1 : decode cX1_isThread 1 = .ok (.istore_n 3, 1) := dk_62 (dk_at dksX1_isThread_0 1 rfl rfl)
theorem dX1_isThread_2 : decode cX1_isThread 2 = .ok (.iload_n 3, 1) := dk_29 (dk_at dksX1_isThread_0 2 rfl rfl)
theorem dX1_isThread_3 : decode cX1_isThread 3 = .ok (.iload_n 2, 1) := dk_28 (dk_at dksX1_isThread_0 3 rfl rfl)
theorem dX1_isThread_4 : decode cX1_isThread 4 = .ok (.if_icmp .gt 16, 3) := dk_163 0 16 (dk_at dksX1_isThread_0 4 rfl rfl)
theorem dX1_isThread_7 : decode cX1_isThread 7 = .ok (.aload_n 0, 1) := dk_42 (dk_at dksX1_isThread_0 7 rfl rfl)
theorem dX1_isThread_8 : decode cX1_isThread 8 = .ok (.getfield 68, 3) := dk_180 0 68 (dk_at dksX1_isThread_0 8 rfl rfl)
theorem dX1_isThread_11 : decode cX1_isThread 11 = .ok (.iload_n 3, 1) := dk_29 (dk_at dksX1_isThread_0 11 rfl rfl)
theorem dX1_isThread_12 : decode cX1_isThread 12 = .ok (.lconst 0, 1) := dk_9 (dk_at dksX1_isThread_0 12 rfl rfl)
theorem dX1_isThread_13 : decode cX1_isThread 13 = .ok (.lastore, 1) := dk_80 (dk_at dksX1_isThread_0 13 rfl rfl)
theorem dX1_isThread_14 : decode cX1_isThread 14 = .ok (.iinc 3 1, 3) := dk_132 3 1 (dk_at dksX1_isThread_0 14 rfl rfl)
theorem dX1_isThread_17 : decode cX1_isThread 17 = .ok (.goto (-15), 3) := dk_167 255 241 (dk_at dksX1_isThread_0 17 rfl rfl)
theorem dX1_isThread_20 : decode cX1_isThread 20 = .ok (.aload_n 0, 1) := dk_42 (dk_at dksX1_isThread_0 20 rfl rfl)
theorem dX1_isThread_21 : decode cX1_isThread 21 = .ok (.getfield 68, 3) := dk_180 0 68 (dk_at dksX1_isThread_0 21 rfl rfl)
theorem dX1_isThread_24 : decode cX1_isThread 24 = .ok (.iconst 0, 1) := dk_3 (dk_at dksX1_isThread_1 0 rfl rfl)
theorem dX1_isThread_25 : decode cX1_isThread 25 = .ok (.lconst 1, 1) := dk_10 (dk_at dksX1_isThread_1 1 rfl rfl)
theorem dX1_isThread_26 : decode cX1_isThread 26 = .ok (.iload_n 1, 1) := dk_27 (dk_at dksX1_isThread_1 2 rfl rfl)
theorem dX1_isThread_27 : decode cX1_isThread 27 = .ok (.lshl, 1) := dk_121 (dk_at dksX1_isThread_1 3 rfl rfl)
theorem dX1_isThread_28 : decode cX1_isThread 28 = .ok (.lastore, 1) := dk_80 (dk_at dksX1_isThread_1 4 rfl rfl)
theorem dX1_isThread_29 : decode cX1_isThread 29 = .ok (.iconst 0, 1) := dk_3 (dk_at dksX1_isThread_1 5 rfl rfl)
theorem dX1_isThread_30 : decode cX1_isThread 30 = .ok (.istore_n 3, 1) := dk_62 (dk_at dksX1_isThread_1 6 rfl rfl)
theorem dX1_isThread_31 : decode cX1_isThread 31 = .ok (.iload_n 3, 1) := dk_29 (dk_at dksX1_isThread_1 7 rfl rfl)
theorem dX1_isThread_32 : decode cX1_isThread 32 = .ok (.iload_n 2, 1) := dk_28 (dk_at dksX1_isThread_1 8 rfl rfl)
theorem dX1_isThread_33 : decode cX1_isThread 33 = .ok (.if_icmp .gt 137, 3) := dk_163 0 137 (dk_at dksX1_isThread_1 9 rfl rfl)
theorem dX1_isThread_36 : decode cX1_isThread 36 = .ok (.aload_n 0, 1) := dk_42 (dk_at dksX1_isThread_1 12 rfl rfl)
theorem dX1_isThread_37 : decode cX1_isThread 37 = .ok (.getfield 68, 3) := dk_180 0 68 (dk_at dksX1_isThread_1 13 rfl rfl)
theorem dX1_isThread_40 : decode cX1_isThread 40 = .ok (.iload_n 3, 1) := dk_29 (dk_at dksX1_isThread_1 16 rfl rfl)
theorem dX1_isThread_41 : decode cX1_isThread 41 = .ok (.laload, 1) := dk_47 (dk_at dksX1_isThread_1 17 rfl rfl)
theorem dX1_isThread_42 : decode cX1_isThread 42 = .ok (.lconst 0, 1) := dk_9 (dk_at dksX1_isThread_1 18 rfl rfl)
theorem dX1_isThread_43 : decode cX1_isThread 43 = .ok (.lcmp, 1) := dk_148 (dk_at dksX1_isThread_1 19 rfl rfl)
theorem dX1_isThread_44 : decode cX1_isThread 44 = .ok (.ifCond .ne 6, 3) := dk_154 0 6 (dk_at dksX1_isThread_1 20 rfl rfl)
theorem dX1_isThread_47 : decode cX1_isThread 47 = .ok (.goto 117, 3) := dk_167 0 117 (dk_at dksX1_isThread_2 0 rfl rfl)
theorem dX1_isThread_50 : decode cX1_isThread 50 = .ok (.aload_n 0, 1) := dk_42 (dk_at dksX1_isThread_2 3 rfl rfl)
theorem dX1_isThread_51 : decode cX1_isThread 51 = .ok (.getfield 68, 3) := dk_180 0 68 (dk_at dksX1_isThread_2 4 rfl rfl)
theorem dX1_isThread_54 : decode cX1_isThread 54 = .ok (.iload_n 3, 1) := dk_29 (dk_at dksX1_isThread_2 7 rfl rfl)
theorem dX1_isThread_55 : decode cX1_isThread 55 = .ok (.aload_n 0, 1) := dk_42 (dk_at dksX1_isThread_2 8 rfl rfl)
theorem dX1_isThread_56 : decode cX1_isThread 56 = .ok (.aload_n 0, 1) := dk_42 (dk_at dksX1_isThread_2 9 rfl rfl)
theorem dX1_isThread_57 : decode cX1_isThread 57 = .ok (.getfield 68, 3) := dk_180 0 68 (dk_at dksX1_isThread_2 10 rfl rfl)
theorem dX1_isThread_60 : decode cX1_isThread 60 = .ok (.iload_n 3, 1) := dk_29 (dk_at dksX1_isThread_2 13 rfl rfl)
theorem dX1_isThread_61 : decode cX1_isThread 61 = .ok (.laload, 1) := dk_47 (dk_at dksX1_isThread_2 14 rfl rfl)
theorem dX1_isThread_62 : decode cX1_isThread 62 = .ok (.invokevirtual 269, 3) := dk_182 1 13 (dk_at dksX1_isThread_2 15 rfl rfl)
theorem dX1_isThread_65 : decode cX1_isThread 65 = .ok (.lastore, 1) := dk_80 (dk_at dksX1_isThread_2 18 rfl rfl)
theorem dX1_isThread_66 : decode cX1_isThread 66 = .ok (.iconst 0, 1) := dk_3 (dk_at dksX1_isThread_2 19 rfl rfl)
theorem dX1_isThread_67 : decode cX1_isThread 67 = .ok (.istore 4, 2) := dk_54 4 (dk_at dksX1_isThread_2 20 rfl rfl)
theorem dX1_isThread_69 : decode cX1_isThread 69 = .ok (.iload 4, 2) := dk_21 4 (dk_at dksX1_isThread_2 22 rfl rfl)
theorem dX1_isThread_71 : decode cX1_isThread 71 = .ok (.bipush 60, 2) := dk_16 60 (dk_at dksX1_isThread_3 0 rfl rfl)
theorem dX1_isThread_73 : decode cX1_isThread 73 = .ok (.if_icmp .ge 91, 3) := dk_162 0 91 (dk_at dksX1_isThread_3 2 rfl rfl)
theorem dX1_isThread_76 : decode cX1_isThread 76 = .ok (.aload_n 0, 1) := dk_42 (dk_at dksX1_isThread_3 5 rfl rfl)
theorem dX1_isThread_77 : decode cX1_isThread 77 = .ok (.getfield 68, 3) := dk_180 0 68 (dk_at dksX1_isThread_3 6 rfl rfl)
theorem dX1_isThread_80 : decode cX1_isThread 80 = .ok (.iload_n 3, 1) := dk_29 (dk_at dksX1_isThread_3 9 rfl rfl)
theorem dX1_isThread_81 : decode cX1_isThread 81 = .ok (.laload, 1) := dk_47 (dk_at dksX1_isThread_3 10 rfl rfl)
theorem dX1_isThread_82 : decode cX1_isThread 82 = .ok (.iload 4, 2) := dk_21 4 (dk_at dksX1_isThread_3 11 rfl rfl)
theorem dX1_isThread_84 : decode cX1_isThread 84 = .ok (.lshr, 1) := dk_123 (dk_at dksX1_isThread_3 13 rfl rfl)
theorem dX1_isThread_85 : decode cX1_isThread 85 = .ok (.lconst 1, 1) := dk_10 (dk_at dksX1_isThread_3 14 rfl rfl)
theorem dX1_isThread_86 : decode cX1_isThread 86 = .ok (.land, 1) := dk_127 (dk_at dksX1_isThread_3 15 rfl rfl)
theorem dX1_isThread_87 : decode cX1_isThread 87 = .ok (.lconst 0, 1) := dk_9 (dk_at dksX1_isThread_3 16 rfl rfl)
theorem dX1_isThread_88 : decode cX1_isThread 88 = .ok (.lcmp, 1) := dk_148 (dk_at dksX1_isThread_3 17 rfl rfl)
theorem dX1_isThread_89 : decode cX1_isThread 89 = .ok (.ifCond .ne 6, 3) := dk_154 0 6 (dk_at dksX1_isThread_3 18 rfl rfl)
theorem dX1_isThread_92 : decode cX1_isThread 92 = .ok (.goto 66, 3) := dk_167 0 66 (dk_at dksX1_isThread_3 21 rfl rfl)
theorem dX1_isThread_95 : decode cX1_isThread 95 = .ok (.iconst 0, 1) := dk_3 (dk_at dksX1_isThread_4 0 rfl rfl)
theorem dX1_isThread_96 : decode cX1_isThread 96 = .ok (.istore 5, 2) := dk_54 5 (dk_at dksX1_isThread_4 1 rfl rfl)
theorem dX1_isThread_98 : decode cX1_isThread 98 = .ok (.iload 5, 2) := dk_21 5 (dk_at dksX1_isThread_4 3 rfl rfl)
theorem dX1_isThread_100 : decode cX1_isThread 100 = .ok (.bipush 8, 2) := dk_16 8 (dk_at dksX1_isThread_4 5 rfl rfl)
theorem dX1_isThread_102 : decode cX1_isThread 102 = .ok (.if_icmp .ge 56, 3) := dk_162 0 56 (dk_at dksX1_isThread_4 7 rfl rfl)
theorem dX1_isThread_105 : decode cX1_isThread 105 = .ok (.aload_n 0, 1) := dk_42 (dk_at dksX1_isThread_4 10 rfl rfl)
theorem dX1_isThread_106 : decode cX1_isThread 106 = .ok (.iload_n 3, 1) := dk_29 (dk_at dksX1_isThread_4 11 rfl rfl)
theorem dX1_isThread_107 : decode cX1_isThread 107 = .ok (.bipush 8, 2) := dk_16 8 (dk_at dksX1_isThread_4 12 rfl rfl)
theorem dX1_isThread_109 : decode cX1_isThread 109 = .ok (.iload 4, 2) := dk_21 4 (dk_at dksX1_isThread_4 14 rfl rfl)
theorem dX1_isThread_111 : decode cX1_isThread 111 = .ok (.imul, 1) := dk_104 (dk_at dksX1_isThread_4 16 rfl rfl)
theorem dX1_isThread_112 : decode cX1_isThread 112 = .ok (.iload 5, 2) := dk_21 5 (dk_at dksX1_isThread_4 17 rfl rfl)
theorem dX1_isThread_114 : decode cX1_isThread 114 = .ok (.iadd, 1) := dk_96 (dk_at dksX1_isThread_4 19 rfl rfl)
theorem dX1_isThread_115 : decode cX1_isThread 115 = .ok (.iconst 1, 1) := dk_4 (dk_at dksX1_isThread_4 20 rfl rfl)
theorem dX1_isThread_116 : decode cX1_isThread 116 = .ok (.invokevirtual 246, 3) := dk_182 0 246 (dk_at dksX1_isThread_4 21 rfl rfl)
theorem dX1_isThread_119 : decode cX1_isThread 119 = .ok (.istore 6, 2) := dk_54 6 (dk_at dksX1_isThread_5 0 rfl rfl)
theorem dX1_isThread_121 : decode cX1_isThread 121 = .ok (.iload 6, 2) := dk_21 6 (dk_at dksX1_isThread_5 2 rfl rfl)
theorem dX1_isThread_123 : decode cX1_isThread 123 = .ok (.iload_n 3, 1) := dk_29 (dk_at dksX1_isThread_5 4 rfl rfl)
theorem dX1_isThread_124 : decode cX1_isThread 124 = .ok (.if_icmp .le 28, 3) := dk_164 0 28 (dk_at dksX1_isThread_5 5 rfl rfl)
theorem dX1_isThread_127 : decode cX1_isThread 127 = .ok (.aload_n 0, 1) := dk_42 (dk_at dksX1_isThread_5 8 rfl rfl)
theorem dX1_isThread_128 : decode cX1_isThread 128 = .ok (.getfield 68, 3) := dk_180 0 68 (dk_at dksX1_isThread_5 9 rfl rfl)
theorem dX1_isThread_131 : decode cX1_isThread 131 = .ok (.iload 6, 2) := dk_21 6 (dk_at dksX1_isThread_5 12 rfl rfl)
theorem dX1_isThread_133 : decode cX1_isThread 133 = .ok (.dup2, 1) := dk_92 (dk_at dksX1_isThread_5 14 rfl rfl)
theorem dX1_isThread_134 : decode cX1_isThread 134 = .ok (.laload, 1) := dk_47 (dk_at dksX1_isThread_5 15 rfl rfl)
theorem dX1_isThread_135 : decode cX1_isThread 135 = .ok (.lconst 1, 1) := dk_10 (dk_at dksX1_isThread_5 16 rfl rfl)
theorem dX1_isThread_136 : decode cX1_isThread 136 = .ok (.aload_n 0, 1) := dk_42 (dk_at dksX1_isThread_5 17 rfl rfl)
theorem dX1_isThread_137 : decode cX1_isThread 137 = .ok (.getfield 49, 3) := dk_180 0 49 (dk_at dksX1_isThread_5 18 rfl rfl)
theorem dX1_isThread_140 : decode cX1_isThread 140 = .ok (.bipush 8, 2) := dk_16 8 (dk_at dksX1_isThread_5 21 rfl rfl)
theorem dX1_isThread_142 : decode cX1_isThread 142 = .ok (.iload 4, 2) := dk_21 4 (dk_at dksX1_isThread_6 0 rfl rfl)
theorem dX1_isThread_144 : decode cX1_isThread 144 = .ok (.imul, 1) := dk_104 (dk_at dksX1_isThread_6 2 rfl rfl)
theorem dX1_isThread_145 : decode cX1_isThread 145 = .ok (.iload 5, 2) := dk_21 5 (dk_at dksX1_isThread_6 3 rfl rfl)
theorem dX1_isThread_147 : decode cX1_isThread 147 = .ok (.iadd, 1) := dk_96 (dk_at dksX1_isThread_6 5 rfl rfl)
theorem dX1_isThread_148 : decode cX1_isThread 148 = .ok (.iaload, 1) := dk_46 (dk_at dksX1_isThread_6 6 rfl rfl)
theorem dX1_isThread_149 : decode cX1_isThread 149 = .ok (.lshl, 1) := dk_121 (dk_at dksX1_isThread_6 7 rfl rfl)
theorem dX1_isThread_150 : decode cX1_isThread 150 = .ok (.lor, 1) := dk_129 (dk_at dksX1_isThread_6 8 rfl rfl)
theorem dX1_isThread_151 : decode cX1_isThread 151 = .ok (.lastore, 1) := dk_80 (dk_at dksX1_isThread_6 9 rfl rfl)
theorem dX1_isThread_152 : decode cX1_isThread 152 = .ok (.iinc 5 1, 3) := dk_132 5 1 (dk_at dksX1_isThread_6 10 rfl rfl)
theorem dX1_isThread_155 : decode cX1_isThread 155 = .ok (.goto (-57), 3) := dk_167 255 199 (dk_at dksX1_isThread_6 13 rfl rfl)
theorem dX1_isThread_158 : decode cX1_isThread 158 = .ok (.iinc 4 1, 3) := dk_132 4 1 (dk_at dksX1_isThread_6 16 rfl rfl)
theorem dX1_isThread_161 : decode cX1_isThread 161 = .ok (.goto (-92), 3) := dk_167 255 164 (dk_at dksX1_isThread_6 19 rfl rfl)
theorem dX1_isThread_164 : decode cX1_isThread 164 = .ok (.iinc 3 1, 3) := dk_132 3 1 (dk_at dksX1_isThread_7 0 rfl rfl)
theorem dX1_isThread_167 : decode cX1_isThread 167 = .ok (.goto (-136), 3) := dk_167 255 120 (dk_at dksX1_isThread_7 3 rfl rfl)
theorem dX1_isThread_170 : decode cX1_isThread 170 = .ok (.aload_n 0, 1) := dk_42 (dk_at dksX1_isThread_7 6 rfl rfl)
theorem dX1_isThread_171 : decode cX1_isThread 171 = .ok (.getfield 68, 3) := dk_180 0 68 (dk_at dksX1_isThread_7 7 rfl rfl)
theorem dX1_isThread_174 : decode cX1_isThread 174 = .ok (.iload_n 2, 1) := dk_28 (dk_at dksX1_isThread_7 10 rfl rfl)
theorem dX1_isThread_175 : decode cX1_isThread 175 = .ok (.laload, 1) := dk_47 (dk_at dksX1_isThread_7 11 rfl rfl)
theorem dX1_isThread_176 : decode cX1_isThread 176 = .ok (.iload_n 1, 1) := dk_27 (dk_at dksX1_isThread_7 12 rfl rfl)
theorem dX1_isThread_177 : decode cX1_isThread 177 = .ok (.lshr, 1) := dk_123 (dk_at dksX1_isThread_7 13 rfl rfl)
theorem dX1_isThread_178 : decode cX1_isThread 178 = .ok (.lconst 1, 1) := dk_10 (dk_at dksX1_isThread_7 14 rfl rfl)
theorem dX1_isThread_179 : decode cX1_isThread 179 = .ok (.land, 1) := dk_127 (dk_at dksX1_isThread_7 15 rfl rfl)
theorem dX1_isThread_180 : decode cX1_isThread 180 = .ok (.lconst 1, 1) := dk_10 (dk_at dksX1_isThread_7 16 rfl rfl)
theorem dX1_isThread_181 : decode cX1_isThread 181 = .ok (.lcmp, 1) := dk_148 (dk_at dksX1_isThread_7 17 rfl rfl)
theorem dX1_isThread_182 : decode cX1_isThread 182 = .ok (.ifCond .ne 7, 3) := dk_154 0 7 (dk_at dksX1_isThread_7 18 rfl rfl)
theorem dX1_isThread_185 : decode cX1_isThread 185 = .ok (.iconst 1, 1) := dk_4 (dk_at dksX1_isThread_7 21 rfl rfl)
theorem dX1_isThread_186 : decode cX1_isThread 186 = .ok (.goto 4, 3) := dk_167 0 4 (dk_at dksX1_isThread_8 0 rfl rfl)
theorem dX1_isThread_189 : decode cX1_isThread 189 = .ok (.iconst 0, 1) := dk_3 (dk_at dksX1_isThread_8 3 rfl rfl)
theorem dX1_isThread_190 : decode cX1_isThread 190 = .ok (.ireturn, 1) := dk_172 (dk_at dksX1_isThread_8 4 rfl rfl)
abbrev cX1_around : ByteArray := prog_1_method_48_code
def yX1_around : MethodName := ⟨RX1, "around", "(J)J"⟩
def dkwX1_around_5 : List UInt8 := [167, 255, 147, 33, 173]
abbrev dktX1_around_5 : List UInt8 := dkwX1_around_5 ++ []
def dkwX1_around_4 : List UInt8 := [21, 7, 104, 21, 8, 96, 46, 121, 129, 66, 132, 8, 1, 167, 255, 194, 132, 7, 1, 167, 255, 163]
abbrev dktX1_around_4 : List UInt8 := dkwX1_around_4 ++ dktX1_around_5
def dkwX1_around_3 : List UInt8 := [180, 0, 55, 16, 8, 21, 7, 104, 21, 8, 96, 46, 2, 160, 0, 21, 33, 10, 42, 180, 0, 49, 16, 8]
abbrev dktX1_around_3 : List UInt8 := dkwX1_around_3 ++ dktX1_around_4
def dkwX1_around_2 : List UInt8 := [16, 8, 162, 0, 61, 42, 180, 0, 49, 16, 8, 21, 7, 104, 21, 8, 96, 46, 2, 159, 0, 38, 42]
abbrev dktX1_around_2 : List UInt8 := dkwX1_around_2 ++ dktX1_around_3
def dkwX1_around_1 : List UInt8 := [162, 0, 92, 22, 5, 21, 7, 123, 10, 127, 9, 148, 154, 0, 6, 167, 0, 71, 3, 54, 8, 21, 8]
abbrev dktX1_around_1 : List UInt8 := dkwX1_around_1 ++ dktX1_around_2
def dkwX1_around_0 : List UInt8 := [31, 66, 9, 55, 5, 33, 22, 5, 148, 153, 0, 108, 33, 55, 5, 3, 54, 7, 21, 7, 16, 60]
abbrev dktX1_around_0 : List UInt8 := dkwX1_around_0 ++ dktX1_around_1
theorem dksX1_around_0 : cX1_around.data.toList.drop 0 = dktX1_around_0 := by decide +kernel
theorem dksX1_around_1 : cX1_around.data.toList.drop 22 = dktX1_around_1 := dk_seg dksX1_around_0 22 rfl rfl
theorem dksX1_around_2 : cX1_around.data.toList.drop 45 = dktX1_around_2 := dk_seg dksX1_around_1 23 rfl rfl
theorem dksX1_around_3 : cX1_around.data.toList.drop 68 = dktX1_around_3 := dk_seg dksX1_around_2 23 rfl rfl
theorem dksX1_around_4 : cX1_around.data.toList.drop 92 = dktX1_around_4 := dk_seg dksX1_around_3 24 rfl rfl
theorem dksX1_around_5 : cX1_around.data.toList.drop 114 = dktX1_around_5 := dk_seg dksX1_around_4 22 rfl rfl
theorem dX1_around_0 : decode cX1_around 0 = .ok (.lload_n 1, 1) := dk_31 (dk_at dksX1_around_0 0 rfl rfl)
theorem dX1_around_1 : decode cX1_around 1 = .ok (.lstore_n 3, 1) := dk_66 (dk_at dksX1_around_0 1 rfl rfl)
theorem dX1_around_2 : decode cX1_around 2 = .ok (.lconst 0, 1) := dk_9 (dk_at dksX1_around_0 2 rfl rfl)
theorem dX1_around_3 : decode cX1_around 3 = .ok (.lstore 5, 2) := dk_55 5 (dk_at dksX1_around_0 3 rfl rfl)
theorem dX1_around_5 : decode cX1_around 5 = .ok (.lload_n 3, 1) := dk_33 (dk_at dksX1_around_0 5 rfl rfl)
theorem dX1_around_6 : decode cX1_around 6 = .ok (.lload 5, 2) := dk_22 5 (dk_at dksX1_around_0 6 rfl rfl)
theorem dX1_around_8 : decode cX1_around 8 = .ok (.lcmp, 1) := dk_148 (dk_at dksX1_around_0 8 rfl rfl)
theorem dX1_around_9 : decode cX1_around 9 = .ok (.ifCond .eq 108, 3) := dk_153 0 108 (dk_at dksX1_around_0 9 rfl rfl)
theorem dX1_around_12 : decode cX1_around 12 = .ok (.lload_n 3, 1) := dk_33 (dk_at dksX1_around_0 12 rfl rfl)
theorem dX1_around_13 : decode cX1_around 13 = .ok (.lstore 5, 2) := dk_55 5 (dk_at dksX1_around_0 13 rfl rfl)
theorem dX1_around_15 : decode cX1_around 15 = .ok (.iconst 0, 1) := dk_3 (dk_at dksX1_around_0 15 rfl rfl)
theorem dX1_around_16 : decode cX1_around 16 = .ok (.istore 7, 2) := dk_54 7 (dk_at dksX1_around_0 16 rfl rfl)
theorem dX1_around_18 : decode cX1_around 18 = .ok (.iload 7, 2) := dk_21 7 (dk_at dksX1_around_0 18 rfl rfl)
theorem dX1_around_20 : decode cX1_around 20 = .ok (.bipush 60, 2) := dk_16 60 (dk_at dksX1_around_0 20 rfl rfl)
theorem dX1_around_22 : decode cX1_around 22 = .ok (.if_icmp .ge 92, 3) := dk_162 0 92 (dk_at dksX1_around_1 0 rfl rfl)
theorem dX1_around_25 : decode cX1_around 25 = .ok (.lload 5, 2) := dk_22 5 (dk_at dksX1_around_1 3 rfl rfl)
theorem dX1_around_27 : decode cX1_around 27 = .ok (.iload 7, 2) := dk_21 7 (dk_at dksX1_around_1 5 rfl rfl)
theorem dX1_around_29 : decode cX1_around 29 = .ok (.lshr, 1) := dk_123 (dk_at dksX1_around_1 7 rfl rfl)
theorem dX1_around_30 : decode cX1_around 30 = .ok (.lconst 1, 1) := dk_10 (dk_at dksX1_around_1 8 rfl rfl)
theorem dX1_around_31 : decode cX1_around 31 = .ok (.land, 1) := dk_127 (dk_at dksX1_around_1 9 rfl rfl)
theorem dX1_around_32 : decode cX1_around 32 = .ok (.lconst 0, 1) := dk_9 (dk_at dksX1_around_1 10 rfl rfl)
theorem dX1_around_33 : decode cX1_around 33 = .ok (.lcmp, 1) := dk_148 (dk_at dksX1_around_1 11 rfl rfl)
theorem dX1_around_34 : decode cX1_around 34 = .ok (.ifCond .ne 6, 3) := dk_154 0 6 (dk_at dksX1_around_1 12 rfl rfl)
theorem dX1_around_37 : decode cX1_around 37 = .ok (.goto 71, 3) := dk_167 0 71 (dk_at dksX1_around_1 15 rfl rfl)
theorem dX1_around_40 : decode cX1_around 40 = .ok (.iconst 0, 1) := dk_3 (dk_at dksX1_around_1 18 rfl rfl)
theorem dX1_around_41 : decode cX1_around 41 = .ok (.istore 8, 2) := dk_54 8 (dk_at dksX1_around_1 19 rfl rfl)
theorem dX1_around_43 : decode cX1_around 43 = .ok (.iload 8, 2) := dk_21 8 (dk_at dksX1_around_1 21 rfl rfl)
theorem dX1_around_45 : decode cX1_around 45 = .ok (.bipush 8, 2) := dk_16 8 (dk_at dksX1_around_2 0 rfl rfl)
theorem dX1_around_47 : decode cX1_around 47 = .ok (.if_icmp .ge 61, 3) := dk_162 0 61 (dk_at dksX1_around_2 2 rfl rfl)
theorem dX1_around_50 : decode cX1_around 50 = .ok (.aload_n 0, 1) := dk_42 (dk_at dksX1_around_2 5 rfl rfl)
theorem dX1_around_51 : decode cX1_around 51 = .ok (.getfield 49, 3) := dk_180 0 49 (dk_at dksX1_around_2 6 rfl rfl)
theorem dX1_around_54 : decode cX1_around 54 = .ok (.bipush 8, 2) := dk_16 8 (dk_at dksX1_around_2 9 rfl rfl)
theorem dX1_around_56 : decode cX1_around 56 = .ok (.iload 7, 2) := dk_21 7 (dk_at dksX1_around_2 11 rfl rfl)
theorem dX1_around_58 : decode cX1_around 58 = .ok (.imul, 1) := dk_104 (dk_at dksX1_around_2 13 rfl rfl)
theorem dX1_around_59 : decode cX1_around 59 = .ok (.iload 8, 2) := dk_21 8 (dk_at dksX1_around_2 14 rfl rfl)
theorem dX1_around_61 : decode cX1_around 61 = .ok (.iadd, 1) := dk_96 (dk_at dksX1_around_2 16 rfl rfl)
theorem dX1_around_62 : decode cX1_around 62 = .ok (.iaload, 1) := dk_46 (dk_at dksX1_around_2 17 rfl rfl)
theorem dX1_around_63 : decode cX1_around 63 = .ok (.iconst (-1), 1) := dk_2 (dk_at dksX1_around_2 18 rfl rfl)
theorem dX1_around_64 : decode cX1_around 64 = .ok (.if_icmp .eq 38, 3) := dk_159 0 38 (dk_at dksX1_around_2 19 rfl rfl)
theorem dX1_around_67 : decode cX1_around 67 = .ok (.aload_n 0, 1) := dk_42 (dk_at dksX1_around_2 22 rfl rfl)
theorem dX1_around_68 : decode cX1_around 68 = .ok (.getfield 55, 3) := dk_180 0 55 (dk_at dksX1_around_3 0 rfl rfl)
theorem dX1_around_71 : decode cX1_around 71 = .ok (.bipush 8, 2) := dk_16 8 (dk_at dksX1_around_3 3 rfl rfl)
theorem dX1_around_73 : decode cX1_around 73 = .ok (.iload 7, 2) := dk_21 7 (dk_at dksX1_around_3 5 rfl rfl)
theorem dX1_around_75 : decode cX1_around 75 = .ok (.imul, 1) := dk_104 (dk_at dksX1_around_3 7 rfl rfl)
theorem dX1_around_76 : decode cX1_around 76 = .ok (.iload 8, 2) := dk_21 8 (dk_at dksX1_around_3 8 rfl rfl)
theorem dX1_around_78 : decode cX1_around 78 = .ok (.iadd, 1) := dk_96 (dk_at dksX1_around_3 10 rfl rfl)
theorem dX1_around_79 : decode cX1_around 79 = .ok (.iaload, 1) := dk_46 (dk_at dksX1_around_3 11 rfl rfl)
theorem dX1_around_80 : decode cX1_around 80 = .ok (.iconst (-1), 1) := dk_2 (dk_at dksX1_around_3 12 rfl rfl)
theorem dX1_around_81 : decode cX1_around 81 = .ok (.if_icmp .ne 21, 3) := dk_160 0 21 (dk_at dksX1_around_3 13 rfl rfl)
theorem dX1_around_84 : decode cX1_around 84 = .ok (.lload_n 3, 1) := dk_33 (dk_at dksX1_around_3 16 rfl rfl)
theorem dX1_around_85 : decode cX1_around 85 = .ok (.lconst 1, 1) := dk_10 (dk_at dksX1_around_3 17 rfl rfl)
theorem dX1_around_86 : decode cX1_around 86 = .ok (.aload_n 0, 1) := dk_42 (dk_at dksX1_around_3 18 rfl rfl)
theorem dX1_around_87 : decode cX1_around 87 = .ok (.getfield 49, 3) := dk_180 0 49 (dk_at dksX1_around_3 19 rfl rfl)
theorem dX1_around_90 : decode cX1_around 90 = .ok (.bipush 8, 2) := dk_16 8 (dk_at dksX1_around_3 22 rfl rfl)
theorem dX1_around_92 : decode cX1_around 92 = .ok (.iload 7, 2) := dk_21 7 (dk_at dksX1_around_4 0 rfl rfl)
theorem dX1_around_94 : decode cX1_around 94 = .ok (.imul, 1) := dk_104 (dk_at dksX1_around_4 2 rfl rfl)
theorem dX1_around_95 : decode cX1_around 95 = .ok (.iload 8, 2) := dk_21 8 (dk_at dksX1_around_4 3 rfl rfl)
theorem dX1_around_97 : decode cX1_around 97 = .ok (.iadd, 1) := dk_96 (dk_at dksX1_around_4 5 rfl rfl)
theorem dX1_around_98 : decode cX1_around 98 = .ok (.iaload, 1) := dk_46 (dk_at dksX1_around_4 6 rfl rfl)
theorem dX1_around_99 : decode cX1_around 99 = .ok (.lshl, 1) := dk_121 (dk_at dksX1_around_4 7 rfl rfl)
theorem dX1_around_100 : decode cX1_around 100 = .ok (.lor, 1) := dk_129 (dk_at dksX1_around_4 8 rfl rfl)
theorem dX1_around_101 : decode cX1_around 101 = .ok (.lstore_n 3, 1) := dk_66 (dk_at dksX1_around_4 9 rfl rfl)
theorem dX1_around_102 : decode cX1_around 102 = .ok (.iinc 8 1, 3) := dk_132 8 1 (dk_at dksX1_around_4 10 rfl rfl)
theorem dX1_around_105 : decode cX1_around 105 = .ok (.goto (-62), 3) := dk_167 255 194 (dk_at dksX1_around_4 13 rfl rfl)
theorem dX1_around_108 : decode cX1_around 108 = .ok (.iinc 7 1, 3) := dk_132 7 1 (dk_at dksX1_around_4 16 rfl rfl)
theorem dX1_around_111 : decode cX1_around 111 = .ok (.goto (-93), 3) := dk_167 255 163 (dk_at dksX1_around_4 19 rfl rfl)
theorem dX1_around_114 : decode cX1_around 114 = .ok (.goto (-109), 3) := dk_167 255 147 (dk_at dksX1_around_5 0 rfl rfl)
theorem dX1_around_117 : decode cX1_around 117 = .ok (.lload_n 3, 1) := dk_33 (dk_at dksX1_around_5 3 rfl rfl)
theorem dX1_around_118 : decode cX1_around 118 = .ok (.lreturn, 1) := dk_173 (dk_at dksX1_around_5 4 rfl rfl)
abbrev cX1_behind : ByteArray := prog_1_method_43_code
def yX1_behind : MethodName := ⟨RX1, "behind", "(IIZ)I"⟩
def dkwX1_behind_3 : List UInt8 := [21, 4, 120, 128, 172]
abbrev dktX1_behind_3 : List UInt8 := dkwX1_behind_3 ++ []
def dkwX1_behind_2 : List UInt8 := [21, 4, 122, 4, 126, 4, 160, 0, 5, 2, 172, 21, 4, 2, 160, 0, 7, 27, 167, 0, 9, 27, 4]
abbrev dktX1_behind_2 : List UInt8 := dkwX1_behind_2 ++ dktX1_behind_3
def dkwX1_behind_1 : List UInt8 := [42, 180, 0, 46, 42, 180, 0, 55, 28, 46, 46, 54, 4, 29, 153, 0, 21, 21, 4, 2, 159, 0, 13, 27]
abbrev dktX1_behind_1 : List UInt8 := dkwX1_behind_1 ++ dktX1_behind_2
def dkwX1_behind_0 : List UInt8 := [42, 180, 0, 49, 28, 46, 2, 160, 0, 5, 2, 172, 42, 180, 0, 55, 28, 46, 2, 160, 0, 5, 27, 172]
abbrev dktX1_behind_0 : List UInt8 := dkwX1_behind_0 ++ dktX1_behind_1
theorem dksX1_behind_0 : cX1_behind.data.toList.drop 0 = dktX1_behind_0 := by decide +kernel
theorem dksX1_behind_1 : cX1_behind.data.toList.drop 24 = dktX1_behind_1 := dk_seg dksX1_behind_0 24 rfl rfl
theorem dksX1_behind_2 : cX1_behind.data.toList.drop 48 = dktX1_behind_2 := dk_seg dksX1_behind_1 24 rfl rfl
theorem dksX1_behind_3 : cX1_behind.data.toList.drop 71 = dktX1_behind_3 := dk_seg dksX1_behind_2 23 rfl rfl
theorem dX1_behind_0 : decode cX1_behind 0 = .ok (.aload_n 0, 1) := dk_42 (dk_at dksX1_behind_0 0 rfl rfl)
theorem dX1_behind_1 : decode cX1_behind 1 = .ok (.getfield 49, 3) := dk_180 0 49 (dk_at dksX1_behind_0 1 rfl rfl)
theorem dX1_behind_4 : decode cX1_behind 4 = .ok (.iload_n 2, 1) := dk_28 (dk_at dksX1_behind_0 4 rfl rfl)
theorem dX1_behind_5 : decode cX1_behind 5 = .ok (.iaload, 1) := dk_46 (dk_at dksX1_behind_0 5 rfl rfl)
theorem dX1_behind_6 : decode cX1_behind 6 = .ok (.iconst (-1), 1) := dk_2 (dk_at dksX1_behind_0 6 rfl rfl)
theorem dX1_behind_7 : decode cX1_behind 7 = .ok (.if_icmp .ne 5, 3) := dk_160 0 5 (dk_at dksX1_behind_0 7 rfl rfl)
theorem dX1_behind_10 : decode cX1_behind 10 = .ok (.iconst (-1), 1) := dk_2 (dk_at dksX1_behind_0 10 rfl rfl)
theorem dX1_behind_11 : decode cX1_behind 11 = .ok (.ireturn, 1) := dk_172 (dk_at dksX1_behind_0 11 rfl rfl)
theorem dX1_behind_12 : decode cX1_behind 12 = .ok (.aload_n 0, 1) := dk_42 (dk_at dksX1_behind_0 12 rfl rfl)
theorem dX1_behind_13 : decode cX1_behind 13 = .ok (.getfield 55, 3) := dk_180 0 55 (dk_at dksX1_behind_0 13 rfl rfl)
theorem dX1_behind_16 : decode cX1_behind 16 = .ok (.iload_n 2, 1) := dk_28 (dk_at dksX1_behind_0 16 rfl rfl)
theorem dX1_behind_17 : decode cX1_behind 17 = .ok (.iaload, 1) := dk_46 (dk_at dksX1_behind_0 17 rfl rfl)
theorem dX1_behind_18 : decode cX1_behind 18 = .ok (.iconst (-1), 1) := dk_2 (dk_at dksX1_behind_0 18 rfl rfl)
theorem dX1_behind_19 : decode cX1_behind 19 = .ok (.if_icmp .ne 5, 3) := dk_160 0 5 (dk_at dksX1_behind_0 19 rfl rfl)
theorem dX1_behind_22 : decode cX1_behind 22 = .ok (.iload_n 1, 1) := dk_27 (dk_at dksX1_behind_0 22 rfl rfl)
theorem dX1_behind_23 : decode cX1_behind 23 = .ok (.ireturn, 1) := dk_172 (dk_at dksX1_behind_0 23 rfl rfl)
theorem dX1_behind_24 : decode cX1_behind 24 = .ok (.aload_n 0, 1) := dk_42 (dk_at dksX1_behind_1 0 rfl rfl)
theorem dX1_behind_25 : decode cX1_behind 25 = .ok (.getfield 46, 3) := dk_180 0 46 (dk_at dksX1_behind_1 1 rfl rfl)
theorem dX1_behind_28 : decode cX1_behind 28 = .ok (.aload_n 0, 1) := dk_42 (dk_at dksX1_behind_1 4 rfl rfl)
theorem dX1_behind_29 : decode cX1_behind 29 = .ok (.getfield 55, 3) := dk_180 0 55 (dk_at dksX1_behind_1 5 rfl rfl)
theorem dX1_behind_32 : decode cX1_behind 32 = .ok (.iload_n 2, 1) := dk_28 (dk_at dksX1_behind_1 8 rfl rfl)
theorem dX1_behind_33 : decode cX1_behind 33 = .ok (.iaload, 1) := dk_46 (dk_at dksX1_behind_1 9 rfl rfl)
theorem dX1_behind_34 : decode cX1_behind 34 = .ok (.iaload, 1) := dk_46 (dk_at dksX1_behind_1 10 rfl rfl)
theorem dX1_behind_35 : decode cX1_behind 35 = .ok (.istore 4, 2) := dk_54 4 (dk_at dksX1_behind_1 11 rfl rfl)
theorem dX1_behind_37 : decode cX1_behind 37 = .ok (.iload_n 3, 1) := dk_29 (dk_at dksX1_behind_1 13 rfl rfl)
theorem dX1_behind_38 : decode cX1_behind 38 = .ok (.ifCond .eq 21, 3) := dk_153 0 21 (dk_at dksX1_behind_1 14 rfl rfl)
theorem dX1_behind_41 : decode cX1_behind 41 = .ok (.iload 4, 2) := dk_21 4 (dk_at dksX1_behind_1 17 rfl rfl)
theorem dX1_behind_43 : decode cX1_behind 43 = .ok (.iconst (-1), 1) := dk_2 (dk_at dksX1_behind_1 19 rfl rfl)
theorem dX1_behind_44 : decode cX1_behind 44 = .ok (.if_icmp .eq 13, 3) := dk_159 0 13 (dk_at dksX1_behind_1 20 rfl rfl)
theorem dX1_behind_47 : decode cX1_behind 47 = .ok (.iload_n 1, 1) := dk_27 (dk_at dksX1_behind_1 23 rfl rfl)
theorem dX1_behind_48 : decode cX1_behind 48 = .ok (.iload 4, 2) := dk_21 4 (dk_at dksX1_behind_2 0 rfl rfl)
theorem dX1_behind_50 : decode cX1_behind 50 = .ok (.ishr, 1) := dk_122 (dk_at dksX1_behind_2 2 rfl rfl)
theorem dX1_behind_51 : decode cX1_behind 51 = .ok (.iconst 1, 1) := dk_4 (dk_at dksX1_behind_2 3 rfl rfl)
theorem dX1_behind_52 : decode cX1_behind 52 = .ok (.iand, 1) := dk_126 (dk_at dksX1_behind_2 4 rfl rfl)
theorem dX1_behind_53 : decode cX1_behind 53 = .ok (.iconst 1, 1) := dk_4 (dk_at dksX1_behind_2 5 rfl rfl)
theorem dX1_behind_54 : decode cX1_behind 54 = .ok (.if_icmp .ne 5, 3) := dk_160 0 5 (dk_at dksX1_behind_2 6 rfl rfl)
theorem dX1_behind_57 : decode cX1_behind 57 = .ok (.iconst (-1), 1) := dk_2 (dk_at dksX1_behind_2 9 rfl rfl)
theorem dX1_behind_58 : decode cX1_behind 58 = .ok (.ireturn, 1) := dk_172 (dk_at dksX1_behind_2 10 rfl rfl)
theorem dX1_behind_59 : decode cX1_behind 59 = .ok (.iload 4, 2) := dk_21 4 (dk_at dksX1_behind_2 11 rfl rfl)
theorem dX1_behind_61 : decode cX1_behind 61 = .ok (.iconst (-1), 1) := dk_2 (dk_at dksX1_behind_2 13 rfl rfl)
theorem dX1_behind_62 : decode cX1_behind 62 = .ok (.if_icmp .ne 7, 3) := dk_160 0 7 (dk_at dksX1_behind_2 14 rfl rfl)
theorem dX1_behind_65 : decode cX1_behind 65 = .ok (.iload_n 1, 1) := dk_27 (dk_at dksX1_behind_2 17 rfl rfl)
theorem dX1_behind_66 : decode cX1_behind 66 = .ok (.goto 9, 3) := dk_167 0 9 (dk_at dksX1_behind_2 18 rfl rfl)
theorem dX1_behind_69 : decode cX1_behind 69 = .ok (.iload_n 1, 1) := dk_27 (dk_at dksX1_behind_2 21 rfl rfl)
theorem dX1_behind_70 : decode cX1_behind 70 = .ok (.iconst 1, 1) := dk_4 (dk_at dksX1_behind_2 22 rfl rfl)
theorem dX1_behind_71 : decode cX1_behind 71 = .ok (.iload 4, 2) := dk_21 4 (dk_at dksX1_behind_3 0 rfl rfl)
theorem dX1_behind_73 : decode cX1_behind 73 = .ok (.ishl, 1) := dk_120 (dk_at dksX1_behind_3 2 rfl rfl)
theorem dX1_behind_74 : decode cX1_behind 74 = .ok (.ior, 1) := dk_128 (dk_at dksX1_behind_3 3 rfl rfl)
theorem dX1_behind_75 : decode cX1_behind 75 = .ok (.ireturn, 1) := dk_172 (dk_at dksX1_behind_3 4 rfl rfl)
abbrev cX1_thick : ByteArray := prog_1_method_10_code
def yX1_thick : MethodName := ⟨RX1, "thick", "(II)Z"⟩
def dkwX1_thick_1 : List UInt8 := [164, 0, 5, 3, 172, 42, 180, 0, 9, 27, 28, 79, 4, 172]
abbrev dktX1_thick_1 : List UInt8 := dkwX1_thick_1 ++ []
def dkwX1_thick_0 : List UInt8 := [42, 27, 182, 0, 120, 42, 180, 0, 28, 182, 0, 110, 157, 0, 14, 28, 4, 161, 0, 9, 28, 16, 50]
abbrev dktX1_thick_0 : List UInt8 := dkwX1_thick_0 ++ dktX1_thick_1
theorem dksX1_thick_0 : cX1_thick.data.toList.drop 0 = dktX1_thick_0 := by decide +kernel
theorem dksX1_thick_1 : cX1_thick.data.toList.drop 23 = dktX1_thick_1 := dk_seg dksX1_thick_0 23 rfl rfl
theorem dX1_thick_0 : decode cX1_thick 0 = .ok (.aload_n 0, 1) := dk_42 (dk_at dksX1_thick_0 0 rfl rfl)
theorem dX1_thick_1 : decode cX1_thick 1 = .ok (.iload_n 1, 1) := dk_27 (dk_at dksX1_thick_0 1 rfl rfl)
theorem dX1_thick_2 : decode cX1_thick 2 = .ok (.invokevirtual 120, 3) := dk_182 0 120 (dk_at dksX1_thick_0 2 rfl rfl)
theorem dX1_thick_5 : decode cX1_thick 5 = .ok (.aload_n 0, 1) := dk_42 (dk_at dksX1_thick_0 5 rfl rfl)
theorem dX1_thick_6 : decode cX1_thick 6 = .ok (.getfield 28, 3) := dk_180 0 28 (dk_at dksX1_thick_0 6 rfl rfl)
theorem dX1_thick_9 : decode cX1_thick 9 = .ok (.invokevirtual 110, 3) := dk_182 0 110 (dk_at dksX1_thick_0 9 rfl rfl)
theorem dX1_thick_12 : decode cX1_thick 12 = .ok (.ifCond .gt 14, 3) := dk_157 0 14 (dk_at dksX1_thick_0 12 rfl rfl)
theorem dX1_thick_15 : decode cX1_thick 15 = .ok (.iload_n 2, 1) := dk_28 (dk_at dksX1_thick_0 15 rfl rfl)
theorem dX1_thick_16 : decode cX1_thick 16 = .ok (.iconst 1, 1) := dk_4 (dk_at dksX1_thick_0 16 rfl rfl)
theorem dX1_thick_17 : decode cX1_thick 17 = .ok (.if_icmp .lt 9, 3) := dk_161 0 9 (dk_at dksX1_thick_0 17 rfl rfl)
theorem dX1_thick_20 : decode cX1_thick 20 = .ok (.iload_n 2, 1) := dk_28 (dk_at dksX1_thick_0 20 rfl rfl)
theorem dX1_thick_21 : decode cX1_thick 21 = .ok (.bipush 50, 2) := dk_16 50 (dk_at dksX1_thick_0 21 rfl rfl)
theorem dX1_thick_23 : decode cX1_thick 23 = .ok (.if_icmp .le 5, 3) := dk_164 0 5 (dk_at dksX1_thick_1 0 rfl rfl)
theorem dX1_thick_26 : decode cX1_thick 26 = .ok (.iconst 0, 1) := dk_3 (dk_at dksX1_thick_1 3 rfl rfl)
theorem dX1_thick_27 : decode cX1_thick 27 = .ok (.ireturn, 1) := dk_172 (dk_at dksX1_thick_1 4 rfl rfl)
theorem dX1_thick_28 : decode cX1_thick 28 = .ok (.aload_n 0, 1) := dk_42 (dk_at dksX1_thick_1 5 rfl rfl)
theorem dX1_thick_29 : decode cX1_thick 29 = .ok (.getfield 9, 3) := dk_180 0 9 (dk_at dksX1_thick_1 6 rfl rfl)
theorem dX1_thick_32 : decode cX1_thick 32 = .ok (.iload_n 1, 1) := dk_27 (dk_at dksX1_thick_1 9 rfl rfl)
theorem dX1_thick_33 : decode cX1_thick 33 = .ok (.iload_n 2, 1) := dk_28 (dk_at dksX1_thick_1 10 rfl rfl)
theorem dX1_thick_34 : decode cX1_thick 34 = .ok (.iastore, 1) := dk_79 (dk_at dksX1_thick_1 11 rfl rfl)
theorem dX1_thick_35 : decode cX1_thick 35 = .ok (.iconst 1, 1) := dk_4 (dk_at dksX1_thick_1 12 rfl rfl)
theorem dX1_thick_36 : decode cX1_thick 36 = .ok (.ireturn, 1) := dk_172 (dk_at dksX1_thick_1 13 rfl rfl)
abbrev cX1_isFold : ByteArray := prog_1_method_6_code
def yX1_isFold : MethodName := ⟨RX1, "isFold", "(I)V"⟩
def dkwX1_isFold_0 : List UInt8 := [27, 155, 0, 15, 27, 42, 180, 0, 82, 162, 0, 7, 4, 167, 0, 4, 3, 184, 0, 106, 177]
abbrev dktX1_isFold_0 : List UInt8 := dkwX1_isFold_0 ++ []
theorem dksX1_isFold_0 : cX1_isFold.data.toList.drop 0 = dktX1_isFold_0 := by decide +kernel
theorem dX1_isFold_0 : decode cX1_isFold 0 = .ok (.iload_n 1, 1) := dk_27 (dk_at dksX1_isFold_0 0 rfl rfl)
theorem dX1_isFold_1 : decode cX1_isFold 1 = .ok (.ifCond .lt 15, 3) := dk_155 0 15 (dk_at dksX1_isFold_0 1 rfl rfl)
theorem dX1_isFold_4 : decode cX1_isFold 4 = .ok (.iload_n 1, 1) := dk_27 (dk_at dksX1_isFold_0 4 rfl rfl)
theorem dX1_isFold_5 : decode cX1_isFold 5 = .ok (.aload_n 0, 1) := dk_42 (dk_at dksX1_isFold_0 5 rfl rfl)
theorem dX1_isFold_6 : decode cX1_isFold 6 = .ok (.getfield 82, 3) := dk_180 0 82 (dk_at dksX1_isFold_0 6 rfl rfl)
theorem dX1_isFold_9 : decode cX1_isFold 9 = .ok (.if_icmp .ge 7, 3) := dk_162 0 7 (dk_at dksX1_isFold_0 9 rfl rfl)
theorem dX1_isFold_12 : decode cX1_isFold 12 = .ok (.iconst 1, 1) := dk_4 (dk_at dksX1_isFold_0 12 rfl rfl)
theorem dX1_isFold_13 : decode cX1_isFold 13 = .ok (.goto 4, 3) := dk_167 0 4 (dk_at dksX1_isFold_0 13 rfl rfl)
theorem dX1_isFold_16 : decode cX1_isFold 16 = .ok (.iconst 0, 1) := dk_3 (dk_at dksX1_isFold_0 16 rfl rfl)
theorem dX1_isFold_17 : decode cX1_isFold 17 = .ok (.invokestatic 106, 3) := dk_184 0 106 (dk_at dksX1_isFold_0 17 rfl rfl)
theorem dX1_isFold_20 : decode cX1_isFold 20 = .ok (.return_, 1) := dk_177 (dk_at dksX1_isFold_0 20 rfl rfl)
abbrev cX1_there : ByteArray := prog_1_method_3_code
def yX1_there : MethodName := ⟨RX1, "there", "(Z)V"⟩
def dkwX1_there_0 : List UInt8 := [26, 154, 0, 11, 187, 0, 79, 89, 183, 0, 81, 191, 177]
abbrev dktX1_there_0 : List UInt8 := dkwX1_there_0 ++ []
theorem dksX1_there_0 : cX1_there.data.toList.drop 0 = dktX1_there_0 := by decide +kernel
theorem dX1_there_0 : decode cX1_there 0 = .ok (.iload_n 0, 1) := dk_26 (dk_at dksX1_there_0 0 rfl rfl)
theorem dX1_there_1 : decode cX1_there 1 = .ok (.ifCond .ne 11, 3) := dk_154 0 11 (dk_at dksX1_there_0 1 rfl rfl)
theorem dX1_there_4 : decode cX1_there 4 = .ok (.new 79, 3) := dk_187 0 79 (dk_at dksX1_there_0 4 rfl rfl)
theorem dX1_there_7 : decode cX1_there 7 = .ok (.dup, 1) := dk_89 (dk_at dksX1_there_0 7 rfl rfl)
theorem dX1_there_8 : decode cX1_there 8 = .ok (.invokespecial 81, 3) := dk_183 0 81 (dk_at dksX1_there_0 8 rfl rfl)
theorem dX1_there_11 : decode cX1_there 11 = .ok (.athrow, 1) := dk_191 (dk_at dksX1_there_0 11 rfl rfl)
theorem dX1_there_12 : decode cX1_there 12 = .ok (.return_, 1) := dk_177 (dk_at dksX1_there_0 12 rfl rfl)
abbrev cX1_kind : ByteArray := prog_1_method_13_code
def yX1_kind : MethodName := ⟨RX1, "kind", "(II)Z"⟩
def dkwX1_kind_1 : List UInt8 := [3, 172, 42, 180, 0, 16, 27, 28, 79, 42, 182, 0, 94, 4, 172]
abbrev dktX1_kind_1 : List UInt8 := dkwX1_kind_1 ++ []
def dkwX1_kind_0 : List UInt8 := [42, 27, 182, 0, 123, 42, 180, 0, 28, 182, 0, 110, 157, 0, 12, 28, 155, 0, 8, 28, 6, 164, 0, 5]
abbrev dktX1_kind_0 : List UInt8 := dkwX1_kind_0 ++ dktX1_kind_1
theorem dksX1_kind_0 : cX1_kind.data.toList.drop 0 = dktX1_kind_0 := by decide +kernel
theorem dksX1_kind_1 : cX1_kind.data.toList.drop 24 = dktX1_kind_1 := dk_seg dksX1_kind_0 24 rfl rfl
theorem dX1_kind_0 : decode cX1_kind 0 = .ok (.aload_n 0, 1) := dk_42 (dk_at dksX1_kind_0 0 rfl rfl)
theorem dX1_kind_1 : decode cX1_kind 1 = .ok (.iload_n 1, 1) := dk_27 (dk_at dksX1_kind_0 1 rfl rfl)
theorem dX1_kind_2 : decode cX1_kind 2 = .ok (.invokevirtual 123, 3) := dk_182 0 123 (dk_at dksX1_kind_0 2 rfl rfl)
theorem dX1_kind_5 : decode cX1_kind 5 = .ok (.aload_n 0, 1) := dk_42 (dk_at dksX1_kind_0 5 rfl rfl)
theorem dX1_kind_6 : decode cX1_kind 6 = .ok (.getfield 28, 3) := dk_180 0 28 (dk_at dksX1_kind_0 6 rfl rfl)
theorem dX1_kind_9 : decode cX1_kind 9 = .ok (.invokevirtual 110, 3) := dk_182 0 110 (dk_at dksX1_kind_0 9 rfl rfl)
theorem dX1_kind_12 : decode cX1_kind 12 = .ok (.ifCond .gt 12, 3) := dk_157 0 12 (dk_at dksX1_kind_0 12 rfl rfl)
theorem dX1_kind_15 : decode cX1_kind 15 = .ok (.iload_n 2, 1) := dk_28 (dk_at dksX1_kind_0 15 rfl rfl)
theorem dX1_kind_16 : decode cX1_kind 16 = .ok (.ifCond .lt 8, 3) := dk_155 0 8 (dk_at dksX1_kind_0 16 rfl rfl)
theorem dX1_kind_19 : decode cX1_kind 19 = .ok (.iload_n 2, 1) := dk_28 (dk_at dksX1_kind_0 19 rfl rfl)
theorem dX1_kind_20 : decode cX1_kind 20 = .ok (.iconst 3, 1) := dk_6 (dk_at dksX1_kind_0 20 rfl rfl)
theorem dX1_kind_21 : decode cX1_kind 21 = .ok (.if_icmp .le 5, 3) := dk_164 0 5 (dk_at dksX1_kind_0 21 rfl rfl)
theorem dX1_kind_24 : decode cX1_kind 24 = .ok (.iconst 0, 1) := dk_3 (dk_at dksX1_kind_1 0 rfl rfl)
theorem dX1_kind_25 : decode cX1_kind 25 = .ok (.ireturn, 1) := dk_172 (dk_at dksX1_kind_1 1 rfl rfl)
theorem dX1_kind_26 : decode cX1_kind 26 = .ok (.aload_n 0, 1) := dk_42 (dk_at dksX1_kind_1 2 rfl rfl)
theorem dX1_kind_27 : decode cX1_kind 27 = .ok (.getfield 16, 3) := dk_180 0 16 (dk_at dksX1_kind_1 3 rfl rfl)
theorem dX1_kind_30 : decode cX1_kind 30 = .ok (.iload_n 1, 1) := dk_27 (dk_at dksX1_kind_1 6 rfl rfl)
theorem dX1_kind_31 : decode cX1_kind 31 = .ok (.iload_n 2, 1) := dk_28 (dk_at dksX1_kind_1 7 rfl rfl)
theorem dX1_kind_32 : decode cX1_kind 32 = .ok (.iastore, 1) := dk_79 (dk_at dksX1_kind_1 8 rfl rfl)
theorem dX1_kind_33 : decode cX1_kind 33 = .ok (.aload_n 0, 1) := dk_42 (dk_at dksX1_kind_1 9 rfl rfl)
theorem dX1_kind_34 : decode cX1_kind 34 = .ok (.invokevirtual 94, 3) := dk_182 0 94 (dk_at dksX1_kind_1 10 rfl rfl)
theorem dX1_kind_37 : decode cX1_kind 37 = .ok (.iconst 1, 1) := dk_4 (dk_at dksX1_kind_1 13 rfl rfl)
theorem dX1_kind_38 : decode cX1_kind 38 = .ok (.ireturn, 1) := dk_172 (dk_at dksX1_kind_1 14 rfl rfl)
abbrev cX1_isStation : ByteArray := prog_1_method_7_code
def yX1_isStation : MethodName := ⟨RX1, "isStation", "(I)V"⟩
def dkwX1_isStation_0 : List UInt8 := [27, 155, 0, 15, 27, 42, 180, 0, 85, 162, 0, 7, 4, 167, 0, 4, 3, 184, 0, 106, 177]
abbrev dktX1_isStation_0 : List UInt8 := dkwX1_isStation_0 ++ []
theorem dksX1_isStation_0 : cX1_isStation.data.toList.drop 0 = dktX1_isStation_0 := by decide +kernel
theorem dX1_isStation_0 : decode cX1_isStation 0 = .ok (.iload_n 1, 1) := dk_27 (dk_at dksX1_isStation_0 0 rfl rfl)
theorem dX1_isStation_1 : decode cX1_isStation 1 = .ok (.ifCond .lt 15, 3) := dk_155 0 15 (dk_at dksX1_isStation_0 1 rfl rfl)
theorem dX1_isStation_4 : decode cX1_isStation 4 = .ok (.iload_n 1, 1) := dk_27 (dk_at dksX1_isStation_0 4 rfl rfl)
theorem dX1_isStation_5 : decode cX1_isStation 5 = .ok (.aload_n 0, 1) := dk_42 (dk_at dksX1_isStation_0 5 rfl rfl)
theorem dX1_isStation_6 : decode cX1_isStation 6 = .ok (.getfield 85, 3) := dk_180 0 85 (dk_at dksX1_isStation_0 6 rfl rfl)
theorem dX1_isStation_9 : decode cX1_isStation 9 = .ok (.if_icmp .ge 7, 3) := dk_162 0 7 (dk_at dksX1_isStation_0 9 rfl rfl)
theorem dX1_isStation_12 : decode cX1_isStation 12 = .ok (.iconst 1, 1) := dk_4 (dk_at dksX1_isStation_0 12 rfl rfl)
theorem dX1_isStation_13 : decode cX1_isStation 13 = .ok (.goto 4, 3) := dk_167 0 4 (dk_at dksX1_isStation_0 13 rfl rfl)
theorem dX1_isStation_16 : decode cX1_isStation 16 = .ok (.iconst 0, 1) := dk_3 (dk_at dksX1_isStation_0 16 rfl rfl)
theorem dX1_isStation_17 : decode cX1_isStation 17 = .ok (.invokestatic 106, 3) := dk_184 0 106 (dk_at dksX1_isStation_0 17 rfl rfl)
theorem dX1_isStation_20 : decode cX1_isStation 20 = .ok (.return_, 1) := dk_177 (dk_at dksX1_isStation_0 20 rfl rfl)
abbrev cX1_part : ByteArray := prog_1_method_15_code
def yX1_part : MethodName := ⟨RX1, "part", "(II)I"⟩
def dkwX1_part_2 : List UInt8 := [160, 0, 10, 45, 180, 0, 136, 167, 0, 15, 45, 180, 0, 138, 153, 0, 7, 4, 167, 0, 4, 3, 172]
abbrev dktX1_part_2 : List UInt8 := dkwX1_part_2 ++ []
def dkwX1_part_1 : List UInt8 := [154, 0, 10, 45, 180, 0, 130, 167, 0, 39, 28, 4, 160, 0, 10, 45, 180, 0, 133, 167, 0, 27, 28, 5]
abbrev dktX1_part_1 : List UInt8 := dkwX1_part_1 ++ dktX1_part_2
def dkwX1_part_0 : List UInt8 := [42, 27, 182, 0, 126, 78, 28, 155, 0, 12, 28, 6, 163, 0, 7, 4, 167, 0, 4, 3, 184, 0, 106, 28]
abbrev dktX1_part_0 : List UInt8 := dkwX1_part_0 ++ dktX1_part_1
theorem dksX1_part_0 : cX1_part.data.toList.drop 0 = dktX1_part_0 := by decide +kernel
theorem dksX1_part_1 : cX1_part.data.toList.drop 24 = dktX1_part_1 := dk_seg dksX1_part_0 24 rfl rfl
theorem dksX1_part_2 : cX1_part.data.toList.drop 48 = dktX1_part_2 := dk_seg dksX1_part_1 24 rfl rfl
theorem dX1_part_0 : decode cX1_part 0 = .ok (.aload_n 0, 1) := dk_42 (dk_at dksX1_part_0 0 rfl rfl)
theorem dX1_part_1 : decode cX1_part 1 = .ok (.iload_n 1, 1) := dk_27 (dk_at dksX1_part_0 1 rfl rfl)
theorem dX1_part_2 : decode cX1_part 2 = .ok (.invokevirtual 126, 3) := dk_182 0 126 (dk_at dksX1_part_0 2 rfl rfl)
theorem dX1_part_5 : decode cX1_part 5 = .ok (.astore_n 3, 1) := dk_78 (dk_at dksX1_part_0 5 rfl rfl)
theorem dX1_part_6 : decode cX1_part 6 = .ok (.iload_n 2, 1) := dk_28 (dk_at dksX1_part_0 6 rfl rfl)
theorem dX1_part_7 : decode cX1_part 7 = .ok (.ifCond .lt 12, 3) := dk_155 0 12 (dk_at dksX1_part_0 7 rfl rfl)
theorem dX1_part_10 : decode cX1_part 10 = .ok (.iload_n 2, 1) := dk_28 (dk_at dksX1_part_0 10 rfl rfl)
theorem dX1_part_11 : decode cX1_part 11 = .ok (.iconst 3, 1) := dk_6 (dk_at dksX1_part_0 11 rfl rfl)
theorem dX1_part_12 : decode cX1_part 12 = .ok (.if_icmp .gt 7, 3) := dk_163 0 7 (dk_at dksX1_part_0 12 rfl rfl)
theorem dX1_part_15 : decode cX1_part 15 = .ok (.iconst 1, 1) := dk_4 (dk_at dksX1_part_0 15 rfl rfl)
theorem dX1_part_16 : decode cX1_part 16 = .ok (.goto 4, 3) := dk_167 0 4 (dk_at dksX1_part_0 16 rfl rfl)
theorem dX1_part_19 : decode cX1_part 19 = .ok (.iconst 0, 1) := dk_3 (dk_at dksX1_part_0 19 rfl rfl)
theorem dX1_part_20 : decode cX1_part 20 = .ok (.invokestatic 106, 3) := dk_184 0 106 (dk_at dksX1_part_0 20 rfl rfl)
theorem dX1_part_23 : decode cX1_part 23 = .ok (.iload_n 2, 1) := dk_28 (dk_at dksX1_part_0 23 rfl rfl)
theorem dX1_part_24 : decode cX1_part 24 = .ok (.ifCond .ne 10, 3) := dk_154 0 10 (dk_at dksX1_part_1 0 rfl rfl)
theorem dX1_part_27 : decode cX1_part 27 = .ok (.aload_n 3, 1) := dk_45 (dk_at dksX1_part_1 3 rfl rfl)
theorem dX1_part_28 : decode cX1_part 28 = .ok (.getfield 130, 3) := dk_180 0 130 (dk_at dksX1_part_1 4 rfl rfl)
theorem dX1_part_31 : decode cX1_part 31 = .ok (.goto 39, 3) := dk_167 0 39 (dk_at dksX1_part_1 7 rfl rfl)
theorem dX1_part_34 : decode cX1_part 34 = .ok (.iload_n 2, 1) := dk_28 (dk_at dksX1_part_1 10 rfl rfl)
theorem dX1_part_35 : decode cX1_part 35 = .ok (.iconst 1, 1) := dk_4 (dk_at dksX1_part_1 11 rfl rfl)
theorem dX1_part_36 : decode cX1_part 36 = .ok (.if_icmp .ne 10, 3) := dk_160 0 10 (dk_at dksX1_part_1 12 rfl rfl)
theorem dX1_part_39 : decode cX1_part 39 = .ok (.aload_n 3, 1) := dk_45 (dk_at dksX1_part_1 15 rfl rfl)
theorem dX1_part_40 : decode cX1_part 40 = .ok (.getfield 133, 3) := dk_180 0 133 (dk_at dksX1_part_1 16 rfl rfl)
theorem dX1_part_43 : decode cX1_part 43 = .ok (.goto 27, 3) := dk_167 0 27 (dk_at dksX1_part_1 19 rfl rfl)
theorem dX1_part_46 : decode cX1_part 46 = .ok (.iload_n 2, 1) := dk_28 (dk_at dksX1_part_1 22 rfl rfl)
theorem dX1_part_47 : decode cX1_part 47 = .ok (.iconst 2, 1) := dk_5 (dk_at dksX1_part_1 23 rfl rfl)
theorem dX1_part_48 : decode cX1_part 48 = .ok (.if_icmp .ne 10, 3) := dk_160 0 10 (dk_at dksX1_part_2 0 rfl rfl)
theorem dX1_part_51 : decode cX1_part 51 = .ok (.aload_n 3, 1) := dk_45 (dk_at dksX1_part_2 3 rfl rfl)
theorem dX1_part_52 : decode cX1_part 52 = .ok (.getfield 136, 3) := dk_180 0 136 (dk_at dksX1_part_2 4 rfl rfl)
theorem dX1_part_55 : decode cX1_part 55 = .ok (.goto 15, 3) := dk_167 0 15 (dk_at dksX1_part_2 7 rfl rfl)
theorem dX1_part_58 : decode cX1_part 58 = .ok (.aload_n 3, 1) := dk_45 (dk_at dksX1_part_2 10 rfl rfl)
theorem dX1_part_59 : decode cX1_part 59 = .ok (.getfield 138, 3) := dk_180 0 138 (dk_at dksX1_part_2 11 rfl rfl)
theorem dX1_part_62 : decode cX1_part 62 = .ok (.ifCond .eq 7, 3) := dk_153 0 7 (dk_at dksX1_part_2 14 rfl rfl)
theorem dX1_part_65 : decode cX1_part 65 = .ok (.iconst 1, 1) := dk_4 (dk_at dksX1_part_2 17 rfl rfl)
theorem dX1_part_66 : decode cX1_part 66 = .ok (.goto 4, 3) := dk_167 0 4 (dk_at dksX1_part_2 18 rfl rfl)
theorem dX1_part_69 : decode cX1_part 69 = .ok (.iconst 0, 1) := dk_3 (dk_at dksX1_part_2 21 rfl rfl)
theorem dX1_part_70 : decode cX1_part 70 = .ok (.ireturn, 1) := dk_172 (dk_at dksX1_part_2 22 rfl rfl)
abbrev cX1_partAt : ByteArray := prog_1_method_8_code
def yX1_partAt : MethodName := ⟨RX1, "partAt", "(I)LSewnBook$Part;"⟩
def dkwX1_partAt_1 : List UInt8 := [180, 0, 24, 27, 182, 0, 114, 192, 0, 97, 176]
abbrev dktX1_partAt_1 : List UInt8 := dkwX1_partAt_1 ++ []
def dkwX1_partAt_0 : List UInt8 := [27, 155, 0, 18, 27, 42, 180, 0, 24, 182, 0, 110, 162, 0, 7, 4, 167, 0, 4, 3, 184, 0, 106, 42]
abbrev dktX1_partAt_0 : List UInt8 := dkwX1_partAt_0 ++ dktX1_partAt_1
theorem dksX1_partAt_0 : cX1_partAt.data.toList.drop 0 = dktX1_partAt_0 := by decide +kernel
theorem dksX1_partAt_1 : cX1_partAt.data.toList.drop 24 = dktX1_partAt_1 := dk_seg dksX1_partAt_0 24 rfl rfl
theorem dX1_partAt_0 : decode cX1_partAt 0 = .ok (.iload_n 1, 1) := dk_27 (dk_at dksX1_partAt_0 0 rfl rfl)
theorem dX1_partAt_1 : decode cX1_partAt 1 = .ok (.ifCond .lt 18, 3) := dk_155 0 18 (dk_at dksX1_partAt_0 1 rfl rfl)
theorem dX1_partAt_4 : decode cX1_partAt 4 = .ok (.iload_n 1, 1) := dk_27 (dk_at dksX1_partAt_0 4 rfl rfl)
theorem dX1_partAt_5 : decode cX1_partAt 5 = .ok (.aload_n 0, 1) := dk_42 (dk_at dksX1_partAt_0 5 rfl rfl)
theorem dX1_partAt_6 : decode cX1_partAt 6 = .ok (.getfield 24, 3) := dk_180 0 24 (dk_at dksX1_partAt_0 6 rfl rfl)
theorem dX1_partAt_9 : decode cX1_partAt 9 = .ok (.invokevirtual 110, 3) := dk_182 0 110 (dk_at dksX1_partAt_0 9 rfl rfl)
theorem dX1_partAt_12 : decode cX1_partAt 12 = .ok (.if_icmp .ge 7, 3) := dk_162 0 7 (dk_at dksX1_partAt_0 12 rfl rfl)
theorem dX1_partAt_15 : decode cX1_partAt 15 = .ok (.iconst 1, 1) := dk_4 (dk_at dksX1_partAt_0 15 rfl rfl)
theorem dX1_partAt_16 : decode cX1_partAt 16 = .ok (.goto 4, 3) := dk_167 0 4 (dk_at dksX1_partAt_0 16 rfl rfl)
theorem dX1_partAt_19 : decode cX1_partAt 19 = .ok (.iconst 0, 1) := dk_3 (dk_at dksX1_partAt_0 19 rfl rfl)
theorem dX1_partAt_20 : decode cX1_partAt 20 = .ok (.invokestatic 106, 3) := dk_184 0 106 (dk_at dksX1_partAt_0 20 rfl rfl)
theorem dX1_partAt_23 : decode cX1_partAt 23 = .ok (.aload_n 0, 1) := dk_42 (dk_at dksX1_partAt_0 23 rfl rfl)
theorem dX1_partAt_24 : decode cX1_partAt 24 = .ok (.getfield 24, 3) := dk_180 0 24 (dk_at dksX1_partAt_1 0 rfl rfl)
theorem dX1_partAt_27 : decode cX1_partAt 27 = .ok (.iload_n 1, 1) := dk_27 (dk_at dksX1_partAt_1 3 rfl rfl)
theorem dX1_partAt_28 : decode cX1_partAt 28 = .ok (.invokevirtual 114, 3) := dk_182 0 114 (dk_at dksX1_partAt_1 4 rfl rfl)
theorem dX1_partAt_31 : decode cX1_partAt 31 = .ok (.checkcast 97, 3) := dk_192 0 97 (dk_at dksX1_partAt_1 7 rfl rfl)
theorem dX1_partAt_34 : decode cX1_partAt 34 = .ok (.areturn, 1) := dk_176 (dk_at dksX1_partAt_1 10 rfl rfl)
abbrev cX1_need : ByteArray := prog_1_method_16_code
def yX1_need : MethodName := ⟨RX1, "need", "(IZ)Z"⟩
def dkwX1_need_0 : List UInt8 := [42, 27, 182, 0, 126, 78, 45, 180, 0, 138, 54, 4, 45, 28, 181, 0, 138, 21, 4, 172]
abbrev dktX1_need_0 : List UInt8 := dkwX1_need_0 ++ []
theorem dksX1_need_0 : cX1_need.data.toList.drop 0 = dktX1_need_0 := by decide +kernel
theorem dX1_need_0 : decode cX1_need 0 = .ok (.aload_n 0, 1) := dk_42 (dk_at dksX1_need_0 0 rfl rfl)
theorem dX1_need_1 : decode cX1_need 1 = .ok (.iload_n 1, 1) := dk_27 (dk_at dksX1_need_0 1 rfl rfl)
theorem dX1_need_2 : decode cX1_need 2 = .ok (.invokevirtual 126, 3) := dk_182 0 126 (dk_at dksX1_need_0 2 rfl rfl)
theorem dX1_need_5 : decode cX1_need 5 = .ok (.astore_n 3, 1) := dk_78 (dk_at dksX1_need_0 5 rfl rfl)
theorem dX1_need_6 : decode cX1_need 6 = .ok (.aload_n 3, 1) := dk_45 (dk_at dksX1_need_0 6 rfl rfl)
theorem dX1_need_7 : decode cX1_need 7 = .ok (.getfield 138, 3) := dk_180 0 138 (dk_at dksX1_need_0 7 rfl rfl)
theorem dX1_need_10 : decode cX1_need 10 = .ok (.istore 4, 2) := dk_54 4 (dk_at dksX1_need_0 10 rfl rfl)
theorem dX1_need_12 : decode cX1_need 12 = .ok (.aload_n 3, 1) := dk_45 (dk_at dksX1_need_0 12 rfl rfl)
theorem dX1_need_13 : decode cX1_need 13 = .ok (.iload_n 2, 1) := dk_28 (dk_at dksX1_need_0 13 rfl rfl)
theorem dX1_need_14 : decode cX1_need 14 = .ok (.putfield 138, 3) := dk_181 0 138 (dk_at dksX1_need_0 14 rfl rfl)
theorem dX1_need_17 : decode cX1_need 17 = .ok (.iload 4, 2) := dk_21 4 (dk_at dksX1_need_0 17 rfl rfl)
theorem dX1_need_19 : decode cX1_need 19 = .ok (.ireturn, 1) := dk_172 (dk_at dksX1_need_0 19 rfl rfl)
abbrev cX1_plan : ByteArray := prog_1_method_29_code
def yX1_plan : MethodName := ⟨RX1, "plan", "(III)I"⟩
def dkwX1_plan_4 : List UInt8 := [181, 0, 35, 2, 25, 4, 180, 0, 211, 100, 172]
abbrev dktX1_plan_4 : List UInt8 := dkwX1_plan_4 ++ []
def dkwX1_plan_3 : List UInt8 := [182, 0, 102, 87, 42, 180, 0, 28, 182, 0, 110, 4, 100, 172, 58, 4, 42, 25, 4, 180, 0, 209]
abbrev dktX1_plan_3 : List UInt8 := dkwX1_plan_3 ++ dktX1_plan_4
def dkwX1_plan_2 : List UInt8 := [16, 8, 160, 0, 6, 16, 247, 172, 42, 180, 0, 28, 42, 27, 28, 29, 3, 184, 0, 151, 182, 0, 205]
abbrev dktX1_plan_2 : List UInt8 := dkwX1_plan_2 ++ dktX1_plan_3
def dkwX1_plan_1 : List UInt8 := [167, 0, 4, 3, 184, 0, 202, 42, 3, 181, 0, 159, 42, 2, 181, 0, 35, 42, 180, 0, 28, 182, 0, 110]
abbrev dktX1_plan_1 : List UInt8 := dkwX1_plan_1 ++ dktX1_plan_2
def dkwX1_plan_0 : List UInt8 := [42, 28, 182, 0, 120, 42, 29, 182, 0, 123, 27, 155, 0, 15, 27, 42, 180, 0, 159, 163, 0, 7, 4]
abbrev dktX1_plan_0 : List UInt8 := dkwX1_plan_0 ++ dktX1_plan_1
theorem dksX1_plan_0 : cX1_plan.data.toList.drop 0 = dktX1_plan_0 := by decide +kernel
theorem dksX1_plan_1 : cX1_plan.data.toList.drop 23 = dktX1_plan_1 := dk_seg dksX1_plan_0 23 rfl rfl
theorem dksX1_plan_2 : cX1_plan.data.toList.drop 47 = dktX1_plan_2 := dk_seg dksX1_plan_1 24 rfl rfl
theorem dksX1_plan_3 : cX1_plan.data.toList.drop 70 = dktX1_plan_3 := dk_seg dksX1_plan_2 23 rfl rfl
theorem dksX1_plan_4 : cX1_plan.data.toList.drop 92 = dktX1_plan_4 := dk_seg dksX1_plan_3 22 rfl rfl
theorem dX1_plan_0 : decode cX1_plan 0 = .ok (.aload_n 0, 1) := dk_42 (dk_at dksX1_plan_0 0 rfl rfl)
theorem dX1_plan_1 : decode cX1_plan 1 = .ok (.iload_n 2, 1) := dk_28 (dk_at dksX1_plan_0 1 rfl rfl)
theorem dX1_plan_2 : decode cX1_plan 2 = .ok (.invokevirtual 120, 3) := dk_182 0 120 (dk_at dksX1_plan_0 2 rfl rfl)
theorem dX1_plan_5 : decode cX1_plan 5 = .ok (.aload_n 0, 1) := dk_42 (dk_at dksX1_plan_0 5 rfl rfl)
theorem dX1_plan_6 : decode cX1_plan 6 = .ok (.iload_n 3, 1) := dk_29 (dk_at dksX1_plan_0 6 rfl rfl)
theorem dX1_plan_7 : decode cX1_plan 7 = .ok (.invokevirtual 123, 3) := dk_182 0 123 (dk_at dksX1_plan_0 7 rfl rfl)
theorem dX1_plan_10 : decode cX1_plan 10 = .ok (.iload_n 1, 1) := dk_27 (dk_at dksX1_plan_0 10 rfl rfl)
theorem dX1_plan_11 : decode cX1_plan 11 = .ok (.ifCond .lt 15, 3) := dk_155 0 15 (dk_at dksX1_plan_0 11 rfl rfl)
theorem dX1_plan_14 : decode cX1_plan 14 = .ok (.iload_n 1, 1) := dk_27 (dk_at dksX1_plan_0 14 rfl rfl)
theorem dX1_plan_15 : decode cX1_plan 15 = .ok (.aload_n 0, 1) := dk_42 (dk_at dksX1_plan_0 15 rfl rfl)
theorem dX1_plan_16 : decode cX1_plan 16 = .ok (.getfield 159, 3) := dk_180 0 159 (dk_at dksX1_plan_0 16 rfl rfl)
theorem dX1_plan_19 : decode cX1_plan 19 = .ok (.if_icmp .gt 7, 3) := dk_163 0 7 (dk_at dksX1_plan_0 19 rfl rfl)
theorem dX1_plan_22 : decode cX1_plan 22 = .ok (.iconst 1, 1) := dk_4 (dk_at dksX1_plan_0 22 rfl rfl)
theorem dX1_plan_23 : decode cX1_plan 23 = .ok (.goto 4, 3) := dk_167 0 4 (dk_at dksX1_plan_1 0 rfl rfl)
theorem dX1_plan_26 : decode cX1_plan 26 = .ok (.iconst 0, 1) := dk_3 (dk_at dksX1_plan_1 3 rfl rfl)
theorem dX1_plan_27 : decode cX1_plan 27 = .ok (.invokestatic 202, 3) := dk_184 0 202 (dk_at dksX1_plan_1 4 rfl rfl)
theorem dX1_plan_30 : decode cX1_plan 30 = .ok (.aload_n 0, 1) := dk_42 (dk_at dksX1_plan_1 7 rfl rfl)
theorem dX1_plan_31 : decode cX1_plan 31 = .ok (.iconst 0, 1) := dk_3 (dk_at dksX1_plan_1 8 rfl rfl)
theorem dX1_plan_32 : decode cX1_plan 32 = .ok (.putfield 159, 3) := dk_181 0 159 (dk_at dksX1_plan_1 9 rfl rfl)
theorem dX1_plan_35 : decode cX1_plan 35 = .ok (.aload_n 0, 1) := dk_42 (dk_at dksX1_plan_1 12 rfl rfl)
theorem dX1_plan_36 : decode cX1_plan 36 = .ok (.iconst (-1), 1) := dk_2 (dk_at dksX1_plan_1 13 rfl rfl)
theorem dX1_plan_37 : decode cX1_plan 37 = .ok (.putfield 35, 3) := dk_181 0 35 (dk_at dksX1_plan_1 14 rfl rfl)
theorem dX1_plan_40 : decode cX1_plan 40 = .ok (.aload_n 0, 1) := dk_42 (dk_at dksX1_plan_1 17 rfl rfl)
theorem dX1_plan_41 : decode cX1_plan 41 = .ok (.getfield 28, 3) := dk_180 0 28 (dk_at dksX1_plan_1 18 rfl rfl)
theorem dX1_plan_44 : decode cX1_plan 44 = .ok (.invokevirtual 110, 3) := dk_182 0 110 (dk_at dksX1_plan_1 21 rfl rfl)
theorem dX1_plan_47 : decode cX1_plan 47 = .ok (.bipush 8, 2) := dk_16 8 (dk_at dksX1_plan_2 0 rfl rfl)
theorem dX1_plan_49 : decode cX1_plan 49 = .ok (.if_icmp .ne 6, 3) := dk_160 0 6 (dk_at dksX1_plan_2 2 rfl rfl)
theorem dX1_plan_52 : decode cX1_plan 52 = .ok (.bipush (-9), 2) := dk_16 247 (dk_at dksX1_plan_2 5 rfl rfl)
theorem dX1_plan_54 : decode cX1_plan 54 = .ok (.ireturn, 1) := dk_172 (dk_at dksX1_plan_2 7 rfl rfl)
theorem dX1_plan_55 : decode cX1_plan 55 = .ok (.aload_n 0, 1) := dk_42 (dk_at dksX1_plan_2 8 rfl rfl)
theorem dX1_plan_56 : decode cX1_plan 56 = .ok (.getfield 28, 3) := dk_180 0 28 (dk_at dksX1_plan_2 9 rfl rfl)
theorem dX1_plan_59 : decode cX1_plan 59 = .ok (.aload_n 0, 1) := dk_42 (dk_at dksX1_plan_2 12 rfl rfl)
theorem dX1_plan_60 : decode cX1_plan 60 = .ok (.iload_n 1, 1) := dk_27 (dk_at dksX1_plan_2 13 rfl rfl)
theorem dX1_plan_61 : decode cX1_plan 61 = .ok (.iload_n 2, 1) := dk_28 (dk_at dksX1_plan_2 14 rfl rfl)
theorem dX1_plan_62 : decode cX1_plan 62 = .ok (.iload_n 3, 1) := dk_29 (dk_at dksX1_plan_2 15 rfl rfl)
theorem dX1_plan_63 : decode cX1_plan 63 = .ok (.iconst 0, 1) := dk_3 (dk_at dksX1_plan_2 16 rfl rfl)
theorem dX1_plan_64 : decode cX1_plan 64 = .ok (.invokestatic 151, 3) := dk_184 0 151 (dk_at dksX1_plan_2 17 rfl rfl)
theorem dX1_plan_67 : decode cX1_plan 67 = .ok (.invokevirtual 205, 3) := dk_182 0 205 (dk_at dksX1_plan_2 20 rfl rfl)
theorem dX1_plan_70 : decode cX1_plan 70 = .ok (.invokevirtual 102, 3) := dk_182 0 102 (dk_at dksX1_plan_3 0 rfl rfl)
theorem dX1_plan_73 : decode cX1_plan 73 = .ok (.pop, 1) := dk_87 (dk_at dksX1_plan_3 3 rfl rfl)
theorem dX1_plan_74 : decode cX1_plan 74 = .ok (.aload_n 0, 1) := dk_42 (dk_at dksX1_plan_3 4 rfl rfl)
theorem dX1_plan_75 : decode cX1_plan 75 = .ok (.getfield 28, 3) := dk_180 0 28 (dk_at dksX1_plan_3 5 rfl rfl)
theorem dX1_plan_78 : decode cX1_plan 78 = .ok (.invokevirtual 110, 3) := dk_182 0 110 (dk_at dksX1_plan_3 8 rfl rfl)
theorem dX1_plan_81 : decode cX1_plan 81 = .ok (.iconst 1, 1) := dk_4 (dk_at dksX1_plan_3 11 rfl rfl)
theorem dX1_plan_82 : decode cX1_plan 82 = .ok (.isub, 1) := dk_100 (dk_at dksX1_plan_3 12 rfl rfl)
theorem dX1_plan_83 : decode cX1_plan 83 = .ok (.ireturn, 1) := dk_172 (dk_at dksX1_plan_3 13 rfl rfl)
theorem dX1_plan_84 : decode cX1_plan 84 = .ok (.astore 4, 2) := dk_58 4 (dk_at dksX1_plan_3 14 rfl rfl)
theorem dX1_plan_86 : decode cX1_plan 86 = .ok (.aload_n 0, 1) := dk_42 (dk_at dksX1_plan_3 16 rfl rfl)
theorem dX1_plan_87 : decode cX1_plan 87 = .ok (.aload 4, 2) := dk_25 4 (dk_at dksX1_plan_3 17 rfl rfl)
theorem dX1_plan_89 : decode cX1_plan 89 = .ok (.getfield 209, 3) := dk_180 0 209 (dk_at dksX1_plan_3 19 rfl rfl)
theorem dX1_plan_92 : decode cX1_plan 92 = .ok (.putfield 35, 3) := dk_181 0 35 (dk_at dksX1_plan_4 0 rfl rfl)
theorem dX1_plan_95 : decode cX1_plan 95 = .ok (.iconst (-1), 1) := dk_2 (dk_at dksX1_plan_4 3 rfl rfl)
theorem dX1_plan_96 : decode cX1_plan 96 = .ok (.aload 4, 2) := dk_25 4 (dk_at dksX1_plan_4 4 rfl rfl)
theorem dX1_plan_98 : decode cX1_plan 98 = .ok (.getfield 211, 3) := dk_180 0 211 (dk_at dksX1_plan_4 6 rfl rfl)
theorem dX1_plan_101 : decode cX1_plan 101 = .ok (.isub, 1) := dk_100 (dk_at dksX1_plan_4 9 rfl rfl)
theorem dX1_plan_102 : decode cX1_plan 102 = .ok (.ireturn, 1) := dk_172 (dk_at dksX1_plan_4 10 rfl rfl)
abbrev cX1_right : ByteArray := prog_1_method_2_code
def yX1_right : MethodName := ⟨RX1, "right", "(Z)V"⟩
def dkwX1_right_0 : List UInt8 := [26, 154, 0, 11, 187, 0, 76, 89, 183, 0, 78, 191, 177]
abbrev dktX1_right_0 : List UInt8 := dkwX1_right_0 ++ []
theorem dksX1_right_0 : cX1_right.data.toList.drop 0 = dktX1_right_0 := by decide +kernel
theorem dX1_right_0 : decode cX1_right 0 = .ok (.iload_n 0, 1) := dk_26 (dk_at dksX1_right_0 0 rfl rfl)
theorem dX1_right_1 : decode cX1_right 1 = .ok (.ifCond .ne 11, 3) := dk_154 0 11 (dk_at dksX1_right_0 1 rfl rfl)
theorem dX1_right_4 : decode cX1_right 4 = .ok (.new 76, 3) := dk_187 0 76 (dk_at dksX1_right_0 4 rfl rfl)
theorem dX1_right_7 : decode cX1_right 7 = .ok (.dup, 1) := dk_89 (dk_at dksX1_right_0 7 rfl rfl)
theorem dX1_right_8 : decode cX1_right 8 = .ok (.invokespecial 78, 3) := dk_183 0 78 (dk_at dksX1_right_0 8 rfl rfl)
theorem dX1_right_11 : decode cX1_right 11 = .ok (.athrow, 1) := dk_191 (dk_at dksX1_right_0 11 rfl rfl)
theorem dX1_right_12 : decode cX1_right 12 = .ok (.return_, 1) := dk_177 (dk_at dksX1_right_0 12 rfl rfl)
abbrev cX1_read : ByteArray := prog_1_method_28_code
def yX1_read : MethodName := ⟨RX1, "read", "(II)LSewnBook$Plan;"⟩
def dkwX1_read_6 : List UInt8 := [184, 0, 193, 182, 0, 102, 87, 45, 21, 7, 181, 0, 178, 132, 4, 1, 167, 255, 110, 45, 176]
abbrev dktX1_read_6 : List UInt8 := dkwX1_read_6 ++ []
def dkwX1_read_5 : List UInt8 := [181, 0, 185, 45, 180, 0, 190, 21, 6, 184, 0, 193, 182, 0, 102, 87, 45, 180, 0, 199, 45, 180, 0, 178]
abbrev dktX1_read_5 : List UInt8 := dkwX1_read_5 ++ dktX1_read_6
def dkwX1_read_4 : List UInt8 := [21, 4, 183, 0, 175, 191, 45, 89, 180, 0, 185, 42, 45, 180, 0, 178, 21, 6, 182, 0, 188, 96]
abbrev dktX1_read_4 : List UInt8 := dkwX1_read_4 ++ dktX1_read_5
def dkwX1_read_3 : List UInt8 := [191, 42, 45, 180, 0, 178, 21, 6, 182, 0, 181, 54, 7, 21, 7, 2, 160, 0, 14, 187, 0, 173, 89, 5]
abbrev dktX1_read_3 : List UInt8 := dkwX1_read_3 ++ dktX1_read_4
def dkwX1_read_2 : List UInt8 := [18, 166, 21, 5, 182, 0, 168, 54, 6, 21, 6, 156, 0, 14, 187, 0, 173, 89, 4, 21, 4, 183, 0, 175]
abbrev dktX1_read_2 : List UInt8 := dkwX1_read_2 ++ dktX1_read_3
def dkwX1_read_1 : List UInt8 := [51, 17, 0, 255, 126, 54, 5, 21, 5, 16, 32, 159, 0, 120, 21, 5, 16, 10, 160, 0, 6, 167, 0, 110]
abbrev dktX1_read_1 : List UInt8 := dkwX1_read_1 ++ dktX1_read_2
def dkwX1_read_0 : List UInt8 := [187, 0, 118, 89, 28, 183, 0, 165, 78, 3, 54, 4, 21, 4, 27, 162, 0, 146, 42, 180, 0, 31, 21, 4]
abbrev dktX1_read_0 : List UInt8 := dkwX1_read_0 ++ dktX1_read_1
theorem dksX1_read_0 : cX1_read.data.toList.drop 0 = dktX1_read_0 := by decide +kernel
theorem dksX1_read_1 : cX1_read.data.toList.drop 24 = dktX1_read_1 := dk_seg dksX1_read_0 24 rfl rfl
theorem dksX1_read_2 : cX1_read.data.toList.drop 48 = dktX1_read_2 := dk_seg dksX1_read_1 24 rfl rfl
theorem dksX1_read_3 : cX1_read.data.toList.drop 72 = dktX1_read_3 := dk_seg dksX1_read_2 24 rfl rfl
theorem dksX1_read_4 : cX1_read.data.toList.drop 96 = dktX1_read_4 := dk_seg dksX1_read_3 24 rfl rfl
theorem dksX1_read_5 : cX1_read.data.toList.drop 118 = dktX1_read_5 := dk_seg dksX1_read_4 22 rfl rfl
theorem dksX1_read_6 : cX1_read.data.toList.drop 142 = dktX1_read_6 := dk_seg dksX1_read_5 24 rfl rfl
theorem dX1_read_0 : decode cX1_read 0 = .ok (.new 118, 3) := dk_187 0 118 (dk_at dksX1_read_0 0 rfl rfl)
theorem dX1_read_3 : decode cX1_read 3 = .ok (.dup, 1) := dk_89 (dk_at dksX1_read_0 3 rfl rfl)
theorem dX1_read_4 : decode cX1_read 4 = .ok (.iload_n 2, 1) := dk_28 (dk_at dksX1_read_0 4 rfl rfl)
theorem dX1_read_5 : decode cX1_read 5 = .ok (.invokespecial 165, 3) := dk_183 0 165 (dk_at dksX1_read_0 5 rfl rfl)
theorem dX1_read_8 : decode cX1_read 8 = .ok (.astore_n 3, 1) := dk_78 (dk_at dksX1_read_0 8 rfl rfl)
theorem dX1_read_9 : decode cX1_read 9 = .ok (.iconst 0, 1) := dk_3 (dk_at dksX1_read_0 9 rfl rfl)
theorem dX1_read_10 : decode cX1_read 10 = .ok (.istore 4, 2) := dk_54 4 (dk_at dksX1_read_0 10 rfl rfl)
theorem dX1_read_12 : decode cX1_read 12 = .ok (.iload 4, 2) := dk_21 4 (dk_at dksX1_read_0 12 rfl rfl)
theorem dX1_read_14 : decode cX1_read 14 = .ok (.iload_n 1, 1) := dk_27 (dk_at dksX1_read_0 14 rfl rfl)
theorem dX1_read_15 : decode cX1_read 15 = .ok (.if_icmp .ge 146, 3) := dk_162 0 146 (dk_at dksX1_read_0 15 rfl rfl)
theorem dX1_read_18 : decode cX1_read 18 = .ok (.aload_n 0, 1) := dk_42 (dk_at dksX1_read_0 18 rfl rfl)
theorem dX1_read_19 : decode cX1_read 19 = .ok (.getfield 31, 3) := dk_180 0 31 (dk_at dksX1_read_0 19 rfl rfl)
theorem dX1_read_22 : decode cX1_read 22 = .ok (.iload 4, 2) := dk_21 4 (dk_at dksX1_read_0 22 rfl rfl)
theorem dX1_read_24 : decode cX1_read 24 = .ok (.baload, 1) := dk_51 (dk_at dksX1_read_1 0 rfl rfl)
theorem dX1_read_25 : decode cX1_read 25 = .ok (.sipush 255, 3) := dk_17 0 255 (dk_at dksX1_read_1 1 rfl rfl)
theorem dX1_read_28 : decode cX1_read 28 = .ok (.iand, 1) := dk_126 (dk_at dksX1_read_1 4 rfl rfl)
theorem dX1_read_29 : decode cX1_read 29 = .ok (.istore 5, 2) := dk_54 5 (dk_at dksX1_read_1 5 rfl rfl)
theorem dX1_read_31 : decode cX1_read 31 = .ok (.iload 5, 2) := dk_21 5 (dk_at dksX1_read_1 7 rfl rfl)
theorem dX1_read_33 : decode cX1_read 33 = .ok (.bipush 32, 2) := dk_16 32 (dk_at dksX1_read_1 9 rfl rfl)
theorem dX1_read_35 : decode cX1_read 35 = .ok (.if_icmp .eq 120, 3) := dk_159 0 120 (dk_at dksX1_read_1 11 rfl rfl)
theorem dX1_read_38 : decode cX1_read 38 = .ok (.iload 5, 2) := dk_21 5 (dk_at dksX1_read_1 14 rfl rfl)
theorem dX1_read_40 : decode cX1_read 40 = .ok (.bipush 10, 2) := dk_16 10 (dk_at dksX1_read_1 16 rfl rfl)
theorem dX1_read_42 : decode cX1_read 42 = .ok (.if_icmp .ne 6, 3) := dk_160 0 6 (dk_at dksX1_read_1 18 rfl rfl)
theorem dX1_read_45 : decode cX1_read 45 = .ok (.goto 110, 3) := dk_167 0 110 (dk_at dksX1_read_1 21 rfl rfl)
theorem dX1_read_48 : decode cX1_read 48 = .ok (.ldc 166, 2) := dk_18 166 (dk_at dksX1_read_2 0 rfl rfl)
theorem dX1_read_50 : decode cX1_read 50 = .ok (.iload 5, 2) := dk_21 5 (dk_at dksX1_read_2 2 rfl rfl)
theorem dX1_read_52 : decode cX1_read 52 = .ok (.invokevirtual 168, 3) := dk_182 0 168 (dk_at dksX1_read_2 4 rfl rfl)
theorem dX1_read_55 : decode cX1_read 55 = .ok (.istore 6, 2) := dk_54 6 (dk_at dksX1_read_2 7 rfl rfl)
theorem dX1_read_57 : decode cX1_read 57 = .ok (.iload 6, 2) := dk_21 6 (dk_at dksX1_read_2 9 rfl rfl)
theorem dX1_read_59 : decode cX1_read 59 = .ok (.ifCond .ge 14, 3) := dk_156 0 14 (dk_at dksX1_read_2 11 rfl rfl)
theorem dX1_read_62 : decode cX1_read 62 = .ok (.new 173, 3) := dk_187 0 173 (dk_at dksX1_read_2 14 rfl rfl)
theorem dX1_read_65 : decode cX1_read 65 = .ok (.dup, 1) := dk_89 (dk_at dksX1_read_2 17 rfl rfl)
theorem dX1_read_66 : decode cX1_read 66 = .ok (.iconst 1, 1) := dk_4 (dk_at dksX1_read_2 18 rfl rfl)
theorem dX1_read_67 : decode cX1_read 67 = .ok (.iload 4, 2) := dk_21 4 (dk_at dksX1_read_2 19 rfl rfl)
theorem dX1_read_69 : decode cX1_read 69 = .ok (.invokespecial 175, 3) := dk_183 0 175 (dk_at dksX1_read_2 21 rfl rfl)
theorem dX1_read_72 : decode cX1_read 72 = .ok (.athrow, 1) := dk_191 (dk_at dksX1_read_3 0 rfl rfl)
theorem dX1_read_73 : decode cX1_read 73 = .ok (.aload_n 0, 1) := dk_42 (dk_at dksX1_read_3 1 rfl rfl)
theorem dX1_read_74 : decode cX1_read 74 = .ok (.aload_n 3, 1) := dk_45 (dk_at dksX1_read_3 2 rfl rfl)
theorem dX1_read_75 : decode cX1_read 75 = .ok (.getfield 178, 3) := dk_180 0 178 (dk_at dksX1_read_3 3 rfl rfl)
theorem dX1_read_78 : decode cX1_read 78 = .ok (.iload 6, 2) := dk_21 6 (dk_at dksX1_read_3 6 rfl rfl)
theorem dX1_read_80 : decode cX1_read 80 = .ok (.invokevirtual 181, 3) := dk_182 0 181 (dk_at dksX1_read_3 8 rfl rfl)
theorem dX1_read_83 : decode cX1_read 83 = .ok (.istore 7, 2) := dk_54 7 (dk_at dksX1_read_3 11 rfl rfl)
theorem dX1_read_85 : decode cX1_read 85 = .ok (.iload 7, 2) := dk_21 7 (dk_at dksX1_read_3 13 rfl rfl)
theorem dX1_read_87 : decode cX1_read 87 = .ok (.iconst (-1), 1) := dk_2 (dk_at dksX1_read_3 15 rfl rfl)
theorem dX1_read_88 : decode cX1_read 88 = .ok (.if_icmp .ne 14, 3) := dk_160 0 14 (dk_at dksX1_read_3 16 rfl rfl)
theorem dX1_read_91 : decode cX1_read 91 = .ok (.new 173, 3) := dk_187 0 173 (dk_at dksX1_read_3 19 rfl rfl)
theorem dX1_read_94 : decode cX1_read 94 = .ok (.dup, 1) := dk_89 (dk_at dksX1_read_3 22 rfl rfl)
theorem dX1_read_95 : decode cX1_read 95 = .ok (.iconst 2, 1) := dk_5 (dk_at dksX1_read_3 23 rfl rfl)
theorem dX1_read_96 : decode cX1_read 96 = .ok (.iload 4, 2) := dk_21 4 (dk_at dksX1_read_4 0 rfl rfl)
theorem dX1_read_98 : decode cX1_read 98 = .ok (.invokespecial 175, 3) := dk_183 0 175 (dk_at dksX1_read_4 2 rfl rfl)
theorem dX1_read_101 : decode cX1_read 101 = .ok (.athrow, 1) := dk_191 (dk_at dksX1_read_4 5 rfl rfl)
theorem dX1_read_102 : decode cX1_read 102 = .ok (.aload_n 3, 1) := dk_45 (dk_at dksX1_read_4 6 rfl rfl)
theorem dX1_read_103 : decode cX1_read 103 = .ok (.dup, 1) := dk_89 (dk_at dksX1_read_4 7 rfl rfl)
theorem dX1_read_104 : decode cX1_read 104 = .ok (.getfield 185, 3) := dk_180 0 185 (dk_at dksX1_read_4 8 rfl rfl)
theorem dX1_read_107 : decode cX1_read 107 = .ok (.aload_n 0, 1) := dk_42 (dk_at dksX1_read_4 11 rfl rfl)
theorem dX1_read_108 : decode cX1_read 108 = .ok (.aload_n 3, 1) := dk_45 (dk_at dksX1_read_4 12 rfl rfl)
theorem dX1_read_109 : decode cX1_read 109 = .ok (.getfield 178, 3) := dk_180 0 178 (dk_at dksX1_read_4 13 rfl rfl)
theorem dX1_read_112 : decode cX1_read 112 = .ok (.iload 6, 2) := dk_21 6 (dk_at dksX1_read_4 16 rfl rfl)
theorem dX1_read_114 : decode cX1_read 114 = .ok (.invokevirtual 188, 3) := dk_182 0 188 (dk_at dksX1_read_4 18 rfl rfl)
theorem dX1_read_117 : decode cX1_read 117 = .ok (.iadd, 1) := dk_96 (dk_at dksX1_read_4 21 rfl rfl)
theorem dX1_read_118 : decode cX1_read 118 = .ok (.putfield 185, 3) := dk_181 0 185 (dk_at dksX1_read_5 0 rfl rfl)
theorem dX1_read_121 : decode cX1_read 121 = .ok (.aload_n 3, 1) := dk_45 (dk_at dksX1_read_5 3 rfl rfl)
theorem dX1_read_122 : decode cX1_read 122 = .ok (.getfield 190, 3) := dk_180 0 190 (dk_at dksX1_read_5 4 rfl rfl)
theorem dX1_read_125 : decode cX1_read 125 = .ok (.iload 6, 2) := dk_21 6 (dk_at dksX1_read_5 7 rfl rfl)
theorem dX1_read_127 : decode cX1_read 127 = .ok (.invokestatic 193, 3) := dk_184 0 193 (dk_at dksX1_read_5 9 rfl rfl)
theorem dX1_read_130 : decode cX1_read 130 = .ok (.invokevirtual 102, 3) := dk_182 0 102 (dk_at dksX1_read_5 12 rfl rfl)
theorem dX1_read_133 : decode cX1_read 133 = .ok (.pop, 1) := dk_87 (dk_at dksX1_read_5 15 rfl rfl)
theorem dX1_read_134 : decode cX1_read 134 = .ok (.aload_n 3, 1) := dk_45 (dk_at dksX1_read_5 16 rfl rfl)
theorem dX1_read_135 : decode cX1_read 135 = .ok (.getfield 199, 3) := dk_180 0 199 (dk_at dksX1_read_5 17 rfl rfl)
theorem dX1_read_138 : decode cX1_read 138 = .ok (.aload_n 3, 1) := dk_45 (dk_at dksX1_read_5 20 rfl rfl)
theorem dX1_read_139 : decode cX1_read 139 = .ok (.getfield 178, 3) := dk_180 0 178 (dk_at dksX1_read_5 21 rfl rfl)
theorem dX1_read_142 : decode cX1_read 142 = .ok (.invokestatic 193, 3) := dk_184 0 193 (dk_at dksX1_read_6 0 rfl rfl)
theorem dX1_read_145 : decode cX1_read 145 = .ok (.invokevirtual 102, 3) := dk_182 0 102 (dk_at dksX1_read_6 3 rfl rfl)
theorem dX1_read_148 : decode cX1_read 148 = .ok (.pop, 1) := dk_87 (dk_at dksX1_read_6 6 rfl rfl)
theorem dX1_read_149 : decode cX1_read 149 = .ok (.aload_n 3, 1) := dk_45 (dk_at dksX1_read_6 7 rfl rfl)
theorem dX1_read_150 : decode cX1_read 150 = .ok (.iload 7, 2) := dk_21 7 (dk_at dksX1_read_6 8 rfl rfl)
theorem dX1_read_152 : decode cX1_read 152 = .ok (.putfield 178, 3) := dk_181 0 178 (dk_at dksX1_read_6 10 rfl rfl)
theorem dX1_read_155 : decode cX1_read 155 = .ok (.iinc 4 1, 3) := dk_132 4 1 (dk_at dksX1_read_6 13 rfl rfl)
theorem dX1_read_158 : decode cX1_read 158 = .ok (.goto (-146), 3) := dk_167 255 110 (dk_at dksX1_read_6 16 rfl rfl)
theorem dX1_read_161 : decode cX1_read 161 = .ok (.aload_n 3, 1) := dk_45 (dk_at dksX1_read_6 19 rfl rfl)
theorem dX1_read_162 : decode cX1_read 162 = .ok (.areturn, 1) := dk_176 (dk_at dksX1_read_6 20 rfl rfl)
abbrev cX1_about : ByteArray := prog_1_method_35_code
def yX1_about : MethodName := ⟨RX1, "about", "(II)I"⟩
def dkwX1_about_7 : List UInt8 := [3, 172]
abbrev dktX1_about_7 : List UInt8 := dkwX1_about_7 ++ []
def dkwX1_about_6 : List UInt8 := [182, 0, 234, 54, 4, 167, 0, 10, 42, 45, 182, 0, 238, 54, 4, 21, 4, 153, 0, 7, 4, 167, 0, 4]
abbrev dktX1_about_6 : List UInt8 := dkwX1_about_6 ++ dktX1_about_7
def dkwX1_about_5 : List UInt8 := [182, 0, 218, 54, 4, 167, 0, 32, 42, 45, 3, 182, 0, 234, 54, 4, 167, 0, 21, 42, 45, 4]
abbrev dktX1_about_5 : List UInt8 := dkwX1_about_5 ++ dktX1_about_6
def dkwX1_about_4 : List UInt8 := [180, 0, 178, 184, 0, 145, 172, 45, 180, 0, 178, 184, 0, 147, 153, 0, 7, 4, 167, 0, 4, 3, 172, 45]
abbrev dktX1_about_4 : List UInt8 := dkwX1_about_4 ++ dktX1_about_5
def dkwX1_about_3 : List UInt8 := [45, 180, 0, 185, 172, 45, 180, 0, 190, 182, 0, 110, 172, 45, 180, 0, 178, 184, 0, 142, 172, 45]
abbrev dktX1_about_3 : List UInt8 := dkwX1_about_3 ++ dktX1_about_4
def dkwX1_about_2 : List UInt8 := [170, 0, 0, 0, 0, 0, 0, 124, 0, 0, 0, 0, 0, 0, 0, 7, 0, 0, 0, 48, 0, 0, 0, 53, 0, 0, 0, 61, 0, 0, 0, 69, 0, 0, 0, 77, 0, 0, 0, 93, 0, 0, 0, 102, 0, 0, 0, 113]
abbrev dktX1_about_2 : List UInt8 := dkwX1_about_2 ++ dktX1_about_3
def dkwX1_about_1 : List UInt8 := [3, 54, 4, 28]
abbrev dktX1_about_1 : List UInt8 := dkwX1_about_1 ++ dktX1_about_2
def dkwX1_about_0 : List UInt8 := [42, 27, 182, 0, 230, 78, 28, 155, 0, 13, 28, 16, 8, 163, 0, 7, 4, 167, 0, 4, 3, 184, 0, 106]
abbrev dktX1_about_0 : List UInt8 := dkwX1_about_0 ++ dktX1_about_1
theorem dksX1_about_0 : cX1_about.data.toList.drop 0 = dktX1_about_0 := by decide +kernel
theorem dksX1_about_1 : cX1_about.data.toList.drop 24 = dktX1_about_1 := dk_seg dksX1_about_0 24 rfl rfl
theorem dksX1_about_2 : cX1_about.data.toList.drop 28 = dktX1_about_2 := dk_seg dksX1_about_1 4 rfl rfl
theorem dksX1_about_3 : cX1_about.data.toList.drop 76 = dktX1_about_3 := dk_seg dksX1_about_2 48 rfl rfl
theorem dksX1_about_4 : cX1_about.data.toList.drop 98 = dktX1_about_4 := dk_seg dksX1_about_3 22 rfl rfl
theorem dksX1_about_5 : cX1_about.data.toList.drop 122 = dktX1_about_5 := dk_seg dksX1_about_4 24 rfl rfl
theorem dksX1_about_6 : cX1_about.data.toList.drop 144 = dktX1_about_6 := dk_seg dksX1_about_5 22 rfl rfl
theorem dksX1_about_7 : cX1_about.data.toList.drop 168 = dktX1_about_7 := dk_seg dksX1_about_6 24 rfl rfl
theorem dX1_about_0 : decode cX1_about 0 = .ok (.aload_n 0, 1) := dk_42 (dk_at dksX1_about_0 0 rfl rfl)
theorem dX1_about_1 : decode cX1_about 1 = .ok (.iload_n 1, 1) := dk_27 (dk_at dksX1_about_0 1 rfl rfl)
theorem dX1_about_2 : decode cX1_about 2 = .ok (.invokevirtual 230, 3) := dk_182 0 230 (dk_at dksX1_about_0 2 rfl rfl)
theorem dX1_about_5 : decode cX1_about 5 = .ok (.astore_n 3, 1) := dk_78 (dk_at dksX1_about_0 5 rfl rfl)
theorem dX1_about_6 : decode cX1_about 6 = .ok (.iload_n 2, 1) := dk_28 (dk_at dksX1_about_0 6 rfl rfl)
theorem dX1_about_7 : decode cX1_about 7 = .ok (.ifCond .lt 13, 3) := dk_155 0 13 (dk_at dksX1_about_0 7 rfl rfl)
theorem dX1_about_10 : decode cX1_about 10 = .ok (.iload_n 2, 1) := dk_28 (dk_at dksX1_about_0 10 rfl rfl)
theorem dX1_about_11 : decode cX1_about 11 = .ok (.bipush 8, 2) := dk_16 8 (dk_at dksX1_about_0 11 rfl rfl)
theorem dX1_about_13 : decode cX1_about 13 = .ok (.if_icmp .gt 7, 3) := dk_163 0 7 (dk_at dksX1_about_0 13 rfl rfl)
theorem dX1_about_16 : decode cX1_about 16 = .ok (.iconst 1, 1) := dk_4 (dk_at dksX1_about_0 16 rfl rfl)
theorem dX1_about_17 : decode cX1_about 17 = .ok (.goto 4, 3) := dk_167 0 4 (dk_at dksX1_about_0 17 rfl rfl)
theorem dX1_about_20 : decode cX1_about 20 = .ok (.iconst 0, 1) := dk_3 (dk_at dksX1_about_0 20 rfl rfl)
theorem dX1_about_21 : decode cX1_about 21 = .ok (.invokestatic 106, 3) := dk_184 0 106 (dk_at dksX1_about_0 21 rfl rfl)
theorem dX1_about_24 : decode cX1_about 24 = .ok (.iconst 0, 1) := dk_3 (dk_at dksX1_about_1 0 rfl rfl)
theorem dX1_about_25 : decode cX1_about 25 = .ok (.istore 4, 2) := dk_54 4 (dk_at dksX1_about_1 1 rfl rfl)
theorem dX1_about_27 : decode cX1_about 27 = .ok (.iload_n 2, 1) := dk_28 (dk_at dksX1_about_1 3 rfl rfl)
theorem dX1_about_28 : decode cX1_about 28 = .ok (.tableswitch 124 0 7 #[48, 53, 61, 69, 77, 93, 102, 113], 48) := by decide +kernel
theorem dX1_about_76 : decode cX1_about 76 = .ok (.aload_n 3, 1) := dk_45 (dk_at dksX1_about_3 0 rfl rfl)
theorem dX1_about_77 : decode cX1_about 77 = .ok (.getfield 185, 3) := dk_180 0 185 (dk_at dksX1_about_3 1 rfl rfl)
theorem dX1_about_80 : decode cX1_about 80 = .ok (.ireturn, 1) := dk_172 (dk_at dksX1_about_3 4 rfl rfl)
theorem dX1_about_81 : decode cX1_about 81 = .ok (.aload_n 3, 1) := dk_45 (dk_at dksX1_about_3 5 rfl rfl)
theorem dX1_about_82 : decode cX1_about 82 = .ok (.getfield 190, 3) := dk_180 0 190 (dk_at dksX1_about_3 6 rfl rfl)
theorem dX1_about_85 : decode cX1_about 85 = .ok (.invokevirtual 110, 3) := dk_182 0 110 (dk_at dksX1_about_3 9 rfl rfl)
theorem dX1_about_88 : decode cX1_about 88 = .ok (.ireturn, 1) := dk_172 (dk_at dksX1_about_3 12 rfl rfl)
theorem dX1_about_89 : decode cX1_about 89 = .ok (.aload_n 3, 1) := dk_45 (dk_at dksX1_about_3 13 rfl rfl)
theorem dX1_about_90 : decode cX1_about 90 = .ok (.getfield 178, 3) := dk_180 0 178 (dk_at dksX1_about_3 14 rfl rfl)
theorem dX1_about_93 : decode cX1_about 93 = .ok (.invokestatic 142, 3) := dk_184 0 142 (dk_at dksX1_about_3 17 rfl rfl)
theorem dX1_about_96 : decode cX1_about 96 = .ok (.ireturn, 1) := dk_172 (dk_at dksX1_about_3 20 rfl rfl)
theorem dX1_about_97 : decode cX1_about 97 = .ok (.aload_n 3, 1) := dk_45 (dk_at dksX1_about_3 21 rfl rfl)
theorem dX1_about_98 : decode cX1_about 98 = .ok (.getfield 178, 3) := dk_180 0 178 (dk_at dksX1_about_4 0 rfl rfl)
theorem dX1_about_101 : decode cX1_about 101 = .ok (.invokestatic 145, 3) := dk_184 0 145 (dk_at dksX1_about_4 3 rfl rfl)
theorem dX1_about_104 : decode cX1_about 104 = .ok (.ireturn, 1) := dk_172 (dk_at dksX1_about_4 6 rfl rfl)
theorem dX1_about_105 : decode cX1_about 105 = .ok (.aload_n 3, 1) := dk_45 (dk_at dksX1_about_4 7 rfl rfl)
theorem dX1_about_106 : decode cX1_about 106 = .ok (.getfield 178, 3) := dk_180 0 178 (dk_at dksX1_about_4 8 rfl rfl)
theorem dX1_about_109 : decode cX1_about 109 = .ok (.invokestatic 147, 3) := dk_184 0 147 (dk_at dksX1_about_4 11 rfl rfl)
theorem dX1_about_112 : decode cX1_about 112 = .ok (.ifCond .eq 7, 3) := dk_153 0 7 (dk_at dksX1_about_4 14 rfl rfl)
theorem dX1_about_115 : decode cX1_about 115 = .ok (.iconst 1, 1) := dk_4 (dk_at dksX1_about_4 17 rfl rfl)
theorem dX1_about_116 : decode cX1_about 116 = .ok (.goto 4, 3) := dk_167 0 4 (dk_at dksX1_about_4 18 rfl rfl)
theorem dX1_about_119 : decode cX1_about 119 = .ok (.iconst 0, 1) := dk_3 (dk_at dksX1_about_4 21 rfl rfl)
theorem dX1_about_120 : decode cX1_about 120 = .ok (.ireturn, 1) := dk_172 (dk_at dksX1_about_4 22 rfl rfl)
theorem dX1_about_121 : decode cX1_about 121 = .ok (.aload_n 3, 1) := dk_45 (dk_at dksX1_about_4 23 rfl rfl)
theorem dX1_about_122 : decode cX1_about 122 = .ok (.invokevirtual 218, 3) := dk_182 0 218 (dk_at dksX1_about_5 0 rfl rfl)
theorem dX1_about_125 : decode cX1_about 125 = .ok (.istore 4, 2) := dk_54 4 (dk_at dksX1_about_5 3 rfl rfl)
theorem dX1_about_127 : decode cX1_about 127 = .ok (.goto 32, 3) := dk_167 0 32 (dk_at dksX1_about_5 5 rfl rfl)
theorem dX1_about_130 : decode cX1_about 130 = .ok (.aload_n 0, 1) := dk_42 (dk_at dksX1_about_5 8 rfl rfl)
theorem dX1_about_131 : decode cX1_about 131 = .ok (.aload_n 3, 1) := dk_45 (dk_at dksX1_about_5 9 rfl rfl)
theorem dX1_about_132 : decode cX1_about 132 = .ok (.iconst 0, 1) := dk_3 (dk_at dksX1_about_5 10 rfl rfl)
theorem dX1_about_133 : decode cX1_about 133 = .ok (.invokevirtual 234, 3) := dk_182 0 234 (dk_at dksX1_about_5 11 rfl rfl)
theorem dX1_about_136 : decode cX1_about 136 = .ok (.istore 4, 2) := dk_54 4 (dk_at dksX1_about_5 14 rfl rfl)
theorem dX1_about_138 : decode cX1_about 138 = .ok (.goto 21, 3) := dk_167 0 21 (dk_at dksX1_about_5 16 rfl rfl)
theorem dX1_about_141 : decode cX1_about 141 = .ok (.aload_n 0, 1) := dk_42 (dk_at dksX1_about_5 19 rfl rfl)
theorem dX1_about_142 : decode cX1_about 142 = .ok (.aload_n 3, 1) := dk_45 (dk_at dksX1_about_5 20 rfl rfl)
theorem dX1_about_143 : decode cX1_about 143 = .ok (.iconst 1, 1) := dk_4 (dk_at dksX1_about_5 21 rfl rfl)
theorem dX1_about_144 : decode cX1_about 144 = .ok (.invokevirtual 234, 3) := dk_182 0 234 (dk_at dksX1_about_6 0 rfl rfl)
theorem dX1_about_147 : decode cX1_about 147 = .ok (.istore 4, 2) := dk_54 4 (dk_at dksX1_about_6 3 rfl rfl)
theorem dX1_about_149 : decode cX1_about 149 = .ok (.goto 10, 3) := dk_167 0 10 (dk_at dksX1_about_6 5 rfl rfl)
theorem dX1_about_152 : decode cX1_about 152 = .ok (.aload_n 0, 1) := dk_42 (dk_at dksX1_about_6 8 rfl rfl)
theorem dX1_about_153 : decode cX1_about 153 = .ok (.aload_n 3, 1) := dk_45 (dk_at dksX1_about_6 9 rfl rfl)
theorem dX1_about_154 : decode cX1_about 154 = .ok (.invokevirtual 238, 3) := dk_182 0 238 (dk_at dksX1_about_6 10 rfl rfl)
theorem dX1_about_157 : decode cX1_about 157 = .ok (.istore 4, 2) := dk_54 4 (dk_at dksX1_about_6 13 rfl rfl)
theorem dX1_about_159 : decode cX1_about 159 = .ok (.iload 4, 2) := dk_21 4 (dk_at dksX1_about_6 15 rfl rfl)
theorem dX1_about_161 : decode cX1_about 161 = .ok (.ifCond .eq 7, 3) := dk_153 0 7 (dk_at dksX1_about_6 17 rfl rfl)
theorem dX1_about_164 : decode cX1_about 164 = .ok (.iconst 1, 1) := dk_4 (dk_at dksX1_about_6 20 rfl rfl)
theorem dX1_about_165 : decode cX1_about 165 = .ok (.goto 4, 3) := dk_167 0 4 (dk_at dksX1_about_6 21 rfl rfl)
theorem dX1_about_168 : decode cX1_about 168 = .ok (.iconst 0, 1) := dk_3 (dk_at dksX1_about_7 0 rfl rfl)
theorem dX1_about_169 : decode cX1_about 169 = .ok (.ireturn, 1) := dk_172 (dk_at dksX1_about_7 1 rfl rfl)
abbrev cX1_planAt : ByteArray := prog_1_method_9_code
def yX1_planAt : MethodName := ⟨RX1, "planAt", "(I)LSewnBook$Plan;"⟩
def dkwX1_planAt_1 : List UInt8 := [180, 0, 28, 27, 182, 0, 114, 192, 0, 118, 176]
abbrev dktX1_planAt_1 : List UInt8 := dkwX1_planAt_1 ++ []
def dkwX1_planAt_0 : List UInt8 := [27, 155, 0, 18, 27, 42, 180, 0, 28, 182, 0, 110, 162, 0, 7, 4, 167, 0, 4, 3, 184, 0, 106, 42]
abbrev dktX1_planAt_0 : List UInt8 := dkwX1_planAt_0 ++ dktX1_planAt_1
theorem dksX1_planAt_0 : cX1_planAt.data.toList.drop 0 = dktX1_planAt_0 := by decide +kernel
theorem dksX1_planAt_1 : cX1_planAt.data.toList.drop 24 = dktX1_planAt_1 := dk_seg dksX1_planAt_0 24 rfl rfl
theorem dX1_planAt_0 : decode cX1_planAt 0 = .ok (.iload_n 1, 1) := dk_27 (dk_at dksX1_planAt_0 0 rfl rfl)
theorem dX1_planAt_1 : decode cX1_planAt 1 = .ok (.ifCond .lt 18, 3) := dk_155 0 18 (dk_at dksX1_planAt_0 1 rfl rfl)
theorem dX1_planAt_4 : decode cX1_planAt 4 = .ok (.iload_n 1, 1) := dk_27 (dk_at dksX1_planAt_0 4 rfl rfl)
theorem dX1_planAt_5 : decode cX1_planAt 5 = .ok (.aload_n 0, 1) := dk_42 (dk_at dksX1_planAt_0 5 rfl rfl)
theorem dX1_planAt_6 : decode cX1_planAt 6 = .ok (.getfield 28, 3) := dk_180 0 28 (dk_at dksX1_planAt_0 6 rfl rfl)
theorem dX1_planAt_9 : decode cX1_planAt 9 = .ok (.invokevirtual 110, 3) := dk_182 0 110 (dk_at dksX1_planAt_0 9 rfl rfl)
theorem dX1_planAt_12 : decode cX1_planAt 12 = .ok (.if_icmp .ge 7, 3) := dk_162 0 7 (dk_at dksX1_planAt_0 12 rfl rfl)
theorem dX1_planAt_15 : decode cX1_planAt 15 = .ok (.iconst 1, 1) := dk_4 (dk_at dksX1_planAt_0 15 rfl rfl)
theorem dX1_planAt_16 : decode cX1_planAt 16 = .ok (.goto 4, 3) := dk_167 0 4 (dk_at dksX1_planAt_0 16 rfl rfl)
theorem dX1_planAt_19 : decode cX1_planAt 19 = .ok (.iconst 0, 1) := dk_3 (dk_at dksX1_planAt_0 19 rfl rfl)
theorem dX1_planAt_20 : decode cX1_planAt 20 = .ok (.invokestatic 106, 3) := dk_184 0 106 (dk_at dksX1_planAt_0 20 rfl rfl)
theorem dX1_planAt_23 : decode cX1_planAt 23 = .ok (.aload_n 0, 1) := dk_42 (dk_at dksX1_planAt_0 23 rfl rfl)
theorem dX1_planAt_24 : decode cX1_planAt 24 = .ok (.getfield 28, 3) := dk_180 0 28 (dk_at dksX1_planAt_1 0 rfl rfl)
theorem dX1_planAt_27 : decode cX1_planAt 27 = .ok (.iload_n 1, 1) := dk_27 (dk_at dksX1_planAt_1 3 rfl rfl)
theorem dX1_planAt_28 : decode cX1_planAt 28 = .ok (.invokevirtual 114, 3) := dk_182 0 114 (dk_at dksX1_planAt_1 4 rfl rfl)
theorem dX1_planAt_31 : decode cX1_planAt 31 = .ok (.checkcast 118, 3) := dk_192 0 118 (dk_at dksX1_planAt_1 7 rfl rfl)
theorem dX1_planAt_34 : decode cX1_planAt 34 = .ok (.areturn, 1) := dk_176 (dk_at dksX1_planAt_1 10 rfl rfl)
abbrev cX1_isWhole : ByteArray := prog_1_method_32_code
def yX1_isWhole : MethodName := ⟨RX1, "isWhole", "(LSewnBook$Plan;Z)Z"⟩
def dkwX1_isWhole_5 : List UInt8 := [29, 172]
abbrev dktX1_isWhole_5 : List UInt8 := dkwX1_isWhole_5 ++ []
def dkwX1_isWhole_4 : List UInt8 := [167, 0, 17, 3, 167, 0, 13, 21, 5, 154, 0, 7, 4, 167, 0, 4, 3, 62, 132, 4, 1, 167, 255, 149]
abbrev dktX1_isWhole_4 : List UInt8 := dkwX1_isWhole_4 ++ dktX1_isWhole_5
def dkwX1_isWhole_3 : List UInt8 := [180, 0, 24, 21, 4, 182, 0, 114, 192, 0, 97, 180, 0, 138, 153, 0, 17, 21, 5, 4, 160, 0, 7, 4]
abbrev dktX1_isWhole_3 : List UInt8 := dkwX1_isWhole_3 ++ dktX1_isWhole_4
def dkwX1_isWhole_2 : List UInt8 := [21, 4, 182, 0, 114, 192, 0, 97, 180, 0, 138, 154, 0, 7, 4, 167, 0, 49, 3, 167, 0, 45, 42]
abbrev dktX1_isWhole_2 : List UInt8 := dkwX1_isWhole_2 ++ dktX1_isWhole_3
def dkwX1_isWhole_1 : List UInt8 := [42, 43, 21, 4, 1, 182, 0, 222, 54, 5, 28, 154, 0, 34, 21, 5, 157, 0, 21, 42, 180, 0, 24]
abbrev dktX1_isWhole_1 : List UInt8 := dkwX1_isWhole_1 ++ dktX1_isWhole_2
def dkwX1_isWhole_0 : List UInt8 := [43, 182, 0, 218, 62, 3, 54, 4, 21, 4, 42, 180, 0, 24, 182, 0, 110, 162, 0, 101, 29, 153, 0, 97]
abbrev dktX1_isWhole_0 : List UInt8 := dkwX1_isWhole_0 ++ dktX1_isWhole_1
theorem dksX1_isWhole_0 : cX1_isWhole.data.toList.drop 0 = dktX1_isWhole_0 := by decide +kernel
theorem dksX1_isWhole_1 : cX1_isWhole.data.toList.drop 24 = dktX1_isWhole_1 := dk_seg dksX1_isWhole_0 24 rfl rfl
theorem dksX1_isWhole_2 : cX1_isWhole.data.toList.drop 47 = dktX1_isWhole_2 := dk_seg dksX1_isWhole_1 23 rfl rfl
theorem dksX1_isWhole_3 : cX1_isWhole.data.toList.drop 70 = dktX1_isWhole_3 := dk_seg dksX1_isWhole_2 23 rfl rfl
theorem dksX1_isWhole_4 : cX1_isWhole.data.toList.drop 94 = dktX1_isWhole_4 := dk_seg dksX1_isWhole_3 24 rfl rfl
theorem dksX1_isWhole_5 : cX1_isWhole.data.toList.drop 118 = dktX1_isWhole_5 := dk_seg dksX1_isWhole_4 24 rfl rfl
theorem dX1_isWhole_0 : decode cX1_isWhole 0 = .ok (.aload_n 1, 1) := dk_43 (dk_at dksX1_isWhole_0 0 rfl rfl)
theorem dX1_isWhole_1 : decode cX1_isWhole 1 = .ok (.invokevirtual 218, 3) := dk_182 0 218 (dk_at dksX1_isWhole_0 1 rfl rfl)
theorem dX1_isWhole_4 : decode cX1_isWhole 4 = .ok (.istore_n 3, 1) := dk_62 (dk_at dksX1_isWhole_0 4 rfl rfl)
theorem dX1_isWhole_5 : decode cX1_isWhole 5 = .ok (.iconst 0, 1) := dk_3 (dk_at dksX1_isWhole_0 5 rfl rfl)
theorem dX1_isWhole_6 : decode cX1_isWhole 6 = .ok (.istore 4, 2) := dk_54 4 (dk_at dksX1_isWhole_0 6 rfl rfl)
theorem dX1_isWhole_8 : decode cX1_isWhole 8 = .ok (.iload 4, 2) := dk_21 4 (dk_at dksX1_isWhole_0 8 rfl rfl)
theorem dX1_isWhole_10 : decode cX1_isWhole 10 = .ok (.aload_n 0, 1) := dk_42 (dk_at dksX1_isWhole_0 10 rfl rfl)
theorem dX1_isWhole_11 : decode cX1_isWhole 11 = .ok (.getfield 24, 3) := dk_180 0 24 (dk_at dksX1_isWhole_0 11 rfl rfl)
theorem dX1_isWhole_14 : decode cX1_isWhole 14 = .ok (.invokevirtual 110, 3) := dk_182 0 110 (dk_at dksX1_isWhole_0 14 rfl rfl)
theorem dX1_isWhole_17 : decode cX1_isWhole 17 = .ok (.if_icmp .ge 101, 3) := dk_162 0 101 (dk_at dksX1_isWhole_0 17 rfl rfl)
theorem dX1_isWhole_20 : decode cX1_isWhole 20 = .ok (.iload_n 3, 1) := dk_29 (dk_at dksX1_isWhole_0 20 rfl rfl)
theorem dX1_isWhole_21 : decode cX1_isWhole 21 = .ok (.ifCond .eq 97, 3) := dk_153 0 97 (dk_at dksX1_isWhole_0 21 rfl rfl)
theorem dX1_isWhole_24 : decode cX1_isWhole 24 = .ok (.aload_n 0, 1) := dk_42 (dk_at dksX1_isWhole_1 0 rfl rfl)
theorem dX1_isWhole_25 : decode cX1_isWhole 25 = .ok (.aload_n 1, 1) := dk_43 (dk_at dksX1_isWhole_1 1 rfl rfl)
theorem dX1_isWhole_26 : decode cX1_isWhole 26 = .ok (.iload 4, 2) := dk_21 4 (dk_at dksX1_isWhole_1 2 rfl rfl)
theorem dX1_isWhole_28 : decode cX1_isWhole 28 = .ok (.aconst_null, 1) := dk_1 (dk_at dksX1_isWhole_1 4 rfl rfl)
theorem dX1_isWhole_29 : decode cX1_isWhole 29 = .ok (.invokevirtual 222, 3) := dk_182 0 222 (dk_at dksX1_isWhole_1 5 rfl rfl)
theorem dX1_isWhole_32 : decode cX1_isWhole 32 = .ok (.istore 5, 2) := dk_54 5 (dk_at dksX1_isWhole_1 8 rfl rfl)
theorem dX1_isWhole_34 : decode cX1_isWhole 34 = .ok (.iload_n 2, 1) := dk_28 (dk_at dksX1_isWhole_1 10 rfl rfl)
theorem dX1_isWhole_35 : decode cX1_isWhole 35 = .ok (.ifCond .ne 34, 3) := dk_154 0 34 (dk_at dksX1_isWhole_1 11 rfl rfl)
theorem dX1_isWhole_38 : decode cX1_isWhole 38 = .ok (.iload 5, 2) := dk_21 5 (dk_at dksX1_isWhole_1 14 rfl rfl)
theorem dX1_isWhole_40 : decode cX1_isWhole 40 = .ok (.ifCond .gt 21, 3) := dk_157 0 21 (dk_at dksX1_isWhole_1 16 rfl rfl)
theorem dX1_isWhole_43 : decode cX1_isWhole 43 = .ok (.aload_n 0, 1) := dk_42 (dk_at dksX1_isWhole_1 19 rfl rfl)
theorem dX1_isWhole_44 : decode cX1_isWhole 44 = .ok (.getfield 24, 3) := dk_180 0 24 (dk_at dksX1_isWhole_1 20 rfl rfl)
theorem dX1_isWhole_47 : decode cX1_isWhole 47 = .ok (.iload 4, 2) := dk_21 4 (dk_at dksX1_isWhole_2 0 rfl rfl)
theorem dX1_isWhole_49 : decode cX1_isWhole 49 = .ok (.invokevirtual 114, 3) := dk_182 0 114 (dk_at dksX1_isWhole_2 2 rfl rfl)
theorem dX1_isWhole_52 : decode cX1_isWhole 52 = .ok (.checkcast 97, 3) := dk_192 0 97 (dk_at dksX1_isWhole_2 5 rfl rfl)
theorem dX1_isWhole_55 : decode cX1_isWhole 55 = .ok (.getfield 138, 3) := dk_180 0 138 (dk_at dksX1_isWhole_2 8 rfl rfl)
theorem dX1_isWhole_58 : decode cX1_isWhole 58 = .ok (.ifCond .ne 7, 3) := dk_154 0 7 (dk_at dksX1_isWhole_2 11 rfl rfl)
theorem dX1_isWhole_61 : decode cX1_isWhole 61 = .ok (.iconst 1, 1) := dk_4 (dk_at dksX1_isWhole_2 14 rfl rfl)
theorem dX1_isWhole_62 : decode cX1_isWhole 62 = .ok (.goto 49, 3) := dk_167 0 49 (dk_at dksX1_isWhole_2 15 rfl rfl)
theorem dX1_isWhole_65 : decode cX1_isWhole 65 = .ok (.iconst 0, 1) := dk_3 (dk_at dksX1_isWhole_2 18 rfl rfl)
theorem dX1_isWhole_66 : decode cX1_isWhole 66 = .ok (.goto 45, 3) := dk_167 0 45 (dk_at dksX1_isWhole_2 19 rfl rfl)
theorem dX1_isWhole_69 : decode cX1_isWhole 69 = .ok (.aload_n 0, 1) := dk_42 (dk_at dksX1_isWhole_2 22 rfl rfl)
theorem dX1_isWhole_70 : decode cX1_isWhole 70 = .ok (.getfield 24, 3) := dk_180 0 24 (dk_at dksX1_isWhole_3 0 rfl rfl)
theorem dX1_isWhole_73 : decode cX1_isWhole 73 = .ok (.iload 4, 2) := dk_21 4 (dk_at dksX1_isWhole_3 3 rfl rfl)
theorem dX1_isWhole_75 : decode cX1_isWhole 75 = .ok (.invokevirtual 114, 3) := dk_182 0 114 (dk_at dksX1_isWhole_3 5 rfl rfl)
theorem dX1_isWhole_78 : decode cX1_isWhole 78 = .ok (.checkcast 97, 3) := dk_192 0 97 (dk_at dksX1_isWhole_3 8 rfl rfl)
theorem dX1_isWhole_81 : decode cX1_isWhole 81 = .ok (.getfield 138, 3) := dk_180 0 138 (dk_at dksX1_isWhole_3 11 rfl rfl)
theorem dX1_isWhole_84 : decode cX1_isWhole 84 = .ok (.ifCond .eq 17, 3) := dk_153 0 17 (dk_at dksX1_isWhole_3 14 rfl rfl)
theorem dX1_isWhole_87 : decode cX1_isWhole 87 = .ok (.iload 5, 2) := dk_21 5 (dk_at dksX1_isWhole_3 17 rfl rfl)
theorem dX1_isWhole_89 : decode cX1_isWhole 89 = .ok (.iconst 1, 1) := dk_4 (dk_at dksX1_isWhole_3 19 rfl rfl)
theorem dX1_isWhole_90 : decode cX1_isWhole 90 = .ok (.if_icmp .ne 7, 3) := dk_160 0 7 (dk_at dksX1_isWhole_3 20 rfl rfl)
theorem dX1_isWhole_93 : decode cX1_isWhole 93 = .ok (.iconst 1, 1) := dk_4 (dk_at dksX1_isWhole_3 23 rfl rfl)
theorem dX1_isWhole_94 : decode cX1_isWhole 94 = .ok (.goto 17, 3) := dk_167 0 17 (dk_at dksX1_isWhole_4 0 rfl rfl)
theorem dX1_isWhole_97 : decode cX1_isWhole 97 = .ok (.iconst 0, 1) := dk_3 (dk_at dksX1_isWhole_4 3 rfl rfl)
theorem dX1_isWhole_98 : decode cX1_isWhole 98 = .ok (.goto 13, 3) := dk_167 0 13 (dk_at dksX1_isWhole_4 4 rfl rfl)
theorem dX1_isWhole_101 : decode cX1_isWhole 101 = .ok (.iload 5, 2) := dk_21 5 (dk_at dksX1_isWhole_4 7 rfl rfl)
theorem dX1_isWhole_103 : decode cX1_isWhole 103 = .ok (.ifCond .ne 7, 3) := dk_154 0 7 (dk_at dksX1_isWhole_4 9 rfl rfl)
theorem dX1_isWhole_106 : decode cX1_isWhole 106 = .ok (.iconst 1, 1) := dk_4 (dk_at dksX1_isWhole_4 12 rfl rfl)
theorem dX1_isWhole_107 : decode cX1_isWhole 107 = .ok (.goto 4, 3) := dk_167 0 4 (dk_at dksX1_isWhole_4 13 rfl rfl)
theorem dX1_isWhole_110 : decode cX1_isWhole 110 = .ok (.iconst 0, 1) := dk_3 (dk_at dksX1_isWhole_4 16 rfl rfl)
theorem dX1_isWhole_111 : decode cX1_isWhole 111 = .ok (.istore_n 3, 1) := dk_62 (dk_at dksX1_isWhole_4 17 rfl rfl)
theorem dX1_isWhole_112 : decode cX1_isWhole 112 = .ok (.iinc 4 1, 3) := dk_132 4 1 (dk_at dksX1_isWhole_4 18 rfl rfl)
theorem dX1_isWhole_115 : decode cX1_isWhole 115 = .ok (.goto (-107), 3) := dk_167 255 149 (dk_at dksX1_isWhole_4 21 rfl rfl)
theorem dX1_isWhole_118 : decode cX1_isWhole 118 = .ok (.iload_n 3, 1) := dk_29 (dk_at dksX1_isWhole_5 0 rfl rfl)
theorem dX1_isWhole_119 : decode cX1_isWhole 119 = .ok (.ireturn, 1) := dk_172 (dk_at dksX1_isWhole_5 1 rfl rfl)
abbrev cX1_times : ByteArray := prog_1_method_31_code
def yX1_times : MethodName := ⟨RX1, "times", "(LSewnBook$Plan;I[Z)I"⟩
def dkwX1_times_3 : List UInt8 := [132, 5, 1, 167, 255, 189, 21, 4, 172]
abbrev dktX1_times_3 : List UInt8 := dkwX1_times_3 ++ []
def dkwX1_times_2 : List UInt8 := [180, 0, 190, 21, 5, 182, 0, 114, 192, 0, 194, 182, 0, 212, 182, 0, 215, 28, 160, 0, 6, 132, 4, 1]
abbrev dktX1_times_2 : List UInt8 := dkwX1_times_2 ++ dktX1_times_3
def dkwX1_times_1 : List UInt8 := [21, 5, 51, 154, 0, 44, 42, 43, 180, 0, 199, 21, 5, 182, 0, 114, 192, 0, 194, 182, 0, 212, 43]
abbrev dktX1_times_1 : List UInt8 := dkwX1_times_1 ++ dktX1_times_2
def dkwX1_times_0 : List UInt8 := [3, 54, 4, 3, 54, 5, 21, 5, 43, 180, 0, 190, 182, 0, 110, 162, 0, 61, 45, 198, 0, 10, 45]
abbrev dktX1_times_0 : List UInt8 := dkwX1_times_0 ++ dktX1_times_1
theorem dksX1_times_0 : cX1_times.data.toList.drop 0 = dktX1_times_0 := by decide +kernel
theorem dksX1_times_1 : cX1_times.data.toList.drop 23 = dktX1_times_1 := dk_seg dksX1_times_0 23 rfl rfl
theorem dksX1_times_2 : cX1_times.data.toList.drop 46 = dktX1_times_2 := dk_seg dksX1_times_1 23 rfl rfl
theorem dksX1_times_3 : cX1_times.data.toList.drop 70 = dktX1_times_3 := dk_seg dksX1_times_2 24 rfl rfl
theorem dX1_times_0 : decode cX1_times 0 = .ok (.iconst 0, 1) := dk_3 (dk_at dksX1_times_0 0 rfl rfl)
theorem dX1_times_1 : decode cX1_times 1 = .ok (.istore 4, 2) := dk_54 4 (dk_at dksX1_times_0 1 rfl rfl)
theorem dX1_times_3 : decode cX1_times 3 = .ok (.iconst 0, 1) := dk_3 (dk_at dksX1_times_0 3 rfl rfl)
theorem dX1_times_4 : decode cX1_times 4 = .ok (.istore 5, 2) := dk_54 5 (dk_at dksX1_times_0 4 rfl rfl)
theorem dX1_times_6 : decode cX1_times 6 = .ok (.iload 5, 2) := dk_21 5 (dk_at dksX1_times_0 6 rfl rfl)
theorem dX1_times_8 : decode cX1_times 8 = .ok (.aload_n 1, 1) := dk_43 (dk_at dksX1_times_0 8 rfl rfl)
theorem dX1_times_9 : decode cX1_times 9 = .ok (.getfield 190, 3) := dk_180 0 190 (dk_at dksX1_times_0 9 rfl rfl)
theorem dX1_times_12 : decode cX1_times 12 = .ok (.invokevirtual 110, 3) := dk_182 0 110 (dk_at dksX1_times_0 12 rfl rfl)
theorem dX1_times_15 : decode cX1_times 15 = .ok (.if_icmp .ge 61, 3) := dk_162 0 61 (dk_at dksX1_times_0 15 rfl rfl)
theorem dX1_times_18 : decode cX1_times 18 = .ok (.aload_n 3, 1) := dk_45 (dk_at dksX1_times_0 18 rfl rfl)
theorem dX1_times_19 : decode cX1_times 19 = .ok (.ifnull 10, 3) := dk_198 0 10 (dk_at dksX1_times_0 19 rfl rfl)
theorem dX1_times_22 : decode cX1_times 22 = .ok (.aload_n 3, 1) := dk_45 (dk_at dksX1_times_0 22 rfl rfl)
theorem dX1_times_23 : decode cX1_times 23 = .ok (.iload 5, 2) := dk_21 5 (dk_at dksX1_times_1 0 rfl rfl)
theorem dX1_times_25 : decode cX1_times 25 = .ok (.baload, 1) := dk_51 (dk_at dksX1_times_1 2 rfl rfl)
theorem dX1_times_26 : decode cX1_times 26 = .ok (.ifCond .ne 44, 3) := dk_154 0 44 (dk_at dksX1_times_1 3 rfl rfl)
theorem dX1_times_29 : decode cX1_times 29 = .ok (.aload_n 0, 1) := dk_42 (dk_at dksX1_times_1 6 rfl rfl)
theorem dX1_times_30 : decode cX1_times 30 = .ok (.aload_n 1, 1) := dk_43 (dk_at dksX1_times_1 7 rfl rfl)
theorem dX1_times_31 : decode cX1_times 31 = .ok (.getfield 199, 3) := dk_180 0 199 (dk_at dksX1_times_1 8 rfl rfl)
theorem dX1_times_34 : decode cX1_times 34 = .ok (.iload 5, 2) := dk_21 5 (dk_at dksX1_times_1 11 rfl rfl)
theorem dX1_times_36 : decode cX1_times 36 = .ok (.invokevirtual 114, 3) := dk_182 0 114 (dk_at dksX1_times_1 13 rfl rfl)
theorem dX1_times_39 : decode cX1_times 39 = .ok (.checkcast 194, 3) := dk_192 0 194 (dk_at dksX1_times_1 16 rfl rfl)
theorem dX1_times_42 : decode cX1_times 42 = .ok (.invokevirtual 212, 3) := dk_182 0 212 (dk_at dksX1_times_1 19 rfl rfl)
theorem dX1_times_45 : decode cX1_times 45 = .ok (.aload_n 1, 1) := dk_43 (dk_at dksX1_times_1 22 rfl rfl)
theorem dX1_times_46 : decode cX1_times 46 = .ok (.getfield 190, 3) := dk_180 0 190 (dk_at dksX1_times_2 0 rfl rfl)
theorem dX1_times_49 : decode cX1_times 49 = .ok (.iload 5, 2) := dk_21 5 (dk_at dksX1_times_2 3 rfl rfl)
theorem dX1_times_51 : decode cX1_times 51 = .ok (.invokevirtual 114, 3) := dk_182 0 114 (dk_at dksX1_times_2 5 rfl rfl)
theorem dX1_times_54 : decode cX1_times 54 = .ok (.checkcast 194, 3) := dk_192 0 194 (dk_at dksX1_times_2 8 rfl rfl)
theorem dX1_times_57 : decode cX1_times 57 = .ok (.invokevirtual 212, 3) := dk_182 0 212 (dk_at dksX1_times_2 11 rfl rfl)
theorem dX1_times_60 : decode cX1_times 60 = .ok (.invokevirtual 215, 3) := dk_182 0 215 (dk_at dksX1_times_2 14 rfl rfl)
theorem dX1_times_63 : decode cX1_times 63 = .ok (.iload_n 2, 1) := dk_28 (dk_at dksX1_times_2 17 rfl rfl)
theorem dX1_times_64 : decode cX1_times 64 = .ok (.if_icmp .ne 6, 3) := dk_160 0 6 (dk_at dksX1_times_2 18 rfl rfl)
theorem dX1_times_67 : decode cX1_times 67 = .ok (.iinc 4 1, 3) := dk_132 4 1 (dk_at dksX1_times_2 21 rfl rfl)
theorem dX1_times_70 : decode cX1_times 70 = .ok (.iinc 5 1, 3) := dk_132 5 1 (dk_at dksX1_times_3 0 rfl rfl)
theorem dX1_times_73 : decode cX1_times 73 = .ok (.goto (-67), 3) := dk_167 255 189 (dk_at dksX1_times_3 3 rfl rfl)
theorem dX1_times_76 : decode cX1_times 76 = .ok (.iload 4, 2) := dk_21 4 (dk_at dksX1_times_3 6 rfl rfl)
theorem dX1_times_78 : decode cX1_times 78 = .ok (.ireturn, 1) := dk_172 (dk_at dksX1_times_3 8 rfl rfl)
abbrev cX1_isHeld : ByteArray := prog_1_method_34_code
def yX1_isHeld : MethodName := ⟨RX1, "isHeld", "(LSewnBook$Plan;)Z"⟩
def dkwX1_isHeld_1 : List UInt8 := [5, 161, 0, 7, 4, 167, 0, 4, 3, 61, 132, 3, 1, 167, 255, 223, 28, 172]
abbrev dktX1_isHeld_1 : List UInt8 := dkwX1_isHeld_1 ++ []
def dkwX1_isHeld_0 : List UInt8 := [4, 61, 3, 62, 29, 4, 96, 42, 180, 0, 82, 162, 0, 29, 28, 153, 0, 17, 42, 43, 29, 182, 0, 226]
abbrev dktX1_isHeld_0 : List UInt8 := dkwX1_isHeld_0 ++ dktX1_isHeld_1
theorem dksX1_isHeld_0 : cX1_isHeld.data.toList.drop 0 = dktX1_isHeld_0 := by decide +kernel
theorem dksX1_isHeld_1 : cX1_isHeld.data.toList.drop 24 = dktX1_isHeld_1 := dk_seg dksX1_isHeld_0 24 rfl rfl
theorem dX1_isHeld_0 : decode cX1_isHeld 0 = .ok (.iconst 1, 1) := dk_4 (dk_at dksX1_isHeld_0 0 rfl rfl)
theorem dX1_isHeld_1 : decode cX1_isHeld 1 = .ok (.istore_n 2, 1) := dk_61 (dk_at dksX1_isHeld_0 1 rfl rfl)
theorem dX1_isHeld_2 : decode cX1_isHeld 2 = .ok (.iconst 0, 1) := dk_3 (dk_at dksX1_isHeld_0 2 rfl rfl)
theorem dX1_isHeld_3 : decode cX1_isHeld 3 = .ok (.istore_n 3, 1) := dk_62 (dk_at dksX1_isHeld_0 3 rfl rfl)
theorem dX1_isHeld_4 : decode cX1_isHeld 4 = .ok (.iload_n 3, 1) := dk_29 (dk_at dksX1_isHeld_0 4 rfl rfl)
theorem dX1_isHeld_5 : decode cX1_isHeld 5 = .ok (.iconst 1, 1) := dk_4 (dk_at dksX1_isHeld_0 5 rfl rfl)
theorem dX1_isHeld_6 : decode cX1_isHeld 6 = .ok (.iadd, 1) := dk_96 (dk_at dksX1_isHeld_0 6 rfl rfl)
theorem dX1_isHeld_7 : decode cX1_isHeld 7 = .ok (.aload_n 0, 1) := dk_42 (dk_at dksX1_isHeld_0 7 rfl rfl)
theorem dX1_isHeld_8 : decode cX1_isHeld 8 = .ok (.getfield 82, 3) := dk_180 0 82 (dk_at dksX1_isHeld_0 8 rfl rfl)
theorem dX1_isHeld_11 : decode cX1_isHeld 11 = .ok (.if_icmp .ge 29, 3) := dk_162 0 29 (dk_at dksX1_isHeld_0 11 rfl rfl)
theorem dX1_isHeld_14 : decode cX1_isHeld 14 = .ok (.iload_n 2, 1) := dk_28 (dk_at dksX1_isHeld_0 14 rfl rfl)
theorem dX1_isHeld_15 : decode cX1_isHeld 15 = .ok (.ifCond .eq 17, 3) := dk_153 0 17 (dk_at dksX1_isHeld_0 15 rfl rfl)
theorem dX1_isHeld_18 : decode cX1_isHeld 18 = .ok (.aload_n 0, 1) := dk_42 (dk_at dksX1_isHeld_0 18 rfl rfl)
theorem dX1_isHeld_19 : decode cX1_isHeld 19 = .ok (.aload_n 1, 1) := dk_43 (dk_at dksX1_isHeld_0 19 rfl rfl)
theorem dX1_isHeld_20 : decode cX1_isHeld 20 = .ok (.iload_n 3, 1) := dk_29 (dk_at dksX1_isHeld_0 20 rfl rfl)
theorem dX1_isHeld_21 : decode cX1_isHeld 21 = .ok (.invokevirtual 226, 3) := dk_182 0 226 (dk_at dksX1_isHeld_0 21 rfl rfl)
theorem dX1_isHeld_24 : decode cX1_isHeld 24 = .ok (.iconst 2, 1) := dk_5 (dk_at dksX1_isHeld_1 0 rfl rfl)
theorem dX1_isHeld_25 : decode cX1_isHeld 25 = .ok (.if_icmp .lt 7, 3) := dk_161 0 7 (dk_at dksX1_isHeld_1 1 rfl rfl)
theorem dX1_isHeld_28 : decode cX1_isHeld 28 = .ok (.iconst 1, 1) := dk_4 (dk_at dksX1_isHeld_1 4 rfl rfl)
theorem dX1_isHeld_29 : decode cX1_isHeld 29 = .ok (.goto 4, 3) := dk_167 0 4 (dk_at dksX1_isHeld_1 5 rfl rfl)
theorem dX1_isHeld_32 : decode cX1_isHeld 32 = .ok (.iconst 0, 1) := dk_3 (dk_at dksX1_isHeld_1 8 rfl rfl)
theorem dX1_isHeld_33 : decode cX1_isHeld 33 = .ok (.istore_n 2, 1) := dk_61 (dk_at dksX1_isHeld_1 9 rfl rfl)
theorem dX1_isHeld_34 : decode cX1_isHeld 34 = .ok (.iinc 3 1, 3) := dk_132 3 1 (dk_at dksX1_isHeld_1 10 rfl rfl)
theorem dX1_isHeld_37 : decode cX1_isHeld 37 = .ok (.goto (-33), 3) := dk_167 255 223 (dk_at dksX1_isHeld_1 13 rfl rfl)
theorem dX1_isHeld_40 : decode cX1_isHeld 40 = .ok (.iload_n 2, 1) := dk_28 (dk_at dksX1_isHeld_1 16 rfl rfl)
theorem dX1_isHeld_41 : decode cX1_isHeld 41 = .ok (.ireturn, 1) := dk_172 (dk_at dksX1_isHeld_1 17 rfl rfl)
abbrev cX1_ties : ByteArray := prog_1_method_33_code
def yX1_ties : MethodName := ⟨RX1, "ties", "(LSewnBook$Plan;I)I"⟩
def dkwX1_ties_4 : List UInt8 := [132, 3, 1, 132, 4, 1, 167, 255, 164, 29, 172]
abbrev dktX1_ties_4 : List UInt8 := dkwX1_ties_4 ++ []
def dkwX1_ties_3 : List UInt8 := [182, 0, 114, 192, 0, 194, 182, 0, 212, 16, 7, 160, 0, 14, 21, 5, 28, 4, 96, 160, 0, 6]
abbrev dktX1_ties_3 : List UInt8 := dkwX1_ties_3 ++ dktX1_ties_4
def dkwX1_ties_2 : List UInt8 := [192, 0, 194, 182, 0, 212, 16, 6, 160, 0, 9, 21, 5, 28, 159, 0, 31, 43, 180, 0, 190, 21, 4]
abbrev dktX1_ties_2 : List UInt8 := dkwX1_ties_2 ++ dktX1_ties_3
def dkwX1_ties_1 : List UInt8 := [182, 0, 114, 192, 0, 194, 182, 0, 212, 184, 0, 142, 54, 5, 43, 180, 0, 190, 21, 4, 182, 0, 114]
abbrev dktX1_ties_1 : List UInt8 := dkwX1_ties_1 ++ dktX1_ties_2
def dkwX1_ties_0 : List UInt8 := [3, 62, 3, 54, 4, 21, 4, 43, 180, 0, 190, 182, 0, 110, 162, 0, 86, 43, 180, 0, 199, 21, 4]
abbrev dktX1_ties_0 : List UInt8 := dkwX1_ties_0 ++ dktX1_ties_1
theorem dksX1_ties_0 : cX1_ties.data.toList.drop 0 = dktX1_ties_0 := by decide +kernel
theorem dksX1_ties_1 : cX1_ties.data.toList.drop 23 = dktX1_ties_1 := dk_seg dksX1_ties_0 23 rfl rfl
theorem dksX1_ties_2 : cX1_ties.data.toList.drop 46 = dktX1_ties_2 := dk_seg dksX1_ties_1 23 rfl rfl
theorem dksX1_ties_3 : cX1_ties.data.toList.drop 69 = dktX1_ties_3 := dk_seg dksX1_ties_2 23 rfl rfl
theorem dksX1_ties_4 : cX1_ties.data.toList.drop 91 = dktX1_ties_4 := dk_seg dksX1_ties_3 22 rfl rfl
theorem dX1_ties_0 : decode cX1_ties 0 = .ok (.iconst 0, 1) := dk_3 (dk_at dksX1_ties_0 0 rfl rfl)
theorem dX1_ties_1 : decode cX1_ties 1 = .ok (.istore_n 3, 1) := dk_62 (dk_at dksX1_ties_0 1 rfl rfl)
theorem dX1_ties_2 : decode cX1_ties 2 = .ok (.iconst 0, 1) := dk_3 (dk_at dksX1_ties_0 2 rfl rfl)
theorem dX1_ties_3 : decode cX1_ties 3 = .ok (.istore 4, 2) := dk_54 4 (dk_at dksX1_ties_0 3 rfl rfl)
theorem dX1_ties_5 : decode cX1_ties 5 = .ok (.iload 4, 2) := dk_21 4 (dk_at dksX1_ties_0 5 rfl rfl)
theorem dX1_ties_7 : decode cX1_ties 7 = .ok (.aload_n 1, 1) := dk_43 (dk_at dksX1_ties_0 7 rfl rfl)
theorem dX1_ties_8 : decode cX1_ties 8 = .ok (.getfield 190, 3) := dk_180 0 190 (dk_at dksX1_ties_0 8 rfl rfl)
theorem dX1_ties_11 : decode cX1_ties 11 = .ok (.invokevirtual 110, 3) := dk_182 0 110 (dk_at dksX1_ties_0 11 rfl rfl)
theorem dX1_ties_14 : decode cX1_ties 14 = .ok (.if_icmp .ge 86, 3) := dk_162 0 86 (dk_at dksX1_ties_0 14 rfl rfl)
theorem dX1_ties_17 : decode cX1_ties 17 = .ok (.aload_n 1, 1) := dk_43 (dk_at dksX1_ties_0 17 rfl rfl)
theorem dX1_ties_18 : decode cX1_ties 18 = .ok (.getfield 199, 3) := dk_180 0 199 (dk_at dksX1_ties_0 18 rfl rfl)
theorem dX1_ties_21 : decode cX1_ties 21 = .ok (.iload 4, 2) := dk_21 4 (dk_at dksX1_ties_0 21 rfl rfl)
theorem dX1_ties_23 : decode cX1_ties 23 = .ok (.invokevirtual 114, 3) := dk_182 0 114 (dk_at dksX1_ties_1 0 rfl rfl)
theorem dX1_ties_26 : decode cX1_ties 26 = .ok (.checkcast 194, 3) := dk_192 0 194 (dk_at dksX1_ties_1 3 rfl rfl)
theorem dX1_ties_29 : decode cX1_ties 29 = .ok (.invokevirtual 212, 3) := dk_182 0 212 (dk_at dksX1_ties_1 6 rfl rfl)
theorem dX1_ties_32 : decode cX1_ties 32 = .ok (.invokestatic 142, 3) := dk_184 0 142 (dk_at dksX1_ties_1 9 rfl rfl)
theorem dX1_ties_35 : decode cX1_ties 35 = .ok (.istore 5, 2) := dk_54 5 (dk_at dksX1_ties_1 12 rfl rfl)
theorem dX1_ties_37 : decode cX1_ties 37 = .ok (.aload_n 1, 1) := dk_43 (dk_at dksX1_ties_1 14 rfl rfl)
theorem dX1_ties_38 : decode cX1_ties 38 = .ok (.getfield 190, 3) := dk_180 0 190 (dk_at dksX1_ties_1 15 rfl rfl)
theorem dX1_ties_41 : decode cX1_ties 41 = .ok (.iload 4, 2) := dk_21 4 (dk_at dksX1_ties_1 18 rfl rfl)
theorem dX1_ties_43 : decode cX1_ties 43 = .ok (.invokevirtual 114, 3) := dk_182 0 114 (dk_at dksX1_ties_1 20 rfl rfl)
theorem dX1_ties_46 : decode cX1_ties 46 = .ok (.checkcast 194, 3) := dk_192 0 194 (dk_at dksX1_ties_2 0 rfl rfl)
theorem dX1_ties_49 : decode cX1_ties 49 = .ok (.invokevirtual 212, 3) := dk_182 0 212 (dk_at dksX1_ties_2 3 rfl rfl)
theorem dX1_ties_52 : decode cX1_ties 52 = .ok (.bipush 6, 2) := dk_16 6 (dk_at dksX1_ties_2 6 rfl rfl)
theorem dX1_ties_54 : decode cX1_ties 54 = .ok (.if_icmp .ne 9, 3) := dk_160 0 9 (dk_at dksX1_ties_2 8 rfl rfl)
theorem dX1_ties_57 : decode cX1_ties 57 = .ok (.iload 5, 2) := dk_21 5 (dk_at dksX1_ties_2 11 rfl rfl)
theorem dX1_ties_59 : decode cX1_ties 59 = .ok (.iload_n 2, 1) := dk_28 (dk_at dksX1_ties_2 13 rfl rfl)
theorem dX1_ties_60 : decode cX1_ties 60 = .ok (.if_icmp .eq 31, 3) := dk_159 0 31 (dk_at dksX1_ties_2 14 rfl rfl)
theorem dX1_ties_63 : decode cX1_ties 63 = .ok (.aload_n 1, 1) := dk_43 (dk_at dksX1_ties_2 17 rfl rfl)
theorem dX1_ties_64 : decode cX1_ties 64 = .ok (.getfield 190, 3) := dk_180 0 190 (dk_at dksX1_ties_2 18 rfl rfl)
theorem dX1_ties_67 : decode cX1_ties 67 = .ok (.iload 4, 2) := dk_21 4 (dk_at dksX1_ties_2 21 rfl rfl)
theorem dX1_ties_69 : decode cX1_ties 69 = .ok (.invokevirtual 114, 3) := dk_182 0 114 (dk_at dksX1_ties_3 0 rfl rfl)
theorem dX1_ties_72 : decode cX1_ties 72 = .ok (.checkcast 194, 3) := dk_192 0 194 (dk_at dksX1_ties_3 3 rfl rfl)
theorem dX1_ties_75 : decode cX1_ties 75 = .ok (.invokevirtual 212, 3) := dk_182 0 212 (dk_at dksX1_ties_3 6 rfl rfl)
theorem dX1_ties_78 : decode cX1_ties 78 = .ok (.bipush 7, 2) := dk_16 7 (dk_at dksX1_ties_3 9 rfl rfl)
theorem dX1_ties_80 : decode cX1_ties 80 = .ok (.if_icmp .ne 14, 3) := dk_160 0 14 (dk_at dksX1_ties_3 11 rfl rfl)
theorem dX1_ties_83 : decode cX1_ties 83 = .ok (.iload 5, 2) := dk_21 5 (dk_at dksX1_ties_3 14 rfl rfl)
theorem dX1_ties_85 : decode cX1_ties 85 = .ok (.iload_n 2, 1) := dk_28 (dk_at dksX1_ties_3 16 rfl rfl)
theorem dX1_ties_86 : decode cX1_ties 86 = .ok (.iconst 1, 1) := dk_4 (dk_at dksX1_ties_3 17 rfl rfl)
theorem dX1_ties_87 : decode cX1_ties 87 = .ok (.iadd, 1) := dk_96 (dk_at dksX1_ties_3 18 rfl rfl)
theorem dX1_ties_88 : decode cX1_ties 88 = .ok (.if_icmp .ne 6, 3) := dk_160 0 6 (dk_at dksX1_ties_3 19 rfl rfl)
theorem dX1_ties_91 : decode cX1_ties 91 = .ok (.iinc 3 1, 3) := dk_132 3 1 (dk_at dksX1_ties_4 0 rfl rfl)
theorem dX1_ties_94 : decode cX1_ties 94 = .ok (.iinc 4 1, 3) := dk_132 4 1 (dk_at dksX1_ties_4 3 rfl rfl)
theorem dX1_ties_97 : decode cX1_ties 97 = .ok (.goto (-92), 3) := dk_167 255 164 (dk_at dksX1_ties_4 6 rfl rfl)
theorem dX1_ties_100 : decode cX1_ties 100 = .ok (.iload_n 3, 1) := dk_29 (dk_at dksX1_ties_4 9 rfl rfl)
theorem dX1_ties_101 : decode cX1_ties 101 = .ok (.ireturn, 1) := dk_172 (dk_at dksX1_ties_4 10 rfl rfl)
abbrev cX1_along : ByteArray := prog_1_method_36_code
def yX1_along : MethodName := ⟨RX1, "along", "(II)I"⟩
def dkwX1_along_0 : List UInt8 := [42, 27, 182, 0, 230, 78, 42, 28, 182, 0, 126, 87, 42, 45, 28, 1, 182, 0, 222, 172]
abbrev dktX1_along_0 : List UInt8 := dkwX1_along_0 ++ []
theorem dksX1_along_0 : cX1_along.data.toList.drop 0 = dktX1_along_0 := by decide +kernel
theorem dX1_along_0 : decode cX1_along 0 = .ok (.aload_n 0, 1) := dk_42 (dk_at dksX1_along_0 0 rfl rfl)
theorem dX1_along_1 : decode cX1_along 1 = .ok (.iload_n 1, 1) := dk_27 (dk_at dksX1_along_0 1 rfl rfl)
theorem dX1_along_2 : decode cX1_along 2 = .ok (.invokevirtual 230, 3) := dk_182 0 230 (dk_at dksX1_along_0 2 rfl rfl)
theorem dX1_along_5 : decode cX1_along 5 = .ok (.astore_n 3, 1) := dk_78 (dk_at dksX1_along_0 5 rfl rfl)
theorem dX1_along_6 : decode cX1_along 6 = .ok (.aload_n 0, 1) := dk_42 (dk_at dksX1_along_0 6 rfl rfl)
theorem dX1_along_7 : decode cX1_along 7 = .ok (.iload_n 2, 1) := dk_28 (dk_at dksX1_along_0 7 rfl rfl)
theorem dX1_along_8 : decode cX1_along 8 = .ok (.invokevirtual 126, 3) := dk_182 0 126 (dk_at dksX1_along_0 8 rfl rfl)
theorem dX1_along_11 : decode cX1_along 11 = .ok (.pop, 1) := dk_87 (dk_at dksX1_along_0 11 rfl rfl)
theorem dX1_along_12 : decode cX1_along 12 = .ok (.aload_n 0, 1) := dk_42 (dk_at dksX1_along_0 12 rfl rfl)
theorem dX1_along_13 : decode cX1_along 13 = .ok (.aload_n 3, 1) := dk_45 (dk_at dksX1_along_0 13 rfl rfl)
theorem dX1_along_14 : decode cX1_along 14 = .ok (.iload_n 2, 1) := dk_28 (dk_at dksX1_along_0 14 rfl rfl)
theorem dX1_along_15 : decode cX1_along 15 = .ok (.aconst_null, 1) := dk_1 (dk_at dksX1_along_0 15 rfl rfl)
theorem dX1_along_16 : decode cX1_along 16 = .ok (.invokevirtual 222, 3) := dk_182 0 222 (dk_at dksX1_along_0 16 rfl rfl)
theorem dX1_along_19 : decode cX1_along 19 = .ok (.ireturn, 1) := dk_172 (dk_at dksX1_along_0 19 rfl rfl)
abbrev cX1_holes : ByteArray := prog_1_method_37_code
def yX1_holes : MethodName := ⟨RX1, "holes", "(III)I"⟩
def dkwX1_holes_4 : List UInt8 := [21, 5, 172]
abbrev dktX1_holes_4 : List UInt8 := dkwX1_holes_4 ++ []
def dkwX1_holes_3 : List UInt8 := [182, 0, 212, 5, 108, 16, 6, 28, 104, 29, 96, 160, 0, 6, 132, 5, 1, 132, 6, 1, 167, 255, 191]
abbrev dktX1_holes_3 : List UInt8 := dkwX1_holes_3 ++ dktX1_holes_4
def dkwX1_holes_2 : List UInt8 := [192, 0, 194, 182, 0, 212, 154, 0, 33, 25, 4, 180, 0, 199, 21, 6, 182, 0, 114, 192, 0, 194]
abbrev dktX1_holes_2 : List UInt8 := dkwX1_holes_2 ++ dktX1_holes_3
def dkwX1_holes_1 : List UInt8 := [21, 6, 25, 4, 180, 0, 190, 182, 0, 110, 162, 0, 58, 25, 4, 180, 0, 190, 21, 6, 182, 0, 114]
abbrev dktX1_holes_1 : List UInt8 := dkwX1_holes_1 ++ dktX1_holes_2
def dkwX1_holes_0 : List UInt8 := [42, 27, 182, 0, 230, 58, 4, 42, 28, 182, 0, 120, 42, 29, 182, 0, 123, 3, 54, 5, 3, 54, 6]
abbrev dktX1_holes_0 : List UInt8 := dkwX1_holes_0 ++ dktX1_holes_1
theorem dksX1_holes_0 : cX1_holes.data.toList.drop 0 = dktX1_holes_0 := by decide +kernel
theorem dksX1_holes_1 : cX1_holes.data.toList.drop 23 = dktX1_holes_1 := dk_seg dksX1_holes_0 23 rfl rfl
theorem dksX1_holes_2 : cX1_holes.data.toList.drop 46 = dktX1_holes_2 := dk_seg dksX1_holes_1 23 rfl rfl
theorem dksX1_holes_3 : cX1_holes.data.toList.drop 68 = dktX1_holes_3 := dk_seg dksX1_holes_2 22 rfl rfl
theorem dksX1_holes_4 : cX1_holes.data.toList.drop 91 = dktX1_holes_4 := dk_seg dksX1_holes_3 23 rfl rfl
theorem dX1_holes_0 : decode cX1_holes 0 = .ok (.aload_n 0, 1) := dk_42 (dk_at dksX1_holes_0 0 rfl rfl)
theorem dX1_holes_1 : decode cX1_holes 1 = .ok (.iload_n 1, 1) := dk_27 (dk_at dksX1_holes_0 1 rfl rfl)
theorem dX1_holes_2 : decode cX1_holes 2 = .ok (.invokevirtual 230, 3) := dk_182 0 230 (dk_at dksX1_holes_0 2 rfl rfl)
theorem dX1_holes_5 : decode cX1_holes 5 = .ok (.astore 4, 2) := dk_58 4 (dk_at dksX1_holes_0 5 rfl rfl)
theorem dX1_holes_7 : decode cX1_holes 7 = .ok (.aload_n 0, 1) := dk_42 (dk_at dksX1_holes_0 7 rfl rfl)
theorem dX1_holes_8 : decode cX1_holes 8 = .ok (.iload_n 2, 1) := dk_28 (dk_at dksX1_holes_0 8 rfl rfl)
theorem dX1_holes_9 : decode cX1_holes 9 = .ok (.invokevirtual 120, 3) := dk_182 0 120 (dk_at dksX1_holes_0 9 rfl rfl)
theorem dX1_holes_12 : decode cX1_holes 12 = .ok (.aload_n 0, 1) := dk_42 (dk_at dksX1_holes_0 12 rfl rfl)
theorem dX1_holes_13 : decode cX1_holes 13 = .ok (.iload_n 3, 1) := dk_29 (dk_at dksX1_holes_0 13 rfl rfl)
theorem dX1_holes_14 : decode cX1_holes 14 = .ok (.invokevirtual 123, 3) := dk_182 0 123 (dk_at dksX1_holes_0 14 rfl rfl)
theorem dX1_holes_17 : decode cX1_holes 17 = .ok (.iconst 0, 1) := dk_3 (dk_at dksX1_holes_0 17 rfl rfl)
theorem dX1_holes_18 : decode cX1_holes 18 = .ok (.istore 5, 2) := dk_54 5 (dk_at dksX1_holes_0 18 rfl rfl)
theorem dX1_holes_20 : decode cX1_holes 20 = .ok (.iconst 0, 1) := dk_3 (dk_at dksX1_holes_0 20 rfl rfl)
theorem dX1_holes_21 : decode cX1_holes 21 = .ok (.istore 6, 2) := dk_54 6 (dk_at dksX1_holes_0 21 rfl rfl)
theorem dX1_holes_23 : decode cX1_holes 23 = .ok (.iload 6, 2) := dk_21 6 (dk_at dksX1_holes_1 0 rfl rfl)
theorem dX1_holes_25 : decode cX1_holes 25 = .ok (.aload 4, 2) := dk_25 4 (dk_at dksX1_holes_1 2 rfl rfl)
theorem dX1_holes_27 : decode cX1_holes 27 = .ok (.getfield 190, 3) := dk_180 0 190 (dk_at dksX1_holes_1 4 rfl rfl)
theorem dX1_holes_30 : decode cX1_holes 30 = .ok (.invokevirtual 110, 3) := dk_182 0 110 (dk_at dksX1_holes_1 7 rfl rfl)
theorem dX1_holes_33 : decode cX1_holes 33 = .ok (.if_icmp .ge 58, 3) := dk_162 0 58 (dk_at dksX1_holes_1 10 rfl rfl)
theorem dX1_holes_36 : decode cX1_holes 36 = .ok (.aload 4, 2) := dk_25 4 (dk_at dksX1_holes_1 13 rfl rfl)
theorem dX1_holes_38 : decode cX1_holes 38 = .ok (.getfield 190, 3) := dk_180 0 190 (dk_at dksX1_holes_1 15 rfl rfl)
theorem dX1_holes_41 : decode cX1_holes 41 = .ok (.iload 6, 2) := dk_21 6 (dk_at dksX1_holes_1 18 rfl rfl)
theorem dX1_holes_43 : decode cX1_holes 43 = .ok (.invokevirtual 114, 3) := dk_182 0 114 (dk_at dksX1_holes_1 20 rfl rfl)
theorem dX1_holes_46 : decode cX1_holes 46 = .ok (.checkcast 194, 3) := dk_192 0 194 (dk_at dksX1_holes_2 0 rfl rfl)
theorem dX1_holes_49 : decode cX1_holes 49 = .ok (.invokevirtual 212, 3) := dk_182 0 212 (dk_at dksX1_holes_2 3 rfl rfl)
theorem dX1_holes_52 : decode cX1_holes 52 = .ok (.ifCond .ne 33, 3) := dk_154 0 33 (dk_at dksX1_holes_2 6 rfl rfl)
theorem dX1_holes_55 : decode cX1_holes 55 = .ok (.aload 4, 2) := dk_25 4 (dk_at dksX1_holes_2 9 rfl rfl)
theorem dX1_holes_57 : decode cX1_holes 57 = .ok (.getfield 199, 3) := dk_180 0 199 (dk_at dksX1_holes_2 11 rfl rfl)
theorem dX1_holes_60 : decode cX1_holes 60 = .ok (.iload 6, 2) := dk_21 6 (dk_at dksX1_holes_2 14 rfl rfl)
theorem dX1_holes_62 : decode cX1_holes 62 = .ok (.invokevirtual 114, 3) := dk_182 0 114 (dk_at dksX1_holes_2 16 rfl rfl)
theorem dX1_holes_65 : decode cX1_holes 65 = .ok (.checkcast 194, 3) := dk_192 0 194 (dk_at dksX1_holes_2 19 rfl rfl)
theorem dX1_holes_68 : decode cX1_holes 68 = .ok (.invokevirtual 212, 3) := dk_182 0 212 (dk_at dksX1_holes_3 0 rfl rfl)
theorem dX1_holes_71 : decode cX1_holes 71 = .ok (.iconst 2, 1) := dk_5 (dk_at dksX1_holes_3 3 rfl rfl)
theorem dX1_holes_72 : decode cX1_holes 72 = .ok (.idiv, 1) := dk_108 (dk_at dksX1_holes_3 4 rfl rfl)
theorem dX1_holes_73 : decode cX1_holes 73 = .ok (.bipush 6, 2) := dk_16 6 (dk_at dksX1_holes_3 5 rfl rfl)
theorem dX1_holes_75 : decode cX1_holes 75 = .ok (.iload_n 2, 1) := dk_28 (dk_at dksX1_holes_3 7 rfl rfl)
theorem dX1_holes_76 : decode cX1_holes 76 = .ok (.imul, 1) := dk_104 (dk_at dksX1_holes_3 8 rfl rfl)
theorem dX1_holes_77 : decode cX1_holes 77 = .ok (.iload_n 3, 1) := dk_29 (dk_at dksX1_holes_3 9 rfl rfl)
theorem dX1_holes_78 : decode cX1_holes 78 = .ok (.iadd, 1) := dk_96 (dk_at dksX1_holes_3 10 rfl rfl)
theorem dX1_holes_79 : decode cX1_holes 79 = .ok (.if_icmp .ne 6, 3) := dk_160 0 6 (dk_at dksX1_holes_3 11 rfl rfl)
theorem dX1_holes_82 : decode cX1_holes 82 = .ok (.iinc 5 1, 3) := dk_132 5 1 (dk_at dksX1_holes_3 14 rfl rfl)
theorem dX1_holes_85 : decode cX1_holes 85 = .ok (.iinc 6 1, 3) := dk_132 6 1 (dk_at dksX1_holes_3 17 rfl rfl)
theorem dX1_holes_88 : decode cX1_holes 88 = .ok (.goto (-65), 3) := dk_167 255 191 (dk_at dksX1_holes_3 20 rfl rfl)
theorem dX1_holes_91 : decode cX1_holes 91 = .ok (.iload 5, 2) := dk_21 5 (dk_at dksX1_holes_4 0 rfl rfl)
theorem dX1_holes_93 : decode cX1_holes 93 = .ok (.ireturn, 1) := dk_172 (dk_at dksX1_holes_4 2 rfl rfl)
abbrev cX1_tied : ByteArray := prog_1_method_38_code
def yX1_tied : MethodName := ⟨RX1, "tied", "(II)I"⟩
def dkwX1_tied_1 : List UInt8 := [3, 184, 0, 106, 42, 45, 28, 182, 0, 226, 172]
abbrev dktX1_tied_1 : List UInt8 := dkwX1_tied_1 ++ []
def dkwX1_tied_0 : List UInt8 := [42, 27, 182, 0, 230, 78, 28, 155, 0, 17, 28, 42, 180, 0, 82, 4, 100, 162, 0, 7, 4, 167, 0, 4]
abbrev dktX1_tied_0 : List UInt8 := dkwX1_tied_0 ++ dktX1_tied_1
theorem dksX1_tied_0 : cX1_tied.data.toList.drop 0 = dktX1_tied_0 := by decide +kernel
theorem dksX1_tied_1 : cX1_tied.data.toList.drop 24 = dktX1_tied_1 := dk_seg dksX1_tied_0 24 rfl rfl
theorem dX1_tied_0 : decode cX1_tied 0 = .ok (.aload_n 0, 1) := dk_42 (dk_at dksX1_tied_0 0 rfl rfl)
theorem dX1_tied_1 : decode cX1_tied 1 = .ok (.iload_n 1, 1) := dk_27 (dk_at dksX1_tied_0 1 rfl rfl)
theorem dX1_tied_2 : decode cX1_tied 2 = .ok (.invokevirtual 230, 3) := dk_182 0 230 (dk_at dksX1_tied_0 2 rfl rfl)
theorem dX1_tied_5 : decode cX1_tied 5 = .ok (.astore_n 3, 1) := dk_78 (dk_at dksX1_tied_0 5 rfl rfl)
theorem dX1_tied_6 : decode cX1_tied 6 = .ok (.iload_n 2, 1) := dk_28 (dk_at dksX1_tied_0 6 rfl rfl)
theorem dX1_tied_7 : decode cX1_tied 7 = .ok (.ifCond .lt 17, 3) := dk_155 0 17 (dk_at dksX1_tied_0 7 rfl rfl)
theorem dX1_tied_10 : decode cX1_tied 10 = .ok (.iload_n 2, 1) := dk_28 (dk_at dksX1_tied_0 10 rfl rfl)
theorem dX1_tied_11 : decode cX1_tied 11 = .ok (.aload_n 0, 1) := dk_42 (dk_at dksX1_tied_0 11 rfl rfl)
theorem dX1_tied_12 : decode cX1_tied 12 = .ok (.getfield 82, 3) := dk_180 0 82 (dk_at dksX1_tied_0 12 rfl rfl)
theorem dX1_tied_15 : decode cX1_tied 15 = .ok (.iconst 1, 1) := dk_4 (dk_at dksX1_tied_0 15 rfl rfl)
theorem dX1_tied_16 : decode cX1_tied 16 = .ok (.isub, 1) := dk_100 (dk_at dksX1_tied_0 16 rfl rfl)
theorem dX1_tied_17 : decode cX1_tied 17 = .ok (.if_icmp .ge 7, 3) := dk_162 0 7 (dk_at dksX1_tied_0 17 rfl rfl)
theorem dX1_tied_20 : decode cX1_tied 20 = .ok (.iconst 1, 1) := dk_4 (dk_at dksX1_tied_0 20 rfl rfl)
theorem dX1_tied_21 : decode cX1_tied 21 = .ok (.goto 4, 3) := dk_167 0 4 (dk_at dksX1_tied_0 21 rfl rfl)
theorem dX1_tied_24 : decode cX1_tied 24 = .ok (.iconst 0, 1) := dk_3 (dk_at dksX1_tied_1 0 rfl rfl)
theorem dX1_tied_25 : decode cX1_tied 25 = .ok (.invokestatic 106, 3) := dk_184 0 106 (dk_at dksX1_tied_1 1 rfl rfl)
theorem dX1_tied_28 : decode cX1_tied 28 = .ok (.aload_n 0, 1) := dk_42 (dk_at dksX1_tied_1 4 rfl rfl)
theorem dX1_tied_29 : decode cX1_tied 29 = .ok (.aload_n 3, 1) := dk_45 (dk_at dksX1_tied_1 5 rfl rfl)
theorem dX1_tied_30 : decode cX1_tied 30 = .ok (.iload_n 2, 1) := dk_28 (dk_at dksX1_tied_1 6 rfl rfl)
theorem dX1_tied_31 : decode cX1_tied 31 = .ok (.invokevirtual 226, 3) := dk_182 0 226 (dk_at dksX1_tied_1 7 rfl rfl)
theorem dX1_tied_34 : decode cX1_tied 34 = .ok (.ireturn, 1) := dk_172 (dk_at dksX1_tied_1 10 rfl rfl)
abbrev cX1_swells : ByteArray := prog_1_method_39_code
def yX1_swells : MethodName := ⟨RX1, "swells", "(II)I"⟩
def dkwX1_swells_5 : List UInt8 := [132, 5, 1, 167, 255, 181, 21, 4, 172]
abbrev dktX1_swells_5 : List UInt8 := dkwX1_swells_5 ++ []
def dkwX1_swells_4 : List UInt8 := [4, 96, 28, 160, 0, 21, 21, 4, 42, 180, 0, 88, 42, 45, 21, 5, 1, 182, 0, 222, 104, 96, 54, 4]
abbrev dktX1_swells_4 : List UInt8 := dkwX1_swells_4 ++ dktX1_swells_5
def dkwX1_swells_3 : List UInt8 := [58, 6, 25, 6, 180, 0, 136, 154, 0, 41, 25, 6, 180, 0, 133, 28, 159, 0, 14, 25, 6, 180, 0, 133]
abbrev dktX1_swells_3 : List UInt8 := dkwX1_swells_3 ++ dktX1_swells_4
def dkwX1_swells_2 : List UInt8 := [21, 5, 42, 180, 0, 24, 182, 0, 110, 162, 0, 69, 42, 180, 0, 24, 21, 5, 182, 0, 114, 192, 0, 97]
abbrev dktX1_swells_2 : List UInt8 := dkwX1_swells_2 ++ dktX1_swells_3
def dkwX1_swells_1 : List UInt8 := [162, 0, 21, 21, 4, 42, 180, 0, 9, 21, 5, 46, 96, 54, 4, 132, 5, 1, 167, 255, 232, 3, 54, 5]
abbrev dktX1_swells_1 : List UInt8 := dkwX1_swells_1 ++ dktX1_swells_2
def dkwX1_swells_0 : List UInt8 := [42, 27, 182, 0, 230, 78, 42, 28, 182, 0, 123, 3, 54, 4, 3, 54, 5, 21, 5, 42, 180, 0, 82]
abbrev dktX1_swells_0 : List UInt8 := dkwX1_swells_0 ++ dktX1_swells_1
theorem dksX1_swells_0 : cX1_swells.data.toList.drop 0 = dktX1_swells_0 := by decide +kernel
theorem dksX1_swells_1 : cX1_swells.data.toList.drop 23 = dktX1_swells_1 := dk_seg dksX1_swells_0 23 rfl rfl
theorem dksX1_swells_2 : cX1_swells.data.toList.drop 47 = dktX1_swells_2 := dk_seg dksX1_swells_1 24 rfl rfl
theorem dksX1_swells_3 : cX1_swells.data.toList.drop 71 = dktX1_swells_3 := dk_seg dksX1_swells_2 24 rfl rfl
theorem dksX1_swells_4 : cX1_swells.data.toList.drop 95 = dktX1_swells_4 := dk_seg dksX1_swells_3 24 rfl rfl
theorem dksX1_swells_5 : cX1_swells.data.toList.drop 119 = dktX1_swells_5 := dk_seg dksX1_swells_4 24 rfl rfl
theorem dX1_swells_0 : decode cX1_swells 0 = .ok (.aload_n 0, 1) := dk_42 (dk_at dksX1_swells_0 0 rfl rfl)
theorem dX1_swells_1 : decode cX1_swells 1 = .ok (.iload_n 1, 1) := dk_27 (dk_at dksX1_swells_0 1 rfl rfl)
theorem dX1_swells_2 : decode cX1_swells 2 = .ok (.invokevirtual 230, 3) := dk_182 0 230 (dk_at dksX1_swells_0 2 rfl rfl)
theorem dX1_swells_5 : decode cX1_swells 5 = .ok (.astore_n 3, 1) := dk_78 (dk_at dksX1_swells_0 5 rfl rfl)
theorem dX1_swells_6 : decode cX1_swells 6 = .ok (.aload_n 0, 1) := dk_42 (dk_at dksX1_swells_0 6 rfl rfl)
theorem dX1_swells_7 : decode cX1_swells 7 = .ok (.iload_n 2, 1) := dk_28 (dk_at dksX1_swells_0 7 rfl rfl)
theorem dX1_swells_8 : decode cX1_swells 8 = .ok (.invokevirtual 123, 3) := dk_182 0 123 (dk_at dksX1_swells_0 8 rfl rfl)
theorem dX1_swells_11 : decode cX1_swells 11 = .ok (.iconst 0, 1) := dk_3 (dk_at dksX1_swells_0 11 rfl rfl)
theorem dX1_swells_12 : decode cX1_swells 12 = .ok (.istore 4, 2) := dk_54 4 (dk_at dksX1_swells_0 12 rfl rfl)
theorem dX1_swells_14 : decode cX1_swells 14 = .ok (.iconst 0, 1) := dk_3 (dk_at dksX1_swells_0 14 rfl rfl)
theorem dX1_swells_15 : decode cX1_swells 15 = .ok (.istore 5, 2) := dk_54 5 (dk_at dksX1_swells_0 15 rfl rfl)
theorem dX1_swells_17 : decode cX1_swells 17 = .ok (.iload 5, 2) := dk_21 5 (dk_at dksX1_swells_0 17 rfl rfl)
theorem dX1_swells_19 : decode cX1_swells 19 = .ok (.aload_n 0, 1) := dk_42 (dk_at dksX1_swells_0 19 rfl rfl)
theorem dX1_swells_20 : decode cX1_swells 20 = .ok (.getfield 82, 3) := dk_180 0 82 (dk_at dksX1_swells_0 20 rfl rfl)
theorem dX1_swells_23 : decode cX1_swells 23 = .ok (.if_icmp .ge 21, 3) := dk_162 0 21 (dk_at dksX1_swells_1 0 rfl rfl)
theorem dX1_swells_26 : decode cX1_swells 26 = .ok (.iload 4, 2) := dk_21 4 (dk_at dksX1_swells_1 3 rfl rfl)
theorem dX1_swells_28 : decode cX1_swells 28 = .ok (.aload_n 0, 1) := dk_42 (dk_at dksX1_swells_1 5 rfl rfl)
theorem dX1_swells_29 : decode cX1_swells 29 = .ok (.getfield 9, 3) := dk_180 0 9 (dk_at dksX1_swells_1 6 rfl rfl)
theorem dX1_swells_32 : decode cX1_swells 32 = .ok (.iload 5, 2) := dk_21 5 (dk_at dksX1_swells_1 9 rfl rfl)
theorem dX1_swells_34 : decode cX1_swells 34 = .ok (.iaload, 1) := dk_46 (dk_at dksX1_swells_1 11 rfl rfl)
theorem dX1_swells_35 : decode cX1_swells 35 = .ok (.iadd, 1) := dk_96 (dk_at dksX1_swells_1 12 rfl rfl)
theorem dX1_swells_36 : decode cX1_swells 36 = .ok (.istore 4, 2) := dk_54 4 (dk_at dksX1_swells_1 13 rfl rfl)
theorem dX1_swells_38 : decode cX1_swells 38 = .ok (.iinc 5 1, 3) := dk_132 5 1 (dk_at dksX1_swells_1 15 rfl rfl)
theorem dX1_swells_41 : decode cX1_swells 41 = .ok (.goto (-24), 3) := dk_167 255 232 (dk_at dksX1_swells_1 18 rfl rfl)
theorem dX1_swells_44 : decode cX1_swells 44 = .ok (.iconst 0, 1) := dk_3 (dk_at dksX1_swells_1 21 rfl rfl)
theorem dX1_swells_45 : decode cX1_swells 45 = .ok (.istore 5, 2) := dk_54 5 (dk_at dksX1_swells_1 22 rfl rfl)
theorem dX1_swells_47 : decode cX1_swells 47 = .ok (.iload 5, 2) := dk_21 5 (dk_at dksX1_swells_2 0 rfl rfl)
theorem dX1_swells_49 : decode cX1_swells 49 = .ok (.aload_n 0, 1) := dk_42 (dk_at dksX1_swells_2 2 rfl rfl)
theorem dX1_swells_50 : decode cX1_swells 50 = .ok (.getfield 24, 3) := dk_180 0 24 (dk_at dksX1_swells_2 3 rfl rfl)
theorem dX1_swells_53 : decode cX1_swells 53 = .ok (.invokevirtual 110, 3) := dk_182 0 110 (dk_at dksX1_swells_2 6 rfl rfl)
theorem dX1_swells_56 : decode cX1_swells 56 = .ok (.if_icmp .ge 69, 3) := dk_162 0 69 (dk_at dksX1_swells_2 9 rfl rfl)
theorem dX1_swells_59 : decode cX1_swells 59 = .ok (.aload_n 0, 1) := dk_42 (dk_at dksX1_swells_2 12 rfl rfl)
theorem dX1_swells_60 : decode cX1_swells 60 = .ok (.getfield 24, 3) := dk_180 0 24 (dk_at dksX1_swells_2 13 rfl rfl)
theorem dX1_swells_63 : decode cX1_swells 63 = .ok (.iload 5, 2) := dk_21 5 (dk_at dksX1_swells_2 16 rfl rfl)
theorem dX1_swells_65 : decode cX1_swells 65 = .ok (.invokevirtual 114, 3) := dk_182 0 114 (dk_at dksX1_swells_2 18 rfl rfl)
theorem dX1_swells_68 : decode cX1_swells 68 = .ok (.checkcast 97, 3) := dk_192 0 97 (dk_at dksX1_swells_2 21 rfl rfl)
theorem dX1_swells_71 : decode cX1_swells 71 = .ok (.astore 6, 2) := dk_58 6 (dk_at dksX1_swells_3 0 rfl rfl)
theorem dX1_swells_73 : decode cX1_swells 73 = .ok (.aload 6, 2) := dk_25 6 (dk_at dksX1_swells_3 2 rfl rfl)
theorem dX1_swells_75 : decode cX1_swells 75 = .ok (.getfield 136, 3) := dk_180 0 136 (dk_at dksX1_swells_3 4 rfl rfl)
theorem dX1_swells_78 : decode cX1_swells 78 = .ok (.ifCond .ne 41, 3) := dk_154 0 41 (dk_at dksX1_swells_3 7 rfl rfl)
theorem dX1_swells_81 : decode cX1_swells 81 = .ok (.aload 6, 2) := dk_25 6 (dk_at dksX1_swells_3 10 rfl rfl)
theorem dX1_swells_83 : decode cX1_swells 83 = .ok (.getfield 133, 3) := dk_180 0 133 (dk_at dksX1_swells_3 12 rfl rfl)
theorem dX1_swells_86 : decode cX1_swells 86 = .ok (.iload_n 2, 1) := dk_28 (dk_at dksX1_swells_3 15 rfl rfl)
theorem dX1_swells_87 : decode cX1_swells 87 = .ok (.if_icmp .eq 14, 3) := dk_159 0 14 (dk_at dksX1_swells_3 16 rfl rfl)
theorem dX1_swells_90 : decode cX1_swells 90 = .ok (.aload 6, 2) := dk_25 6 (dk_at dksX1_swells_3 19 rfl rfl)
theorem dX1_swells_92 : decode cX1_swells 92 = .ok (.getfield 133, 3) := dk_180 0 133 (dk_at dksX1_swells_3 21 rfl rfl)
theorem dX1_swells_95 : decode cX1_swells 95 = .ok (.iconst 1, 1) := dk_4 (dk_at dksX1_swells_4 0 rfl rfl)
theorem dX1_swells_96 : decode cX1_swells 96 = .ok (.iadd, 1) := dk_96 (dk_at dksX1_swells_4 1 rfl rfl)
theorem dX1_swells_97 : decode cX1_swells 97 = .ok (.iload_n 2, 1) := dk_28 (dk_at dksX1_swells_4 2 rfl rfl)
theorem dX1_swells_98 : decode cX1_swells 98 = .ok (.if_icmp .ne 21, 3) := dk_160 0 21 (dk_at dksX1_swells_4 3 rfl rfl)
theorem dX1_swells_101 : decode cX1_swells 101 = .ok (.iload 4, 2) := dk_21 4 (dk_at dksX1_swells_4 6 rfl rfl)
theorem dX1_swells_103 : decode cX1_swells 103 = .ok (.aload_n 0, 1) := dk_42 (dk_at dksX1_swells_4 8 rfl rfl)
theorem dX1_swells_104 : decode cX1_swells 104 = .ok (.getfield 88, 3) := dk_180 0 88 (dk_at dksX1_swells_4 9 rfl rfl)
theorem dX1_swells_107 : decode cX1_swells 107 = .ok (.aload_n 0, 1) := dk_42 (dk_at dksX1_swells_4 12 rfl rfl)
theorem dX1_swells_108 : decode cX1_swells 108 = .ok (.aload_n 3, 1) := dk_45 (dk_at dksX1_swells_4 13 rfl rfl)
theorem dX1_swells_109 : decode cX1_swells 109 = .ok (.iload 5, 2) := dk_21 5 (dk_at dksX1_swells_4 14 rfl rfl)
theorem dX1_swells_111 : decode cX1_swells 111 = .ok (.aconst_null, 1) := dk_1 (dk_at dksX1_swells_4 16 rfl rfl)
theorem dX1_swells_112 : decode cX1_swells 112 = .ok (.invokevirtual 222, 3) := dk_182 0 222 (dk_at dksX1_swells_4 17 rfl rfl)
theorem dX1_swells_115 : decode cX1_swells 115 = .ok (.imul, 1) := dk_104 (dk_at dksX1_swells_4 20 rfl rfl)
theorem dX1_swells_116 : decode cX1_swells 116 = .ok (.iadd, 1) := dk_96 (dk_at dksX1_swells_4 21 rfl rfl)
theorem dX1_swells_117 : decode cX1_swells 117 = .ok (.istore 4, 2) := dk_54 4 (dk_at dksX1_swells_4 22 rfl rfl)
theorem dX1_swells_119 : decode cX1_swells 119 = .ok (.iinc 5 1, 3) := dk_132 5 1 (dk_at dksX1_swells_5 0 rfl rfl)
theorem dX1_swells_122 : decode cX1_swells 122 = .ok (.goto (-75), 3) := dk_167 255 181 (dk_at dksX1_swells_5 3 rfl rfl)
theorem dX1_swells_125 : decode cX1_swells 125 = .ok (.iload 4, 2) := dk_21 4 (dk_at dksX1_swells_5 6 rfl rfl)
theorem dX1_swells_127 : decode cX1_swells 127 = .ok (.ireturn, 1) := dk_172 (dk_at dksX1_swells_5 8 rfl rfl)
abbrev cX1_loose : ByteArray := prog_1_method_41_code
def yX1_loose : MethodName := ⟨RX1, "loose", "(II)I"⟩
def dkwX1_loose_5 : List UInt8 := [126, 54, 5, 132, 6, 1, 167, 255, 205, 21, 5, 172]
abbrev dktX1_loose_5 : List UInt8 := dkwX1_loose_5 ++ []
def dkwX1_loose_4 : List UInt8 := [158, 0, 27, 21, 5, 4, 42, 180, 0, 24, 21, 6, 182, 0, 114, 192, 0, 97, 180, 0, 130, 120, 2, 130]
abbrev dktX1_loose_4 : List UInt8 := dkwX1_loose_4 ++ dktX1_loose_5
def dkwX1_loose_3 : List UInt8 := [3, 54, 6, 21, 6, 42, 180, 0, 24, 182, 0, 110, 162, 0, 45, 42, 45, 21, 6, 25, 4, 182, 0, 222]
abbrev dktX1_loose_3 : List UInt8 := dkwX1_loose_3 ++ dktX1_loose_4
def dkwX1_loose_2 : List UInt8 := [182, 0, 242, 42, 45, 25, 4, 28, 4, 100, 2, 182, 0, 242, 4, 42, 180, 0, 82, 120, 4, 100, 54, 5]
abbrev dktX1_loose_2 : List UInt8 := dkwX1_loose_2 ++ dktX1_loose_3
def dkwX1_loose_1 : List UInt8 := [167, 0, 4, 3, 184, 0, 106, 45, 180, 0, 190, 182, 0, 110, 188, 4, 58, 4, 42, 45, 25, 4, 28, 4]
abbrev dktX1_loose_1 : List UInt8 := dkwX1_loose_1 ++ dktX1_loose_2
def dkwX1_loose_0 : List UInt8 := [42, 27, 182, 0, 230, 78, 28, 155, 0, 18, 28, 45, 180, 0, 190, 182, 0, 110, 162, 0, 7, 4]
abbrev dktX1_loose_0 : List UInt8 := dkwX1_loose_0 ++ dktX1_loose_1
theorem dksX1_loose_0 : cX1_loose.data.toList.drop 0 = dktX1_loose_0 := by decide +kernel
theorem dksX1_loose_1 : cX1_loose.data.toList.drop 22 = dktX1_loose_1 := dk_seg dksX1_loose_0 22 rfl rfl
theorem dksX1_loose_2 : cX1_loose.data.toList.drop 46 = dktX1_loose_2 := dk_seg dksX1_loose_1 24 rfl rfl
theorem dksX1_loose_3 : cX1_loose.data.toList.drop 70 = dktX1_loose_3 := dk_seg dksX1_loose_2 24 rfl rfl
theorem dksX1_loose_4 : cX1_loose.data.toList.drop 94 = dktX1_loose_4 := dk_seg dksX1_loose_3 24 rfl rfl
theorem dksX1_loose_5 : cX1_loose.data.toList.drop 118 = dktX1_loose_5 := dk_seg dksX1_loose_4 24 rfl rfl
theorem dX1_loose_0 : decode cX1_loose 0 = .ok (.aload_n 0, 1) := dk_42 (dk_at dksX1_loose_0 0 rfl rfl)
theorem dX1_loose_1 : decode cX1_loose 1 = .ok (.iload_n 1, 1) := dk_27 (dk_at dksX1_loose_0 1 rfl rfl)
theorem dX1_loose_2 : decode cX1_loose 2 = .ok (.invokevirtual 230, 3) := dk_182 0 230 (dk_at dksX1_loose_0 2 rfl rfl)
theorem dX1_loose_5 : decode cX1_loose 5 = .ok (.astore_n 3, 1) := dk_78 (dk_at dksX1_loose_0 5 rfl rfl)
theorem dX1_loose_6 : decode cX1_loose 6 = .ok (.iload_n 2, 1) := dk_28 (dk_at dksX1_loose_0 6 rfl rfl)
theorem dX1_loose_7 : decode cX1_loose 7 = .ok (.ifCond .lt 18, 3) := dk_155 0 18 (dk_at dksX1_loose_0 7 rfl rfl)
theorem dX1_loose_10 : decode cX1_loose 10 = .ok (.iload_n 2, 1) := dk_28 (dk_at dksX1_loose_0 10 rfl rfl)
theorem dX1_loose_11 : decode cX1_loose 11 = .ok (.aload_n 3, 1) := dk_45 (dk_at dksX1_loose_0 11 rfl rfl)
theorem dX1_loose_12 : decode cX1_loose 12 = .ok (.getfield 190, 3) := dk_180 0 190 (dk_at dksX1_loose_0 12 rfl rfl)
theorem dX1_loose_15 : decode cX1_loose 15 = .ok (.invokevirtual 110, 3) := dk_182 0 110 (dk_at dksX1_loose_0 15 rfl rfl)
theorem dX1_loose_18 : decode cX1_loose 18 = .ok (.if_icmp .ge 7, 3) := dk_162 0 7 (dk_at dksX1_loose_0 18 rfl rfl)
theorem dX1_loose_21 : decode cX1_loose 21 = .ok (.iconst 1, 1) := dk_4 (dk_at dksX1_loose_0 21 rfl rfl)
theorem dX1_loose_22 : decode cX1_loose 22 = .ok (.goto 4, 3) := dk_167 0 4 (dk_at dksX1_loose_1 0 rfl rfl)
theorem dX1_loose_25 : decode cX1_loose 25 = .ok (.iconst 0, 1) := dk_3 (dk_at dksX1_loose_1 3 rfl rfl)
theorem dX1_loose_26 : decode cX1_loose 26 = .ok (.invokestatic 106, 3) := dk_184 0 106 (dk_at dksX1_loose_1 4 rfl rfl)
theorem dX1_loose_29 : decode cX1_loose 29 = .ok (.aload_n 3, 1) := dk_45 (dk_at dksX1_loose_1 7 rfl rfl)
theorem dX1_loose_30 : decode cX1_loose 30 = .ok (.getfield 190, 3) := dk_180 0 190 (dk_at dksX1_loose_1 8 rfl rfl)
theorem dX1_loose_33 : decode cX1_loose 33 = .ok (.invokevirtual 110, 3) := dk_182 0 110 (dk_at dksX1_loose_1 11 rfl rfl)
theorem dX1_loose_36 : decode cX1_loose 36 = .ok (.newarray .boolean, 2) := dk_188_4 (dk_at dksX1_loose_1 14 rfl rfl)
theorem dX1_loose_38 : decode cX1_loose 38 = .ok (.astore 4, 2) := dk_58 4 (dk_at dksX1_loose_1 16 rfl rfl)
theorem dX1_loose_40 : decode cX1_loose 40 = .ok (.aload_n 0, 1) := dk_42 (dk_at dksX1_loose_1 18 rfl rfl)
theorem dX1_loose_41 : decode cX1_loose 41 = .ok (.aload_n 3, 1) := dk_45 (dk_at dksX1_loose_1 19 rfl rfl)
theorem dX1_loose_42 : decode cX1_loose 42 = .ok (.aload 4, 2) := dk_25 4 (dk_at dksX1_loose_1 20 rfl rfl)
theorem dX1_loose_44 : decode cX1_loose 44 = .ok (.iload_n 2, 1) := dk_28 (dk_at dksX1_loose_1 22 rfl rfl)
theorem dX1_loose_45 : decode cX1_loose 45 = .ok (.iconst 1, 1) := dk_4 (dk_at dksX1_loose_1 23 rfl rfl)
theorem dX1_loose_46 : decode cX1_loose 46 = .ok (.invokevirtual 242, 3) := dk_182 0 242 (dk_at dksX1_loose_2 0 rfl rfl)
theorem dX1_loose_49 : decode cX1_loose 49 = .ok (.aload_n 0, 1) := dk_42 (dk_at dksX1_loose_2 3 rfl rfl)
theorem dX1_loose_50 : decode cX1_loose 50 = .ok (.aload_n 3, 1) := dk_45 (dk_at dksX1_loose_2 4 rfl rfl)
theorem dX1_loose_51 : decode cX1_loose 51 = .ok (.aload 4, 2) := dk_25 4 (dk_at dksX1_loose_2 5 rfl rfl)
theorem dX1_loose_53 : decode cX1_loose 53 = .ok (.iload_n 2, 1) := dk_28 (dk_at dksX1_loose_2 7 rfl rfl)
theorem dX1_loose_54 : decode cX1_loose 54 = .ok (.iconst 1, 1) := dk_4 (dk_at dksX1_loose_2 8 rfl rfl)
theorem dX1_loose_55 : decode cX1_loose 55 = .ok (.isub, 1) := dk_100 (dk_at dksX1_loose_2 9 rfl rfl)
theorem dX1_loose_56 : decode cX1_loose 56 = .ok (.iconst (-1), 1) := dk_2 (dk_at dksX1_loose_2 10 rfl rfl)
theorem dX1_loose_57 : decode cX1_loose 57 = .ok (.invokevirtual 242, 3) := dk_182 0 242 (dk_at dksX1_loose_2 11 rfl rfl)
theorem dX1_loose_60 : decode cX1_loose 60 = .ok (.iconst 1, 1) := dk_4 (dk_at dksX1_loose_2 14 rfl rfl)
theorem dX1_loose_61 : decode cX1_loose 61 = .ok (.aload_n 0, 1) := dk_42 (dk_at dksX1_loose_2 15 rfl rfl)
theorem dX1_loose_62 : decode cX1_loose 62 = .ok (.getfield 82, 3) := dk_180 0 82 (dk_at dksX1_loose_2 16 rfl rfl)
theorem dX1_loose_65 : decode cX1_loose 65 = .ok (.ishl, 1) := dk_120 (dk_at dksX1_loose_2 19 rfl rfl)
theorem dX1_loose_66 : decode cX1_loose 66 = .ok (.iconst 1, 1) := dk_4 (dk_at dksX1_loose_2 20 rfl rfl)
theorem dX1_loose_67 : decode cX1_loose 67 = .ok (.isub, 1) := dk_100 (dk_at dksX1_loose_2 21 rfl rfl)
theorem dX1_loose_68 : decode cX1_loose 68 = .ok (.istore 5, 2) := dk_54 5 (dk_at dksX1_loose_2 22 rfl rfl)
theorem dX1_loose_70 : decode cX1_loose 70 = .ok (.iconst 0, 1) := dk_3 (dk_at dksX1_loose_3 0 rfl rfl)
theorem dX1_loose_71 : decode cX1_loose 71 = .ok (.istore 6, 2) := dk_54 6 (dk_at dksX1_loose_3 1 rfl rfl)
theorem dX1_loose_73 : decode cX1_loose 73 = .ok (.iload 6, 2) := dk_21 6 (dk_at dksX1_loose_3 3 rfl rfl)
theorem dX1_loose_75 : decode cX1_loose 75 = .ok (.aload_n 0, 1) := dk_42 (dk_at dksX1_loose_3 5 rfl rfl)
theorem dX1_loose_76 : decode cX1_loose 76 = .ok (.getfield 24, 3) := dk_180 0 24 (dk_at dksX1_loose_3 6 rfl rfl)
theorem dX1_loose_79 : decode cX1_loose 79 = .ok (.invokevirtual 110, 3) := dk_182 0 110 (dk_at dksX1_loose_3 9 rfl rfl)
theorem dX1_loose_82 : decode cX1_loose 82 = .ok (.if_icmp .ge 45, 3) := dk_162 0 45 (dk_at dksX1_loose_3 12 rfl rfl)
theorem dX1_loose_85 : decode cX1_loose 85 = .ok (.aload_n 0, 1) := dk_42 (dk_at dksX1_loose_3 15 rfl rfl)
theorem dX1_loose_86 : decode cX1_loose 86 = .ok (.aload_n 3, 1) := dk_45 (dk_at dksX1_loose_3 16 rfl rfl)
theorem dX1_loose_87 : decode cX1_loose 87 = .ok (.iload 6, 2) := dk_21 6 (dk_at dksX1_loose_3 17 rfl rfl)
theorem dX1_loose_89 : decode cX1_loose 89 = .ok (.aload 4, 2) := dk_25 4 (dk_at dksX1_loose_3 19 rfl rfl)
theorem dX1_loose_91 : decode cX1_loose 91 = .ok (.invokevirtual 222, 3) := dk_182 0 222 (dk_at dksX1_loose_3 21 rfl rfl)
theorem dX1_loose_94 : decode cX1_loose 94 = .ok (.ifCond .le 27, 3) := dk_158 0 27 (dk_at dksX1_loose_4 0 rfl rfl)
theorem dX1_loose_97 : decode cX1_loose 97 = .ok (.iload 5, 2) := dk_21 5 (dk_at dksX1_loose_4 3 rfl rfl)
theorem dX1_loose_99 : decode cX1_loose 99 = .ok (.iconst 1, 1) := dk_4 (dk_at dksX1_loose_4 5 rfl rfl)
theorem dX1_loose_100 : decode cX1_loose 100 = .ok (.aload_n 0, 1) := dk_42 (dk_at dksX1_loose_4 6 rfl rfl)
theorem dX1_loose_101 : decode cX1_loose 101 = .ok (.getfield 24, 3) := dk_180 0 24 (dk_at dksX1_loose_4 7 rfl rfl)
theorem dX1_loose_104 : decode cX1_loose 104 = .ok (.iload 6, 2) := dk_21 6 (dk_at dksX1_loose_4 10 rfl rfl)
theorem dX1_loose_106 : decode cX1_loose 106 = .ok (.invokevirtual 114, 3) := dk_182 0 114 (dk_at dksX1_loose_4 12 rfl rfl)
theorem dX1_loose_109 : decode cX1_loose 109 = .ok (.checkcast 97, 3) := dk_192 0 97 (dk_at dksX1_loose_4 15 rfl rfl)
theorem dX1_loose_112 : decode cX1_loose 112 = .ok (.getfield 130, 3) := dk_180 0 130 (dk_at dksX1_loose_4 18 rfl rfl)
theorem dX1_loose_115 : decode cX1_loose 115 = .ok (.ishl, 1) := dk_120 (dk_at dksX1_loose_4 21 rfl rfl)
theorem dX1_loose_116 : decode cX1_loose 116 = .ok (.iconst (-1), 1) := dk_2 (dk_at dksX1_loose_4 22 rfl rfl)
theorem dX1_loose_117 : decode cX1_loose 117 = .ok (.ixor, 1) := dk_130 (dk_at dksX1_loose_4 23 rfl rfl)
theorem dX1_loose_118 : decode cX1_loose 118 = .ok (.iand, 1) := dk_126 (dk_at dksX1_loose_5 0 rfl rfl)
theorem dX1_loose_119 : decode cX1_loose 119 = .ok (.istore 5, 2) := dk_54 5 (dk_at dksX1_loose_5 1 rfl rfl)
theorem dX1_loose_121 : decode cX1_loose 121 = .ok (.iinc 6 1, 3) := dk_132 6 1 (dk_at dksX1_loose_5 3 rfl rfl)
theorem dX1_loose_124 : decode cX1_loose 124 = .ok (.goto (-51), 3) := dk_167 255 205 (dk_at dksX1_loose_5 6 rfl rfl)
theorem dX1_loose_127 : decode cX1_loose 127 = .ok (.iload 5, 2) := dk_21 5 (dk_at dksX1_loose_5 9 rfl rfl)
theorem dX1_loose_129 : decode cX1_loose 129 = .ok (.ireturn, 1) := dk_172 (dk_at dksX1_loose_5 11 rfl rfl)
abbrev cX1_comesOff : ByteArray := prog_1_method_40_code
def yX1_comesOff : MethodName := ⟨RX1, "comesOff", "(LSewnBook$Plan;[ZII)V"⟩
def dkwX1_comesOff_3 : List UInt8 := [182, 0, 212, 154, 0, 4, 177, 21, 6, 21, 4, 96, 54, 6, 132, 7, 1, 167, 255, 185, 177]
abbrev dktX1_comesOff_3 : List UInt8 := dkwX1_comesOff_3 ++ []
def dkwX1_comesOff_2 : List UInt8 := [21, 5, 161, 0, 4, 177, 44, 21, 6, 4, 84, 43, 180, 0, 190, 21, 6, 182, 0, 114, 192, 0, 194]
abbrev dktX1_comesOff_2 : List UInt8 := dkwX1_comesOff_2 ++ dktX1_comesOff_3
def dkwX1_comesOff_1 : List UInt8 := [182, 0, 218, 153, 0, 13, 21, 6, 21, 5, 96, 21, 5, 112, 54, 6, 21, 6, 155, 0, 10, 21, 6]
abbrev dktX1_comesOff_1 : List UInt8 := dkwX1_comesOff_1 ++ dktX1_comesOff_2
def dkwX1_comesOff_0 : List UInt8 := [43, 180, 0, 190, 182, 0, 110, 54, 5, 29, 54, 6, 3, 54, 7, 21, 7, 21, 5, 162, 0, 70, 43]
abbrev dktX1_comesOff_0 : List UInt8 := dkwX1_comesOff_0 ++ dktX1_comesOff_1
theorem dksX1_comesOff_0 : cX1_comesOff.data.toList.drop 0 = dktX1_comesOff_0 := by decide +kernel
theorem dksX1_comesOff_1 : cX1_comesOff.data.toList.drop 23 = dktX1_comesOff_1 := dk_seg dksX1_comesOff_0 23 rfl rfl
theorem dksX1_comesOff_2 : cX1_comesOff.data.toList.drop 46 = dktX1_comesOff_2 := dk_seg dksX1_comesOff_1 23 rfl rfl
theorem dksX1_comesOff_3 : cX1_comesOff.data.toList.drop 69 = dktX1_comesOff_3 := dk_seg dksX1_comesOff_2 23 rfl rfl
theorem dX1_comesOff_0 : decode cX1_comesOff 0 = .ok (.aload_n 1, 1) := dk_43 (dk_at dksX1_comesOff_0 0 rfl rfl)
theorem dX1_comesOff_1 : decode cX1_comesOff 1 = .ok (.getfield 190, 3) := dk_180 0 190 (dk_at dksX1_comesOff_0 1 rfl rfl)
theorem dX1_comesOff_4 : decode cX1_comesOff 4 = .ok (.invokevirtual 110, 3) := dk_182 0 110 (dk_at dksX1_comesOff_0 4 rfl rfl)
theorem dX1_comesOff_7 : decode cX1_comesOff 7 = .ok (.istore 5, 2) := dk_54 5 (dk_at dksX1_comesOff_0 7 rfl rfl)
theorem dX1_comesOff_9 : decode cX1_comesOff 9 = .ok (.iload_n 3, 1) := dk_29 (dk_at dksX1_comesOff_0 9 rfl rfl)
theorem dX1_comesOff_10 : decode cX1_comesOff 10 = .ok (.istore 6, 2) := dk_54 6 (dk_at dksX1_comesOff_0 10 rfl rfl)
theorem dX1_comesOff_12 : decode cX1_comesOff 12 = .ok (.iconst 0, 1) := dk_3 (dk_at dksX1_comesOff_0 12 rfl rfl)
theorem dX1_comesOff_13 : decode cX1_comesOff 13 = .ok (.istore 7, 2) := dk_54 7 (dk_at dksX1_comesOff_0 13 rfl rfl)
theorem dX1_comesOff_15 : decode cX1_comesOff 15 = .ok (.iload 7, 2) := dk_21 7 (dk_at dksX1_comesOff_0 15 rfl rfl)
theorem dX1_comesOff_17 : decode cX1_comesOff 17 = .ok (.iload 5, 2) := dk_21 5 (dk_at dksX1_comesOff_0 17 rfl rfl)
theorem dX1_comesOff_19 : decode cX1_comesOff 19 = .ok (.if_icmp .ge 70, 3) := dk_162 0 70 (dk_at dksX1_comesOff_0 19 rfl rfl)
theorem dX1_comesOff_22 : decode cX1_comesOff 22 = .ok (.aload_n 1, 1) := dk_43 (dk_at dksX1_comesOff_0 22 rfl rfl)
theorem dX1_comesOff_23 : decode cX1_comesOff 23 = .ok (.invokevirtual 218, 3) := dk_182 0 218 (dk_at dksX1_comesOff_1 0 rfl rfl)
theorem dX1_comesOff_26 : decode cX1_comesOff 26 = .ok (.ifCond .eq 13, 3) := dk_153 0 13 (dk_at dksX1_comesOff_1 3 rfl rfl)
theorem dX1_comesOff_29 : decode cX1_comesOff 29 = .ok (.iload 6, 2) := dk_21 6 (dk_at dksX1_comesOff_1 6 rfl rfl)
theorem dX1_comesOff_31 : decode cX1_comesOff 31 = .ok (.iload 5, 2) := dk_21 5 (dk_at dksX1_comesOff_1 8 rfl rfl)
theorem dX1_comesOff_33 : decode cX1_comesOff 33 = .ok (.iadd, 1) := dk_96 (dk_at dksX1_comesOff_1 10 rfl rfl)
theorem dX1_comesOff_34 : decode cX1_comesOff 34 = .ok (.iload 5, 2) := dk_21 5 (dk_at dksX1_comesOff_1 11 rfl rfl)
theorem dX1_comesOff_36 : decode cX1_comesOff 36 = .ok (.irem, 1) := dk_112 (dk_at dksX1_comesOff_1 13 rfl rfl)
theorem dX1_comesOff_37 : decode cX1_comesOff 37 = .ok (.istore 6, 2) := dk_54 6 (dk_at dksX1_comesOff_1 14 rfl rfl)
theorem dX1_comesOff_39 : decode cX1_comesOff 39 = .ok (.iload 6, 2) := dk_21 6 (dk_at dksX1_comesOff_1 16 rfl rfl)
theorem dX1_comesOff_41 : decode cX1_comesOff 41 = .ok (.ifCond .lt 10, 3) := dk_155 0 10 (dk_at dksX1_comesOff_1 18 rfl rfl)
theorem dX1_comesOff_44 : decode cX1_comesOff 44 = .ok (.iload 6, 2) := dk_21 6 (dk_at dksX1_comesOff_1 21 rfl rfl)
theorem dX1_comesOff_46 : decode cX1_comesOff 46 = .ok (.iload 5, 2) := dk_21 5 (dk_at dksX1_comesOff_2 0 rfl rfl)
theorem dX1_comesOff_48 : decode cX1_comesOff 48 = .ok (.if_icmp .lt 4, 3) := dk_161 0 4 (dk_at dksX1_comesOff_2 2 rfl rfl)
theorem dX1_comesOff_51 : decode cX1_comesOff 51 = .ok (.return_, 1) := dk_177 (dk_at dksX1_comesOff_2 5 rfl rfl)
theorem dX1_comesOff_52 : decode cX1_comesOff 52 = .ok (.aload_n 2, 1) := dk_44 (dk_at dksX1_comesOff_2 6 rfl rfl)
theorem dX1_comesOff_53 : decode cX1_comesOff 53 = .ok (.iload 6, 2) := dk_21 6 (dk_at dksX1_comesOff_2 7 rfl rfl)
theorem dX1_comesOff_55 : decode cX1_comesOff 55 = .ok (.iconst 1, 1) := dk_4 (dk_at dksX1_comesOff_2 9 rfl rfl)
theorem dX1_comesOff_56 : decode cX1_comesOff 56 = .ok (.bastore, 1) := dk_84 (dk_at dksX1_comesOff_2 10 rfl rfl)
theorem dX1_comesOff_57 : decode cX1_comesOff 57 = .ok (.aload_n 1, 1) := dk_43 (dk_at dksX1_comesOff_2 11 rfl rfl)
theorem dX1_comesOff_58 : decode cX1_comesOff 58 = .ok (.getfield 190, 3) := dk_180 0 190 (dk_at dksX1_comesOff_2 12 rfl rfl)
theorem dX1_comesOff_61 : decode cX1_comesOff 61 = .ok (.iload 6, 2) := dk_21 6 (dk_at dksX1_comesOff_2 15 rfl rfl)
theorem dX1_comesOff_63 : decode cX1_comesOff 63 = .ok (.invokevirtual 114, 3) := dk_182 0 114 (dk_at dksX1_comesOff_2 17 rfl rfl)
theorem dX1_comesOff_66 : decode cX1_comesOff 66 = .ok (.checkcast 194, 3) := dk_192 0 194 (dk_at dksX1_comesOff_2 20 rfl rfl)
theorem dX1_comesOff_69 : decode cX1_comesOff 69 = .ok (.invokevirtual 212, 3) := dk_182 0 212 (dk_at dksX1_comesOff_3 0 rfl rfl)
theorem dX1_comesOff_72 : decode cX1_comesOff 72 = .ok (.ifCond .ne 4, 3) := dk_154 0 4 (dk_at dksX1_comesOff_3 3 rfl rfl)
theorem dX1_comesOff_75 : decode cX1_comesOff 75 = .ok (.return_, 1) := dk_177 (dk_at dksX1_comesOff_3 6 rfl rfl)
theorem dX1_comesOff_76 : decode cX1_comesOff 76 = .ok (.iload 6, 2) := dk_21 6 (dk_at dksX1_comesOff_3 7 rfl rfl)
theorem dX1_comesOff_78 : decode cX1_comesOff 78 = .ok (.iload 4, 2) := dk_21 4 (dk_at dksX1_comesOff_3 9 rfl rfl)
theorem dX1_comesOff_80 : decode cX1_comesOff 80 = .ok (.iadd, 1) := dk_96 (dk_at dksX1_comesOff_3 11 rfl rfl)
theorem dX1_comesOff_81 : decode cX1_comesOff 81 = .ok (.istore 6, 2) := dk_54 6 (dk_at dksX1_comesOff_3 12 rfl rfl)
theorem dX1_comesOff_83 : decode cX1_comesOff 83 = .ok (.iinc 7 1, 3) := dk_132 7 1 (dk_at dksX1_comesOff_3 14 rfl rfl)
theorem dX1_comesOff_86 : decode cX1_comesOff 86 = .ok (.goto (-71), 3) := dk_167 255 185 (dk_at dksX1_comesOff_3 17 rfl rfl)
theorem dX1_comesOff_89 : decode cX1_comesOff 89 = .ok (.return_, 1) := dk_177 (dk_at dksX1_comesOff_3 20 rfl rfl)
abbrev cX1_best : ByteArray := prog_1_method_46_code
def yX1_best : MethodName := ⟨RX1, "best", "(IZ)I"⟩
def dkwX1_best_13 : List UInt8 := [54, 7, 167, 255, 161, 42, 180, 0, 43, 21, 4, 46, 17, 4, 0, 108, 172]
abbrev dktX1_best_13 : List UInt8 := dkwX1_best_13 ++ []
def dkwX1_best_12 : List UInt8 := [21, 8, 96, 54, 9, 42, 21, 6, 21, 9, 28, 182, 0, 246, 54, 6, 42, 180, 0, 49, 21, 9, 46]
abbrev dktX1_best_12 : List UInt8 := dkwX1_best_12 ++ dktX1_best_13
def dkwX1_best_11 : List UInt8 := [132, 8, 1, 167, 255, 226, 42, 180, 0, 39, 21, 8, 184, 0, 193, 182, 0, 102, 87, 16, 8, 21, 7, 104]
abbrev dktX1_best_11 : List UInt8 := dkwX1_best_11 ++ dktX1_best_12
def dkwX1_best_10 : List UInt8 := [21, 8, 28, 182, 0, 250, 42, 180, 0, 43, 16, 60, 21, 6, 104, 21, 7, 96, 46, 159, 0, 9]
abbrev dktX1_best_10 : List UInt8 := dkwX1_best_10 ++ dktX1_best_11
def dkwX1_best_9 : List UInt8 := [180, 0, 43, 16, 60, 21, 6, 104, 21, 7, 96, 46, 158, 0, 85, 3, 54, 8, 42, 21, 6, 21, 7]
abbrev dktX1_best_9 : List UInt8 := dkwX1_best_9 ++ dktX1_best_10
def dkwX1_best_8 : List UInt8 := [46, 18, 249, 161, 0, 5, 2, 172, 42, 180, 0, 39, 182, 0, 91, 3, 54, 6, 21, 4, 54, 7, 42]
abbrev dktX1_best_8 : List UInt8 := dkwX1_best_8 ++ dktX1_best_9
def dkwX1_best_7 : List UInt8 := [21, 6, 155, 0, 16, 42, 21, 6, 28, 182, 1, 9, 132, 6, 255, 167, 255, 241, 42, 180, 0, 43, 21, 4]
abbrev dktX1_best_7 : List UInt8 := dkwX1_best_7 ++ dktX1_best_8
def dkwX1_best_6 : List UInt8 := [132, 6, 1, 167, 255, 232, 42, 180, 0, 43, 16, 60, 21, 5, 104, 21, 4, 96, 3, 79, 21, 5, 54, 6]
abbrev dktX1_best_6 : List UInt8 := dkwX1_best_6 ++ dktX1_best_7
def dkwX1_best_5 : List UInt8 := [54, 6, 21, 6, 16, 60, 21, 5, 4, 96, 104, 162, 0, 18, 42, 180, 0, 43, 21, 6, 18, 249, 79]
abbrev dktX1_best_5 : List UInt8 := dkwX1_best_5 ++ dktX1_best_6
def dkwX1_best_4 : List UInt8 := [167, 255, 185, 42, 182, 1, 6, 3, 27, 3, 184, 0, 151, 54, 4, 4, 29, 120, 4, 100, 54, 5, 3]
abbrev dktX1_best_4 : List UInt8 := dkwX1_best_4 ++ dktX1_best_5
def dkwX1_best_3 : List UInt8 := [182, 0, 114, 192, 0, 97, 180, 0, 138, 153, 0, 7, 4, 167, 0, 4, 3, 96, 62, 132, 4, 1]
abbrev dktX1_best_3 : List UInt8 := dkwX1_best_3 ++ dktX1_best_4
def dkwX1_best_2 : List UInt8 := [192, 0, 97, 180, 0, 138, 153, 0, 7, 29, 167, 0, 4, 2, 79, 29, 42, 180, 0, 24, 21, 4]
abbrev dktX1_best_2 : List UInt8 := dkwX1_best_2 ++ dktX1_best_3
def dkwX1_best_1 : List UInt8 := [180, 0, 24, 182, 0, 110, 162, 0, 65, 42, 180, 0, 46, 21, 4, 42, 180, 0, 24, 21, 4, 182, 0, 114]
abbrev dktX1_best_1 : List UInt8 := dkwX1_best_1 ++ dktX1_best_2
def dkwX1_best_0 : List UInt8 := [42, 27, 182, 0, 123, 42, 182, 1, 3, 16, 10, 164, 0, 5, 2, 172, 3, 62, 3, 54, 4, 21, 4, 42]
abbrev dktX1_best_0 : List UInt8 := dkwX1_best_0 ++ dktX1_best_1
theorem dksX1_best_0 : cX1_best.data.toList.drop 0 = dktX1_best_0 := by decide +kernel
theorem dksX1_best_1 : cX1_best.data.toList.drop 24 = dktX1_best_1 := dk_seg dksX1_best_0 24 rfl rfl
theorem dksX1_best_2 : cX1_best.data.toList.drop 48 = dktX1_best_2 := dk_seg dksX1_best_1 24 rfl rfl
theorem dksX1_best_3 : cX1_best.data.toList.drop 70 = dktX1_best_3 := dk_seg dksX1_best_2 22 rfl rfl
theorem dksX1_best_4 : cX1_best.data.toList.drop 92 = dktX1_best_4 := dk_seg dksX1_best_3 22 rfl rfl
theorem dksX1_best_5 : cX1_best.data.toList.drop 115 = dktX1_best_5 := dk_seg dksX1_best_4 23 rfl rfl
theorem dksX1_best_6 : cX1_best.data.toList.drop 138 = dktX1_best_6 := dk_seg dksX1_best_5 23 rfl rfl
theorem dksX1_best_7 : cX1_best.data.toList.drop 162 = dktX1_best_7 := dk_seg dksX1_best_6 24 rfl rfl
theorem dksX1_best_8 : cX1_best.data.toList.drop 186 = dktX1_best_8 := dk_seg dksX1_best_7 24 rfl rfl
theorem dksX1_best_9 : cX1_best.data.toList.drop 209 = dktX1_best_9 := dk_seg dksX1_best_8 23 rfl rfl
theorem dksX1_best_10 : cX1_best.data.toList.drop 232 = dktX1_best_10 := dk_seg dksX1_best_9 23 rfl rfl
theorem dksX1_best_11 : cX1_best.data.toList.drop 254 = dktX1_best_11 := dk_seg dksX1_best_10 22 rfl rfl
theorem dksX1_best_12 : cX1_best.data.toList.drop 278 = dktX1_best_12 := dk_seg dksX1_best_11 24 rfl rfl
theorem dksX1_best_13 : cX1_best.data.toList.drop 301 = dktX1_best_13 := dk_seg dksX1_best_12 23 rfl rfl
theorem dX1_best_0 : decode cX1_best 0 = .ok (.aload_n 0, 1) := dk_42 (dk_at dksX1_best_0 0 rfl rfl)
theorem dX1_best_1 : decode cX1_best 1 = .ok (.iload_n 1, 1) := dk_27 (dk_at dksX1_best_0 1 rfl rfl)
theorem dX1_best_2 : decode cX1_best 2 = .ok (.invokevirtual 123, 3) := dk_182 0 123 (dk_at dksX1_best_0 2 rfl rfl)
theorem dX1_best_5 : decode cX1_best 5 = .ok (.aload_n 0, 1) := dk_42 (dk_at dksX1_best_0 5 rfl rfl)
theorem dX1_best_6 : decode cX1_best 6 = .ok (.invokevirtual 259, 3) := dk_182 1 3 (dk_at dksX1_best_0 6 rfl rfl)
theorem dX1_best_9 : decode cX1_best 9 = .ok (.bipush 10, 2) := dk_16 10 (dk_at dksX1_best_0 9 rfl rfl)
theorem dX1_best_11 : decode cX1_best 11 = .ok (.if_icmp .le 5, 3) := dk_164 0 5 (dk_at dksX1_best_0 11 rfl rfl)
theorem dX1_best_14 : decode cX1_best 14 = .ok (.iconst (-1), 1) := dk_2 (dk_at dksX1_best_0 14 rfl rfl)
theorem dX1_best_15 : decode cX1_best 15 = .ok (.ireturn, 1) := dk_172 (dk_at dksX1_best_0 15 rfl rfl)
theorem dX1_best_16 : decode cX1_best 16 = .ok (.iconst 0, 1) := dk_3 (dk_at dksX1_best_0 16 rfl rfl)
theorem dX1_best_17 : decode cX1_best 17 = .ok (.istore_n 3, 1) := dk_62 (dk_at dksX1_best_0 17 rfl rfl)
theorem dX1_best_18 : decode cX1_best 18 = .ok (.iconst 0, 1) := dk_3 (dk_at dksX1_best_0 18 rfl rfl)
theorem dX1_best_19 : decode cX1_best 19 = .ok (.istore 4, 2) := dk_54 4 (dk_at dksX1_best_0 19 rfl rfl)
theorem dX1_best_21 : decode cX1_best 21 = .ok (.iload 4, 2) := dk_21 4 (dk_at dksX1_best_0 21 rfl rfl)
theorem dX1_best_23 : decode cX1_best 23 = .ok (.aload_n 0, 1) := dk_42 (dk_at dksX1_best_0 23 rfl rfl)
theorem dX1_best_24 : decode cX1_best 24 = .ok (.getfield 24, 3) := dk_180 0 24 (dk_at dksX1_best_1 0 rfl rfl)
theorem dX1_best_27 : decode cX1_best 27 = .ok (.invokevirtual 110, 3) := dk_182 0 110 (dk_at dksX1_best_1 3 rfl rfl)
theorem dX1_best_30 : decode cX1_best 30 = .ok (.if_icmp .ge 65, 3) := dk_162 0 65 (dk_at dksX1_best_1 6 rfl rfl)
theorem dX1_best_33 : decode cX1_best 33 = .ok (.aload_n 0, 1) := dk_42 (dk_at dksX1_best_1 9 rfl rfl)
theorem dX1_best_34 : decode cX1_best 34 = .ok (.getfield 46, 3) := dk_180 0 46 (dk_at dksX1_best_1 10 rfl rfl)
theorem dX1_best_37 : decode cX1_best 37 = .ok (.iload 4, 2) := dk_21 4 (dk_at dksX1_best_1 13 rfl rfl)
theorem dX1_best_39 : decode cX1_best 39 = .ok (.aload_n 0, 1) := dk_42 (dk_at dksX1_best_1 15 rfl rfl)
theorem dX1_best_40 : decode cX1_best 40 = .ok (.getfield 24, 3) := dk_180 0 24 (dk_at dksX1_best_1 16 rfl rfl)
theorem dX1_best_43 : decode cX1_best 43 = .ok (.iload 4, 2) := dk_21 4 (dk_at dksX1_best_1 19 rfl rfl)
theorem dX1_best_45 : decode cX1_best 45 = .ok (.invokevirtual 114, 3) := dk_182 0 114 (dk_at dksX1_best_1 21 rfl rfl)
theorem dX1_best_48 : decode cX1_best 48 = .ok (.checkcast 97, 3) := dk_192 0 97 (dk_at dksX1_best_2 0 rfl rfl)
theorem dX1_best_51 : decode cX1_best 51 = .ok (.getfield 138, 3) := dk_180 0 138 (dk_at dksX1_best_2 3 rfl rfl)
theorem dX1_best_54 : decode cX1_best 54 = .ok (.ifCond .eq 7, 3) := dk_153 0 7 (dk_at dksX1_best_2 6 rfl rfl)
theorem dX1_best_57 : decode cX1_best 57 = .ok (.iload_n 3, 1) := dk_29 (dk_at dksX1_best_2 9 rfl rfl)
theorem dX1_best_58 : decode cX1_best 58 = .ok (.goto 4, 3) := dk_167 0 4 (dk_at dksX1_best_2 10 rfl rfl)
theorem dX1_best_61 : decode cX1_best 61 = .ok (.iconst (-1), 1) := dk_2 (dk_at dksX1_best_2 13 rfl rfl)
theorem dX1_best_62 : decode cX1_best 62 = .ok (.iastore, 1) := dk_79 (dk_at dksX1_best_2 14 rfl rfl)
theorem dX1_best_63 : decode cX1_best 63 = .ok (.iload_n 3, 1) := dk_29 (dk_at dksX1_best_2 15 rfl rfl)
theorem dX1_best_64 : decode cX1_best 64 = .ok (.aload_n 0, 1) := dk_42 (dk_at dksX1_best_2 16 rfl rfl)
theorem dX1_best_65 : decode cX1_best 65 = .ok (.getfield 24, 3) := dk_180 0 24 (dk_at dksX1_best_2 17 rfl rfl)
theorem dX1_best_68 : decode cX1_best 68 = .ok (.iload 4, 2) := dk_21 4 (dk_at dksX1_best_2 20 rfl rfl)
theorem dX1_best_70 : decode cX1_best 70 = .ok (.invokevirtual 114, 3) := dk_182 0 114 (dk_at dksX1_best_3 0 rfl rfl)
theorem dX1_best_73 : decode cX1_best 73 = .ok (.checkcast 97, 3) := dk_192 0 97 (dk_at dksX1_best_3 3 rfl rfl)
theorem dX1_best_76 : decode cX1_best 76 = .ok (.getfield 138, 3) := dk_180 0 138 (dk_at dksX1_best_3 6 rfl rfl)
theorem dX1_best_79 : decode cX1_best 79 = .ok (.ifCond .eq 7, 3) := dk_153 0 7 (dk_at dksX1_best_3 9 rfl rfl)
theorem dX1_best_82 : decode cX1_best 82 = .ok (.iconst 1, 1) := dk_4 (dk_at dksX1_best_3 12 rfl rfl)
theorem dX1_best_83 : decode cX1_best 83 = .ok (.goto 4, 3) := dk_167 0 4 (dk_at dksX1_best_3 13 rfl rfl)
theorem dX1_best_86 : decode cX1_best 86 = .ok (.iconst 0, 1) := dk_3 (dk_at dksX1_best_3 16 rfl rfl)
theorem dX1_best_87 : decode cX1_best 87 = .ok (.iadd, 1) := dk_96 (dk_at dksX1_best_3 17 rfl rfl)
theorem dX1_best_88 : decode cX1_best 88 = .ok (.istore_n 3, 1) := dk_62 (dk_at dksX1_best_3 18 rfl rfl)
theorem dX1_best_89 : decode cX1_best 89 = .ok (.iinc 4 1, 3) := dk_132 4 1 (dk_at dksX1_best_3 19 rfl rfl)
theorem dX1_best_92 : decode cX1_best 92 = .ok (.goto (-71), 3) := dk_167 255 185 (dk_at dksX1_best_4 0 rfl rfl)
theorem dX1_best_95 : decode cX1_best 95 = .ok (.aload_n 0, 1) := dk_42 (dk_at dksX1_best_4 3 rfl rfl)
theorem dX1_best_96 : decode cX1_best 96 = .ok (.invokevirtual 262, 3) := dk_182 1 6 (dk_at dksX1_best_4 4 rfl rfl)
theorem dX1_best_99 : decode cX1_best 99 = .ok (.iconst 0, 1) := dk_3 (dk_at dksX1_best_4 7 rfl rfl)
theorem dX1_best_100 : decode cX1_best 100 = .ok (.iload_n 1, 1) := dk_27 (dk_at dksX1_best_4 8 rfl rfl)
theorem dX1_best_101 : decode cX1_best 101 = .ok (.iconst 0, 1) := dk_3 (dk_at dksX1_best_4 9 rfl rfl)
theorem dX1_best_102 : decode cX1_best 102 = .ok (.invokestatic 151, 3) := dk_184 0 151 (dk_at dksX1_best_4 10 rfl rfl)
theorem dX1_best_105 : decode cX1_best 105 = .ok (.istore 4, 2) := dk_54 4 (dk_at dksX1_best_4 13 rfl rfl)
theorem dX1_best_107 : decode cX1_best 107 = .ok (.iconst 1, 1) := dk_4 (dk_at dksX1_best_4 15 rfl rfl)
theorem dX1_best_108 : decode cX1_best 108 = .ok (.iload_n 3, 1) := dk_29 (dk_at dksX1_best_4 16 rfl rfl)
theorem dX1_best_109 : decode cX1_best 109 = .ok (.ishl, 1) := dk_120 (dk_at dksX1_best_4 17 rfl rfl)
theorem dX1_best_110 : decode cX1_best 110 = .ok (.iconst 1, 1) := dk_4 (dk_at dksX1_best_4 18 rfl rfl)
theorem dX1_best_111 : decode cX1_best 111 = .ok (.isub, 1) := dk_100 (dk_at dksX1_best_4 19 rfl rfl)
theorem dX1_best_112 : decode cX1_best 112 = .ok (.istore 5, 2) := dk_54 5 (dk_at dksX1_best_4 20 rfl rfl)
theorem dX1_best_114 : decode cX1_best 114 = .ok (.iconst 0, 1) := dk_3 (dk_at dksX1_best_4 22 rfl rfl)
theorem dX1_best_115 : decode cX1_best 115 = .ok (.istore 6, 2) := dk_54 6 (dk_at dksX1_best_5 0 rfl rfl)
theorem dX1_best_117 : decode cX1_best 117 = .ok (.iload 6, 2) := dk_21 6 (dk_at dksX1_best_5 2 rfl rfl)
theorem dX1_best_119 : decode cX1_best 119 = .ok (.bipush 60, 2) := dk_16 60 (dk_at dksX1_best_5 4 rfl rfl)
theorem dX1_best_121 : decode cX1_best 121 = .ok (.iload 5, 2) := dk_21 5 (dk_at dksX1_best_5 6 rfl rfl)
theorem dX1_best_123 : decode cX1_best 123 = .ok (.iconst 1, 1) := dk_4 (dk_at dksX1_best_5 8 rfl rfl)
theorem dX1_best_124 : decode cX1_best 124 = .ok (.iadd, 1) := dk_96 (dk_at dksX1_best_5 9 rfl rfl)
theorem dX1_best_125 : decode cX1_best 125 = .ok (.imul, 1) := dk_104 (dk_at dksX1_best_5 10 rfl rfl)
theorem dX1_best_126 : decode cX1_best 126 = .ok (.if_icmp .ge 18, 3) := dk_162 0 18 (dk_at dksX1_best_5 11 rfl rfl)
theorem dX1_best_129 : decode cX1_best 129 = .ok (.aload_n 0, 1) := dk_42 (dk_at dksX1_best_5 14 rfl rfl)
theorem dX1_best_130 : decode cX1_best 130 = .ok (.getfield 43, 3) := dk_180 0 43 (dk_at dksX1_best_5 15 rfl rfl)
theorem dX1_best_133 : decode cX1_best 133 = .ok (.iload 6, 2) := dk_21 6 (dk_at dksX1_best_5 18 rfl rfl)
theorem dX1_best_135 : decode cX1_best 135 = .ok (.ldc 249, 2) := dk_18 249 (dk_at dksX1_best_5 20 rfl rfl)
theorem dX1_best_137 : decode cX1_best 137 = .ok (.iastore, 1) := dk_79 (dk_at dksX1_best_5 22 rfl rfl)
theorem dX1_best_138 : decode cX1_best 138 = .ok (.iinc 6 1, 3) := dk_132 6 1 (dk_at dksX1_best_6 0 rfl rfl)
theorem dX1_best_141 : decode cX1_best 141 = .ok (.goto (-24), 3) := dk_167 255 232 (dk_at dksX1_best_6 3 rfl rfl)
theorem dX1_best_144 : decode cX1_best 144 = .ok (.aload_n 0, 1) := dk_42 (dk_at dksX1_best_6 6 rfl rfl)
theorem dX1_best_145 : decode cX1_best 145 = .ok (.getfield 43, 3) := dk_180 0 43 (dk_at dksX1_best_6 7 rfl rfl)
theorem dX1_best_148 : decode cX1_best 148 = .ok (.bipush 60, 2) := dk_16 60 (dk_at dksX1_best_6 10 rfl rfl)
theorem dX1_best_150 : decode cX1_best 150 = .ok (.iload 5, 2) := dk_21 5 (dk_at dksX1_best_6 12 rfl rfl)
theorem dX1_best_152 : decode cX1_best 152 = .ok (.imul, 1) := dk_104 (dk_at dksX1_best_6 14 rfl rfl)
theorem dX1_best_153 : decode cX1_best 153 = .ok (.iload 4, 2) := dk_21 4 (dk_at dksX1_best_6 15 rfl rfl)
theorem dX1_best_155 : decode cX1_best 155 = .ok (.iadd, 1) := dk_96 (dk_at dksX1_best_6 17 rfl rfl)
theorem dX1_best_156 : decode cX1_best 156 = .ok (.iconst 0, 1) := dk_3 (dk_at dksX1_best_6 18 rfl rfl)
theorem dX1_best_157 : decode cX1_best 157 = .ok (.iastore, 1) := dk_79 (dk_at dksX1_best_6 19 rfl rfl)
theorem dX1_best_158 : decode cX1_best 158 = .ok (.iload 5, 2) := dk_21 5 (dk_at dksX1_best_6 20 rfl rfl)
theorem dX1_best_160 : decode cX1_best 160 = .ok (.istore 6, 2) := dk_54 6 (dk_at dksX1_best_6 22 rfl rfl)
theorem dX1_best_162 : decode cX1_best 162 = .ok (.iload 6, 2) := dk_21 6 (dk_at dksX1_best_7 0 rfl rfl)
theorem dX1_best_164 : decode cX1_best 164 = .ok (.ifCond .lt 16, 3) := dk_155 0 16 (dk_at dksX1_best_7 2 rfl rfl)
theorem dX1_best_167 : decode cX1_best 167 = .ok (.aload_n 0, 1) := dk_42 (dk_at dksX1_best_7 5 rfl rfl)
theorem dX1_best_168 : decode cX1_best 168 = .ok (.iload 6, 2) := dk_21 6 (dk_at dksX1_best_7 6 rfl rfl)
theorem dX1_best_170 : decode cX1_best 170 = .ok (.iload_n 2, 1) := dk_28 (dk_at dksX1_best_7 8 rfl rfl)
theorem dX1_best_171 : decode cX1_best 171 = .ok (.invokevirtual 265, 3) := dk_182 1 9 (dk_at dksX1_best_7 9 rfl rfl)
theorem dX1_best_174 : decode cX1_best 174 = .ok (.iinc 6 (-1), 3) := dk_132 6 255 (dk_at dksX1_best_7 12 rfl rfl)
theorem dX1_best_177 : decode cX1_best 177 = .ok (.goto (-15), 3) := dk_167 255 241 (dk_at dksX1_best_7 15 rfl rfl)
theorem dX1_best_180 : decode cX1_best 180 = .ok (.aload_n 0, 1) := dk_42 (dk_at dksX1_best_7 18 rfl rfl)
theorem dX1_best_181 : decode cX1_best 181 = .ok (.getfield 43, 3) := dk_180 0 43 (dk_at dksX1_best_7 19 rfl rfl)
theorem dX1_best_184 : decode cX1_best 184 = .ok (.iload 4, 2) := dk_21 4 (dk_at dksX1_best_7 22 rfl rfl)
theorem dX1_best_186 : decode cX1_best 186 = .ok (.iaload, 1) := dk_46 (dk_at dksX1_best_8 0 rfl rfl)
theorem dX1_best_187 : decode cX1_best 187 = .ok (.ldc 249, 2) := dk_18 249 (dk_at dksX1_best_8 1 rfl rfl)
theorem dX1_best_189 : decode cX1_best 189 = .ok (.if_icmp .lt 5, 3) := dk_161 0 5 (dk_at dksX1_best_8 3 rfl rfl)
theorem dX1_best_192 : decode cX1_best 192 = .ok (.iconst (-1), 1) := dk_2 (dk_at dksX1_best_8 6 rfl rfl)
theorem dX1_best_193 : decode cX1_best 193 = .ok (.ireturn, 1) := dk_172 (dk_at dksX1_best_8 7 rfl rfl)
theorem dX1_best_194 : decode cX1_best 194 = .ok (.aload_n 0, 1) := dk_42 (dk_at dksX1_best_8 8 rfl rfl)
theorem dX1_best_195 : decode cX1_best 195 = .ok (.getfield 39, 3) := dk_180 0 39 (dk_at dksX1_best_8 9 rfl rfl)
theorem dX1_best_198 : decode cX1_best 198 = .ok (.invokevirtual 91, 3) := dk_182 0 91 (dk_at dksX1_best_8 12 rfl rfl)
theorem dX1_best_201 : decode cX1_best 201 = .ok (.iconst 0, 1) := dk_3 (dk_at dksX1_best_8 15 rfl rfl)
theorem dX1_best_202 : decode cX1_best 202 = .ok (.istore 6, 2) := dk_54 6 (dk_at dksX1_best_8 16 rfl rfl)
theorem dX1_best_204 : decode cX1_best 204 = .ok (.iload 4, 2) := dk_21 4 (dk_at dksX1_best_8 18 rfl rfl)
theorem dX1_best_206 : decode cX1_best 206 = .ok (.istore 7, 2) := dk_54 7 (dk_at dksX1_best_8 20 rfl rfl)
theorem dX1_best_208 : decode cX1_best 208 = .ok (.aload_n 0, 1) := dk_42 (dk_at dksX1_best_8 22 rfl rfl)
theorem dX1_best_209 : decode cX1_best 209 = .ok (.getfield 43, 3) := dk_180 0 43 (dk_at dksX1_best_9 0 rfl rfl)
theorem dX1_best_212 : decode cX1_best 212 = .ok (.bipush 60, 2) := dk_16 60 (dk_at dksX1_best_9 3 rfl rfl)
theorem dX1_best_214 : decode cX1_best 214 = .ok (.iload 6, 2) := dk_21 6 (dk_at dksX1_best_9 5 rfl rfl)
theorem dX1_best_216 : decode cX1_best 216 = .ok (.imul, 1) := dk_104 (dk_at dksX1_best_9 7 rfl rfl)
theorem dX1_best_217 : decode cX1_best 217 = .ok (.iload 7, 2) := dk_21 7 (dk_at dksX1_best_9 8 rfl rfl)
theorem dX1_best_219 : decode cX1_best 219 = .ok (.iadd, 1) := dk_96 (dk_at dksX1_best_9 10 rfl rfl)
theorem dX1_best_220 : decode cX1_best 220 = .ok (.iaload, 1) := dk_46 (dk_at dksX1_best_9 11 rfl rfl)
theorem dX1_best_221 : decode cX1_best 221 = .ok (.ifCond .le 85, 3) := dk_158 0 85 (dk_at dksX1_best_9 12 rfl rfl)
theorem dX1_best_224 : decode cX1_best 224 = .ok (.iconst 0, 1) := dk_3 (dk_at dksX1_best_9 15 rfl rfl)
theorem dX1_best_225 : decode cX1_best 225 = .ok (.istore 8, 2) := dk_54 8 (dk_at dksX1_best_9 16 rfl rfl)
theorem dX1_best_227 : decode cX1_best 227 = .ok (.aload_n 0, 1) := dk_42 (dk_at dksX1_best_9 18 rfl rfl)
theorem dX1_best_228 : decode cX1_best 228 = .ok (.iload 6, 2) := dk_21 6 (dk_at dksX1_best_9 19 rfl rfl)
theorem dX1_best_230 : decode cX1_best 230 = .ok (.iload 7, 2) := dk_21 7 (dk_at dksX1_best_9 21 rfl rfl)
theorem dX1_best_232 : decode cX1_best 232 = .ok (.iload 8, 2) := dk_21 8 (dk_at dksX1_best_10 0 rfl rfl)
theorem dX1_best_234 : decode cX1_best 234 = .ok (.iload_n 2, 1) := dk_28 (dk_at dksX1_best_10 2 rfl rfl)
theorem dX1_best_235 : decode cX1_best 235 = .ok (.invokevirtual 250, 3) := dk_182 0 250 (dk_at dksX1_best_10 3 rfl rfl)
theorem dX1_best_238 : decode cX1_best 238 = .ok (.aload_n 0, 1) := dk_42 (dk_at dksX1_best_10 6 rfl rfl)
theorem dX1_best_239 : decode cX1_best 239 = .ok (.getfield 43, 3) := dk_180 0 43 (dk_at dksX1_best_10 7 rfl rfl)
theorem dX1_best_242 : decode cX1_best 242 = .ok (.bipush 60, 2) := dk_16 60 (dk_at dksX1_best_10 10 rfl rfl)
theorem dX1_best_244 : decode cX1_best 244 = .ok (.iload 6, 2) := dk_21 6 (dk_at dksX1_best_10 12 rfl rfl)
theorem dX1_best_246 : decode cX1_best 246 = .ok (.imul, 1) := dk_104 (dk_at dksX1_best_10 14 rfl rfl)
theorem dX1_best_247 : decode cX1_best 247 = .ok (.iload 7, 2) := dk_21 7 (dk_at dksX1_best_10 15 rfl rfl)
theorem dX1_best_249 : decode cX1_best 249 = .ok (.iadd, 1) := dk_96 (dk_at dksX1_best_10 17 rfl rfl)
theorem dX1_best_250 : decode cX1_best 250 = .ok (.iaload, 1) := dk_46 (dk_at dksX1_best_10 18 rfl rfl)
theorem dX1_best_251 : decode cX1_best 251 = .ok (.if_icmp .eq 9, 3) := dk_159 0 9 (dk_at dksX1_best_10 19 rfl rfl)
theorem dX1_best_254 : decode cX1_best 254 = .ok (.iinc 8 1, 3) := dk_132 8 1 (dk_at dksX1_best_11 0 rfl rfl)
theorem dX1_best_257 : decode cX1_best 257 = .ok (.goto (-30), 3) := dk_167 255 226 (dk_at dksX1_best_11 3 rfl rfl)
theorem dX1_best_260 : decode cX1_best 260 = .ok (.aload_n 0, 1) := dk_42 (dk_at dksX1_best_11 6 rfl rfl)
theorem dX1_best_261 : decode cX1_best 261 = .ok (.getfield 39, 3) := dk_180 0 39 (dk_at dksX1_best_11 7 rfl rfl)
theorem dX1_best_264 : decode cX1_best 264 = .ok (.iload 8, 2) := dk_21 8 (dk_at dksX1_best_11 10 rfl rfl)
theorem dX1_best_266 : decode cX1_best 266 = .ok (.invokestatic 193, 3) := dk_184 0 193 (dk_at dksX1_best_11 12 rfl rfl)
theorem dX1_best_269 : decode cX1_best 269 = .ok (.invokevirtual 102, 3) := dk_182 0 102 (dk_at dksX1_best_11 15 rfl rfl)
theorem dX1_best_272 : decode cX1_best 272 = .ok (.pop, 1) := dk_87 (dk_at dksX1_best_11 18 rfl rfl)
theorem dX1_best_273 : decode cX1_best 273 = .ok (.bipush 8, 2) := dk_16 8 (dk_at dksX1_best_11 19 rfl rfl)
theorem dX1_best_275 : decode cX1_best 275 = .ok (.iload 7, 2) := dk_21 7 (dk_at dksX1_best_11 21 rfl rfl)
theorem dX1_best_277 : decode cX1_best 277 = .ok (.imul, 1) := dk_104 (dk_at dksX1_best_11 23 rfl rfl)
theorem dX1_best_278 : decode cX1_best 278 = .ok (.iload 8, 2) := dk_21 8 (dk_at dksX1_best_12 0 rfl rfl)
theorem dX1_best_280 : decode cX1_best 280 = .ok (.iadd, 1) := dk_96 (dk_at dksX1_best_12 2 rfl rfl)
theorem dX1_best_281 : decode cX1_best 281 = .ok (.istore 9, 2) := dk_54 9 (dk_at dksX1_best_12 3 rfl rfl)
theorem dX1_best_283 : decode cX1_best 283 = .ok (.aload_n 0, 1) := dk_42 (dk_at dksX1_best_12 5 rfl rfl)
theorem dX1_best_284 : decode cX1_best 284 = .ok (.iload 6, 2) := dk_21 6 (dk_at dksX1_best_12 6 rfl rfl)
theorem dX1_best_286 : decode cX1_best 286 = .ok (.iload 9, 2) := dk_21 9 (dk_at dksX1_best_12 8 rfl rfl)
theorem dX1_best_288 : decode cX1_best 288 = .ok (.iload_n 2, 1) := dk_28 (dk_at dksX1_best_12 10 rfl rfl)
theorem dX1_best_289 : decode cX1_best 289 = .ok (.invokevirtual 246, 3) := dk_182 0 246 (dk_at dksX1_best_12 11 rfl rfl)
theorem dX1_best_292 : decode cX1_best 292 = .ok (.istore 6, 2) := dk_54 6 (dk_at dksX1_best_12 14 rfl rfl)
theorem dX1_best_294 : decode cX1_best 294 = .ok (.aload_n 0, 1) := dk_42 (dk_at dksX1_best_12 16 rfl rfl)
theorem dX1_best_295 : decode cX1_best 295 = .ok (.getfield 49, 3) := dk_180 0 49 (dk_at dksX1_best_12 17 rfl rfl)
theorem dX1_best_298 : decode cX1_best 298 = .ok (.iload 9, 2) := dk_21 9 (dk_at dksX1_best_12 20 rfl rfl)
theorem dX1_best_300 : decode cX1_best 300 = .ok (.iaload, 1) := dk_46 (dk_at dksX1_best_12 22 rfl rfl)
theorem dX1_best_301 : decode cX1_best 301 = .ok (.istore 7, 2) := dk_54 7 (dk_at dksX1_best_13 0 rfl rfl)
theorem dX1_best_303 : decode cX1_best 303 = .ok (.goto (-95), 3) := dk_167 255 161 (dk_at dksX1_best_13 2 rfl rfl)
theorem dX1_best_306 : decode cX1_best 306 = .ok (.aload_n 0, 1) := dk_42 (dk_at dksX1_best_13 5 rfl rfl)
theorem dX1_best_307 : decode cX1_best 307 = .ok (.getfield 43, 3) := dk_180 0 43 (dk_at dksX1_best_13 6 rfl rfl)
theorem dX1_best_310 : decode cX1_best 310 = .ok (.iload 4, 2) := dk_21 4 (dk_at dksX1_best_13 9 rfl rfl)
theorem dX1_best_312 : decode cX1_best 312 = .ok (.iaload, 1) := dk_46 (dk_at dksX1_best_13 11 rfl rfl)
theorem dX1_best_313 : decode cX1_best 313 = .ok (.sipush 1024, 3) := dk_17 4 0 (dk_at dksX1_best_13 12 rfl rfl)
theorem dX1_best_316 : decode cX1_best 316 = .ok (.idiv, 1) := dk_108 (dk_at dksX1_best_13 15 rfl rfl)
theorem dX1_best_317 : decode cX1_best 317 = .ok (.ireturn, 1) := dk_172 (dk_at dksX1_best_13 16 rfl rfl)
abbrev cX1_needed : ByteArray := prog_1_method_17_code
def yX1_needed : MethodName := ⟨RX1, "needed", "()I"⟩
def dkwX1_needed_1 : List UInt8 := [192, 0, 97, 180, 0, 138, 153, 0, 6, 132, 1, 1, 132, 2, 1, 167, 255, 222, 27, 172]
abbrev dktX1_needed_1 : List UInt8 := dkwX1_needed_1 ++ []
def dkwX1_needed_0 : List UInt8 := [3, 60, 3, 61, 28, 42, 180, 0, 24, 182, 0, 110, 162, 0, 29, 42, 180, 0, 24, 28, 182, 0, 114]
abbrev dktX1_needed_0 : List UInt8 := dkwX1_needed_0 ++ dktX1_needed_1
theorem dksX1_needed_0 : cX1_needed.data.toList.drop 0 = dktX1_needed_0 := by decide +kernel
theorem dksX1_needed_1 : cX1_needed.data.toList.drop 23 = dktX1_needed_1 := dk_seg dksX1_needed_0 23 rfl rfl
theorem dX1_needed_0 : decode cX1_needed 0 = .ok (.iconst 0, 1) := dk_3 (dk_at dksX1_needed_0 0 rfl rfl)
theorem dX1_needed_1 : decode cX1_needed 1 = .ok (.istore_n 1, 1) := dk_60 (dk_at dksX1_needed_0 1 rfl rfl)
theorem dX1_needed_2 : decode cX1_needed 2 = .ok (.iconst 0, 1) := dk_3 (dk_at dksX1_needed_0 2 rfl rfl)
theorem dX1_needed_3 : decode cX1_needed 3 = .ok (.istore_n 2, 1) := dk_61 (dk_at dksX1_needed_0 3 rfl rfl)
theorem dX1_needed_4 : decode cX1_needed 4 = .ok (.iload_n 2, 1) := dk_28 (dk_at dksX1_needed_0 4 rfl rfl)
theorem dX1_needed_5 : decode cX1_needed 5 = .ok (.aload_n 0, 1) := dk_42 (dk_at dksX1_needed_0 5 rfl rfl)
theorem dX1_needed_6 : decode cX1_needed 6 = .ok (.getfield 24, 3) := dk_180 0 24 (dk_at dksX1_needed_0 6 rfl rfl)
theorem dX1_needed_9 : decode cX1_needed 9 = .ok (.invokevirtual 110, 3) := dk_182 0 110 (dk_at dksX1_needed_0 9 rfl rfl)
theorem dX1_needed_12 : decode cX1_needed 12 = .ok (.if_icmp .ge 29, 3) := dk_162 0 29 (dk_at dksX1_needed_0 12 rfl rfl)
theorem dX1_needed_15 : decode cX1_needed 15 = .ok (.aload_n 0, 1) := dk_42 (dk_at dksX1_needed_0 15 rfl rfl)
theorem dX1_needed_16 : decode cX1_needed 16 = .ok (.getfield 24, 3) := dk_180 0 24 (dk_at dksX1_needed_0 16 rfl rfl)
theorem dX1_needed_19 : decode cX1_needed 19 = .ok (.iload_n 2, 1) := dk_28 (dk_at dksX1_needed_0 19 rfl rfl)
theorem dX1_needed_20 : decode cX1_needed 20 = .ok (.invokevirtual 114, 3) := dk_182 0 114 (dk_at dksX1_needed_0 20 rfl rfl)
theorem dX1_needed_23 : decode cX1_needed 23 = .ok (.checkcast 97, 3) := dk_192 0 97 (dk_at dksX1_needed_1 0 rfl rfl)
theorem dX1_needed_26 : decode cX1_needed 26 = .ok (.getfield 138, 3) := dk_180 0 138 (dk_at dksX1_needed_1 3 rfl rfl)
theorem dX1_needed_29 : decode cX1_needed 29 = .ok (.ifCond .eq 6, 3) := dk_153 0 6 (dk_at dksX1_needed_1 6 rfl rfl)
theorem dX1_needed_32 : decode cX1_needed 32 = .ok (.iinc 1 1, 3) := dk_132 1 1 (dk_at dksX1_needed_1 9 rfl rfl)
theorem dX1_needed_35 : decode cX1_needed 35 = .ok (.iinc 2 1, 3) := dk_132 2 1 (dk_at dksX1_needed_1 12 rfl rfl)
theorem dX1_needed_38 : decode cX1_needed 38 = .ok (.goto (-34), 3) := dk_167 255 222 (dk_at dksX1_needed_1 15 rfl rfl)
theorem dX1_needed_41 : decode cX1_needed 41 = .ok (.iload_n 1, 1) := dk_27 (dk_at dksX1_needed_1 18 rfl rfl)
theorem dX1_needed_42 : decode cX1_needed 42 = .ok (.ireturn, 1) := dk_172 (dk_at dksX1_needed_1 19 rfl rfl)
abbrev cX1_settles : ByteArray := prog_1_method_45_code
def yX1_settles : MethodName := ⟨RX1, "settles", "(IZ)V"⟩
def dkwX1_settles_12 : List UInt8 := [167, 255, 159, 167, 255, 61]
abbrev dktX1_settles_12 : List UInt8 := dkwX1_settles_12 ++ []
def dkwX1_settles_11 : List UInt8 := [96, 46, 42, 27, 21, 6, 21, 5, 16, 8, 112, 28, 182, 0, 250, 184, 0, 254, 79, 132, 4, 1]
abbrev dktX1_settles_11 : List UInt8 := dkwX1_settles_11 ++ dktX1_settles_12
def dkwX1_settles_10 : List UInt8 := [160, 0, 43, 42, 180, 0, 43, 16, 60, 27, 104, 21, 6, 96, 42, 180, 0, 43, 16, 60, 27, 104, 21, 6]
abbrev dktX1_settles_10 : List UInt8 := dkwX1_settles_10 ++ dktX1_settles_11
def dkwX1_settles_9 : List UInt8 := [16, 8, 108, 54, 6, 42, 180, 0, 64, 21, 6, 51, 154, 0, 55, 42, 27, 21, 5, 28, 182, 0, 246, 27]
abbrev dktX1_settles_9 : List UInt8 := dkwX1_settles_9 ++ dktX1_settles_10
def dkwX1_settles_8 : List UInt8 := [180, 0, 61, 29, 46, 162, 0, 92, 42, 180, 0, 58, 16, 8, 29, 104, 21, 4, 96, 46, 54, 5, 21, 5]
abbrev dktX1_settles_8 : List UInt8 := dkwX1_settles_8 ++ dktX1_settles_9
def dkwX1_settles_7 : List UInt8 := [167, 255, 185, 29, 2, 160, 0, 4, 177, 42, 180, 0, 64, 29, 4, 84, 3, 54, 4, 21, 4, 42]
abbrev dktX1_settles_7 : List UInt8 := dkwX1_settles_7 ++ dktX1_settles_8
def dkwX1_settles_6 : List UInt8 := [21, 4, 96, 46, 42, 180, 0, 43, 16, 60, 27, 104, 29, 96, 46, 162, 0, 6, 21, 4, 62, 132, 4, 1]
abbrev dktX1_settles_6 : List UInt8 := dkwX1_settles_6 ++ dktX1_settles_7
def dkwX1_settles_5 : List UInt8 := [104, 21, 4, 96, 46, 18, 249, 162, 0, 37, 29, 2, 159, 0, 29, 42, 180, 0, 43, 16, 60, 27, 104]
abbrev dktX1_settles_5 : List UInt8 := dkwX1_settles_5 ++ dktX1_settles_6
def dkwX1_settles_4 : List UInt8 := [21, 4, 16, 60, 162, 0, 70, 42, 180, 0, 64, 21, 4, 51, 154, 0, 54, 42, 180, 0, 43, 16, 60, 27]
abbrev dktX1_settles_4 : List UInt8 := dkwX1_settles_4 ++ dktX1_settles_5
def dkwX1_settles_3 : List UInt8 := [182, 0, 250, 184, 0, 254, 79, 132, 4, 1, 167, 255, 195, 132, 3, 1, 167, 255, 173, 2, 62, 3, 54, 4]
abbrev dktX1_settles_3 : List UInt8 := dkwX1_settles_3 ++ dktX1_settles_4
def dkwX1_settles_2 : List UInt8 := [16, 60, 27, 104, 29, 96, 42, 180, 0, 43, 16, 60, 27, 104, 29, 96, 46, 42, 27, 29, 21, 4, 28]
abbrev dktX1_settles_2 : List UInt8 := dkwX1_settles_2 ++ dktX1_settles_3
def dkwX1_settles_1 : List UInt8 := [162, 0, 60, 42, 27, 16, 8, 29, 104, 21, 4, 96, 28, 182, 0, 246, 27, 164, 0, 37, 42, 180, 0, 43]
abbrev dktX1_settles_1 : List UInt8 := dkwX1_settles_1 ++ dktX1_settles_2
def dkwX1_settles_0 : List UInt8 := [3, 62, 29, 16, 60, 162, 0, 83, 42, 180, 0, 64, 29, 3, 84, 3, 54, 4, 21, 4, 16, 8]
abbrev dktX1_settles_0 : List UInt8 := dkwX1_settles_0 ++ dktX1_settles_1
theorem dksX1_settles_0 : cX1_settles.data.toList.drop 0 = dktX1_settles_0 := by decide +kernel
theorem dksX1_settles_1 : cX1_settles.data.toList.drop 22 = dktX1_settles_1 := dk_seg dksX1_settles_0 22 rfl rfl
theorem dksX1_settles_2 : cX1_settles.data.toList.drop 46 = dktX1_settles_2 := dk_seg dksX1_settles_1 24 rfl rfl
theorem dksX1_settles_3 : cX1_settles.data.toList.drop 69 = dktX1_settles_3 := dk_seg dksX1_settles_2 23 rfl rfl
theorem dksX1_settles_4 : cX1_settles.data.toList.drop 93 = dktX1_settles_4 := dk_seg dksX1_settles_3 24 rfl rfl
theorem dksX1_settles_5 : cX1_settles.data.toList.drop 117 = dktX1_settles_5 := dk_seg dksX1_settles_4 24 rfl rfl
theorem dksX1_settles_6 : cX1_settles.data.toList.drop 140 = dktX1_settles_6 := dk_seg dksX1_settles_5 23 rfl rfl
theorem dksX1_settles_7 : cX1_settles.data.toList.drop 164 = dktX1_settles_7 := dk_seg dksX1_settles_6 24 rfl rfl
theorem dksX1_settles_8 : cX1_settles.data.toList.drop 186 = dktX1_settles_8 := dk_seg dksX1_settles_7 22 rfl rfl
theorem dksX1_settles_9 : cX1_settles.data.toList.drop 210 = dktX1_settles_9 := dk_seg dksX1_settles_8 24 rfl rfl
theorem dksX1_settles_10 : cX1_settles.data.toList.drop 234 = dktX1_settles_10 := dk_seg dksX1_settles_9 24 rfl rfl
theorem dksX1_settles_11 : cX1_settles.data.toList.drop 258 = dktX1_settles_11 := dk_seg dksX1_settles_10 24 rfl rfl
theorem dksX1_settles_12 : cX1_settles.data.toList.drop 280 = dktX1_settles_12 := dk_seg dksX1_settles_11 22 rfl rfl
theorem dX1_settles_0 : decode cX1_settles 0 = .ok (.iconst 0, 1) := dk_3 (dk_at dksX1_settles_0 0 rfl rfl)
theorem dX1_settles_1 : decode cX1_settles 1 = .ok (.istore_n 3, 1) := dk_62 (dk_at dksX1_settles_0 1 rfl rfl)
theorem dX1_settles_2 : decode cX1_settles 2 = .ok (.iload_n 3, 1) := dk_29 (dk_at dksX1_settles_0 2 rfl rfl)
theorem dX1_settles_3 : decode cX1_settles 3 = .ok (.bipush 60, 2) := dk_16 60 (dk_at dksX1_settles_0 3 rfl rfl)
theorem dX1_settles_5 : decode cX1_settles 5 = .ok (.if_icmp .ge 83, 3) := dk_162 0 83 (dk_at dksX1_settles_0 5 rfl rfl)
theorem dX1_settles_8 : decode cX1_settles 8 = .ok (.aload_n 0, 1) := dk_42 (dk_at dksX1_settles_0 8 rfl rfl)
theorem dX1_settles_9 : decode cX1_settles 9 = .ok (.getfield 64, 3) := dk_180 0 64 (dk_at dksX1_settles_0 9 rfl rfl)
theorem dX1_settles_12 : decode cX1_settles 12 = .ok (.iload_n 3, 1) := dk_29 (dk_at dksX1_settles_0 12 rfl rfl)
theorem dX1_settles_13 : decode cX1_settles 13 = .ok (.iconst 0, 1) := dk_3 (dk_at dksX1_settles_0 13 rfl rfl)
theorem dX1_settles_14 : decode cX1_settles 14 = .ok (.bastore, 1) := dk_84 (dk_at dksX1_settles_0 14 rfl rfl)
theorem dX1_settles_15 : decode cX1_settles 15 = .ok (.iconst 0, 1) := dk_3 (dk_at dksX1_settles_0 15 rfl rfl)
theorem dX1_settles_16 : decode cX1_settles 16 = .ok (.istore 4, 2) := dk_54 4 (dk_at dksX1_settles_0 16 rfl rfl)
theorem dX1_settles_18 : decode cX1_settles 18 = .ok (.iload 4, 2) := dk_21 4 (dk_at dksX1_settles_0 18 rfl rfl)
theorem dX1_settles_20 : decode cX1_settles 20 = .ok (.bipush 8, 2) := dk_16 8 (dk_at dksX1_settles_0 20 rfl rfl)
theorem dX1_settles_22 : decode cX1_settles 22 = .ok (.if_icmp .ge 60, 3) := dk_162 0 60 (dk_at dksX1_settles_1 0 rfl rfl)
theorem dX1_settles_25 : decode cX1_settles 25 = .ok (.aload_n 0, 1) := dk_42 (dk_at dksX1_settles_1 3 rfl rfl)
theorem dX1_settles_26 : decode cX1_settles 26 = .ok (.iload_n 1, 1) := dk_27 (dk_at dksX1_settles_1 4 rfl rfl)
theorem dX1_settles_27 : decode cX1_settles 27 = .ok (.bipush 8, 2) := dk_16 8 (dk_at dksX1_settles_1 5 rfl rfl)
theorem dX1_settles_29 : decode cX1_settles 29 = .ok (.iload_n 3, 1) := dk_29 (dk_at dksX1_settles_1 7 rfl rfl)
theorem dX1_settles_30 : decode cX1_settles 30 = .ok (.imul, 1) := dk_104 (dk_at dksX1_settles_1 8 rfl rfl)
theorem dX1_settles_31 : decode cX1_settles 31 = .ok (.iload 4, 2) := dk_21 4 (dk_at dksX1_settles_1 9 rfl rfl)
theorem dX1_settles_33 : decode cX1_settles 33 = .ok (.iadd, 1) := dk_96 (dk_at dksX1_settles_1 11 rfl rfl)
theorem dX1_settles_34 : decode cX1_settles 34 = .ok (.iload_n 2, 1) := dk_28 (dk_at dksX1_settles_1 12 rfl rfl)
theorem dX1_settles_35 : decode cX1_settles 35 = .ok (.invokevirtual 246, 3) := dk_182 0 246 (dk_at dksX1_settles_1 13 rfl rfl)
theorem dX1_settles_38 : decode cX1_settles 38 = .ok (.iload_n 1, 1) := dk_27 (dk_at dksX1_settles_1 16 rfl rfl)
theorem dX1_settles_39 : decode cX1_settles 39 = .ok (.if_icmp .le 37, 3) := dk_164 0 37 (dk_at dksX1_settles_1 17 rfl rfl)
theorem dX1_settles_42 : decode cX1_settles 42 = .ok (.aload_n 0, 1) := dk_42 (dk_at dksX1_settles_1 20 rfl rfl)
theorem dX1_settles_43 : decode cX1_settles 43 = .ok (.getfield 43, 3) := dk_180 0 43 (dk_at dksX1_settles_1 21 rfl rfl)
theorem dX1_settles_46 : decode cX1_settles 46 = .ok (.bipush 60, 2) := dk_16 60 (dk_at dksX1_settles_2 0 rfl rfl)
theorem dX1_settles_48 : decode cX1_settles 48 = .ok (.iload_n 1, 1) := dk_27 (dk_at dksX1_settles_2 2 rfl rfl)
theorem dX1_settles_49 : decode cX1_settles 49 = .ok (.imul, 1) := dk_104 (dk_at dksX1_settles_2 3 rfl rfl)
theorem dX1_settles_50 : decode cX1_settles 50 = .ok (.iload_n 3, 1) := dk_29 (dk_at dksX1_settles_2 4 rfl rfl)
theorem dX1_settles_51 : decode cX1_settles 51 = .ok (.iadd, 1) := dk_96 (dk_at dksX1_settles_2 5 rfl rfl)
theorem dX1_settles_52 : decode cX1_settles 52 = .ok (.aload_n 0, 1) := dk_42 (dk_at dksX1_settles_2 6 rfl rfl)
theorem dX1_settles_53 : decode cX1_settles 53 = .ok (.getfield 43, 3) := dk_180 0 43 (dk_at dksX1_settles_2 7 rfl rfl)
theorem dX1_settles_56 : decode cX1_settles 56 = .ok (.bipush 60, 2) := dk_16 60 (dk_at dksX1_settles_2 10 rfl rfl)
theorem dX1_settles_58 : decode cX1_settles 58 = .ok (.iload_n 1, 1) := dk_27 (dk_at dksX1_settles_2 12 rfl rfl)
theorem dX1_settles_59 : decode cX1_settles 59 = .ok (.imul, 1) := dk_104 (dk_at dksX1_settles_2 13 rfl rfl)
theorem dX1_settles_60 : decode cX1_settles 60 = .ok (.iload_n 3, 1) := dk_29 (dk_at dksX1_settles_2 14 rfl rfl)
theorem dX1_settles_61 : decode cX1_settles 61 = .ok (.iadd, 1) := dk_96 (dk_at dksX1_settles_2 15 rfl rfl)
theorem dX1_settles_62 : decode cX1_settles 62 = .ok (.iaload, 1) := dk_46 (dk_at dksX1_settles_2 16 rfl rfl)
theorem dX1_settles_63 : decode cX1_settles 63 = .ok (.aload_n 0, 1) := dk_42 (dk_at dksX1_settles_2 17 rfl rfl)
theorem dX1_settles_64 : decode cX1_settles 64 = .ok (.iload_n 1, 1) := dk_27 (dk_at dksX1_settles_2 18 rfl rfl)
theorem dX1_settles_65 : decode cX1_settles 65 = .ok (.iload_n 3, 1) := dk_29 (dk_at dksX1_settles_2 19 rfl rfl)
theorem dX1_settles_66 : decode cX1_settles 66 = .ok (.iload 4, 2) := dk_21 4 (dk_at dksX1_settles_2 20 rfl rfl)
theorem dX1_settles_68 : decode cX1_settles 68 = .ok (.iload_n 2, 1) := dk_28 (dk_at dksX1_settles_2 22 rfl rfl)
theorem dX1_settles_69 : decode cX1_settles 69 = .ok (.invokevirtual 250, 3) := dk_182 0 250 (dk_at dksX1_settles_3 0 rfl rfl)
theorem dX1_settles_72 : decode cX1_settles 72 = .ok (.invokestatic 254, 3) := dk_184 0 254 (dk_at dksX1_settles_3 3 rfl rfl)
theorem dX1_settles_75 : decode cX1_settles 75 = .ok (.iastore, 1) := dk_79 (dk_at dksX1_settles_3 6 rfl rfl)
theorem dX1_settles_76 : decode cX1_settles 76 = .ok (.iinc 4 1, 3) := dk_132 4 1 (dk_at dksX1_settles_3 7 rfl rfl)
theorem dX1_settles_79 : decode cX1_settles 79 = .ok (.goto (-61), 3) := dk_167 255 195 (dk_at dksX1_settles_3 10 rfl rfl)
theorem dX1_settles_82 : decode cX1_settles 82 = .ok (.iinc 3 1, 3) := dk_132 3 1 (dk_at dksX1_settles_3 13 rfl rfl)
theorem dX1_settles_85 : decode cX1_settles 85 = .ok (.goto (-83), 3) := dk_167 255 173 (dk_at dksX1_settles_3 16 rfl rfl)
theorem dX1_settles_88 : decode cX1_settles 88 = .ok (.iconst (-1), 1) := dk_2 (dk_at dksX1_settles_3 19 rfl rfl)
theorem dX1_settles_89 : decode cX1_settles 89 = .ok (.istore_n 3, 1) := dk_62 (dk_at dksX1_settles_3 20 rfl rfl)
theorem dX1_settles_90 : decode cX1_settles 90 = .ok (.iconst 0, 1) := dk_3 (dk_at dksX1_settles_3 21 rfl rfl)
theorem dX1_settles_91 : decode cX1_settles 91 = .ok (.istore 4, 2) := dk_54 4 (dk_at dksX1_settles_3 22 rfl rfl)
theorem dX1_settles_93 : decode cX1_settles 93 = .ok (.iload 4, 2) := dk_21 4 (dk_at dksX1_settles_4 0 rfl rfl)
theorem dX1_settles_95 : decode cX1_settles 95 = .ok (.bipush 60, 2) := dk_16 60 (dk_at dksX1_settles_4 2 rfl rfl)
theorem dX1_settles_97 : decode cX1_settles 97 = .ok (.if_icmp .ge 70, 3) := dk_162 0 70 (dk_at dksX1_settles_4 4 rfl rfl)
theorem dX1_settles_100 : decode cX1_settles 100 = .ok (.aload_n 0, 1) := dk_42 (dk_at dksX1_settles_4 7 rfl rfl)
theorem dX1_settles_101 : decode cX1_settles 101 = .ok (.getfield 64, 3) := dk_180 0 64 (dk_at dksX1_settles_4 8 rfl rfl)
theorem dX1_settles_104 : decode cX1_settles 104 = .ok (.iload 4, 2) := dk_21 4 (dk_at dksX1_settles_4 11 rfl rfl)
theorem dX1_settles_106 : decode cX1_settles 106 = .ok (.baload, 1) := dk_51 (dk_at dksX1_settles_4 13 rfl rfl)
theorem dX1_settles_107 : decode cX1_settles 107 = .ok (.ifCond .ne 54, 3) := dk_154 0 54 (dk_at dksX1_settles_4 14 rfl rfl)
theorem dX1_settles_110 : decode cX1_settles 110 = .ok (.aload_n 0, 1) := dk_42 (dk_at dksX1_settles_4 17 rfl rfl)
theorem dX1_settles_111 : decode cX1_settles 111 = .ok (.getfield 43, 3) := dk_180 0 43 (dk_at dksX1_settles_4 18 rfl rfl)
theorem dX1_settles_114 : decode cX1_settles 114 = .ok (.bipush 60, 2) := dk_16 60 (dk_at dksX1_settles_4 21 rfl rfl)
theorem dX1_settles_116 : decode cX1_settles 116 = .ok (.iload_n 1, 1) := dk_27 (dk_at dksX1_settles_4 23 rfl rfl)
theorem dX1_settles_117 : decode cX1_settles 117 = .ok (.imul, 1) := dk_104 (dk_at dksX1_settles_5 0 rfl rfl)
theorem dX1_settles_118 : decode cX1_settles 118 = .ok (.iload 4, 2) := dk_21 4 (dk_at dksX1_settles_5 1 rfl rfl)
theorem dX1_settles_120 : decode cX1_settles 120 = .ok (.iadd, 1) := dk_96 (dk_at dksX1_settles_5 3 rfl rfl)
theorem dX1_settles_121 : decode cX1_settles 121 = .ok (.iaload, 1) := dk_46 (dk_at dksX1_settles_5 4 rfl rfl)
theorem dX1_settles_122 : decode cX1_settles 122 = .ok (.ldc 249, 2) := dk_18 249 (dk_at dksX1_settles_5 5 rfl rfl)
theorem dX1_settles_124 : decode cX1_settles 124 = .ok (.if_icmp .ge 37, 3) := dk_162 0 37 (dk_at dksX1_settles_5 7 rfl rfl)
theorem dX1_settles_127 : decode cX1_settles 127 = .ok (.iload_n 3, 1) := dk_29 (dk_at dksX1_settles_5 10 rfl rfl)
theorem dX1_settles_128 : decode cX1_settles 128 = .ok (.iconst (-1), 1) := dk_2 (dk_at dksX1_settles_5 11 rfl rfl)
theorem dX1_settles_129 : decode cX1_settles 129 = .ok (.if_icmp .eq 29, 3) := dk_159 0 29 (dk_at dksX1_settles_5 12 rfl rfl)
theorem dX1_settles_132 : decode cX1_settles 132 = .ok (.aload_n 0, 1) := dk_42 (dk_at dksX1_settles_5 15 rfl rfl)
theorem dX1_settles_133 : decode cX1_settles 133 = .ok (.getfield 43, 3) := dk_180 0 43 (dk_at dksX1_settles_5 16 rfl rfl)
theorem dX1_settles_136 : decode cX1_settles 136 = .ok (.bipush 60, 2) := dk_16 60 (dk_at dksX1_settles_5 19 rfl rfl)
theorem dX1_settles_138 : decode cX1_settles 138 = .ok (.iload_n 1, 1) := dk_27 (dk_at dksX1_settles_5 21 rfl rfl)
theorem dX1_settles_139 : decode cX1_settles 139 = .ok (.imul, 1) := dk_104 (dk_at dksX1_settles_5 22 rfl rfl)
theorem dX1_settles_140 : decode cX1_settles 140 = .ok (.iload 4, 2) := dk_21 4 (dk_at dksX1_settles_6 0 rfl rfl)
theorem dX1_settles_142 : decode cX1_settles 142 = .ok (.iadd, 1) := dk_96 (dk_at dksX1_settles_6 2 rfl rfl)
theorem dX1_settles_143 : decode cX1_settles 143 = .ok (.iaload, 1) := dk_46 (dk_at dksX1_settles_6 3 rfl rfl)
theorem dX1_settles_144 : decode cX1_settles 144 = .ok (.aload_n 0, 1) := dk_42 (dk_at dksX1_settles_6 4 rfl rfl)
theorem dX1_settles_145 : decode cX1_settles 145 = .ok (.getfield 43, 3) := dk_180 0 43 (dk_at dksX1_settles_6 5 rfl rfl)
theorem dX1_settles_148 : decode cX1_settles 148 = .ok (.bipush 60, 2) := dk_16 60 (dk_at dksX1_settles_6 8 rfl rfl)
theorem dX1_settles_150 : decode cX1_settles 150 = .ok (.iload_n 1, 1) := dk_27 (dk_at dksX1_settles_6 10 rfl rfl)
theorem dX1_settles_151 : decode cX1_settles 151 = .ok (.imul, 1) := dk_104 (dk_at dksX1_settles_6 11 rfl rfl)
theorem dX1_settles_152 : decode cX1_settles 152 = .ok (.iload_n 3, 1) := dk_29 (dk_at dksX1_settles_6 12 rfl rfl)
theorem dX1_settles_153 : decode cX1_settles 153 = .ok (.iadd, 1) := dk_96 (dk_at dksX1_settles_6 13 rfl rfl)
theorem dX1_settles_154 : decode cX1_settles 154 = .ok (.iaload, 1) := dk_46 (dk_at dksX1_settles_6 14 rfl rfl)
theorem dX1_settles_155 : decode cX1_settles 155 = .ok (.if_icmp .ge 6, 3) := dk_162 0 6 (dk_at dksX1_settles_6 15 rfl rfl)
theorem dX1_settles_158 : decode cX1_settles 158 = .ok (.iload 4, 2) := dk_21 4 (dk_at dksX1_settles_6 18 rfl rfl)
theorem dX1_settles_160 : decode cX1_settles 160 = .ok (.istore_n 3, 1) := dk_62 (dk_at dksX1_settles_6 20 rfl rfl)
theorem dX1_settles_161 : decode cX1_settles 161 = .ok (.iinc 4 1, 3) := dk_132 4 1 (dk_at dksX1_settles_6 21 rfl rfl)
theorem dX1_settles_164 : decode cX1_settles 164 = .ok (.goto (-71), 3) := dk_167 255 185 (dk_at dksX1_settles_7 0 rfl rfl)
theorem dX1_settles_167 : decode cX1_settles 167 = .ok (.iload_n 3, 1) := dk_29 (dk_at dksX1_settles_7 3 rfl rfl)
theorem dX1_settles_168 : decode cX1_settles 168 = .ok (.iconst (-1), 1) := dk_2 (dk_at dksX1_settles_7 4 rfl rfl)
theorem dX1_settles_169 : decode cX1_settles 169 = .ok (.if_icmp .ne 4, 3) := dk_160 0 4 (dk_at dksX1_settles_7 5 rfl rfl)
theorem dX1_settles_172 : decode cX1_settles 172 = .ok (.return_, 1) := dk_177 (dk_at dksX1_settles_7 8 rfl rfl)
theorem dX1_settles_173 : decode cX1_settles 173 = .ok (.aload_n 0, 1) := dk_42 (dk_at dksX1_settles_7 9 rfl rfl)
theorem dX1_settles_174 : decode cX1_settles 174 = .ok (.getfield 64, 3) := dk_180 0 64 (dk_at dksX1_settles_7 10 rfl rfl)
theorem dX1_settles_177 : decode cX1_settles 177 = .ok (.iload_n 3, 1) := dk_29 (dk_at dksX1_settles_7 13 rfl rfl)
theorem dX1_settles_178 : decode cX1_settles 178 = .ok (.iconst 1, 1) := dk_4 (dk_at dksX1_settles_7 14 rfl rfl)
theorem dX1_settles_179 : decode cX1_settles 179 = .ok (.bastore, 1) := dk_84 (dk_at dksX1_settles_7 15 rfl rfl)
theorem dX1_settles_180 : decode cX1_settles 180 = .ok (.iconst 0, 1) := dk_3 (dk_at dksX1_settles_7 16 rfl rfl)
theorem dX1_settles_181 : decode cX1_settles 181 = .ok (.istore 4, 2) := dk_54 4 (dk_at dksX1_settles_7 17 rfl rfl)
theorem dX1_settles_183 : decode cX1_settles 183 = .ok (.iload 4, 2) := dk_21 4 (dk_at dksX1_settles_7 19 rfl rfl)
theorem dX1_settles_185 : decode cX1_settles 185 = .ok (.aload_n 0, 1) := dk_42 (dk_at dksX1_settles_7 21 rfl rfl)
theorem dX1_settles_186 : decode cX1_settles 186 = .ok (.getfield 61, 3) := dk_180 0 61 (dk_at dksX1_settles_8 0 rfl rfl)
theorem dX1_settles_189 : decode cX1_settles 189 = .ok (.iload_n 3, 1) := dk_29 (dk_at dksX1_settles_8 3 rfl rfl)
theorem dX1_settles_190 : decode cX1_settles 190 = .ok (.iaload, 1) := dk_46 (dk_at dksX1_settles_8 4 rfl rfl)
theorem dX1_settles_191 : decode cX1_settles 191 = .ok (.if_icmp .ge 92, 3) := dk_162 0 92 (dk_at dksX1_settles_8 5 rfl rfl)
theorem dX1_settles_194 : decode cX1_settles 194 = .ok (.aload_n 0, 1) := dk_42 (dk_at dksX1_settles_8 8 rfl rfl)
theorem dX1_settles_195 : decode cX1_settles 195 = .ok (.getfield 58, 3) := dk_180 0 58 (dk_at dksX1_settles_8 9 rfl rfl)
theorem dX1_settles_198 : decode cX1_settles 198 = .ok (.bipush 8, 2) := dk_16 8 (dk_at dksX1_settles_8 12 rfl rfl)
theorem dX1_settles_200 : decode cX1_settles 200 = .ok (.iload_n 3, 1) := dk_29 (dk_at dksX1_settles_8 14 rfl rfl)
theorem dX1_settles_201 : decode cX1_settles 201 = .ok (.imul, 1) := dk_104 (dk_at dksX1_settles_8 15 rfl rfl)
theorem dX1_settles_202 : decode cX1_settles 202 = .ok (.iload 4, 2) := dk_21 4 (dk_at dksX1_settles_8 16 rfl rfl)
theorem dX1_settles_204 : decode cX1_settles 204 = .ok (.iadd, 1) := dk_96 (dk_at dksX1_settles_8 18 rfl rfl)
theorem dX1_settles_205 : decode cX1_settles 205 = .ok (.iaload, 1) := dk_46 (dk_at dksX1_settles_8 19 rfl rfl)
theorem dX1_settles_206 : decode cX1_settles 206 = .ok (.istore 5, 2) := dk_54 5 (dk_at dksX1_settles_8 20 rfl rfl)
theorem dX1_settles_208 : decode cX1_settles 208 = .ok (.iload 5, 2) := dk_21 5 (dk_at dksX1_settles_8 22 rfl rfl)
theorem dX1_settles_210 : decode cX1_settles 210 = .ok (.bipush 8, 2) := dk_16 8 (dk_at dksX1_settles_9 0 rfl rfl)
theorem dX1_settles_212 : decode cX1_settles 212 = .ok (.idiv, 1) := dk_108 (dk_at dksX1_settles_9 2 rfl rfl)
theorem dX1_settles_213 : decode cX1_settles 213 = .ok (.istore 6, 2) := dk_54 6 (dk_at dksX1_settles_9 3 rfl rfl)
theorem dX1_settles_215 : decode cX1_settles 215 = .ok (.aload_n 0, 1) := dk_42 (dk_at dksX1_settles_9 5 rfl rfl)
theorem dX1_settles_216 : decode cX1_settles 216 = .ok (.getfield 64, 3) := dk_180 0 64 (dk_at dksX1_settles_9 6 rfl rfl)
theorem dX1_settles_219 : decode cX1_settles 219 = .ok (.iload 6, 2) := dk_21 6 (dk_at dksX1_settles_9 9 rfl rfl)
theorem dX1_settles_221 : decode cX1_settles 221 = .ok (.baload, 1) := dk_51 (dk_at dksX1_settles_9 11 rfl rfl)
theorem dX1_settles_222 : decode cX1_settles 222 = .ok (.ifCond .ne 55, 3) := dk_154 0 55 (dk_at dksX1_settles_9 12 rfl rfl)
theorem dX1_settles_225 : decode cX1_settles 225 = .ok (.aload_n 0, 1) := dk_42 (dk_at dksX1_settles_9 15 rfl rfl)
theorem dX1_settles_226 : decode cX1_settles 226 = .ok (.iload_n 1, 1) := dk_27 (dk_at dksX1_settles_9 16 rfl rfl)
theorem dX1_settles_227 : decode cX1_settles 227 = .ok (.iload 5, 2) := dk_21 5 (dk_at dksX1_settles_9 17 rfl rfl)
theorem dX1_settles_229 : decode cX1_settles 229 = .ok (.iload_n 2, 1) := dk_28 (dk_at dksX1_settles_9 19 rfl rfl)
theorem dX1_settles_230 : decode cX1_settles 230 = .ok (.invokevirtual 246, 3) := dk_182 0 246 (dk_at dksX1_settles_9 20 rfl rfl)
theorem dX1_settles_233 : decode cX1_settles 233 = .ok (.iload_n 1, 1) := dk_27 (dk_at dksX1_settles_9 23 rfl rfl)
theorem dX1_settles_234 : decode cX1_settles 234 = .ok (.if_icmp .ne 43, 3) := dk_160 0 43 (dk_at dksX1_settles_10 0 rfl rfl)
theorem dX1_settles_237 : decode cX1_settles 237 = .ok (.aload_n 0, 1) := dk_42 (dk_at dksX1_settles_10 3 rfl rfl)
theorem dX1_settles_238 : decode cX1_settles 238 = .ok (.getfield 43, 3) := dk_180 0 43 (dk_at dksX1_settles_10 4 rfl rfl)
theorem dX1_settles_241 : decode cX1_settles 241 = .ok (.bipush 60, 2) := dk_16 60 (dk_at dksX1_settles_10 7 rfl rfl)
theorem dX1_settles_243 : decode cX1_settles 243 = .ok (.iload_n 1, 1) := dk_27 (dk_at dksX1_settles_10 9 rfl rfl)
theorem dX1_settles_244 : decode cX1_settles 244 = .ok (.imul, 1) := dk_104 (dk_at dksX1_settles_10 10 rfl rfl)
theorem dX1_settles_245 : decode cX1_settles 245 = .ok (.iload 6, 2) := dk_21 6 (dk_at dksX1_settles_10 11 rfl rfl)
theorem dX1_settles_247 : decode cX1_settles 247 = .ok (.iadd, 1) := dk_96 (dk_at dksX1_settles_10 13 rfl rfl)
theorem dX1_settles_248 : decode cX1_settles 248 = .ok (.aload_n 0, 1) := dk_42 (dk_at dksX1_settles_10 14 rfl rfl)
theorem dX1_settles_249 : decode cX1_settles 249 = .ok (.getfield 43, 3) := dk_180 0 43 (dk_at dksX1_settles_10 15 rfl rfl)
theorem dX1_settles_252 : decode cX1_settles 252 = .ok (.bipush 60, 2) := dk_16 60 (dk_at dksX1_settles_10 18 rfl rfl)
theorem dX1_settles_254 : decode cX1_settles 254 = .ok (.iload_n 1, 1) := dk_27 (dk_at dksX1_settles_10 20 rfl rfl)
theorem dX1_settles_255 : decode cX1_settles 255 = .ok (.imul, 1) := dk_104 (dk_at dksX1_settles_10 21 rfl rfl)
theorem dX1_settles_256 : decode cX1_settles 256 = .ok (.iload 6, 2) := dk_21 6 (dk_at dksX1_settles_10 22 rfl rfl)
theorem dX1_settles_258 : decode cX1_settles 258 = .ok (.iadd, 1) := dk_96 (dk_at dksX1_settles_11 0 rfl rfl)
theorem dX1_settles_259 : decode cX1_settles 259 = .ok (.iaload, 1) := dk_46 (dk_at dksX1_settles_11 1 rfl rfl)
theorem dX1_settles_260 : decode cX1_settles 260 = .ok (.aload_n 0, 1) := dk_42 (dk_at dksX1_settles_11 2 rfl rfl)
theorem dX1_settles_261 : decode cX1_settles 261 = .ok (.iload_n 1, 1) := dk_27 (dk_at dksX1_settles_11 3 rfl rfl)
theorem dX1_settles_262 : decode cX1_settles 262 = .ok (.iload 6, 2) := dk_21 6 (dk_at dksX1_settles_11 4 rfl rfl)
theorem dX1_settles_264 : decode cX1_settles 264 = .ok (.iload 5, 2) := dk_21 5 (dk_at dksX1_settles_11 6 rfl rfl)
theorem dX1_settles_266 : decode cX1_settles 266 = .ok (.bipush 8, 2) := dk_16 8 (dk_at dksX1_settles_11 8 rfl rfl)
theorem dX1_settles_268 : decode cX1_settles 268 = .ok (.irem, 1) := dk_112 (dk_at dksX1_settles_11 10 rfl rfl)
theorem dX1_settles_269 : decode cX1_settles 269 = .ok (.iload_n 2, 1) := dk_28 (dk_at dksX1_settles_11 11 rfl rfl)
theorem dX1_settles_270 : decode cX1_settles 270 = .ok (.invokevirtual 250, 3) := dk_182 0 250 (dk_at dksX1_settles_11 12 rfl rfl)
theorem dX1_settles_273 : decode cX1_settles 273 = .ok (.invokestatic 254, 3) := dk_184 0 254 (dk_at dksX1_settles_11 15 rfl rfl)
theorem dX1_settles_276 : decode cX1_settles 276 = .ok (.iastore, 1) := dk_79 (dk_at dksX1_settles_11 18 rfl rfl)
theorem dX1_settles_277 : decode cX1_settles 277 = .ok (.iinc 4 1, 3) := dk_132 4 1 (dk_at dksX1_settles_11 19 rfl rfl)
theorem dX1_settles_280 : decode cX1_settles 280 = .ok (.goto (-97), 3) := dk_167 255 159 (dk_at dksX1_settles_12 0 rfl rfl)
theorem dX1_settles_283 : decode cX1_settles 283 = .ok (.goto (-195), 3) := dk_167 255 61 (dk_at dksX1_settles_12 3 rfl rfl)
abbrev cX1_byMove : ByteArray := prog_1_method_44_code
def yX1_byMove : MethodName := ⟨RX1, "byMove", "(IIIZ)I"⟩
def dkwX1_byMove_3 : List UInt8 := [172]
abbrev dktX1_byMove_3 : List UInt8 := dkwX1_byMove_3 ++ []
def dkwX1_byMove_2 : List UInt8 := [54, 7, 21, 7, 18, 249, 161, 0, 8, 18, 249, 167, 0, 13, 21, 7, 42, 180, 0, 52, 21, 5, 46, 96]
abbrev dktX1_byMove_2 : List UInt8 := dkwX1_byMove_2 ++ dktX1_byMove_3
def dkwX1_byMove_1 : List UInt8 := [160, 0, 6, 18, 249, 172, 42, 180, 0, 43, 16, 60, 21, 6, 104, 42, 180, 0, 49, 21, 5, 46, 96, 46]
abbrev dktX1_byMove_1 : List UInt8 := dkwX1_byMove_1 ++ dktX1_byMove_2
def dkwX1_byMove_0 : List UInt8 := [16, 8, 28, 104, 29, 96, 54, 5, 42, 27, 21, 5, 21, 4, 182, 0, 246, 54, 6, 21, 6, 2]
abbrev dktX1_byMove_0 : List UInt8 := dkwX1_byMove_0 ++ dktX1_byMove_1
theorem dksX1_byMove_0 : cX1_byMove.data.toList.drop 0 = dktX1_byMove_0 := by decide +kernel
theorem dksX1_byMove_1 : cX1_byMove.data.toList.drop 22 = dktX1_byMove_1 := dk_seg dksX1_byMove_0 22 rfl rfl
theorem dksX1_byMove_2 : cX1_byMove.data.toList.drop 46 = dktX1_byMove_2 := dk_seg dksX1_byMove_1 24 rfl rfl
theorem dksX1_byMove_3 : cX1_byMove.data.toList.drop 70 = dktX1_byMove_3 := dk_seg dksX1_byMove_2 24 rfl rfl
theorem dX1_byMove_0 : decode cX1_byMove 0 = .ok (.bipush 8, 2) := dk_16 8 (dk_at dksX1_byMove_0 0 rfl rfl)
theorem dX1_byMove_2 : decode cX1_byMove 2 = .ok (.iload_n 2, 1) := dk_28 (dk_at dksX1_byMove_0 2 rfl rfl)
theorem dX1_byMove_3 : decode cX1_byMove 3 = .ok (.imul, 1) := dk_104 (dk_at dksX1_byMove_0 3 rfl rfl)
theorem dX1_byMove_4 : decode cX1_byMove 4 = .ok (.iload_n 3, 1) := dk_29 (dk_at dksX1_byMove_0 4 rfl rfl)
theorem dX1_byMove_5 : decode cX1_byMove 5 = .ok (.iadd, 1) := dk_96 (dk_at dksX1_byMove_0 5 rfl rfl)
theorem dX1_byMove_6 : decode cX1_byMove 6 = .ok (.istore 5, 2) := dk_54 5 (dk_at dksX1_byMove_0 6 rfl rfl)
theorem dX1_byMove_8 : decode cX1_byMove 8 = .ok (.aload_n 0, 1) := dk_42 (dk_at dksX1_byMove_0 8 rfl rfl)
theorem dX1_byMove_9 : decode cX1_byMove 9 = .ok (.iload_n 1, 1) := dk_27 (dk_at dksX1_byMove_0 9 rfl rfl)
theorem dX1_byMove_10 : decode cX1_byMove 10 = .ok (.iload 5, 2) := dk_21 5 (dk_at dksX1_byMove_0 10 rfl rfl)
theorem dX1_byMove_12 : decode cX1_byMove 12 = .ok (.iload 4, 2) := dk_21 4 (dk_at dksX1_byMove_0 12 rfl rfl)
theorem dX1_byMove_14 : decode cX1_byMove 14 = .ok (.invokevirtual 246, 3) := dk_182 0 246 (dk_at dksX1_byMove_0 14 rfl rfl)
theorem dX1_byMove_17 : decode cX1_byMove 17 = .ok (.istore 6, 2) := dk_54 6 (dk_at dksX1_byMove_0 17 rfl rfl)
theorem dX1_byMove_19 : decode cX1_byMove 19 = .ok (.iload 6, 2) := dk_21 6 (dk_at dksX1_byMove_0 19 rfl rfl)
theorem dX1_byMove_21 : decode cX1_byMove 21 = .ok (.iconst (-1), 1) := dk_2 (dk_at dksX1_byMove_0 21 rfl rfl)
theorem dX1_byMove_22 : decode cX1_byMove 22 = .ok (.if_icmp .ne 6, 3) := dk_160 0 6 (dk_at dksX1_byMove_1 0 rfl rfl)
theorem dX1_byMove_25 : decode cX1_byMove 25 = .ok (.ldc 249, 2) := dk_18 249 (dk_at dksX1_byMove_1 3 rfl rfl)
theorem dX1_byMove_27 : decode cX1_byMove 27 = .ok (.ireturn, 1) := dk_172 (dk_at dksX1_byMove_1 5 rfl rfl)
theorem dX1_byMove_28 : decode cX1_byMove 28 = .ok (.aload_n 0, 1) := dk_42 (dk_at dksX1_byMove_1 6 rfl rfl)
theorem dX1_byMove_29 : decode cX1_byMove 29 = .ok (.getfield 43, 3) := dk_180 0 43 (dk_at dksX1_byMove_1 7 rfl rfl)
theorem dX1_byMove_32 : decode cX1_byMove 32 = .ok (.bipush 60, 2) := dk_16 60 (dk_at dksX1_byMove_1 10 rfl rfl)
theorem dX1_byMove_34 : decode cX1_byMove 34 = .ok (.iload 6, 2) := dk_21 6 (dk_at dksX1_byMove_1 12 rfl rfl)
theorem dX1_byMove_36 : decode cX1_byMove 36 = .ok (.imul, 1) := dk_104 (dk_at dksX1_byMove_1 14 rfl rfl)
theorem dX1_byMove_37 : decode cX1_byMove 37 = .ok (.aload_n 0, 1) := dk_42 (dk_at dksX1_byMove_1 15 rfl rfl)
theorem dX1_byMove_38 : decode cX1_byMove 38 = .ok (.getfield 49, 3) := dk_180 0 49 (dk_at dksX1_byMove_1 16 rfl rfl)
theorem dX1_byMove_41 : decode cX1_byMove 41 = .ok (.iload 5, 2) := dk_21 5 (dk_at dksX1_byMove_1 19 rfl rfl)
theorem dX1_byMove_43 : decode cX1_byMove 43 = .ok (.iaload, 1) := dk_46 (dk_at dksX1_byMove_1 21 rfl rfl)
theorem dX1_byMove_44 : decode cX1_byMove 44 = .ok (.iadd, 1) := dk_96 (dk_at dksX1_byMove_1 22 rfl rfl)
theorem dX1_byMove_45 : decode cX1_byMove 45 = .ok (.iaload, 1) := dk_46 (dk_at dksX1_byMove_1 23 rfl rfl)
theorem dX1_byMove_46 : decode cX1_byMove 46 = .ok (.istore 7, 2) := dk_54 7 (dk_at dksX1_byMove_2 0 rfl rfl)
theorem dX1_byMove_48 : decode cX1_byMove 48 = .ok (.iload 7, 2) := dk_21 7 (dk_at dksX1_byMove_2 2 rfl rfl)
theorem dX1_byMove_50 : decode cX1_byMove 50 = .ok (.ldc 249, 2) := dk_18 249 (dk_at dksX1_byMove_2 4 rfl rfl)
theorem dX1_byMove_52 : decode cX1_byMove 52 = .ok (.if_icmp .lt 8, 3) := dk_161 0 8 (dk_at dksX1_byMove_2 6 rfl rfl)
theorem dX1_byMove_55 : decode cX1_byMove 55 = .ok (.ldc 249, 2) := dk_18 249 (dk_at dksX1_byMove_2 9 rfl rfl)
theorem dX1_byMove_57 : decode cX1_byMove 57 = .ok (.goto 13, 3) := dk_167 0 13 (dk_at dksX1_byMove_2 11 rfl rfl)
theorem dX1_byMove_60 : decode cX1_byMove 60 = .ok (.iload 7, 2) := dk_21 7 (dk_at dksX1_byMove_2 14 rfl rfl)
theorem dX1_byMove_62 : decode cX1_byMove 62 = .ok (.aload_n 0, 1) := dk_42 (dk_at dksX1_byMove_2 16 rfl rfl)
theorem dX1_byMove_63 : decode cX1_byMove 63 = .ok (.getfield 52, 3) := dk_180 0 52 (dk_at dksX1_byMove_2 17 rfl rfl)
theorem dX1_byMove_66 : decode cX1_byMove 66 = .ok (.iload 5, 2) := dk_21 5 (dk_at dksX1_byMove_2 20 rfl rfl)
theorem dX1_byMove_68 : decode cX1_byMove 68 = .ok (.iaload, 1) := dk_46 (dk_at dksX1_byMove_2 22 rfl rfl)
theorem dX1_byMove_69 : decode cX1_byMove 69 = .ok (.iadd, 1) := dk_96 (dk_at dksX1_byMove_2 23 rfl rfl)
theorem dX1_byMove_70 : decode cX1_byMove 70 = .ok (.ireturn, 1) := dk_172 (dk_at dksX1_byMove_3 0 rfl rfl)
abbrev cX1_move : ByteArray := prog_1_method_47_code
def yX1_move : MethodName := ⟨RX1, "move", "(I)I"⟩
def dkwX1_move_2 : List UInt8 := [192, 0, 194, 182, 0, 212, 172]
abbrev dktX1_move_2 : List UInt8 := dkwX1_move_2 ++ []
def dkwX1_move_1 : List UInt8 := [27, 2, 160, 0, 13, 42, 180, 0, 39, 182, 0, 110, 167, 0, 17, 42, 180, 0, 39, 27, 182, 0, 114]
abbrev dktX1_move_1 : List UInt8 := dkwX1_move_1 ++ dktX1_move_2
def dkwX1_move_0 : List UInt8 := [27, 2, 161, 0, 18, 27, 42, 180, 0, 39, 182, 0, 110, 162, 0, 7, 4, 167, 0, 4, 3, 184, 0, 106]
abbrev dktX1_move_0 : List UInt8 := dkwX1_move_0 ++ dktX1_move_1
theorem dksX1_move_0 : cX1_move.data.toList.drop 0 = dktX1_move_0 := by decide +kernel
theorem dksX1_move_1 : cX1_move.data.toList.drop 24 = dktX1_move_1 := dk_seg dksX1_move_0 24 rfl rfl
theorem dksX1_move_2 : cX1_move.data.toList.drop 47 = dktX1_move_2 := dk_seg dksX1_move_1 23 rfl rfl
theorem dX1_move_0 : decode cX1_move 0 = .ok (.iload_n 1, 1) := dk_27 (dk_at dksX1_move_0 0 rfl rfl)
theorem dX1_move_1 : decode cX1_move 1 = .ok (.iconst (-1), 1) := dk_2 (dk_at dksX1_move_0 1 rfl rfl)
theorem dX1_move_2 : decode cX1_move 2 = .ok (.if_icmp .lt 18, 3) := dk_161 0 18 (dk_at dksX1_move_0 2 rfl rfl)
theorem dX1_move_5 : decode cX1_move 5 = .ok (.iload_n 1, 1) := dk_27 (dk_at dksX1_move_0 5 rfl rfl)
theorem dX1_move_6 : decode cX1_move 6 = .ok (.aload_n 0, 1) := dk_42 (dk_at dksX1_move_0 6 rfl rfl)
theorem dX1_move_7 : decode cX1_move 7 = .ok (.getfield 39, 3) := dk_180 0 39 (dk_at dksX1_move_0 7 rfl rfl)
theorem dX1_move_10 : decode cX1_move 10 = .ok (.invokevirtual 110, 3) := dk_182 0 110 (dk_at dksX1_move_0 10 rfl rfl)
theorem dX1_move_13 : decode cX1_move 13 = .ok (.if_icmp .ge 7, 3) := dk_162 0 7 (dk_at dksX1_move_0 13 rfl rfl)
theorem dX1_move_16 : decode cX1_move 16 = .ok (.iconst 1, 1) := dk_4 (dk_at dksX1_move_0 16 rfl rfl)
theorem dX1_move_17 : decode cX1_move 17 = .ok (.goto 4, 3) := dk_167 0 4 (dk_at dksX1_move_0 17 rfl rfl)
theorem dX1_move_20 : decode cX1_move 20 = .ok (.iconst 0, 1) := dk_3 (dk_at dksX1_move_0 20 rfl rfl)
theorem dX1_move_21 : decode cX1_move 21 = .ok (.invokestatic 106, 3) := dk_184 0 106 (dk_at dksX1_move_0 21 rfl rfl)
theorem dX1_move_24 : decode cX1_move 24 = .ok (.iload_n 1, 1) := dk_27 (dk_at dksX1_move_1 0 rfl rfl)
theorem dX1_move_25 : decode cX1_move 25 = .ok (.iconst (-1), 1) := dk_2 (dk_at dksX1_move_1 1 rfl rfl)
theorem dX1_move_26 : decode cX1_move 26 = .ok (.if_icmp .ne 13, 3) := dk_160 0 13 (dk_at dksX1_move_1 2 rfl rfl)
theorem dX1_move_29 : decode cX1_move 29 = .ok (.aload_n 0, 1) := dk_42 (dk_at dksX1_move_1 5 rfl rfl)
theorem dX1_move_30 : decode cX1_move 30 = .ok (.getfield 39, 3) := dk_180 0 39 (dk_at dksX1_move_1 6 rfl rfl)
theorem dX1_move_33 : decode cX1_move 33 = .ok (.invokevirtual 110, 3) := dk_182 0 110 (dk_at dksX1_move_1 9 rfl rfl)
theorem dX1_move_36 : decode cX1_move 36 = .ok (.goto 17, 3) := dk_167 0 17 (dk_at dksX1_move_1 12 rfl rfl)
theorem dX1_move_39 : decode cX1_move 39 = .ok (.aload_n 0, 1) := dk_42 (dk_at dksX1_move_1 15 rfl rfl)
theorem dX1_move_40 : decode cX1_move 40 = .ok (.getfield 39, 3) := dk_180 0 39 (dk_at dksX1_move_1 16 rfl rfl)
theorem dX1_move_43 : decode cX1_move 43 = .ok (.iload_n 1, 1) := dk_27 (dk_at dksX1_move_1 19 rfl rfl)
theorem dX1_move_44 : decode cX1_move 44 = .ok (.invokevirtual 114, 3) := dk_182 0 114 (dk_at dksX1_move_1 20 rfl rfl)
theorem dX1_move_47 : decode cX1_move 47 = .ok (.checkcast 194, 3) := dk_192 0 194 (dk_at dksX1_move_2 0 rfl rfl)
theorem dX1_move_50 : decode cX1_move 50 = .ok (.invokevirtual 212, 3) := dk_182 0 212 (dk_at dksX1_move_2 3 rfl rfl)
theorem dX1_move_53 : decode cX1_move 53 = .ok (.ireturn, 1) := dk_172 (dk_at dksX1_move_2 6 rfl rfl)
abbrev cX1_count : ByteArray := prog_1_method_51_code
def yX1_count : MethodName := ⟨RX1, "count", "(I)I"⟩
def dkwX1_count_3 : List UInt8 := [180, 0, 159, 172]
abbrev dktX1_count_3 : List UInt8 := dkwX1_count_3 ++ []
def dkwX1_count_2 : List UInt8 := [180, 0, 28, 182, 0, 110, 167, 0, 19, 27, 6, 160, 0, 10, 42, 182, 1, 3, 167, 0, 7, 42]
abbrev dktX1_count_2 : List UInt8 := dkwX1_count_2 ++ dktX1_count_3
def dkwX1_count_1 : List UInt8 := [180, 0, 82, 167, 0, 46, 27, 4, 160, 0, 10, 42, 180, 0, 85, 167, 0, 34, 27, 5, 160, 0, 13, 42]
abbrev dktX1_count_1 : List UInt8 := dkwX1_count_1 ++ dktX1_count_2
def dkwX1_count_0 : List UInt8 := [27, 155, 0, 12, 27, 7, 163, 0, 7, 4, 167, 0, 4, 3, 184, 0, 106, 27, 154, 0, 10, 42]
abbrev dktX1_count_0 : List UInt8 := dkwX1_count_0 ++ dktX1_count_1
theorem dksX1_count_0 : cX1_count.data.toList.drop 0 = dktX1_count_0 := by decide +kernel
theorem dksX1_count_1 : cX1_count.data.toList.drop 22 = dktX1_count_1 := dk_seg dksX1_count_0 22 rfl rfl
theorem dksX1_count_2 : cX1_count.data.toList.drop 46 = dktX1_count_2 := dk_seg dksX1_count_1 24 rfl rfl
theorem dksX1_count_3 : cX1_count.data.toList.drop 68 = dktX1_count_3 := dk_seg dksX1_count_2 22 rfl rfl
theorem dX1_count_0 : decode cX1_count 0 = .ok (.iload_n 1, 1) := dk_27 (dk_at dksX1_count_0 0 rfl rfl)
theorem dX1_count_1 : decode cX1_count 1 = .ok (.ifCond .lt 12, 3) := dk_155 0 12 (dk_at dksX1_count_0 1 rfl rfl)
theorem dX1_count_4 : decode cX1_count 4 = .ok (.iload_n 1, 1) := dk_27 (dk_at dksX1_count_0 4 rfl rfl)
theorem dX1_count_5 : decode cX1_count 5 = .ok (.iconst 4, 1) := dk_7 (dk_at dksX1_count_0 5 rfl rfl)
theorem dX1_count_6 : decode cX1_count 6 = .ok (.if_icmp .gt 7, 3) := dk_163 0 7 (dk_at dksX1_count_0 6 rfl rfl)
theorem dX1_count_9 : decode cX1_count 9 = .ok (.iconst 1, 1) := dk_4 (dk_at dksX1_count_0 9 rfl rfl)
theorem dX1_count_10 : decode cX1_count 10 = .ok (.goto 4, 3) := dk_167 0 4 (dk_at dksX1_count_0 10 rfl rfl)
theorem dX1_count_13 : decode cX1_count 13 = .ok (.iconst 0, 1) := dk_3 (dk_at dksX1_count_0 13 rfl rfl)
theorem dX1_count_14 : decode cX1_count 14 = .ok (.invokestatic 106, 3) := dk_184 0 106 (dk_at dksX1_count_0 14 rfl rfl)
theorem dX1_count_17 : decode cX1_count 17 = .ok (.iload_n 1, 1) := dk_27 (dk_at dksX1_count_0 17 rfl rfl)
theorem dX1_count_18 : decode cX1_count 18 = .ok (.ifCond .ne 10, 3) := dk_154 0 10 (dk_at dksX1_count_0 18 rfl rfl)
theorem dX1_count_21 : decode cX1_count 21 = .ok (.aload_n 0, 1) := dk_42 (dk_at dksX1_count_0 21 rfl rfl)
theorem dX1_count_22 : decode cX1_count 22 = .ok (.getfield 82, 3) := dk_180 0 82 (dk_at dksX1_count_1 0 rfl rfl)
theorem dX1_count_25 : decode cX1_count 25 = .ok (.goto 46, 3) := dk_167 0 46 (dk_at dksX1_count_1 3 rfl rfl)
theorem dX1_count_28 : decode cX1_count 28 = .ok (.iload_n 1, 1) := dk_27 (dk_at dksX1_count_1 6 rfl rfl)
theorem dX1_count_29 : decode cX1_count 29 = .ok (.iconst 1, 1) := dk_4 (dk_at dksX1_count_1 7 rfl rfl)
theorem dX1_count_30 : decode cX1_count 30 = .ok (.if_icmp .ne 10, 3) := dk_160 0 10 (dk_at dksX1_count_1 8 rfl rfl)
theorem dX1_count_33 : decode cX1_count 33 = .ok (.aload_n 0, 1) := dk_42 (dk_at dksX1_count_1 11 rfl rfl)
theorem dX1_count_34 : decode cX1_count 34 = .ok (.getfield 85, 3) := dk_180 0 85 (dk_at dksX1_count_1 12 rfl rfl)
theorem dX1_count_37 : decode cX1_count 37 = .ok (.goto 34, 3) := dk_167 0 34 (dk_at dksX1_count_1 15 rfl rfl)
theorem dX1_count_40 : decode cX1_count 40 = .ok (.iload_n 1, 1) := dk_27 (dk_at dksX1_count_1 18 rfl rfl)
theorem dX1_count_41 : decode cX1_count 41 = .ok (.iconst 2, 1) := dk_5 (dk_at dksX1_count_1 19 rfl rfl)
theorem dX1_count_42 : decode cX1_count 42 = .ok (.if_icmp .ne 13, 3) := dk_160 0 13 (dk_at dksX1_count_1 20 rfl rfl)
theorem dX1_count_45 : decode cX1_count 45 = .ok (.aload_n 0, 1) := dk_42 (dk_at dksX1_count_1 23 rfl rfl)
theorem dX1_count_46 : decode cX1_count 46 = .ok (.getfield 28, 3) := dk_180 0 28 (dk_at dksX1_count_2 0 rfl rfl)
theorem dX1_count_49 : decode cX1_count 49 = .ok (.invokevirtual 110, 3) := dk_182 0 110 (dk_at dksX1_count_2 3 rfl rfl)
theorem dX1_count_52 : decode cX1_count 52 = .ok (.goto 19, 3) := dk_167 0 19 (dk_at dksX1_count_2 6 rfl rfl)
theorem dX1_count_55 : decode cX1_count 55 = .ok (.iload_n 1, 1) := dk_27 (dk_at dksX1_count_2 9 rfl rfl)
theorem dX1_count_56 : decode cX1_count 56 = .ok (.iconst 3, 1) := dk_6 (dk_at dksX1_count_2 10 rfl rfl)
theorem dX1_count_57 : decode cX1_count 57 = .ok (.if_icmp .ne 10, 3) := dk_160 0 10 (dk_at dksX1_count_2 11 rfl rfl)
theorem dX1_count_60 : decode cX1_count 60 = .ok (.aload_n 0, 1) := dk_42 (dk_at dksX1_count_2 14 rfl rfl)
theorem dX1_count_61 : decode cX1_count 61 = .ok (.invokevirtual 259, 3) := dk_182 1 3 (dk_at dksX1_count_2 15 rfl rfl)
theorem dX1_count_64 : decode cX1_count 64 = .ok (.goto 7, 3) := dk_167 0 7 (dk_at dksX1_count_2 18 rfl rfl)
theorem dX1_count_67 : decode cX1_count 67 = .ok (.aload_n 0, 1) := dk_42 (dk_at dksX1_count_2 21 rfl rfl)
theorem dX1_count_68 : decode cX1_count 68 = .ok (.getfield 159, 3) := dk_180 0 159 (dk_at dksX1_count_3 0 rfl rfl)
theorem dX1_count_71 : decode cX1_count 71 = .ok (.ireturn, 1) := dk_172 (dk_at dksX1_count_3 3 rfl rfl)
theorem q48 : (Jvm.Cond.initialized "SewnBook") ∈ lw_all := lw_g (lw_at lw_m1 1 rfl) rfl
theorem q77 : (Jvm.Cond.instantiable "SewnBook" (21 : Nat)) ∈ lw_all := lw_g (lw_at lw_m1 30 rfl) rfl
theorem q79 : (Jvm.Cond.instanceMethod ({ cls := "SewnBook", name := "<init>", desc := "()V" } : Jvm.MethodName)) ∈ lw_all := lw_g (lw_at lw_m1 32 rfl) rfl
theorem q80 : (Jvm.Cond.code ({ cls := "SewnBook", name := "<init>", desc := "()V" } : Jvm.MethodName) prog_1_method_1_code (1 : Nat) (Option.none : Option Jvm.ClassFile.FieldType)) ∈ lw_all := lw_g (lw_at lw_m1 33 rfl) rfl
theorem q81 : (Jvm.Cond.methodLink "SewnBook" (1 : Nat) ({ cls := "java/lang/Object", name := "<init>", desc := "()V" } : Jvm.MethodName)) ∈ lw_all := lw_g (lw_at lw_m1 34 rfl) rfl
theorem q84 : (Jvm.Cond.classLink "SewnBook" (19 : Nat) "java/util/ArrayList") ∈ lw_all := lw_g (lw_at lw_m1 37 rfl) rfl
theorem q86 : (Jvm.Cond.methodLink "SewnBook" (21 : Nat) ({ cls := "java/util/ArrayList", name := "<init>", desc := "(I)V" } : Jvm.MethodName)) ∈ lw_all := lw_g (lw_at lw_m1 39 rfl) rfl
theorem q425 : (Jvm.Cond.constant "SewnBook" (42 : Nat) (61440 : Int32)) ∈ lw_all := lw_g (lw_at lw_m2 138 rfl) rfl
theorem q426 : (Jvm.Cond.methodLink "SewnBook" (72 : Nat) ({ cls := "SewnBook", name := "book", desc := "(II)Z" } : Jvm.MethodName)) ∈ lw_all := lw_g (lw_at lw_m2 139 rfl) rfl
theorem q427 : (Jvm.Cond.instanceMethod ({ cls := "SewnBook", name := "book", desc := "(II)Z" } : Jvm.MethodName)) ∈ lw_all := lw_g (lw_at lw_m2 140 rfl) rfl
theorem q428 : (Jvm.Cond.selects "SewnBook" ({ cls := "SewnBook", name := "book", desc := "(II)Z" } : Jvm.MethodName) ({ cls := "SewnBook", name := "book", desc := "(II)Z" } : Jvm.MethodName)) ∈ lw_all := lw_g (lw_at lw_m2 141 rfl) rfl
theorem q429 : (Jvm.Cond.code ({ cls := "SewnBook", name := "book", desc := "(II)Z" } : Jvm.MethodName) prog_1_method_4_code (4 : Nat) (Option.some Jvm.ClassFile.FieldType.boolean)) ∈ lw_all := lw_g (lw_at lw_m2 142 rfl) rfl
theorem q430 : (Jvm.Cond.methodLink "SewnBook" (91 : Nat) ({ cls := "java/util/ArrayList", name := "clear", desc := "()V" } : Jvm.MethodName)) ∈ lw_all := lw_g (lw_at lw_m2 143 rfl) rfl
theorem q434 : (Jvm.Cond.methodLink "SewnBook" (94 : Nat) ({ cls := "SewnBook", name := "makes", desc := "()V" } : Jvm.MethodName)) ∈ lw_all := lw_g (lw_at lw_m2 147 rfl) rfl
theorem q435 : (Jvm.Cond.privateMethod ({ cls := "SewnBook", name := "makes", desc := "()V" } : Jvm.MethodName)) ∈ lw_tbl := lw_at lw_m2 148 rfl
theorem q436 : (Jvm.Cond.instanceMethod ({ cls := "SewnBook", name := "makes", desc := "()V" } : Jvm.MethodName)) ∈ lw_all := lw_g (lw_at lw_m2 149 rfl) rfl
theorem q437 : (Jvm.Cond.code ({ cls := "SewnBook", name := "makes", desc := "()V" } : Jvm.MethodName) prog_1_method_5_code (3 : Nat) (Option.none : Option Jvm.ClassFile.FieldType)) ∈ lw_all := lw_g (lw_at lw_m2 150 rfl) rfl
theorem q438 : (Jvm.Cond.classLink "SewnBook" (97 : Nat) "SewnBook$Part") ∈ lw_all := lw_g (lw_at lw_m2 151 rfl) rfl
theorem q440 : (Jvm.Cond.methodLink "SewnBook" (99 : Nat) ({ cls := "SewnBook$Part", name := "<init>", desc := "(III)V" } : Jvm.MethodName)) ∈ lw_all := lw_g (lw_at lw_m2 153 rfl) rfl
theorem q445 : (Jvm.Cond.fieldLinkNest "SewnBook" (130 : Nat) "SewnBook$Part" "fold" "I" "SewnBook") ∈ lw_tbl := lw_at lw_m2 158 rfl
theorem q447 : (Jvm.Cond.fieldLinkNest "SewnBook" (133 : Nat) "SewnBook$Part" "station" "I" "SewnBook") ∈ lw_tbl := lw_at lw_m2 160 rfl
theorem q449 : (Jvm.Cond.fieldLinkNest "SewnBook" (136 : Nat) "SewnBook$Part" "kind" "I" "SewnBook") ∈ lw_tbl := lw_at lw_m2 162 rfl
theorem q451 : (Jvm.Cond.fieldLinkNest "SewnBook" (138 : Nat) "SewnBook$Part" "isNeeded" "Z" "SewnBook") ∈ lw_tbl := lw_at lw_m2 164 rfl
theorem q463 : (Jvm.Cond.methodLink "SewnBook" (102 : Nat) ({ cls := "java/util/ArrayList", name := "add", desc := "(Ljava/lang/Object;)Z" } : Jvm.MethodName)) ∈ lw_all := lw_g (lw_at lw_m2 176 rfl) rfl
theorem q488 : (Jvm.Cond.selects "SewnBook" ({ cls := "java/lang/Object", name := "getClass", desc := "()Ljava/lang/Class;" } : Jvm.MethodName) ({ cls := "java/lang/Object", name := "getClass", desc := "()Ljava/lang/Class;" } : Jvm.MethodName)) ∈ lw_all := lw_g (lw_at lw_m2 201 rfl) rfl
theorem q506 : (Jvm.Cond.fieldLink "SewnBook" (82 : Nat) "SewnBook" "folds" "I") ∈ lw_all := lw_g (lw_at lw_m2 219 rfl) rfl
theorem q507 : (Jvm.Cond.fieldLink "SewnBook" (85 : Nat) "SewnBook" "stations" "I") ∈ lw_all := lw_g (lw_at lw_m2 220 rfl) rfl
theorem q508 : (Jvm.Cond.fieldLink "SewnBook" (88 : Nat) "SewnBook" "thread" "I") ∈ lw_all := lw_g (lw_at lw_m2 221 rfl) rfl
theorem q509 : (Jvm.Cond.fieldLink "SewnBook" (9 : Nat) "SewnBook" "thick" "[I") ∈ lw_all := lw_g (lw_at lw_m2 222 rfl) rfl
theorem q510 : (Jvm.Cond.fieldLink "SewnBook" (13 : Nat) "SewnBook" "height" "[I") ∈ lw_all := lw_g (lw_at lw_m2 223 rfl) rfl
theorem q511 : (Jvm.Cond.fieldLink "SewnBook" (16 : Nat) "SewnBook" "kind" "[I") ∈ lw_all := lw_g (lw_at lw_m2 224 rfl) rfl
theorem q512 : (Jvm.Cond.fieldLink "SewnBook" (24 : Nat) "SewnBook" "parts" "Ljava/util/ArrayList;") ∈ lw_all := lw_g (lw_at lw_m2 225 rfl) rfl
theorem q513 : (Jvm.Cond.fieldLink "SewnBook" (28 : Nat) "SewnBook" "plans" "Ljava/util/ArrayList;") ∈ lw_all := lw_g (lw_at lw_m2 226 rfl) rfl
theorem q514 : (Jvm.Cond.fieldLink "SewnBook" (31 : Nat) "SewnBook" "tape" "[B") ∈ lw_all := lw_g (lw_at lw_m2 227 rfl) rfl
theorem q515 : (Jvm.Cond.fieldLink "SewnBook" (159 : Nat) "SewnBook" "taped" "I") ∈ lw_all := lw_g (lw_at lw_m2 228 rfl) rfl
theorem q516 : (Jvm.Cond.fieldLink "SewnBook" (35 : Nat) "SewnBook" "faultPlace" "I") ∈ lw_all := lw_g (lw_at lw_m2 229 rfl) rfl
theorem q517 : (Jvm.Cond.fieldLink "SewnBook" (39 : Nat) "SewnBook" "kept" "Ljava/util/ArrayList;") ∈ lw_all := lw_g (lw_at lw_m2 230 rfl) rfl
theorem q518 : (Jvm.Cond.fieldLink "SewnBook" (43 : Nat) "SewnBook" "rest" "[I") ∈ lw_all := lw_g (lw_at lw_m2 231 rfl) rfl
theorem q519 : (Jvm.Cond.fieldLink "SewnBook" (46 : Nat) "SewnBook" "bit" "[I") ∈ lw_all := lw_g (lw_at lw_m2 232 rfl) rfl
theorem q520 : (Jvm.Cond.fieldLink "SewnBook" (49 : Nat) "SewnBook" "leadsTo" "[I") ∈ lw_all := lw_g (lw_at lw_m2 233 rfl) rfl
theorem q521 : (Jvm.Cond.fieldLink "SewnBook" (52 : Nat) "SewnBook" "costs" "[I") ∈ lw_all := lw_g (lw_at lw_m2 234 rfl) rfl
theorem q522 : (Jvm.Cond.fieldLink "SewnBook" (55 : Nat) "SewnBook" "goes" "[I") ∈ lw_all := lw_g (lw_at lw_m2 235 rfl) rfl
theorem q523 : (Jvm.Cond.fieldLink "SewnBook" (58 : Nat) "SewnBook" "comes" "[I") ∈ lw_all := lw_g (lw_at lw_m2 236 rfl) rfl
theorem q524 : (Jvm.Cond.fieldLink "SewnBook" (61 : Nat) "SewnBook" "many" "[I") ∈ lw_all := lw_g (lw_at lw_m2 237 rfl) rfl
theorem q525 : (Jvm.Cond.fieldLink "SewnBook" (64 : Nat) "SewnBook" "isDone" "[Z") ∈ lw_all := lw_g (lw_at lw_m2 238 rfl) rfl
theorem q526 : (Jvm.Cond.fieldLink "SewnBook" (68 : Nat) "SewnBook" "reached" "[J") ∈ lw_all := lw_g (lw_at lw_m2 239 rfl) rfl
theorem q527 : (Jvm.Cond.lays "SewnBook" "SewnBook" "folds" "I") ∈ lw_all := lw_g (lw_at lw_m3 0 rfl) rfl
theorem q528 : (Jvm.Cond.soleField "SewnBook" "folds") ∈ lw_all := lw_g (lw_at lw_m3 1 rfl) rfl
theorem q529 : (Jvm.Cond.lays "SewnBook" "SewnBook" "stations" "I") ∈ lw_all := lw_g (lw_at lw_m3 2 rfl) rfl
theorem q530 : (Jvm.Cond.soleField "SewnBook" "stations") ∈ lw_all := lw_g (lw_at lw_m3 3 rfl) rfl
theorem q531 : (Jvm.Cond.lays "SewnBook" "SewnBook" "thread" "I") ∈ lw_all := lw_g (lw_at lw_m3 4 rfl) rfl
theorem q532 : (Jvm.Cond.soleField "SewnBook" "thread") ∈ lw_all := lw_g (lw_at lw_m3 5 rfl) rfl
theorem q533 : (Jvm.Cond.laysFinal "SewnBook" "SewnBook" "thick" "[I") ∈ lw_all := lw_g (lw_at lw_m3 6 rfl) rfl
theorem q534 : (Jvm.Cond.soleField "SewnBook" "thick") ∈ lw_all := lw_g (lw_at lw_m3 7 rfl) rfl
theorem q535 : (Jvm.Cond.laysFinal "SewnBook" "SewnBook" "height" "[I") ∈ lw_all := lw_g (lw_at lw_m3 8 rfl) rfl
theorem q536 : (Jvm.Cond.soleField "SewnBook" "height") ∈ lw_all := lw_g (lw_at lw_m3 9 rfl) rfl
theorem q537 : (Jvm.Cond.laysFinal "SewnBook" "SewnBook" "kind" "[I") ∈ lw_all := lw_g (lw_at lw_m3 10 rfl) rfl
theorem q538 : (Jvm.Cond.soleField "SewnBook" "kind") ∈ lw_all := lw_g (lw_at lw_m3 11 rfl) rfl
theorem q539 : (Jvm.Cond.laysFinal "SewnBook" "SewnBook" "parts" "Ljava/util/ArrayList;") ∈ lw_all := lw_g (lw_at lw_m3 12 rfl) rfl
theorem q540 : (Jvm.Cond.soleField "SewnBook" "parts") ∈ lw_all := lw_g (lw_at lw_m3 13 rfl) rfl
theorem q541 : (Jvm.Cond.laysFinal "SewnBook" "SewnBook" "plans" "Ljava/util/ArrayList;") ∈ lw_all := lw_g (lw_at lw_m3 14 rfl) rfl
theorem q542 : (Jvm.Cond.soleField "SewnBook" "plans") ∈ lw_all := lw_g (lw_at lw_m3 15 rfl) rfl
theorem q543 : (Jvm.Cond.laysFinal "SewnBook" "SewnBook" "tape" "[B") ∈ lw_all := lw_g (lw_at lw_m3 16 rfl) rfl
theorem q544 : (Jvm.Cond.soleField "SewnBook" "tape") ∈ lw_all := lw_g (lw_at lw_m3 17 rfl) rfl
theorem q545 : (Jvm.Cond.lays "SewnBook" "SewnBook" "taped" "I") ∈ lw_all := lw_g (lw_at lw_m3 18 rfl) rfl
theorem q546 : (Jvm.Cond.soleField "SewnBook" "taped") ∈ lw_all := lw_g (lw_at lw_m3 19 rfl) rfl
theorem q547 : (Jvm.Cond.lays "SewnBook" "SewnBook" "faultPlace" "I") ∈ lw_all := lw_g (lw_at lw_m3 20 rfl) rfl
theorem q548 : (Jvm.Cond.soleField "SewnBook" "faultPlace") ∈ lw_all := lw_g (lw_at lw_m3 21 rfl) rfl
theorem q549 : (Jvm.Cond.laysFinal "SewnBook" "SewnBook" "kept" "Ljava/util/ArrayList;") ∈ lw_all := lw_g (lw_at lw_m3 22 rfl) rfl
theorem q550 : (Jvm.Cond.soleField "SewnBook" "kept") ∈ lw_all := lw_g (lw_at lw_m3 23 rfl) rfl
theorem q551 : (Jvm.Cond.laysFinal "SewnBook" "SewnBook" "rest" "[I") ∈ lw_all := lw_g (lw_at lw_m3 24 rfl) rfl
theorem q552 : (Jvm.Cond.soleField "SewnBook" "rest") ∈ lw_all := lw_g (lw_at lw_m3 25 rfl) rfl
theorem q553 : (Jvm.Cond.laysFinal "SewnBook" "SewnBook" "bit" "[I") ∈ lw_all := lw_g (lw_at lw_m3 26 rfl) rfl
theorem q554 : (Jvm.Cond.soleField "SewnBook" "bit") ∈ lw_all := lw_g (lw_at lw_m3 27 rfl) rfl
theorem q555 : (Jvm.Cond.laysFinal "SewnBook" "SewnBook" "leadsTo" "[I") ∈ lw_all := lw_g (lw_at lw_m3 28 rfl) rfl
theorem q556 : (Jvm.Cond.soleField "SewnBook" "leadsTo") ∈ lw_all := lw_g (lw_at lw_m3 29 rfl) rfl
theorem q557 : (Jvm.Cond.laysFinal "SewnBook" "SewnBook" "costs" "[I") ∈ lw_all := lw_g (lw_at lw_m3 30 rfl) rfl
theorem q558 : (Jvm.Cond.soleField "SewnBook" "costs") ∈ lw_all := lw_g (lw_at lw_m3 31 rfl) rfl
theorem q559 : (Jvm.Cond.laysFinal "SewnBook" "SewnBook" "goes" "[I") ∈ lw_all := lw_g (lw_at lw_m3 32 rfl) rfl
theorem q560 : (Jvm.Cond.soleField "SewnBook" "goes") ∈ lw_all := lw_g (lw_at lw_m3 33 rfl) rfl
theorem q561 : (Jvm.Cond.laysFinal "SewnBook" "SewnBook" "comes" "[I") ∈ lw_all := lw_g (lw_at lw_m3 34 rfl) rfl
theorem q562 : (Jvm.Cond.soleField "SewnBook" "comes") ∈ lw_all := lw_g (lw_at lw_m3 35 rfl) rfl
theorem q563 : (Jvm.Cond.laysFinal "SewnBook" "SewnBook" "many" "[I") ∈ lw_all := lw_g (lw_at lw_m3 36 rfl) rfl
theorem q564 : (Jvm.Cond.soleField "SewnBook" "many") ∈ lw_all := lw_g (lw_at lw_m3 37 rfl) rfl
theorem q565 : (Jvm.Cond.laysFinal "SewnBook" "SewnBook" "isDone" "[Z") ∈ lw_all := lw_g (lw_at lw_m3 38 rfl) rfl
theorem q566 : (Jvm.Cond.soleField "SewnBook" "isDone") ∈ lw_all := lw_g (lw_at lw_m3 39 rfl) rfl
theorem q567 : (Jvm.Cond.laysFinal "SewnBook" "SewnBook" "reached" "[J") ∈ lw_all := lw_g (lw_at lw_m3 40 rfl) rfl
theorem q568 : (Jvm.Cond.soleField "SewnBook" "reached") ∈ lw_all := lw_g (lw_at lw_m3 41 rfl) rfl
theorem q569 : (Jvm.Cond.superclass "SewnBook" "java/lang/Object") ∈ lw_all := lw_g (lw_at lw_m3 42 rfl) rfl
theorem q572 : (Jvm.Cond.instanceMethod ({ cls := "SewnBook", name := "thread", desc := "(I)Z" } : Jvm.MethodName)) ∈ lw_all := lw_g (lw_at lw_m3 45 rfl) rfl
theorem q573 : (Jvm.Cond.selects "SewnBook" ({ cls := "SewnBook", name := "thread", desc := "(I)Z" } : Jvm.MethodName) ({ cls := "SewnBook", name := "thread", desc := "(I)Z" } : Jvm.MethodName)) ∈ lw_all := lw_g (lw_at lw_m3 46 rfl) rfl
theorem q574 : (Jvm.Cond.code ({ cls := "SewnBook", name := "thread", desc := "(I)Z" } : Jvm.MethodName) prog_1_method_11_code (2 : Nat) (Option.some Jvm.ClassFile.FieldType.boolean)) ∈ lw_all := lw_g (lw_at lw_m3 47 rfl) rfl
theorem q575 : (Jvm.Cond.methodLink "SewnBook" (110 : Nat) ({ cls := "java/util/ArrayList", name := "size", desc := "()I" } : Jvm.MethodName)) ∈ lw_all := lw_g (lw_at lw_m3 48 rfl) rfl
theorem q580 : (Jvm.Cond.instanceMethod ({ cls := "SewnBook", name := "heights", desc := "(II)Z" } : Jvm.MethodName)) ∈ lw_all := lw_g (lw_at lw_m3 53 rfl) rfl
theorem q581 : (Jvm.Cond.selects "SewnBook" ({ cls := "SewnBook", name := "heights", desc := "(II)Z" } : Jvm.MethodName) ({ cls := "SewnBook", name := "heights", desc := "(II)Z" } : Jvm.MethodName)) ∈ lw_all := lw_g (lw_at lw_m3 54 rfl) rfl
theorem q582 : (Jvm.Cond.code ({ cls := "SewnBook", name := "heights", desc := "(II)Z" } : Jvm.MethodName) prog_1_method_12_code (7 : Nat) (Option.some Jvm.ClassFile.FieldType.boolean)) ∈ lw_all := lw_g (lw_at lw_m3 55 rfl) rfl
theorem q584 : (Jvm.Cond.instanceMethod ({ cls := "SewnBook", name := "parts", desc := "()I" } : Jvm.MethodName)) ∈ lw_all := lw_g (lw_at lw_m3 57 rfl) rfl
theorem q585 : (Jvm.Cond.selects "SewnBook" ({ cls := "SewnBook", name := "parts", desc := "()I" } : Jvm.MethodName) ({ cls := "SewnBook", name := "parts", desc := "()I" } : Jvm.MethodName)) ∈ lw_all := lw_g (lw_at lw_m3 58 rfl) rfl
theorem q586 : (Jvm.Cond.code ({ cls := "SewnBook", name := "parts", desc := "()I" } : Jvm.MethodName) prog_1_method_14_code (1 : Nat) (Option.some Jvm.ClassFile.FieldType.int)) ∈ lw_all := lw_g (lw_at lw_m3 59 rfl) rfl
theorem q588 : (Jvm.Cond.instanceMethod ({ cls := "SewnBook", name := "feed", desc := "(IIIII)I" } : Jvm.MethodName)) ∈ lw_all := lw_g (lw_at lw_m3 61 rfl) rfl
theorem q589 : (Jvm.Cond.selects "SewnBook" ({ cls := "SewnBook", name := "feed", desc := "(IIIII)I" } : Jvm.MethodName) ({ cls := "SewnBook", name := "feed", desc := "(IIIII)I" } : Jvm.MethodName)) ∈ lw_all := lw_g (lw_at lw_m3 62 rfl) rfl
theorem q590 : (Jvm.Cond.code ({ cls := "SewnBook", name := "feed", desc := "(IIIII)I" } : Jvm.MethodName) prog_1_method_26_code (6 : Nat) (Option.some Jvm.ClassFile.FieldType.int)) ∈ lw_all := lw_g (lw_at lw_m3 63 rfl) rfl
theorem q591 : (Jvm.Cond.methodLink "SewnBook" (162 : Nat) ({ cls := "SewnBook", name := "lay", desc := "(I)V" } : Jvm.MethodName)) ∈ lw_all := lw_g (lw_at lw_m3 64 rfl) rfl
theorem q592 : (Jvm.Cond.privateMethod ({ cls := "SewnBook", name := "lay", desc := "(I)V" } : Jvm.MethodName)) ∈ lw_tbl := lw_at lw_m3 65 rfl
theorem q593 : (Jvm.Cond.instanceMethod ({ cls := "SewnBook", name := "lay", desc := "(I)V" } : Jvm.MethodName)) ∈ lw_all := lw_g (lw_at lw_m3 66 rfl) rfl
theorem q594 : (Jvm.Cond.code ({ cls := "SewnBook", name := "lay", desc := "(I)V" } : Jvm.MethodName) prog_1_method_27_code (3 : Nat) (Option.none : Option Jvm.ClassFile.FieldType)) ∈ lw_all := lw_g (lw_at lw_m3 67 rfl) rfl
theorem q596 : (Jvm.Cond.instanceMethod ({ cls := "SewnBook", name := "fault", desc := "()I" } : Jvm.MethodName)) ∈ lw_all := lw_g (lw_at lw_m3 69 rfl) rfl
theorem q597 : (Jvm.Cond.selects "SewnBook" ({ cls := "SewnBook", name := "fault", desc := "()I" } : Jvm.MethodName) ({ cls := "SewnBook", name := "fault", desc := "()I" } : Jvm.MethodName)) ∈ lw_all := lw_g (lw_at lw_m3 70 rfl) rfl
theorem q598 : (Jvm.Cond.code ({ cls := "SewnBook", name := "fault", desc := "()I" } : Jvm.MethodName) prog_1_method_30_code (1 : Nat) (Option.some Jvm.ClassFile.FieldType.int)) ∈ lw_all := lw_g (lw_at lw_m3 71 rfl) rfl
theorem q600 : (Jvm.Cond.instanceMethod ({ cls := "SewnBook", name := "marks", desc := "(I)Z" } : Jvm.MethodName)) ∈ lw_all := lw_g (lw_at lw_m3 73 rfl) rfl
theorem q601 : (Jvm.Cond.selects "SewnBook" ({ cls := "SewnBook", name := "marks", desc := "(I)Z" } : Jvm.MethodName) ({ cls := "SewnBook", name := "marks", desc := "(I)Z" } : Jvm.MethodName)) ∈ lw_all := lw_g (lw_at lw_m3 74 rfl) rfl
theorem q602 : (Jvm.Cond.code ({ cls := "SewnBook", name := "marks", desc := "(I)Z" } : Jvm.MethodName) prog_1_method_50_code (5 : Nat) (Option.some Jvm.ClassFile.FieldType.boolean)) ∈ lw_all := lw_g (lw_at lw_m3 75 rfl) rfl
theorem q603 : (Jvm.Cond.methodLink "SewnBook" (262 : Nat) ({ cls := "SewnBook", name := "tables", desc := "()V" } : Jvm.MethodName)) ∈ lw_all := lw_g (lw_at lw_m3 76 rfl) rfl
theorem q604 : (Jvm.Cond.privateMethod ({ cls := "SewnBook", name := "tables", desc := "()V" } : Jvm.MethodName)) ∈ lw_tbl := lw_at lw_m3 77 rfl
theorem q605 : (Jvm.Cond.instanceMethod ({ cls := "SewnBook", name := "tables", desc := "()V" } : Jvm.MethodName)) ∈ lw_all := lw_g (lw_at lw_m3 78 rfl) rfl
theorem q606 : (Jvm.Cond.code ({ cls := "SewnBook", name := "tables", desc := "()V" } : Jvm.MethodName) prog_1_method_42_code (5 : Nat) (Option.none : Option Jvm.ClassFile.FieldType)) ∈ lw_all := lw_g (lw_at lw_m3 79 rfl) rfl
theorem q607 : (Jvm.Cond.methodLink "SewnBook" (142 : Nat) ({ cls := "SewnBook", name := "fold", desc := "(I)I" } : Jvm.MethodName)) ∈ lw_all := lw_g (lw_at lw_m3 80 rfl) rfl
theorem q608 : (Jvm.Cond.static ({ cls := "SewnBook", name := "fold", desc := "(I)I" } : Jvm.MethodName)) ∈ lw_all := lw_g (lw_at lw_m3 81 rfl) rfl
theorem q609 : (Jvm.Cond.code ({ cls := "SewnBook", name := "fold", desc := "(I)I" } : Jvm.MethodName) prog_1_method_18_code (1 : Nat) (Option.some Jvm.ClassFile.FieldType.int)) ∈ lw_all := lw_g (lw_at lw_m3 82 rfl) rfl
theorem q610 : (Jvm.Cond.methodLink "SewnBook" (145 : Nat) ({ cls := "SewnBook", name := "station", desc := "(I)I" } : Jvm.MethodName)) ∈ lw_all := lw_g (lw_at lw_m3 83 rfl) rfl
theorem q611 : (Jvm.Cond.static ({ cls := "SewnBook", name := "station", desc := "(I)I" } : Jvm.MethodName)) ∈ lw_all := lw_g (lw_at lw_m3 84 rfl) rfl
theorem q612 : (Jvm.Cond.code ({ cls := "SewnBook", name := "station", desc := "(I)I" } : Jvm.MethodName) prog_1_method_19_code (1 : Nat) (Option.some Jvm.ClassFile.FieldType.int)) ∈ lw_all := lw_g (lw_at lw_m3 85 rfl) rfl
theorem q613 : (Jvm.Cond.methodLink "SewnBook" (181 : Nat) ({ cls := "SewnBook", name := "leads", desc := "(II)I" } : Jvm.MethodName)) ∈ lw_all := lw_g (lw_at lw_m3 86 rfl) rfl
theorem q614 : (Jvm.Cond.privateMethod ({ cls := "SewnBook", name := "leads", desc := "(II)I" } : Jvm.MethodName)) ∈ lw_tbl := lw_at lw_m3 87 rfl
theorem q615 : (Jvm.Cond.instanceMethod ({ cls := "SewnBook", name := "leads", desc := "(II)I" } : Jvm.MethodName)) ∈ lw_all := lw_g (lw_at lw_m3 88 rfl) rfl
theorem q616 : (Jvm.Cond.code ({ cls := "SewnBook", name := "leads", desc := "(II)I" } : Jvm.MethodName) prog_1_method_22_code (6 : Nat) (Option.some Jvm.ClassFile.FieldType.int)) ∈ lw_all := lw_g (lw_at lw_m3 89 rfl) rfl
theorem q617 : (Jvm.Cond.methodLink "SewnBook" (147 : Nat) ({ cls := "SewnBook", name := "isInside", desc := "(I)Z" } : Jvm.MethodName)) ∈ lw_all := lw_g (lw_at lw_m3 90 rfl) rfl
theorem q618 : (Jvm.Cond.static ({ cls := "SewnBook", name := "isInside", desc := "(I)Z" } : Jvm.MethodName)) ∈ lw_all := lw_g (lw_at lw_m3 91 rfl) rfl
theorem q619 : (Jvm.Cond.code ({ cls := "SewnBook", name := "isInside", desc := "(I)Z" } : Jvm.MethodName) prog_1_method_20_code (1 : Nat) (Option.some Jvm.ClassFile.FieldType.boolean)) ∈ lw_all := lw_g (lw_at lw_m3 92 rfl) rfl
theorem q620 : (Jvm.Cond.methodLink "SewnBook" (151 : Nat) ({ cls := "SewnBook", name := "place", desc := "(IIZ)I" } : Jvm.MethodName)) ∈ lw_all := lw_g (lw_at lw_m3 93 rfl) rfl
theorem q621 : (Jvm.Cond.static ({ cls := "SewnBook", name := "place", desc := "(IIZ)I" } : Jvm.MethodName)) ∈ lw_all := lw_g (lw_at lw_m3 94 rfl) rfl
theorem q622 : (Jvm.Cond.code ({ cls := "SewnBook", name := "place", desc := "(IIZ)I" } : Jvm.MethodName) prog_1_method_21_code (3 : Nat) (Option.some Jvm.ClassFile.FieldType.int)) ∈ lw_all := lw_g (lw_at lw_m3 95 rfl) rfl
theorem q623 : (Jvm.Cond.methodLink "SewnBook" (188 : Nat) ({ cls := "SewnBook", name := "length", desc := "(II)I" } : Jvm.MethodName)) ∈ lw_all := lw_g (lw_at lw_m3 96 rfl) rfl
theorem q624 : (Jvm.Cond.privateMethod ({ cls := "SewnBook", name := "length", desc := "(II)I" } : Jvm.MethodName)) ∈ lw_tbl := lw_at lw_m3 97 rfl
theorem q625 : (Jvm.Cond.instanceMethod ({ cls := "SewnBook", name := "length", desc := "(II)I" } : Jvm.MethodName)) ∈ lw_all := lw_g (lw_at lw_m3 98 rfl) rfl
theorem q626 : (Jvm.Cond.code ({ cls := "SewnBook", name := "length", desc := "(II)I" } : Jvm.MethodName) prog_1_method_23_code (5 : Nat) (Option.some Jvm.ClassFile.FieldType.int)) ∈ lw_all := lw_g (lw_at lw_m3 99 rfl) rfl
theorem q627 : (Jvm.Cond.methodLink "SewnBook" (215 : Nat) ({ cls := "SewnBook", name := "goesAlong", desc := "(II)I" } : Jvm.MethodName)) ∈ lw_all := lw_g (lw_at lw_m3 100 rfl) rfl
theorem q628 : (Jvm.Cond.privateMethod ({ cls := "SewnBook", name := "goesAlong", desc := "(II)I" } : Jvm.MethodName)) ∈ lw_tbl := lw_at lw_m3 101 rfl
theorem q629 : (Jvm.Cond.instanceMethod ({ cls := "SewnBook", name := "goesAlong", desc := "(II)I" } : Jvm.MethodName)) ∈ lw_all := lw_g (lw_at lw_m3 102 rfl) rfl
theorem q630 : (Jvm.Cond.code ({ cls := "SewnBook", name := "goesAlong", desc := "(II)I" } : Jvm.MethodName) prog_1_method_24_code (4 : Nat) (Option.some Jvm.ClassFile.FieldType.int)) ∈ lw_all := lw_g (lw_at lw_m3 103 rfl) rfl
theorem q631 : (Jvm.Cond.methodLink "SewnBook" (155 : Nat) ({ cls := "SewnBook", name := "find", desc := "(III)I" } : Jvm.MethodName)) ∈ lw_all := lw_g (lw_at lw_m3 104 rfl) rfl
theorem q632 : (Jvm.Cond.privateMethod ({ cls := "SewnBook", name := "find", desc := "(III)I" } : Jvm.MethodName)) ∈ lw_tbl := lw_at lw_m3 105 rfl
theorem q633 : (Jvm.Cond.instanceMethod ({ cls := "SewnBook", name := "find", desc := "(III)I" } : Jvm.MethodName)) ∈ lw_all := lw_g (lw_at lw_m3 106 rfl) rfl
theorem q634 : (Jvm.Cond.code ({ cls := "SewnBook", name := "find", desc := "(III)I" } : Jvm.MethodName) prog_1_method_25_code (5 : Nat) (Option.some Jvm.ClassFile.FieldType.int)) ∈ lw_all := lw_g (lw_at lw_m3 107 rfl) rfl
theorem q635 : (Jvm.Cond.methodLink "SewnBook" (114 : Nat) ({ cls := "java/util/ArrayList", name := "get", desc := "(I)Ljava/lang/Object;" } : Jvm.MethodName)) ∈ lw_all := lw_g (lw_at lw_m3 108 rfl) rfl
theorem q649 : (Jvm.Cond.methodLink "SewnBook" (273 : Nat) ({ cls := "SewnBook", name := "isThread", desc := "(II)Z" } : Jvm.MethodName)) ∈ lw_all := lw_g (lw_at lw_m3 122 rfl) rfl
theorem q650 : (Jvm.Cond.privateMethod ({ cls := "SewnBook", name := "isThread", desc := "(II)Z" } : Jvm.MethodName)) ∈ lw_tbl := lw_at lw_m3 123 rfl
theorem q651 : (Jvm.Cond.instanceMethod ({ cls := "SewnBook", name := "isThread", desc := "(II)Z" } : Jvm.MethodName)) ∈ lw_all := lw_g (lw_at lw_m3 124 rfl) rfl
theorem q652 : (Jvm.Cond.code ({ cls := "SewnBook", name := "isThread", desc := "(II)Z" } : Jvm.MethodName) prog_1_method_49_code (7 : Nat) (Option.some Jvm.ClassFile.FieldType.boolean)) ∈ lw_all := lw_g (lw_at lw_m3 125 rfl) rfl
theorem q653 : (Jvm.Cond.methodLink "SewnBook" (269 : Nat) ({ cls := "SewnBook", name := "around", desc := "(J)J" } : Jvm.MethodName)) ∈ lw_all := lw_g (lw_at lw_m3 126 rfl) rfl
theorem q654 : (Jvm.Cond.privateMethod ({ cls := "SewnBook", name := "around", desc := "(J)J" } : Jvm.MethodName)) ∈ lw_tbl := lw_at lw_m3 127 rfl
theorem q655 : (Jvm.Cond.instanceMethod ({ cls := "SewnBook", name := "around", desc := "(J)J" } : Jvm.MethodName)) ∈ lw_all := lw_g (lw_at lw_m3 128 rfl) rfl
theorem q656 : (Jvm.Cond.code ({ cls := "SewnBook", name := "around", desc := "(J)J" } : Jvm.MethodName) prog_1_method_48_code (9 : Nat) (Option.some Jvm.ClassFile.FieldType.long)) ∈ lw_all := lw_g (lw_at lw_m3 129 rfl) rfl
theorem q657 : (Jvm.Cond.methodLink "SewnBook" (246 : Nat) ({ cls := "SewnBook", name := "behind", desc := "(IIZ)I" } : Jvm.MethodName)) ∈ lw_all := lw_g (lw_at lw_m3 130 rfl) rfl
theorem q658 : (Jvm.Cond.privateMethod ({ cls := "SewnBook", name := "behind", desc := "(IIZ)I" } : Jvm.MethodName)) ∈ lw_tbl := lw_at lw_m3 131 rfl
theorem q659 : (Jvm.Cond.instanceMethod ({ cls := "SewnBook", name := "behind", desc := "(IIZ)I" } : Jvm.MethodName)) ∈ lw_all := lw_g (lw_at lw_m3 132 rfl) rfl
theorem q660 : (Jvm.Cond.code ({ cls := "SewnBook", name := "behind", desc := "(IIZ)I" } : Jvm.MethodName) prog_1_method_43_code (5 : Nat) (Option.some Jvm.ClassFile.FieldType.int)) ∈ lw_all := lw_g (lw_at lw_m3 133 rfl) rfl
theorem q666 : (Jvm.Cond.instanceMethod ({ cls := "SewnBook", name := "thick", desc := "(II)Z" } : Jvm.MethodName)) ∈ lw_all := lw_g (lw_at lw_m3 139 rfl) rfl
theorem q667 : (Jvm.Cond.selects "SewnBook" ({ cls := "SewnBook", name := "thick", desc := "(II)Z" } : Jvm.MethodName) ({ cls := "SewnBook", name := "thick", desc := "(II)Z" } : Jvm.MethodName)) ∈ lw_all := lw_g (lw_at lw_m3 140 rfl) rfl
theorem q668 : (Jvm.Cond.code ({ cls := "SewnBook", name := "thick", desc := "(II)Z" } : Jvm.MethodName) prog_1_method_10_code (3 : Nat) (Option.some Jvm.ClassFile.FieldType.boolean)) ∈ lw_all := lw_g (lw_at lw_m3 141 rfl) rfl
theorem q669 : (Jvm.Cond.methodLink "SewnBook" (120 : Nat) ({ cls := "SewnBook", name := "isFold", desc := "(I)V" } : Jvm.MethodName)) ∈ lw_all := lw_g (lw_at lw_m3 142 rfl) rfl
theorem q670 : (Jvm.Cond.privateMethod ({ cls := "SewnBook", name := "isFold", desc := "(I)V" } : Jvm.MethodName)) ∈ lw_tbl := lw_at lw_m3 143 rfl
theorem q671 : (Jvm.Cond.instanceMethod ({ cls := "SewnBook", name := "isFold", desc := "(I)V" } : Jvm.MethodName)) ∈ lw_all := lw_g (lw_at lw_m3 144 rfl) rfl
theorem q672 : (Jvm.Cond.code ({ cls := "SewnBook", name := "isFold", desc := "(I)V" } : Jvm.MethodName) prog_1_method_6_code (2 : Nat) (Option.none : Option Jvm.ClassFile.FieldType)) ∈ lw_all := lw_g (lw_at lw_m3 145 rfl) rfl
theorem q673 : (Jvm.Cond.methodLink "SewnBook" (106 : Nat) ({ cls := "SewnBook", name := "there", desc := "(Z)V" } : Jvm.MethodName)) ∈ lw_all := lw_g (lw_at lw_m3 146 rfl) rfl
theorem q674 : (Jvm.Cond.static ({ cls := "SewnBook", name := "there", desc := "(Z)V" } : Jvm.MethodName)) ∈ lw_all := lw_g (lw_at lw_m3 147 rfl) rfl
theorem q675 : (Jvm.Cond.code ({ cls := "SewnBook", name := "there", desc := "(Z)V" } : Jvm.MethodName) prog_1_method_3_code (1 : Nat) (Option.none : Option Jvm.ClassFile.FieldType)) ∈ lw_all := lw_g (lw_at lw_m3 148 rfl) rfl
theorem q676 : (Jvm.Cond.classLink "SewnBook" (79 : Nat) "java/util/NoSuchElementException") ∈ lw_all := lw_g (lw_at lw_m3 149 rfl) rfl
theorem q685 : (Jvm.Cond.methodLink "SewnBook" (81 : Nat) ({ cls := "java/util/NoSuchElementException", name := "<init>", desc := "()V" } : Jvm.MethodName)) ∈ lw_all := lw_g (lw_at lw_m3 158 rfl) rfl
theorem q701 : (Jvm.Cond.instanceMethod ({ cls := "SewnBook", name := "kind", desc := "(II)Z" } : Jvm.MethodName)) ∈ lw_all := lw_g (lw_at lw_m3 174 rfl) rfl
theorem q702 : (Jvm.Cond.selects "SewnBook" ({ cls := "SewnBook", name := "kind", desc := "(II)Z" } : Jvm.MethodName) ({ cls := "SewnBook", name := "kind", desc := "(II)Z" } : Jvm.MethodName)) ∈ lw_all := lw_g (lw_at lw_m3 175 rfl) rfl
theorem q703 : (Jvm.Cond.code ({ cls := "SewnBook", name := "kind", desc := "(II)Z" } : Jvm.MethodName) prog_1_method_13_code (3 : Nat) (Option.some Jvm.ClassFile.FieldType.boolean)) ∈ lw_all := lw_g (lw_at lw_m3 176 rfl) rfl
theorem q704 : (Jvm.Cond.methodLink "SewnBook" (123 : Nat) ({ cls := "SewnBook", name := "isStation", desc := "(I)V" } : Jvm.MethodName)) ∈ lw_all := lw_g (lw_at lw_m3 177 rfl) rfl
theorem q705 : (Jvm.Cond.privateMethod ({ cls := "SewnBook", name := "isStation", desc := "(I)V" } : Jvm.MethodName)) ∈ lw_tbl := lw_at lw_m3 178 rfl
theorem q706 : (Jvm.Cond.instanceMethod ({ cls := "SewnBook", name := "isStation", desc := "(I)V" } : Jvm.MethodName)) ∈ lw_all := lw_g (lw_at lw_m3 179 rfl) rfl
theorem q707 : (Jvm.Cond.code ({ cls := "SewnBook", name := "isStation", desc := "(I)V" } : Jvm.MethodName) prog_1_method_7_code (2 : Nat) (Option.none : Option Jvm.ClassFile.FieldType)) ∈ lw_all := lw_g (lw_at lw_m3 180 rfl) rfl
theorem q712 : (Jvm.Cond.instanceMethod ({ cls := "SewnBook", name := "part", desc := "(II)I" } : Jvm.MethodName)) ∈ lw_all := lw_g (lw_at lw_m3 185 rfl) rfl
theorem q713 : (Jvm.Cond.selects "SewnBook" ({ cls := "SewnBook", name := "part", desc := "(II)I" } : Jvm.MethodName) ({ cls := "SewnBook", name := "part", desc := "(II)I" } : Jvm.MethodName)) ∈ lw_all := lw_g (lw_at lw_m3 186 rfl) rfl
theorem q714 : (Jvm.Cond.code ({ cls := "SewnBook", name := "part", desc := "(II)I" } : Jvm.MethodName) prog_1_method_15_code (4 : Nat) (Option.some Jvm.ClassFile.FieldType.int)) ∈ lw_all := lw_g (lw_at lw_m3 187 rfl) rfl
theorem q715 : (Jvm.Cond.methodLink "SewnBook" (126 : Nat) ({ cls := "SewnBook", name := "partAt", desc := "(I)LSewnBook$Part;" } : Jvm.MethodName)) ∈ lw_all := lw_g (lw_at lw_m3 188 rfl) rfl
theorem q716 : (Jvm.Cond.privateMethod ({ cls := "SewnBook", name := "partAt", desc := "(I)LSewnBook$Part;" } : Jvm.MethodName)) ∈ lw_tbl := lw_at lw_m3 189 rfl
theorem q717 : (Jvm.Cond.instanceMethod ({ cls := "SewnBook", name := "partAt", desc := "(I)LSewnBook$Part;" } : Jvm.MethodName)) ∈ lw_all := lw_g (lw_at lw_m3 190 rfl) rfl
theorem q718 : (Jvm.Cond.code ({ cls := "SewnBook", name := "partAt", desc := "(I)LSewnBook$Part;" } : Jvm.MethodName) prog_1_method_8_code (2 : Nat) (Option.some (Jvm.ClassFile.FieldType.object "SewnBook$Part"))) ∈ lw_all := lw_g (lw_at lw_m3 191 rfl) rfl
theorem q723 : (Jvm.Cond.instanceMethod ({ cls := "SewnBook", name := "need", desc := "(IZ)Z" } : Jvm.MethodName)) ∈ lw_all := lw_g (lw_at lw_m3 196 rfl) rfl
theorem q724 : (Jvm.Cond.selects "SewnBook" ({ cls := "SewnBook", name := "need", desc := "(IZ)Z" } : Jvm.MethodName) ({ cls := "SewnBook", name := "need", desc := "(IZ)Z" } : Jvm.MethodName)) ∈ lw_all := lw_g (lw_at lw_m3 197 rfl) rfl
theorem q725 : (Jvm.Cond.code ({ cls := "SewnBook", name := "need", desc := "(IZ)Z" } : Jvm.MethodName) prog_1_method_16_code (5 : Nat) (Option.some Jvm.ClassFile.FieldType.boolean)) ∈ lw_all := lw_g (lw_at lw_m3 198 rfl) rfl
theorem q731 : (Jvm.Cond.instanceMethod ({ cls := "SewnBook", name := "plan", desc := "(III)I" } : Jvm.MethodName)) ∈ lw_all := lw_g (lw_at lw_m3 204 rfl) rfl
theorem q732 : (Jvm.Cond.selects "SewnBook" ({ cls := "SewnBook", name := "plan", desc := "(III)I" } : Jvm.MethodName) ({ cls := "SewnBook", name := "plan", desc := "(III)I" } : Jvm.MethodName)) ∈ lw_all := lw_g (lw_at lw_m3 205 rfl) rfl
theorem q733 : (Jvm.Cond.codeWith ({ cls := "SewnBook", name := "plan", desc := "(III)I" } : Jvm.MethodName) prog_1_method_29_code (5 : Nat) (Option.some Jvm.ClassFile.FieldType.int) [((55 : Nat), (83 : Nat), (84 : Nat), (173 : Nat))]) ∈ lw_all := lw_g (lw_at lw_m3 206 rfl) rfl
theorem q734 : (Jvm.Cond.classLink "SewnBook" (173 : Nat) "SewnBook$Fault") ∈ lw_all := lw_g (lw_at lw_m3 207 rfl) rfl
theorem q735 : (Jvm.Cond.methodLink "SewnBook" (202 : Nat) ({ cls := "SewnBook", name := "right", desc := "(Z)V" } : Jvm.MethodName)) ∈ lw_all := lw_g (lw_at lw_m3 208 rfl) rfl
theorem q736 : (Jvm.Cond.static ({ cls := "SewnBook", name := "right", desc := "(Z)V" } : Jvm.MethodName)) ∈ lw_all := lw_g (lw_at lw_m3 209 rfl) rfl
theorem q737 : (Jvm.Cond.code ({ cls := "SewnBook", name := "right", desc := "(Z)V" } : Jvm.MethodName) prog_1_method_2_code (1 : Nat) (Option.none : Option Jvm.ClassFile.FieldType)) ∈ lw_all := lw_g (lw_at lw_m3 210 rfl) rfl
theorem q738 : (Jvm.Cond.classLink "SewnBook" (76 : Nat) "java/lang/IllegalArgumentException") ∈ lw_all := lw_g (lw_at lw_m3 211 rfl) rfl
theorem q739 : (Jvm.Cond.methodLink "SewnBook" (78 : Nat) ({ cls := "java/lang/IllegalArgumentException", name := "<init>", desc := "()V" } : Jvm.MethodName)) ∈ lw_all := lw_g (lw_at lw_m3 212 rfl) rfl
theorem q743 : (Jvm.Cond.methodLink "SewnBook" (205 : Nat) ({ cls := "SewnBook", name := "read", desc := "(II)LSewnBook$Plan;" } : Jvm.MethodName)) ∈ lw_all := lw_g (lw_at lw_m3 216 rfl) rfl
theorem q744 : (Jvm.Cond.privateMethod ({ cls := "SewnBook", name := "read", desc := "(II)LSewnBook$Plan;" } : Jvm.MethodName)) ∈ lw_tbl := lw_at lw_m3 217 rfl
theorem q745 : (Jvm.Cond.instanceMethod ({ cls := "SewnBook", name := "read", desc := "(II)LSewnBook$Plan;" } : Jvm.MethodName)) ∈ lw_all := lw_g (lw_at lw_m3 218 rfl) rfl
theorem q746 : (Jvm.Cond.code ({ cls := "SewnBook", name := "read", desc := "(II)LSewnBook$Plan;" } : Jvm.MethodName) prog_1_method_28_code (8 : Nat) (Option.some (Jvm.ClassFile.FieldType.object "SewnBook$Plan"))) ∈ lw_all := lw_g (lw_at lw_m3 219 rfl) rfl
theorem q747 : (Jvm.Cond.classLink "SewnBook" (118 : Nat) "SewnBook$Plan") ∈ lw_all := lw_g (lw_at lw_m3 220 rfl) rfl
theorem q749 : (Jvm.Cond.methodLink "SewnBook" (165 : Nat) ({ cls := "SewnBook$Plan", name := "<init>", desc := "(I)V" } : Jvm.MethodName)) ∈ lw_all := lw_g (lw_at lw_m3 222 rfl) rfl
theorem q757 : (Jvm.Cond.fieldLinkNest "SewnBook" (178 : Nat) "SewnBook$Plan" "to" "I" "SewnBook") ∈ lw_tbl := lw_at lw_m3 230 rfl
theorem q758 : (Jvm.Cond.fieldLinkNest "SewnBook" (185 : Nat) "SewnBook$Plan" "length" "I" "SewnBook") ∈ lw_tbl := lw_at lw_m3 231 rfl
theorem q760 : (Jvm.Cond.fieldLinkNest "SewnBook" (190 : Nat) "SewnBook$Plan" "moves" "Ljava/util/ArrayList;" "SewnBook") ∈ lw_tbl := lw_at lw_m3 233 rfl
theorem q762 : (Jvm.Cond.fieldLinkNest "SewnBook" (199 : Nat) "SewnBook$Plan" "places" "Ljava/util/ArrayList;" "SewnBook") ∈ lw_tbl := lw_at lw_m3 235 rfl
theorem q774 : (Jvm.Cond.stringRef "SewnBook" (166 : Nat) "nudUDo+-") ∈ lw_tbl := lw_at lw_m4 7 rfl
theorem q775 : (Jvm.Cond.methodLink "SewnBook" (168 : Nat) ({ cls := "java/lang/String", name := "indexOf", desc := "(I)I" } : Jvm.MethodName)) ∈ lw_all := lw_g (lw_at lw_m4 8 rfl) rfl
theorem q833 : (Jvm.Cond.methodLink "SewnBook" (175 : Nat) ({ cls := "SewnBook$Fault", name := "<init>", desc := "(II)V" } : Jvm.MethodName)) ∈ lw_all := lw_g (lw_at lw_m4 66 rfl) rfl
theorem q838 : (Jvm.Cond.fieldLinkNest "SewnBook" (211 : Nat) "SewnBook$Fault" "kind" "I" "SewnBook") ∈ lw_tbl := lw_at lw_m4 71 rfl
theorem q840 : (Jvm.Cond.fieldLinkNest "SewnBook" (209 : Nat) "SewnBook$Fault" "place" "I" "SewnBook") ∈ lw_tbl := lw_at lw_m4 73 rfl
theorem q847 : (Jvm.Cond.methodLink "SewnBook" (193 : Nat) ({ cls := "java/lang/Integer", name := "valueOf", desc := "(I)Ljava/lang/Integer;" } : Jvm.MethodName)) ∈ lw_all := lw_g (lw_at lw_m4 80 rfl) rfl
theorem q871 : (Jvm.Cond.instanceMethod ({ cls := "SewnBook", name := "about", desc := "(II)I" } : Jvm.MethodName)) ∈ lw_all := lw_g (lw_at lw_m4 104 rfl) rfl
theorem q872 : (Jvm.Cond.selects "SewnBook" ({ cls := "SewnBook", name := "about", desc := "(II)I" } : Jvm.MethodName) ({ cls := "SewnBook", name := "about", desc := "(II)I" } : Jvm.MethodName)) ∈ lw_all := lw_g (lw_at lw_m4 105 rfl) rfl
theorem q873 : (Jvm.Cond.code ({ cls := "SewnBook", name := "about", desc := "(II)I" } : Jvm.MethodName) prog_1_method_35_code (5 : Nat) (Option.some Jvm.ClassFile.FieldType.int)) ∈ lw_all := lw_g (lw_at lw_m4 106 rfl) rfl
theorem q874 : (Jvm.Cond.methodLink "SewnBook" (230 : Nat) ({ cls := "SewnBook", name := "planAt", desc := "(I)LSewnBook$Plan;" } : Jvm.MethodName)) ∈ lw_all := lw_g (lw_at lw_m4 107 rfl) rfl
theorem q875 : (Jvm.Cond.privateMethod ({ cls := "SewnBook", name := "planAt", desc := "(I)LSewnBook$Plan;" } : Jvm.MethodName)) ∈ lw_tbl := lw_at lw_m4 108 rfl
theorem q876 : (Jvm.Cond.instanceMethod ({ cls := "SewnBook", name := "planAt", desc := "(I)LSewnBook$Plan;" } : Jvm.MethodName)) ∈ lw_all := lw_g (lw_at lw_m4 109 rfl) rfl
theorem q877 : (Jvm.Cond.code ({ cls := "SewnBook", name := "planAt", desc := "(I)LSewnBook$Plan;" } : Jvm.MethodName) prog_1_method_9_code (2 : Nat) (Option.some (Jvm.ClassFile.FieldType.object "SewnBook$Plan"))) ∈ lw_all := lw_g (lw_at lw_m4 110 rfl) rfl
theorem q878 : (Jvm.Cond.methodLink "SewnBook" (218 : Nat) ({ cls := "SewnBook$Plan", name := "isClosed", desc := "()Z" } : Jvm.MethodName)) ∈ lw_all := lw_g (lw_at lw_m4 111 rfl) rfl
theorem q882 : (Jvm.Cond.methodLink "SewnBook" (234 : Nat) ({ cls := "SewnBook", name := "isWhole", desc := "(LSewnBook$Plan;Z)Z" } : Jvm.MethodName)) ∈ lw_all := lw_g (lw_at lw_m4 115 rfl) rfl
theorem q883 : (Jvm.Cond.privateMethod ({ cls := "SewnBook", name := "isWhole", desc := "(LSewnBook$Plan;Z)Z" } : Jvm.MethodName)) ∈ lw_tbl := lw_at lw_m4 116 rfl
theorem q884 : (Jvm.Cond.instanceMethod ({ cls := "SewnBook", name := "isWhole", desc := "(LSewnBook$Plan;Z)Z" } : Jvm.MethodName)) ∈ lw_all := lw_g (lw_at lw_m4 117 rfl) rfl
theorem q885 : (Jvm.Cond.code ({ cls := "SewnBook", name := "isWhole", desc := "(LSewnBook$Plan;Z)Z" } : Jvm.MethodName) prog_1_method_32_code (6 : Nat) (Option.some Jvm.ClassFile.FieldType.boolean)) ∈ lw_all := lw_g (lw_at lw_m4 118 rfl) rfl
theorem q886 : (Jvm.Cond.methodLink "SewnBook" (222 : Nat) ({ cls := "SewnBook", name := "times", desc := "(LSewnBook$Plan;I[Z)I" } : Jvm.MethodName)) ∈ lw_all := lw_g (lw_at lw_m4 119 rfl) rfl
theorem q887 : (Jvm.Cond.privateMethod ({ cls := "SewnBook", name := "times", desc := "(LSewnBook$Plan;I[Z)I" } : Jvm.MethodName)) ∈ lw_tbl := lw_at lw_m4 120 rfl
theorem q888 : (Jvm.Cond.instanceMethod ({ cls := "SewnBook", name := "times", desc := "(LSewnBook$Plan;I[Z)I" } : Jvm.MethodName)) ∈ lw_all := lw_g (lw_at lw_m4 121 rfl) rfl
theorem q889 : (Jvm.Cond.code ({ cls := "SewnBook", name := "times", desc := "(LSewnBook$Plan;I[Z)I" } : Jvm.MethodName) prog_1_method_31_code (6 : Nat) (Option.some Jvm.ClassFile.FieldType.int)) ∈ lw_all := lw_g (lw_at lw_m4 122 rfl) rfl
theorem q890 : (Jvm.Cond.classLink "SewnBook" (194 : Nat) "java/lang/Integer") ∈ lw_all := lw_g (lw_at lw_m4 123 rfl) rfl
theorem q891 : (Jvm.Cond.methodLink "SewnBook" (212 : Nat) ({ cls := "java/lang/Integer", name := "intValue", desc := "()I" } : Jvm.MethodName)) ∈ lw_all := lw_g (lw_at lw_m4 124 rfl) rfl
theorem q895 : (Jvm.Cond.methodLink "SewnBook" (238 : Nat) ({ cls := "SewnBook", name := "isHeld", desc := "(LSewnBook$Plan;)Z" } : Jvm.MethodName)) ∈ lw_all := lw_g (lw_at lw_m4 128 rfl) rfl
theorem q896 : (Jvm.Cond.privateMethod ({ cls := "SewnBook", name := "isHeld", desc := "(LSewnBook$Plan;)Z" } : Jvm.MethodName)) ∈ lw_tbl := lw_at lw_m4 129 rfl
theorem q897 : (Jvm.Cond.instanceMethod ({ cls := "SewnBook", name := "isHeld", desc := "(LSewnBook$Plan;)Z" } : Jvm.MethodName)) ∈ lw_all := lw_g (lw_at lw_m4 130 rfl) rfl
theorem q898 : (Jvm.Cond.code ({ cls := "SewnBook", name := "isHeld", desc := "(LSewnBook$Plan;)Z" } : Jvm.MethodName) prog_1_method_34_code (4 : Nat) (Option.some Jvm.ClassFile.FieldType.boolean)) ∈ lw_all := lw_g (lw_at lw_m4 131 rfl) rfl
theorem q899 : (Jvm.Cond.methodLink "SewnBook" (226 : Nat) ({ cls := "SewnBook", name := "ties", desc := "(LSewnBook$Plan;I)I" } : Jvm.MethodName)) ∈ lw_all := lw_g (lw_at lw_m4 132 rfl) rfl
theorem q900 : (Jvm.Cond.privateMethod ({ cls := "SewnBook", name := "ties", desc := "(LSewnBook$Plan;I)I" } : Jvm.MethodName)) ∈ lw_tbl := lw_at lw_m4 133 rfl
theorem q901 : (Jvm.Cond.instanceMethod ({ cls := "SewnBook", name := "ties", desc := "(LSewnBook$Plan;I)I" } : Jvm.MethodName)) ∈ lw_all := lw_g (lw_at lw_m4 134 rfl) rfl
theorem q902 : (Jvm.Cond.code ({ cls := "SewnBook", name := "ties", desc := "(LSewnBook$Plan;I)I" } : Jvm.MethodName) prog_1_method_33_code (6 : Nat) (Option.some Jvm.ClassFile.FieldType.int)) ∈ lw_all := lw_g (lw_at lw_m4 135 rfl) rfl
theorem q907 : (Jvm.Cond.instanceMethod ({ cls := "SewnBook", name := "along", desc := "(II)I" } : Jvm.MethodName)) ∈ lw_all := lw_g (lw_at lw_m4 140 rfl) rfl
theorem q908 : (Jvm.Cond.selects "SewnBook" ({ cls := "SewnBook", name := "along", desc := "(II)I" } : Jvm.MethodName) ({ cls := "SewnBook", name := "along", desc := "(II)I" } : Jvm.MethodName)) ∈ lw_all := lw_g (lw_at lw_m4 141 rfl) rfl
theorem q909 : (Jvm.Cond.code ({ cls := "SewnBook", name := "along", desc := "(II)I" } : Jvm.MethodName) prog_1_method_36_code (4 : Nat) (Option.some Jvm.ClassFile.FieldType.int)) ∈ lw_all := lw_g (lw_at lw_m4 142 rfl) rfl
theorem q914 : (Jvm.Cond.instanceMethod ({ cls := "SewnBook", name := "holes", desc := "(III)I" } : Jvm.MethodName)) ∈ lw_all := lw_g (lw_at lw_m4 147 rfl) rfl
theorem q915 : (Jvm.Cond.selects "SewnBook" ({ cls := "SewnBook", name := "holes", desc := "(III)I" } : Jvm.MethodName) ({ cls := "SewnBook", name := "holes", desc := "(III)I" } : Jvm.MethodName)) ∈ lw_all := lw_g (lw_at lw_m4 148 rfl) rfl
theorem q916 : (Jvm.Cond.code ({ cls := "SewnBook", name := "holes", desc := "(III)I" } : Jvm.MethodName) prog_1_method_37_code (7 : Nat) (Option.some Jvm.ClassFile.FieldType.int)) ∈ lw_all := lw_g (lw_at lw_m4 149 rfl) rfl
theorem q921 : (Jvm.Cond.instanceMethod ({ cls := "SewnBook", name := "tied", desc := "(II)I" } : Jvm.MethodName)) ∈ lw_all := lw_g (lw_at lw_m4 154 rfl) rfl
theorem q922 : (Jvm.Cond.selects "SewnBook" ({ cls := "SewnBook", name := "tied", desc := "(II)I" } : Jvm.MethodName) ({ cls := "SewnBook", name := "tied", desc := "(II)I" } : Jvm.MethodName)) ∈ lw_all := lw_g (lw_at lw_m4 155 rfl) rfl
theorem q923 : (Jvm.Cond.code ({ cls := "SewnBook", name := "tied", desc := "(II)I" } : Jvm.MethodName) prog_1_method_38_code (4 : Nat) (Option.some Jvm.ClassFile.FieldType.int)) ∈ lw_all := lw_g (lw_at lw_m4 156 rfl) rfl
theorem q928 : (Jvm.Cond.instanceMethod ({ cls := "SewnBook", name := "swells", desc := "(II)I" } : Jvm.MethodName)) ∈ lw_all := lw_g (lw_at lw_m4 161 rfl) rfl
theorem q929 : (Jvm.Cond.selects "SewnBook" ({ cls := "SewnBook", name := "swells", desc := "(II)I" } : Jvm.MethodName) ({ cls := "SewnBook", name := "swells", desc := "(II)I" } : Jvm.MethodName)) ∈ lw_all := lw_g (lw_at lw_m4 162 rfl) rfl
theorem q930 : (Jvm.Cond.code ({ cls := "SewnBook", name := "swells", desc := "(II)I" } : Jvm.MethodName) prog_1_method_39_code (7 : Nat) (Option.some Jvm.ClassFile.FieldType.int)) ∈ lw_all := lw_g (lw_at lw_m4 163 rfl) rfl
theorem q935 : (Jvm.Cond.instanceMethod ({ cls := "SewnBook", name := "loose", desc := "(II)I" } : Jvm.MethodName)) ∈ lw_all := lw_g (lw_at lw_m4 168 rfl) rfl
theorem q936 : (Jvm.Cond.selects "SewnBook" ({ cls := "SewnBook", name := "loose", desc := "(II)I" } : Jvm.MethodName) ({ cls := "SewnBook", name := "loose", desc := "(II)I" } : Jvm.MethodName)) ∈ lw_all := lw_g (lw_at lw_m4 169 rfl) rfl
theorem q937 : (Jvm.Cond.code ({ cls := "SewnBook", name := "loose", desc := "(II)I" } : Jvm.MethodName) prog_1_method_41_code (7 : Nat) (Option.some Jvm.ClassFile.FieldType.int)) ∈ lw_all := lw_g (lw_at lw_m4 170 rfl) rfl
theorem q938 : (Jvm.Cond.methodLink "SewnBook" (242 : Nat) ({ cls := "SewnBook", name := "comesOff", desc := "(LSewnBook$Plan;[ZII)V" } : Jvm.MethodName)) ∈ lw_all := lw_g (lw_at lw_m4 171 rfl) rfl
theorem q939 : (Jvm.Cond.privateMethod ({ cls := "SewnBook", name := "comesOff", desc := "(LSewnBook$Plan;[ZII)V" } : Jvm.MethodName)) ∈ lw_tbl := lw_at lw_m4 172 rfl
theorem q940 : (Jvm.Cond.instanceMethod ({ cls := "SewnBook", name := "comesOff", desc := "(LSewnBook$Plan;[ZII)V" } : Jvm.MethodName)) ∈ lw_all := lw_g (lw_at lw_m4 173 rfl) rfl
theorem q941 : (Jvm.Cond.code ({ cls := "SewnBook", name := "comesOff", desc := "(LSewnBook$Plan;[ZII)V" } : Jvm.MethodName) prog_1_method_40_code (8 : Nat) (Option.none : Option Jvm.ClassFile.FieldType)) ∈ lw_all := lw_g (lw_at lw_m4 174 rfl) rfl
theorem q946 : (Jvm.Cond.instanceMethod ({ cls := "SewnBook", name := "best", desc := "(IZ)I" } : Jvm.MethodName)) ∈ lw_all := lw_g (lw_at lw_m4 179 rfl) rfl
theorem q947 : (Jvm.Cond.selects "SewnBook" ({ cls := "SewnBook", name := "best", desc := "(IZ)I" } : Jvm.MethodName) ({ cls := "SewnBook", name := "best", desc := "(IZ)I" } : Jvm.MethodName)) ∈ lw_all := lw_g (lw_at lw_m4 180 rfl) rfl
theorem q948 : (Jvm.Cond.code ({ cls := "SewnBook", name := "best", desc := "(IZ)I" } : Jvm.MethodName) prog_1_method_46_code (10 : Nat) (Option.some Jvm.ClassFile.FieldType.int)) ∈ lw_all := lw_g (lw_at lw_m4 181 rfl) rfl
theorem q949 : (Jvm.Cond.methodLink "SewnBook" (259 : Nat) ({ cls := "SewnBook", name := "needed", desc := "()I" } : Jvm.MethodName)) ∈ lw_all := lw_g (lw_at lw_m4 182 rfl) rfl
theorem q950 : (Jvm.Cond.privateMethod ({ cls := "SewnBook", name := "needed", desc := "()I" } : Jvm.MethodName)) ∈ lw_tbl := lw_at lw_m4 183 rfl
theorem q951 : (Jvm.Cond.instanceMethod ({ cls := "SewnBook", name := "needed", desc := "()I" } : Jvm.MethodName)) ∈ lw_all := lw_g (lw_at lw_m4 184 rfl) rfl
theorem q952 : (Jvm.Cond.code ({ cls := "SewnBook", name := "needed", desc := "()I" } : Jvm.MethodName) prog_1_method_17_code (3 : Nat) (Option.some Jvm.ClassFile.FieldType.int)) ∈ lw_all := lw_g (lw_at lw_m4 185 rfl) rfl
theorem q953 : (Jvm.Cond.constant "SewnBook" (249 : Nat) (1000000000 : Int32)) ∈ lw_all := lw_g (lw_at lw_m4 186 rfl) rfl
theorem q954 : (Jvm.Cond.methodLink "SewnBook" (265 : Nat) ({ cls := "SewnBook", name := "settles", desc := "(IZ)V" } : Jvm.MethodName)) ∈ lw_all := lw_g (lw_at lw_m4 187 rfl) rfl
theorem q955 : (Jvm.Cond.privateMethod ({ cls := "SewnBook", name := "settles", desc := "(IZ)V" } : Jvm.MethodName)) ∈ lw_tbl := lw_at lw_m4 188 rfl
theorem q956 : (Jvm.Cond.instanceMethod ({ cls := "SewnBook", name := "settles", desc := "(IZ)V" } : Jvm.MethodName)) ∈ lw_all := lw_g (lw_at lw_m4 189 rfl) rfl
theorem q957 : (Jvm.Cond.code ({ cls := "SewnBook", name := "settles", desc := "(IZ)V" } : Jvm.MethodName) prog_1_method_45_code (7 : Nat) (Option.none : Option Jvm.ClassFile.FieldType)) ∈ lw_all := lw_g (lw_at lw_m4 190 rfl) rfl
theorem q958 : (Jvm.Cond.methodLink "SewnBook" (250 : Nat) ({ cls := "SewnBook", name := "byMove", desc := "(IIIZ)I" } : Jvm.MethodName)) ∈ lw_all := lw_g (lw_at lw_m4 191 rfl) rfl
theorem q959 : (Jvm.Cond.privateMethod ({ cls := "SewnBook", name := "byMove", desc := "(IIIZ)I" } : Jvm.MethodName)) ∈ lw_tbl := lw_at lw_m4 192 rfl
theorem q960 : (Jvm.Cond.instanceMethod ({ cls := "SewnBook", name := "byMove", desc := "(IIIZ)I" } : Jvm.MethodName)) ∈ lw_all := lw_g (lw_at lw_m4 193 rfl) rfl
theorem q961 : (Jvm.Cond.code ({ cls := "SewnBook", name := "byMove", desc := "(IIIZ)I" } : Jvm.MethodName) prog_1_method_44_code (8 : Nat) (Option.some Jvm.ClassFile.FieldType.int)) ∈ lw_all := lw_g (lw_at lw_m4 194 rfl) rfl
theorem q962 : (Jvm.Cond.methodLink "SewnBook" (254 : Nat) ({ cls := "java/lang/Math", name := "min", desc := "(II)I" } : Jvm.MethodName)) ∈ lw_all := lw_g (lw_at lw_m4 195 rfl) rfl
theorem q967 : (Jvm.Cond.instanceMethod ({ cls := "SewnBook", name := "move", desc := "(I)I" } : Jvm.MethodName)) ∈ lw_all := lw_g (lw_at lw_m4 200 rfl) rfl
theorem q968 : (Jvm.Cond.selects "SewnBook" ({ cls := "SewnBook", name := "move", desc := "(I)I" } : Jvm.MethodName) ({ cls := "SewnBook", name := "move", desc := "(I)I" } : Jvm.MethodName)) ∈ lw_all := lw_g (lw_at lw_m4 201 rfl) rfl
theorem q969 : (Jvm.Cond.code ({ cls := "SewnBook", name := "move", desc := "(I)I" } : Jvm.MethodName) prog_1_method_47_code (2 : Nat) (Option.some Jvm.ClassFile.FieldType.int)) ∈ lw_all := lw_g (lw_at lw_m4 202 rfl) rfl
theorem q974 : (Jvm.Cond.instanceMethod ({ cls := "SewnBook", name := "count", desc := "(I)I" } : Jvm.MethodName)) ∈ lw_all := lw_g (lw_at lw_m4 207 rfl) rfl
theorem q975 : (Jvm.Cond.selects "SewnBook" ({ cls := "SewnBook", name := "count", desc := "(I)I" } : Jvm.MethodName) ({ cls := "SewnBook", name := "count", desc := "(I)I" } : Jvm.MethodName)) ∈ lw_all := lw_g (lw_at lw_m4 208 rfl) rfl
theorem q976 : (Jvm.Cond.code ({ cls := "SewnBook", name := "count", desc := "(I)I" } : Jvm.MethodName) prog_1_method_51_code (2 : Nat) (Option.some Jvm.ClassFile.FieldType.int)) ∈ lw_all := lw_g (lw_at lw_m4 209 rfl) rfl
theorem q1306 : (Jvm.Cond.castable "SewnBook" "java/lang/Object") ∈ lw_tbl := lw_at lw_m6 59 rfl
theorem in_X1 : ∀ w ∈ wsX10, w ∈ lw_all := lw_in wsX10 [527, 529, 531, 533, 535, 537, 539, 541, 543, 545, 547, 549, 551, 553, 555, 557, 559, 561, 563, 565, 567] (by decide +kernel) (by decide +kernel)
