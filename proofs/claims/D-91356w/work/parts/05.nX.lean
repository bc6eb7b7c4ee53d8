/-! SewnBook$Part -/
set_option maxRecDepth 100000
def RX2 : String := "SewnBook$Part"
def TX2 : u_T := fun k => match k with
  | 0 => ("SewnBook$Part", "fold", "I", true)
  | 1 => ("SewnBook$Part", "station", "I", true)
  | 2 => ("SewnBook$Part", "kind", "I", true)
  | _ => ("SewnBook$Part", "isNeeded", "Z", false)
def tyX2 : Nat → FieldType := fun k => match k with
  | 0 => .int
  | 1 => .int
  | 2 => .int
  | _ => .boolean
abbrev wsX20 : List Cond := u_ws RX2 TX2 4
theorem nmX2 : ∀ a, a < 4 → ∀ b, b < 4 → a ≠ b → (TX2 a).2.1 ≠ (TX2 b).2.1 := by decide +kernel
theorem tyX2_ok : ∀ k, k < 4 → parseFieldDescriptor (TX2 k).2.2.1 = some (tyX2 k) := by decide +kernel
abbrev cX2_init : ByteArray := prog_3_method_1_code
def yX2_init : MethodName := ⟨RX2, "<init>", "(III)V"⟩
def dkwX2_init_1 : List UInt8 := [177]
abbrev dktX2_init_1 : List UInt8 := dkwX2_init_1 ++ []
def dkwX2_init_0 : List UInt8 := [42, 183, 0, 1, 42, 4, 181, 0, 7, 42, 27, 181, 0, 13, 42, 28, 181, 0, 17, 42, 29, 181, 0, 20]
abbrev dktX2_init_0 : List UInt8 := dkwX2_init_0 ++ dktX2_init_1
theorem dksX2_init_0 : cX2_init.data.toList.drop 0 = dktX2_init_0 := by decide +kernel
theorem dksX2_init_1 : cX2_init.data.toList.drop 24 = dktX2_init_1 := dk_seg dksX2_init_0 24 rfl rfl
theorem dX2_init_0 : decode cX2_init 0 = .ok (.aload_n 0, 1) := dk_42 (dk_at dksX2_init_0 0 rfl rfl)
theorem dX2_init_1 : decode cX2_init 1 = .ok (.invokespecial 1, 3) := dk_183 0 1 (dk_at dksX2_init_0 1 rfl rfl)
theorem dX2_init_4 : decode cX2_init 4 = .ok (.aload_n 0, 1) := dk_42 (dk_at dksX2_init_0 4 rfl rfl)
theorem dX2_init_5 : decode cX2_init 5 = .ok (.iconst 1, 1) := dk_4 (dk_at dksX2_init_0 5 rfl rfl)
theorem dX2_init_6 : decode cX2_init 6 = .ok (.putfield 7, 3) := dk_181 0 7 (dk_at dksX2_init_0 6 rfl rfl)
theorem dX2_init_9 : decode cX2_init 9 = .ok (.aload_n 0, 1) := dk_42 (dk_at dksX2_init_0 9 rfl rfl)
theorem dX2_init_10 : decode cX2_init 10 = .ok (.iload_n 1, 1) := dk_27 (dk_at dksX2_init_0 10 rfl rfl)
theorem dX2_init_11 : decode cX2_init 11 = .ok (.putfield 13, 3) := dk_181 0 13 (dk_at dksX2_init_0 11 rfl rfl)
theorem dX2_init_14 : decode cX2_init 14 = .ok (.aload_n 0, 1) := dk_42 (dk_at dksX2_init_0 14 rfl rfl)
theorem dX2_init_15 : decode cX2_init 15 = .ok (.iload_n 2, 1) := dk_28 (dk_at dksX2_init_0 15 rfl rfl)
theorem dX2_init_16 : decode cX2_init 16 = .ok (.putfield 17, 3) := dk_181 0 17 (dk_at dksX2_init_0 16 rfl rfl)
theorem dX2_init_19 : decode cX2_init 19 = .ok (.aload_n 0, 1) := dk_42 (dk_at dksX2_init_0 19 rfl rfl)
theorem dX2_init_20 : decode cX2_init 20 = .ok (.iload_n 3, 1) := dk_29 (dk_at dksX2_init_0 20 rfl rfl)
theorem dX2_init_21 : decode cX2_init 21 = .ok (.putfield 20, 3) := dk_181 0 20 (dk_at dksX2_init_0 21 rfl rfl)
theorem dX2_init_24 : decode cX2_init 24 = .ok (.return_, 1) := dk_177 (dk_at dksX2_init_1 0 rfl rfl)
theorem q68 : (Jvm.Cond.initialized "SewnBook$Part") ∈ lw_all := lw_g (lw_at lw_m1 21 rfl) rfl
theorem q439 : (Jvm.Cond.instantiable "SewnBook$Part" (4 : Nat)) ∈ lw_all := lw_g (lw_at lw_m2 152 rfl) rfl
theorem q441 : (Jvm.Cond.instanceMethod ({ cls := "SewnBook$Part", name := "<init>", desc := "(III)V" } : Jvm.MethodName)) ∈ lw_all := lw_g (lw_at lw_m2 154 rfl) rfl
theorem q442 : (Jvm.Cond.code ({ cls := "SewnBook$Part", name := "<init>", desc := "(III)V" } : Jvm.MethodName) prog_3_method_1_code (4 : Nat) (Option.none : Option Jvm.ClassFile.FieldType)) ∈ lw_all := lw_g (lw_at lw_m2 155 rfl) rfl
theorem q443 : (Jvm.Cond.methodLink "SewnBook$Part" (1 : Nat) ({ cls := "java/lang/Object", name := "<init>", desc := "()V" } : Jvm.MethodName)) ∈ lw_all := lw_g (lw_at lw_m2 156 rfl) rfl
theorem q444 : (Jvm.Cond.fieldLink "SewnBook$Part" (13 : Nat) "SewnBook$Part" "fold" "I") ∈ lw_all := lw_g (lw_at lw_m2 157 rfl) rfl
theorem q446 : (Jvm.Cond.fieldLink "SewnBook$Part" (17 : Nat) "SewnBook$Part" "station" "I") ∈ lw_all := lw_g (lw_at lw_m2 159 rfl) rfl
theorem q448 : (Jvm.Cond.fieldLink "SewnBook$Part" (20 : Nat) "SewnBook$Part" "kind" "I") ∈ lw_all := lw_g (lw_at lw_m2 161 rfl) rfl
theorem q450 : (Jvm.Cond.fieldLink "SewnBook$Part" (7 : Nat) "SewnBook$Part" "isNeeded" "Z") ∈ lw_all := lw_g (lw_at lw_m2 163 rfl) rfl
theorem q452 : (Jvm.Cond.laysFinal "SewnBook$Part" "SewnBook$Part" "fold" "I") ∈ lw_all := lw_g (lw_at lw_m2 165 rfl) rfl
theorem q453 : (Jvm.Cond.soleField "SewnBook$Part" "fold") ∈ lw_all := lw_g (lw_at lw_m2 166 rfl) rfl
theorem q454 : (Jvm.Cond.laysFinal "SewnBook$Part" "SewnBook$Part" "station" "I") ∈ lw_all := lw_g (lw_at lw_m2 167 rfl) rfl
theorem q455 : (Jvm.Cond.soleField "SewnBook$Part" "station") ∈ lw_all := lw_g (lw_at lw_m2 168 rfl) rfl
theorem q456 : (Jvm.Cond.laysFinal "SewnBook$Part" "SewnBook$Part" "kind" "I") ∈ lw_all := lw_g (lw_at lw_m2 169 rfl) rfl
theorem q457 : (Jvm.Cond.soleField "SewnBook$Part" "kind") ∈ lw_all := lw_g (lw_at lw_m2 170 rfl) rfl
theorem q458 : (Jvm.Cond.lays "SewnBook$Part" "SewnBook$Part" "isNeeded" "Z") ∈ lw_all := lw_g (lw_at lw_m2 171 rfl) rfl
theorem q459 : (Jvm.Cond.soleField "SewnBook$Part" "isNeeded") ∈ lw_all := lw_g (lw_at lw_m2 172 rfl) rfl
theorem q460 : (Jvm.Cond.superclass "SewnBook$Part" "java/lang/Object") ∈ lw_all := lw_g (lw_at lw_m2 173 rfl) rfl
theorem q490 : (Jvm.Cond.selects "SewnBook$Part" ({ cls := "java/lang/Object", name := "getClass", desc := "()Ljava/lang/Class;" } : Jvm.MethodName) ({ cls := "java/lang/Object", name := "getClass", desc := "()Ljava/lang/Class;" } : Jvm.MethodName)) ∈ lw_all := lw_g (lw_at lw_m2 203 rfl) rfl
theorem q1311 : (Jvm.Cond.castable "SewnBook$Part" "java/lang/Object") ∈ lw_tbl := lw_at lw_m6 64 rfl
theorem in_X2 : ∀ w ∈ wsX20, w ∈ lw_all := lw_in wsX20 [452, 454, 456, 458] (by decide +kernel) (by decide +kernel)

/-! SewnBook$Plan -/
set_option maxRecDepth 100000
def RX4 : String := "SewnBook$Plan"
def TX4 : u_T := fun k => match k with
  | 0 => ("SewnBook$Plan", "from", "I", true)
  | 1 => ("SewnBook$Plan", "to", "I", false)
  | 2 => ("SewnBook$Plan", "length", "I", false)
  | 3 => ("SewnBook$Plan", "moves", "Ljava/util/ArrayList;", true)
  | _ => ("SewnBook$Plan", "places", "Ljava/util/ArrayList;", true)
def tyX4 : Nat → FieldType := fun k => match k with
  | 0 => .int
  | 1 => .int
  | 2 => .int
  | 3 => .object "java/util/ArrayList"
  | _ => .object "java/util/ArrayList"
abbrev wsX40 : List Cond := u_ws RX4 TX4 5
theorem nmX4 : ∀ a, a < 5 → ∀ b, b < 5 → a ≠ b → (TX4 a).2.1 ≠ (TX4 b).2.1 := by decide +kernel
theorem tyX4_ok : ∀ k, k < 5 → parseFieldDescriptor (TX4 k).2.2.1 = some (tyX4 k) := by decide +kernel
abbrev cX4_init : ByteArray := prog_4_method_1_code
def yX4_init : MethodName := ⟨RX4, "<init>", "(I)V"⟩
def dkwX4_init_1 : List UInt8 := [183, 0, 9, 181, 0, 18, 42, 27, 181, 0, 21, 42, 27, 181, 0, 25, 177]
abbrev dktX4_init_1 : List UInt8 := dkwX4_init_1 ++ []
def dkwX4_init_0 : List UInt8 := [42, 183, 0, 1, 42, 187, 0, 7, 89, 16, 8, 183, 0, 9, 181, 0, 12, 42, 187, 0, 7, 89, 16, 8]
abbrev dktX4_init_0 : List UInt8 := dkwX4_init_0 ++ dktX4_init_1
theorem dksX4_init_0 : cX4_init.data.toList.drop 0 = dktX4_init_0 := by decide +kernel
theorem dksX4_init_1 : cX4_init.data.toList.drop 24 = dktX4_init_1 := dk_seg dksX4_init_0 24 rfl rfl
theorem dX4_init_0 : decode cX4_init 0 = .ok (.aload_n 0, 1) := dk_42 (dk_at dksX4_init_0 0 rfl rfl)
theorem dX4_init_1 : decode cX4_init 1 = .ok (.invokespecial 1, 3) := dk_183 0 1 (dk_at dksX4_init_0 1 rfl rfl)
theorem dX4_init_4 : decode cX4_init 4 = .ok (.aload_n 0, 1) := dk_42 (dk_at dksX4_init_0 4 rfl rfl)
theorem dX4_init_5 : decode cX4_init 5 = .ok (.new 7, 3) := dk_187 0 7 (dk_at dksX4_init_0 5 rfl rfl)
theorem dX4_init_8 : decode cX4_init 8 = .ok (.dup, 1) := dk_89 (dk_at dksX4_init_0 8 rfl rfl)
theorem dX4_init_9 : decode cX4_init 9 = .ok (.bipush 8, 2) := dk_16 8 (dk_at dksX4_init_0 9 rfl rfl)
theorem dX4_init_11 : decode cX4_init 11 = .ok (.invokespecial 9, 3) := dk_183 0 9 (dk_at dksX4_init_0 11 rfl rfl)
theorem dX4_init_14 : decode cX4_init 14 = .ok (.putfield 12, 3) := dk_181 0 12 (dk_at dksX4_init_0 14 rfl rfl)
theorem dX4_init_17 : decode cX4_init 17 = .ok (.aload_n 0, 1) := dk_42 (dk_at dksX4_init_0 17 rfl rfl)
theorem dX4_init_18 : decode cX4_init 18 = .ok (.new 7, 3) := dk_187 0 7 (dk_at dksX4_init_0 18 rfl rfl)
theorem dX4_init_21 : decode cX4_init 21 = .ok (.dup, 1) := dk_89 (dk_at dksX4_init_0 21 rfl rfl)
theorem dX4_init_22 : decode cX4_init 22 = .ok (.bipush 8, 2) := dk_16 8 (dk_at dksX4_init_0 22 rfl rfl)
theorem dX4_init_24 : decode cX4_init 24 = .ok (.invokespecial 9, 3) := dk_183 0 9 (dk_at dksX4_init_1 0 rfl rfl)
theorem dX4_init_27 : decode cX4_init 27 = .ok (.putfield 18, 3) := dk_181 0 18 (dk_at dksX4_init_1 3 rfl rfl)
theorem dX4_init_30 : decode cX4_init 30 = .ok (.aload_n 0, 1) := dk_42 (dk_at dksX4_init_1 6 rfl rfl)
theorem dX4_init_31 : decode cX4_init 31 = .ok (.iload_n 1, 1) := dk_27 (dk_at dksX4_init_1 7 rfl rfl)
theorem dX4_init_32 : decode cX4_init 32 = .ok (.putfield 21, 3) := dk_181 0 21 (dk_at dksX4_init_1 8 rfl rfl)
theorem dX4_init_35 : decode cX4_init 35 = .ok (.aload_n 0, 1) := dk_42 (dk_at dksX4_init_1 11 rfl rfl)
theorem dX4_init_36 : decode cX4_init 36 = .ok (.iload_n 1, 1) := dk_27 (dk_at dksX4_init_1 12 rfl rfl)
theorem dX4_init_37 : decode cX4_init 37 = .ok (.putfield 25, 3) := dk_181 0 25 (dk_at dksX4_init_1 13 rfl rfl)
theorem dX4_init_40 : decode cX4_init 40 = .ok (.return_, 1) := dk_177 (dk_at dksX4_init_1 16 rfl rfl)
abbrev cX4_isClosed : ByteArray := prog_4_method_2_code
def yX4_isClosed : MethodName := ⟨RX4, "isClosed", "()Z"⟩
def dkwX4_isClosed_0 : List UInt8 := [42, 180, 0, 25, 42, 180, 0, 21, 160, 0, 7, 4, 167, 0, 4, 3, 172]
abbrev dktX4_isClosed_0 : List UInt8 := dkwX4_isClosed_0 ++ []
theorem dksX4_isClosed_0 : cX4_isClosed.data.toList.drop 0 = dktX4_isClosed_0 := by decide +kernel
theorem dX4_isClosed_0 : decode cX4_isClosed 0 = .ok (.aload_n 0, 1) := dk_42 (dk_at dksX4_isClosed_0 0 rfl rfl)
theorem dX4_isClosed_1 : decode cX4_isClosed 1 = .ok (.getfield 25, 3) := dk_180 0 25 (dk_at dksX4_isClosed_0 1 rfl rfl)
theorem dX4_isClosed_4 : decode cX4_isClosed 4 = .ok (.aload_n 0, 1) := dk_42 (dk_at dksX4_isClosed_0 4 rfl rfl)
theorem dX4_isClosed_5 : decode cX4_isClosed 5 = .ok (.getfield 21, 3) := dk_180 0 21 (dk_at dksX4_isClosed_0 5 rfl rfl)
theorem dX4_isClosed_8 : decode cX4_isClosed 8 = .ok (.if_icmp .ne 7, 3) := dk_160 0 7 (dk_at dksX4_isClosed_0 8 rfl rfl)
theorem dX4_isClosed_11 : decode cX4_isClosed 11 = .ok (.iconst 1, 1) := dk_4 (dk_at dksX4_isClosed_0 11 rfl rfl)
theorem dX4_isClosed_12 : decode cX4_isClosed 12 = .ok (.goto 4, 3) := dk_167 0 4 (dk_at dksX4_isClosed_0 12 rfl rfl)
theorem dX4_isClosed_15 : decode cX4_isClosed 15 = .ok (.iconst 0, 1) := dk_3 (dk_at dksX4_isClosed_0 15 rfl rfl)
theorem dX4_isClosed_16 : decode cX4_isClosed 16 = .ok (.ireturn, 1) := dk_172 (dk_at dksX4_isClosed_0 16 rfl rfl)
theorem q72 : (Jvm.Cond.initialized "SewnBook$Plan") ∈ lw_all := lw_g (lw_at lw_m1 25 rfl) rfl
theorem q491 : (Jvm.Cond.selects "SewnBook$Plan" ({ cls := "java/lang/Object", name := "getClass", desc := "()Ljava/lang/Class;" } : Jvm.MethodName) ({ cls := "java/lang/Object", name := "getClass", desc := "()Ljava/lang/Class;" } : Jvm.MethodName)) ∈ lw_all := lw_g (lw_at lw_m2 204 rfl) rfl
theorem q748 : (Jvm.Cond.instantiable "SewnBook$Plan" (5 : Nat)) ∈ lw_all := lw_g (lw_at lw_m3 221 rfl) rfl
theorem q750 : (Jvm.Cond.instanceMethod ({ cls := "SewnBook$Plan", name := "<init>", desc := "(I)V" } : Jvm.MethodName)) ∈ lw_all := lw_g (lw_at lw_m3 223 rfl) rfl
theorem q751 : (Jvm.Cond.code ({ cls := "SewnBook$Plan", name := "<init>", desc := "(I)V" } : Jvm.MethodName) prog_4_method_1_code (2 : Nat) (Option.none : Option Jvm.ClassFile.FieldType)) ∈ lw_all := lw_g (lw_at lw_m3 224 rfl) rfl
theorem q752 : (Jvm.Cond.methodLink "SewnBook$Plan" (1 : Nat) ({ cls := "java/lang/Object", name := "<init>", desc := "()V" } : Jvm.MethodName)) ∈ lw_all := lw_g (lw_at lw_m3 225 rfl) rfl
theorem q753 : (Jvm.Cond.classLink "SewnBook$Plan" (7 : Nat) "java/util/ArrayList") ∈ lw_all := lw_g (lw_at lw_m3 226 rfl) rfl
theorem q754 : (Jvm.Cond.methodLink "SewnBook$Plan" (9 : Nat) ({ cls := "java/util/ArrayList", name := "<init>", desc := "(I)V" } : Jvm.MethodName)) ∈ lw_all := lw_g (lw_at lw_m3 227 rfl) rfl
theorem q755 : (Jvm.Cond.fieldLink "SewnBook$Plan" (21 : Nat) "SewnBook$Plan" "from" "I") ∈ lw_all := lw_g (lw_at lw_m3 228 rfl) rfl
theorem q756 : (Jvm.Cond.fieldLink "SewnBook$Plan" (25 : Nat) "SewnBook$Plan" "to" "I") ∈ lw_all := lw_g (lw_at lw_m3 229 rfl) rfl
theorem q759 : (Jvm.Cond.fieldLink "SewnBook$Plan" (12 : Nat) "SewnBook$Plan" "moves" "Ljava/util/ArrayList;") ∈ lw_all := lw_g (lw_at lw_m3 232 rfl) rfl
theorem q761 : (Jvm.Cond.fieldLink "SewnBook$Plan" (18 : Nat) "SewnBook$Plan" "places" "Ljava/util/ArrayList;") ∈ lw_all := lw_g (lw_at lw_m3 234 rfl) rfl
theorem q763 : (Jvm.Cond.laysFinal "SewnBook$Plan" "SewnBook$Plan" "from" "I") ∈ lw_all := lw_g (lw_at lw_m3 236 rfl) rfl
theorem q764 : (Jvm.Cond.soleField "SewnBook$Plan" "from") ∈ lw_all := lw_g (lw_at lw_m3 237 rfl) rfl
theorem q765 : (Jvm.Cond.lays "SewnBook$Plan" "SewnBook$Plan" "to" "I") ∈ lw_all := lw_g (lw_at lw_m3 238 rfl) rfl
theorem q766 : (Jvm.Cond.soleField "SewnBook$Plan" "to") ∈ lw_all := lw_g (lw_at lw_m3 239 rfl) rfl
theorem q767 : (Jvm.Cond.lays "SewnBook$Plan" "SewnBook$Plan" "length" "I") ∈ lw_all := lw_g (lw_at lw_m4 0 rfl) rfl
theorem q768 : (Jvm.Cond.soleField "SewnBook$Plan" "length") ∈ lw_all := lw_g (lw_at lw_m4 1 rfl) rfl
theorem q769 : (Jvm.Cond.laysFinal "SewnBook$Plan" "SewnBook$Plan" "moves" "Ljava/util/ArrayList;") ∈ lw_all := lw_g (lw_at lw_m4 2 rfl) rfl
theorem q770 : (Jvm.Cond.soleField "SewnBook$Plan" "moves") ∈ lw_all := lw_g (lw_at lw_m4 3 rfl) rfl
theorem q771 : (Jvm.Cond.laysFinal "SewnBook$Plan" "SewnBook$Plan" "places" "Ljava/util/ArrayList;") ∈ lw_all := lw_g (lw_at lw_m4 4 rfl) rfl
theorem q772 : (Jvm.Cond.soleField "SewnBook$Plan" "places") ∈ lw_all := lw_g (lw_at lw_m4 5 rfl) rfl
theorem q773 : (Jvm.Cond.superclass "SewnBook$Plan" "java/lang/Object") ∈ lw_all := lw_g (lw_at lw_m4 6 rfl) rfl
theorem q879 : (Jvm.Cond.instanceMethod ({ cls := "SewnBook$Plan", name := "isClosed", desc := "()Z" } : Jvm.MethodName)) ∈ lw_all := lw_g (lw_at lw_m4 112 rfl) rfl
theorem q880 : (Jvm.Cond.selects "SewnBook$Plan" ({ cls := "SewnBook$Plan", name := "isClosed", desc := "()Z" } : Jvm.MethodName) ({ cls := "SewnBook$Plan", name := "isClosed", desc := "()Z" } : Jvm.MethodName)) ∈ lw_all := lw_g (lw_at lw_m4 113 rfl) rfl
theorem q881 : (Jvm.Cond.code ({ cls := "SewnBook$Plan", name := "isClosed", desc := "()Z" } : Jvm.MethodName) prog_4_method_2_code (1 : Nat) (Option.some Jvm.ClassFile.FieldType.boolean)) ∈ lw_all := lw_g (lw_at lw_m4 114 rfl) rfl
theorem q1314 : (Jvm.Cond.castable "SewnBook$Plan" "java/lang/Object") ∈ lw_tbl := lw_at lw_m6 67 rfl
theorem in_X4 : ∀ w ∈ wsX40, w ∈ lw_all := lw_in wsX40 [763, 765, 767, 769, 771] (by decide +kernel) (by decide +kernel)

/-! SewnBook$Fault -/
set_option maxRecDepth 100000
def RX5 : String := "SewnBook$Fault"
def TX5 : u_T := fun k => match k with
  | 0 => ("java/lang/Throwable", "cause", "Ljava/lang/Throwable;", false)
  | 1 => ("java/lang/Throwable", "stackTrace", "[Ljava/lang/StackTraceElement;", false)
  | 2 => ("java/lang/Throwable", "suppressedExceptions", "Ljava/util/List;", false)
  | 3 => ("java/lang/Throwable", "detailMessage", "Ljava/lang/String;", false)
  | 4 => ("java/lang/Throwable", "backtrace", "Ljava/lang/Object;", false)
  | 5 => ("java/lang/Throwable", "depth", "I", false)
  | 6 => ("SewnBook$Fault", "kind", "I", true)
  | _ => ("SewnBook$Fault", "place", "I", true)
def tyX5 : Nat → FieldType := fun k => match k with
  | 0 => .object "java/lang/Throwable"
  | 1 => .array (.object "java/lang/StackTraceElement")
  | 2 => .object "java/util/List"
  | 3 => .object "java/lang/String"
  | 4 => .object "java/lang/Object"
  | 5 => .int
  | 6 => .int
  | _ => .int
abbrev wsX50 : List Cond := u_ws RX5 TX5 8
theorem nmX5 : ∀ a, a < 8 → ∀ b, b < 8 → a ≠ b → (TX5 a).2.1 ≠ (TX5 b).2.1 := by decide +kernel
theorem tyX5_ok : ∀ k, k < 8 → parseFieldDescriptor (TX5 k).2.2.1 = some (tyX5 k) := by decide +kernel
abbrev cX5_init : ByteArray := prog_2_method_1_code
def yX5_init : MethodName := ⟨RX5, "<init>", "(II)V"⟩
def dkwX5_init_0 : List UInt8 := [42, 183, 0, 1, 42, 27, 181, 0, 7, 42, 28, 181, 0, 13, 177]
abbrev dktX5_init_0 : List UInt8 := dkwX5_init_0 ++ []
theorem dksX5_init_0 : cX5_init.data.toList.drop 0 = dktX5_init_0 := by decide +kernel
theorem dX5_init_0 : decode cX5_init 0 = .ok (.aload_n 0, 1) := dk_42 (dk_at dksX5_init_0 0 rfl rfl)
theorem dX5_init_1 : decode cX5_init 1 = .ok (.invokespecial 1, 3) := dk_183 0 1 (dk_at dksX5_init_0 1 rfl rfl)
theorem dX5_init_4 : decode cX5_init 4 = .ok (.aload_n 0, 1) := dk_42 (dk_at dksX5_init_0 4 rfl rfl)
theorem dX5_init_5 : decode cX5_init 5 = .ok (.iload_n 1, 1) := dk_27 (dk_at dksX5_init_0 5 rfl rfl)
theorem dX5_init_6 : decode cX5_init 6 = .ok (.putfield 7, 3) := dk_181 0 7 (dk_at dksX5_init_0 6 rfl rfl)
theorem dX5_init_9 : decode cX5_init 9 = .ok (.aload_n 0, 1) := dk_42 (dk_at dksX5_init_0 9 rfl rfl)
theorem dX5_init_10 : decode cX5_init 10 = .ok (.iload_n 2, 1) := dk_28 (dk_at dksX5_init_0 10 rfl rfl)
theorem dX5_init_11 : decode cX5_init 11 = .ok (.putfield 13, 3) := dk_181 0 13 (dk_at dksX5_init_0 11 rfl rfl)
theorem dX5_init_14 : decode cX5_init 14 = .ok (.return_, 1) := dk_177 (dk_at dksX5_init_0 14 rfl rfl)
theorem q74 : (Jvm.Cond.initialized "SewnBook$Fault") ∈ lw_all := lw_g (lw_at lw_m1 27 rfl) rfl
theorem q133 : (Jvm.Cond.selects "SewnBook$Fault" ({ cls := "java/lang/Throwable", name := "fillInStackTrace", desc := "()Ljava/lang/Throwable;" } : Jvm.MethodName) ({ cls := "java/lang/Throwable", name := "fillInStackTrace", desc := "()Ljava/lang/Throwable;" } : Jvm.MethodName)) ∈ lw_all := lw_g (lw_at lw_m1 86 rfl) rfl
theorem q489 : (Jvm.Cond.selects "SewnBook$Fault" ({ cls := "java/lang/Object", name := "getClass", desc := "()Ljava/lang/Class;" } : Jvm.MethodName) ({ cls := "java/lang/Object", name := "getClass", desc := "()Ljava/lang/Class;" } : Jvm.MethodName)) ∈ lw_all := lw_g (lw_at lw_m2 202 rfl) rfl
theorem q825 : (Jvm.Cond.instantiable "SewnBook$Fault" (8 : Nat)) ∈ lw_all := lw_g (lw_at lw_m4 58 rfl) rfl
theorem q826 : (Jvm.Cond.castable "SewnBook$Fault" "SewnBook$Fault") ∈ lw_tbl := lw_at lw_m4 59 rfl
theorem q827 : (Jvm.Cond.selects "SewnBook$Fault" ({ cls := "java/lang/Throwable", name := "fillInStackTrace", desc := "(I)Ljava/lang/Throwable;" } : Jvm.MethodName) ({ cls := "java/lang/Throwable", name := "fillInStackTrace", desc := "(I)Ljava/lang/Throwable;" } : Jvm.MethodName)) ∈ lw_all := lw_g (lw_at lw_m4 60 rfl) rfl
theorem q828 : (Jvm.Cond.lays "SewnBook$Fault" "java/lang/Throwable" "cause" "Ljava/lang/Throwable;") ∈ lw_all := lw_g (lw_at lw_m4 61 rfl) rfl
theorem q829 : (Jvm.Cond.lays "SewnBook$Fault" "java/lang/Throwable" "stackTrace" "[Ljava/lang/StackTraceElement;") ∈ lw_all := lw_g (lw_at lw_m4 62 rfl) rfl
theorem q830 : (Jvm.Cond.lays "SewnBook$Fault" "java/lang/Throwable" "suppressedExceptions" "Ljava/util/List;") ∈ lw_all := lw_g (lw_at lw_m4 63 rfl) rfl
theorem q831 : (Jvm.Cond.lays "SewnBook$Fault" "java/lang/Throwable" "detailMessage" "Ljava/lang/String;") ∈ lw_all := lw_g (lw_at lw_m4 64 rfl) rfl
theorem q832 : (Jvm.Cond.lays "SewnBook$Fault" "java/lang/Throwable" "backtrace" "Ljava/lang/Object;") ∈ lw_all := lw_g (lw_at lw_m4 65 rfl) rfl
theorem q834 : (Jvm.Cond.instanceMethod ({ cls := "SewnBook$Fault", name := "<init>", desc := "(II)V" } : Jvm.MethodName)) ∈ lw_all := lw_g (lw_at lw_m4 67 rfl) rfl
theorem q835 : (Jvm.Cond.code ({ cls := "SewnBook$Fault", name := "<init>", desc := "(II)V" } : Jvm.MethodName) prog_2_method_1_code (3 : Nat) (Option.none : Option Jvm.ClassFile.FieldType)) ∈ lw_all := lw_g (lw_at lw_m4 68 rfl) rfl
theorem q836 : (Jvm.Cond.methodLink "SewnBook$Fault" (1 : Nat) ({ cls := "java/lang/Exception", name := "<init>", desc := "()V" } : Jvm.MethodName)) ∈ lw_all := lw_g (lw_at lw_m4 69 rfl) rfl
theorem q837 : (Jvm.Cond.fieldLink "SewnBook$Fault" (7 : Nat) "SewnBook$Fault" "kind" "I") ∈ lw_all := lw_g (lw_at lw_m4 70 rfl) rfl
theorem q839 : (Jvm.Cond.fieldLink "SewnBook$Fault" (13 : Nat) "SewnBook$Fault" "place" "I") ∈ lw_all := lw_g (lw_at lw_m4 72 rfl) rfl
theorem q841 : (Jvm.Cond.laysFinal "SewnBook$Fault" "SewnBook$Fault" "kind" "I") ∈ lw_all := lw_g (lw_at lw_m4 74 rfl) rfl
theorem q842 : (Jvm.Cond.soleField "SewnBook$Fault" "kind") ∈ lw_all := lw_g (lw_at lw_m4 75 rfl) rfl
theorem q843 : (Jvm.Cond.laysFinal "SewnBook$Fault" "SewnBook$Fault" "place" "I") ∈ lw_all := lw_g (lw_at lw_m4 76 rfl) rfl
theorem q844 : (Jvm.Cond.soleField "SewnBook$Fault" "place") ∈ lw_all := lw_g (lw_at lw_m4 77 rfl) rfl
theorem q845 : (Jvm.Cond.lays "SewnBook$Fault" "java/lang/Throwable" "depth" "I") ∈ lw_all := lw_g (lw_at lw_m4 78 rfl) rfl
theorem q846 : (Jvm.Cond.superclass "SewnBook$Fault" "java/lang/Exception") ∈ lw_all := lw_g (lw_at lw_m4 79 rfl) rfl
theorem q1315 : (Jvm.Cond.castable "SewnBook$Fault" "java/lang/Object") ∈ lw_tbl := lw_at lw_m6 68 rfl
theorem in_X5 : ∀ w ∈ wsX50, w ∈ lw_all := lw_in wsX50 [828, 829, 830, 831, 832, 845, 841, 843] (by decide +kernel) (by decide +kernel)

/-! SewnBookLaw -/
set_option maxRecDepth 100000
def RX0 : String := "SewnBookLaw"
abbrev cX0_thick : ByteArray := method_3_code
def yX0_thick : MethodName := ⟨RX0, "thick", "(LSewnBook;II[J)I"⟩
def dkwX0_thick_1 : List UInt8 := [3, 172]
abbrev dktX0_thick_1 : List UInt8 := dkwX0_thick_1 ++ []
def dkwX0_thick_0 : List UInt8 := [45, 3, 42, 27, 28, 182, 0, 7, 153, 0, 7, 10, 167, 0, 4, 9, 80, 167, 0, 7, 58, 4, 4, 172]
abbrev dktX0_thick_0 : List UInt8 := dkwX0_thick_0 ++ dktX0_thick_1
theorem dksX0_thick_0 : cX0_thick.data.toList.drop 0 = dktX0_thick_0 := by decide +kernel
theorem dksX0_thick_1 : cX0_thick.data.toList.drop 24 = dktX0_thick_1 := dk_seg dksX0_thick_0 24 rfl rfl
theorem dX0_thick_0 : decode cX0_thick 0 = .ok (.aload_n 3, 1) := dk_45 (dk_at dksX0_thick_0 0 rfl rfl)
theorem dX0_thick_1 : decode cX0_thick 1 = .ok (.iconst 0, 1) := dk_3 (dk_at dksX0_thick_0 1 rfl rfl)
theorem dX0_thick_2 : decode cX0_thick 2 = .ok (.aload_n 0, 1) := dk_42 (dk_at dksX0_thick_0 2 rfl rfl)
theorem dX0_thick_3 : decode cX0_thick 3 = .ok (.iload_n 1, 1) := dk_27 (dk_at dksX0_thick_0 3 rfl rfl)
theorem dX0_thick_4 : decode cX0_thick 4 = .ok (.iload_n 2, 1) := dk_28 (dk_at dksX0_thick_0 4 rfl rfl)
theorem dX0_thick_5 : decode cX0_thick 5 = .ok (.invokevirtual 7, 3) := dk_182 0 7 (dk_at dksX0_thick_0 5 rfl rfl)
theorem dX0_thick_8 : decode cX0_thick 8 = .ok (.ifCond .eq 7, 3) := dk_153 0 7 (dk_at dksX0_thick_0 8 rfl rfl)
theorem dX0_thick_11 : decode cX0_thick 11 = .ok (.lconst 1, 1) := dk_10 (dk_at dksX0_thick_0 11 rfl rfl)
theorem dX0_thick_12 : decode cX0_thick 12 = .ok (.goto 4, 3) := dk_167 0 4 (dk_at dksX0_thick_0 12 rfl rfl)
theorem dX0_thick_15 : decode cX0_thick 15 = .ok (.lconst 0, 1) := dk_9 (dk_at dksX0_thick_0 15 rfl rfl)
theorem dX0_thick_16 : decode cX0_thick 16 = .ok (.lastore, 1) := dk_80 (dk_at dksX0_thick_0 16 rfl rfl)
theorem dX0_thick_17 : decode cX0_thick 17 = .ok (.goto 7, 3) := dk_167 0 7 (dk_at dksX0_thick_0 17 rfl rfl)
theorem dX0_thick_20 : decode cX0_thick 20 = .ok (.astore 4, 2) := dk_58 4 (dk_at dksX0_thick_0 20 rfl rfl)
theorem dX0_thick_22 : decode cX0_thick 22 = .ok (.iconst 1, 1) := dk_4 (dk_at dksX0_thick_0 22 rfl rfl)
theorem dX0_thick_23 : decode cX0_thick 23 = .ok (.ireturn, 1) := dk_172 (dk_at dksX0_thick_0 23 rfl rfl)
theorem dX0_thick_24 : decode cX0_thick 24 = .ok (.iconst 0, 1) := dk_3 (dk_at dksX0_thick_1 0 rfl rfl)
theorem dX0_thick_25 : decode cX0_thick 25 = .ok (.ireturn, 1) := dk_172 (dk_at dksX0_thick_1 1 rfl rfl)
abbrev cX0_kind : ByteArray := method_4_code
def yX0_kind : MethodName := ⟨RX0, "kind", "(LSewnBook;II[J)I"⟩
def dkwX0_kind_1 : List UInt8 := [3, 172]
abbrev dktX0_kind_1 : List UInt8 := dkwX0_kind_1 ++ []
def dkwX0_kind_0 : List UInt8 := [45, 3, 42, 27, 28, 182, 0, 15, 153, 0, 7, 10, 167, 0, 4, 9, 80, 167, 0, 7, 58, 4, 4, 172]
abbrev dktX0_kind_0 : List UInt8 := dkwX0_kind_0 ++ dktX0_kind_1
theorem dksX0_kind_0 : cX0_kind.data.toList.drop 0 = dktX0_kind_0 := by decide +kernel
theorem dksX0_kind_1 : cX0_kind.data.toList.drop 24 = dktX0_kind_1 := dk_seg dksX0_kind_0 24 rfl rfl
theorem dX0_kind_0 : decode cX0_kind 0 = .ok (.aload_n 3, 1) := dk_45 (dk_at dksX0_kind_0 0 rfl rfl)
theorem dX0_kind_1 : decode cX0_kind 1 = .ok (.iconst 0, 1) := dk_3 (dk_at dksX0_kind_0 1 rfl rfl)
theorem dX0_kind_2 : decode cX0_kind 2 = .ok (.aload_n 0, 1) := dk_42 (dk_at dksX0_kind_0 2 rfl rfl)
theorem dX0_kind_3 : decode cX0_kind 3 = .ok (.iload_n 1, 1) := dk_27 (dk_at dksX0_kind_0 3 rfl rfl)
theorem dX0_kind_4 : decode cX0_kind 4 = .ok (.iload_n 2, 1) := dk_28 (dk_at dksX0_kind_0 4 rfl rfl)
theorem dX0_kind_5 : decode cX0_kind 5 = .ok (.invokevirtual 15, 3) := dk_182 0 15 (dk_at dksX0_kind_0 5 rfl rfl)
theorem dX0_kind_8 : decode cX0_kind 8 = .ok (.ifCond .eq 7, 3) := dk_153 0 7 (dk_at dksX0_kind_0 8 rfl rfl)
theorem dX0_kind_11 : decode cX0_kind 11 = .ok (.lconst 1, 1) := dk_10 (dk_at dksX0_kind_0 11 rfl rfl)
theorem dX0_kind_12 : decode cX0_kind 12 = .ok (.goto 4, 3) := dk_167 0 4 (dk_at dksX0_kind_0 12 rfl rfl)
theorem dX0_kind_15 : decode cX0_kind 15 = .ok (.lconst 0, 1) := dk_9 (dk_at dksX0_kind_0 15 rfl rfl)
theorem dX0_kind_16 : decode cX0_kind 16 = .ok (.lastore, 1) := dk_80 (dk_at dksX0_kind_0 16 rfl rfl)
theorem dX0_kind_17 : decode cX0_kind 17 = .ok (.goto 7, 3) := dk_167 0 7 (dk_at dksX0_kind_0 17 rfl rfl)
theorem dX0_kind_20 : decode cX0_kind 20 = .ok (.astore 4, 2) := dk_58 4 (dk_at dksX0_kind_0 20 rfl rfl)
theorem dX0_kind_22 : decode cX0_kind 22 = .ok (.iconst 1, 1) := dk_4 (dk_at dksX0_kind_0 22 rfl rfl)
theorem dX0_kind_23 : decode cX0_kind 23 = .ok (.ireturn, 1) := dk_172 (dk_at dksX0_kind_0 23 rfl rfl)
theorem dX0_kind_24 : decode cX0_kind 24 = .ok (.iconst 0, 1) := dk_3 (dk_at dksX0_kind_1 0 rfl rfl)
theorem dX0_kind_25 : decode cX0_kind 25 = .ok (.ireturn, 1) := dk_172 (dk_at dksX0_kind_1 1 rfl rfl)
abbrev cX0_part : ByteArray := method_5_code
def yX0_part : MethodName := ⟨RX0, "part", "(LSewnBook;II[J)I"⟩
def dkwX0_part_0 : List UInt8 := [45, 3, 42, 27, 28, 182, 0, 18, 133, 80, 167, 0, 7, 58, 4, 4, 172, 3, 172]
abbrev dktX0_part_0 : List UInt8 := dkwX0_part_0 ++ []
theorem dksX0_part_0 : cX0_part.data.toList.drop 0 = dktX0_part_0 := by decide +kernel
theorem dX0_part_0 : decode cX0_part 0 = .ok (.aload_n 3, 1) := dk_45 (dk_at dksX0_part_0 0 rfl rfl)
theorem dX0_part_1 : decode cX0_part 1 = .ok (.iconst 0, 1) := dk_3 (dk_at dksX0_part_0 1 rfl rfl)
theorem dX0_part_2 : decode cX0_part 2 = .ok (.aload_n 0, 1) := dk_42 (dk_at dksX0_part_0 2 rfl rfl)
theorem dX0_part_3 : decode cX0_part 3 = .ok (.iload_n 1, 1) := dk_27 (dk_at dksX0_part_0 3 rfl rfl)
theorem dX0_part_4 : decode cX0_part 4 = .ok (.iload_n 2, 1) := dk_28 (dk_at dksX0_part_0 4 rfl rfl)
theorem dX0_part_5 : decode cX0_part 5 = .ok (.invokevirtual 18, 3) := dk_182 0 18 (dk_at dksX0_part_0 5 rfl rfl)
theorem dX0_part_8 : decode cX0_part 8 = .ok (.i2l, 1) := dk_133 (dk_at dksX0_part_0 8 rfl rfl)
theorem dX0_part_9 : decode cX0_part 9 = .ok (.lastore, 1) := dk_80 (dk_at dksX0_part_0 9 rfl rfl)
theorem dX0_part_10 : decode cX0_part 10 = .ok (.goto 7, 3) := dk_167 0 7 (dk_at dksX0_part_0 10 rfl rfl)
theorem dX0_part_13 : decode cX0_part 13 = .ok (.astore 4, 2) := dk_58 4 (dk_at dksX0_part_0 13 rfl rfl)
theorem dX0_part_15 : decode cX0_part 15 = .ok (.iconst 1, 1) := dk_4 (dk_at dksX0_part_0 15 rfl rfl)
theorem dX0_part_16 : decode cX0_part 16 = .ok (.ireturn, 1) := dk_172 (dk_at dksX0_part_0 16 rfl rfl)
theorem dX0_part_17 : decode cX0_part 17 = .ok (.iconst 0, 1) := dk_3 (dk_at dksX0_part_0 17 rfl rfl)
theorem dX0_part_18 : decode cX0_part 18 = .ok (.ireturn, 1) := dk_172 (dk_at dksX0_part_0 18 rfl rfl)
abbrev cX0_need : ByteArray := method_6_code
def yX0_need : MethodName := ⟨RX0, "need", "(LSewnBook;IZ[J)I"⟩
def dkwX0_need_1 : List UInt8 := [3, 172]
abbrev dktX0_need_1 : List UInt8 := dkwX0_need_1 ++ []
def dkwX0_need_0 : List UInt8 := [45, 3, 42, 27, 28, 182, 0, 22, 153, 0, 7, 10, 167, 0, 4, 9, 80, 167, 0, 7, 58, 4, 4, 172]
abbrev dktX0_need_0 : List UInt8 := dkwX0_need_0 ++ dktX0_need_1
theorem dksX0_need_0 : cX0_need.data.toList.drop 0 = dktX0_need_0 := by decide +kernel
theorem dksX0_need_1 : cX0_need.data.toList.drop 24 = dktX0_need_1 := dk_seg dksX0_need_0 24 rfl rfl
theorem dX0_need_0 : decode cX0_need 0 = .ok (.aload_n 3, 1) := dk_45 (dk_at dksX0_need_0 0 rfl rfl)
theorem dX0_need_1 : decode cX0_need 1 = .ok (.iconst 0, 1) := dk_3 (dk_at dksX0_need_0 1 rfl rfl)
theorem dX0_need_2 : decode cX0_need 2 = .ok (.aload_n 0, 1) := dk_42 (dk_at dksX0_need_0 2 rfl rfl)
theorem dX0_need_3 : decode cX0_need 3 = .ok (.iload_n 1, 1) := dk_27 (dk_at dksX0_need_0 3 rfl rfl)
theorem dX0_need_4 : decode cX0_need 4 = .ok (.iload_n 2, 1) := dk_28 (dk_at dksX0_need_0 4 rfl rfl)
theorem dX0_need_5 : decode cX0_need 5 = .ok (.invokevirtual 22, 3) := dk_182 0 22 (dk_at dksX0_need_0 5 rfl rfl)
theorem dX0_need_8 : decode cX0_need 8 = .ok (.ifCond .eq 7, 3) := dk_153 0 7 (dk_at dksX0_need_0 8 rfl rfl)
theorem dX0_need_11 : decode cX0_need 11 = .ok (.lconst 1, 1) := dk_10 (dk_at dksX0_need_0 11 rfl rfl)
theorem dX0_need_12 : decode cX0_need 12 = .ok (.goto 4, 3) := dk_167 0 4 (dk_at dksX0_need_0 12 rfl rfl)
theorem dX0_need_15 : decode cX0_need 15 = .ok (.lconst 0, 1) := dk_9 (dk_at dksX0_need_0 15 rfl rfl)
theorem dX0_need_16 : decode cX0_need 16 = .ok (.lastore, 1) := dk_80 (dk_at dksX0_need_0 16 rfl rfl)
theorem dX0_need_17 : decode cX0_need 17 = .ok (.goto 7, 3) := dk_167 0 7 (dk_at dksX0_need_0 17 rfl rfl)
theorem dX0_need_20 : decode cX0_need 20 = .ok (.astore 4, 2) := dk_58 4 (dk_at dksX0_need_0 20 rfl rfl)
theorem dX0_need_22 : decode cX0_need 22 = .ok (.iconst 1, 1) := dk_4 (dk_at dksX0_need_0 22 rfl rfl)
theorem dX0_need_23 : decode cX0_need 23 = .ok (.ireturn, 1) := dk_172 (dk_at dksX0_need_0 23 rfl rfl)
theorem dX0_need_24 : decode cX0_need 24 = .ok (.iconst 0, 1) := dk_3 (dk_at dksX0_need_1 0 rfl rfl)
theorem dX0_need_25 : decode cX0_need 25 = .ok (.ireturn, 1) := dk_172 (dk_at dksX0_need_1 1 rfl rfl)
abbrev cX0_plan : ByteArray := method_7_code
def yX0_plan : MethodName := ⟨RX0, "plan", "(LSewnBook;III[J)I"⟩
def dkwX0_plan_1 : List UInt8 := [172]
abbrev dktX0_plan_1 : List UInt8 := dkwX0_plan_1 ++ []
def dkwX0_plan_0 : List UInt8 := [25, 4, 3, 42, 27, 28, 29, 182, 0, 26, 133, 80, 167, 0, 11, 58, 5, 4, 172, 58, 5, 5, 172, 3]
abbrev dktX0_plan_0 : List UInt8 := dkwX0_plan_0 ++ dktX0_plan_1
theorem dksX0_plan_0 : cX0_plan.data.toList.drop 0 = dktX0_plan_0 := by decide +kernel
theorem dksX0_plan_1 : cX0_plan.data.toList.drop 24 = dktX0_plan_1 := dk_seg dksX0_plan_0 24 rfl rfl
theorem dX0_plan_0 : decode cX0_plan 0 = .ok (.aload 4, 2) := dk_25 4 (dk_at dksX0_plan_0 0 rfl rfl)
theorem dX0_plan_2 : decode cX0_plan 2 = .ok (.iconst 0, 1) := dk_3 (dk_at dksX0_plan_0 2 rfl rfl)
theorem dX0_plan_3 : decode cX0_plan 3 = .ok (.aload_n 0, 1) := dk_42 (dk_at dksX0_plan_0 3 rfl rfl)
theorem dX0_plan_4 : decode cX0_plan 4 = .ok (.iload_n 1, 1) := dk_27 (dk_at dksX0_plan_0 4 rfl rfl)
theorem dX0_plan_5 : decode cX0_plan 5 = .ok (.iload_n 2, 1) := dk_28 (dk_at dksX0_plan_0 5 rfl rfl)
theorem dX0_plan_6 : decode cX0_plan 6 = .ok (.iload_n 3, 1) := dk_29 (dk_at dksX0_plan_0 6 rfl rfl)
theorem dX0_plan_7 : decode cX0_plan 7 = .ok (.invokevirtual 26, 3) := dk_182 0 26 (dk_at dksX0_plan_0 7 rfl rfl)
theorem dX0_plan_10 : decode cX0_plan 10 = .ok (.i2l, 1) := dk_133 (dk_at dksX0_plan_0 10 rfl rfl)
theorem dX0_plan_11 : decode cX0_plan 11 = .ok (.lastore, 1) := dk_80 (dk_at dksX0_plan_0 11 rfl rfl)
theorem dX0_plan_12 : decode cX0_plan 12 = .ok (.goto 11, 3) := dk_167 0 11 (dk_at dksX0_plan_0 12 rfl rfl)
theorem dX0_plan_15 : decode cX0_plan 15 = .ok (.astore 5, 2) := dk_58 5 (dk_at dksX0_plan_0 15 rfl rfl)
theorem dX0_plan_17 : decode cX0_plan 17 = .ok (.iconst 1, 1) := dk_4 (dk_at dksX0_plan_0 17 rfl rfl)
theorem dX0_plan_18 : decode cX0_plan 18 = .ok (.ireturn, 1) := dk_172 (dk_at dksX0_plan_0 18 rfl rfl)
theorem dX0_plan_19 : decode cX0_plan 19 = .ok (.astore 5, 2) := dk_58 5 (dk_at dksX0_plan_0 19 rfl rfl)
theorem dX0_plan_21 : decode cX0_plan 21 = .ok (.iconst 2, 1) := dk_5 (dk_at dksX0_plan_0 21 rfl rfl)
theorem dX0_plan_22 : decode cX0_plan 22 = .ok (.ireturn, 1) := dk_172 (dk_at dksX0_plan_0 22 rfl rfl)
theorem dX0_plan_23 : decode cX0_plan 23 = .ok (.iconst 0, 1) := dk_3 (dk_at dksX0_plan_0 23 rfl rfl)
theorem dX0_plan_24 : decode cX0_plan 24 = .ok (.ireturn, 1) := dk_172 (dk_at dksX0_plan_1 0 rfl rfl)
abbrev cX0_about : ByteArray := method_8_code
def yX0_about : MethodName := ⟨RX0, "about", "(LSewnBook;II[J)I"⟩
def dkwX0_about_0 : List UInt8 := [45, 3, 42, 27, 28, 182, 0, 32, 133, 80, 167, 0, 7, 58, 4, 4, 172, 3, 172]
abbrev dktX0_about_0 : List UInt8 := dkwX0_about_0 ++ []
theorem dksX0_about_0 : cX0_about.data.toList.drop 0 = dktX0_about_0 := by decide +kernel
theorem dX0_about_0 : decode cX0_about 0 = .ok (.aload_n 3, 1) := dk_45 (dk_at dksX0_about_0 0 rfl rfl)
theorem dX0_about_1 : decode cX0_about 1 = .ok (.iconst 0, 1) := dk_3 (dk_at dksX0_about_0 1 rfl rfl)
theorem dX0_about_2 : decode cX0_about 2 = .ok (.aload_n 0, 1) := dk_42 (dk_at dksX0_about_0 2 rfl rfl)
theorem dX0_about_3 : decode cX0_about 3 = .ok (.iload_n 1, 1) := dk_27 (dk_at dksX0_about_0 3 rfl rfl)
theorem dX0_about_4 : decode cX0_about 4 = .ok (.iload_n 2, 1) := dk_28 (dk_at dksX0_about_0 4 rfl rfl)
theorem dX0_about_5 : decode cX0_about 5 = .ok (.invokevirtual 32, 3) := dk_182 0 32 (dk_at dksX0_about_0 5 rfl rfl)
theorem dX0_about_8 : decode cX0_about 8 = .ok (.i2l, 1) := dk_133 (dk_at dksX0_about_0 8 rfl rfl)
theorem dX0_about_9 : decode cX0_about 9 = .ok (.lastore, 1) := dk_80 (dk_at dksX0_about_0 9 rfl rfl)
theorem dX0_about_10 : decode cX0_about 10 = .ok (.goto 7, 3) := dk_167 0 7 (dk_at dksX0_about_0 10 rfl rfl)
theorem dX0_about_13 : decode cX0_about 13 = .ok (.astore 4, 2) := dk_58 4 (dk_at dksX0_about_0 13 rfl rfl)
theorem dX0_about_15 : decode cX0_about 15 = .ok (.iconst 1, 1) := dk_4 (dk_at dksX0_about_0 15 rfl rfl)
theorem dX0_about_16 : decode cX0_about 16 = .ok (.ireturn, 1) := dk_172 (dk_at dksX0_about_0 16 rfl rfl)
theorem dX0_about_17 : decode cX0_about 17 = .ok (.iconst 0, 1) := dk_3 (dk_at dksX0_about_0 17 rfl rfl)
theorem dX0_about_18 : decode cX0_about 18 = .ok (.ireturn, 1) := dk_172 (dk_at dksX0_about_0 18 rfl rfl)
abbrev cX0_along : ByteArray := method_9_code
def yX0_along : MethodName := ⟨RX0, "along", "(LSewnBook;II[J)I"⟩
def dkwX0_along_0 : List UInt8 := [45, 3, 42, 27, 28, 182, 0, 35, 133, 80, 167, 0, 7, 58, 4, 4, 172, 3, 172]
abbrev dktX0_along_0 : List UInt8 := dkwX0_along_0 ++ []
theorem dksX0_along_0 : cX0_along.data.toList.drop 0 = dktX0_along_0 := by decide +kernel
theorem dX0_along_0 : decode cX0_along 0 = .ok (.aload_n 3, 1) := dk_45 (dk_at dksX0_along_0 0 rfl rfl)
theorem dX0_along_1 : decode cX0_along 1 = .ok (.iconst 0, 1) := dk_3 (dk_at dksX0_along_0 1 rfl rfl)
theorem dX0_along_2 : decode cX0_along 2 = .ok (.aload_n 0, 1) := dk_42 (dk_at dksX0_along_0 2 rfl rfl)
theorem dX0_along_3 : decode cX0_along 3 = .ok (.iload_n 1, 1) := dk_27 (dk_at dksX0_along_0 3 rfl rfl)
theorem dX0_along_4 : decode cX0_along 4 = .ok (.iload_n 2, 1) := dk_28 (dk_at dksX0_along_0 4 rfl rfl)
theorem dX0_along_5 : decode cX0_along 5 = .ok (.invokevirtual 35, 3) := dk_182 0 35 (dk_at dksX0_along_0 5 rfl rfl)
theorem dX0_along_8 : decode cX0_along 8 = .ok (.i2l, 1) := dk_133 (dk_at dksX0_along_0 8 rfl rfl)
theorem dX0_along_9 : decode cX0_along 9 = .ok (.lastore, 1) := dk_80 (dk_at dksX0_along_0 9 rfl rfl)
theorem dX0_along_10 : decode cX0_along 10 = .ok (.goto 7, 3) := dk_167 0 7 (dk_at dksX0_along_0 10 rfl rfl)
theorem dX0_along_13 : decode cX0_along 13 = .ok (.astore 4, 2) := dk_58 4 (dk_at dksX0_along_0 13 rfl rfl)
theorem dX0_along_15 : decode cX0_along 15 = .ok (.iconst 1, 1) := dk_4 (dk_at dksX0_along_0 15 rfl rfl)
theorem dX0_along_16 : decode cX0_along 16 = .ok (.ireturn, 1) := dk_172 (dk_at dksX0_along_0 16 rfl rfl)
theorem dX0_along_17 : decode cX0_along 17 = .ok (.iconst 0, 1) := dk_3 (dk_at dksX0_along_0 17 rfl rfl)
theorem dX0_along_18 : decode cX0_along 18 = .ok (.ireturn, 1) := dk_172 (dk_at dksX0_along_0 18 rfl rfl)
abbrev cX0_holes : ByteArray := method_10_code
def yX0_holes : MethodName := ⟨RX0, "holes", "(LSewnBook;III[J)I"⟩
def dkwX0_holes_0 : List UInt8 := [25, 4, 3, 42, 27, 28, 29, 182, 0, 38, 133, 80, 167, 0, 7, 58, 5, 4, 172, 3, 172]
abbrev dktX0_holes_0 : List UInt8 := dkwX0_holes_0 ++ []
theorem dksX0_holes_0 : cX0_holes.data.toList.drop 0 = dktX0_holes_0 := by decide +kernel
theorem dX0_holes_0 : decode cX0_holes 0 = .ok (.aload 4, 2) := dk_25 4 (dk_at dksX0_holes_0 0 rfl rfl)
theorem dX0_holes_2 : decode cX0_holes 2 = .ok (.iconst 0, 1) := dk_3 (dk_at dksX0_holes_0 2 rfl rfl)
theorem dX0_holes_3 : decode cX0_holes 3 = .ok (.aload_n 0, 1) := dk_42 (dk_at dksX0_holes_0 3 rfl rfl)
theorem dX0_holes_4 : decode cX0_holes 4 = .ok (.iload_n 1, 1) := dk_27 (dk_at dksX0_holes_0 4 rfl rfl)
theorem dX0_holes_5 : decode cX0_holes 5 = .ok (.iload_n 2, 1) := dk_28 (dk_at dksX0_holes_0 5 rfl rfl)
theorem dX0_holes_6 : decode cX0_holes 6 = .ok (.iload_n 3, 1) := dk_29 (dk_at dksX0_holes_0 6 rfl rfl)
theorem dX0_holes_7 : decode cX0_holes 7 = .ok (.invokevirtual 38, 3) := dk_182 0 38 (dk_at dksX0_holes_0 7 rfl rfl)
theorem dX0_holes_10 : decode cX0_holes 10 = .ok (.i2l, 1) := dk_133 (dk_at dksX0_holes_0 10 rfl rfl)
theorem dX0_holes_11 : decode cX0_holes 11 = .ok (.lastore, 1) := dk_80 (dk_at dksX0_holes_0 11 rfl rfl)
theorem dX0_holes_12 : decode cX0_holes 12 = .ok (.goto 7, 3) := dk_167 0 7 (dk_at dksX0_holes_0 12 rfl rfl)
theorem dX0_holes_15 : decode cX0_holes 15 = .ok (.astore 5, 2) := dk_58 5 (dk_at dksX0_holes_0 15 rfl rfl)
theorem dX0_holes_17 : decode cX0_holes 17 = .ok (.iconst 1, 1) := dk_4 (dk_at dksX0_holes_0 17 rfl rfl)
theorem dX0_holes_18 : decode cX0_holes 18 = .ok (.ireturn, 1) := dk_172 (dk_at dksX0_holes_0 18 rfl rfl)
theorem dX0_holes_19 : decode cX0_holes 19 = .ok (.iconst 0, 1) := dk_3 (dk_at dksX0_holes_0 19 rfl rfl)
theorem dX0_holes_20 : decode cX0_holes 20 = .ok (.ireturn, 1) := dk_172 (dk_at dksX0_holes_0 20 rfl rfl)
abbrev cX0_tied : ByteArray := method_11_code
def yX0_tied : MethodName := ⟨RX0, "tied", "(LSewnBook;II[J)I"⟩
def dkwX0_tied_0 : List UInt8 := [45, 3, 42, 27, 28, 182, 0, 41, 133, 80, 167, 0, 7, 58, 4, 4, 172, 3, 172]
abbrev dktX0_tied_0 : List UInt8 := dkwX0_tied_0 ++ []
theorem dksX0_tied_0 : cX0_tied.data.toList.drop 0 = dktX0_tied_0 := by decide +kernel
theorem dX0_tied_0 : decode cX0_tied 0 = .ok (.aload_n 3, 1) := dk_45 (dk_at dksX0_tied_0 0 rfl rfl)
theorem dX0_tied_1 : decode cX0_tied 1 = .ok (.iconst 0, 1) := dk_3 (dk_at dksX0_tied_0 1 rfl rfl)
theorem dX0_tied_2 : decode cX0_tied 2 = .ok (.aload_n 0, 1) := dk_42 (dk_at dksX0_tied_0 2 rfl rfl)
theorem dX0_tied_3 : decode cX0_tied 3 = .ok (.iload_n 1, 1) := dk_27 (dk_at dksX0_tied_0 3 rfl rfl)
theorem dX0_tied_4 : decode cX0_tied 4 = .ok (.iload_n 2, 1) := dk_28 (dk_at dksX0_tied_0 4 rfl rfl)
theorem dX0_tied_5 : decode cX0_tied 5 = .ok (.invokevirtual 41, 3) := dk_182 0 41 (dk_at dksX0_tied_0 5 rfl rfl)
theorem dX0_tied_8 : decode cX0_tied 8 = .ok (.i2l, 1) := dk_133 (dk_at dksX0_tied_0 8 rfl rfl)
theorem dX0_tied_9 : decode cX0_tied 9 = .ok (.lastore, 1) := dk_80 (dk_at dksX0_tied_0 9 rfl rfl)
theorem dX0_tied_10 : decode cX0_tied 10 = .ok (.goto 7, 3) := dk_167 0 7 (dk_at dksX0_tied_0 10 rfl rfl)
theorem dX0_tied_13 : decode cX0_tied 13 = .ok (.astore 4, 2) := dk_58 4 (dk_at dksX0_tied_0 13 rfl rfl)
theorem dX0_tied_15 : decode cX0_tied 15 = .ok (.iconst 1, 1) := dk_4 (dk_at dksX0_tied_0 15 rfl rfl)
theorem dX0_tied_16 : decode cX0_tied 16 = .ok (.ireturn, 1) := dk_172 (dk_at dksX0_tied_0 16 rfl rfl)
theorem dX0_tied_17 : decode cX0_tied 17 = .ok (.iconst 0, 1) := dk_3 (dk_at dksX0_tied_0 17 rfl rfl)
theorem dX0_tied_18 : decode cX0_tied 18 = .ok (.ireturn, 1) := dk_172 (dk_at dksX0_tied_0 18 rfl rfl)
abbrev cX0_swells : ByteArray := method_12_code
def yX0_swells : MethodName := ⟨RX0, "swells", "(LSewnBook;II[J)I"⟩
def dkwX0_swells_0 : List UInt8 := [45, 3, 42, 27, 28, 182, 0, 44, 133, 80, 167, 0, 7, 58, 4, 4, 172, 3, 172]
abbrev dktX0_swells_0 : List UInt8 := dkwX0_swells_0 ++ []
theorem dksX0_swells_0 : cX0_swells.data.toList.drop 0 = dktX0_swells_0 := by decide +kernel
theorem dX0_swells_0 : decode cX0_swells 0 = .ok (.aload_n 3, 1) := dk_45 (dk_at dksX0_swells_0 0 rfl rfl)
theorem dX0_swells_1 : decode cX0_swells 1 = .ok (.iconst 0, 1) := dk_3 (dk_at dksX0_swells_0 1 rfl rfl)
theorem dX0_swells_2 : decode cX0_swells 2 = .ok (.aload_n 0, 1) := dk_42 (dk_at dksX0_swells_0 2 rfl rfl)
theorem dX0_swells_3 : decode cX0_swells 3 = .ok (.iload_n 1, 1) := dk_27 (dk_at dksX0_swells_0 3 rfl rfl)
theorem dX0_swells_4 : decode cX0_swells 4 = .ok (.iload_n 2, 1) := dk_28 (dk_at dksX0_swells_0 4 rfl rfl)
theorem dX0_swells_5 : decode cX0_swells 5 = .ok (.invokevirtual 44, 3) := dk_182 0 44 (dk_at dksX0_swells_0 5 rfl rfl)
theorem dX0_swells_8 : decode cX0_swells 8 = .ok (.i2l, 1) := dk_133 (dk_at dksX0_swells_0 8 rfl rfl)
theorem dX0_swells_9 : decode cX0_swells 9 = .ok (.lastore, 1) := dk_80 (dk_at dksX0_swells_0 9 rfl rfl)
theorem dX0_swells_10 : decode cX0_swells 10 = .ok (.goto 7, 3) := dk_167 0 7 (dk_at dksX0_swells_0 10 rfl rfl)
theorem dX0_swells_13 : decode cX0_swells 13 = .ok (.astore 4, 2) := dk_58 4 (dk_at dksX0_swells_0 13 rfl rfl)
theorem dX0_swells_15 : decode cX0_swells 15 = .ok (.iconst 1, 1) := dk_4 (dk_at dksX0_swells_0 15 rfl rfl)
theorem dX0_swells_16 : decode cX0_swells 16 = .ok (.ireturn, 1) := dk_172 (dk_at dksX0_swells_0 16 rfl rfl)
theorem dX0_swells_17 : decode cX0_swells 17 = .ok (.iconst 0, 1) := dk_3 (dk_at dksX0_swells_0 17 rfl rfl)
theorem dX0_swells_18 : decode cX0_swells 18 = .ok (.ireturn, 1) := dk_172 (dk_at dksX0_swells_0 18 rfl rfl)
abbrev cX0_loose : ByteArray := method_13_code
def yX0_loose : MethodName := ⟨RX0, "loose", "(LSewnBook;II[J)I"⟩
def dkwX0_loose_0 : List UInt8 := [45, 3, 42, 27, 28, 182, 0, 47, 133, 80, 167, 0, 7, 58, 4, 4, 172, 3, 172]
abbrev dktX0_loose_0 : List UInt8 := dkwX0_loose_0 ++ []
theorem dksX0_loose_0 : cX0_loose.data.toList.drop 0 = dktX0_loose_0 := by decide +kernel
theorem dX0_loose_0 : decode cX0_loose 0 = .ok (.aload_n 3, 1) := dk_45 (dk_at dksX0_loose_0 0 rfl rfl)
theorem dX0_loose_1 : decode cX0_loose 1 = .ok (.iconst 0, 1) := dk_3 (dk_at dksX0_loose_0 1 rfl rfl)
theorem dX0_loose_2 : decode cX0_loose 2 = .ok (.aload_n 0, 1) := dk_42 (dk_at dksX0_loose_0 2 rfl rfl)
theorem dX0_loose_3 : decode cX0_loose 3 = .ok (.iload_n 1, 1) := dk_27 (dk_at dksX0_loose_0 3 rfl rfl)
theorem dX0_loose_4 : decode cX0_loose 4 = .ok (.iload_n 2, 1) := dk_28 (dk_at dksX0_loose_0 4 rfl rfl)
theorem dX0_loose_5 : decode cX0_loose 5 = .ok (.invokevirtual 47, 3) := dk_182 0 47 (dk_at dksX0_loose_0 5 rfl rfl)
theorem dX0_loose_8 : decode cX0_loose 8 = .ok (.i2l, 1) := dk_133 (dk_at dksX0_loose_0 8 rfl rfl)
theorem dX0_loose_9 : decode cX0_loose 9 = .ok (.lastore, 1) := dk_80 (dk_at dksX0_loose_0 9 rfl rfl)
theorem dX0_loose_10 : decode cX0_loose 10 = .ok (.goto 7, 3) := dk_167 0 7 (dk_at dksX0_loose_0 10 rfl rfl)
theorem dX0_loose_13 : decode cX0_loose 13 = .ok (.astore 4, 2) := dk_58 4 (dk_at dksX0_loose_0 13 rfl rfl)
theorem dX0_loose_15 : decode cX0_loose 15 = .ok (.iconst 1, 1) := dk_4 (dk_at dksX0_loose_0 15 rfl rfl)
theorem dX0_loose_16 : decode cX0_loose 16 = .ok (.ireturn, 1) := dk_172 (dk_at dksX0_loose_0 16 rfl rfl)
theorem dX0_loose_17 : decode cX0_loose 17 = .ok (.iconst 0, 1) := dk_3 (dk_at dksX0_loose_0 17 rfl rfl)
theorem dX0_loose_18 : decode cX0_loose 18 = .ok (.ireturn, 1) := dk_172 (dk_at dksX0_loose_0 18 rfl rfl)
abbrev cX0_best : ByteArray := method_14_code
def yX0_best : MethodName := ⟨RX0, "best", "(LSewnBook;IZ[J)I"⟩
def dkwX0_best_0 : List UInt8 := [45, 3, 42, 27, 28, 182, 0, 50, 133, 80, 167, 0, 7, 58, 4, 4, 172, 3, 172]
abbrev dktX0_best_0 : List UInt8 := dkwX0_best_0 ++ []
theorem dksX0_best_0 : cX0_best.data.toList.drop 0 = dktX0_best_0 := by decide +kernel
theorem dX0_best_0 : decode cX0_best 0 = .ok (.aload_n 3, 1) := dk_45 (dk_at dksX0_best_0 0 rfl rfl)
theorem dX0_best_1 : decode cX0_best 1 = .ok (.iconst 0, 1) := dk_3 (dk_at dksX0_best_0 1 rfl rfl)
theorem dX0_best_2 : decode cX0_best 2 = .ok (.aload_n 0, 1) := dk_42 (dk_at dksX0_best_0 2 rfl rfl)
theorem dX0_best_3 : decode cX0_best 3 = .ok (.iload_n 1, 1) := dk_27 (dk_at dksX0_best_0 3 rfl rfl)
theorem dX0_best_4 : decode cX0_best 4 = .ok (.iload_n 2, 1) := dk_28 (dk_at dksX0_best_0 4 rfl rfl)
theorem dX0_best_5 : decode cX0_best 5 = .ok (.invokevirtual 50, 3) := dk_182 0 50 (dk_at dksX0_best_0 5 rfl rfl)
theorem dX0_best_8 : decode cX0_best 8 = .ok (.i2l, 1) := dk_133 (dk_at dksX0_best_0 8 rfl rfl)
theorem dX0_best_9 : decode cX0_best 9 = .ok (.lastore, 1) := dk_80 (dk_at dksX0_best_0 9 rfl rfl)
theorem dX0_best_10 : decode cX0_best 10 = .ok (.goto 7, 3) := dk_167 0 7 (dk_at dksX0_best_0 10 rfl rfl)
theorem dX0_best_13 : decode cX0_best 13 = .ok (.astore 4, 2) := dk_58 4 (dk_at dksX0_best_0 13 rfl rfl)
theorem dX0_best_15 : decode cX0_best 15 = .ok (.iconst 1, 1) := dk_4 (dk_at dksX0_best_0 15 rfl rfl)
theorem dX0_best_16 : decode cX0_best 16 = .ok (.ireturn, 1) := dk_172 (dk_at dksX0_best_0 16 rfl rfl)
theorem dX0_best_17 : decode cX0_best 17 = .ok (.iconst 0, 1) := dk_3 (dk_at dksX0_best_0 17 rfl rfl)
theorem dX0_best_18 : decode cX0_best 18 = .ok (.ireturn, 1) := dk_172 (dk_at dksX0_best_0 18 rfl rfl)
abbrev cX0_move : ByteArray := method_15_code
def yX0_move : MethodName := ⟨RX0, "move", "(LSewnBook;I[J)I"⟩
def dkwX0_move_0 : List UInt8 := [44, 3, 42, 27, 182, 0, 54, 133, 80, 167, 0, 6, 78, 4, 172, 3, 172]
abbrev dktX0_move_0 : List UInt8 := dkwX0_move_0 ++ []
theorem dksX0_move_0 : cX0_move.data.toList.drop 0 = dktX0_move_0 := by decide +kernel
theorem dX0_move_0 : decode cX0_move 0 = .ok (.aload_n 2, 1) := dk_44 (dk_at dksX0_move_0 0 rfl rfl)
theorem dX0_move_1 : decode cX0_move 1 = .ok (.iconst 0, 1) := dk_3 (dk_at dksX0_move_0 1 rfl rfl)
theorem dX0_move_2 : decode cX0_move 2 = .ok (.aload_n 0, 1) := dk_42 (dk_at dksX0_move_0 2 rfl rfl)
theorem dX0_move_3 : decode cX0_move 3 = .ok (.iload_n 1, 1) := dk_27 (dk_at dksX0_move_0 3 rfl rfl)
theorem dX0_move_4 : decode cX0_move 4 = .ok (.invokevirtual 54, 3) := dk_182 0 54 (dk_at dksX0_move_0 4 rfl rfl)
theorem dX0_move_7 : decode cX0_move 7 = .ok (.i2l, 1) := dk_133 (dk_at dksX0_move_0 7 rfl rfl)
theorem dX0_move_8 : decode cX0_move 8 = .ok (.lastore, 1) := dk_80 (dk_at dksX0_move_0 8 rfl rfl)
theorem dX0_move_9 : decode cX0_move 9 = .ok (.goto 6, 3) := dk_167 0 6 (dk_at dksX0_move_0 9 rfl rfl)
theorem dX0_move_12 : decode cX0_move 12 = .ok (.astore_n 3, 1) := dk_78 (dk_at dksX0_move_0 12 rfl rfl)
theorem dX0_move_13 : decode cX0_move 13 = .ok (.iconst 1, 1) := dk_4 (dk_at dksX0_move_0 13 rfl rfl)
theorem dX0_move_14 : decode cX0_move 14 = .ok (.ireturn, 1) := dk_172 (dk_at dksX0_move_0 14 rfl rfl)
theorem dX0_move_15 : decode cX0_move 15 = .ok (.iconst 0, 1) := dk_3 (dk_at dksX0_move_0 15 rfl rfl)
theorem dX0_move_16 : decode cX0_move 16 = .ok (.ireturn, 1) := dk_172 (dk_at dksX0_move_0 16 rfl rfl)
abbrev cX0_count : ByteArray := method_16_code
def yX0_count : MethodName := ⟨RX0, "count", "(LSewnBook;I[J)I"⟩
def dkwX0_count_0 : List UInt8 := [44, 3, 42, 27, 182, 0, 58, 133, 80, 167, 0, 6, 78, 4, 172, 3, 172]
abbrev dktX0_count_0 : List UInt8 := dkwX0_count_0 ++ []
theorem dksX0_count_0 : cX0_count.data.toList.drop 0 = dktX0_count_0 := by decide +kernel
theorem dX0_count_0 : decode cX0_count 0 = .ok (.aload_n 2, 1) := dk_44 (dk_at dksX0_count_0 0 rfl rfl)
theorem dX0_count_1 : decode cX0_count 1 = .ok (.iconst 0, 1) := dk_3 (dk_at dksX0_count_0 1 rfl rfl)
theorem dX0_count_2 : decode cX0_count 2 = .ok (.aload_n 0, 1) := dk_42 (dk_at dksX0_count_0 2 rfl rfl)
theorem dX0_count_3 : decode cX0_count 3 = .ok (.iload_n 1, 1) := dk_27 (dk_at dksX0_count_0 3 rfl rfl)
theorem dX0_count_4 : decode cX0_count 4 = .ok (.invokevirtual 58, 3) := dk_182 0 58 (dk_at dksX0_count_0 4 rfl rfl)
theorem dX0_count_7 : decode cX0_count 7 = .ok (.i2l, 1) := dk_133 (dk_at dksX0_count_0 7 rfl rfl)
theorem dX0_count_8 : decode cX0_count 8 = .ok (.lastore, 1) := dk_80 (dk_at dksX0_count_0 8 rfl rfl)
theorem dX0_count_9 : decode cX0_count 9 = .ok (.goto 6, 3) := dk_167 0 6 (dk_at dksX0_count_0 9 rfl rfl)
theorem dX0_count_12 : decode cX0_count 12 = .ok (.astore_n 3, 1) := dk_78 (dk_at dksX0_count_0 12 rfl rfl)
theorem dX0_count_13 : decode cX0_count 13 = .ok (.iconst 1, 1) := dk_4 (dk_at dksX0_count_0 13 rfl rfl)
theorem dX0_count_14 : decode cX0_count 14 = .ok (.ireturn, 1) := dk_172 (dk_at dksX0_count_0 14 rfl rfl)
theorem dX0_count_15 : decode cX0_count 15 = .ok (.iconst 0, 1) := dk_3 (dk_at dksX0_count_0 15 rfl rfl)
theorem dX0_count_16 : decode cX0_count 16 = .ok (.ireturn, 1) := dk_172 (dk_at dksX0_count_0 16 rfl rfl)
theorem q47 : (Jvm.Cond.initialized "SewnBookLaw") ∈ lw_all := lw_g (lw_at lw_m1 0 rfl) rfl
theorem q76 : (Jvm.Cond.classLink "SewnBookLaw" (8 : Nat) "SewnBook") ∈ lw_all := lw_g (lw_at lw_m1 29 rfl) rfl
theorem q78 : (Jvm.Cond.methodLink "SewnBookLaw" (61 : Nat) ({ cls := "SewnBook", name := "<init>", desc := "()V" } : Jvm.MethodName)) ∈ lw_all := lw_g (lw_at lw_m1 31 rfl) rfl
theorem q570 : (Jvm.Cond.methodLink "SewnBookLaw" (65 : Nat) ({ cls := "SewnBook", name := "book", desc := "(II)Z" } : Jvm.MethodName)) ∈ lw_all := lw_g (lw_at lw_m3 43 rfl) rfl
theorem q571 : (Jvm.Cond.methodLink "SewnBookLaw" (79 : Nat) ({ cls := "SewnBook", name := "thread", desc := "(I)Z" } : Jvm.MethodName)) ∈ lw_all := lw_g (lw_at lw_m3 44 rfl) rfl
theorem q579 : (Jvm.Cond.methodLink "SewnBookLaw" (84 : Nat) ({ cls := "SewnBook", name := "heights", desc := "(II)Z" } : Jvm.MethodName)) ∈ lw_all := lw_g (lw_at lw_m3 52 rfl) rfl
theorem q583 : (Jvm.Cond.methodLink "SewnBookLaw" (91 : Nat) ({ cls := "SewnBook", name := "parts", desc := "()I" } : Jvm.MethodName)) ∈ lw_all := lw_g (lw_at lw_m3 56 rfl) rfl
theorem q587 : (Jvm.Cond.methodLink "SewnBookLaw" (102 : Nat) ({ cls := "SewnBook", name := "feed", desc := "(IIIII)I" } : Jvm.MethodName)) ∈ lw_all := lw_g (lw_at lw_m3 60 rfl) rfl
theorem q595 : (Jvm.Cond.methodLink "SewnBookLaw" (111 : Nat) ({ cls := "SewnBook", name := "fault", desc := "()I" } : Jvm.MethodName)) ∈ lw_all := lw_g (lw_at lw_m3 68 rfl) rfl
theorem q599 : (Jvm.Cond.methodLink "SewnBookLaw" (140 : Nat) ({ cls := "SewnBook", name := "marks", desc := "(I)Z" } : Jvm.MethodName)) ∈ lw_all := lw_g (lw_at lw_m3 72 rfl) rfl
theorem q661 : (Jvm.Cond.methodLink "SewnBookLaw" (69 : Nat) ({ cls := "SewnBookLaw", name := "thick", desc := "(LSewnBook;II[J)I" } : Jvm.MethodName)) ∈ lw_all := lw_g (lw_at lw_m3 134 rfl) rfl
theorem q662 : (Jvm.Cond.static ({ cls := "SewnBookLaw", name := "thick", desc := "(LSewnBook;II[J)I" } : Jvm.MethodName)) ∈ lw_all := lw_g (lw_at lw_m3 135 rfl) rfl
theorem q663 : (Jvm.Cond.codeWith ({ cls := "SewnBookLaw", name := "thick", desc := "(LSewnBook;II[J)I" } : Jvm.MethodName) method_3_code (5 : Nat) (Option.some Jvm.ClassFile.FieldType.int) [((0 : Nat), (17 : Nat), (20 : Nat), (13 : Nat))]) ∈ lw_all := lw_g (lw_at lw_m3 136 rfl) rfl
theorem q664 : (Jvm.Cond.classLink "SewnBookLaw" (13 : Nat) "java/util/NoSuchElementException") ∈ lw_all := lw_g (lw_at lw_m3 137 rfl) rfl
theorem q665 : (Jvm.Cond.methodLink "SewnBookLaw" (7 : Nat) ({ cls := "SewnBook", name := "thick", desc := "(II)Z" } : Jvm.MethodName)) ∈ lw_all := lw_g (lw_at lw_m3 138 rfl) rfl
theorem q697 : (Jvm.Cond.methodLink "SewnBookLaw" (88 : Nat) ({ cls := "SewnBookLaw", name := "kind", desc := "(LSewnBook;II[J)I" } : Jvm.MethodName)) ∈ lw_all := lw_g (lw_at lw_m3 170 rfl) rfl
theorem q698 : (Jvm.Cond.static ({ cls := "SewnBookLaw", name := "kind", desc := "(LSewnBook;II[J)I" } : Jvm.MethodName)) ∈ lw_all := lw_g (lw_at lw_m3 171 rfl) rfl
theorem q699 : (Jvm.Cond.codeWith ({ cls := "SewnBookLaw", name := "kind", desc := "(LSewnBook;II[J)I" } : Jvm.MethodName) method_4_code (5 : Nat) (Option.some Jvm.ClassFile.FieldType.int) [((0 : Nat), (17 : Nat), (20 : Nat), (13 : Nat))]) ∈ lw_all := lw_g (lw_at lw_m3 172 rfl) rfl
theorem q700 : (Jvm.Cond.methodLink "SewnBookLaw" (15 : Nat) ({ cls := "SewnBook", name := "kind", desc := "(II)Z" } : Jvm.MethodName)) ∈ lw_all := lw_g (lw_at lw_m3 173 rfl) rfl
theorem q708 : (Jvm.Cond.methodLink "SewnBookLaw" (95 : Nat) ({ cls := "SewnBookLaw", name := "part", desc := "(LSewnBook;II[J)I" } : Jvm.MethodName)) ∈ lw_all := lw_g (lw_at lw_m3 181 rfl) rfl
theorem q709 : (Jvm.Cond.static ({ cls := "SewnBookLaw", name := "part", desc := "(LSewnBook;II[J)I" } : Jvm.MethodName)) ∈ lw_all := lw_g (lw_at lw_m3 182 rfl) rfl
theorem q710 : (Jvm.Cond.codeWith ({ cls := "SewnBookLaw", name := "part", desc := "(LSewnBook;II[J)I" } : Jvm.MethodName) method_5_code (5 : Nat) (Option.some Jvm.ClassFile.FieldType.int) [((0 : Nat), (10 : Nat), (13 : Nat), (13 : Nat))]) ∈ lw_all := lw_g (lw_at lw_m3 183 rfl) rfl
theorem q711 : (Jvm.Cond.methodLink "SewnBookLaw" (18 : Nat) ({ cls := "SewnBook", name := "part", desc := "(II)I" } : Jvm.MethodName)) ∈ lw_all := lw_g (lw_at lw_m3 184 rfl) rfl
theorem q719 : (Jvm.Cond.methodLink "SewnBookLaw" (98 : Nat) ({ cls := "SewnBookLaw", name := "need", desc := "(LSewnBook;IZ[J)I" } : Jvm.MethodName)) ∈ lw_all := lw_g (lw_at lw_m3 192 rfl) rfl
theorem q720 : (Jvm.Cond.static ({ cls := "SewnBookLaw", name := "need", desc := "(LSewnBook;IZ[J)I" } : Jvm.MethodName)) ∈ lw_all := lw_g (lw_at lw_m3 193 rfl) rfl
theorem q721 : (Jvm.Cond.codeWith ({ cls := "SewnBookLaw", name := "need", desc := "(LSewnBook;IZ[J)I" } : Jvm.MethodName) method_6_code (5 : Nat) (Option.some Jvm.ClassFile.FieldType.int) [((0 : Nat), (17 : Nat), (20 : Nat), (13 : Nat))]) ∈ lw_all := lw_g (lw_at lw_m3 194 rfl) rfl
theorem q722 : (Jvm.Cond.methodLink "SewnBookLaw" (22 : Nat) ({ cls := "SewnBook", name := "need", desc := "(IZ)Z" } : Jvm.MethodName)) ∈ lw_all := lw_g (lw_at lw_m3 195 rfl) rfl
theorem q726 : (Jvm.Cond.methodLink "SewnBookLaw" (107 : Nat) ({ cls := "SewnBookLaw", name := "plan", desc := "(LSewnBook;III[J)I" } : Jvm.MethodName)) ∈ lw_all := lw_g (lw_at lw_m3 199 rfl) rfl
theorem q727 : (Jvm.Cond.static ({ cls := "SewnBookLaw", name := "plan", desc := "(LSewnBook;III[J)I" } : Jvm.MethodName)) ∈ lw_all := lw_g (lw_at lw_m3 200 rfl) rfl
theorem q728 : (Jvm.Cond.codeWith ({ cls := "SewnBookLaw", name := "plan", desc := "(LSewnBook;III[J)I" } : Jvm.MethodName) method_7_code (6 : Nat) (Option.some Jvm.ClassFile.FieldType.int) [((0 : Nat), (12 : Nat), (15 : Nat), (13 : Nat)), ((0 : Nat), (12 : Nat), (19 : Nat), (30 : Nat))]) ∈ lw_all := lw_g (lw_at lw_m3 201 rfl) rfl
theorem q729 : (Jvm.Cond.classLink "SewnBookLaw" (30 : Nat) "java/lang/IllegalArgumentException") ∈ lw_all := lw_g (lw_at lw_m3 202 rfl) rfl
theorem q730 : (Jvm.Cond.methodLink "SewnBookLaw" (26 : Nat) ({ cls := "SewnBook", name := "plan", desc := "(III)I" } : Jvm.MethodName)) ∈ lw_all := lw_g (lw_at lw_m3 203 rfl) rfl
theorem q867 : (Jvm.Cond.methodLink "SewnBookLaw" (115 : Nat) ({ cls := "SewnBookLaw", name := "about", desc := "(LSewnBook;II[J)I" } : Jvm.MethodName)) ∈ lw_all := lw_g (lw_at lw_m4 100 rfl) rfl
theorem q868 : (Jvm.Cond.static ({ cls := "SewnBookLaw", name := "about", desc := "(LSewnBook;II[J)I" } : Jvm.MethodName)) ∈ lw_all := lw_g (lw_at lw_m4 101 rfl) rfl
theorem q869 : (Jvm.Cond.codeWith ({ cls := "SewnBookLaw", name := "about", desc := "(LSewnBook;II[J)I" } : Jvm.MethodName) method_8_code (5 : Nat) (Option.some Jvm.ClassFile.FieldType.int) [((0 : Nat), (10 : Nat), (13 : Nat), (13 : Nat))]) ∈ lw_all := lw_g (lw_at lw_m4 102 rfl) rfl
theorem q870 : (Jvm.Cond.methodLink "SewnBookLaw" (32 : Nat) ({ cls := "SewnBook", name := "about", desc := "(II)I" } : Jvm.MethodName)) ∈ lw_all := lw_g (lw_at lw_m4 103 rfl) rfl
theorem q903 : (Jvm.Cond.methodLink "SewnBookLaw" (118 : Nat) ({ cls := "SewnBookLaw", name := "along", desc := "(LSewnBook;II[J)I" } : Jvm.MethodName)) ∈ lw_all := lw_g (lw_at lw_m4 136 rfl) rfl
theorem q904 : (Jvm.Cond.static ({ cls := "SewnBookLaw", name := "along", desc := "(LSewnBook;II[J)I" } : Jvm.MethodName)) ∈ lw_all := lw_g (lw_at lw_m4 137 rfl) rfl
theorem q905 : (Jvm.Cond.codeWith ({ cls := "SewnBookLaw", name := "along", desc := "(LSewnBook;II[J)I" } : Jvm.MethodName) method_9_code (5 : Nat) (Option.some Jvm.ClassFile.FieldType.int) [((0 : Nat), (10 : Nat), (13 : Nat), (13 : Nat))]) ∈ lw_all := lw_g (lw_at lw_m4 138 rfl) rfl
theorem q906 : (Jvm.Cond.methodLink "SewnBookLaw" (35 : Nat) ({ cls := "SewnBook", name := "along", desc := "(II)I" } : Jvm.MethodName)) ∈ lw_all := lw_g (lw_at lw_m4 139 rfl) rfl
theorem q910 : (Jvm.Cond.methodLink "SewnBookLaw" (121 : Nat) ({ cls := "SewnBookLaw", name := "holes", desc := "(LSewnBook;III[J)I" } : Jvm.MethodName)) ∈ lw_all := lw_g (lw_at lw_m4 143 rfl) rfl
theorem q911 : (Jvm.Cond.static ({ cls := "SewnBookLaw", name := "holes", desc := "(LSewnBook;III[J)I" } : Jvm.MethodName)) ∈ lw_all := lw_g (lw_at lw_m4 144 rfl) rfl
theorem q912 : (Jvm.Cond.codeWith ({ cls := "SewnBookLaw", name := "holes", desc := "(LSewnBook;III[J)I" } : Jvm.MethodName) method_10_code (6 : Nat) (Option.some Jvm.ClassFile.FieldType.int) [((0 : Nat), (12 : Nat), (15 : Nat), (13 : Nat))]) ∈ lw_all := lw_g (lw_at lw_m4 145 rfl) rfl
theorem q913 : (Jvm.Cond.methodLink "SewnBookLaw" (38 : Nat) ({ cls := "SewnBook", name := "holes", desc := "(III)I" } : Jvm.MethodName)) ∈ lw_all := lw_g (lw_at lw_m4 146 rfl) rfl
theorem q917 : (Jvm.Cond.methodLink "SewnBookLaw" (124 : Nat) ({ cls := "SewnBookLaw", name := "tied", desc := "(LSewnBook;II[J)I" } : Jvm.MethodName)) ∈ lw_all := lw_g (lw_at lw_m4 150 rfl) rfl
theorem q918 : (Jvm.Cond.static ({ cls := "SewnBookLaw", name := "tied", desc := "(LSewnBook;II[J)I" } : Jvm.MethodName)) ∈ lw_all := lw_g (lw_at lw_m4 151 rfl) rfl
theorem q919 : (Jvm.Cond.codeWith ({ cls := "SewnBookLaw", name := "tied", desc := "(LSewnBook;II[J)I" } : Jvm.MethodName) method_11_code (5 : Nat) (Option.some Jvm.ClassFile.FieldType.int) [((0 : Nat), (10 : Nat), (13 : Nat), (13 : Nat))]) ∈ lw_all := lw_g (lw_at lw_m4 152 rfl) rfl
theorem q920 : (Jvm.Cond.methodLink "SewnBookLaw" (41 : Nat) ({ cls := "SewnBook", name := "tied", desc := "(II)I" } : Jvm.MethodName)) ∈ lw_all := lw_g (lw_at lw_m4 153 rfl) rfl
theorem q924 : (Jvm.Cond.methodLink "SewnBookLaw" (127 : Nat) ({ cls := "SewnBookLaw", name := "swells", desc := "(LSewnBook;II[J)I" } : Jvm.MethodName)) ∈ lw_all := lw_g (lw_at lw_m4 157 rfl) rfl
theorem q925 : (Jvm.Cond.static ({ cls := "SewnBookLaw", name := "swells", desc := "(LSewnBook;II[J)I" } : Jvm.MethodName)) ∈ lw_all := lw_g (lw_at lw_m4 158 rfl) rfl
theorem q926 : (Jvm.Cond.codeWith ({ cls := "SewnBookLaw", name := "swells", desc := "(LSewnBook;II[J)I" } : Jvm.MethodName) method_12_code (5 : Nat) (Option.some Jvm.ClassFile.FieldType.int) [((0 : Nat), (10 : Nat), (13 : Nat), (13 : Nat))]) ∈ lw_all := lw_g (lw_at lw_m4 159 rfl) rfl
theorem q927 : (Jvm.Cond.methodLink "SewnBookLaw" (44 : Nat) ({ cls := "SewnBook", name := "swells", desc := "(II)I" } : Jvm.MethodName)) ∈ lw_all := lw_g (lw_at lw_m4 160 rfl) rfl
theorem q931 : (Jvm.Cond.methodLink "SewnBookLaw" (130 : Nat) ({ cls := "SewnBookLaw", name := "loose", desc := "(LSewnBook;II[J)I" } : Jvm.MethodName)) ∈ lw_all := lw_g (lw_at lw_m4 164 rfl) rfl
theorem q932 : (Jvm.Cond.static ({ cls := "SewnBookLaw", name := "loose", desc := "(LSewnBook;II[J)I" } : Jvm.MethodName)) ∈ lw_all := lw_g (lw_at lw_m4 165 rfl) rfl
theorem q933 : (Jvm.Cond.codeWith ({ cls := "SewnBookLaw", name := "loose", desc := "(LSewnBook;II[J)I" } : Jvm.MethodName) method_13_code (5 : Nat) (Option.some Jvm.ClassFile.FieldType.int) [((0 : Nat), (10 : Nat), (13 : Nat), (13 : Nat))]) ∈ lw_all := lw_g (lw_at lw_m4 166 rfl) rfl
theorem q934 : (Jvm.Cond.methodLink "SewnBookLaw" (47 : Nat) ({ cls := "SewnBook", name := "loose", desc := "(II)I" } : Jvm.MethodName)) ∈ lw_all := lw_g (lw_at lw_m4 167 rfl) rfl
theorem q942 : (Jvm.Cond.methodLink "SewnBookLaw" (133 : Nat) ({ cls := "SewnBookLaw", name := "best", desc := "(LSewnBook;IZ[J)I" } : Jvm.MethodName)) ∈ lw_all := lw_g (lw_at lw_m4 175 rfl) rfl
theorem q943 : (Jvm.Cond.static ({ cls := "SewnBookLaw", name := "best", desc := "(LSewnBook;IZ[J)I" } : Jvm.MethodName)) ∈ lw_all := lw_g (lw_at lw_m4 176 rfl) rfl
theorem q944 : (Jvm.Cond.codeWith ({ cls := "SewnBookLaw", name := "best", desc := "(LSewnBook;IZ[J)I" } : Jvm.MethodName) method_14_code (5 : Nat) (Option.some Jvm.ClassFile.FieldType.int) [((0 : Nat), (10 : Nat), (13 : Nat), (13 : Nat))]) ∈ lw_all := lw_g (lw_at lw_m4 177 rfl) rfl
theorem q945 : (Jvm.Cond.methodLink "SewnBookLaw" (50 : Nat) ({ cls := "SewnBook", name := "best", desc := "(IZ)I" } : Jvm.MethodName)) ∈ lw_all := lw_g (lw_at lw_m4 178 rfl) rfl
theorem q963 : (Jvm.Cond.methodLink "SewnBookLaw" (136 : Nat) ({ cls := "SewnBookLaw", name := "move", desc := "(LSewnBook;I[J)I" } : Jvm.MethodName)) ∈ lw_all := lw_g (lw_at lw_m4 196 rfl) rfl
theorem q964 : (Jvm.Cond.static ({ cls := "SewnBookLaw", name := "move", desc := "(LSewnBook;I[J)I" } : Jvm.MethodName)) ∈ lw_all := lw_g (lw_at lw_m4 197 rfl) rfl
theorem q965 : (Jvm.Cond.codeWith ({ cls := "SewnBookLaw", name := "move", desc := "(LSewnBook;I[J)I" } : Jvm.MethodName) method_15_code (4 : Nat) (Option.some Jvm.ClassFile.FieldType.int) [((0 : Nat), (9 : Nat), (12 : Nat), (13 : Nat))]) ∈ lw_all := lw_g (lw_at lw_m4 198 rfl) rfl
theorem q966 : (Jvm.Cond.methodLink "SewnBookLaw" (54 : Nat) ({ cls := "SewnBook", name := "move", desc := "(I)I" } : Jvm.MethodName)) ∈ lw_all := lw_g (lw_at lw_m4 199 rfl) rfl
theorem q970 : (Jvm.Cond.methodLink "SewnBookLaw" (144 : Nat) ({ cls := "SewnBookLaw", name := "count", desc := "(LSewnBook;I[J)I" } : Jvm.MethodName)) ∈ lw_all := lw_g (lw_at lw_m4 203 rfl) rfl
theorem q971 : (Jvm.Cond.static ({ cls := "SewnBookLaw", name := "count", desc := "(LSewnBook;I[J)I" } : Jvm.MethodName)) ∈ lw_all := lw_g (lw_at lw_m4 204 rfl) rfl
theorem q972 : (Jvm.Cond.codeWith ({ cls := "SewnBookLaw", name := "count", desc := "(LSewnBook;I[J)I" } : Jvm.MethodName) method_16_code (4 : Nat) (Option.some Jvm.ClassFile.FieldType.int) [((0 : Nat), (9 : Nat), (12 : Nat), (13 : Nat))]) ∈ lw_all := lw_g (lw_at lw_m4 205 rfl) rfl
theorem q973 : (Jvm.Cond.methodLink "SewnBookLaw" (58 : Nat) ({ cls := "SewnBook", name := "count", desc := "(I)I" } : Jvm.MethodName)) ∈ lw_all := lw_g (lw_at lw_m4 206 rfl) rfl
theorem q977 : (Jvm.Cond.classLink "SewnBookLaw" (62 : Nat) "SewnBookModel") ∈ lw_all := lw_g (lw_at lw_m4 210 rfl) rfl
theorem q979 : (Jvm.Cond.methodLink "SewnBookLaw" (64 : Nat) ({ cls := "SewnBookModel", name := "<init>", desc := "()V" } : Jvm.MethodName)) ∈ lw_all := lw_g (lw_at lw_m4 212 rfl) rfl
theorem q1106 : (Jvm.Cond.methodLink "SewnBookLaw" (75 : Nat) ({ cls := "SewnBookModel", name := "thrown", desc := "()I" } : Jvm.MethodName)) ∈ lw_all := lw_g (lw_at lw_m5 99 rfl) rfl
theorem q1110 : (Jvm.Cond.methodLink "SewnBookLaw" (68 : Nat) ({ cls := "SewnBookModel", name := "book", desc := "(II)Z" } : Jvm.MethodName)) ∈ lw_all := lw_g (lw_at lw_m5 103 rfl) rfl
theorem q1114 : (Jvm.Cond.methodLink "SewnBookLaw" (74 : Nat) ({ cls := "SewnBookModel", name := "thick", desc := "(II)Z" } : Jvm.MethodName)) ∈ lw_all := lw_g (lw_at lw_m5 107 rfl) rfl
theorem q1126 : (Jvm.Cond.methodLink "SewnBookLaw" (83 : Nat) ({ cls := "SewnBookModel", name := "thread", desc := "(I)Z" } : Jvm.MethodName)) ∈ lw_all := lw_g (lw_at lw_m5 119 rfl) rfl
theorem q1130 : (Jvm.Cond.methodLink "SewnBookLaw" (87 : Nat) ({ cls := "SewnBookModel", name := "heights", desc := "(II)Z" } : Jvm.MethodName)) ∈ lw_all := lw_g (lw_at lw_m5 123 rfl) rfl
theorem q1134 : (Jvm.Cond.methodLink "SewnBookLaw" (90 : Nat) ({ cls := "SewnBookModel", name := "kind", desc := "(II)Z" } : Jvm.MethodName)) ∈ lw_all := lw_g (lw_at lw_m5 127 rfl) rfl
theorem q1142 : (Jvm.Cond.methodLink "SewnBookLaw" (94 : Nat) ({ cls := "SewnBookModel", name := "parts", desc := "()I" } : Jvm.MethodName)) ∈ lw_all := lw_g (lw_at lw_m5 135 rfl) rfl
theorem q1146 : (Jvm.Cond.methodLink "SewnBookLaw" (97 : Nat) ({ cls := "SewnBookModel", name := "part", desc := "(II)I" } : Jvm.MethodName)) ∈ lw_all := lw_g (lw_at lw_m5 139 rfl) rfl
theorem q1158 : (Jvm.Cond.methodLink "SewnBookLaw" (101 : Nat) ({ cls := "SewnBookModel", name := "need", desc := "(IZ)Z" } : Jvm.MethodName)) ∈ lw_all := lw_g (lw_at lw_m5 151 rfl) rfl
theorem q1162 : (Jvm.Cond.methodLink "SewnBookLaw" (106 : Nat) ({ cls := "SewnBookModel", name := "feed", desc := "(IIIII)I" } : Jvm.MethodName)) ∈ lw_all := lw_g (lw_at lw_m5 155 rfl) rfl
theorem q1166 : (Jvm.Cond.methodLink "SewnBookLaw" (110 : Nat) ({ cls := "SewnBookModel", name := "plan", desc := "(III)I" } : Jvm.MethodName)) ∈ lw_all := lw_g (lw_at lw_m5 159 rfl) rfl
theorem q1208 : (Jvm.Cond.methodLink "SewnBookLaw" (114 : Nat) ({ cls := "SewnBookModel", name := "fault", desc := "()I" } : Jvm.MethodName)) ∈ lw_all := lw_g (lw_at lw_m5 201 rfl) rfl
theorem q1212 : (Jvm.Cond.methodLink "SewnBookLaw" (117 : Nat) ({ cls := "SewnBookModel", name := "about", desc := "(II)I" } : Jvm.MethodName)) ∈ lw_all := lw_g (lw_at lw_m5 205 rfl) rfl
theorem q1240 : (Jvm.Cond.methodLink "SewnBookLaw" (120 : Nat) ({ cls := "SewnBookModel", name := "along", desc := "(II)I" } : Jvm.MethodName)) ∈ lw_all := lw_g (lw_at lw_m5 233 rfl) rfl
theorem q1244 : (Jvm.Cond.methodLink "SewnBookLaw" (123 : Nat) ({ cls := "SewnBookModel", name := "holes", desc := "(III)I" } : Jvm.MethodName)) ∈ lw_all := lw_g (lw_at lw_m5 237 rfl) rfl
theorem q1248 : (Jvm.Cond.methodLink "SewnBookLaw" (126 : Nat) ({ cls := "SewnBookModel", name := "tied", desc := "(II)I" } : Jvm.MethodName)) ∈ lw_all := lw_g (lw_at lw_m6 1 rfl) rfl
theorem q1252 : (Jvm.Cond.methodLink "SewnBookLaw" (129 : Nat) ({ cls := "SewnBookModel", name := "swells", desc := "(II)I" } : Jvm.MethodName)) ∈ lw_all := lw_g (lw_at lw_m6 5 rfl) rfl
theorem q1256 : (Jvm.Cond.methodLink "SewnBookLaw" (132 : Nat) ({ cls := "SewnBookModel", name := "loose", desc := "(II)I" } : Jvm.MethodName)) ∈ lw_all := lw_g (lw_at lw_m6 9 rfl) rfl
theorem q1260 : (Jvm.Cond.methodLink "SewnBookLaw" (135 : Nat) ({ cls := "SewnBookModel", name := "best", desc := "(IZ)I" } : Jvm.MethodName)) ∈ lw_all := lw_g (lw_at lw_m6 13 rfl) rfl
theorem q1280 : (Jvm.Cond.methodLink "SewnBookLaw" (139 : Nat) ({ cls := "SewnBookModel", name := "move", desc := "(I)I" } : Jvm.MethodName)) ∈ lw_all := lw_g (lw_at lw_m6 33 rfl) rfl
theorem q1284 : (Jvm.Cond.methodLink "SewnBookLaw" (143 : Nat) ({ cls := "SewnBookModel", name := "marks", desc := "(I)Z" } : Jvm.MethodName)) ∈ lw_all := lw_g (lw_at lw_m6 37 rfl) rfl
theorem q1292 : (Jvm.Cond.methodLink "SewnBookLaw" (146 : Nat) ({ cls := "SewnBookModel", name := "count", desc := "(I)I" } : Jvm.MethodName)) ∈ lw_all := lw_g (lw_at lw_m6 45 rfl) rfl

theorem q209 : (Jvm.Cond.sameMethod "[B" "java/lang/Object" "clone" "()Ljava/lang/Object;") ∈ lw_all := lw_g (lw_at lw_m1 162 rfl) rfl
set_option maxRecDepth 100000
theorem q212 : (Jvm.Cond.selects "[B" ({ cls := "[B", name := "clone", desc := "()Ljava/lang/Object;" } : Jvm.MethodName) ({ cls := "java/lang/Object", name := "clone", desc := "()Ljava/lang/Object;" } : Jvm.MethodName)) ∈ lw_all := lw_g (lw_at lw_m1 165 rfl) rfl
theorem q213 : (Jvm.Cond.castable "[B" "java/lang/Cloneable") ∈ lw_tbl := lw_at lw_m1 166 rfl
theorem q1323 : (Jvm.Cond.castable "[B" "java/lang/Object") ∈ lw_tbl := lw_at lw_m6 76 rfl

theorem q1322 : (Jvm.Cond.castable "[I" "java/lang/Object") ∈ lw_tbl := lw_at lw_m6 75 rfl
set_option maxRecDepth 100000

theorem q1325 : (Jvm.Cond.castable "[J" "java/lang/Object") ∈ lw_tbl := lw_at lw_m6 78 rfl
set_option maxRecDepth 100000

theorem q1324 : (Jvm.Cond.castable "[Z" "java/lang/Object") ∈ lw_tbl := lw_at lw_m6 77 rfl
set_option maxRecDepth 100000

theorem q1318 : (Jvm.Cond.sameMethod "[Ljava/lang/Object;" "java/lang/Object" "getClass" "()Ljava/lang/Class;") ∈ lw_all := lw_g (lw_at lw_m6 71 rfl) rfl
set_option maxRecDepth 100000
theorem q1319 : (Jvm.Cond.selects "[Ljava/lang/Object;" ({ cls := "java/lang/Object", name := "getClass", desc := "()Ljava/lang/Class;" } : Jvm.MethodName) ({ cls := "java/lang/Object", name := "getClass", desc := "()Ljava/lang/Class;" } : Jvm.MethodName)) ∈ lw_all := lw_g (lw_at lw_m6 72 rfl) rfl
theorem q1321 : (Jvm.Cond.castable "[Ljava/lang/Object;" "java/lang/Object") ∈ lw_tbl := lw_at lw_m6 74 rfl

theorem q75 : (Jvm.Cond.initialized "java/lang/Integer$IntegerCache") ∈ lw_all := lw_g (lw_at lw_m1 28 rfl) rfl
set_option maxRecDepth 100000
theorem q851 : (Jvm.Cond.laysStatic "java/lang/Integer$IntegerCache" "high" "I") ∈ lw_tbl := lw_at lw_m4 84 rfl
theorem q853 : (Jvm.Cond.laysStatic "java/lang/Integer$IntegerCache" "cache" "[Ljava/lang/Integer;") ∈ lw_tbl := lw_at lw_m4 86 rfl

theorem q63 : (Jvm.Cond.initialized "java/lang/System") ∈ lw_all := lw_g (lw_at lw_m1 16 rfl) rfl
set_option maxRecDepth 100000
theorem q219 : (Jvm.Cond.static ({ cls := "java/lang/System", name := "arraycopy", desc := "(Ljava/lang/Object;ILjava/lang/Object;II)V" } : Jvm.MethodName)) ∈ lw_all := lw_g (lw_at lw_m1 172 rfl) rfl
theorem q220 : (Jvm.Cond.native ({ cls := "java/lang/System", name := "arraycopy", desc := "(Ljava/lang/Object;ILjava/lang/Object;II)V" } : Jvm.MethodName)) ∈ lw_all := lw_g (lw_at lw_m1 173 rfl) rfl

theorem q97 : (Jvm.Cond.arrayOver (Jvm.ClassFile.FieldType.object "java/lang/Object")) ∈ lw_tbl := lw_at lw_m1 50 rfl
set_option maxRecDepth 100000
theorem q172 : (Jvm.Cond.arrayClass Jvm.ClassFile.FieldType.int) ∈ lw_all := lw_g (lw_at lw_m1 125 rfl) rfl
theorem q173 : (Jvm.Cond.arrayClass Jvm.ClassFile.FieldType.byte) ∈ lw_all := lw_g (lw_at lw_m1 126 rfl) rfl
theorem q461 : (Jvm.Cond.arrayClass Jvm.ClassFile.FieldType.boolean) ∈ lw_all := lw_g (lw_at lw_m2 174 rfl) rfl
theorem q462 : (Jvm.Cond.arrayClass Jvm.ClassFile.FieldType.long) ∈ lw_all := lw_g (lw_at lw_m2 175 rfl) rfl
