/-! TicketScales$State -/
set_option maxRecDepth 100000
def RX1 : String := "TicketScales$State"
def TX1 : u_T := fun k => match k with
  | 0 => ("TicketScales$State", "counter", "LTicketScales$Counter;", false)
  | _ => ("TicketScales$State", "slots", "[LTicketScales$Counter;", true)
def tyX1 : Nat → FieldType := fun k => match k with
  | 0 => .object "TicketScales$Counter"
  | _ => .array (.object "TicketScales$Counter")
abbrev wsX10 : List Cond := u_ws RX1 TX1 2
theorem nmX1 : ∀ a, a < 2 → ∀ b, b < 2 → a ≠ b → (TX1 a).2.1 ≠ (TX1 b).2.1 := by decide +kernel
theorem tyX1_ok : ∀ k, k < 2 → parseFieldDescriptor (TX1 k).2.2.1 = some (tyX1 k) := by decide +kernel
abbrev cX1_init : ByteArray := prog_18_method_1_code
def yX1_init : MethodName := ⟨RX1, "<init>", "(LTicketScales$Counter;)V"⟩
def dkwX1_init_0 : List UInt8 := [42, 183, 0, 3, 42, 5, 189, 0, 9, 181, 0, 11, 42, 43, 181, 0, 17, 177]
abbrev dktX1_init_0 : List UInt8 := dkwX1_init_0 ++ []
theorem dksX1_init_0 : cX1_init.data.toList.drop 0 = dktX1_init_0 := by decide +kernel
theorem dX1_init_0 : decode cX1_init 0 = .ok (.aload_n 0, 1) := dk_42 (dk_at dksX1_init_0 0 rfl rfl)
theorem dX1_init_1 : decode cX1_init 1 = .ok (.invokespecial 3, 3) := dk_183 0 3 (dk_at dksX1_init_0 1 rfl rfl)
theorem dX1_init_4 : decode cX1_init 4 = .ok (.aload_n 0, 1) := dk_42 (dk_at dksX1_init_0 4 rfl rfl)
theorem dX1_init_5 : decode cX1_init 5 = .ok (.iconst 2, 1) := dk_5 (dk_at dksX1_init_0 5 rfl rfl)
theorem dX1_init_6 : decode cX1_init 6 = .ok (.anewarray 9, 3) := dk_189 0 9 (dk_at dksX1_init_0 6 rfl rfl)
theorem dX1_init_9 : decode cX1_init 9 = .ok (.putfield 11, 3) := dk_181 0 11 (dk_at dksX1_init_0 9 rfl rfl)
theorem dX1_init_12 : decode cX1_init 12 = .ok (.aload_n 0, 1) := dk_42 (dk_at dksX1_init_0 12 rfl rfl)
theorem dX1_init_13 : decode cX1_init 13 = .ok (.aload_n 1, 1) := dk_43 (dk_at dksX1_init_0 13 rfl rfl)
theorem dX1_init_14 : decode cX1_init 14 = .ok (.putfield 17, 3) := dk_181 0 17 (dk_at dksX1_init_0 14 rfl rfl)
theorem dX1_init_17 : decode cX1_init 17 = .ok (.return_, 1) := dk_177 (dk_at dksX1_init_0 17 rfl rfl)
abbrev cX1_copy : ByteArray := prog_18_method_2_code
def yX1_copy : MethodName := ⟨RX1, "copy", "()LTicketScales$State;"⟩
def dkwX1_copy_1 : List UInt8 := [3, 5, 184, 0, 28, 43, 176]
abbrev dktX1_copy_1 : List UInt8 := dkwX1_copy_1 ++ []
def dkwX1_copy_0 : List UInt8 := [187, 0, 12, 89, 42, 180, 0, 17, 182, 0, 21, 183, 0, 25, 76, 42, 180, 0, 11, 3, 43, 180, 0, 11]
abbrev dktX1_copy_0 : List UInt8 := dkwX1_copy_0 ++ dktX1_copy_1
theorem dksX1_copy_0 : cX1_copy.data.toList.drop 0 = dktX1_copy_0 := by decide +kernel
theorem dksX1_copy_1 : cX1_copy.data.toList.drop 24 = dktX1_copy_1 := dk_seg dksX1_copy_0 24 rfl rfl
theorem dX1_copy_0 : decode cX1_copy 0 = .ok (.new 12, 3) := dk_187 0 12 (dk_at dksX1_copy_0 0 rfl rfl)
theorem dX1_copy_3 : decode cX1_copy 3 = .ok (.dup, 1) := dk_89 (dk_at dksX1_copy_0 3 rfl rfl)
theorem dX1_copy_4 : decode cX1_copy 4 = .ok (.aload_n 0, 1) := dk_42 (dk_at dksX1_copy_0 4 rfl rfl)
theorem dX1_copy_5 : decode cX1_copy 5 = .ok (.getfield 17, 3) := dk_180 0 17 (dk_at dksX1_copy_0 5 rfl rfl)
theorem dX1_copy_8 : decode cX1_copy 8 = .ok (.invokevirtual 21, 3) := dk_182 0 21 (dk_at dksX1_copy_0 8 rfl rfl)
theorem dX1_copy_11 : decode cX1_copy 11 = .ok (.invokespecial 25, 3) := dk_183 0 25 (dk_at dksX1_copy_0 11 rfl rfl)
theorem dX1_copy_14 : decode cX1_copy 14 = .ok (.astore_n 1, 1) := dk_76 (dk_at dksX1_copy_0 14 rfl rfl)
theorem dX1_copy_15 : decode cX1_copy 15 = .ok (.aload_n 0, 1) := dk_42 (dk_at dksX1_copy_0 15 rfl rfl)
theorem dX1_copy_16 : decode cX1_copy 16 = .ok (.getfield 11, 3) := dk_180 0 11 (dk_at dksX1_copy_0 16 rfl rfl)
theorem dX1_copy_19 : decode cX1_copy 19 = .ok (.iconst 0, 1) := dk_3 (dk_at dksX1_copy_0 19 rfl rfl)
theorem dX1_copy_20 : decode cX1_copy 20 = .ok (.aload_n 1, 1) := dk_43 (dk_at dksX1_copy_0 20 rfl rfl)
theorem dX1_copy_21 : decode cX1_copy 21 = .ok (.getfield 11, 3) := dk_180 0 11 (dk_at dksX1_copy_0 21 rfl rfl)
theorem dX1_copy_24 : decode cX1_copy 24 = .ok (.iconst 0, 1) := dk_3 (dk_at dksX1_copy_1 0 rfl rfl)
theorem dX1_copy_25 : decode cX1_copy 25 = .ok (.iconst 2, 1) := dk_5 (dk_at dksX1_copy_1 1 rfl rfl)
theorem dX1_copy_26 : decode cX1_copy 26 = .ok (.invokestatic 28, 3) := dk_184 0 28 (dk_at dksX1_copy_1 2 rfl rfl)
theorem dX1_copy_29 : decode cX1_copy 29 = .ok (.aload_n 1, 1) := dk_43 (dk_at dksX1_copy_1 5 rfl rfl)
theorem dX1_copy_30 : decode cX1_copy 30 = .ok (.areturn, 1) := dk_176 (dk_at dksX1_copy_1 6 rfl rfl)
theorem q61 : (Jvm.Cond.initialized "TicketScales$State") ∈ lw_all := lw_g (lw_at lw_m1 2 rfl) rfl
theorem q101 : (Jvm.Cond.instantiable "TicketScales$State" (2 : Nat)) ∈ lw_all := lw_g (lw_at lw_m1 42 rfl) rfl
theorem q180 : (Jvm.Cond.instanceMethod ({ cls := "TicketScales$State", name := "<init>", desc := "(LTicketScales$Counter;)V" } : Jvm.MethodName)) ∈ lw_all := lw_g (lw_at lw_m1 121 rfl) rfl
theorem q181 : (Jvm.Cond.code ({ cls := "TicketScales$State", name := "<init>", desc := "(LTicketScales$Counter;)V" } : Jvm.MethodName) prog_18_method_1_code (2 : Nat) (Option.none : Option Jvm.ClassFile.FieldType)) ∈ lw_all := lw_g (lw_at lw_m1 122 rfl) rfl
theorem q182 : (Jvm.Cond.methodLink "TicketScales$State" (3 : Nat) ({ cls := "java/lang/Object", name := "<init>", desc := "()V" } : Jvm.MethodName)) ∈ lw_all := lw_g (lw_at lw_m1 123 rfl) rfl
theorem q183 : (Jvm.Cond.classLink "TicketScales$State" (9 : Nat) "TicketScales$Counter") ∈ lw_all := lw_g (lw_at lw_m1 124 rfl) rfl
theorem q185 : (Jvm.Cond.fieldLink "TicketScales$State" (17 : Nat) "TicketScales$State" "counter" "LTicketScales$Counter;") ∈ lw_all := lw_g (lw_at lw_m1 126 rfl) rfl
theorem q187 : (Jvm.Cond.fieldLink "TicketScales$State" (11 : Nat) "TicketScales$State" "slots" "[LTicketScales$Counter;") ∈ lw_all := lw_g (lw_at lw_m1 128 rfl) rfl
theorem q189 : (Jvm.Cond.lays "TicketScales$State" "TicketScales$State" "counter" "LTicketScales$Counter;") ∈ lw_all := lw_g (lw_at lw_m1 130 rfl) rfl
theorem q190 : (Jvm.Cond.soleField "TicketScales$State" "counter") ∈ lw_all := lw_g (lw_at lw_m1 131 rfl) rfl
theorem q191 : (Jvm.Cond.laysFinal "TicketScales$State" "TicketScales$State" "slots" "[LTicketScales$Counter;") ∈ lw_all := lw_g (lw_at lw_m1 132 rfl) rfl
theorem q192 : (Jvm.Cond.soleField "TicketScales$State" "slots") ∈ lw_all := lw_g (lw_at lw_m1 133 rfl) rfl
theorem q193 : (Jvm.Cond.superclass "TicketScales$State" "java/lang/Object") ∈ lw_all := lw_g (lw_at lw_m1 134 rfl) rfl
theorem q279 : (Jvm.Cond.instanceMethod ({ cls := "TicketScales$State", name := "copy", desc := "()LTicketScales$State;" } : Jvm.MethodName)) ∈ lw_all := lw_g (lw_at lw_m1 220 rfl) rfl
theorem q280 : (Jvm.Cond.selects "TicketScales$State" ({ cls := "TicketScales$State", name := "copy", desc := "()LTicketScales$State;" } : Jvm.MethodName) ({ cls := "TicketScales$State", name := "copy", desc := "()LTicketScales$State;" } : Jvm.MethodName)) ∈ lw_all := lw_g (lw_at lw_m1 221 rfl) rfl
theorem q281 : (Jvm.Cond.code ({ cls := "TicketScales$State", name := "copy", desc := "()LTicketScales$State;" } : Jvm.MethodName) prog_18_method_2_code (2 : Nat) (Option.some (Jvm.ClassFile.FieldType.object "TicketScales$State"))) ∈ lw_all := lw_g (lw_at lw_m1 222 rfl) rfl
theorem q282 : (Jvm.Cond.classLink "TicketScales$State" (12 : Nat) "TicketScales$State") ∈ lw_all := lw_g (lw_at lw_m1 223 rfl) rfl
theorem q283 : (Jvm.Cond.methodLink "TicketScales$State" (21 : Nat) ({ cls := "TicketScales$Counter", name := "copy", desc := "()LTicketScales$Counter;" } : Jvm.MethodName)) ∈ lw_all := lw_g (lw_at lw_m1 224 rfl) rfl
theorem q417 : (Jvm.Cond.selects "TicketScales$State" ({ cls := "java/lang/Object", name := "getClass", desc := "()Ljava/lang/Class;" } : Jvm.MethodName) ({ cls := "java/lang/Object", name := "getClass", desc := "()Ljava/lang/Class;" } : Jvm.MethodName)) ∈ lw_all := lw_g (lw_at lw_m2 118 rfl) rfl
theorem q476 : (Jvm.Cond.methodLink "TicketScales$State" (25 : Nat) ({ cls := "TicketScales$State", name := "<init>", desc := "(LTicketScales$Counter;)V" } : Jvm.MethodName)) ∈ lw_all := lw_g (lw_at lw_m2 177 rfl) rfl
theorem q477 : (Jvm.Cond.methodLink "TicketScales$State" (28 : Nat) ({ cls := "java/lang/System", name := "arraycopy", desc := "(Ljava/lang/Object;ILjava/lang/Object;II)V" } : Jvm.MethodName)) ∈ lw_all := lw_g (lw_at lw_m2 178 rfl) rfl
theorem q1944 : (Jvm.Cond.castable "TicketScales$State" "java/lang/Object") ∈ lw_tbl := lw_at lw_m8 205 rfl
theorem in_X1 : ∀ w ∈ wsX10, w ∈ lw_all := lw_in wsX10 [189, 191] (by decide +kernel) (by decide +kernel)

/-! TicketScales$Counter -/
set_option maxRecDepth 100000
def RX2 : String := "TicketScales$Counter"
def TX2 : u_T := fun k => match k with
  | 0 => ("TicketScales$Counter", "weights", "[I", true)
  | 1 => ("TicketScales$Counter", "spreads", "[I", true)
  | 2 => ("TicketScales$Counter", "step", "I", false)
  | 3 => ("TicketScales$Counter", "limit", "I", false)
  | 4 => ("TicketScales$Counter", "bias", "I", false)
  | 5 => ("TicketScales$Counter", "rule", "I", false)
  | 6 => ("TicketScales$Counter", "fee", "I", false)
  | 7 => ("TicketScales$Counter", "gift", "I", false)
  | 8 => ("TicketScales$Counter", "customers", "Ljava/util/List;", true)
  | _ => ("TicketScales$Counter", "prizes", "Ljava/util/List;", true)
def tyX2 : Nat → FieldType := fun k => match k with
  | 0 => .array .int
  | 1 => .array .int
  | 2 => .int
  | 3 => .int
  | 4 => .int
  | 5 => .int
  | 6 => .int
  | 7 => .int
  | 8 => .object "java/util/List"
  | _ => .object "java/util/List"
abbrev wsX20 : List Cond := u_ws RX2 TX2 10
theorem nmX2 : ∀ a, a < 10 → ∀ b, b < 10 → a ≠ b → (TX2 a).2.1 ≠ (TX2 b).2.1 := by decide +kernel
theorem tyX2_ok : ∀ k, k < 10 → parseFieldDescriptor (TX2 k).2.2.1 = some (tyX2 k) := by decide +kernel
abbrev cX2_init : ByteArray := prog_5_method_1_code
def yX2_init : MethodName := ⟨RX2, "<init>", "()V"⟩
def dkwX2_init_4 : List UInt8 := [187, 0, 28, 89, 183, 0, 30, 181, 0, 35, 177]
abbrev dktX2_init_4 : List UInt8 := dkwX2_init_4 ++ []
def dkwX2_init_3 : List UInt8 := [16, 50, 181, 0, 22, 42, 8, 181, 0, 25, 42, 187, 0, 28, 89, 183, 0, 30, 181, 0, 31, 42]
abbrev dktX2_init_3 : List UInt8 := dkwX2_init_3 ++ dktX2_init_4
def dkwX2_init_2 : List UInt8 := [16, 10, 79, 89, 5, 16, 10, 79, 89, 6, 16, 10, 79, 181, 0, 15, 42, 16, 100, 181, 0, 18, 42]
abbrev dktX2_init_2 : List UInt8 := dkwX2_init_2 ++ dktX2_init_3
def dkwX2_init_1 : List UInt8 := [17, 3, 232, 79, 89, 6, 17, 3, 232, 79, 181, 0, 9, 42, 7, 188, 10, 89, 3, 16, 10, 79, 89, 4]
abbrev dktX2_init_1 : List UInt8 := dkwX2_init_1 ++ dktX2_init_2
def dkwX2_init_0 : List UInt8 := [42, 183, 0, 3, 42, 7, 188, 10, 89, 3, 17, 3, 232, 79, 89, 4, 17, 3, 232, 79, 89, 5]
abbrev dktX2_init_0 : List UInt8 := dkwX2_init_0 ++ dktX2_init_1
theorem dksX2_init_0 : cX2_init.data.toList.drop 0 = dktX2_init_0 := by decide +kernel
theorem dksX2_init_1 : cX2_init.data.toList.drop 22 = dktX2_init_1 := dk_seg dksX2_init_0 22 rfl rfl
theorem dksX2_init_2 : cX2_init.data.toList.drop 46 = dktX2_init_2 := dk_seg dksX2_init_1 24 rfl rfl
theorem dksX2_init_3 : cX2_init.data.toList.drop 69 = dktX2_init_3 := dk_seg dksX2_init_2 23 rfl rfl
theorem dksX2_init_4 : cX2_init.data.toList.drop 91 = dktX2_init_4 := dk_seg dksX2_init_3 22 rfl rfl
theorem dX2_init_0 : decode cX2_init 0 = .ok (.aload_n 0, 1) := dk_42 (dk_at dksX2_init_0 0 rfl rfl)
theorem dX2_init_1 : decode cX2_init 1 = .ok (.invokespecial 3, 3) := dk_183 0 3 (dk_at dksX2_init_0 1 rfl rfl)
theorem dX2_init_4 : decode cX2_init 4 = .ok (.aload_n 0, 1) := dk_42 (dk_at dksX2_init_0 4 rfl rfl)
theorem dX2_init_5 : decode cX2_init 5 = .ok (.iconst 4, 1) := dk_7 (dk_at dksX2_init_0 5 rfl rfl)
theorem dX2_init_6 : decode cX2_init 6 = .ok (.newarray .int, 2) := dk_188_10 (dk_at dksX2_init_0 6 rfl rfl)
theorem dX2_init_8 : decode cX2_init 8 = .ok (.dup, 1) := dk_89 (dk_at dksX2_init_0 8 rfl rfl)
theorem dX2_init_9 : decode cX2_init 9 = .ok (.iconst 0, 1) := dk_3 (dk_at dksX2_init_0 9 rfl rfl)
theorem dX2_init_10 : decode cX2_init 10 = .ok (.sipush 1000, 3) := dk_17 3 232 (dk_at dksX2_init_0 10 rfl rfl)
theorem dX2_init_13 : decode cX2_init 13 = .ok (.iastore, 1) := dk_79 (dk_at dksX2_init_0 13 rfl rfl)
theorem dX2_init_14 : decode cX2_init 14 = .ok (.dup, 1) := dk_89 (dk_at dksX2_init_0 14 rfl rfl)
theorem dX2_init_15 : decode cX2_init 15 = .ok (.iconst 1, 1) := dk_4 (dk_at dksX2_init_0 15 rfl rfl)
theorem dX2_init_16 : decode cX2_init 16 = .ok (.sipush 1000, 3) := dk_17 3 232 (dk_at dksX2_init_0 16 rfl rfl)
theorem dX2_init_19 : decode cX2_init 19 = .ok (.iastore, 1) := dk_79 (dk_at dksX2_init_0 19 rfl rfl)
theorem dX2_init_20 : decode cX2_init 20 = .ok (.dup, 1) := dk_89 (dk_at dksX2_init_0 20 rfl rfl)
theorem dX2_init_21 : decode cX2_init 21 = .ok (.iconst 2, 1) := dk_5 (dk_at dksX2_init_0 21 rfl rfl)
theorem dX2_init_22 : decode cX2_init 22 = .ok (.sipush 1000, 3) := dk_17 3 232 (dk_at dksX2_init_1 0 rfl rfl)
theorem dX2_init_25 : decode cX2_init 25 = .ok (.iastore, 1) := dk_79 (dk_at dksX2_init_1 3 rfl rfl)
theorem dX2_init_26 : decode cX2_init 26 = .ok (.dup, 1) := dk_89 (dk_at dksX2_init_1 4 rfl rfl)
theorem dX2_init_27 : decode cX2_init 27 = .ok (.iconst 3, 1) := dk_6 (dk_at dksX2_init_1 5 rfl rfl)
theorem dX2_init_28 : decode cX2_init 28 = .ok (.sipush 1000, 3) := dk_17 3 232 (dk_at dksX2_init_1 6 rfl rfl)
theorem dX2_init_31 : decode cX2_init 31 = .ok (.iastore, 1) := dk_79 (dk_at dksX2_init_1 9 rfl rfl)
theorem dX2_init_32 : decode cX2_init 32 = .ok (.putfield 9, 3) := dk_181 0 9 (dk_at dksX2_init_1 10 rfl rfl)
theorem dX2_init_35 : decode cX2_init 35 = .ok (.aload_n 0, 1) := dk_42 (dk_at dksX2_init_1 13 rfl rfl)
theorem dX2_init_36 : decode cX2_init 36 = .ok (.iconst 4, 1) := dk_7 (dk_at dksX2_init_1 14 rfl rfl)
theorem dX2_init_37 : decode cX2_init 37 = .ok (.newarray .int, 2) := dk_188_10 (dk_at dksX2_init_1 15 rfl rfl)
theorem dX2_init_39 : decode cX2_init 39 = .ok (.dup, 1) := dk_89 (dk_at dksX2_init_1 17 rfl rfl)
theorem dX2_init_40 : decode cX2_init 40 = .ok (.iconst 0, 1) := dk_3 (dk_at dksX2_init_1 18 rfl rfl)
theorem dX2_init_41 : decode cX2_init 41 = .ok (.bipush 10, 2) := dk_16 10 (dk_at dksX2_init_1 19 rfl rfl)
theorem dX2_init_43 : decode cX2_init 43 = .ok (.iastore, 1) := dk_79 (dk_at dksX2_init_1 21 rfl rfl)
theorem dX2_init_44 : decode cX2_init 44 = .ok (.dup, 1) := dk_89 (dk_at dksX2_init_1 22 rfl rfl)
theorem dX2_init_45 : decode cX2_init 45 = .ok (.iconst 1, 1) := dk_4 (dk_at dksX2_init_1 23 rfl rfl)
theorem dX2_init_46 : decode cX2_init 46 = .ok (.bipush 10, 2) := dk_16 10 (dk_at dksX2_init_2 0 rfl rfl)
theorem dX2_init_48 : decode cX2_init 48 = .ok (.iastore, 1) := dk_79 (dk_at dksX2_init_2 2 rfl rfl)
theorem dX2_init_49 : decode cX2_init 49 = .ok (.dup, 1) := dk_89 (dk_at dksX2_init_2 3 rfl rfl)
theorem dX2_init_50 : decode cX2_init 50 = .ok (.iconst 2, 1) := dk_5 (dk_at dksX2_init_2 4 rfl rfl)
theorem dX2_init_51 : decode cX2_init 51 = .ok (.bipush 10, 2) := dk_16 10 (dk_at dksX2_init_2 5 rfl rfl)
theorem dX2_init_53 : decode cX2_init 53 = .ok (.iastore, 1) := dk_79 (dk_at dksX2_init_2 7 rfl rfl)
theorem dX2_init_54 : decode cX2_init 54 = .ok (.dup, 1) := dk_89 (dk_at dksX2_init_2 8 rfl rfl)
theorem dX2_init_55 : decode cX2_init 55 = .ok (.iconst 3, 1) := dk_6 (dk_at dksX2_init_2 9 rfl rfl)
theorem dX2_init_56 : decode cX2_init 56 = .ok (.bipush 10, 2) := dk_16 10 (dk_at dksX2_init_2 10 rfl rfl)
theorem dX2_init_58 : decode cX2_init 58 = .ok (.iastore, 1) := dk_79 (dk_at dksX2_init_2 12 rfl rfl)
theorem dX2_init_59 : decode cX2_init 59 = .ok (.putfield 15, 3) := dk_181 0 15 (dk_at dksX2_init_2 13 rfl rfl)
theorem dX2_init_62 : decode cX2_init 62 = .ok (.aload_n 0, 1) := dk_42 (dk_at dksX2_init_2 16 rfl rfl)
theorem dX2_init_63 : decode cX2_init 63 = .ok (.bipush 100, 2) := dk_16 100 (dk_at dksX2_init_2 17 rfl rfl)
theorem dX2_init_65 : decode cX2_init 65 = .ok (.putfield 18, 3) := dk_181 0 18 (dk_at dksX2_init_2 19 rfl rfl)
theorem dX2_init_68 : decode cX2_init 68 = .ok (.aload_n 0, 1) := dk_42 (dk_at dksX2_init_2 22 rfl rfl)
theorem dX2_init_69 : decode cX2_init 69 = .ok (.bipush 50, 2) := dk_16 50 (dk_at dksX2_init_3 0 rfl rfl)
theorem dX2_init_71 : decode cX2_init 71 = .ok (.putfield 22, 3) := dk_181 0 22 (dk_at dksX2_init_3 2 rfl rfl)
theorem dX2_init_74 : decode cX2_init 74 = .ok (.aload_n 0, 1) := dk_42 (dk_at dksX2_init_3 5 rfl rfl)
theorem dX2_init_75 : decode cX2_init 75 = .ok (.iconst 5, 1) := dk_8 (dk_at dksX2_init_3 6 rfl rfl)
theorem dX2_init_76 : decode cX2_init 76 = .ok (.putfield 25, 3) := dk_181 0 25 (dk_at dksX2_init_3 7 rfl rfl)
theorem dX2_init_79 : decode cX2_init 79 = .ok (.aload_n 0, 1) := dk_42 (dk_at dksX2_init_3 10 rfl rfl)
theorem dX2_init_80 : decode cX2_init 80 = .ok (.new 28, 3) := dk_187 0 28 (dk_at dksX2_init_3 11 rfl rfl)
theorem dX2_init_83 : decode cX2_init 83 = .ok (.dup, 1) := dk_89 (dk_at dksX2_init_3 14 rfl rfl)
theorem dX2_init_84 : decode cX2_init 84 = .ok (.invokespecial 30, 3) := dk_183 0 30 (dk_at dksX2_init_3 15 rfl rfl)
theorem dX2_init_87 : decode cX2_init 87 = .ok (.putfield 31, 3) := dk_181 0 31 (dk_at dksX2_init_3 18 rfl rfl)
theorem dX2_init_90 : decode cX2_init 90 = .ok (.aload_n 0, 1) := dk_42 (dk_at dksX2_init_3 21 rfl rfl)
theorem dX2_init_91 : decode cX2_init 91 = .ok (.new 28, 3) := dk_187 0 28 (dk_at dksX2_init_4 0 rfl rfl)
theorem dX2_init_94 : decode cX2_init 94 = .ok (.dup, 1) := dk_89 (dk_at dksX2_init_4 3 rfl rfl)
theorem dX2_init_95 : decode cX2_init 95 = .ok (.invokespecial 30, 3) := dk_183 0 30 (dk_at dksX2_init_4 4 rfl rfl)
theorem dX2_init_98 : decode cX2_init 98 = .ok (.putfield 35, 3) := dk_181 0 35 (dk_at dksX2_init_4 7 rfl rfl)
theorem dX2_init_101 : decode cX2_init 101 = .ok (.return_, 1) := dk_177 (dk_at dksX2_init_4 10 rfl rfl)
abbrev cX2_setKind : ByteArray := prog_5_method_15_code
def yX2_setKind : MethodName := ⟨RX2, "setKind", "(III)I"⟩
def dkwX2_setKind_2 : List UInt8 := [28, 79, 42, 180, 0, 15, 27, 29, 79, 21, 4, 172]
abbrev dktX2_setKind_2 : List UInt8 := dkwX2_setKind_2 ++ []
def dkwX2_setKind_1 : List UInt8 := [16, 50, 184, 0, 89, 154, 0, 6, 18, 159, 172, 42, 180, 0, 9, 27, 46, 54, 4, 42, 180, 0, 9, 27]
abbrev dktX2_setKind_1 : List UInt8 := dkwX2_setKind_1 ++ dktX2_setKind_2
def dkwX2_setKind_0 : List UInt8 := [27, 3, 6, 184, 0, 89, 153, 0, 25, 28, 16, 100, 17, 19, 136, 184, 0, 89, 153, 0, 13, 29, 3]
abbrev dktX2_setKind_0 : List UInt8 := dkwX2_setKind_0 ++ dktX2_setKind_1
theorem dksX2_setKind_0 : cX2_setKind.data.toList.drop 0 = dktX2_setKind_0 := by decide +kernel
theorem dksX2_setKind_1 : cX2_setKind.data.toList.drop 23 = dktX2_setKind_1 := dk_seg dksX2_setKind_0 23 rfl rfl
theorem dksX2_setKind_2 : cX2_setKind.data.toList.drop 47 = dktX2_setKind_2 := dk_seg dksX2_setKind_1 24 rfl rfl
theorem dX2_setKind_0 : decode cX2_setKind 0 = .ok (.iload_n 1, 1) := dk_27 (dk_at dksX2_setKind_0 0 rfl rfl)
theorem dX2_setKind_1 : decode cX2_setKind 1 = .ok (.iconst 0, 1) := dk_3 (dk_at dksX2_setKind_0 1 rfl rfl)
theorem dX2_setKind_2 : decode cX2_setKind 2 = .ok (.iconst 3, 1) := dk_6 (dk_at dksX2_setKind_0 2 rfl rfl)
theorem dX2_setKind_3 : decode cX2_setKind 3 = .ok (.invokestatic 89, 3) := dk_184 0 89 (dk_at dksX2_setKind_0 3 rfl rfl)
theorem dX2_setKind_6 : decode cX2_setKind 6 = .ok (.ifCond .eq 25, 3) := dk_153 0 25 (dk_at dksX2_setKind_0 6 rfl rfl)
theorem dX2_setKind_9 : decode cX2_setKind 9 = .ok (.iload_n 2, 1) := dk_28 (dk_at dksX2_setKind_0 9 rfl rfl)
theorem dX2_setKind_10 : decode cX2_setKind 10 = .ok (.bipush 100, 2) := dk_16 100 (dk_at dksX2_setKind_0 10 rfl rfl)
theorem dX2_setKind_12 : decode cX2_setKind 12 = .ok (.sipush 5000, 3) := dk_17 19 136 (dk_at dksX2_setKind_0 12 rfl rfl)
theorem dX2_setKind_15 : decode cX2_setKind 15 = .ok (.invokestatic 89, 3) := dk_184 0 89 (dk_at dksX2_setKind_0 15 rfl rfl)
theorem dX2_setKind_18 : decode cX2_setKind 18 = .ok (.ifCond .eq 13, 3) := dk_153 0 13 (dk_at dksX2_setKind_0 18 rfl rfl)
theorem dX2_setKind_21 : decode cX2_setKind 21 = .ok (.iload_n 3, 1) := dk_29 (dk_at dksX2_setKind_0 21 rfl rfl)
theorem dX2_setKind_22 : decode cX2_setKind 22 = .ok (.iconst 0, 1) := dk_3 (dk_at dksX2_setKind_0 22 rfl rfl)
theorem dX2_setKind_23 : decode cX2_setKind 23 = .ok (.bipush 50, 2) := dk_16 50 (dk_at dksX2_setKind_1 0 rfl rfl)
theorem dX2_setKind_25 : decode cX2_setKind 25 = .ok (.invokestatic 89, 3) := dk_184 0 89 (dk_at dksX2_setKind_1 2 rfl rfl)
theorem dX2_setKind_28 : decode cX2_setKind 28 = .ok (.ifCond .ne 6, 3) := dk_154 0 6 (dk_at dksX2_setKind_1 5 rfl rfl)
theorem dX2_setKind_31 : decode cX2_setKind 31 = .ok (.ldc 159, 2) := dk_18 159 (dk_at dksX2_setKind_1 8 rfl rfl)
theorem dX2_setKind_33 : decode cX2_setKind 33 = .ok (.ireturn, 1) := dk_172 (dk_at dksX2_setKind_1 10 rfl rfl)
theorem dX2_setKind_34 : decode cX2_setKind 34 = .ok (.aload_n 0, 1) := dk_42 (dk_at dksX2_setKind_1 11 rfl rfl)
theorem dX2_setKind_35 : decode cX2_setKind 35 = .ok (.getfield 9, 3) := dk_180 0 9 (dk_at dksX2_setKind_1 12 rfl rfl)
theorem dX2_setKind_38 : decode cX2_setKind 38 = .ok (.iload_n 1, 1) := dk_27 (dk_at dksX2_setKind_1 15 rfl rfl)
theorem dX2_setKind_39 : decode cX2_setKind 39 = .ok (.iaload, 1) := dk_46 (dk_at dksX2_setKind_1 16 rfl rfl)
theorem dX2_setKind_40 : decode cX2_setKind 40 = .ok (.istore 4, 2) := dk_54 4 (dk_at dksX2_setKind_1 17 rfl rfl)
theorem dX2_setKind_42 : decode cX2_setKind 42 = .ok (.aload_n 0, 1) := dk_42 (dk_at dksX2_setKind_1 19 rfl rfl)
theorem dX2_setKind_43 : decode cX2_setKind 43 = .ok (.getfield 9, 3) := dk_180 0 9 (dk_at dksX2_setKind_1 20 rfl rfl)
theorem dX2_setKind_46 : decode cX2_setKind 46 = .ok (.iload_n 1, 1) := dk_27 (dk_at dksX2_setKind_1 23 rfl rfl)
theorem dX2_setKind_47 : decode cX2_setKind 47 = .ok (.iload_n 2, 1) := dk_28 (dk_at dksX2_setKind_2 0 rfl rfl)
theorem dX2_setKind_48 : decode cX2_setKind 48 = .ok (.iastore, 1) := dk_79 (dk_at dksX2_setKind_2 1 rfl rfl)
theorem dX2_setKind_49 : decode cX2_setKind 49 = .ok (.aload_n 0, 1) := dk_42 (dk_at dksX2_setKind_2 2 rfl rfl)
theorem dX2_setKind_50 : decode cX2_setKind 50 = .ok (.getfield 15, 3) := dk_180 0 15 (dk_at dksX2_setKind_2 3 rfl rfl)
theorem dX2_setKind_53 : decode cX2_setKind 53 = .ok (.iload_n 1, 1) := dk_27 (dk_at dksX2_setKind_2 6 rfl rfl)
theorem dX2_setKind_54 : decode cX2_setKind 54 = .ok (.iload_n 3, 1) := dk_29 (dk_at dksX2_setKind_2 7 rfl rfl)
theorem dX2_setKind_55 : decode cX2_setKind 55 = .ok (.iastore, 1) := dk_79 (dk_at dksX2_setKind_2 8 rfl rfl)
theorem dX2_setKind_56 : decode cX2_setKind 56 = .ok (.iload 4, 2) := dk_21 4 (dk_at dksX2_setKind_2 9 rfl rfl)
theorem dX2_setKind_58 : decode cX2_setKind 58 = .ok (.ireturn, 1) := dk_172 (dk_at dksX2_setKind_2 11 rfl rfl)
abbrev cX2_copy : ByteArray := prog_5_method_2_code
def yX2_copy : MethodName := ⟨RX2, "copy", "()LTicketScales$Counter;"⟩
def dkwX2_copy_7 : List UInt8 := [182, 0, 82, 185, 0, 76, 2, 0, 87, 167, 255, 223, 43, 176]
abbrev dktX2_copy_7 : List UInt8 := dkwX2_copy_7 ++ []
def dkwX2_copy_6 : List UInt8 := [185, 0, 60, 1, 0, 153, 0, 30, 44, 185, 0, 66, 1, 0, 192, 0, 80, 78, 43, 180, 0, 35, 45]
abbrev dktX2_copy_6 : List UInt8 := dkwX2_copy_6 ++ dktX2_copy_7
def dkwX2_copy_5 : List UInt8 := [182, 0, 72, 185, 0, 76, 2, 0, 87, 167, 255, 223, 42, 180, 0, 35, 185, 0, 54, 1, 0, 77, 44]
abbrev dktX2_copy_5 : List UInt8 := dkwX2_copy_5 ++ dktX2_copy_6
def dkwX2_copy_4 : List UInt8 := [44, 185, 0, 60, 1, 0, 153, 0, 30, 44, 185, 0, 66, 1, 0, 192, 0, 70, 78, 43, 180, 0, 31, 45]
abbrev dktX2_copy_4 : List UInt8 := dkwX2_copy_4 ++ dktX2_copy_5
def dkwX2_copy_3 : List UInt8 := [180, 0, 25, 181, 0, 25, 43, 42, 180, 0, 51, 181, 0, 51, 42, 180, 0, 31, 185, 0, 54, 1, 0, 77]
abbrev dktX2_copy_3 : List UInt8 := dkwX2_copy_3 ++ dktX2_copy_4
def dkwX2_copy_2 : List UInt8 := [180, 0, 22, 181, 0, 22, 43, 42, 180, 0, 45, 181, 0, 45, 43, 42, 180, 0, 48, 181, 0, 48, 43, 42]
abbrev dktX2_copy_2 : List UInt8 := dkwX2_copy_2 ++ dktX2_copy_3
def dkwX2_copy_1 : List UInt8 := [180, 0, 15, 3, 43, 180, 0, 15, 3, 7, 184, 0, 39, 43, 42, 180, 0, 18, 181, 0, 18, 43, 42]
abbrev dktX2_copy_1 : List UInt8 := dkwX2_copy_1 ++ dktX2_copy_2
def dkwX2_copy_0 : List UInt8 := [187, 0, 10, 89, 183, 0, 38, 76, 42, 180, 0, 9, 3, 43, 180, 0, 9, 3, 7, 184, 0, 39, 42]
abbrev dktX2_copy_0 : List UInt8 := dkwX2_copy_0 ++ dktX2_copy_1
theorem dksX2_copy_0 : cX2_copy.data.toList.drop 0 = dktX2_copy_0 := by decide +kernel
theorem dksX2_copy_1 : cX2_copy.data.toList.drop 23 = dktX2_copy_1 := dk_seg dksX2_copy_0 23 rfl rfl
theorem dksX2_copy_2 : cX2_copy.data.toList.drop 46 = dktX2_copy_2 := dk_seg dksX2_copy_1 23 rfl rfl
theorem dksX2_copy_3 : cX2_copy.data.toList.drop 70 = dktX2_copy_3 := dk_seg dksX2_copy_2 24 rfl rfl
theorem dksX2_copy_4 : cX2_copy.data.toList.drop 94 = dktX2_copy_4 := dk_seg dksX2_copy_3 24 rfl rfl
theorem dksX2_copy_5 : cX2_copy.data.toList.drop 118 = dktX2_copy_5 := dk_seg dksX2_copy_4 24 rfl rfl
theorem dksX2_copy_6 : cX2_copy.data.toList.drop 141 = dktX2_copy_6 := dk_seg dksX2_copy_5 23 rfl rfl
theorem dksX2_copy_7 : cX2_copy.data.toList.drop 164 = dktX2_copy_7 := dk_seg dksX2_copy_6 23 rfl rfl
theorem dX2_copy_0 : decode cX2_copy 0 = .ok (.new 10, 3) := dk_187 0 10 (dk_at dksX2_copy_0 0 rfl rfl)
theorem dX2_copy_3 : decode cX2_copy 3 = .ok (.dup, 1) := dk_89 (dk_at dksX2_copy_0 3 rfl rfl)
theorem dX2_copy_4 : decode cX2_copy 4 = .ok (.invokespecial 38, 3) := dk_183 0 38 (dk_at dksX2_copy_0 4 rfl rfl)
theorem dX2_copy_7 : decode cX2_copy 7 = .ok (.astore_n 1, 1) := dk_76 (dk_at dksX2_copy_0 7 rfl rfl)
theorem dX2_copy_8 : decode cX2_copy 8 = .ok (.aload_n 0, 1) := dk_42 (dk_at dksX2_copy_0 8 rfl rfl)
theorem dX2_copy_9 : decode cX2_copy 9 = .ok (.getfield 9, 3) := dk_180 0 9 (dk_at dksX2_copy_0 9 rfl rfl)
theorem dX2_copy_12 : decode cX2_copy 12 = .ok (.iconst 0, 1) := dk_3 (dk_at dksX2_copy_0 12 rfl rfl)
theorem dX2_copy_13 : decode cX2_copy 13 = .ok (.aload_n 1, 1) := dk_43 (dk_at dksX2_copy_0 13 rfl rfl)
theorem dX2_copy_14 : decode cX2_copy 14 = .ok (.getfield 9, 3) := dk_180 0 9 (dk_at dksX2_copy_0 14 rfl rfl)
theorem dX2_copy_17 : decode cX2_copy 17 = .ok (.iconst 0, 1) := dk_3 (dk_at dksX2_copy_0 17 rfl rfl)
theorem dX2_copy_18 : decode cX2_copy 18 = .ok (.iconst 4, 1) := dk_7 (dk_at dksX2_copy_0 18 rfl rfl)
theorem dX2_copy_19 : decode cX2_copy 19 = .ok (.invokestatic 39, 3) := dk_184 0 39 (dk_at dksX2_copy_0 19 rfl rfl)
theorem dX2_copy_22 : decode cX2_copy 22 = .ok (.aload_n 0, 1) := dk_42 (dk_at dksX2_copy_0 22 rfl rfl)
theorem dX2_copy_23 : decode cX2_copy 23 = .ok (.getfield 15, 3) := dk_180 0 15 (dk_at dksX2_copy_1 0 rfl rfl)
theorem dX2_copy_26 : decode cX2_copy 26 = .ok (.iconst 0, 1) := dk_3 (dk_at dksX2_copy_1 3 rfl rfl)
theorem dX2_copy_27 : decode cX2_copy 27 = .ok (.aload_n 1, 1) := dk_43 (dk_at dksX2_copy_1 4 rfl rfl)
theorem dX2_copy_28 : decode cX2_copy 28 = .ok (.getfield 15, 3) := dk_180 0 15 (dk_at dksX2_copy_1 5 rfl rfl)
theorem dX2_copy_31 : decode cX2_copy 31 = .ok (.iconst 0, 1) := dk_3 (dk_at dksX2_copy_1 8 rfl rfl)
theorem dX2_copy_32 : decode cX2_copy 32 = .ok (.iconst 4, 1) := dk_7 (dk_at dksX2_copy_1 9 rfl rfl)
theorem dX2_copy_33 : decode cX2_copy 33 = .ok (.invokestatic 39, 3) := dk_184 0 39 (dk_at dksX2_copy_1 10 rfl rfl)
theorem dX2_copy_36 : decode cX2_copy 36 = .ok (.aload_n 1, 1) := dk_43 (dk_at dksX2_copy_1 13 rfl rfl)
theorem dX2_copy_37 : decode cX2_copy 37 = .ok (.aload_n 0, 1) := dk_42 (dk_at dksX2_copy_1 14 rfl rfl)
theorem dX2_copy_38 : decode cX2_copy 38 = .ok (.getfield 18, 3) := dk_180 0 18 (dk_at dksX2_copy_1 15 rfl rfl)
theorem dX2_copy_41 : decode cX2_copy 41 = .ok (.putfield 18, 3) := dk_181 0 18 (dk_at dksX2_copy_1 18 rfl rfl)
theorem dX2_copy_44 : decode cX2_copy 44 = .ok (.aload_n 1, 1) := dk_43 (dk_at dksX2_copy_1 21 rfl rfl)
theorem dX2_copy_45 : decode cX2_copy 45 = .ok (.aload_n 0, 1) := dk_42 (dk_at dksX2_copy_1 22 rfl rfl)
theorem dX2_copy_46 : decode cX2_copy 46 = .ok (.getfield 22, 3) := dk_180 0 22 (dk_at dksX2_copy_2 0 rfl rfl)
theorem dX2_copy_49 : decode cX2_copy 49 = .ok (.putfield 22, 3) := dk_181 0 22 (dk_at dksX2_copy_2 3 rfl rfl)
theorem dX2_copy_52 : decode cX2_copy 52 = .ok (.aload_n 1, 1) := dk_43 (dk_at dksX2_copy_2 6 rfl rfl)
theorem dX2_copy_53 : decode cX2_copy 53 = .ok (.aload_n 0, 1) := dk_42 (dk_at dksX2_copy_2 7 rfl rfl)
theorem dX2_copy_54 : decode cX2_copy 54 = .ok (.getfield 45, 3) := dk_180 0 45 (dk_at dksX2_copy_2 8 rfl rfl)
theorem dX2_copy_57 : decode cX2_copy 57 = .ok (.putfield 45, 3) := dk_181 0 45 (dk_at dksX2_copy_2 11 rfl rfl)
theorem dX2_copy_60 : decode cX2_copy 60 = .ok (.aload_n 1, 1) := dk_43 (dk_at dksX2_copy_2 14 rfl rfl)
theorem dX2_copy_61 : decode cX2_copy 61 = .ok (.aload_n 0, 1) := dk_42 (dk_at dksX2_copy_2 15 rfl rfl)
theorem dX2_copy_62 : decode cX2_copy 62 = .ok (.getfield 48, 3) := dk_180 0 48 (dk_at dksX2_copy_2 16 rfl rfl)
theorem dX2_copy_65 : decode cX2_copy 65 = .ok (.putfield 48, 3) := dk_181 0 48 (dk_at dksX2_copy_2 19 rfl rfl)
theorem dX2_copy_68 : decode cX2_copy 68 = .ok (.aload_n 1, 1) := dk_43 (dk_at dksX2_copy_2 22 rfl rfl)
theorem dX2_copy_69 : decode cX2_copy 69 = .ok (.aload_n 0, 1) := dk_42 (dk_at dksX2_copy_2 23 rfl rfl)
theorem dX2_copy_70 : decode cX2_copy 70 = .ok (.getfield 25, 3) := dk_180 0 25 (dk_at dksX2_copy_3 0 rfl rfl)
theorem dX2_copy_73 : decode cX2_copy 73 = .ok (.putfield 25, 3) := dk_181 0 25 (dk_at dksX2_copy_3 3 rfl rfl)
theorem dX2_copy_76 : decode cX2_copy 76 = .ok (.aload_n 1, 1) := dk_43 (dk_at dksX2_copy_3 6 rfl rfl)
theorem dX2_copy_77 : decode cX2_copy 77 = .ok (.aload_n 0, 1) := dk_42 (dk_at dksX2_copy_3 7 rfl rfl)
theorem dX2_copy_78 : decode cX2_copy 78 = .ok (.getfield 51, 3) := dk_180 0 51 (dk_at dksX2_copy_3 8 rfl rfl)
theorem dX2_copy_81 : decode cX2_copy 81 = .ok (.putfield 51, 3) := dk_181 0 51 (dk_at dksX2_copy_3 11 rfl rfl)
theorem dX2_copy_84 : decode cX2_copy 84 = .ok (.aload_n 0, 1) := dk_42 (dk_at dksX2_copy_3 14 rfl rfl)
theorem dX2_copy_85 : decode cX2_copy 85 = .ok (.getfield 31, 3) := dk_180 0 31 (dk_at dksX2_copy_3 15 rfl rfl)
theorem dX2_copy_88 : decode cX2_copy 88 = .ok (.invokeinterface 54 1, 5) := by decide +kernel
theorem dX2_copy_93 : decode cX2_copy 93 = .ok (.astore_n 2, 1) := dk_77 (dk_at dksX2_copy_3 23 rfl rfl)
theorem dX2_copy_94 : decode cX2_copy 94 = .ok (.aload_n 2, 1) := dk_44 (dk_at dksX2_copy_4 0 rfl rfl)
theorem dX2_copy_95 : decode cX2_copy 95 = .ok (.invokeinterface 60 1, 5) := by decide +kernel
theorem dX2_copy_100 : decode cX2_copy 100 = .ok (.ifCond .eq 30, 3) := dk_153 0 30 (dk_at dksX2_copy_4 6 rfl rfl)
theorem dX2_copy_103 : decode cX2_copy 103 = .ok (.aload_n 2, 1) := dk_44 (dk_at dksX2_copy_4 9 rfl rfl)
theorem dX2_copy_104 : decode cX2_copy 104 = .ok (.invokeinterface 66 1, 5) := by decide +kernel
theorem dX2_copy_109 : decode cX2_copy 109 = .ok (.checkcast 70, 3) := dk_192 0 70 (dk_at dksX2_copy_4 15 rfl rfl)
theorem dX2_copy_112 : decode cX2_copy 112 = .ok (.astore_n 3, 1) := dk_78 (dk_at dksX2_copy_4 18 rfl rfl)
theorem dX2_copy_113 : decode cX2_copy 113 = .ok (.aload_n 1, 1) := dk_43 (dk_at dksX2_copy_4 19 rfl rfl)
theorem dX2_copy_114 : decode cX2_copy 114 = .ok (.getfield 31, 3) := dk_180 0 31 (dk_at dksX2_copy_4 20 rfl rfl)
theorem dX2_copy_117 : decode cX2_copy 117 = .ok (.aload_n 3, 1) := dk_45 (dk_at dksX2_copy_4 23 rfl rfl)
theorem dX2_copy_118 : decode cX2_copy 118 = .ok (.invokevirtual 72, 3) := dk_182 0 72 (dk_at dksX2_copy_5 0 rfl rfl)
theorem dX2_copy_121 : decode cX2_copy 121 = .ok (.invokeinterface 76 2, 5) := by decide +kernel
theorem dX2_copy_126 : decode cX2_copy 126 = .ok (.pop, 1) := dk_87 (dk_at dksX2_copy_5 8 rfl rfl)
theorem dX2_copy_127 : decode cX2_copy 127 = .ok (.goto (-33), 3) := dk_167 255 223 (dk_at dksX2_copy_5 9 rfl rfl)
theorem dX2_copy_130 : decode cX2_copy 130 = .ok (.aload_n 0, 1) := dk_42 (dk_at dksX2_copy_5 12 rfl rfl)
theorem dX2_copy_131 : decode cX2_copy 131 = .ok (.getfield 35, 3) := dk_180 0 35 (dk_at dksX2_copy_5 13 rfl rfl)
theorem dX2_copy_134 : decode cX2_copy 134 = .ok (.invokeinterface 54 1, 5) := by decide +kernel
theorem dX2_copy_139 : decode cX2_copy 139 = .ok (.astore_n 2, 1) := dk_77 (dk_at dksX2_copy_5 21 rfl rfl)
theorem dX2_copy_140 : decode cX2_copy 140 = .ok (.aload_n 2, 1) := dk_44 (dk_at dksX2_copy_5 22 rfl rfl)
theorem dX2_copy_141 : decode cX2_copy 141 = .ok (.invokeinterface 60 1, 5) := by decide +kernel
theorem dX2_copy_146 : decode cX2_copy 146 = .ok (.ifCond .eq 30, 3) := dk_153 0 30 (dk_at dksX2_copy_6 5 rfl rfl)
theorem dX2_copy_149 : decode cX2_copy 149 = .ok (.aload_n 2, 1) := dk_44 (dk_at dksX2_copy_6 8 rfl rfl)
theorem dX2_copy_150 : decode cX2_copy 150 = .ok (.invokeinterface 66 1, 5) := by decide +kernel
theorem dX2_copy_155 : decode cX2_copy 155 = .ok (.checkcast 80, 3) := dk_192 0 80 (dk_at dksX2_copy_6 14 rfl rfl)
theorem dX2_copy_158 : decode cX2_copy 158 = .ok (.astore_n 3, 1) := dk_78 (dk_at dksX2_copy_6 17 rfl rfl)
theorem dX2_copy_159 : decode cX2_copy 159 = .ok (.aload_n 1, 1) := dk_43 (dk_at dksX2_copy_6 18 rfl rfl)
theorem dX2_copy_160 : decode cX2_copy 160 = .ok (.getfield 35, 3) := dk_180 0 35 (dk_at dksX2_copy_6 19 rfl rfl)
theorem dX2_copy_163 : decode cX2_copy 163 = .ok (.aload_n 3, 1) := dk_45 (dk_at dksX2_copy_6 22 rfl rfl)
theorem dX2_copy_164 : decode cX2_copy 164 = .ok (.invokevirtual 82, 3) := dk_182 0 82 (dk_at dksX2_copy_7 0 rfl rfl)
theorem dX2_copy_167 : decode cX2_copy 167 = .ok (.invokeinterface 76 2, 5) := by decide +kernel
theorem dX2_copy_172 : decode cX2_copy 172 = .ok (.pop, 1) := dk_87 (dk_at dksX2_copy_7 8 rfl rfl)
theorem dX2_copy_173 : decode cX2_copy 173 = .ok (.goto (-33), 3) := dk_167 255 223 (dk_at dksX2_copy_7 9 rfl rfl)
theorem dX2_copy_176 : decode cX2_copy 176 = .ok (.aload_n 1, 1) := dk_43 (dk_at dksX2_copy_7 12 rfl rfl)
theorem dX2_copy_177 : decode cX2_copy 177 = .ok (.areturn, 1) := dk_176 (dk_at dksX2_copy_7 13 rfl rfl)
abbrev cX2_setScale : ByteArray := prog_5_method_16_code
def yX2_setScale : MethodName := ⟨RX2, "setScale", "(II)I"⟩
def dkwX2_setScale_2 : List UInt8 := [180, 0, 45, 184, 0, 160, 184, 0, 102, 181, 0, 45, 42, 180, 0, 45, 172]
abbrev dktX2_setScale_2 : List UInt8 := dkwX2_setScale_2 ++ []
def dkwX2_setScale_1 : List UInt8 := [172, 42, 27, 181, 0, 18, 42, 28, 181, 0, 22, 42, 42, 180, 0, 22, 116, 42, 180, 0, 22, 42]
abbrev dktX2_setScale_1 : List UInt8 := dkwX2_setScale_1 ++ dktX2_setScale_2
def dkwX2_setScale_0 : List UInt8 := [27, 4, 17, 3, 232, 184, 0, 89, 153, 0, 14, 28, 3, 17, 7, 208, 184, 0, 89, 154, 0, 6, 18, 159]
abbrev dktX2_setScale_0 : List UInt8 := dkwX2_setScale_0 ++ dktX2_setScale_1
theorem dksX2_setScale_0 : cX2_setScale.data.toList.drop 0 = dktX2_setScale_0 := by decide +kernel
theorem dksX2_setScale_1 : cX2_setScale.data.toList.drop 24 = dktX2_setScale_1 := dk_seg dksX2_setScale_0 24 rfl rfl
theorem dksX2_setScale_2 : cX2_setScale.data.toList.drop 46 = dktX2_setScale_2 := dk_seg dksX2_setScale_1 22 rfl rfl
theorem dX2_setScale_0 : decode cX2_setScale 0 = .ok (.iload_n 1, 1) := dk_27 (dk_at dksX2_setScale_0 0 rfl rfl)
theorem dX2_setScale_1 : decode cX2_setScale 1 = .ok (.iconst 1, 1) := dk_4 (dk_at dksX2_setScale_0 1 rfl rfl)
theorem dX2_setScale_2 : decode cX2_setScale 2 = .ok (.sipush 1000, 3) := dk_17 3 232 (dk_at dksX2_setScale_0 2 rfl rfl)
theorem dX2_setScale_5 : decode cX2_setScale 5 = .ok (.invokestatic 89, 3) := dk_184 0 89 (dk_at dksX2_setScale_0 5 rfl rfl)
theorem dX2_setScale_8 : decode cX2_setScale 8 = .ok (.ifCond .eq 14, 3) := dk_153 0 14 (dk_at dksX2_setScale_0 8 rfl rfl)
theorem dX2_setScale_11 : decode cX2_setScale 11 = .ok (.iload_n 2, 1) := dk_28 (dk_at dksX2_setScale_0 11 rfl rfl)
theorem dX2_setScale_12 : decode cX2_setScale 12 = .ok (.iconst 0, 1) := dk_3 (dk_at dksX2_setScale_0 12 rfl rfl)
theorem dX2_setScale_13 : decode cX2_setScale 13 = .ok (.sipush 2000, 3) := dk_17 7 208 (dk_at dksX2_setScale_0 13 rfl rfl)
theorem dX2_setScale_16 : decode cX2_setScale 16 = .ok (.invokestatic 89, 3) := dk_184 0 89 (dk_at dksX2_setScale_0 16 rfl rfl)
theorem dX2_setScale_19 : decode cX2_setScale 19 = .ok (.ifCond .ne 6, 3) := dk_154 0 6 (dk_at dksX2_setScale_0 19 rfl rfl)
theorem dX2_setScale_22 : decode cX2_setScale 22 = .ok (.ldc 159, 2) := dk_18 159 (dk_at dksX2_setScale_0 22 rfl rfl)
theorem dX2_setScale_24 : decode cX2_setScale 24 = .ok (.ireturn, 1) := dk_172 (dk_at dksX2_setScale_1 0 rfl rfl)
theorem dX2_setScale_25 : decode cX2_setScale 25 = .ok (.aload_n 0, 1) := dk_42 (dk_at dksX2_setScale_1 1 rfl rfl)
theorem dX2_setScale_26 : decode cX2_setScale 26 = .ok (.iload_n 1, 1) := dk_27 (dk_at dksX2_setScale_1 2 rfl rfl)
theorem dX2_setScale_27 : decode cX2_setScale 27 = .ok (.putfield 18, 3) := dk_181 0 18 (dk_at dksX2_setScale_1 3 rfl rfl)
theorem dX2_setScale_30 : decode cX2_setScale 30 = .ok (.aload_n 0, 1) := dk_42 (dk_at dksX2_setScale_1 6 rfl rfl)
theorem dX2_setScale_31 : decode cX2_setScale 31 = .ok (.iload_n 2, 1) := dk_28 (dk_at dksX2_setScale_1 7 rfl rfl)
theorem dX2_setScale_32 : decode cX2_setScale 32 = .ok (.putfield 22, 3) := dk_181 0 22 (dk_at dksX2_setScale_1 8 rfl rfl)
theorem dX2_setScale_35 : decode cX2_setScale 35 = .ok (.aload_n 0, 1) := dk_42 (dk_at dksX2_setScale_1 11 rfl rfl)
theorem dX2_setScale_36 : decode cX2_setScale 36 = .ok (.aload_n 0, 1) := dk_42 (dk_at dksX2_setScale_1 12 rfl rfl)
theorem dX2_setScale_37 : decode cX2_setScale 37 = .ok (.getfield 22, 3) := dk_180 0 22 (dk_at dksX2_setScale_1 13 rfl rfl)
theorem dX2_setScale_40 : decode cX2_setScale 40 = .ok (.ineg, 1) := dk_116 (dk_at dksX2_setScale_1 16 rfl rfl)
theorem dX2_setScale_41 : decode cX2_setScale 41 = .ok (.aload_n 0, 1) := dk_42 (dk_at dksX2_setScale_1 17 rfl rfl)
theorem dX2_setScale_42 : decode cX2_setScale 42 = .ok (.getfield 22, 3) := dk_180 0 22 (dk_at dksX2_setScale_1 18 rfl rfl)
theorem dX2_setScale_45 : decode cX2_setScale 45 = .ok (.aload_n 0, 1) := dk_42 (dk_at dksX2_setScale_1 21 rfl rfl)
theorem dX2_setScale_46 : decode cX2_setScale 46 = .ok (.getfield 45, 3) := dk_180 0 45 (dk_at dksX2_setScale_2 0 rfl rfl)
theorem dX2_setScale_49 : decode cX2_setScale 49 = .ok (.invokestatic 160, 3) := dk_184 0 160 (dk_at dksX2_setScale_2 3 rfl rfl)
theorem dX2_setScale_52 : decode cX2_setScale 52 = .ok (.invokestatic 102, 3) := dk_184 0 102 (dk_at dksX2_setScale_2 6 rfl rfl)
theorem dX2_setScale_55 : decode cX2_setScale 55 = .ok (.putfield 45, 3) := dk_181 0 45 (dk_at dksX2_setScale_2 9 rfl rfl)
theorem dX2_setScale_58 : decode cX2_setScale 58 = .ok (.aload_n 0, 1) := dk_42 (dk_at dksX2_setScale_2 12 rfl rfl)
theorem dX2_setScale_59 : decode cX2_setScale 59 = .ok (.getfield 45, 3) := dk_180 0 45 (dk_at dksX2_setScale_2 13 rfl rfl)
theorem dX2_setScale_62 : decode cX2_setScale 62 = .ok (.ireturn, 1) := dk_172 (dk_at dksX2_setScale_2 16 rfl rfl)
abbrev cX2_setBias : ByteArray := prog_5_method_17_code
def yX2_setBias : MethodName := ⟨RX2, "setBias", "(I)I"⟩
def dkwX2_setBias_1 : List UInt8 := [42, 27, 181, 0, 45, 28, 172]
abbrev dktX2_setBias_1 : List UInt8 := dkwX2_setBias_1 ++ []
def dkwX2_setBias_0 : List UInt8 := [42, 180, 0, 45, 61, 27, 42, 180, 0, 22, 116, 42, 180, 0, 22, 184, 0, 89, 154, 0, 6, 18, 159, 172]
abbrev dktX2_setBias_0 : List UInt8 := dkwX2_setBias_0 ++ dktX2_setBias_1
theorem dksX2_setBias_0 : cX2_setBias.data.toList.drop 0 = dktX2_setBias_0 := by decide +kernel
theorem dksX2_setBias_1 : cX2_setBias.data.toList.drop 24 = dktX2_setBias_1 := dk_seg dksX2_setBias_0 24 rfl rfl
theorem dX2_setBias_0 : decode cX2_setBias 0 = .ok (.aload_n 0, 1) := dk_42 (dk_at dksX2_setBias_0 0 rfl rfl)
theorem dX2_setBias_1 : decode cX2_setBias 1 = .ok (.getfield 45, 3) := dk_180 0 45 (dk_at dksX2_setBias_0 1 rfl rfl)
theorem dX2_setBias_4 : decode cX2_setBias 4 = .ok (.istore_n 2, 1) := dk_61 (dk_at dksX2_setBias_0 4 rfl rfl)
theorem dX2_setBias_5 : decode cX2_setBias 5 = .ok (.iload_n 1, 1) := dk_27 (dk_at dksX2_setBias_0 5 rfl rfl)
theorem dX2_setBias_6 : decode cX2_setBias 6 = .ok (.aload_n 0, 1) := dk_42 (dk_at dksX2_setBias_0 6 rfl rfl)
theorem dX2_setBias_7 : decode cX2_setBias 7 = .ok (.getfield 22, 3) := dk_180 0 22 (dk_at dksX2_setBias_0 7 rfl rfl)
theorem dX2_setBias_10 : decode cX2_setBias 10 = .ok (.ineg, 1) := dk_116 (dk_at dksX2_setBias_0 10 rfl rfl)
theorem dX2_setBias_11 : decode cX2_setBias 11 = .ok (.aload_n 0, 1) := dk_42 (dk_at dksX2_setBias_0 11 rfl rfl)
theorem dX2_setBias_12 : decode cX2_setBias 12 = .ok (.getfield 22, 3) := dk_180 0 22 (dk_at dksX2_setBias_0 12 rfl rfl)
theorem dX2_setBias_15 : decode cX2_setBias 15 = .ok (.invokestatic 89, 3) := dk_184 0 89 (dk_at dksX2_setBias_0 15 rfl rfl)
theorem dX2_setBias_18 : decode cX2_setBias 18 = .ok (.ifCond .ne 6, 3) := dk_154 0 6 (dk_at dksX2_setBias_0 18 rfl rfl)
theorem dX2_setBias_21 : decode cX2_setBias 21 = .ok (.ldc 159, 2) := dk_18 159 (dk_at dksX2_setBias_0 21 rfl rfl)
theorem dX2_setBias_23 : decode cX2_setBias 23 = .ok (.ireturn, 1) := dk_172 (dk_at dksX2_setBias_0 23 rfl rfl)
theorem dX2_setBias_24 : decode cX2_setBias 24 = .ok (.aload_n 0, 1) := dk_42 (dk_at dksX2_setBias_1 0 rfl rfl)
theorem dX2_setBias_25 : decode cX2_setBias 25 = .ok (.iload_n 1, 1) := dk_27 (dk_at dksX2_setBias_1 1 rfl rfl)
theorem dX2_setBias_26 : decode cX2_setBias 26 = .ok (.putfield 45, 3) := dk_181 0 45 (dk_at dksX2_setBias_1 2 rfl rfl)
theorem dX2_setBias_29 : decode cX2_setBias 29 = .ok (.iload_n 2, 1) := dk_28 (dk_at dksX2_setBias_1 5 rfl rfl)
theorem dX2_setBias_30 : decode cX2_setBias 30 = .ok (.ireturn, 1) := dk_172 (dk_at dksX2_setBias_1 6 rfl rfl)
abbrev cX2_setRule : ByteArray := prog_5_method_18_code
def yX2_setRule : MethodName := ⟨RX2, "setRule", "(I)I"⟩
def dkwX2_setRule_0 : List UInt8 := [42, 180, 0, 48, 61, 27, 3, 6, 184, 0, 89, 154, 0, 6, 18, 159, 172, 42, 27, 181, 0, 48, 28, 172]
abbrev dktX2_setRule_0 : List UInt8 := dkwX2_setRule_0 ++ []
theorem dksX2_setRule_0 : cX2_setRule.data.toList.drop 0 = dktX2_setRule_0 := by decide +kernel
theorem dX2_setRule_0 : decode cX2_setRule 0 = .ok (.aload_n 0, 1) := dk_42 (dk_at dksX2_setRule_0 0 rfl rfl)
theorem dX2_setRule_1 : decode cX2_setRule 1 = .ok (.getfield 48, 3) := dk_180 0 48 (dk_at dksX2_setRule_0 1 rfl rfl)
theorem dX2_setRule_4 : decode cX2_setRule 4 = .ok (.istore_n 2, 1) := dk_61 (dk_at dksX2_setRule_0 4 rfl rfl)
theorem dX2_setRule_5 : decode cX2_setRule 5 = .ok (.iload_n 1, 1) := dk_27 (dk_at dksX2_setRule_0 5 rfl rfl)
theorem dX2_setRule_6 : decode cX2_setRule 6 = .ok (.iconst 0, 1) := dk_3 (dk_at dksX2_setRule_0 6 rfl rfl)
theorem dX2_setRule_7 : decode cX2_setRule 7 = .ok (.iconst 3, 1) := dk_6 (dk_at dksX2_setRule_0 7 rfl rfl)
theorem dX2_setRule_8 : decode cX2_setRule 8 = .ok (.invokestatic 89, 3) := dk_184 0 89 (dk_at dksX2_setRule_0 8 rfl rfl)
theorem dX2_setRule_11 : decode cX2_setRule 11 = .ok (.ifCond .ne 6, 3) := dk_154 0 6 (dk_at dksX2_setRule_0 11 rfl rfl)
theorem dX2_setRule_14 : decode cX2_setRule 14 = .ok (.ldc 159, 2) := dk_18 159 (dk_at dksX2_setRule_0 14 rfl rfl)
theorem dX2_setRule_16 : decode cX2_setRule 16 = .ok (.ireturn, 1) := dk_172 (dk_at dksX2_setRule_0 16 rfl rfl)
theorem dX2_setRule_17 : decode cX2_setRule 17 = .ok (.aload_n 0, 1) := dk_42 (dk_at dksX2_setRule_0 17 rfl rfl)
theorem dX2_setRule_18 : decode cX2_setRule 18 = .ok (.iload_n 1, 1) := dk_27 (dk_at dksX2_setRule_0 18 rfl rfl)
theorem dX2_setRule_19 : decode cX2_setRule 19 = .ok (.putfield 48, 3) := dk_181 0 48 (dk_at dksX2_setRule_0 19 rfl rfl)
theorem dX2_setRule_22 : decode cX2_setRule 22 = .ok (.iload_n 2, 1) := dk_28 (dk_at dksX2_setRule_0 22 rfl rfl)
theorem dX2_setRule_23 : decode cX2_setRule 23 = .ok (.ireturn, 1) := dk_172 (dk_at dksX2_setRule_0 23 rfl rfl)
abbrev cX2_setFee : ByteArray := prog_5_method_19_code
def yX2_setFee : MethodName := ⟨RX2, "setFee", "(I)I"⟩
def dkwX2_setFee_1 : List UInt8 := [172]
abbrev dktX2_setFee_1 : List UInt8 := dkwX2_setFee_1 ++ []
def dkwX2_setFee_0 : List UInt8 := [42, 180, 0, 25, 61, 27, 3, 16, 100, 184, 0, 89, 154, 0, 6, 18, 159, 172, 42, 27, 181, 0, 25, 28]
abbrev dktX2_setFee_0 : List UInt8 := dkwX2_setFee_0 ++ dktX2_setFee_1
theorem dksX2_setFee_0 : cX2_setFee.data.toList.drop 0 = dktX2_setFee_0 := by decide +kernel
theorem dksX2_setFee_1 : cX2_setFee.data.toList.drop 24 = dktX2_setFee_1 := dk_seg dksX2_setFee_0 24 rfl rfl
theorem dX2_setFee_0 : decode cX2_setFee 0 = .ok (.aload_n 0, 1) := dk_42 (dk_at dksX2_setFee_0 0 rfl rfl)
theorem dX2_setFee_1 : decode cX2_setFee 1 = .ok (.getfield 25, 3) := dk_180 0 25 (dk_at dksX2_setFee_0 1 rfl rfl)
theorem dX2_setFee_4 : decode cX2_setFee 4 = .ok (.istore_n 2, 1) := dk_61 (dk_at dksX2_setFee_0 4 rfl rfl)
theorem dX2_setFee_5 : decode cX2_setFee 5 = .ok (.iload_n 1, 1) := dk_27 (dk_at dksX2_setFee_0 5 rfl rfl)
theorem dX2_setFee_6 : decode cX2_setFee 6 = .ok (.iconst 0, 1) := dk_3 (dk_at dksX2_setFee_0 6 rfl rfl)
theorem dX2_setFee_7 : decode cX2_setFee 7 = .ok (.bipush 100, 2) := dk_16 100 (dk_at dksX2_setFee_0 7 rfl rfl)
theorem dX2_setFee_9 : decode cX2_setFee 9 = .ok (.invokestatic 89, 3) := dk_184 0 89 (dk_at dksX2_setFee_0 9 rfl rfl)
theorem dX2_setFee_12 : decode cX2_setFee 12 = .ok (.ifCond .ne 6, 3) := dk_154 0 6 (dk_at dksX2_setFee_0 12 rfl rfl)
theorem dX2_setFee_15 : decode cX2_setFee 15 = .ok (.ldc 159, 2) := dk_18 159 (dk_at dksX2_setFee_0 15 rfl rfl)
theorem dX2_setFee_17 : decode cX2_setFee 17 = .ok (.ireturn, 1) := dk_172 (dk_at dksX2_setFee_0 17 rfl rfl)
theorem dX2_setFee_18 : decode cX2_setFee 18 = .ok (.aload_n 0, 1) := dk_42 (dk_at dksX2_setFee_0 18 rfl rfl)
theorem dX2_setFee_19 : decode cX2_setFee 19 = .ok (.iload_n 1, 1) := dk_27 (dk_at dksX2_setFee_0 19 rfl rfl)
theorem dX2_setFee_20 : decode cX2_setFee 20 = .ok (.putfield 25, 3) := dk_181 0 25 (dk_at dksX2_setFee_0 20 rfl rfl)
theorem dX2_setFee_23 : decode cX2_setFee 23 = .ok (.iload_n 2, 1) := dk_28 (dk_at dksX2_setFee_0 23 rfl rfl)
theorem dX2_setFee_24 : decode cX2_setFee 24 = .ok (.ireturn, 1) := dk_172 (dk_at dksX2_setFee_1 0 rfl rfl)
abbrev cX2_come : ByteArray := prog_5_method_20_code
def yX2_come : MethodName := ⟨RX2, "come", "(I)I"⟩
def dkwX2_come_2 : List UInt8 := [185, 0, 76, 2, 0, 87, 42, 180, 0, 31, 185, 0, 85, 1, 0, 4, 100, 172]
abbrev dktX2_come_2 : List UInt8 := dkwX2_come_2 ++ []
def dkwX2_come_1 : List UInt8 := [16, 6, 160, 0, 6, 18, 163, 172, 42, 180, 0, 31, 187, 0, 70, 89, 27, 183, 0, 164]
abbrev dktX2_come_1 : List UInt8 := dkwX2_come_1 ++ dktX2_come_2
def dkwX2_come_0 : List UInt8 := [27, 3, 17, 39, 15, 184, 0, 89, 154, 0, 6, 18, 159, 172, 42, 180, 0, 31, 185, 0, 85, 1, 0]
abbrev dktX2_come_0 : List UInt8 := dkwX2_come_0 ++ dktX2_come_1
theorem dksX2_come_0 : cX2_come.data.toList.drop 0 = dktX2_come_0 := by decide +kernel
theorem dksX2_come_1 : cX2_come.data.toList.drop 23 = dktX2_come_1 := dk_seg dksX2_come_0 23 rfl rfl
theorem dksX2_come_2 : cX2_come.data.toList.drop 43 = dktX2_come_2 := dk_seg dksX2_come_1 20 rfl rfl
theorem dX2_come_0 : decode cX2_come 0 = .ok (.iload_n 1, 1) := dk_27 (dk_at dksX2_come_0 0 rfl rfl)
theorem dX2_come_1 : decode cX2_come 1 = .ok (.iconst 0, 1) := dk_3 (dk_at dksX2_come_0 1 rfl rfl)
theorem dX2_come_2 : decode cX2_come 2 = .ok (.sipush 9999, 3) := dk_17 39 15 (dk_at dksX2_come_0 2 rfl rfl)
theorem dX2_come_5 : decode cX2_come 5 = .ok (.invokestatic 89, 3) := dk_184 0 89 (dk_at dksX2_come_0 5 rfl rfl)
theorem dX2_come_8 : decode cX2_come 8 = .ok (.ifCond .ne 6, 3) := dk_154 0 6 (dk_at dksX2_come_0 8 rfl rfl)
theorem dX2_come_11 : decode cX2_come 11 = .ok (.ldc 159, 2) := dk_18 159 (dk_at dksX2_come_0 11 rfl rfl)
theorem dX2_come_13 : decode cX2_come 13 = .ok (.ireturn, 1) := dk_172 (dk_at dksX2_come_0 13 rfl rfl)
theorem dX2_come_14 : decode cX2_come 14 = .ok (.aload_n 0, 1) := dk_42 (dk_at dksX2_come_0 14 rfl rfl)
theorem dX2_come_15 : decode cX2_come 15 = .ok (.getfield 31, 3) := dk_180 0 31 (dk_at dksX2_come_0 15 rfl rfl)
theorem dX2_come_18 : decode cX2_come 18 = .ok (.invokeinterface 85 1, 5) := by decide +kernel
theorem dX2_come_23 : decode cX2_come 23 = .ok (.bipush 6, 2) := dk_16 6 (dk_at dksX2_come_1 0 rfl rfl)
theorem dX2_come_25 : decode cX2_come 25 = .ok (.if_icmp .ne 6, 3) := dk_160 0 6 (dk_at dksX2_come_1 2 rfl rfl)
theorem dX2_come_28 : decode cX2_come 28 = .ok (.ldc 163, 2) := dk_18 163 (dk_at dksX2_come_1 5 rfl rfl)
theorem dX2_come_30 : decode cX2_come 30 = .ok (.ireturn, 1) := dk_172 (dk_at dksX2_come_1 7 rfl rfl)
theorem dX2_come_31 : decode cX2_come 31 = .ok (.aload_n 0, 1) := dk_42 (dk_at dksX2_come_1 8 rfl rfl)
theorem dX2_come_32 : decode cX2_come 32 = .ok (.getfield 31, 3) := dk_180 0 31 (dk_at dksX2_come_1 9 rfl rfl)
theorem dX2_come_35 : decode cX2_come 35 = .ok (.new 70, 3) := dk_187 0 70 (dk_at dksX2_come_1 12 rfl rfl)
theorem dX2_come_38 : decode cX2_come 38 = .ok (.dup, 1) := dk_89 (dk_at dksX2_come_1 15 rfl rfl)
theorem dX2_come_39 : decode cX2_come 39 = .ok (.iload_n 1, 1) := dk_27 (dk_at dksX2_come_1 16 rfl rfl)
theorem dX2_come_40 : decode cX2_come 40 = .ok (.invokespecial 164, 3) := dk_183 0 164 (dk_at dksX2_come_1 17 rfl rfl)
theorem dX2_come_43 : decode cX2_come 43 = .ok (.invokeinterface 76 2, 5) := by decide +kernel
theorem dX2_come_48 : decode cX2_come 48 = .ok (.pop, 1) := dk_87 (dk_at dksX2_come_2 5 rfl rfl)
theorem dX2_come_49 : decode cX2_come 49 = .ok (.aload_n 0, 1) := dk_42 (dk_at dksX2_come_2 6 rfl rfl)
theorem dX2_come_50 : decode cX2_come 50 = .ok (.getfield 31, 3) := dk_180 0 31 (dk_at dksX2_come_2 7 rfl rfl)
theorem dX2_come_53 : decode cX2_come 53 = .ok (.invokeinterface 85 1, 5) := by decide +kernel
theorem dX2_come_58 : decode cX2_come 58 = .ok (.iconst 1, 1) := dk_4 (dk_at dksX2_come_2 15 rfl rfl)
theorem dX2_come_59 : decode cX2_come 59 = .ok (.isub, 1) := dk_100 (dk_at dksX2_come_2 16 rfl rfl)
theorem dX2_come_60 : decode cX2_come 60 = .ok (.ireturn, 1) := dk_172 (dk_at dksX2_come_2 17 rfl rfl)
abbrev cX2_leave : ByteArray := prog_5_method_21_code
def yX2_leave : MethodName := ⟨RX2, "leave", "(I)I"⟩
def dkwX2_leave_1 : List UInt8 := [167, 0, 5, 18, 159, 172]
abbrev dktX2_leave_1 : List UInt8 := dkwX2_leave_1 ++ []
def dkwX2_leave_0 : List UInt8 := [42, 27, 182, 0, 167, 153, 0, 22, 42, 180, 0, 31, 27, 185, 0, 171, 2, 0, 192, 0, 70, 180, 0, 93]
abbrev dktX2_leave_0 : List UInt8 := dkwX2_leave_0 ++ dktX2_leave_1
theorem dksX2_leave_0 : cX2_leave.data.toList.drop 0 = dktX2_leave_0 := by decide +kernel
theorem dksX2_leave_1 : cX2_leave.data.toList.drop 24 = dktX2_leave_1 := dk_seg dksX2_leave_0 24 rfl rfl
theorem dX2_leave_0 : decode cX2_leave 0 = .ok (.aload_n 0, 1) := dk_42 (dk_at dksX2_leave_0 0 rfl rfl)
theorem dX2_leave_1 : decode cX2_leave 1 = .ok (.iload_n 1, 1) := dk_27 (dk_at dksX2_leave_0 1 rfl rfl)
theorem dX2_leave_2 : decode cX2_leave 2 = .ok (.invokevirtual 167, 3) := dk_182 0 167 (dk_at dksX2_leave_0 2 rfl rfl)
theorem dX2_leave_5 : decode cX2_leave 5 = .ok (.ifCond .eq 22, 3) := dk_153 0 22 (dk_at dksX2_leave_0 5 rfl rfl)
theorem dX2_leave_8 : decode cX2_leave 8 = .ok (.aload_n 0, 1) := dk_42 (dk_at dksX2_leave_0 8 rfl rfl)
theorem dX2_leave_9 : decode cX2_leave 9 = .ok (.getfield 31, 3) := dk_180 0 31 (dk_at dksX2_leave_0 9 rfl rfl)
theorem dX2_leave_12 : decode cX2_leave 12 = .ok (.iload_n 1, 1) := dk_27 (dk_at dksX2_leave_0 12 rfl rfl)
theorem dX2_leave_13 : decode cX2_leave 13 = .ok (.invokeinterface 171 2, 5) := by decide +kernel
theorem dX2_leave_18 : decode cX2_leave 18 = .ok (.checkcast 70, 3) := dk_192 0 70 (dk_at dksX2_leave_0 18 rfl rfl)
theorem dX2_leave_21 : decode cX2_leave 21 = .ok (.getfield 93, 3) := dk_180 0 93 (dk_at dksX2_leave_0 21 rfl rfl)
theorem dX2_leave_24 : decode cX2_leave 24 = .ok (.goto 5, 3) := dk_167 0 5 (dk_at dksX2_leave_1 0 rfl rfl)
theorem dX2_leave_27 : decode cX2_leave 27 = .ok (.ldc 159, 2) := dk_18 159 (dk_at dksX2_leave_1 3 rfl rfl)
theorem dX2_leave_29 : decode cX2_leave 29 = .ok (.ireturn, 1) := dk_172 (dk_at dksX2_leave_1 5 rfl rfl)
abbrev cX2_isCustomer : ByteArray := prog_5_method_3_code
def yX2_isCustomer : MethodName := ⟨RX2, "isCustomer", "(I)Z"⟩
def dkwX2_isCustomer_0 : List UInt8 := [27, 3, 42, 180, 0, 31, 185, 0, 85, 1, 0, 4, 100, 184, 0, 89, 172]
abbrev dktX2_isCustomer_0 : List UInt8 := dkwX2_isCustomer_0 ++ []
theorem dksX2_isCustomer_0 : cX2_isCustomer.data.toList.drop 0 = dktX2_isCustomer_0 := by decide +kernel
theorem dX2_isCustomer_0 : decode cX2_isCustomer 0 = .ok (.iload_n 1, 1) := dk_27 (dk_at dksX2_isCustomer_0 0 rfl rfl)
theorem dX2_isCustomer_1 : decode cX2_isCustomer 1 = .ok (.iconst 0, 1) := dk_3 (dk_at dksX2_isCustomer_0 1 rfl rfl)
theorem dX2_isCustomer_2 : decode cX2_isCustomer 2 = .ok (.aload_n 0, 1) := dk_42 (dk_at dksX2_isCustomer_0 2 rfl rfl)
theorem dX2_isCustomer_3 : decode cX2_isCustomer 3 = .ok (.getfield 31, 3) := dk_180 0 31 (dk_at dksX2_isCustomer_0 3 rfl rfl)
theorem dX2_isCustomer_6 : decode cX2_isCustomer 6 = .ok (.invokeinterface 85 1, 5) := by decide +kernel
theorem dX2_isCustomer_11 : decode cX2_isCustomer 11 = .ok (.iconst 1, 1) := dk_4 (dk_at dksX2_isCustomer_0 11 rfl rfl)
theorem dX2_isCustomer_12 : decode cX2_isCustomer 12 = .ok (.isub, 1) := dk_100 (dk_at dksX2_isCustomer_0 12 rfl rfl)
theorem dX2_isCustomer_13 : decode cX2_isCustomer 13 = .ok (.invokestatic 89, 3) := dk_184 0 89 (dk_at dksX2_isCustomer_0 13 rfl rfl)
theorem dX2_isCustomer_16 : decode cX2_isCustomer 16 = .ok (.ireturn, 1) := dk_172 (dk_at dksX2_isCustomer_0 16 rfl rfl)
abbrev cX2_weigh : ByteArray := prog_5_method_22_code
def yX2_weigh : MethodName := ⟨RX2, "weigh", "(IIII)I"⟩
def dkwX2_weigh_6 : List UInt8 := [96, 181, 0, 51, 21, 6, 172]
abbrev dktX2_weigh_6 : List UInt8 := dkwX2_weigh_6 ++ []
def dkwX2_weigh_5 : List UInt8 := [21, 6, 183, 0, 178, 181, 0, 139, 25, 7, 21, 6, 182, 0, 181, 42, 89, 180, 0, 51, 21, 6, 29, 100]
abbrev dktX2_weigh_5 : List UInt8 := dkwX2_weigh_5 ++ dktX2_weigh_6
def dkwX2_weigh_4 : List UInt8 := [180, 0, 31, 27, 185, 0, 175, 2, 0, 192, 0, 70, 58, 7, 25, 7, 187, 0, 144, 89, 28, 29, 21, 5]
abbrev dktX2_weigh_4 : List UInt8 := dkwX2_weigh_4 ++ dktX2_weigh_5
def dkwX2_weigh_3 : List UInt8 := [180, 0, 45, 96, 182, 0, 137, 54, 5, 42, 21, 5, 28, 42, 180, 0, 48, 182, 0, 151, 54, 6, 42]
abbrev dktX2_weigh_3 : List UInt8 := dkwX2_weigh_3 ++ dktX2_weigh_4
def dkwX2_weigh_2 : List UInt8 := [104, 184, 0, 89, 154, 0, 6, 18, 159, 172, 42, 29, 42, 180, 0, 9, 28, 46, 104, 21, 4, 96, 42]
abbrev dktX2_weigh_2 : List UInt8 := dkwX2_weigh_2 ++ dktX2_weigh_3
def dkwX2_weigh_1 : List UInt8 := [184, 0, 89, 153, 0, 28, 21, 4, 29, 116, 42, 180, 0, 15, 28, 46, 104, 29, 42, 180, 0, 15, 28, 46]
abbrev dktX2_weigh_1 : List UInt8 := dkwX2_weigh_1 ++ dktX2_weigh_2
def dkwX2_weigh_0 : List UInt8 := [42, 27, 182, 0, 167, 153, 0, 48, 28, 3, 6, 184, 0, 89, 153, 0, 39, 29, 4, 17, 1, 244]
abbrev dktX2_weigh_0 : List UInt8 := dkwX2_weigh_0 ++ dktX2_weigh_1
theorem dksX2_weigh_0 : cX2_weigh.data.toList.drop 0 = dktX2_weigh_0 := by decide +kernel
theorem dksX2_weigh_1 : cX2_weigh.data.toList.drop 22 = dktX2_weigh_1 := dk_seg dksX2_weigh_0 22 rfl rfl
theorem dksX2_weigh_2 : cX2_weigh.data.toList.drop 46 = dktX2_weigh_2 := dk_seg dksX2_weigh_1 24 rfl rfl
theorem dksX2_weigh_3 : cX2_weigh.data.toList.drop 69 = dktX2_weigh_3 := dk_seg dksX2_weigh_2 23 rfl rfl
theorem dksX2_weigh_4 : cX2_weigh.data.toList.drop 92 = dktX2_weigh_4 := dk_seg dksX2_weigh_3 23 rfl rfl
theorem dksX2_weigh_5 : cX2_weigh.data.toList.drop 116 = dktX2_weigh_5 := dk_seg dksX2_weigh_4 24 rfl rfl
theorem dksX2_weigh_6 : cX2_weigh.data.toList.drop 140 = dktX2_weigh_6 := dk_seg dksX2_weigh_5 24 rfl rfl
theorem dX2_weigh_0 : decode cX2_weigh 0 = .ok (.aload_n 0, 1) := dk_42 (dk_at dksX2_weigh_0 0 rfl rfl)
theorem dX2_weigh_1 : decode cX2_weigh 1 = .ok (.iload_n 1, 1) := dk_27 (dk_at dksX2_weigh_0 1 rfl rfl)
theorem dX2_weigh_2 : decode cX2_weigh 2 = .ok (.invokevirtual 167, 3) := dk_182 0 167 (dk_at dksX2_weigh_0 2 rfl rfl)
theorem dX2_weigh_5 : decode cX2_weigh 5 = .ok (.ifCond .eq 48, 3) := dk_153 0 48 (dk_at dksX2_weigh_0 5 rfl rfl)
theorem dX2_weigh_8 : decode cX2_weigh 8 = .ok (.iload_n 2, 1) := dk_28 (dk_at dksX2_weigh_0 8 rfl rfl)
theorem dX2_weigh_9 : decode cX2_weigh 9 = .ok (.iconst 0, 1) := dk_3 (dk_at dksX2_weigh_0 9 rfl rfl)
theorem dX2_weigh_10 : decode cX2_weigh 10 = .ok (.iconst 3, 1) := dk_6 (dk_at dksX2_weigh_0 10 rfl rfl)
theorem dX2_weigh_11 : decode cX2_weigh 11 = .ok (.invokestatic 89, 3) := dk_184 0 89 (dk_at dksX2_weigh_0 11 rfl rfl)
theorem dX2_weigh_14 : decode cX2_weigh 14 = .ok (.ifCond .eq 39, 3) := dk_153 0 39 (dk_at dksX2_weigh_0 14 rfl rfl)
theorem dX2_weigh_17 : decode cX2_weigh 17 = .ok (.iload_n 3, 1) := dk_29 (dk_at dksX2_weigh_0 17 rfl rfl)
theorem dX2_weigh_18 : decode cX2_weigh 18 = .ok (.iconst 1, 1) := dk_4 (dk_at dksX2_weigh_0 18 rfl rfl)
theorem dX2_weigh_19 : decode cX2_weigh 19 = .ok (.sipush 500, 3) := dk_17 1 244 (dk_at dksX2_weigh_0 19 rfl rfl)
theorem dX2_weigh_22 : decode cX2_weigh 22 = .ok (.invokestatic 89, 3) := dk_184 0 89 (dk_at dksX2_weigh_1 0 rfl rfl)
theorem dX2_weigh_25 : decode cX2_weigh 25 = .ok (.ifCond .eq 28, 3) := dk_153 0 28 (dk_at dksX2_weigh_1 3 rfl rfl)
theorem dX2_weigh_28 : decode cX2_weigh 28 = .ok (.iload 4, 2) := dk_21 4 (dk_at dksX2_weigh_1 6 rfl rfl)
theorem dX2_weigh_30 : decode cX2_weigh 30 = .ok (.iload_n 3, 1) := dk_29 (dk_at dksX2_weigh_1 8 rfl rfl)
theorem dX2_weigh_31 : decode cX2_weigh 31 = .ok (.ineg, 1) := dk_116 (dk_at dksX2_weigh_1 9 rfl rfl)
theorem dX2_weigh_32 : decode cX2_weigh 32 = .ok (.aload_n 0, 1) := dk_42 (dk_at dksX2_weigh_1 10 rfl rfl)
theorem dX2_weigh_33 : decode cX2_weigh 33 = .ok (.getfield 15, 3) := dk_180 0 15 (dk_at dksX2_weigh_1 11 rfl rfl)
theorem dX2_weigh_36 : decode cX2_weigh 36 = .ok (.iload_n 2, 1) := dk_28 (dk_at dksX2_weigh_1 14 rfl rfl)
theorem dX2_weigh_37 : decode cX2_weigh 37 = .ok (.iaload, 1) := dk_46 (dk_at dksX2_weigh_1 15 rfl rfl)
theorem dX2_weigh_38 : decode cX2_weigh 38 = .ok (.imul, 1) := dk_104 (dk_at dksX2_weigh_1 16 rfl rfl)
theorem dX2_weigh_39 : decode cX2_weigh 39 = .ok (.iload_n 3, 1) := dk_29 (dk_at dksX2_weigh_1 17 rfl rfl)
theorem dX2_weigh_40 : decode cX2_weigh 40 = .ok (.aload_n 0, 1) := dk_42 (dk_at dksX2_weigh_1 18 rfl rfl)
theorem dX2_weigh_41 : decode cX2_weigh 41 = .ok (.getfield 15, 3) := dk_180 0 15 (dk_at dksX2_weigh_1 19 rfl rfl)
theorem dX2_weigh_44 : decode cX2_weigh 44 = .ok (.iload_n 2, 1) := dk_28 (dk_at dksX2_weigh_1 22 rfl rfl)
theorem dX2_weigh_45 : decode cX2_weigh 45 = .ok (.iaload, 1) := dk_46 (dk_at dksX2_weigh_1 23 rfl rfl)
theorem dX2_weigh_46 : decode cX2_weigh 46 = .ok (.imul, 1) := dk_104 (dk_at dksX2_weigh_2 0 rfl rfl)
theorem dX2_weigh_47 : decode cX2_weigh 47 = .ok (.invokestatic 89, 3) := dk_184 0 89 (dk_at dksX2_weigh_2 1 rfl rfl)
theorem dX2_weigh_50 : decode cX2_weigh 50 = .ok (.ifCond .ne 6, 3) := dk_154 0 6 (dk_at dksX2_weigh_2 4 rfl rfl)
theorem dX2_weigh_53 : decode cX2_weigh 53 = .ok (.ldc 159, 2) := dk_18 159 (dk_at dksX2_weigh_2 7 rfl rfl)
theorem dX2_weigh_55 : decode cX2_weigh 55 = .ok (.ireturn, 1) := dk_172 (dk_at dksX2_weigh_2 9 rfl rfl)
theorem dX2_weigh_56 : decode cX2_weigh 56 = .ok (.aload_n 0, 1) := dk_42 (dk_at dksX2_weigh_2 10 rfl rfl)
theorem dX2_weigh_57 : decode cX2_weigh 57 = .ok (.iload_n 3, 1) := dk_29 (dk_at dksX2_weigh_2 11 rfl rfl)
theorem dX2_weigh_58 : decode cX2_weigh 58 = .ok (.aload_n 0, 1) := dk_42 (dk_at dksX2_weigh_2 12 rfl rfl)
theorem dX2_weigh_59 : decode cX2_weigh 59 = .ok (.getfield 9, 3) := dk_180 0 9 (dk_at dksX2_weigh_2 13 rfl rfl)
theorem dX2_weigh_62 : decode cX2_weigh 62 = .ok (.iload_n 2, 1) := dk_28 (dk_at dksX2_weigh_2 16 rfl rfl)
theorem dX2_weigh_63 : decode cX2_weigh 63 = .ok (.iaload, 1) := dk_46 (dk_at dksX2_weigh_2 17 rfl rfl)
theorem dX2_weigh_64 : decode cX2_weigh 64 = .ok (.imul, 1) := dk_104 (dk_at dksX2_weigh_2 18 rfl rfl)
theorem dX2_weigh_65 : decode cX2_weigh 65 = .ok (.iload 4, 2) := dk_21 4 (dk_at dksX2_weigh_2 19 rfl rfl)
theorem dX2_weigh_67 : decode cX2_weigh 67 = .ok (.iadd, 1) := dk_96 (dk_at dksX2_weigh_2 21 rfl rfl)
theorem dX2_weigh_68 : decode cX2_weigh 68 = .ok (.aload_n 0, 1) := dk_42 (dk_at dksX2_weigh_2 22 rfl rfl)
theorem dX2_weigh_69 : decode cX2_weigh 69 = .ok (.getfield 45, 3) := dk_180 0 45 (dk_at dksX2_weigh_3 0 rfl rfl)
theorem dX2_weigh_72 : decode cX2_weigh 72 = .ok (.iadd, 1) := dk_96 (dk_at dksX2_weigh_3 3 rfl rfl)
theorem dX2_weigh_73 : decode cX2_weigh 73 = .ok (.invokevirtual 137, 3) := dk_182 0 137 (dk_at dksX2_weigh_3 4 rfl rfl)
theorem dX2_weigh_76 : decode cX2_weigh 76 = .ok (.istore 5, 2) := dk_54 5 (dk_at dksX2_weigh_3 7 rfl rfl)
theorem dX2_weigh_78 : decode cX2_weigh 78 = .ok (.aload_n 0, 1) := dk_42 (dk_at dksX2_weigh_3 9 rfl rfl)
theorem dX2_weigh_79 : decode cX2_weigh 79 = .ok (.iload 5, 2) := dk_21 5 (dk_at dksX2_weigh_3 10 rfl rfl)
theorem dX2_weigh_81 : decode cX2_weigh 81 = .ok (.iload_n 2, 1) := dk_28 (dk_at dksX2_weigh_3 12 rfl rfl)
theorem dX2_weigh_82 : decode cX2_weigh 82 = .ok (.aload_n 0, 1) := dk_42 (dk_at dksX2_weigh_3 13 rfl rfl)
theorem dX2_weigh_83 : decode cX2_weigh 83 = .ok (.getfield 48, 3) := dk_180 0 48 (dk_at dksX2_weigh_3 14 rfl rfl)
theorem dX2_weigh_86 : decode cX2_weigh 86 = .ok (.invokevirtual 151, 3) := dk_182 0 151 (dk_at dksX2_weigh_3 17 rfl rfl)
theorem dX2_weigh_89 : decode cX2_weigh 89 = .ok (.istore 6, 2) := dk_54 6 (dk_at dksX2_weigh_3 20 rfl rfl)
theorem dX2_weigh_91 : decode cX2_weigh 91 = .ok (.aload_n 0, 1) := dk_42 (dk_at dksX2_weigh_3 22 rfl rfl)
theorem dX2_weigh_92 : decode cX2_weigh 92 = .ok (.getfield 31, 3) := dk_180 0 31 (dk_at dksX2_weigh_4 0 rfl rfl)
theorem dX2_weigh_95 : decode cX2_weigh 95 = .ok (.iload_n 1, 1) := dk_27 (dk_at dksX2_weigh_4 3 rfl rfl)
theorem dX2_weigh_96 : decode cX2_weigh 96 = .ok (.invokeinterface 175 2, 5) := by decide +kernel
theorem dX2_weigh_101 : decode cX2_weigh 101 = .ok (.checkcast 70, 3) := dk_192 0 70 (dk_at dksX2_weigh_4 9 rfl rfl)
theorem dX2_weigh_104 : decode cX2_weigh 104 = .ok (.astore 7, 2) := dk_58 7 (dk_at dksX2_weigh_4 12 rfl rfl)
theorem dX2_weigh_106 : decode cX2_weigh 106 = .ok (.aload 7, 2) := dk_25 7 (dk_at dksX2_weigh_4 14 rfl rfl)
theorem dX2_weigh_108 : decode cX2_weigh 108 = .ok (.new 144, 3) := dk_187 0 144 (dk_at dksX2_weigh_4 16 rfl rfl)
theorem dX2_weigh_111 : decode cX2_weigh 111 = .ok (.dup, 1) := dk_89 (dk_at dksX2_weigh_4 19 rfl rfl)
theorem dX2_weigh_112 : decode cX2_weigh 112 = .ok (.iload_n 2, 1) := dk_28 (dk_at dksX2_weigh_4 20 rfl rfl)
theorem dX2_weigh_113 : decode cX2_weigh 113 = .ok (.iload_n 3, 1) := dk_29 (dk_at dksX2_weigh_4 21 rfl rfl)
theorem dX2_weigh_114 : decode cX2_weigh 114 = .ok (.iload 5, 2) := dk_21 5 (dk_at dksX2_weigh_4 22 rfl rfl)
theorem dX2_weigh_116 : decode cX2_weigh 116 = .ok (.iload 6, 2) := dk_21 6 (dk_at dksX2_weigh_5 0 rfl rfl)
theorem dX2_weigh_118 : decode cX2_weigh 118 = .ok (.invokespecial 178, 3) := dk_183 0 178 (dk_at dksX2_weigh_5 2 rfl rfl)
theorem dX2_weigh_121 : decode cX2_weigh 121 = .ok (.putfield 139, 3) := dk_181 0 139 (dk_at dksX2_weigh_5 5 rfl rfl)
theorem dX2_weigh_124 : decode cX2_weigh 124 = .ok (.aload 7, 2) := dk_25 7 (dk_at dksX2_weigh_5 8 rfl rfl)
theorem dX2_weigh_126 : decode cX2_weigh 126 = .ok (.iload 6, 2) := dk_21 6 (dk_at dksX2_weigh_5 10 rfl rfl)
theorem dX2_weigh_128 : decode cX2_weigh 128 = .ok (.invokevirtual 181, 3) := dk_182 0 181 (dk_at dksX2_weigh_5 12 rfl rfl)
theorem dX2_weigh_131 : decode cX2_weigh 131 = .ok (.aload_n 0, 1) := dk_42 (dk_at dksX2_weigh_5 15 rfl rfl)
theorem dX2_weigh_132 : decode cX2_weigh 132 = .ok (.dup, 1) := dk_89 (dk_at dksX2_weigh_5 16 rfl rfl)
theorem dX2_weigh_133 : decode cX2_weigh 133 = .ok (.getfield 51, 3) := dk_180 0 51 (dk_at dksX2_weigh_5 17 rfl rfl)
theorem dX2_weigh_136 : decode cX2_weigh 136 = .ok (.iload 6, 2) := dk_21 6 (dk_at dksX2_weigh_5 20 rfl rfl)
theorem dX2_weigh_138 : decode cX2_weigh 138 = .ok (.iload_n 3, 1) := dk_29 (dk_at dksX2_weigh_5 22 rfl rfl)
theorem dX2_weigh_139 : decode cX2_weigh 139 = .ok (.isub, 1) := dk_100 (dk_at dksX2_weigh_5 23 rfl rfl)
theorem dX2_weigh_140 : decode cX2_weigh 140 = .ok (.iadd, 1) := dk_96 (dk_at dksX2_weigh_6 0 rfl rfl)
theorem dX2_weigh_141 : decode cX2_weigh 141 = .ok (.putfield 51, 3) := dk_181 0 51 (dk_at dksX2_weigh_6 1 rfl rfl)
theorem dX2_weigh_144 : decode cX2_weigh 144 = .ok (.iload 6, 2) := dk_21 6 (dk_at dksX2_weigh_6 4 rfl rfl)
theorem dX2_weigh_146 : decode cX2_weigh 146 = .ok (.ireturn, 1) := dk_172 (dk_at dksX2_weigh_6 6 rfl rfl)
abbrev cX2_read : ByteArray := prog_5_method_7_code
def yX2_read : MethodName := ⟨RX2, "read", "(I)I"⟩
def dkwX2_read_0 : List UInt8 := [42, 27, 42, 180, 0, 18, 182, 0, 105, 172]
abbrev dktX2_read_0 : List UInt8 := dkwX2_read_0 ++ []
theorem dksX2_read_0 : cX2_read.data.toList.drop 0 = dktX2_read_0 := by decide +kernel
theorem dX2_read_0 : decode cX2_read 0 = .ok (.aload_n 0, 1) := dk_42 (dk_at dksX2_read_0 0 rfl rfl)
theorem dX2_read_1 : decode cX2_read 1 = .ok (.iload_n 1, 1) := dk_27 (dk_at dksX2_read_0 1 rfl rfl)
theorem dX2_read_2 : decode cX2_read 2 = .ok (.aload_n 0, 1) := dk_42 (dk_at dksX2_read_0 2 rfl rfl)
theorem dX2_read_3 : decode cX2_read 3 = .ok (.getfield 18, 3) := dk_180 0 18 (dk_at dksX2_read_0 3 rfl rfl)
theorem dX2_read_6 : decode cX2_read 6 = .ok (.invokevirtual 105, 3) := dk_182 0 105 (dk_at dksX2_read_0 6 rfl rfl)
theorem dX2_read_9 : decode cX2_read 9 = .ok (.ireturn, 1) := dk_172 (dk_at dksX2_read_0 9 rfl rfl)
abbrev cX2_read_2 : ByteArray := prog_5_method_6_code
def yX2_read_2 : MethodName := ⟨RX2, "read", "(II)I"⟩
def dkwX2_read_2_0 : List UInt8 := [3, 5, 27, 104, 28, 96, 5, 28, 104, 184, 0, 96, 28, 104, 184, 0, 102, 172]
abbrev dktX2_read_2_0 : List UInt8 := dkwX2_read_2_0 ++ []
theorem dksX2_read_2_0 : cX2_read_2.data.toList.drop 0 = dktX2_read_2_0 := by decide +kernel
theorem dX2_read_2_0 : decode cX2_read_2 0 = .ok (.iconst 0, 1) := dk_3 (dk_at dksX2_read_2_0 0 rfl rfl)
theorem dX2_read_2_1 : decode cX2_read_2 1 = .ok (.iconst 2, 1) := dk_5 (dk_at dksX2_read_2_0 1 rfl rfl)
theorem dX2_read_2_2 : decode cX2_read_2 2 = .ok (.iload_n 1, 1) := dk_27 (dk_at dksX2_read_2_0 2 rfl rfl)
theorem dX2_read_2_3 : decode cX2_read_2 3 = .ok (.imul, 1) := dk_104 (dk_at dksX2_read_2_0 3 rfl rfl)
theorem dX2_read_2_4 : decode cX2_read_2 4 = .ok (.iload_n 2, 1) := dk_28 (dk_at dksX2_read_2_0 4 rfl rfl)
theorem dX2_read_2_5 : decode cX2_read_2 5 = .ok (.iadd, 1) := dk_96 (dk_at dksX2_read_2_0 5 rfl rfl)
theorem dX2_read_2_6 : decode cX2_read_2 6 = .ok (.iconst 2, 1) := dk_5 (dk_at dksX2_read_2_0 6 rfl rfl)
theorem dX2_read_2_7 : decode cX2_read_2 7 = .ok (.iload_n 2, 1) := dk_28 (dk_at dksX2_read_2_0 7 rfl rfl)
theorem dX2_read_2_8 : decode cX2_read_2 8 = .ok (.imul, 1) := dk_104 (dk_at dksX2_read_2_0 8 rfl rfl)
theorem dX2_read_2_9 : decode cX2_read_2 9 = .ok (.invokestatic 96, 3) := dk_184 0 96 (dk_at dksX2_read_2_0 9 rfl rfl)
theorem dX2_read_2_12 : decode cX2_read_2 12 = .ok (.iload_n 2, 1) := dk_28 (dk_at dksX2_read_2_0 12 rfl rfl)
theorem dX2_read_2_13 : decode cX2_read_2 13 = .ok (.imul, 1) := dk_104 (dk_at dksX2_read_2_0 13 rfl rfl)
theorem dX2_read_2_14 : decode cX2_read_2 14 = .ok (.invokestatic 102, 3) := dk_184 0 102 (dk_at dksX2_read_2_0 14 rfl rfl)
theorem dX2_read_2_17 : decode cX2_read_2 17 = .ok (.ireturn, 1) := dk_172 (dk_at dksX2_read_2_0 17 rfl rfl)
abbrev cX2_guess : ByteArray := prog_5_method_11_code
def yX2_guess : MethodName := ⟨RX2, "guess", "(III)I"⟩
def dkwX2_guess_0 : List UInt8 := [178, 0, 123, 29, 50, 42, 27, 28, 182, 0, 127, 27, 42, 180, 0, 9, 28, 46, 185, 0, 131, 4, 0, 172]
abbrev dktX2_guess_0 : List UInt8 := dkwX2_guess_0 ++ []
theorem dksX2_guess_0 : cX2_guess.data.toList.drop 0 = dktX2_guess_0 := by decide +kernel
theorem dX2_guess_0 : decode cX2_guess 0 = .ok (.getstatic 123, 3) := dk_178 0 123 (dk_at dksX2_guess_0 0 rfl rfl)
theorem dX2_guess_3 : decode cX2_guess 3 = .ok (.iload_n 3, 1) := dk_29 (dk_at dksX2_guess_0 3 rfl rfl)
theorem dX2_guess_4 : decode cX2_guess 4 = .ok (.aaload, 1) := dk_50 (dk_at dksX2_guess_0 4 rfl rfl)
theorem dX2_guess_5 : decode cX2_guess 5 = .ok (.aload_n 0, 1) := dk_42 (dk_at dksX2_guess_0 5 rfl rfl)
theorem dX2_guess_6 : decode cX2_guess 6 = .ok (.iload_n 1, 1) := dk_27 (dk_at dksX2_guess_0 6 rfl rfl)
theorem dX2_guess_7 : decode cX2_guess 7 = .ok (.iload_n 2, 1) := dk_28 (dk_at dksX2_guess_0 7 rfl rfl)
theorem dX2_guess_8 : decode cX2_guess 8 = .ok (.invokevirtual 127, 3) := dk_182 0 127 (dk_at dksX2_guess_0 8 rfl rfl)
theorem dX2_guess_11 : decode cX2_guess 11 = .ok (.iload_n 1, 1) := dk_27 (dk_at dksX2_guess_0 11 rfl rfl)
theorem dX2_guess_12 : decode cX2_guess 12 = .ok (.aload_n 0, 1) := dk_42 (dk_at dksX2_guess_0 12 rfl rfl)
theorem dX2_guess_13 : decode cX2_guess 13 = .ok (.getfield 9, 3) := dk_180 0 9 (dk_at dksX2_guess_0 13 rfl rfl)
theorem dX2_guess_16 : decode cX2_guess 16 = .ok (.iload_n 2, 1) := dk_28 (dk_at dksX2_guess_0 16 rfl rfl)
theorem dX2_guess_17 : decode cX2_guess 17 = .ok (.iaload, 1) := dk_46 (dk_at dksX2_guess_0 17 rfl rfl)
theorem dX2_guess_18 : decode cX2_guess 18 = .ok (.invokeinterface 131 4, 5) := by decide +kernel
theorem dX2_guess_23 : decode cX2_guess 23 = .ok (.ireturn, 1) := dk_172 (dk_at dksX2_guess_0 23 rfl rfl)
abbrev cX2_allowed : ByteArray := prog_5_method_10_code
def yX2_allowed : MethodName := ⟨RX2, "allowed", "(II)LTicketScales$Range;"⟩
def dkwX2_allowed_4 : List UInt8 := [182, 0, 120, 108, 183, 0, 110, 176]
abbrev dktX2_allowed_4 : List UInt8 := dkwX2_allowed_4 ++ []
def dkwX2_allowed_3 : List UInt8 := [184, 0, 113, 184, 0, 102, 54, 5, 187, 0, 108, 89, 21, 5, 21, 4, 42, 180, 0, 22, 96, 42, 28]
abbrev dktX2_allowed_3 : List UInt8 := dkwX2_allowed_3 ++ dktX2_allowed_4
def dkwX2_allowed_2 : List UInt8 := [54, 4, 27, 154, 0, 7, 3, 167, 0, 21, 3, 29, 42, 180, 0, 22, 100, 42, 28, 182, 0, 116]
abbrev dktX2_allowed_2 : List UInt8 := dkwX2_allowed_2 ++ dktX2_allowed_3
def dkwX2_allowed_1 : List UInt8 := [180, 0, 18, 100, 5, 184, 0, 113, 62, 5, 27, 104, 42, 180, 0, 18, 96, 4, 100, 5, 184, 0, 96]
abbrev dktX2_allowed_1 : List UInt8 := dkwX2_allowed_1 ++ dktX2_allowed_2
def dkwX2_allowed_0 : List UInt8 := [27, 42, 180, 0, 18, 112, 153, 0, 13, 187, 0, 108, 89, 4, 3, 183, 0, 110, 176, 5, 27, 104, 42]
abbrev dktX2_allowed_0 : List UInt8 := dkwX2_allowed_0 ++ dktX2_allowed_1
theorem dksX2_allowed_0 : cX2_allowed.data.toList.drop 0 = dktX2_allowed_0 := by decide +kernel
theorem dksX2_allowed_1 : cX2_allowed.data.toList.drop 23 = dktX2_allowed_1 := dk_seg dksX2_allowed_0 23 rfl rfl
theorem dksX2_allowed_2 : cX2_allowed.data.toList.drop 46 = dktX2_allowed_2 := dk_seg dksX2_allowed_1 23 rfl rfl
theorem dksX2_allowed_3 : cX2_allowed.data.toList.drop 68 = dktX2_allowed_3 := dk_seg dksX2_allowed_2 22 rfl rfl
theorem dksX2_allowed_4 : cX2_allowed.data.toList.drop 91 = dktX2_allowed_4 := dk_seg dksX2_allowed_3 23 rfl rfl
theorem dX2_allowed_0 : decode cX2_allowed 0 = .ok (.iload_n 1, 1) := dk_27 (dk_at dksX2_allowed_0 0 rfl rfl)
theorem dX2_allowed_1 : decode cX2_allowed 1 = .ok (.aload_n 0, 1) := dk_42 (dk_at dksX2_allowed_0 1 rfl rfl)
theorem dX2_allowed_2 : decode cX2_allowed 2 = .ok (.getfield 18, 3) := dk_180 0 18 (dk_at dksX2_allowed_0 2 rfl rfl)
theorem dX2_allowed_5 : decode cX2_allowed 5 = .ok (.irem, 1) := dk_112 (dk_at dksX2_allowed_0 5 rfl rfl)
theorem dX2_allowed_6 : decode cX2_allowed 6 = .ok (.ifCond .eq 13, 3) := dk_153 0 13 (dk_at dksX2_allowed_0 6 rfl rfl)
theorem dX2_allowed_9 : decode cX2_allowed 9 = .ok (.new 108, 3) := dk_187 0 108 (dk_at dksX2_allowed_0 9 rfl rfl)
theorem dX2_allowed_12 : decode cX2_allowed 12 = .ok (.dup, 1) := dk_89 (dk_at dksX2_allowed_0 12 rfl rfl)
theorem dX2_allowed_13 : decode cX2_allowed 13 = .ok (.iconst 1, 1) := dk_4 (dk_at dksX2_allowed_0 13 rfl rfl)
theorem dX2_allowed_14 : decode cX2_allowed 14 = .ok (.iconst 0, 1) := dk_3 (dk_at dksX2_allowed_0 14 rfl rfl)
theorem dX2_allowed_15 : decode cX2_allowed 15 = .ok (.invokespecial 110, 3) := dk_183 0 110 (dk_at dksX2_allowed_0 15 rfl rfl)
theorem dX2_allowed_18 : decode cX2_allowed 18 = .ok (.areturn, 1) := dk_176 (dk_at dksX2_allowed_0 18 rfl rfl)
theorem dX2_allowed_19 : decode cX2_allowed 19 = .ok (.iconst 2, 1) := dk_5 (dk_at dksX2_allowed_0 19 rfl rfl)
theorem dX2_allowed_20 : decode cX2_allowed 20 = .ok (.iload_n 1, 1) := dk_27 (dk_at dksX2_allowed_0 20 rfl rfl)
theorem dX2_allowed_21 : decode cX2_allowed 21 = .ok (.imul, 1) := dk_104 (dk_at dksX2_allowed_0 21 rfl rfl)
theorem dX2_allowed_22 : decode cX2_allowed 22 = .ok (.aload_n 0, 1) := dk_42 (dk_at dksX2_allowed_0 22 rfl rfl)
theorem dX2_allowed_23 : decode cX2_allowed 23 = .ok (.getfield 18, 3) := dk_180 0 18 (dk_at dksX2_allowed_1 0 rfl rfl)
theorem dX2_allowed_26 : decode cX2_allowed 26 = .ok (.isub, 1) := dk_100 (dk_at dksX2_allowed_1 3 rfl rfl)
theorem dX2_allowed_27 : decode cX2_allowed 27 = .ok (.iconst 2, 1) := dk_5 (dk_at dksX2_allowed_1 4 rfl rfl)
theorem dX2_allowed_28 : decode cX2_allowed 28 = .ok (.invokestatic 113, 3) := dk_184 0 113 (dk_at dksX2_allowed_1 5 rfl rfl)
theorem dX2_allowed_31 : decode cX2_allowed 31 = .ok (.istore_n 3, 1) := dk_62 (dk_at dksX2_allowed_1 8 rfl rfl)
theorem dX2_allowed_32 : decode cX2_allowed 32 = .ok (.iconst 2, 1) := dk_5 (dk_at dksX2_allowed_1 9 rfl rfl)
theorem dX2_allowed_33 : decode cX2_allowed 33 = .ok (.iload_n 1, 1) := dk_27 (dk_at dksX2_allowed_1 10 rfl rfl)
theorem dX2_allowed_34 : decode cX2_allowed 34 = .ok (.imul, 1) := dk_104 (dk_at dksX2_allowed_1 11 rfl rfl)
theorem dX2_allowed_35 : decode cX2_allowed 35 = .ok (.aload_n 0, 1) := dk_42 (dk_at dksX2_allowed_1 12 rfl rfl)
theorem dX2_allowed_36 : decode cX2_allowed 36 = .ok (.getfield 18, 3) := dk_180 0 18 (dk_at dksX2_allowed_1 13 rfl rfl)
theorem dX2_allowed_39 : decode cX2_allowed 39 = .ok (.iadd, 1) := dk_96 (dk_at dksX2_allowed_1 16 rfl rfl)
theorem dX2_allowed_40 : decode cX2_allowed 40 = .ok (.iconst 1, 1) := dk_4 (dk_at dksX2_allowed_1 17 rfl rfl)
theorem dX2_allowed_41 : decode cX2_allowed 41 = .ok (.isub, 1) := dk_100 (dk_at dksX2_allowed_1 18 rfl rfl)
theorem dX2_allowed_42 : decode cX2_allowed 42 = .ok (.iconst 2, 1) := dk_5 (dk_at dksX2_allowed_1 19 rfl rfl)
theorem dX2_allowed_43 : decode cX2_allowed 43 = .ok (.invokestatic 96, 3) := dk_184 0 96 (dk_at dksX2_allowed_1 20 rfl rfl)
theorem dX2_allowed_46 : decode cX2_allowed 46 = .ok (.istore 4, 2) := dk_54 4 (dk_at dksX2_allowed_2 0 rfl rfl)
theorem dX2_allowed_48 : decode cX2_allowed 48 = .ok (.iload_n 1, 1) := dk_27 (dk_at dksX2_allowed_2 2 rfl rfl)
theorem dX2_allowed_49 : decode cX2_allowed 49 = .ok (.ifCond .ne 7, 3) := dk_154 0 7 (dk_at dksX2_allowed_2 3 rfl rfl)
theorem dX2_allowed_52 : decode cX2_allowed 52 = .ok (.iconst 0, 1) := dk_3 (dk_at dksX2_allowed_2 6 rfl rfl)
theorem dX2_allowed_53 : decode cX2_allowed 53 = .ok (.goto 21, 3) := dk_167 0 21 (dk_at dksX2_allowed_2 7 rfl rfl)
theorem dX2_allowed_56 : decode cX2_allowed 56 = .ok (.iconst 0, 1) := dk_3 (dk_at dksX2_allowed_2 10 rfl rfl)
theorem dX2_allowed_57 : decode cX2_allowed 57 = .ok (.iload_n 3, 1) := dk_29 (dk_at dksX2_allowed_2 11 rfl rfl)
theorem dX2_allowed_58 : decode cX2_allowed 58 = .ok (.aload_n 0, 1) := dk_42 (dk_at dksX2_allowed_2 12 rfl rfl)
theorem dX2_allowed_59 : decode cX2_allowed 59 = .ok (.getfield 22, 3) := dk_180 0 22 (dk_at dksX2_allowed_2 13 rfl rfl)
theorem dX2_allowed_62 : decode cX2_allowed 62 = .ok (.isub, 1) := dk_100 (dk_at dksX2_allowed_2 16 rfl rfl)
theorem dX2_allowed_63 : decode cX2_allowed 63 = .ok (.aload_n 0, 1) := dk_42 (dk_at dksX2_allowed_2 17 rfl rfl)
theorem dX2_allowed_64 : decode cX2_allowed 64 = .ok (.iload_n 2, 1) := dk_28 (dk_at dksX2_allowed_2 18 rfl rfl)
theorem dX2_allowed_65 : decode cX2_allowed 65 = .ok (.invokevirtual 116, 3) := dk_182 0 116 (dk_at dksX2_allowed_2 19 rfl rfl)
theorem dX2_allowed_68 : decode cX2_allowed 68 = .ok (.invokestatic 113, 3) := dk_184 0 113 (dk_at dksX2_allowed_3 0 rfl rfl)
theorem dX2_allowed_71 : decode cX2_allowed 71 = .ok (.invokestatic 102, 3) := dk_184 0 102 (dk_at dksX2_allowed_3 3 rfl rfl)
theorem dX2_allowed_74 : decode cX2_allowed 74 = .ok (.istore 5, 2) := dk_54 5 (dk_at dksX2_allowed_3 6 rfl rfl)
theorem dX2_allowed_76 : decode cX2_allowed 76 = .ok (.new 108, 3) := dk_187 0 108 (dk_at dksX2_allowed_3 8 rfl rfl)
theorem dX2_allowed_79 : decode cX2_allowed 79 = .ok (.dup, 1) := dk_89 (dk_at dksX2_allowed_3 11 rfl rfl)
theorem dX2_allowed_80 : decode cX2_allowed 80 = .ok (.iload 5, 2) := dk_21 5 (dk_at dksX2_allowed_3 12 rfl rfl)
theorem dX2_allowed_82 : decode cX2_allowed 82 = .ok (.iload 4, 2) := dk_21 4 (dk_at dksX2_allowed_3 14 rfl rfl)
theorem dX2_allowed_84 : decode cX2_allowed 84 = .ok (.aload_n 0, 1) := dk_42 (dk_at dksX2_allowed_3 16 rfl rfl)
theorem dX2_allowed_85 : decode cX2_allowed 85 = .ok (.getfield 22, 3) := dk_180 0 22 (dk_at dksX2_allowed_3 17 rfl rfl)
theorem dX2_allowed_88 : decode cX2_allowed 88 = .ok (.iadd, 1) := dk_96 (dk_at dksX2_allowed_3 20 rfl rfl)
theorem dX2_allowed_89 : decode cX2_allowed 89 = .ok (.aload_n 0, 1) := dk_42 (dk_at dksX2_allowed_3 21 rfl rfl)
theorem dX2_allowed_90 : decode cX2_allowed 90 = .ok (.iload_n 2, 1) := dk_28 (dk_at dksX2_allowed_3 22 rfl rfl)
theorem dX2_allowed_91 : decode cX2_allowed 91 = .ok (.invokevirtual 120, 3) := dk_182 0 120 (dk_at dksX2_allowed_4 0 rfl rfl)
theorem dX2_allowed_94 : decode cX2_allowed 94 = .ok (.idiv, 1) := dk_108 (dk_at dksX2_allowed_4 3 rfl rfl)
theorem dX2_allowed_95 : decode cX2_allowed 95 = .ok (.invokespecial 110, 3) := dk_183 0 110 (dk_at dksX2_allowed_4 4 rfl rfl)
theorem dX2_allowed_98 : decode cX2_allowed 98 = .ok (.areturn, 1) := dk_176 (dk_at dksX2_allowed_4 7 rfl rfl)
abbrev cX2_heaviest : ByteArray := prog_5_method_9_code
def yX2_heaviest : MethodName := ⟨RX2, "heaviest", "(I)I"⟩
def dkwX2_heaviest_0 : List UInt8 := [42, 180, 0, 9, 27, 46, 42, 180, 0, 15, 27, 46, 96, 172]
abbrev dktX2_heaviest_0 : List UInt8 := dkwX2_heaviest_0 ++ []
theorem dksX2_heaviest_0 : cX2_heaviest.data.toList.drop 0 = dktX2_heaviest_0 := by decide +kernel
theorem dX2_heaviest_0 : decode cX2_heaviest 0 = .ok (.aload_n 0, 1) := dk_42 (dk_at dksX2_heaviest_0 0 rfl rfl)
theorem dX2_heaviest_1 : decode cX2_heaviest 1 = .ok (.getfield 9, 3) := dk_180 0 9 (dk_at dksX2_heaviest_0 1 rfl rfl)
theorem dX2_heaviest_4 : decode cX2_heaviest 4 = .ok (.iload_n 1, 1) := dk_27 (dk_at dksX2_heaviest_0 4 rfl rfl)
theorem dX2_heaviest_5 : decode cX2_heaviest 5 = .ok (.iaload, 1) := dk_46 (dk_at dksX2_heaviest_0 5 rfl rfl)
theorem dX2_heaviest_6 : decode cX2_heaviest 6 = .ok (.aload_n 0, 1) := dk_42 (dk_at dksX2_heaviest_0 6 rfl rfl)
theorem dX2_heaviest_7 : decode cX2_heaviest 7 = .ok (.getfield 15, 3) := dk_180 0 15 (dk_at dksX2_heaviest_0 7 rfl rfl)
theorem dX2_heaviest_10 : decode cX2_heaviest 10 = .ok (.iload_n 1, 1) := dk_27 (dk_at dksX2_heaviest_0 10 rfl rfl)
theorem dX2_heaviest_11 : decode cX2_heaviest 11 = .ok (.iaload, 1) := dk_46 (dk_at dksX2_heaviest_0 11 rfl rfl)
theorem dX2_heaviest_12 : decode cX2_heaviest 12 = .ok (.iadd, 1) := dk_96 (dk_at dksX2_heaviest_0 12 rfl rfl)
theorem dX2_heaviest_13 : decode cX2_heaviest 13 = .ok (.ireturn, 1) := dk_172 (dk_at dksX2_heaviest_0 13 rfl rfl)
abbrev cX2_lightest : ByteArray := prog_5_method_8_code
def yX2_lightest : MethodName := ⟨RX2, "lightest", "(I)I"⟩
def dkwX2_lightest_0 : List UInt8 := [42, 180, 0, 9, 27, 46, 42, 180, 0, 15, 27, 46, 100, 172]
abbrev dktX2_lightest_0 : List UInt8 := dkwX2_lightest_0 ++ []
theorem dksX2_lightest_0 : cX2_lightest.data.toList.drop 0 = dktX2_lightest_0 := by decide +kernel
theorem dX2_lightest_0 : decode cX2_lightest 0 = .ok (.aload_n 0, 1) := dk_42 (dk_at dksX2_lightest_0 0 rfl rfl)
theorem dX2_lightest_1 : decode cX2_lightest 1 = .ok (.getfield 9, 3) := dk_180 0 9 (dk_at dksX2_lightest_0 1 rfl rfl)
theorem dX2_lightest_4 : decode cX2_lightest 4 = .ok (.iload_n 1, 1) := dk_27 (dk_at dksX2_lightest_0 4 rfl rfl)
theorem dX2_lightest_5 : decode cX2_lightest 5 = .ok (.iaload, 1) := dk_46 (dk_at dksX2_lightest_0 5 rfl rfl)
theorem dX2_lightest_6 : decode cX2_lightest 6 = .ok (.aload_n 0, 1) := dk_42 (dk_at dksX2_lightest_0 6 rfl rfl)
theorem dX2_lightest_7 : decode cX2_lightest 7 = .ok (.getfield 15, 3) := dk_180 0 15 (dk_at dksX2_lightest_0 7 rfl rfl)
theorem dX2_lightest_10 : decode cX2_lightest 10 = .ok (.iload_n 1, 1) := dk_27 (dk_at dksX2_lightest_0 10 rfl rfl)
theorem dX2_lightest_11 : decode cX2_lightest 11 = .ok (.iaload, 1) := dk_46 (dk_at dksX2_lightest_0 11 rfl rfl)
theorem dX2_lightest_12 : decode cX2_lightest 12 = .ok (.isub, 1) := dk_100 (dk_at dksX2_lightest_0 12 rfl rfl)
theorem dX2_lightest_13 : decode cX2_lightest 13 = .ok (.ireturn, 1) := dk_172 (dk_at dksX2_lightest_0 13 rfl rfl)
abbrev cX2_claim : ByteArray := prog_5_method_23_code
def yX2_claim : MethodName := ⟨RX2, "claim", "(II)I"⟩
def dkwX2_claim_7 : List UInt8 := [167, 0, 8, 42, 180, 0, 25, 116, 182, 0, 181, 21, 5, 153, 0, 7, 4, 167, 0, 4, 5, 172]
abbrev dktX2_claim_7 : List UInt8 := dkwX2_claim_7 ++ []
def dkwX2_claim_6 : List UInt8 := [25, 4, 180, 0, 156, 25, 4, 180, 0, 183, 100, 96, 181, 0, 51, 45, 21, 5, 153, 0, 7, 3]
abbrev dktX2_claim_6 : List UInt8 := dkwX2_claim_6 ++ dktX2_claim_7
def dkwX2_claim_5 : List UInt8 := [3, 54, 5, 45, 25, 4, 180, 0, 156, 25, 4, 180, 0, 183, 100, 182, 0, 181, 42, 89, 180, 0, 51]
abbrev dktX2_claim_5 : List UInt8 := dkwX2_claim_5 ++ dktX2_claim_6
def dkwX2_claim_4 : List UInt8 := [184, 0, 189, 25, 4, 180, 0, 183, 25, 4, 180, 0, 156, 100, 184, 0, 189, 162, 0, 7, 4, 167, 0, 4]
abbrev dktX2_claim_4 : List UInt8 := dkwX2_claim_4 ++ dktX2_claim_5
def dkwX2_claim_3 : List UInt8 := [25, 4, 180, 0, 148, 182, 0, 127, 28, 182, 0, 186, 154, 0, 5, 3, 172, 28, 25, 4, 180, 0, 156, 100]
abbrev dktX2_claim_3 : List UInt8 := dkwX2_claim_3 ++ dktX2_claim_4
def dkwX2_claim_2 : List UInt8 := [25, 4, 180, 0, 183, 28, 160, 0, 6, 18, 185, 172, 45, 1, 181, 0, 139, 42, 25, 4, 180, 0, 143]
abbrev dktX2_claim_2 : List UInt8 := dkwX2_claim_2 ++ dktX2_claim_3
def dkwX2_claim_1 : List UInt8 := [180, 0, 31, 27, 185, 0, 175, 2, 0, 192, 0, 70, 78, 45, 180, 0, 139, 58, 4, 25, 4, 198, 0, 12]
abbrev dktX2_claim_1 : List UInt8 := dkwX2_claim_1 ++ dktX2_claim_2
def dkwX2_claim_0 : List UInt8 := [42, 27, 182, 0, 167, 153, 0, 14, 28, 3, 17, 39, 15, 184, 0, 89, 154, 0, 6, 18, 159, 172, 42]
abbrev dktX2_claim_0 : List UInt8 := dkwX2_claim_0 ++ dktX2_claim_1
theorem dksX2_claim_0 : cX2_claim.data.toList.drop 0 = dktX2_claim_0 := by decide +kernel
theorem dksX2_claim_1 : cX2_claim.data.toList.drop 23 = dktX2_claim_1 := dk_seg dksX2_claim_0 23 rfl rfl
theorem dksX2_claim_2 : cX2_claim.data.toList.drop 47 = dktX2_claim_2 := dk_seg dksX2_claim_1 24 rfl rfl
theorem dksX2_claim_3 : cX2_claim.data.toList.drop 70 = dktX2_claim_3 := dk_seg dksX2_claim_2 23 rfl rfl
theorem dksX2_claim_4 : cX2_claim.data.toList.drop 94 = dktX2_claim_4 := dk_seg dksX2_claim_3 24 rfl rfl
theorem dksX2_claim_5 : cX2_claim.data.toList.drop 118 = dktX2_claim_5 := dk_seg dksX2_claim_4 24 rfl rfl
theorem dksX2_claim_6 : cX2_claim.data.toList.drop 141 = dktX2_claim_6 := dk_seg dksX2_claim_5 23 rfl rfl
theorem dksX2_claim_7 : cX2_claim.data.toList.drop 163 = dktX2_claim_7 := dk_seg dksX2_claim_6 22 rfl rfl
theorem dX2_claim_0 : decode cX2_claim 0 = .ok (.aload_n 0, 1) := dk_42 (dk_at dksX2_claim_0 0 rfl rfl)
theorem dX2_claim_1 : decode cX2_claim 1 = .ok (.iload_n 1, 1) := dk_27 (dk_at dksX2_claim_0 1 rfl rfl)
theorem dX2_claim_2 : decode cX2_claim 2 = .ok (.invokevirtual 167, 3) := dk_182 0 167 (dk_at dksX2_claim_0 2 rfl rfl)
theorem dX2_claim_5 : decode cX2_claim 5 = .ok (.ifCond .eq 14, 3) := dk_153 0 14 (dk_at dksX2_claim_0 5 rfl rfl)
theorem dX2_claim_8 : decode cX2_claim 8 = .ok (.iload_n 2, 1) := dk_28 (dk_at dksX2_claim_0 8 rfl rfl)
theorem dX2_claim_9 : decode cX2_claim 9 = .ok (.iconst 0, 1) := dk_3 (dk_at dksX2_claim_0 9 rfl rfl)
theorem dX2_claim_10 : decode cX2_claim 10 = .ok (.sipush 9999, 3) := dk_17 39 15 (dk_at dksX2_claim_0 10 rfl rfl)
theorem dX2_claim_13 : decode cX2_claim 13 = .ok (.invokestatic 89, 3) := dk_184 0 89 (dk_at dksX2_claim_0 13 rfl rfl)
theorem dX2_claim_16 : decode cX2_claim 16 = .ok (.ifCond .ne 6, 3) := dk_154 0 6 (dk_at dksX2_claim_0 16 rfl rfl)
theorem dX2_claim_19 : decode cX2_claim 19 = .ok (.ldc 159, 2) := dk_18 159 (dk_at dksX2_claim_0 19 rfl rfl)
theorem dX2_claim_21 : decode cX2_claim 21 = .ok (.ireturn, 1) := dk_172 (dk_at dksX2_claim_0 21 rfl rfl)
theorem dX2_claim_22 : decode cX2_claim 22 = .ok (.aload_n 0, 1) := dk_42 (dk_at dksX2_claim_0 22 rfl rfl)
theorem dX2_claim_23 : decode cX2_claim 23 = .ok (.getfield 31, 3) := dk_180 0 31 (dk_at dksX2_claim_1 0 rfl rfl)
theorem dX2_claim_26 : decode cX2_claim 26 = .ok (.iload_n 1, 1) := dk_27 (dk_at dksX2_claim_1 3 rfl rfl)
theorem dX2_claim_27 : decode cX2_claim 27 = .ok (.invokeinterface 175 2, 5) := by decide +kernel
theorem dX2_claim_32 : decode cX2_claim 32 = .ok (.checkcast 70, 3) := dk_192 0 70 (dk_at dksX2_claim_1 9 rfl rfl)
theorem dX2_claim_35 : decode cX2_claim 35 = .ok (.astore_n 3, 1) := dk_78 (dk_at dksX2_claim_1 12 rfl rfl)
theorem dX2_claim_36 : decode cX2_claim 36 = .ok (.aload_n 3, 1) := dk_45 (dk_at dksX2_claim_1 13 rfl rfl)
theorem dX2_claim_37 : decode cX2_claim 37 = .ok (.getfield 139, 3) := dk_180 0 139 (dk_at dksX2_claim_1 14 rfl rfl)
theorem dX2_claim_40 : decode cX2_claim 40 = .ok (.astore 4, 2) := dk_58 4 (dk_at dksX2_claim_1 17 rfl rfl)
theorem dX2_claim_42 : decode cX2_claim 42 = .ok (.aload 4, 2) := dk_25 4 (dk_at dksX2_claim_1 19 rfl rfl)
theorem dX2_claim_44 : decode cX2_claim 44 = .ok (.ifnull 12, 3) := dk_198 0 12 (dk_at dksX2_claim_1 21 rfl rfl)
theorem dX2_claim_47 : decode cX2_claim 47 = .ok (.aload 4, 2) := dk_25 4 (dk_at dksX2_claim_2 0 rfl rfl)
theorem dX2_claim_49 : decode cX2_claim 49 = .ok (.getfield 183, 3) := dk_180 0 183 (dk_at dksX2_claim_2 2 rfl rfl)
theorem dX2_claim_52 : decode cX2_claim 52 = .ok (.iload_n 2, 1) := dk_28 (dk_at dksX2_claim_2 5 rfl rfl)
theorem dX2_claim_53 : decode cX2_claim 53 = .ok (.if_icmp .ne 6, 3) := dk_160 0 6 (dk_at dksX2_claim_2 6 rfl rfl)
theorem dX2_claim_56 : decode cX2_claim 56 = .ok (.ldc 185, 2) := dk_18 185 (dk_at dksX2_claim_2 9 rfl rfl)
theorem dX2_claim_58 : decode cX2_claim 58 = .ok (.ireturn, 1) := dk_172 (dk_at dksX2_claim_2 11 rfl rfl)
theorem dX2_claim_59 : decode cX2_claim 59 = .ok (.aload_n 3, 1) := dk_45 (dk_at dksX2_claim_2 12 rfl rfl)
theorem dX2_claim_60 : decode cX2_claim 60 = .ok (.aconst_null, 1) := dk_1 (dk_at dksX2_claim_2 13 rfl rfl)
theorem dX2_claim_61 : decode cX2_claim 61 = .ok (.putfield 139, 3) := dk_181 0 139 (dk_at dksX2_claim_2 14 rfl rfl)
theorem dX2_claim_64 : decode cX2_claim 64 = .ok (.aload_n 0, 1) := dk_42 (dk_at dksX2_claim_2 17 rfl rfl)
theorem dX2_claim_65 : decode cX2_claim 65 = .ok (.aload 4, 2) := dk_25 4 (dk_at dksX2_claim_2 18 rfl rfl)
theorem dX2_claim_67 : decode cX2_claim 67 = .ok (.getfield 143, 3) := dk_180 0 143 (dk_at dksX2_claim_2 20 rfl rfl)
theorem dX2_claim_70 : decode cX2_claim 70 = .ok (.aload 4, 2) := dk_25 4 (dk_at dksX2_claim_3 0 rfl rfl)
theorem dX2_claim_72 : decode cX2_claim 72 = .ok (.getfield 148, 3) := dk_180 0 148 (dk_at dksX2_claim_3 2 rfl rfl)
theorem dX2_claim_75 : decode cX2_claim 75 = .ok (.invokevirtual 127, 3) := dk_182 0 127 (dk_at dksX2_claim_3 5 rfl rfl)
theorem dX2_claim_78 : decode cX2_claim 78 = .ok (.iload_n 2, 1) := dk_28 (dk_at dksX2_claim_3 8 rfl rfl)
theorem dX2_claim_79 : decode cX2_claim 79 = .ok (.invokevirtual 186, 3) := dk_182 0 186 (dk_at dksX2_claim_3 9 rfl rfl)
theorem dX2_claim_82 : decode cX2_claim 82 = .ok (.ifCond .ne 5, 3) := dk_154 0 5 (dk_at dksX2_claim_3 12 rfl rfl)
theorem dX2_claim_85 : decode cX2_claim 85 = .ok (.iconst 0, 1) := dk_3 (dk_at dksX2_claim_3 15 rfl rfl)
theorem dX2_claim_86 : decode cX2_claim 86 = .ok (.ireturn, 1) := dk_172 (dk_at dksX2_claim_3 16 rfl rfl)
theorem dX2_claim_87 : decode cX2_claim 87 = .ok (.iload_n 2, 1) := dk_28 (dk_at dksX2_claim_3 17 rfl rfl)
theorem dX2_claim_88 : decode cX2_claim 88 = .ok (.aload 4, 2) := dk_25 4 (dk_at dksX2_claim_3 18 rfl rfl)
theorem dX2_claim_90 : decode cX2_claim 90 = .ok (.getfield 156, 3) := dk_180 0 156 (dk_at dksX2_claim_3 20 rfl rfl)
theorem dX2_claim_93 : decode cX2_claim 93 = .ok (.isub, 1) := dk_100 (dk_at dksX2_claim_3 23 rfl rfl)
theorem dX2_claim_94 : decode cX2_claim 94 = .ok (.invokestatic 189, 3) := dk_184 0 189 (dk_at dksX2_claim_4 0 rfl rfl)
theorem dX2_claim_97 : decode cX2_claim 97 = .ok (.aload 4, 2) := dk_25 4 (dk_at dksX2_claim_4 3 rfl rfl)
theorem dX2_claim_99 : decode cX2_claim 99 = .ok (.getfield 183, 3) := dk_180 0 183 (dk_at dksX2_claim_4 5 rfl rfl)
theorem dX2_claim_102 : decode cX2_claim 102 = .ok (.aload 4, 2) := dk_25 4 (dk_at dksX2_claim_4 8 rfl rfl)
theorem dX2_claim_104 : decode cX2_claim 104 = .ok (.getfield 156, 3) := dk_180 0 156 (dk_at dksX2_claim_4 10 rfl rfl)
theorem dX2_claim_107 : decode cX2_claim 107 = .ok (.isub, 1) := dk_100 (dk_at dksX2_claim_4 13 rfl rfl)
theorem dX2_claim_108 : decode cX2_claim 108 = .ok (.invokestatic 189, 3) := dk_184 0 189 (dk_at dksX2_claim_4 14 rfl rfl)
theorem dX2_claim_111 : decode cX2_claim 111 = .ok (.if_icmp .ge 7, 3) := dk_162 0 7 (dk_at dksX2_claim_4 17 rfl rfl)
theorem dX2_claim_114 : decode cX2_claim 114 = .ok (.iconst 1, 1) := dk_4 (dk_at dksX2_claim_4 20 rfl rfl)
theorem dX2_claim_115 : decode cX2_claim 115 = .ok (.goto 4, 3) := dk_167 0 4 (dk_at dksX2_claim_4 21 rfl rfl)
theorem dX2_claim_118 : decode cX2_claim 118 = .ok (.iconst 0, 1) := dk_3 (dk_at dksX2_claim_5 0 rfl rfl)
theorem dX2_claim_119 : decode cX2_claim 119 = .ok (.istore 5, 2) := dk_54 5 (dk_at dksX2_claim_5 1 rfl rfl)
theorem dX2_claim_121 : decode cX2_claim 121 = .ok (.aload_n 3, 1) := dk_45 (dk_at dksX2_claim_5 3 rfl rfl)
theorem dX2_claim_122 : decode cX2_claim 122 = .ok (.aload 4, 2) := dk_25 4 (dk_at dksX2_claim_5 4 rfl rfl)
theorem dX2_claim_124 : decode cX2_claim 124 = .ok (.getfield 156, 3) := dk_180 0 156 (dk_at dksX2_claim_5 6 rfl rfl)
theorem dX2_claim_127 : decode cX2_claim 127 = .ok (.aload 4, 2) := dk_25 4 (dk_at dksX2_claim_5 9 rfl rfl)
theorem dX2_claim_129 : decode cX2_claim 129 = .ok (.getfield 183, 3) := dk_180 0 183 (dk_at dksX2_claim_5 11 rfl rfl)
theorem dX2_claim_132 : decode cX2_claim 132 = .ok (.isub, 1) := dk_100 (dk_at dksX2_claim_5 14 rfl rfl)
theorem dX2_claim_133 : decode cX2_claim 133 = .ok (.invokevirtual 181, 3) := dk_182 0 181 (dk_at dksX2_claim_5 15 rfl rfl)
theorem dX2_claim_136 : decode cX2_claim 136 = .ok (.aload_n 0, 1) := dk_42 (dk_at dksX2_claim_5 18 rfl rfl)
theorem dX2_claim_137 : decode cX2_claim 137 = .ok (.dup, 1) := dk_89 (dk_at dksX2_claim_5 19 rfl rfl)
theorem dX2_claim_138 : decode cX2_claim 138 = .ok (.getfield 51, 3) := dk_180 0 51 (dk_at dksX2_claim_5 20 rfl rfl)
theorem dX2_claim_141 : decode cX2_claim 141 = .ok (.aload 4, 2) := dk_25 4 (dk_at dksX2_claim_6 0 rfl rfl)
theorem dX2_claim_143 : decode cX2_claim 143 = .ok (.getfield 156, 3) := dk_180 0 156 (dk_at dksX2_claim_6 2 rfl rfl)
theorem dX2_claim_146 : decode cX2_claim 146 = .ok (.aload 4, 2) := dk_25 4 (dk_at dksX2_claim_6 5 rfl rfl)
theorem dX2_claim_148 : decode cX2_claim 148 = .ok (.getfield 183, 3) := dk_180 0 183 (dk_at dksX2_claim_6 7 rfl rfl)
theorem dX2_claim_151 : decode cX2_claim 151 = .ok (.isub, 1) := dk_100 (dk_at dksX2_claim_6 10 rfl rfl)
theorem dX2_claim_152 : decode cX2_claim 152 = .ok (.iadd, 1) := dk_96 (dk_at dksX2_claim_6 11 rfl rfl)
theorem dX2_claim_153 : decode cX2_claim 153 = .ok (.putfield 51, 3) := dk_181 0 51 (dk_at dksX2_claim_6 12 rfl rfl)
theorem dX2_claim_156 : decode cX2_claim 156 = .ok (.aload_n 3, 1) := dk_45 (dk_at dksX2_claim_6 15 rfl rfl)
theorem dX2_claim_157 : decode cX2_claim 157 = .ok (.iload 5, 2) := dk_21 5 (dk_at dksX2_claim_6 16 rfl rfl)
theorem dX2_claim_159 : decode cX2_claim 159 = .ok (.ifCond .eq 7, 3) := dk_153 0 7 (dk_at dksX2_claim_6 18 rfl rfl)
theorem dX2_claim_162 : decode cX2_claim 162 = .ok (.iconst 0, 1) := dk_3 (dk_at dksX2_claim_6 21 rfl rfl)
theorem dX2_claim_163 : decode cX2_claim 163 = .ok (.goto 8, 3) := dk_167 0 8 (dk_at dksX2_claim_7 0 rfl rfl)
theorem dX2_claim_166 : decode cX2_claim 166 = .ok (.aload_n 0, 1) := dk_42 (dk_at dksX2_claim_7 3 rfl rfl)
theorem dX2_claim_167 : decode cX2_claim 167 = .ok (.getfield 25, 3) := dk_180 0 25 (dk_at dksX2_claim_7 4 rfl rfl)
theorem dX2_claim_170 : decode cX2_claim 170 = .ok (.ineg, 1) := dk_116 (dk_at dksX2_claim_7 7 rfl rfl)
theorem dX2_claim_171 : decode cX2_claim 171 = .ok (.invokevirtual 181, 3) := dk_182 0 181 (dk_at dksX2_claim_7 8 rfl rfl)
theorem dX2_claim_174 : decode cX2_claim 174 = .ok (.iload 5, 2) := dk_21 5 (dk_at dksX2_claim_7 11 rfl rfl)
theorem dX2_claim_176 : decode cX2_claim 176 = .ok (.ifCond .eq 7, 3) := dk_153 0 7 (dk_at dksX2_claim_7 13 rfl rfl)
theorem dX2_claim_179 : decode cX2_claim 179 = .ok (.iconst 1, 1) := dk_4 (dk_at dksX2_claim_7 16 rfl rfl)
theorem dX2_claim_180 : decode cX2_claim 180 = .ok (.goto 4, 3) := dk_167 0 4 (dk_at dksX2_claim_7 17 rfl rfl)
theorem dX2_claim_183 : decode cX2_claim 183 = .ok (.iconst 2, 1) := dk_5 (dk_at dksX2_claim_7 20 rfl rfl)
theorem dX2_claim_184 : decode cX2_claim 184 = .ok (.ireturn, 1) := dk_172 (dk_at dksX2_claim_7 21 rfl rfl)
abbrev cX2_addPrize : ByteArray := prog_5_method_24_code
def yX2_addPrize : MethodName := ⟨RX2, "addPrize", "(IIIII)I"⟩
def dkwX2_addPrize_4 : List UInt8 := [185, 0, 76, 2, 0, 87, 42, 180, 0, 35, 185, 0, 85, 1, 0, 4, 100, 172]
abbrev dktX2_addPrize_4 : List UInt8 := dkwX2_addPrize_4 ++ []
def dkwX2_addPrize_3 : List UInt8 := [18, 163, 172, 42, 180, 0, 35, 187, 0, 80, 89, 27, 28, 29, 21, 4, 21, 5, 183, 0, 193]
abbrev dktX2_addPrize_3 : List UInt8 := dkwX2_addPrize_3 ++ dktX2_addPrize_4
def dkwX2_addPrize_2 : List UInt8 := [184, 0, 89, 154, 0, 6, 18, 159, 172, 42, 180, 0, 35, 185, 0, 85, 1, 0, 16, 6, 160, 0, 6]
abbrev dktX2_addPrize_2 : List UInt8 := dkwX2_addPrize_2 ++ dktX2_addPrize_3
def dkwX2_addPrize_1 : List UInt8 := [16, 99, 184, 0, 89, 153, 0, 25, 21, 4, 4, 18, 192, 184, 0, 89, 153, 0, 14, 21, 5, 4, 18, 192]
abbrev dktX2_addPrize_1 : List UInt8 := dkwX2_addPrize_1 ++ dktX2_addPrize_2
def dkwX2_addPrize_0 : List UInt8 := [27, 4, 17, 19, 136, 184, 0, 89, 153, 0, 46, 28, 4, 17, 78, 32, 184, 0, 89, 153, 0, 35, 29, 3]
abbrev dktX2_addPrize_0 : List UInt8 := dkwX2_addPrize_0 ++ dktX2_addPrize_1
theorem dksX2_addPrize_0 : cX2_addPrize.data.toList.drop 0 = dktX2_addPrize_0 := by decide +kernel
theorem dksX2_addPrize_1 : cX2_addPrize.data.toList.drop 24 = dktX2_addPrize_1 := dk_seg dksX2_addPrize_0 24 rfl rfl
theorem dksX2_addPrize_2 : cX2_addPrize.data.toList.drop 48 = dktX2_addPrize_2 := dk_seg dksX2_addPrize_1 24 rfl rfl
theorem dksX2_addPrize_3 : cX2_addPrize.data.toList.drop 71 = dktX2_addPrize_3 := dk_seg dksX2_addPrize_2 23 rfl rfl
theorem dksX2_addPrize_4 : cX2_addPrize.data.toList.drop 92 = dktX2_addPrize_4 := dk_seg dksX2_addPrize_3 21 rfl rfl
theorem dX2_addPrize_0 : decode cX2_addPrize 0 = .ok (.iload_n 1, 1) := dk_27 (dk_at dksX2_addPrize_0 0 rfl rfl)
theorem dX2_addPrize_1 : decode cX2_addPrize 1 = .ok (.iconst 1, 1) := dk_4 (dk_at dksX2_addPrize_0 1 rfl rfl)
theorem dX2_addPrize_2 : decode cX2_addPrize 2 = .ok (.sipush 5000, 3) := dk_17 19 136 (dk_at dksX2_addPrize_0 2 rfl rfl)
theorem dX2_addPrize_5 : decode cX2_addPrize 5 = .ok (.invokestatic 89, 3) := dk_184 0 89 (dk_at dksX2_addPrize_0 5 rfl rfl)
theorem dX2_addPrize_8 : decode cX2_addPrize 8 = .ok (.ifCond .eq 46, 3) := dk_153 0 46 (dk_at dksX2_addPrize_0 8 rfl rfl)
theorem dX2_addPrize_11 : decode cX2_addPrize 11 = .ok (.iload_n 2, 1) := dk_28 (dk_at dksX2_addPrize_0 11 rfl rfl)
theorem dX2_addPrize_12 : decode cX2_addPrize 12 = .ok (.iconst 1, 1) := dk_4 (dk_at dksX2_addPrize_0 12 rfl rfl)
theorem dX2_addPrize_13 : decode cX2_addPrize 13 = .ok (.sipush 20000, 3) := dk_17 78 32 (dk_at dksX2_addPrize_0 13 rfl rfl)
theorem dX2_addPrize_16 : decode cX2_addPrize 16 = .ok (.invokestatic 89, 3) := dk_184 0 89 (dk_at dksX2_addPrize_0 16 rfl rfl)
theorem dX2_addPrize_19 : decode cX2_addPrize 19 = .ok (.ifCond .eq 35, 3) := dk_153 0 35 (dk_at dksX2_addPrize_0 19 rfl rfl)
theorem dX2_addPrize_22 : decode cX2_addPrize 22 = .ok (.iload_n 3, 1) := dk_29 (dk_at dksX2_addPrize_0 22 rfl rfl)
theorem dX2_addPrize_23 : decode cX2_addPrize 23 = .ok (.iconst 0, 1) := dk_3 (dk_at dksX2_addPrize_0 23 rfl rfl)
theorem dX2_addPrize_24 : decode cX2_addPrize 24 = .ok (.bipush 99, 2) := dk_16 99 (dk_at dksX2_addPrize_1 0 rfl rfl)
theorem dX2_addPrize_26 : decode cX2_addPrize 26 = .ok (.invokestatic 89, 3) := dk_184 0 89 (dk_at dksX2_addPrize_1 2 rfl rfl)
theorem dX2_addPrize_29 : decode cX2_addPrize 29 = .ok (.ifCond .eq 25, 3) := dk_153 0 25 (dk_at dksX2_addPrize_1 5 rfl rfl)
theorem dX2_addPrize_32 : decode cX2_addPrize 32 = .ok (.iload 4, 2) := dk_21 4 (dk_at dksX2_addPrize_1 8 rfl rfl)
theorem dX2_addPrize_34 : decode cX2_addPrize 34 = .ok (.iconst 1, 1) := dk_4 (dk_at dksX2_addPrize_1 10 rfl rfl)
theorem dX2_addPrize_35 : decode cX2_addPrize 35 = .ok (.ldc 192, 2) := dk_18 192 (dk_at dksX2_addPrize_1 11 rfl rfl)
theorem dX2_addPrize_37 : decode cX2_addPrize 37 = .ok (.invokestatic 89, 3) := dk_184 0 89 (dk_at dksX2_addPrize_1 13 rfl rfl)
theorem dX2_addPrize_40 : decode cX2_addPrize 40 = .ok (.ifCond .eq 14, 3) := dk_153 0 14 (dk_at dksX2_addPrize_1 16 rfl rfl)
theorem dX2_addPrize_43 : decode cX2_addPrize 43 = .ok (.iload 5, 2) := dk_21 5 (dk_at dksX2_addPrize_1 19 rfl rfl)
theorem dX2_addPrize_45 : decode cX2_addPrize 45 = .ok (.iconst 1, 1) := dk_4 (dk_at dksX2_addPrize_1 21 rfl rfl)
theorem dX2_addPrize_46 : decode cX2_addPrize 46 = .ok (.ldc 192, 2) := dk_18 192 (dk_at dksX2_addPrize_1 22 rfl rfl)
theorem dX2_addPrize_48 : decode cX2_addPrize 48 = .ok (.invokestatic 89, 3) := dk_184 0 89 (dk_at dksX2_addPrize_2 0 rfl rfl)
theorem dX2_addPrize_51 : decode cX2_addPrize 51 = .ok (.ifCond .ne 6, 3) := dk_154 0 6 (dk_at dksX2_addPrize_2 3 rfl rfl)
theorem dX2_addPrize_54 : decode cX2_addPrize 54 = .ok (.ldc 159, 2) := dk_18 159 (dk_at dksX2_addPrize_2 6 rfl rfl)
theorem dX2_addPrize_56 : decode cX2_addPrize 56 = .ok (.ireturn, 1) := dk_172 (dk_at dksX2_addPrize_2 8 rfl rfl)
theorem dX2_addPrize_57 : decode cX2_addPrize 57 = .ok (.aload_n 0, 1) := dk_42 (dk_at dksX2_addPrize_2 9 rfl rfl)
theorem dX2_addPrize_58 : decode cX2_addPrize 58 = .ok (.getfield 35, 3) := dk_180 0 35 (dk_at dksX2_addPrize_2 10 rfl rfl)
theorem dX2_addPrize_61 : decode cX2_addPrize 61 = .ok (.invokeinterface 85 1, 5) := by decide +kernel
theorem dX2_addPrize_66 : decode cX2_addPrize 66 = .ok (.bipush 6, 2) := dk_16 6 (dk_at dksX2_addPrize_2 18 rfl rfl)
theorem dX2_addPrize_68 : decode cX2_addPrize 68 = .ok (.if_icmp .ne 6, 3) := dk_160 0 6 (dk_at dksX2_addPrize_2 20 rfl rfl)
theorem dX2_addPrize_71 : decode cX2_addPrize 71 = .ok (.ldc 163, 2) := dk_18 163 (dk_at dksX2_addPrize_3 0 rfl rfl)
theorem dX2_addPrize_73 : decode cX2_addPrize 73 = .ok (.ireturn, 1) := dk_172 (dk_at dksX2_addPrize_3 2 rfl rfl)
theorem dX2_addPrize_74 : decode cX2_addPrize 74 = .ok (.aload_n 0, 1) := dk_42 (dk_at dksX2_addPrize_3 3 rfl rfl)
theorem dX2_addPrize_75 : decode cX2_addPrize 75 = .ok (.getfield 35, 3) := dk_180 0 35 (dk_at dksX2_addPrize_3 4 rfl rfl)
theorem dX2_addPrize_78 : decode cX2_addPrize 78 = .ok (.new 80, 3) := dk_187 0 80 (dk_at dksX2_addPrize_3 7 rfl rfl)
theorem dX2_addPrize_81 : decode cX2_addPrize 81 = .ok (.dup, 1) := dk_89 (dk_at dksX2_addPrize_3 10 rfl rfl)
theorem dX2_addPrize_82 : decode cX2_addPrize 82 = .ok (.iload_n 1, 1) := dk_27 (dk_at dksX2_addPrize_3 11 rfl rfl)
theorem dX2_addPrize_83 : decode cX2_addPrize 83 = .ok (.iload_n 2, 1) := dk_28 (dk_at dksX2_addPrize_3 12 rfl rfl)
theorem dX2_addPrize_84 : decode cX2_addPrize 84 = .ok (.iload_n 3, 1) := dk_29 (dk_at dksX2_addPrize_3 13 rfl rfl)
theorem dX2_addPrize_85 : decode cX2_addPrize 85 = .ok (.iload 4, 2) := dk_21 4 (dk_at dksX2_addPrize_3 14 rfl rfl)
theorem dX2_addPrize_87 : decode cX2_addPrize 87 = .ok (.iload 5, 2) := dk_21 5 (dk_at dksX2_addPrize_3 16 rfl rfl)
theorem dX2_addPrize_89 : decode cX2_addPrize 89 = .ok (.invokespecial 193, 3) := dk_183 0 193 (dk_at dksX2_addPrize_3 18 rfl rfl)
theorem dX2_addPrize_92 : decode cX2_addPrize 92 = .ok (.invokeinterface 76 2, 5) := by decide +kernel
theorem dX2_addPrize_97 : decode cX2_addPrize 97 = .ok (.pop, 1) := dk_87 (dk_at dksX2_addPrize_4 5 rfl rfl)
theorem dX2_addPrize_98 : decode cX2_addPrize 98 = .ok (.aload_n 0, 1) := dk_42 (dk_at dksX2_addPrize_4 6 rfl rfl)
theorem dX2_addPrize_99 : decode cX2_addPrize 99 = .ok (.getfield 35, 3) := dk_180 0 35 (dk_at dksX2_addPrize_4 7 rfl rfl)
theorem dX2_addPrize_102 : decode cX2_addPrize 102 = .ok (.invokeinterface 85 1, 5) := by decide +kernel
theorem dX2_addPrize_107 : decode cX2_addPrize 107 = .ok (.iconst 1, 1) := dk_4 (dk_at dksX2_addPrize_4 15 rfl rfl)
theorem dX2_addPrize_108 : decode cX2_addPrize 108 = .ok (.isub, 1) := dk_100 (dk_at dksX2_addPrize_4 16 rfl rfl)
theorem dX2_addPrize_109 : decode cX2_addPrize 109 = .ok (.ireturn, 1) := dk_172 (dk_at dksX2_addPrize_4 17 rfl rfl)
abbrev cX2_removePrize : ByteArray := prog_5_method_25_code
def yX2_removePrize : MethodName := ⟨RX2, "removePrize", "(I)I"⟩
def dkwX2_removePrize_1 : List UInt8 := [167, 0, 5, 18, 159, 172]
abbrev dktX2_removePrize_1 : List UInt8 := dkwX2_removePrize_1 ++ []
def dkwX2_removePrize_0 : List UInt8 := [42, 27, 182, 0, 196, 153, 0, 22, 42, 180, 0, 35, 27, 185, 0, 171, 2, 0, 192, 0, 80, 180, 0, 199]
abbrev dktX2_removePrize_0 : List UInt8 := dkwX2_removePrize_0 ++ dktX2_removePrize_1
theorem dksX2_removePrize_0 : cX2_removePrize.data.toList.drop 0 = dktX2_removePrize_0 := by decide +kernel
theorem dksX2_removePrize_1 : cX2_removePrize.data.toList.drop 24 = dktX2_removePrize_1 := dk_seg dksX2_removePrize_0 24 rfl rfl
theorem dX2_removePrize_0 : decode cX2_removePrize 0 = .ok (.aload_n 0, 1) := dk_42 (dk_at dksX2_removePrize_0 0 rfl rfl)
theorem dX2_removePrize_1 : decode cX2_removePrize 1 = .ok (.iload_n 1, 1) := dk_27 (dk_at dksX2_removePrize_0 1 rfl rfl)
theorem dX2_removePrize_2 : decode cX2_removePrize 2 = .ok (.invokevirtual 196, 3) := dk_182 0 196 (dk_at dksX2_removePrize_0 2 rfl rfl)
theorem dX2_removePrize_5 : decode cX2_removePrize 5 = .ok (.ifCond .eq 22, 3) := dk_153 0 22 (dk_at dksX2_removePrize_0 5 rfl rfl)
theorem dX2_removePrize_8 : decode cX2_removePrize 8 = .ok (.aload_n 0, 1) := dk_42 (dk_at dksX2_removePrize_0 8 rfl rfl)
theorem dX2_removePrize_9 : decode cX2_removePrize 9 = .ok (.getfield 35, 3) := dk_180 0 35 (dk_at dksX2_removePrize_0 9 rfl rfl)
theorem dX2_removePrize_12 : decode cX2_removePrize 12 = .ok (.iload_n 1, 1) := dk_27 (dk_at dksX2_removePrize_0 12 rfl rfl)
theorem dX2_removePrize_13 : decode cX2_removePrize 13 = .ok (.invokeinterface 171 2, 5) := by decide +kernel
theorem dX2_removePrize_18 : decode cX2_removePrize 18 = .ok (.checkcast 80, 3) := dk_192 0 80 (dk_at dksX2_removePrize_0 18 rfl rfl)
theorem dX2_removePrize_21 : decode cX2_removePrize 21 = .ok (.getfield 199, 3) := dk_180 0 199 (dk_at dksX2_removePrize_0 21 rfl rfl)
theorem dX2_removePrize_24 : decode cX2_removePrize 24 = .ok (.goto 5, 3) := dk_167 0 5 (dk_at dksX2_removePrize_1 0 rfl rfl)
theorem dX2_removePrize_27 : decode cX2_removePrize 27 = .ok (.ldc 159, 2) := dk_18 159 (dk_at dksX2_removePrize_1 3 rfl rfl)
theorem dX2_removePrize_29 : decode cX2_removePrize 29 = .ok (.ireturn, 1) := dk_172 (dk_at dksX2_removePrize_1 5 rfl rfl)
abbrev cX2_isPrize : ByteArray := prog_5_method_4_code
def yX2_isPrize : MethodName := ⟨RX2, "isPrize", "(I)Z"⟩
def dkwX2_isPrize_0 : List UInt8 := [27, 3, 42, 180, 0, 35, 185, 0, 85, 1, 0, 4, 100, 184, 0, 89, 172]
abbrev dktX2_isPrize_0 : List UInt8 := dkwX2_isPrize_0 ++ []
theorem dksX2_isPrize_0 : cX2_isPrize.data.toList.drop 0 = dktX2_isPrize_0 := by decide +kernel
theorem dX2_isPrize_0 : decode cX2_isPrize 0 = .ok (.iload_n 1, 1) := dk_27 (dk_at dksX2_isPrize_0 0 rfl rfl)
theorem dX2_isPrize_1 : decode cX2_isPrize 1 = .ok (.iconst 0, 1) := dk_3 (dk_at dksX2_isPrize_0 1 rfl rfl)
theorem dX2_isPrize_2 : decode cX2_isPrize 2 = .ok (.aload_n 0, 1) := dk_42 (dk_at dksX2_isPrize_0 2 rfl rfl)
theorem dX2_isPrize_3 : decode cX2_isPrize 3 = .ok (.getfield 35, 3) := dk_180 0 35 (dk_at dksX2_isPrize_0 3 rfl rfl)
theorem dX2_isPrize_6 : decode cX2_isPrize 6 = .ok (.invokeinterface 85 1, 5) := by decide +kernel
theorem dX2_isPrize_11 : decode cX2_isPrize 11 = .ok (.iconst 1, 1) := dk_4 (dk_at dksX2_isPrize_0 11 rfl rfl)
theorem dX2_isPrize_12 : decode cX2_isPrize 12 = .ok (.isub, 1) := dk_100 (dk_at dksX2_isPrize_0 12 rfl rfl)
theorem dX2_isPrize_13 : decode cX2_isPrize 13 = .ok (.invokestatic 89, 3) := dk_184 0 89 (dk_at dksX2_isPrize_0 13 rfl rfl)
theorem dX2_isPrize_16 : decode cX2_isPrize 16 = .ok (.ireturn, 1) := dk_172 (dk_at dksX2_isPrize_0 16 rfl rfl)
abbrev cX2_setPrice : ByteArray := prog_5_method_26_code
def yX2_setPrice : MethodName := ⟨RX2, "setPrice", "(II)I"⟩
def dkwX2_setPrice_2 : List UInt8 := [185, 0, 175, 2, 0, 192, 0, 80, 28, 181, 0, 202, 29, 172]
abbrev dktX2_setPrice_2 : List UInt8 := dkwX2_setPrice_2 ++ []
def dkwX2_setPrice_1 : List UInt8 := [180, 0, 35, 27, 185, 0, 175, 2, 0, 192, 0, 80, 180, 0, 202, 62, 42, 180, 0, 35, 27]
abbrev dktX2_setPrice_1 : List UInt8 := dkwX2_setPrice_1 ++ dktX2_setPrice_2
def dkwX2_setPrice_0 : List UInt8 := [42, 27, 182, 0, 196, 153, 0, 14, 28, 4, 17, 19, 136, 184, 0, 89, 154, 0, 6, 18, 159, 172, 42]
abbrev dktX2_setPrice_0 : List UInt8 := dkwX2_setPrice_0 ++ dktX2_setPrice_1
theorem dksX2_setPrice_0 : cX2_setPrice.data.toList.drop 0 = dktX2_setPrice_0 := by decide +kernel
theorem dksX2_setPrice_1 : cX2_setPrice.data.toList.drop 23 = dktX2_setPrice_1 := dk_seg dksX2_setPrice_0 23 rfl rfl
theorem dksX2_setPrice_2 : cX2_setPrice.data.toList.drop 44 = dktX2_setPrice_2 := dk_seg dksX2_setPrice_1 21 rfl rfl
theorem dX2_setPrice_0 : decode cX2_setPrice 0 = .ok (.aload_n 0, 1) := dk_42 (dk_at dksX2_setPrice_0 0 rfl rfl)
theorem dX2_setPrice_1 : decode cX2_setPrice 1 = .ok (.iload_n 1, 1) := dk_27 (dk_at dksX2_setPrice_0 1 rfl rfl)
theorem dX2_setPrice_2 : decode cX2_setPrice 2 = .ok (.invokevirtual 196, 3) := dk_182 0 196 (dk_at dksX2_setPrice_0 2 rfl rfl)
theorem dX2_setPrice_5 : decode cX2_setPrice 5 = .ok (.ifCond .eq 14, 3) := dk_153 0 14 (dk_at dksX2_setPrice_0 5 rfl rfl)
theorem dX2_setPrice_8 : decode cX2_setPrice 8 = .ok (.iload_n 2, 1) := dk_28 (dk_at dksX2_setPrice_0 8 rfl rfl)
theorem dX2_setPrice_9 : decode cX2_setPrice 9 = .ok (.iconst 1, 1) := dk_4 (dk_at dksX2_setPrice_0 9 rfl rfl)
theorem dX2_setPrice_10 : decode cX2_setPrice 10 = .ok (.sipush 5000, 3) := dk_17 19 136 (dk_at dksX2_setPrice_0 10 rfl rfl)
theorem dX2_setPrice_13 : decode cX2_setPrice 13 = .ok (.invokestatic 89, 3) := dk_184 0 89 (dk_at dksX2_setPrice_0 13 rfl rfl)
theorem dX2_setPrice_16 : decode cX2_setPrice 16 = .ok (.ifCond .ne 6, 3) := dk_154 0 6 (dk_at dksX2_setPrice_0 16 rfl rfl)
theorem dX2_setPrice_19 : decode cX2_setPrice 19 = .ok (.ldc 159, 2) := dk_18 159 (dk_at dksX2_setPrice_0 19 rfl rfl)
theorem dX2_setPrice_21 : decode cX2_setPrice 21 = .ok (.ireturn, 1) := dk_172 (dk_at dksX2_setPrice_0 21 rfl rfl)
theorem dX2_setPrice_22 : decode cX2_setPrice 22 = .ok (.aload_n 0, 1) := dk_42 (dk_at dksX2_setPrice_0 22 rfl rfl)
theorem dX2_setPrice_23 : decode cX2_setPrice 23 = .ok (.getfield 35, 3) := dk_180 0 35 (dk_at dksX2_setPrice_1 0 rfl rfl)
theorem dX2_setPrice_26 : decode cX2_setPrice 26 = .ok (.iload_n 1, 1) := dk_27 (dk_at dksX2_setPrice_1 3 rfl rfl)
theorem dX2_setPrice_27 : decode cX2_setPrice 27 = .ok (.invokeinterface 175 2, 5) := by decide +kernel
theorem dX2_setPrice_32 : decode cX2_setPrice 32 = .ok (.checkcast 80, 3) := dk_192 0 80 (dk_at dksX2_setPrice_1 9 rfl rfl)
theorem dX2_setPrice_35 : decode cX2_setPrice 35 = .ok (.getfield 202, 3) := dk_180 0 202 (dk_at dksX2_setPrice_1 12 rfl rfl)
theorem dX2_setPrice_38 : decode cX2_setPrice 38 = .ok (.istore_n 3, 1) := dk_62 (dk_at dksX2_setPrice_1 15 rfl rfl)
theorem dX2_setPrice_39 : decode cX2_setPrice 39 = .ok (.aload_n 0, 1) := dk_42 (dk_at dksX2_setPrice_1 16 rfl rfl)
theorem dX2_setPrice_40 : decode cX2_setPrice 40 = .ok (.getfield 35, 3) := dk_180 0 35 (dk_at dksX2_setPrice_1 17 rfl rfl)
theorem dX2_setPrice_43 : decode cX2_setPrice 43 = .ok (.iload_n 1, 1) := dk_27 (dk_at dksX2_setPrice_1 20 rfl rfl)
theorem dX2_setPrice_44 : decode cX2_setPrice 44 = .ok (.invokeinterface 175 2, 5) := by decide +kernel
theorem dX2_setPrice_49 : decode cX2_setPrice 49 = .ok (.checkcast 80, 3) := dk_192 0 80 (dk_at dksX2_setPrice_2 5 rfl rfl)
theorem dX2_setPrice_52 : decode cX2_setPrice 52 = .ok (.iload_n 2, 1) := dk_28 (dk_at dksX2_setPrice_2 8 rfl rfl)
theorem dX2_setPrice_53 : decode cX2_setPrice 53 = .ok (.putfield 202, 3) := dk_181 0 202 (dk_at dksX2_setPrice_2 9 rfl rfl)
theorem dX2_setPrice_56 : decode cX2_setPrice 56 = .ok (.iload_n 3, 1) := dk_29 (dk_at dksX2_setPrice_2 12 rfl rfl)
theorem dX2_setPrice_57 : decode cX2_setPrice 57 = .ok (.ireturn, 1) := dk_172 (dk_at dksX2_setPrice_2 13 rfl rfl)
abbrev cX2_buy : ByteArray := prog_5_method_27_code
def yX2_buy : MethodName := ⟨RX2, "buy", "(III)I"⟩
def dkwX2_buy_5 : List UInt8 := [25, 4, 29, 182, 0, 205, 42, 180, 0, 31, 27, 185, 0, 175, 2, 0, 192, 0, 70, 180, 0, 93, 172]
abbrev dktX2_buy_5 : List UInt8 := dkwX2_buy_5 ++ []
def dkwX2_buy_4 : List UInt8 := [185, 0, 175, 2, 0, 192, 0, 70, 89, 180, 0, 93, 29, 25, 4, 180, 0, 202, 104, 100, 181, 0, 93]
abbrev dktX2_buy_4 : List UInt8 := dkwX2_buy_4 ++ dktX2_buy_5
def dkwX2_buy_3 : List UInt8 := [162, 0, 6, 18, 185, 172, 25, 4, 180, 0, 199, 29, 162, 0, 6, 18, 163, 172, 42, 180, 0, 31, 27]
abbrev dktX2_buy_3 : List UInt8 := dkwX2_buy_3 ++ dktX2_buy_4
def dkwX2_buy_2 : List UInt8 := [180, 0, 31, 27, 185, 0, 175, 2, 0, 192, 0, 70, 180, 0, 93, 29, 25, 4, 180, 0, 202, 104]
abbrev dktX2_buy_2 : List UInt8 := dkwX2_buy_2 ++ dktX2_buy_3
def dkwX2_buy_1 : List UInt8 := [154, 0, 6, 18, 159, 172, 42, 180, 0, 35, 28, 185, 0, 175, 2, 0, 192, 0, 80, 58, 4, 42]
abbrev dktX2_buy_1 : List UInt8 := dkwX2_buy_1 ++ dktX2_buy_2
def dkwX2_buy_0 : List UInt8 := [42, 27, 182, 0, 167, 153, 0, 21, 42, 28, 182, 0, 196, 153, 0, 13, 29, 4, 16, 99, 184, 0, 89]
abbrev dktX2_buy_0 : List UInt8 := dkwX2_buy_0 ++ dktX2_buy_1
theorem dksX2_buy_0 : cX2_buy.data.toList.drop 0 = dktX2_buy_0 := by decide +kernel
theorem dksX2_buy_1 : cX2_buy.data.toList.drop 23 = dktX2_buy_1 := dk_seg dksX2_buy_0 23 rfl rfl
theorem dksX2_buy_2 : cX2_buy.data.toList.drop 45 = dktX2_buy_2 := dk_seg dksX2_buy_1 22 rfl rfl
theorem dksX2_buy_3 : cX2_buy.data.toList.drop 67 = dktX2_buy_3 := dk_seg dksX2_buy_2 22 rfl rfl
theorem dksX2_buy_4 : cX2_buy.data.toList.drop 90 = dktX2_buy_4 := dk_seg dksX2_buy_3 23 rfl rfl
theorem dksX2_buy_5 : cX2_buy.data.toList.drop 113 = dktX2_buy_5 := dk_seg dksX2_buy_4 23 rfl rfl
theorem dX2_buy_0 : decode cX2_buy 0 = .ok (.aload_n 0, 1) := dk_42 (dk_at dksX2_buy_0 0 rfl rfl)
theorem dX2_buy_1 : decode cX2_buy 1 = .ok (.iload_n 1, 1) := dk_27 (dk_at dksX2_buy_0 1 rfl rfl)
theorem dX2_buy_2 : decode cX2_buy 2 = .ok (.invokevirtual 167, 3) := dk_182 0 167 (dk_at dksX2_buy_0 2 rfl rfl)
theorem dX2_buy_5 : decode cX2_buy 5 = .ok (.ifCond .eq 21, 3) := dk_153 0 21 (dk_at dksX2_buy_0 5 rfl rfl)
theorem dX2_buy_8 : decode cX2_buy 8 = .ok (.aload_n 0, 1) := dk_42 (dk_at dksX2_buy_0 8 rfl rfl)
theorem dX2_buy_9 : decode cX2_buy 9 = .ok (.iload_n 2, 1) := dk_28 (dk_at dksX2_buy_0 9 rfl rfl)
theorem dX2_buy_10 : decode cX2_buy 10 = .ok (.invokevirtual 196, 3) := dk_182 0 196 (dk_at dksX2_buy_0 10 rfl rfl)
theorem dX2_buy_13 : decode cX2_buy 13 = .ok (.ifCond .eq 13, 3) := dk_153 0 13 (dk_at dksX2_buy_0 13 rfl rfl)
theorem dX2_buy_16 : decode cX2_buy 16 = .ok (.iload_n 3, 1) := dk_29 (dk_at dksX2_buy_0 16 rfl rfl)
theorem dX2_buy_17 : decode cX2_buy 17 = .ok (.iconst 1, 1) := dk_4 (dk_at dksX2_buy_0 17 rfl rfl)
theorem dX2_buy_18 : decode cX2_buy 18 = .ok (.bipush 99, 2) := dk_16 99 (dk_at dksX2_buy_0 18 rfl rfl)
theorem dX2_buy_20 : decode cX2_buy 20 = .ok (.invokestatic 89, 3) := dk_184 0 89 (dk_at dksX2_buy_0 20 rfl rfl)
theorem dX2_buy_23 : decode cX2_buy 23 = .ok (.ifCond .ne 6, 3) := dk_154 0 6 (dk_at dksX2_buy_1 0 rfl rfl)
theorem dX2_buy_26 : decode cX2_buy 26 = .ok (.ldc 159, 2) := dk_18 159 (dk_at dksX2_buy_1 3 rfl rfl)
theorem dX2_buy_28 : decode cX2_buy 28 = .ok (.ireturn, 1) := dk_172 (dk_at dksX2_buy_1 5 rfl rfl)
theorem dX2_buy_29 : decode cX2_buy 29 = .ok (.aload_n 0, 1) := dk_42 (dk_at dksX2_buy_1 6 rfl rfl)
theorem dX2_buy_30 : decode cX2_buy 30 = .ok (.getfield 35, 3) := dk_180 0 35 (dk_at dksX2_buy_1 7 rfl rfl)
theorem dX2_buy_33 : decode cX2_buy 33 = .ok (.iload_n 2, 1) := dk_28 (dk_at dksX2_buy_1 10 rfl rfl)
theorem dX2_buy_34 : decode cX2_buy 34 = .ok (.invokeinterface 175 2, 5) := by decide +kernel
theorem dX2_buy_39 : decode cX2_buy 39 = .ok (.checkcast 80, 3) := dk_192 0 80 (dk_at dksX2_buy_1 16 rfl rfl)
theorem dX2_buy_42 : decode cX2_buy 42 = .ok (.astore 4, 2) := dk_58 4 (dk_at dksX2_buy_1 19 rfl rfl)
theorem dX2_buy_44 : decode cX2_buy 44 = .ok (.aload_n 0, 1) := dk_42 (dk_at dksX2_buy_1 21 rfl rfl)
theorem dX2_buy_45 : decode cX2_buy 45 = .ok (.getfield 31, 3) := dk_180 0 31 (dk_at dksX2_buy_2 0 rfl rfl)
theorem dX2_buy_48 : decode cX2_buy 48 = .ok (.iload_n 1, 1) := dk_27 (dk_at dksX2_buy_2 3 rfl rfl)
theorem dX2_buy_49 : decode cX2_buy 49 = .ok (.invokeinterface 175 2, 5) := by decide +kernel
theorem dX2_buy_54 : decode cX2_buy 54 = .ok (.checkcast 70, 3) := dk_192 0 70 (dk_at dksX2_buy_2 9 rfl rfl)
theorem dX2_buy_57 : decode cX2_buy 57 = .ok (.getfield 93, 3) := dk_180 0 93 (dk_at dksX2_buy_2 12 rfl rfl)
theorem dX2_buy_60 : decode cX2_buy 60 = .ok (.iload_n 3, 1) := dk_29 (dk_at dksX2_buy_2 15 rfl rfl)
theorem dX2_buy_61 : decode cX2_buy 61 = .ok (.aload 4, 2) := dk_25 4 (dk_at dksX2_buy_2 16 rfl rfl)
theorem dX2_buy_63 : decode cX2_buy 63 = .ok (.getfield 202, 3) := dk_180 0 202 (dk_at dksX2_buy_2 18 rfl rfl)
theorem dX2_buy_66 : decode cX2_buy 66 = .ok (.imul, 1) := dk_104 (dk_at dksX2_buy_2 21 rfl rfl)
theorem dX2_buy_67 : decode cX2_buy 67 = .ok (.if_icmp .ge 6, 3) := dk_162 0 6 (dk_at dksX2_buy_3 0 rfl rfl)
theorem dX2_buy_70 : decode cX2_buy 70 = .ok (.ldc 185, 2) := dk_18 185 (dk_at dksX2_buy_3 3 rfl rfl)
theorem dX2_buy_72 : decode cX2_buy 72 = .ok (.ireturn, 1) := dk_172 (dk_at dksX2_buy_3 5 rfl rfl)
theorem dX2_buy_73 : decode cX2_buy 73 = .ok (.aload 4, 2) := dk_25 4 (dk_at dksX2_buy_3 6 rfl rfl)
theorem dX2_buy_75 : decode cX2_buy 75 = .ok (.getfield 199, 3) := dk_180 0 199 (dk_at dksX2_buy_3 8 rfl rfl)
theorem dX2_buy_78 : decode cX2_buy 78 = .ok (.iload_n 3, 1) := dk_29 (dk_at dksX2_buy_3 11 rfl rfl)
theorem dX2_buy_79 : decode cX2_buy 79 = .ok (.if_icmp .ge 6, 3) := dk_162 0 6 (dk_at dksX2_buy_3 12 rfl rfl)
theorem dX2_buy_82 : decode cX2_buy 82 = .ok (.ldc 163, 2) := dk_18 163 (dk_at dksX2_buy_3 15 rfl rfl)
theorem dX2_buy_84 : decode cX2_buy 84 = .ok (.ireturn, 1) := dk_172 (dk_at dksX2_buy_3 17 rfl rfl)
theorem dX2_buy_85 : decode cX2_buy 85 = .ok (.aload_n 0, 1) := dk_42 (dk_at dksX2_buy_3 18 rfl rfl)
theorem dX2_buy_86 : decode cX2_buy 86 = .ok (.getfield 31, 3) := dk_180 0 31 (dk_at dksX2_buy_3 19 rfl rfl)
theorem dX2_buy_89 : decode cX2_buy 89 = .ok (.iload_n 1, 1) := dk_27 (dk_at dksX2_buy_3 22 rfl rfl)
theorem dX2_buy_90 : decode cX2_buy 90 = .ok (.invokeinterface 175 2, 5) := by decide +kernel
theorem dX2_buy_95 : decode cX2_buy 95 = .ok (.checkcast 70, 3) := dk_192 0 70 (dk_at dksX2_buy_4 5 rfl rfl)
theorem dX2_buy_98 : decode cX2_buy 98 = .ok (.dup, 1) := dk_89 (dk_at dksX2_buy_4 8 rfl rfl)
theorem dX2_buy_99 : decode cX2_buy 99 = .ok (.getfield 93, 3) := dk_180 0 93 (dk_at dksX2_buy_4 9 rfl rfl)
theorem dX2_buy_102 : decode cX2_buy 102 = .ok (.iload_n 3, 1) := dk_29 (dk_at dksX2_buy_4 12 rfl rfl)
theorem dX2_buy_103 : decode cX2_buy 103 = .ok (.aload 4, 2) := dk_25 4 (dk_at dksX2_buy_4 13 rfl rfl)
theorem dX2_buy_105 : decode cX2_buy 105 = .ok (.getfield 202, 3) := dk_180 0 202 (dk_at dksX2_buy_4 15 rfl rfl)
theorem dX2_buy_108 : decode cX2_buy 108 = .ok (.imul, 1) := dk_104 (dk_at dksX2_buy_4 18 rfl rfl)
theorem dX2_buy_109 : decode cX2_buy 109 = .ok (.isub, 1) := dk_100 (dk_at dksX2_buy_4 19 rfl rfl)
theorem dX2_buy_110 : decode cX2_buy 110 = .ok (.putfield 93, 3) := dk_181 0 93 (dk_at dksX2_buy_4 20 rfl rfl)
theorem dX2_buy_113 : decode cX2_buy 113 = .ok (.aload 4, 2) := dk_25 4 (dk_at dksX2_buy_5 0 rfl rfl)
theorem dX2_buy_115 : decode cX2_buy 115 = .ok (.iload_n 3, 1) := dk_29 (dk_at dksX2_buy_5 2 rfl rfl)
theorem dX2_buy_116 : decode cX2_buy 116 = .ok (.invokevirtual 205, 3) := dk_182 0 205 (dk_at dksX2_buy_5 3 rfl rfl)
theorem dX2_buy_119 : decode cX2_buy 119 = .ok (.aload_n 0, 1) := dk_42 (dk_at dksX2_buy_5 6 rfl rfl)
theorem dX2_buy_120 : decode cX2_buy 120 = .ok (.getfield 31, 3) := dk_180 0 31 (dk_at dksX2_buy_5 7 rfl rfl)
theorem dX2_buy_123 : decode cX2_buy 123 = .ok (.iload_n 1, 1) := dk_27 (dk_at dksX2_buy_5 10 rfl rfl)
theorem dX2_buy_124 : decode cX2_buy 124 = .ok (.invokeinterface 175 2, 5) := by decide +kernel
theorem dX2_buy_129 : decode cX2_buy 129 = .ok (.checkcast 70, 3) := dk_192 0 70 (dk_at dksX2_buy_5 16 rfl rfl)
theorem dX2_buy_132 : decode cX2_buy 132 = .ok (.getfield 93, 3) := dk_180 0 93 (dk_at dksX2_buy_5 19 rfl rfl)
theorem dX2_buy_135 : decode cX2_buy 135 = .ok (.ireturn, 1) := dk_172 (dk_at dksX2_buy_5 22 rfl rfl)
abbrev cX2_points : ByteArray := prog_5_method_5_code
def yX2_points : MethodName := ⟨RX2, "points", "()I"⟩
def dkwX2_points_1 : List UInt8 := [185, 0, 66, 1, 0, 192, 0, 70, 78, 27, 45, 180, 0, 93, 96, 60, 167, 255, 230, 27, 172]
abbrev dktX2_points_1 : List UInt8 := dkwX2_points_1 ++ []
def dkwX2_points_0 : List UInt8 := [3, 60, 42, 180, 0, 31, 185, 0, 54, 1, 0, 77, 44, 185, 0, 60, 1, 0, 153, 0, 23, 44]
abbrev dktX2_points_0 : List UInt8 := dkwX2_points_0 ++ dktX2_points_1
theorem dksX2_points_0 : cX2_points.data.toList.drop 0 = dktX2_points_0 := by decide +kernel
theorem dksX2_points_1 : cX2_points.data.toList.drop 22 = dktX2_points_1 := dk_seg dksX2_points_0 22 rfl rfl
theorem dX2_points_0 : decode cX2_points 0 = .ok (.iconst 0, 1) := dk_3 (dk_at dksX2_points_0 0 rfl rfl)
theorem dX2_points_1 : decode cX2_points 1 = .ok (.istore_n 1, 1) := dk_60 (dk_at dksX2_points_0 1 rfl rfl)
theorem dX2_points_2 : decode cX2_points 2 = .ok (.aload_n 0, 1) := dk_42 (dk_at dksX2_points_0 2 rfl rfl)
theorem dX2_points_3 : decode cX2_points 3 = .ok (.getfield 31, 3) := dk_180 0 31 (dk_at dksX2_points_0 3 rfl rfl)
theorem dX2_points_6 : decode cX2_points 6 = .ok (.invokeinterface 54 1, 5) := by decide +kernel
theorem dX2_points_11 : decode cX2_points 11 = .ok (.astore_n 2, 1) := dk_77 (dk_at dksX2_points_0 11 rfl rfl)
theorem dX2_points_12 : decode cX2_points 12 = .ok (.aload_n 2, 1) := dk_44 (dk_at dksX2_points_0 12 rfl rfl)
theorem dX2_points_13 : decode cX2_points 13 = .ok (.invokeinterface 60 1, 5) := by decide +kernel
theorem dX2_points_18 : decode cX2_points 18 = .ok (.ifCond .eq 23, 3) := dk_153 0 23 (dk_at dksX2_points_0 18 rfl rfl)
theorem dX2_points_21 : decode cX2_points 21 = .ok (.aload_n 2, 1) := dk_44 (dk_at dksX2_points_0 21 rfl rfl)
theorem dX2_points_22 : decode cX2_points 22 = .ok (.invokeinterface 66 1, 5) := by decide +kernel
theorem dX2_points_27 : decode cX2_points 27 = .ok (.checkcast 70, 3) := dk_192 0 70 (dk_at dksX2_points_1 5 rfl rfl)
theorem dX2_points_30 : decode cX2_points 30 = .ok (.astore_n 3, 1) := dk_78 (dk_at dksX2_points_1 8 rfl rfl)
theorem dX2_points_31 : decode cX2_points 31 = .ok (.iload_n 1, 1) := dk_27 (dk_at dksX2_points_1 9 rfl rfl)
theorem dX2_points_32 : decode cX2_points 32 = .ok (.aload_n 3, 1) := dk_45 (dk_at dksX2_points_1 10 rfl rfl)
theorem dX2_points_33 : decode cX2_points 33 = .ok (.getfield 93, 3) := dk_180 0 93 (dk_at dksX2_points_1 11 rfl rfl)
theorem dX2_points_36 : decode cX2_points 36 = .ok (.iadd, 1) := dk_96 (dk_at dksX2_points_1 14 rfl rfl)
theorem dX2_points_37 : decode cX2_points 37 = .ok (.istore_n 1, 1) := dk_60 (dk_at dksX2_points_1 15 rfl rfl)
theorem dX2_points_38 : decode cX2_points 38 = .ok (.goto (-26), 3) := dk_167 255 230 (dk_at dksX2_points_1 16 rfl rfl)
theorem dX2_points_41 : decode cX2_points 41 = .ok (.iload_n 1, 1) := dk_27 (dk_at dksX2_points_1 19 rfl rfl)
theorem dX2_points_42 : decode cX2_points 42 = .ok (.ireturn, 1) := dk_172 (dk_at dksX2_points_1 20 rfl rfl)
abbrev cX2_apartUpTo : ByteArray := prog_5_method_12_code
def yX2_apartUpTo : MethodName := ⟨RX2, "apartUpTo", "(III)I"⟩
def dkwX2_apartUpTo_2 : List UInt8 := [162, 0, 9, 132, 4, 1, 167, 255, 206, 21, 4, 172]
abbrev dktX2_apartUpTo_2 : List UInt8 := dkwX2_apartUpTo_2 ++ []
def dkwX2_apartUpTo_1 : List UInt8 := [182, 0, 105, 42, 21, 4, 4, 96, 42, 27, 182, 0, 120, 104, 42, 180, 0, 22, 100, 28, 182, 0, 105]
abbrev dktX2_apartUpTo_1 : List UInt8 := dkwX2_apartUpTo_1 ++ dktX2_apartUpTo_2
def dkwX2_apartUpTo_0 : List UInt8 := [3, 54, 4, 21, 4, 29, 162, 0, 50, 42, 21, 4, 42, 27, 182, 0, 116, 104, 42, 180, 0, 22, 96, 28]
abbrev dktX2_apartUpTo_0 : List UInt8 := dkwX2_apartUpTo_0 ++ dktX2_apartUpTo_1
theorem dksX2_apartUpTo_0 : cX2_apartUpTo.data.toList.drop 0 = dktX2_apartUpTo_0 := by decide +kernel
theorem dksX2_apartUpTo_1 : cX2_apartUpTo.data.toList.drop 24 = dktX2_apartUpTo_1 := dk_seg dksX2_apartUpTo_0 24 rfl rfl
theorem dksX2_apartUpTo_2 : cX2_apartUpTo.data.toList.drop 47 = dktX2_apartUpTo_2 := dk_seg dksX2_apartUpTo_1 23 rfl rfl
theorem dX2_apartUpTo_0 : decode cX2_apartUpTo 0 = .ok (.iconst 0, 1) := dk_3 (dk_at dksX2_apartUpTo_0 0 rfl rfl)
theorem dX2_apartUpTo_1 : decode cX2_apartUpTo 1 = .ok (.istore 4, 2) := dk_54 4 (dk_at dksX2_apartUpTo_0 1 rfl rfl)
theorem dX2_apartUpTo_3 : decode cX2_apartUpTo 3 = .ok (.iload 4, 2) := dk_21 4 (dk_at dksX2_apartUpTo_0 3 rfl rfl)
theorem dX2_apartUpTo_5 : decode cX2_apartUpTo 5 = .ok (.iload_n 3, 1) := dk_29 (dk_at dksX2_apartUpTo_0 5 rfl rfl)
theorem dX2_apartUpTo_6 : decode cX2_apartUpTo 6 = .ok (.if_icmp .ge 50, 3) := dk_162 0 50 (dk_at dksX2_apartUpTo_0 6 rfl rfl)
theorem dX2_apartUpTo_9 : decode cX2_apartUpTo 9 = .ok (.aload_n 0, 1) := dk_42 (dk_at dksX2_apartUpTo_0 9 rfl rfl)
theorem dX2_apartUpTo_10 : decode cX2_apartUpTo 10 = .ok (.iload 4, 2) := dk_21 4 (dk_at dksX2_apartUpTo_0 10 rfl rfl)
theorem dX2_apartUpTo_12 : decode cX2_apartUpTo 12 = .ok (.aload_n 0, 1) := dk_42 (dk_at dksX2_apartUpTo_0 12 rfl rfl)
theorem dX2_apartUpTo_13 : decode cX2_apartUpTo 13 = .ok (.iload_n 1, 1) := dk_27 (dk_at dksX2_apartUpTo_0 13 rfl rfl)
theorem dX2_apartUpTo_14 : decode cX2_apartUpTo 14 = .ok (.invokevirtual 116, 3) := dk_182 0 116 (dk_at dksX2_apartUpTo_0 14 rfl rfl)
theorem dX2_apartUpTo_17 : decode cX2_apartUpTo 17 = .ok (.imul, 1) := dk_104 (dk_at dksX2_apartUpTo_0 17 rfl rfl)
theorem dX2_apartUpTo_18 : decode cX2_apartUpTo 18 = .ok (.aload_n 0, 1) := dk_42 (dk_at dksX2_apartUpTo_0 18 rfl rfl)
theorem dX2_apartUpTo_19 : decode cX2_apartUpTo 19 = .ok (.getfield 22, 3) := dk_180 0 22 (dk_at dksX2_apartUpTo_0 19 rfl rfl)
theorem dX2_apartUpTo_22 : decode cX2_apartUpTo 22 = .ok (.iadd, 1) := dk_96 (dk_at dksX2_apartUpTo_0 22 rfl rfl)
theorem dX2_apartUpTo_23 : decode cX2_apartUpTo 23 = .ok (.iload_n 2, 1) := dk_28 (dk_at dksX2_apartUpTo_0 23 rfl rfl)
theorem dX2_apartUpTo_24 : decode cX2_apartUpTo 24 = .ok (.invokevirtual 105, 3) := dk_182 0 105 (dk_at dksX2_apartUpTo_1 0 rfl rfl)
theorem dX2_apartUpTo_27 : decode cX2_apartUpTo 27 = .ok (.aload_n 0, 1) := dk_42 (dk_at dksX2_apartUpTo_1 3 rfl rfl)
theorem dX2_apartUpTo_28 : decode cX2_apartUpTo 28 = .ok (.iload 4, 2) := dk_21 4 (dk_at dksX2_apartUpTo_1 4 rfl rfl)
theorem dX2_apartUpTo_30 : decode cX2_apartUpTo 30 = .ok (.iconst 1, 1) := dk_4 (dk_at dksX2_apartUpTo_1 6 rfl rfl)
theorem dX2_apartUpTo_31 : decode cX2_apartUpTo 31 = .ok (.iadd, 1) := dk_96 (dk_at dksX2_apartUpTo_1 7 rfl rfl)
theorem dX2_apartUpTo_32 : decode cX2_apartUpTo 32 = .ok (.aload_n 0, 1) := dk_42 (dk_at dksX2_apartUpTo_1 8 rfl rfl)
theorem dX2_apartUpTo_33 : decode cX2_apartUpTo 33 = .ok (.iload_n 1, 1) := dk_27 (dk_at dksX2_apartUpTo_1 9 rfl rfl)
theorem dX2_apartUpTo_34 : decode cX2_apartUpTo 34 = .ok (.invokevirtual 120, 3) := dk_182 0 120 (dk_at dksX2_apartUpTo_1 10 rfl rfl)
theorem dX2_apartUpTo_37 : decode cX2_apartUpTo 37 = .ok (.imul, 1) := dk_104 (dk_at dksX2_apartUpTo_1 13 rfl rfl)
theorem dX2_apartUpTo_38 : decode cX2_apartUpTo 38 = .ok (.aload_n 0, 1) := dk_42 (dk_at dksX2_apartUpTo_1 14 rfl rfl)
theorem dX2_apartUpTo_39 : decode cX2_apartUpTo 39 = .ok (.getfield 22, 3) := dk_180 0 22 (dk_at dksX2_apartUpTo_1 15 rfl rfl)
theorem dX2_apartUpTo_42 : decode cX2_apartUpTo 42 = .ok (.isub, 1) := dk_100 (dk_at dksX2_apartUpTo_1 18 rfl rfl)
theorem dX2_apartUpTo_43 : decode cX2_apartUpTo 43 = .ok (.iload_n 2, 1) := dk_28 (dk_at dksX2_apartUpTo_1 19 rfl rfl)
theorem dX2_apartUpTo_44 : decode cX2_apartUpTo 44 = .ok (.invokevirtual 105, 3) := dk_182 0 105 (dk_at dksX2_apartUpTo_1 20 rfl rfl)
theorem dX2_apartUpTo_47 : decode cX2_apartUpTo 47 = .ok (.if_icmp .ge 9, 3) := dk_162 0 9 (dk_at dksX2_apartUpTo_2 0 rfl rfl)
theorem dX2_apartUpTo_50 : decode cX2_apartUpTo 50 = .ok (.iinc 4 1, 3) := dk_132 4 1 (dk_at dksX2_apartUpTo_2 3 rfl rfl)
theorem dX2_apartUpTo_53 : decode cX2_apartUpTo 53 = .ok (.goto (-50), 3) := dk_167 255 206 (dk_at dksX2_apartUpTo_2 6 rfl rfl)
theorem dX2_apartUpTo_56 : decode cX2_apartUpTo 56 = .ok (.iload 4, 2) := dk_21 4 (dk_at dksX2_apartUpTo_2 9 rfl rfl)
theorem dX2_apartUpTo_58 : decode cX2_apartUpTo 58 = .ok (.ireturn, 1) := dk_172 (dk_at dksX2_apartUpTo_2 11 rfl rfl)
abbrev cX2_isMixed : ByteArray := prog_5_method_13_code
def yX2_isMixed : MethodName := ⟨RX2, "isMixed", "(III)Z"⟩
def dkwX2_isMixed_1 : List UInt8 := [28, 96, 42, 180, 0, 22, 96, 182, 0, 137, 184, 0, 89, 153, 0, 7, 4, 167, 0, 4, 3, 172]
abbrev dktX2_isMixed_1 : List UInt8 := dkwX2_isMixed_1 ++ []
def dkwX2_isMixed_0 : List UInt8 := [29, 42, 180, 0, 18, 112, 154, 0, 38, 29, 42, 27, 28, 100, 42, 180, 0, 22, 100, 182, 0, 137, 42, 27]
abbrev dktX2_isMixed_0 : List UInt8 := dkwX2_isMixed_0 ++ dktX2_isMixed_1
theorem dksX2_isMixed_0 : cX2_isMixed.data.toList.drop 0 = dktX2_isMixed_0 := by decide +kernel
theorem dksX2_isMixed_1 : cX2_isMixed.data.toList.drop 24 = dktX2_isMixed_1 := dk_seg dksX2_isMixed_0 24 rfl rfl
theorem dX2_isMixed_0 : decode cX2_isMixed 0 = .ok (.iload_n 3, 1) := dk_29 (dk_at dksX2_isMixed_0 0 rfl rfl)
theorem dX2_isMixed_1 : decode cX2_isMixed 1 = .ok (.aload_n 0, 1) := dk_42 (dk_at dksX2_isMixed_0 1 rfl rfl)
theorem dX2_isMixed_2 : decode cX2_isMixed 2 = .ok (.getfield 18, 3) := dk_180 0 18 (dk_at dksX2_isMixed_0 2 rfl rfl)
theorem dX2_isMixed_5 : decode cX2_isMixed 5 = .ok (.irem, 1) := dk_112 (dk_at dksX2_isMixed_0 5 rfl rfl)
theorem dX2_isMixed_6 : decode cX2_isMixed 6 = .ok (.ifCond .ne 38, 3) := dk_154 0 38 (dk_at dksX2_isMixed_0 6 rfl rfl)
theorem dX2_isMixed_9 : decode cX2_isMixed 9 = .ok (.iload_n 3, 1) := dk_29 (dk_at dksX2_isMixed_0 9 rfl rfl)
theorem dX2_isMixed_10 : decode cX2_isMixed 10 = .ok (.aload_n 0, 1) := dk_42 (dk_at dksX2_isMixed_0 10 rfl rfl)
theorem dX2_isMixed_11 : decode cX2_isMixed 11 = .ok (.iload_n 1, 1) := dk_27 (dk_at dksX2_isMixed_0 11 rfl rfl)
theorem dX2_isMixed_12 : decode cX2_isMixed 12 = .ok (.iload_n 2, 1) := dk_28 (dk_at dksX2_isMixed_0 12 rfl rfl)
theorem dX2_isMixed_13 : decode cX2_isMixed 13 = .ok (.isub, 1) := dk_100 (dk_at dksX2_isMixed_0 13 rfl rfl)
theorem dX2_isMixed_14 : decode cX2_isMixed 14 = .ok (.aload_n 0, 1) := dk_42 (dk_at dksX2_isMixed_0 14 rfl rfl)
theorem dX2_isMixed_15 : decode cX2_isMixed 15 = .ok (.getfield 22, 3) := dk_180 0 22 (dk_at dksX2_isMixed_0 15 rfl rfl)
theorem dX2_isMixed_18 : decode cX2_isMixed 18 = .ok (.isub, 1) := dk_100 (dk_at dksX2_isMixed_0 18 rfl rfl)
theorem dX2_isMixed_19 : decode cX2_isMixed 19 = .ok (.invokevirtual 137, 3) := dk_182 0 137 (dk_at dksX2_isMixed_0 19 rfl rfl)
theorem dX2_isMixed_22 : decode cX2_isMixed 22 = .ok (.aload_n 0, 1) := dk_42 (dk_at dksX2_isMixed_0 22 rfl rfl)
theorem dX2_isMixed_23 : decode cX2_isMixed 23 = .ok (.iload_n 1, 1) := dk_27 (dk_at dksX2_isMixed_0 23 rfl rfl)
theorem dX2_isMixed_24 : decode cX2_isMixed 24 = .ok (.iload_n 2, 1) := dk_28 (dk_at dksX2_isMixed_1 0 rfl rfl)
theorem dX2_isMixed_25 : decode cX2_isMixed 25 = .ok (.iadd, 1) := dk_96 (dk_at dksX2_isMixed_1 1 rfl rfl)
theorem dX2_isMixed_26 : decode cX2_isMixed 26 = .ok (.aload_n 0, 1) := dk_42 (dk_at dksX2_isMixed_1 2 rfl rfl)
theorem dX2_isMixed_27 : decode cX2_isMixed 27 = .ok (.getfield 22, 3) := dk_180 0 22 (dk_at dksX2_isMixed_1 3 rfl rfl)
theorem dX2_isMixed_30 : decode cX2_isMixed 30 = .ok (.iadd, 1) := dk_96 (dk_at dksX2_isMixed_1 6 rfl rfl)
theorem dX2_isMixed_31 : decode cX2_isMixed 31 = .ok (.invokevirtual 137, 3) := dk_182 0 137 (dk_at dksX2_isMixed_1 7 rfl rfl)
theorem dX2_isMixed_34 : decode cX2_isMixed 34 = .ok (.invokestatic 89, 3) := dk_184 0 89 (dk_at dksX2_isMixed_1 10 rfl rfl)
theorem dX2_isMixed_37 : decode cX2_isMixed 37 = .ok (.ifCond .eq 7, 3) := dk_153 0 7 (dk_at dksX2_isMixed_1 13 rfl rfl)
theorem dX2_isMixed_40 : decode cX2_isMixed 40 = .ok (.iconst 1, 1) := dk_4 (dk_at dksX2_isMixed_1 16 rfl rfl)
theorem dX2_isMixed_41 : decode cX2_isMixed 41 = .ok (.goto 4, 3) := dk_167 0 4 (dk_at dksX2_isMixed_1 17 rfl rfl)
theorem dX2_isMixed_44 : decode cX2_isMixed 44 = .ok (.iconst 0, 1) := dk_3 (dk_at dksX2_isMixed_1 20 rfl rfl)
theorem dX2_isMixed_45 : decode cX2_isMixed 45 = .ok (.ireturn, 1) := dk_172 (dk_at dksX2_isMixed_1 21 rfl rfl)
abbrev cX2_would : ByteArray := prog_5_method_14_code
def yX2_would : MethodName := ⟨RX2, "would", "(I)I"⟩
def dkwX2_would_3 : List UInt8 := [18, 155, 172, 28, 21, 5, 25, 4, 180, 0, 139, 180, 0, 156, 100, 96, 61, 167, 255, 181, 28, 172]
abbrev dktX2_would_3 : List UInt8 := dkwX2_would_3 ++ []
def dkwX2_would_2 : List UInt8 := [180, 0, 143, 25, 4, 180, 0, 139, 180, 0, 148, 27, 182, 0, 151, 54, 5, 21, 5, 18, 155, 160, 0, 6]
abbrev dktX2_would_2 : List UInt8 := dkwX2_would_2 ++ dktX2_would_3
def dkwX2_would_1 : List UInt8 := [185, 0, 66, 1, 0, 192, 0, 70, 58, 4, 25, 4, 180, 0, 139, 198, 0, 50, 42, 25, 4, 180, 0, 139]
abbrev dktX2_would_1 : List UInt8 := dkwX2_would_1 ++ dktX2_would_2
def dkwX2_would_0 : List UInt8 := [3, 61, 42, 180, 0, 31, 185, 0, 54, 1, 0, 78, 45, 185, 0, 60, 1, 0, 153, 0, 72, 45]
abbrev dktX2_would_0 : List UInt8 := dkwX2_would_0 ++ dktX2_would_1
theorem dksX2_would_0 : cX2_would.data.toList.drop 0 = dktX2_would_0 := by decide +kernel
theorem dksX2_would_1 : cX2_would.data.toList.drop 22 = dktX2_would_1 := dk_seg dksX2_would_0 22 rfl rfl
theorem dksX2_would_2 : cX2_would.data.toList.drop 46 = dktX2_would_2 := dk_seg dksX2_would_1 24 rfl rfl
theorem dksX2_would_3 : cX2_would.data.toList.drop 70 = dktX2_would_3 := dk_seg dksX2_would_2 24 rfl rfl
theorem dX2_would_0 : decode cX2_would 0 = .ok (.iconst 0, 1) := dk_3 (dk_at dksX2_would_0 0 rfl rfl)
theorem dX2_would_1 : decode cX2_would 1 = .ok (.istore_n 2, 1) := dk_61 (dk_at dksX2_would_0 1 rfl rfl)
theorem dX2_would_2 : decode cX2_would 2 = .ok (.aload_n 0, 1) := dk_42 (dk_at dksX2_would_0 2 rfl rfl)
theorem dX2_would_3 : decode cX2_would 3 = .ok (.getfield 31, 3) := dk_180 0 31 (dk_at dksX2_would_0 3 rfl rfl)
theorem dX2_would_6 : decode cX2_would 6 = .ok (.invokeinterface 54 1, 5) := by decide +kernel
theorem dX2_would_11 : decode cX2_would 11 = .ok (.astore_n 3, 1) := dk_78 (dk_at dksX2_would_0 11 rfl rfl)
theorem dX2_would_12 : decode cX2_would 12 = .ok (.aload_n 3, 1) := dk_45 (dk_at dksX2_would_0 12 rfl rfl)
theorem dX2_would_13 : decode cX2_would 13 = .ok (.invokeinterface 60 1, 5) := by decide +kernel
theorem dX2_would_18 : decode cX2_would 18 = .ok (.ifCond .eq 72, 3) := dk_153 0 72 (dk_at dksX2_would_0 18 rfl rfl)
theorem dX2_would_21 : decode cX2_would 21 = .ok (.aload_n 3, 1) := dk_45 (dk_at dksX2_would_0 21 rfl rfl)
theorem dX2_would_22 : decode cX2_would 22 = .ok (.invokeinterface 66 1, 5) := by decide +kernel
theorem dX2_would_27 : decode cX2_would 27 = .ok (.checkcast 70, 3) := dk_192 0 70 (dk_at dksX2_would_1 5 rfl rfl)
theorem dX2_would_30 : decode cX2_would 30 = .ok (.astore 4, 2) := dk_58 4 (dk_at dksX2_would_1 8 rfl rfl)
theorem dX2_would_32 : decode cX2_would 32 = .ok (.aload 4, 2) := dk_25 4 (dk_at dksX2_would_1 10 rfl rfl)
theorem dX2_would_34 : decode cX2_would 34 = .ok (.getfield 139, 3) := dk_180 0 139 (dk_at dksX2_would_1 12 rfl rfl)
theorem dX2_would_37 : decode cX2_would 37 = .ok (.ifnull 50, 3) := dk_198 0 50 (dk_at dksX2_would_1 15 rfl rfl)
theorem dX2_would_40 : decode cX2_would 40 = .ok (.aload_n 0, 1) := dk_42 (dk_at dksX2_would_1 18 rfl rfl)
theorem dX2_would_41 : decode cX2_would 41 = .ok (.aload 4, 2) := dk_25 4 (dk_at dksX2_would_1 19 rfl rfl)
theorem dX2_would_43 : decode cX2_would 43 = .ok (.getfield 139, 3) := dk_180 0 139 (dk_at dksX2_would_1 21 rfl rfl)
theorem dX2_would_46 : decode cX2_would 46 = .ok (.getfield 143, 3) := dk_180 0 143 (dk_at dksX2_would_2 0 rfl rfl)
theorem dX2_would_49 : decode cX2_would 49 = .ok (.aload 4, 2) := dk_25 4 (dk_at dksX2_would_2 3 rfl rfl)
theorem dX2_would_51 : decode cX2_would 51 = .ok (.getfield 139, 3) := dk_180 0 139 (dk_at dksX2_would_2 5 rfl rfl)
theorem dX2_would_54 : decode cX2_would 54 = .ok (.getfield 148, 3) := dk_180 0 148 (dk_at dksX2_would_2 8 rfl rfl)
theorem dX2_would_57 : decode cX2_would 57 = .ok (.iload_n 1, 1) := dk_27 (dk_at dksX2_would_2 11 rfl rfl)
theorem dX2_would_58 : decode cX2_would 58 = .ok (.invokevirtual 151, 3) := dk_182 0 151 (dk_at dksX2_would_2 12 rfl rfl)
theorem dX2_would_61 : decode cX2_would 61 = .ok (.istore 5, 2) := dk_54 5 (dk_at dksX2_would_2 15 rfl rfl)
theorem dX2_would_63 : decode cX2_would 63 = .ok (.iload 5, 2) := dk_21 5 (dk_at dksX2_would_2 17 rfl rfl)
theorem dX2_would_65 : decode cX2_would 65 = .ok (.ldc 155, 2) := dk_18 155 (dk_at dksX2_would_2 19 rfl rfl)
theorem dX2_would_67 : decode cX2_would 67 = .ok (.if_icmp .ne 6, 3) := dk_160 0 6 (dk_at dksX2_would_2 21 rfl rfl)
theorem dX2_would_70 : decode cX2_would 70 = .ok (.ldc 155, 2) := dk_18 155 (dk_at dksX2_would_3 0 rfl rfl)
theorem dX2_would_72 : decode cX2_would 72 = .ok (.ireturn, 1) := dk_172 (dk_at dksX2_would_3 2 rfl rfl)
theorem dX2_would_73 : decode cX2_would 73 = .ok (.iload_n 2, 1) := dk_28 (dk_at dksX2_would_3 3 rfl rfl)
theorem dX2_would_74 : decode cX2_would 74 = .ok (.iload 5, 2) := dk_21 5 (dk_at dksX2_would_3 4 rfl rfl)
theorem dX2_would_76 : decode cX2_would 76 = .ok (.aload 4, 2) := dk_25 4 (dk_at dksX2_would_3 6 rfl rfl)
theorem dX2_would_78 : decode cX2_would 78 = .ok (.getfield 139, 3) := dk_180 0 139 (dk_at dksX2_would_3 8 rfl rfl)
theorem dX2_would_81 : decode cX2_would 81 = .ok (.getfield 156, 3) := dk_180 0 156 (dk_at dksX2_would_3 11 rfl rfl)
theorem dX2_would_84 : decode cX2_would 84 = .ok (.isub, 1) := dk_100 (dk_at dksX2_would_3 14 rfl rfl)
theorem dX2_would_85 : decode cX2_would 85 = .ok (.iadd, 1) := dk_96 (dk_at dksX2_would_3 15 rfl rfl)
theorem dX2_would_86 : decode cX2_would 86 = .ok (.istore_n 2, 1) := dk_61 (dk_at dksX2_would_3 16 rfl rfl)
theorem dX2_would_87 : decode cX2_would 87 = .ok (.goto (-75), 3) := dk_167 255 181 (dk_at dksX2_would_3 17 rfl rfl)
theorem dX2_would_90 : decode cX2_would 90 = .ok (.iload_n 2, 1) := dk_28 (dk_at dksX2_would_3 20 rfl rfl)
theorem dX2_would_91 : decode cX2_would 91 = .ok (.ireturn, 1) := dk_172 (dk_at dksX2_would_3 21 rfl rfl)
theorem q62 : (Jvm.Cond.initialized "TicketScales$Counter") ∈ lw_all := lw_g (lw_at lw_m1 3 rfl) rfl
theorem q103 : (Jvm.Cond.instantiable "TicketScales$Counter" (10 : Nat)) ∈ lw_all := lw_g (lw_at lw_m1 44 rfl) rfl
theorem q105 : (Jvm.Cond.instanceMethod ({ cls := "TicketScales$Counter", name := "<init>", desc := "()V" } : Jvm.MethodName)) ∈ lw_all := lw_g (lw_at lw_m1 46 rfl) rfl
theorem q106 : (Jvm.Cond.code ({ cls := "TicketScales$Counter", name := "<init>", desc := "()V" } : Jvm.MethodName) prog_5_method_1_code (1 : Nat) (Option.none : Option Jvm.ClassFile.FieldType)) ∈ lw_all := lw_g (lw_at lw_m1 47 rfl) rfl
theorem q107 : (Jvm.Cond.methodLink "TicketScales$Counter" (3 : Nat) ({ cls := "java/lang/Object", name := "<init>", desc := "()V" } : Jvm.MethodName)) ∈ lw_all := lw_g (lw_at lw_m1 48 rfl) rfl
theorem q108 : (Jvm.Cond.classLink "TicketScales$Counter" (28 : Nat) "java/util/ArrayList") ∈ lw_all := lw_g (lw_at lw_m1 49 rfl) rfl
theorem q110 : (Jvm.Cond.methodLink "TicketScales$Counter" (30 : Nat) ({ cls := "java/util/ArrayList", name := "<init>", desc := "()V" } : Jvm.MethodName)) ∈ lw_all := lw_g (lw_at lw_m1 51 rfl) rfl
theorem q138 : (Jvm.Cond.fieldLink "TicketScales$Counter" (9 : Nat) "TicketScales$Counter" "weights" "[I") ∈ lw_all := lw_g (lw_at lw_m1 79 rfl) rfl
theorem q140 : (Jvm.Cond.fieldLink "TicketScales$Counter" (15 : Nat) "TicketScales$Counter" "spreads" "[I") ∈ lw_all := lw_g (lw_at lw_m1 81 rfl) rfl
theorem q142 : (Jvm.Cond.fieldLink "TicketScales$Counter" (18 : Nat) "TicketScales$Counter" "step" "I") ∈ lw_all := lw_g (lw_at lw_m1 83 rfl) rfl
theorem q144 : (Jvm.Cond.fieldLink "TicketScales$Counter" (22 : Nat) "TicketScales$Counter" "limit" "I") ∈ lw_all := lw_g (lw_at lw_m1 85 rfl) rfl
theorem q146 : (Jvm.Cond.fieldLink "TicketScales$Counter" (45 : Nat) "TicketScales$Counter" "bias" "I") ∈ lw_all := lw_g (lw_at lw_m1 87 rfl) rfl
theorem q148 : (Jvm.Cond.fieldLink "TicketScales$Counter" (48 : Nat) "TicketScales$Counter" "rule" "I") ∈ lw_all := lw_g (lw_at lw_m1 89 rfl) rfl
theorem q150 : (Jvm.Cond.fieldLink "TicketScales$Counter" (25 : Nat) "TicketScales$Counter" "fee" "I") ∈ lw_all := lw_g (lw_at lw_m1 91 rfl) rfl
theorem q152 : (Jvm.Cond.fieldLink "TicketScales$Counter" (51 : Nat) "TicketScales$Counter" "gift" "I") ∈ lw_all := lw_g (lw_at lw_m1 93 rfl) rfl
theorem q154 : (Jvm.Cond.fieldLink "TicketScales$Counter" (31 : Nat) "TicketScales$Counter" "customers" "Ljava/util/List;") ∈ lw_all := lw_g (lw_at lw_m1 95 rfl) rfl
theorem q156 : (Jvm.Cond.fieldLink "TicketScales$Counter" (35 : Nat) "TicketScales$Counter" "prizes" "Ljava/util/List;") ∈ lw_all := lw_g (lw_at lw_m1 97 rfl) rfl
theorem q158 : (Jvm.Cond.laysFinal "TicketScales$Counter" "TicketScales$Counter" "weights" "[I") ∈ lw_all := lw_g (lw_at lw_m1 99 rfl) rfl
theorem q159 : (Jvm.Cond.soleField "TicketScales$Counter" "weights") ∈ lw_all := lw_g (lw_at lw_m1 100 rfl) rfl
theorem q160 : (Jvm.Cond.laysFinal "TicketScales$Counter" "TicketScales$Counter" "spreads" "[I") ∈ lw_all := lw_g (lw_at lw_m1 101 rfl) rfl
theorem q161 : (Jvm.Cond.soleField "TicketScales$Counter" "spreads") ∈ lw_all := lw_g (lw_at lw_m1 102 rfl) rfl
theorem q162 : (Jvm.Cond.lays "TicketScales$Counter" "TicketScales$Counter" "step" "I") ∈ lw_all := lw_g (lw_at lw_m1 103 rfl) rfl
theorem q163 : (Jvm.Cond.soleField "TicketScales$Counter" "step") ∈ lw_all := lw_g (lw_at lw_m1 104 rfl) rfl
theorem q164 : (Jvm.Cond.lays "TicketScales$Counter" "TicketScales$Counter" "limit" "I") ∈ lw_all := lw_g (lw_at lw_m1 105 rfl) rfl
theorem q165 : (Jvm.Cond.soleField "TicketScales$Counter" "limit") ∈ lw_all := lw_g (lw_at lw_m1 106 rfl) rfl
theorem q166 : (Jvm.Cond.lays "TicketScales$Counter" "TicketScales$Counter" "bias" "I") ∈ lw_all := lw_g (lw_at lw_m1 107 rfl) rfl
theorem q167 : (Jvm.Cond.soleField "TicketScales$Counter" "bias") ∈ lw_all := lw_g (lw_at lw_m1 108 rfl) rfl
theorem q168 : (Jvm.Cond.lays "TicketScales$Counter" "TicketScales$Counter" "rule" "I") ∈ lw_all := lw_g (lw_at lw_m1 109 rfl) rfl
theorem q169 : (Jvm.Cond.soleField "TicketScales$Counter" "rule") ∈ lw_all := lw_g (lw_at lw_m1 110 rfl) rfl
theorem q170 : (Jvm.Cond.lays "TicketScales$Counter" "TicketScales$Counter" "fee" "I") ∈ lw_all := lw_g (lw_at lw_m1 111 rfl) rfl
theorem q171 : (Jvm.Cond.soleField "TicketScales$Counter" "fee") ∈ lw_all := lw_g (lw_at lw_m1 112 rfl) rfl
theorem q172 : (Jvm.Cond.lays "TicketScales$Counter" "TicketScales$Counter" "gift" "I") ∈ lw_all := lw_g (lw_at lw_m1 113 rfl) rfl
theorem q173 : (Jvm.Cond.soleField "TicketScales$Counter" "gift") ∈ lw_all := lw_g (lw_at lw_m1 114 rfl) rfl
theorem q174 : (Jvm.Cond.laysFinal "TicketScales$Counter" "TicketScales$Counter" "customers" "Ljava/util/List;") ∈ lw_all := lw_g (lw_at lw_m1 115 rfl) rfl
theorem q175 : (Jvm.Cond.soleField "TicketScales$Counter" "customers") ∈ lw_all := lw_g (lw_at lw_m1 116 rfl) rfl
theorem q176 : (Jvm.Cond.laysFinal "TicketScales$Counter" "TicketScales$Counter" "prizes" "Ljava/util/List;") ∈ lw_all := lw_g (lw_at lw_m1 117 rfl) rfl
theorem q177 : (Jvm.Cond.soleField "TicketScales$Counter" "prizes") ∈ lw_all := lw_g (lw_at lw_m1 118 rfl) rfl
theorem q178 : (Jvm.Cond.superclass "TicketScales$Counter" "java/lang/Object") ∈ lw_all := lw_g (lw_at lw_m1 119 rfl) rfl
theorem q267 : (Jvm.Cond.instanceMethod ({ cls := "TicketScales$Counter", name := "setKind", desc := "(III)I" } : Jvm.MethodName)) ∈ lw_all := lw_g (lw_at lw_m1 208 rfl) rfl
theorem q268 : (Jvm.Cond.selects "TicketScales$Counter" ({ cls := "TicketScales$Counter", name := "setKind", desc := "(III)I" } : Jvm.MethodName) ({ cls := "TicketScales$Counter", name := "setKind", desc := "(III)I" } : Jvm.MethodName)) ∈ lw_all := lw_g (lw_at lw_m1 209 rfl) rfl
theorem q269 : (Jvm.Cond.code ({ cls := "TicketScales$Counter", name := "setKind", desc := "(III)I" } : Jvm.MethodName) prog_5_method_15_code (5 : Nat) (Option.some Jvm.ClassFile.FieldType.int)) ∈ lw_all := lw_g (lw_at lw_m1 210 rfl) rfl
theorem q270 : (Jvm.Cond.methodLinkNest "TicketScales$Counter" (89 : Nat) ({ cls := "TicketScales", name := "isBetween", desc := "(III)Z" } : Jvm.MethodName) "TicketScales") ∈ lw_tbl := lw_at lw_m1 211 rfl
theorem q273 : (Jvm.Cond.constant "TicketScales$Counter" (159 : Nat) (-100001 : Int32)) ∈ lw_all := lw_g (lw_at lw_m1 214 rfl) rfl
theorem q284 : (Jvm.Cond.instanceMethod ({ cls := "TicketScales$Counter", name := "copy", desc := "()LTicketScales$Counter;" } : Jvm.MethodName)) ∈ lw_all := lw_g (lw_at lw_m1 225 rfl) rfl
theorem q285 : (Jvm.Cond.selects "TicketScales$Counter" ({ cls := "TicketScales$Counter", name := "copy", desc := "()LTicketScales$Counter;" } : Jvm.MethodName) ({ cls := "TicketScales$Counter", name := "copy", desc := "()LTicketScales$Counter;" } : Jvm.MethodName)) ∈ lw_all := lw_g (lw_at lw_m1 226 rfl) rfl
theorem q286 : (Jvm.Cond.code ({ cls := "TicketScales$Counter", name := "copy", desc := "()LTicketScales$Counter;" } : Jvm.MethodName) prog_5_method_2_code (4 : Nat) (Option.some (Jvm.ClassFile.FieldType.object "TicketScales$Counter"))) ∈ lw_all := lw_g (lw_at lw_m1 227 rfl) rfl
theorem q287 : (Jvm.Cond.classLink "TicketScales$Counter" (10 : Nat) "TicketScales$Counter") ∈ lw_all := lw_g (lw_at lw_m1 228 rfl) rfl
theorem q288 : (Jvm.Cond.methodLink "TicketScales$Counter" (38 : Nat) ({ cls := "TicketScales$Counter", name := "<init>", desc := "()V" } : Jvm.MethodName)) ∈ lw_all := lw_g (lw_at lw_m1 229 rfl) rfl
theorem q289 : (Jvm.Cond.methodLink "TicketScales$Counter" (39 : Nat) ({ cls := "java/lang/System", name := "arraycopy", desc := "(Ljava/lang/Object;ILjava/lang/Object;II)V" } : Jvm.MethodName)) ∈ lw_all := lw_g (lw_at lw_m1 230 rfl) rfl
theorem q292 : (Jvm.Cond.interfaceEntry "TicketScales$Counter" (54 : Nat)) ∈ lw_tbl := lw_at lw_m1 233 rfl
theorem q293 : (Jvm.Cond.methodLink "TicketScales$Counter" (54 : Nat) ({ cls := "java/util/List", name := "iterator", desc := "()Ljava/util/Iterator;" } : Jvm.MethodName)) ∈ lw_all := lw_g (lw_at lw_m1 234 rfl) rfl
theorem q321 : (Jvm.Cond.interfaceEntry "TicketScales$Counter" (60 : Nat)) ∈ lw_tbl := lw_at lw_m2 22 rfl
theorem q322 : (Jvm.Cond.methodLink "TicketScales$Counter" (60 : Nat) ({ cls := "java/util/Iterator", name := "hasNext", desc := "()Z" } : Jvm.MethodName)) ∈ lw_all := lw_g (lw_at lw_m2 23 rfl) rfl
theorem q331 : (Jvm.Cond.interfaceEntry "TicketScales$Counter" (66 : Nat)) ∈ lw_tbl := lw_at lw_m2 32 rfl
theorem q332 : (Jvm.Cond.methodLink "TicketScales$Counter" (66 : Nat) ({ cls := "java/util/Iterator", name := "next", desc := "()Ljava/lang/Object;" } : Jvm.MethodName)) ∈ lw_all := lw_g (lw_at lw_m2 33 rfl) rfl
theorem q344 : (Jvm.Cond.classLink "TicketScales$Counter" (70 : Nat) "TicketScales$Customer") ∈ lw_all := lw_g (lw_at lw_m2 45 rfl) rfl
theorem q345 : (Jvm.Cond.methodLink "TicketScales$Counter" (72 : Nat) ({ cls := "TicketScales$Customer", name := "copy", desc := "()LTicketScales$Customer;" } : Jvm.MethodName)) ∈ lw_all := lw_g (lw_at lw_m2 46 rfl) rfl
theorem q356 : (Jvm.Cond.fieldLinkNest "TicketScales$Counter" (93 : Nat) "TicketScales$Customer" "points" "I" "TicketScales") ∈ lw_tbl := lw_at lw_m2 57 rfl
theorem q359 : (Jvm.Cond.fieldLinkNest "TicketScales$Counter" (139 : Nat) "TicketScales$Customer" "kept" "LTicketScales$Weighing;" "TicketScales") ∈ lw_tbl := lw_at lw_m2 60 rfl
theorem q366 : (Jvm.Cond.interfaceEntry "TicketScales$Counter" (76 : Nat)) ∈ lw_tbl := lw_at lw_m2 67 rfl
theorem q367 : (Jvm.Cond.methodLink "TicketScales$Counter" (76 : Nat) ({ cls := "java/util/List", name := "add", desc := "(Ljava/lang/Object;)Z" } : Jvm.MethodName)) ∈ lw_all := lw_g (lw_at lw_m2 68 rfl) rfl
theorem q405 : (Jvm.Cond.selects "TicketScales$Counter" ({ cls := "java/lang/Object", name := "getClass", desc := "()Ljava/lang/Class;" } : Jvm.MethodName) ({ cls := "java/lang/Object", name := "getClass", desc := "()Ljava/lang/Class;" } : Jvm.MethodName)) ∈ lw_all := lw_g (lw_at lw_m2 106 rfl) rfl
theorem q438 : (Jvm.Cond.classLink "TicketScales$Counter" (80 : Nat) "TicketScales$Prize") ∈ lw_all := lw_g (lw_at lw_m2 139 rfl) rfl
theorem q439 : (Jvm.Cond.methodLink "TicketScales$Counter" (82 : Nat) ({ cls := "TicketScales$Prize", name := "copy", desc := "()LTicketScales$Prize;" } : Jvm.MethodName)) ∈ lw_all := lw_g (lw_at lw_m2 140 rfl) rfl
theorem q450 : (Jvm.Cond.fieldLinkNest "TicketScales$Counter" (202 : Nat) "TicketScales$Prize" "price" "I" "TicketScales") ∈ lw_tbl := lw_at lw_m2 151 rfl
theorem q455 : (Jvm.Cond.fieldLinkNest "TicketScales$Counter" (199 : Nat) "TicketScales$Prize" "stock" "I" "TicketScales") ∈ lw_tbl := lw_at lw_m2 156 rfl
theorem q536 : (Jvm.Cond.instanceMethod ({ cls := "TicketScales$Counter", name := "setScale", desc := "(II)I" } : Jvm.MethodName)) ∈ lw_all := lw_g (lw_at lw_m2 237 rfl) rfl
theorem q537 : (Jvm.Cond.selects "TicketScales$Counter" ({ cls := "TicketScales$Counter", name := "setScale", desc := "(II)I" } : Jvm.MethodName) ({ cls := "TicketScales$Counter", name := "setScale", desc := "(II)I" } : Jvm.MethodName)) ∈ lw_all := lw_g (lw_at lw_m2 238 rfl) rfl
theorem q538 : (Jvm.Cond.code ({ cls := "TicketScales$Counter", name := "setScale", desc := "(II)I" } : Jvm.MethodName) prog_5_method_16_code (3 : Nat) (Option.some Jvm.ClassFile.FieldType.int)) ∈ lw_all := lw_g (lw_at lw_m2 239 rfl) rfl
theorem q539 : (Jvm.Cond.methodLink "TicketScales$Counter" (160 : Nat) ({ cls := "java/lang/Math", name := "min", desc := "(II)I" } : Jvm.MethodName)) ∈ lw_all := lw_g (lw_at lw_m3 0 rfl) rfl
theorem q540 : (Jvm.Cond.methodLink "TicketScales$Counter" (102 : Nat) ({ cls := "java/lang/Math", name := "max", desc := "(II)I" } : Jvm.MethodName)) ∈ lw_all := lw_g (lw_at lw_m3 1 rfl) rfl
theorem q548 : (Jvm.Cond.instanceMethod ({ cls := "TicketScales$Counter", name := "setBias", desc := "(I)I" } : Jvm.MethodName)) ∈ lw_all := lw_g (lw_at lw_m3 9 rfl) rfl
theorem q549 : (Jvm.Cond.selects "TicketScales$Counter" ({ cls := "TicketScales$Counter", name := "setBias", desc := "(I)I" } : Jvm.MethodName) ({ cls := "TicketScales$Counter", name := "setBias", desc := "(I)I" } : Jvm.MethodName)) ∈ lw_all := lw_g (lw_at lw_m3 10 rfl) rfl
theorem q550 : (Jvm.Cond.code ({ cls := "TicketScales$Counter", name := "setBias", desc := "(I)I" } : Jvm.MethodName) prog_5_method_17_code (3 : Nat) (Option.some Jvm.ClassFile.FieldType.int)) ∈ lw_all := lw_g (lw_at lw_m3 11 rfl) rfl
theorem q558 : (Jvm.Cond.instanceMethod ({ cls := "TicketScales$Counter", name := "setRule", desc := "(I)I" } : Jvm.MethodName)) ∈ lw_all := lw_g (lw_at lw_m3 19 rfl) rfl
theorem q559 : (Jvm.Cond.selects "TicketScales$Counter" ({ cls := "TicketScales$Counter", name := "setRule", desc := "(I)I" } : Jvm.MethodName) ({ cls := "TicketScales$Counter", name := "setRule", desc := "(I)I" } : Jvm.MethodName)) ∈ lw_all := lw_g (lw_at lw_m3 20 rfl) rfl
theorem q560 : (Jvm.Cond.code ({ cls := "TicketScales$Counter", name := "setRule", desc := "(I)I" } : Jvm.MethodName) prog_5_method_18_code (3 : Nat) (Option.some Jvm.ClassFile.FieldType.int)) ∈ lw_all := lw_g (lw_at lw_m3 21 rfl) rfl
theorem q568 : (Jvm.Cond.instanceMethod ({ cls := "TicketScales$Counter", name := "setFee", desc := "(I)I" } : Jvm.MethodName)) ∈ lw_all := lw_g (lw_at lw_m3 29 rfl) rfl
theorem q569 : (Jvm.Cond.selects "TicketScales$Counter" ({ cls := "TicketScales$Counter", name := "setFee", desc := "(I)I" } : Jvm.MethodName) ({ cls := "TicketScales$Counter", name := "setFee", desc := "(I)I" } : Jvm.MethodName)) ∈ lw_all := lw_g (lw_at lw_m3 30 rfl) rfl
theorem q570 : (Jvm.Cond.code ({ cls := "TicketScales$Counter", name := "setFee", desc := "(I)I" } : Jvm.MethodName) prog_5_method_19_code (3 : Nat) (Option.some Jvm.ClassFile.FieldType.int)) ∈ lw_all := lw_g (lw_at lw_m3 31 rfl) rfl
theorem q578 : (Jvm.Cond.instanceMethod ({ cls := "TicketScales$Counter", name := "come", desc := "(I)I" } : Jvm.MethodName)) ∈ lw_all := lw_g (lw_at lw_m3 39 rfl) rfl
theorem q579 : (Jvm.Cond.selects "TicketScales$Counter" ({ cls := "TicketScales$Counter", name := "come", desc := "(I)I" } : Jvm.MethodName) ({ cls := "TicketScales$Counter", name := "come", desc := "(I)I" } : Jvm.MethodName)) ∈ lw_all := lw_g (lw_at lw_m3 40 rfl) rfl
theorem q580 : (Jvm.Cond.code ({ cls := "TicketScales$Counter", name := "come", desc := "(I)I" } : Jvm.MethodName) prog_5_method_20_code (2 : Nat) (Option.some Jvm.ClassFile.FieldType.int)) ∈ lw_all := lw_g (lw_at lw_m3 41 rfl) rfl
theorem q581 : (Jvm.Cond.interfaceEntry "TicketScales$Counter" (85 : Nat)) ∈ lw_tbl := lw_at lw_m3 42 rfl
theorem q582 : (Jvm.Cond.methodLink "TicketScales$Counter" (85 : Nat) ({ cls := "java/util/List", name := "size", desc := "()I" } : Jvm.MethodName)) ∈ lw_all := lw_g (lw_at lw_m3 43 rfl) rfl
theorem q590 : (Jvm.Cond.constant "TicketScales$Counter" (163 : Nat) (-100003 : Int32)) ∈ lw_all := lw_g (lw_at lw_m3 51 rfl) rfl
theorem q591 : (Jvm.Cond.methodLink "TicketScales$Counter" (164 : Nat) ({ cls := "TicketScales$Customer", name := "<init>", desc := "(I)V" } : Jvm.MethodName)) ∈ lw_all := lw_g (lw_at lw_m3 52 rfl) rfl
theorem q599 : (Jvm.Cond.instanceMethod ({ cls := "TicketScales$Counter", name := "leave", desc := "(I)I" } : Jvm.MethodName)) ∈ lw_all := lw_g (lw_at lw_m3 60 rfl) rfl
theorem q600 : (Jvm.Cond.selects "TicketScales$Counter" ({ cls := "TicketScales$Counter", name := "leave", desc := "(I)I" } : Jvm.MethodName) ({ cls := "TicketScales$Counter", name := "leave", desc := "(I)I" } : Jvm.MethodName)) ∈ lw_all := lw_g (lw_at lw_m3 61 rfl) rfl
theorem q601 : (Jvm.Cond.code ({ cls := "TicketScales$Counter", name := "leave", desc := "(I)I" } : Jvm.MethodName) prog_5_method_21_code (2 : Nat) (Option.some Jvm.ClassFile.FieldType.int)) ∈ lw_all := lw_g (lw_at lw_m3 62 rfl) rfl
theorem q602 : (Jvm.Cond.methodLink "TicketScales$Counter" (167 : Nat) ({ cls := "TicketScales$Counter", name := "isCustomer", desc := "(I)Z" } : Jvm.MethodName)) ∈ lw_all := lw_g (lw_at lw_m3 63 rfl) rfl
theorem q603 : (Jvm.Cond.instanceMethod ({ cls := "TicketScales$Counter", name := "isCustomer", desc := "(I)Z" } : Jvm.MethodName)) ∈ lw_all := lw_g (lw_at lw_m3 64 rfl) rfl
theorem q604 : (Jvm.Cond.selects "TicketScales$Counter" ({ cls := "TicketScales$Counter", name := "isCustomer", desc := "(I)Z" } : Jvm.MethodName) ({ cls := "TicketScales$Counter", name := "isCustomer", desc := "(I)Z" } : Jvm.MethodName)) ∈ lw_all := lw_g (lw_at lw_m3 65 rfl) rfl
theorem q605 : (Jvm.Cond.code ({ cls := "TicketScales$Counter", name := "isCustomer", desc := "(I)Z" } : Jvm.MethodName) prog_5_method_3_code (2 : Nat) (Option.some Jvm.ClassFile.FieldType.boolean)) ∈ lw_all := lw_g (lw_at lw_m3 66 rfl) rfl
theorem q606 : (Jvm.Cond.interfaceEntry "TicketScales$Counter" (171 : Nat)) ∈ lw_tbl := lw_at lw_m3 67 rfl
theorem q607 : (Jvm.Cond.methodLink "TicketScales$Counter" (171 : Nat) ({ cls := "java/util/List", name := "remove", desc := "(I)Ljava/lang/Object;" } : Jvm.MethodName)) ∈ lw_all := lw_g (lw_at lw_m3 68 rfl) rfl
theorem q633 : (Jvm.Cond.instanceMethod ({ cls := "TicketScales$Counter", name := "weigh", desc := "(IIII)I" } : Jvm.MethodName)) ∈ lw_all := lw_g (lw_at lw_m3 94 rfl) rfl
theorem q634 : (Jvm.Cond.selects "TicketScales$Counter" ({ cls := "TicketScales$Counter", name := "weigh", desc := "(IIII)I" } : Jvm.MethodName) ({ cls := "TicketScales$Counter", name := "weigh", desc := "(IIII)I" } : Jvm.MethodName)) ∈ lw_all := lw_g (lw_at lw_m3 95 rfl) rfl
theorem q635 : (Jvm.Cond.code ({ cls := "TicketScales$Counter", name := "weigh", desc := "(IIII)I" } : Jvm.MethodName) prog_5_method_22_code (8 : Nat) (Option.some Jvm.ClassFile.FieldType.int)) ∈ lw_all := lw_g (lw_at lw_m3 96 rfl) rfl
theorem q636 : (Jvm.Cond.methodLink "TicketScales$Counter" (137 : Nat) ({ cls := "TicketScales$Counter", name := "read", desc := "(I)I" } : Jvm.MethodName)) ∈ lw_all := lw_g (lw_at lw_m3 97 rfl) rfl
theorem q637 : (Jvm.Cond.instanceMethod ({ cls := "TicketScales$Counter", name := "read", desc := "(I)I" } : Jvm.MethodName)) ∈ lw_all := lw_g (lw_at lw_m3 98 rfl) rfl
theorem q638 : (Jvm.Cond.selects "TicketScales$Counter" ({ cls := "TicketScales$Counter", name := "read", desc := "(I)I" } : Jvm.MethodName) ({ cls := "TicketScales$Counter", name := "read", desc := "(I)I" } : Jvm.MethodName)) ∈ lw_all := lw_g (lw_at lw_m3 99 rfl) rfl
theorem q639 : (Jvm.Cond.code ({ cls := "TicketScales$Counter", name := "read", desc := "(I)I" } : Jvm.MethodName) prog_5_method_7_code (2 : Nat) (Option.some Jvm.ClassFile.FieldType.int)) ∈ lw_all := lw_g (lw_at lw_m3 100 rfl) rfl
theorem q640 : (Jvm.Cond.methodLink "TicketScales$Counter" (105 : Nat) ({ cls := "TicketScales$Counter", name := "read", desc := "(II)I" } : Jvm.MethodName)) ∈ lw_all := lw_g (lw_at lw_m3 101 rfl) rfl
theorem q641 : (Jvm.Cond.privateMethod ({ cls := "TicketScales$Counter", name := "read", desc := "(II)I" } : Jvm.MethodName)) ∈ lw_tbl := lw_at lw_m3 102 rfl
theorem q642 : (Jvm.Cond.instanceMethod ({ cls := "TicketScales$Counter", name := "read", desc := "(II)I" } : Jvm.MethodName)) ∈ lw_all := lw_g (lw_at lw_m3 103 rfl) rfl
theorem q643 : (Jvm.Cond.code ({ cls := "TicketScales$Counter", name := "read", desc := "(II)I" } : Jvm.MethodName) prog_5_method_6_code (3 : Nat) (Option.some Jvm.ClassFile.FieldType.int)) ∈ lw_all := lw_g (lw_at lw_m3 104 rfl) rfl
theorem q644 : (Jvm.Cond.methodLink "TicketScales$Counter" (96 : Nat) ({ cls := "java/lang/Math", name := "floorDiv", desc := "(II)I" } : Jvm.MethodName)) ∈ lw_all := lw_g (lw_at lw_m3 105 rfl) rfl
theorem q647 : (Jvm.Cond.methodLink "TicketScales$Counter" (151 : Nat) ({ cls := "TicketScales$Counter", name := "guess", desc := "(III)I" } : Jvm.MethodName)) ∈ lw_all := lw_g (lw_at lw_m3 108 rfl) rfl
theorem q648 : (Jvm.Cond.instanceMethod ({ cls := "TicketScales$Counter", name := "guess", desc := "(III)I" } : Jvm.MethodName)) ∈ lw_all := lw_g (lw_at lw_m3 109 rfl) rfl
theorem q649 : (Jvm.Cond.selects "TicketScales$Counter" ({ cls := "TicketScales$Counter", name := "guess", desc := "(III)I" } : Jvm.MethodName) ({ cls := "TicketScales$Counter", name := "guess", desc := "(III)I" } : Jvm.MethodName)) ∈ lw_all := lw_g (lw_at lw_m3 110 rfl) rfl
theorem q650 : (Jvm.Cond.code ({ cls := "TicketScales$Counter", name := "guess", desc := "(III)I" } : Jvm.MethodName) prog_5_method_11_code (4 : Nat) (Option.some Jvm.ClassFile.FieldType.int)) ∈ lw_all := lw_g (lw_at lw_m3 111 rfl) rfl
theorem q651 : (Jvm.Cond.fieldLinkNest "TicketScales$Counter" (123 : Nat) "TicketScales" "GUESSES" "[LTicketScales$Guess;" "TicketScales") ∈ lw_tbl := lw_at lw_m3 112 rfl
theorem q653 : (Jvm.Cond.methodLink "TicketScales$Counter" (127 : Nat) ({ cls := "TicketScales$Counter", name := "allowed", desc := "(II)LTicketScales$Range;" } : Jvm.MethodName)) ∈ lw_all := lw_g (lw_at lw_m3 114 rfl) rfl
theorem q654 : (Jvm.Cond.instanceMethod ({ cls := "TicketScales$Counter", name := "allowed", desc := "(II)LTicketScales$Range;" } : Jvm.MethodName)) ∈ lw_all := lw_g (lw_at lw_m3 115 rfl) rfl
theorem q655 : (Jvm.Cond.selects "TicketScales$Counter" ({ cls := "TicketScales$Counter", name := "allowed", desc := "(II)LTicketScales$Range;" } : Jvm.MethodName) ({ cls := "TicketScales$Counter", name := "allowed", desc := "(II)LTicketScales$Range;" } : Jvm.MethodName)) ∈ lw_all := lw_g (lw_at lw_m3 116 rfl) rfl
theorem q656 : (Jvm.Cond.code ({ cls := "TicketScales$Counter", name := "allowed", desc := "(II)LTicketScales$Range;" } : Jvm.MethodName) prog_5_method_10_code (6 : Nat) (Option.some (Jvm.ClassFile.FieldType.object "TicketScales$Range"))) ∈ lw_all := lw_g (lw_at lw_m3 117 rfl) rfl
theorem q657 : (Jvm.Cond.classLink "TicketScales$Counter" (108 : Nat) "TicketScales$Range") ∈ lw_all := lw_g (lw_at lw_m3 118 rfl) rfl
theorem q659 : (Jvm.Cond.methodLink "TicketScales$Counter" (110 : Nat) ({ cls := "TicketScales$Range", name := "<init>", desc := "(II)V" } : Jvm.MethodName)) ∈ lw_all := lw_g (lw_at lw_m3 120 rfl) rfl
theorem q676 : (Jvm.Cond.methodLinkNest "TicketScales$Counter" (113 : Nat) ({ cls := "TicketScales", name := "up", desc := "(II)I" } : Jvm.MethodName) "TicketScales") ∈ lw_tbl := lw_at lw_m3 137 rfl
theorem q680 : (Jvm.Cond.methodLink "TicketScales$Counter" (116 : Nat) ({ cls := "TicketScales$Counter", name := "heaviest", desc := "(I)I" } : Jvm.MethodName)) ∈ lw_all := lw_g (lw_at lw_m3 141 rfl) rfl
theorem q681 : (Jvm.Cond.instanceMethod ({ cls := "TicketScales$Counter", name := "heaviest", desc := "(I)I" } : Jvm.MethodName)) ∈ lw_all := lw_g (lw_at lw_m3 142 rfl) rfl
theorem q682 : (Jvm.Cond.selects "TicketScales$Counter" ({ cls := "TicketScales$Counter", name := "heaviest", desc := "(I)I" } : Jvm.MethodName) ({ cls := "TicketScales$Counter", name := "heaviest", desc := "(I)I" } : Jvm.MethodName)) ∈ lw_all := lw_g (lw_at lw_m3 143 rfl) rfl
theorem q683 : (Jvm.Cond.code ({ cls := "TicketScales$Counter", name := "heaviest", desc := "(I)I" } : Jvm.MethodName) prog_5_method_9_code (2 : Nat) (Option.some Jvm.ClassFile.FieldType.int)) ∈ lw_all := lw_g (lw_at lw_m3 144 rfl) rfl
theorem q684 : (Jvm.Cond.methodLink "TicketScales$Counter" (120 : Nat) ({ cls := "TicketScales$Counter", name := "lightest", desc := "(I)I" } : Jvm.MethodName)) ∈ lw_all := lw_g (lw_at lw_m3 145 rfl) rfl
theorem q685 : (Jvm.Cond.instanceMethod ({ cls := "TicketScales$Counter", name := "lightest", desc := "(I)I" } : Jvm.MethodName)) ∈ lw_all := lw_g (lw_at lw_m3 146 rfl) rfl
theorem q686 : (Jvm.Cond.selects "TicketScales$Counter" ({ cls := "TicketScales$Counter", name := "lightest", desc := "(I)I" } : Jvm.MethodName) ({ cls := "TicketScales$Counter", name := "lightest", desc := "(I)I" } : Jvm.MethodName)) ∈ lw_all := lw_g (lw_at lw_m3 147 rfl) rfl
theorem q687 : (Jvm.Cond.code ({ cls := "TicketScales$Counter", name := "lightest", desc := "(I)I" } : Jvm.MethodName) prog_5_method_8_code (2 : Nat) (Option.some Jvm.ClassFile.FieldType.int)) ∈ lw_all := lw_g (lw_at lw_m3 148 rfl) rfl
theorem q688 : (Jvm.Cond.interfaceEntry "TicketScales$Counter" (131 : Nat)) ∈ lw_tbl := lw_at lw_m3 149 rfl
theorem q689 : (Jvm.Cond.methodLink "TicketScales$Counter" (131 : Nat) ({ cls := "TicketScales$Guess", name := "of", desc := "(LTicketScales$Range;II)I" } : Jvm.MethodName)) ∈ lw_all := lw_g (lw_at lw_m3 150 rfl) rfl
theorem q738 : (Jvm.Cond.interfaceEntry "TicketScales$Counter" (175 : Nat)) ∈ lw_tbl := lw_at lw_m3 199 rfl
theorem q739 : (Jvm.Cond.methodLink "TicketScales$Counter" (175 : Nat) ({ cls := "java/util/List", name := "get", desc := "(I)Ljava/lang/Object;" } : Jvm.MethodName)) ∈ lw_all := lw_g (lw_at lw_m3 200 rfl) rfl
theorem q751 : (Jvm.Cond.classLink "TicketScales$Counter" (144 : Nat) "TicketScales$Weighing") ∈ lw_all := lw_g (lw_at lw_m3 212 rfl) rfl
theorem q753 : (Jvm.Cond.methodLink "TicketScales$Counter" (178 : Nat) ({ cls := "TicketScales$Weighing", name := "<init>", desc := "(IIII)V" } : Jvm.MethodName)) ∈ lw_all := lw_g (lw_at lw_m3 214 rfl) rfl
theorem q758 : (Jvm.Cond.fieldLinkNest "TicketScales$Counter" (148 : Nat) "TicketScales$Weighing" "kind" "I" "TicketScales") ∈ lw_tbl := lw_at lw_m3 219 rfl
theorem q760 : (Jvm.Cond.fieldLinkNest "TicketScales$Counter" (156 : Nat) "TicketScales$Weighing" "count" "I" "TicketScales") ∈ lw_tbl := lw_at lw_m3 221 rfl
theorem q762 : (Jvm.Cond.fieldLinkNest "TicketScales$Counter" (143 : Nat) "TicketScales$Weighing" "reading" "I" "TicketScales") ∈ lw_tbl := lw_at lw_m3 223 rfl
theorem q764 : (Jvm.Cond.fieldLinkNest "TicketScales$Counter" (183 : Nat) "TicketScales$Weighing" "guess" "I" "TicketScales") ∈ lw_tbl := lw_at lw_m3 225 rfl
theorem q774 : (Jvm.Cond.methodLink "TicketScales$Counter" (181 : Nat) ({ cls := "TicketScales$Customer", name := "get", desc := "(I)V" } : Jvm.MethodName)) ∈ lw_all := lw_g (lw_at lw_m3 235 rfl) rfl
theorem q786 : (Jvm.Cond.instanceMethod ({ cls := "TicketScales$Counter", name := "claim", desc := "(II)I" } : Jvm.MethodName)) ∈ lw_all := lw_g (lw_at lw_m4 7 rfl) rfl
theorem q787 : (Jvm.Cond.selects "TicketScales$Counter" ({ cls := "TicketScales$Counter", name := "claim", desc := "(II)I" } : Jvm.MethodName) ({ cls := "TicketScales$Counter", name := "claim", desc := "(II)I" } : Jvm.MethodName)) ∈ lw_all := lw_g (lw_at lw_m4 8 rfl) rfl
theorem q788 : (Jvm.Cond.code ({ cls := "TicketScales$Counter", name := "claim", desc := "(II)I" } : Jvm.MethodName) prog_5_method_23_code (6 : Nat) (Option.some Jvm.ClassFile.FieldType.int)) ∈ lw_all := lw_g (lw_at lw_m4 9 rfl) rfl
theorem q789 : (Jvm.Cond.constant "TicketScales$Counter" (185 : Nat) (-100002 : Int32)) ∈ lw_all := lw_g (lw_at lw_m4 10 rfl) rfl
theorem q790 : (Jvm.Cond.methodLink "TicketScales$Counter" (186 : Nat) ({ cls := "TicketScales$Range", name := "has", desc := "(I)Z" } : Jvm.MethodName)) ∈ lw_all := lw_g (lw_at lw_m4 11 rfl) rfl
theorem q795 : (Jvm.Cond.methodLink "TicketScales$Counter" (189 : Nat) ({ cls := "java/lang/Math", name := "abs", desc := "(I)I" } : Jvm.MethodName)) ∈ lw_all := lw_g (lw_at lw_m4 16 rfl) rfl
theorem q805 : (Jvm.Cond.instanceMethod ({ cls := "TicketScales$Counter", name := "addPrize", desc := "(IIIII)I" } : Jvm.MethodName)) ∈ lw_all := lw_g (lw_at lw_m4 26 rfl) rfl
theorem q806 : (Jvm.Cond.selects "TicketScales$Counter" ({ cls := "TicketScales$Counter", name := "addPrize", desc := "(IIIII)I" } : Jvm.MethodName) ({ cls := "TicketScales$Counter", name := "addPrize", desc := "(IIIII)I" } : Jvm.MethodName)) ∈ lw_all := lw_g (lw_at lw_m4 27 rfl) rfl
theorem q807 : (Jvm.Cond.code ({ cls := "TicketScales$Counter", name := "addPrize", desc := "(IIIII)I" } : Jvm.MethodName) prog_5_method_24_code (6 : Nat) (Option.some Jvm.ClassFile.FieldType.int)) ∈ lw_all := lw_g (lw_at lw_m4 28 rfl) rfl
theorem q808 : (Jvm.Cond.constant "TicketScales$Counter" (192 : Nat) (100000 : Int32)) ∈ lw_all := lw_g (lw_at lw_m4 29 rfl) rfl
theorem q809 : (Jvm.Cond.methodLink "TicketScales$Counter" (193 : Nat) ({ cls := "TicketScales$Prize", name := "<init>", desc := "(IIIII)V" } : Jvm.MethodName)) ∈ lw_all := lw_g (lw_at lw_m4 30 rfl) rfl
theorem q817 : (Jvm.Cond.instanceMethod ({ cls := "TicketScales$Counter", name := "removePrize", desc := "(I)I" } : Jvm.MethodName)) ∈ lw_all := lw_g (lw_at lw_m4 38 rfl) rfl
theorem q818 : (Jvm.Cond.selects "TicketScales$Counter" ({ cls := "TicketScales$Counter", name := "removePrize", desc := "(I)I" } : Jvm.MethodName) ({ cls := "TicketScales$Counter", name := "removePrize", desc := "(I)I" } : Jvm.MethodName)) ∈ lw_all := lw_g (lw_at lw_m4 39 rfl) rfl
theorem q819 : (Jvm.Cond.code ({ cls := "TicketScales$Counter", name := "removePrize", desc := "(I)I" } : Jvm.MethodName) prog_5_method_25_code (2 : Nat) (Option.some Jvm.ClassFile.FieldType.int)) ∈ lw_all := lw_g (lw_at lw_m4 40 rfl) rfl
theorem q820 : (Jvm.Cond.methodLink "TicketScales$Counter" (196 : Nat) ({ cls := "TicketScales$Counter", name := "isPrize", desc := "(I)Z" } : Jvm.MethodName)) ∈ lw_all := lw_g (lw_at lw_m4 41 rfl) rfl
theorem q821 : (Jvm.Cond.instanceMethod ({ cls := "TicketScales$Counter", name := "isPrize", desc := "(I)Z" } : Jvm.MethodName)) ∈ lw_all := lw_g (lw_at lw_m4 42 rfl) rfl
theorem q822 : (Jvm.Cond.selects "TicketScales$Counter" ({ cls := "TicketScales$Counter", name := "isPrize", desc := "(I)Z" } : Jvm.MethodName) ({ cls := "TicketScales$Counter", name := "isPrize", desc := "(I)Z" } : Jvm.MethodName)) ∈ lw_all := lw_g (lw_at lw_m4 43 rfl) rfl
theorem q823 : (Jvm.Cond.code ({ cls := "TicketScales$Counter", name := "isPrize", desc := "(I)Z" } : Jvm.MethodName) prog_5_method_4_code (2 : Nat) (Option.some Jvm.ClassFile.FieldType.boolean)) ∈ lw_all := lw_g (lw_at lw_m4 44 rfl) rfl
theorem q831 : (Jvm.Cond.instanceMethod ({ cls := "TicketScales$Counter", name := "setPrice", desc := "(II)I" } : Jvm.MethodName)) ∈ lw_all := lw_g (lw_at lw_m4 52 rfl) rfl
theorem q832 : (Jvm.Cond.selects "TicketScales$Counter" ({ cls := "TicketScales$Counter", name := "setPrice", desc := "(II)I" } : Jvm.MethodName) ({ cls := "TicketScales$Counter", name := "setPrice", desc := "(II)I" } : Jvm.MethodName)) ∈ lw_all := lw_g (lw_at lw_m4 53 rfl) rfl
theorem q833 : (Jvm.Cond.code ({ cls := "TicketScales$Counter", name := "setPrice", desc := "(II)I" } : Jvm.MethodName) prog_5_method_26_code (4 : Nat) (Option.some Jvm.ClassFile.FieldType.int)) ∈ lw_all := lw_g (lw_at lw_m4 54 rfl) rfl
theorem q841 : (Jvm.Cond.instanceMethod ({ cls := "TicketScales$Counter", name := "buy", desc := "(III)I" } : Jvm.MethodName)) ∈ lw_all := lw_g (lw_at lw_m4 62 rfl) rfl
theorem q842 : (Jvm.Cond.selects "TicketScales$Counter" ({ cls := "TicketScales$Counter", name := "buy", desc := "(III)I" } : Jvm.MethodName) ({ cls := "TicketScales$Counter", name := "buy", desc := "(III)I" } : Jvm.MethodName)) ∈ lw_all := lw_g (lw_at lw_m4 63 rfl) rfl
theorem q843 : (Jvm.Cond.code ({ cls := "TicketScales$Counter", name := "buy", desc := "(III)I" } : Jvm.MethodName) prog_5_method_27_code (5 : Nat) (Option.some Jvm.ClassFile.FieldType.int)) ∈ lw_all := lw_g (lw_at lw_m4 64 rfl) rfl
theorem q844 : (Jvm.Cond.methodLink "TicketScales$Counter" (205 : Nat) ({ cls := "TicketScales$Prize", name := "sell", desc := "(I)V" } : Jvm.MethodName)) ∈ lw_all := lw_g (lw_at lw_m4 65 rfl) rfl
theorem q866 : (Jvm.Cond.instanceMethod ({ cls := "TicketScales$Counter", name := "points", desc := "()I" } : Jvm.MethodName)) ∈ lw_all := lw_g (lw_at lw_m4 87 rfl) rfl
theorem q867 : (Jvm.Cond.selects "TicketScales$Counter" ({ cls := "TicketScales$Counter", name := "points", desc := "()I" } : Jvm.MethodName) ({ cls := "TicketScales$Counter", name := "points", desc := "()I" } : Jvm.MethodName)) ∈ lw_all := lw_g (lw_at lw_m4 88 rfl) rfl
theorem q868 : (Jvm.Cond.code ({ cls := "TicketScales$Counter", name := "points", desc := "()I" } : Jvm.MethodName) prog_5_method_5_code (4 : Nat) (Option.some Jvm.ClassFile.FieldType.int)) ∈ lw_all := lw_g (lw_at lw_m4 89 rfl) rfl
theorem q1511 : (Jvm.Cond.instanceMethod ({ cls := "TicketScales$Counter", name := "apartUpTo", desc := "(III)I" } : Jvm.MethodName)) ∈ lw_all := lw_g (lw_at lw_m7 12 rfl) rfl
theorem q1512 : (Jvm.Cond.selects "TicketScales$Counter" ({ cls := "TicketScales$Counter", name := "apartUpTo", desc := "(III)I" } : Jvm.MethodName) ({ cls := "TicketScales$Counter", name := "apartUpTo", desc := "(III)I" } : Jvm.MethodName)) ∈ lw_all := lw_g (lw_at lw_m7 13 rfl) rfl
theorem q1513 : (Jvm.Cond.code ({ cls := "TicketScales$Counter", name := "apartUpTo", desc := "(III)I" } : Jvm.MethodName) prog_5_method_12_code (5 : Nat) (Option.some Jvm.ClassFile.FieldType.int)) ∈ lw_all := lw_g (lw_at lw_m7 14 rfl) rfl
theorem q1523 : (Jvm.Cond.instanceMethod ({ cls := "TicketScales$Counter", name := "isMixed", desc := "(III)Z" } : Jvm.MethodName)) ∈ lw_all := lw_g (lw_at lw_m7 24 rfl) rfl
theorem q1524 : (Jvm.Cond.selects "TicketScales$Counter" ({ cls := "TicketScales$Counter", name := "isMixed", desc := "(III)Z" } : Jvm.MethodName) ({ cls := "TicketScales$Counter", name := "isMixed", desc := "(III)Z" } : Jvm.MethodName)) ∈ lw_all := lw_g (lw_at lw_m7 25 rfl) rfl
theorem q1525 : (Jvm.Cond.code ({ cls := "TicketScales$Counter", name := "isMixed", desc := "(III)Z" } : Jvm.MethodName) prog_5_method_13_code (4 : Nat) (Option.some Jvm.ClassFile.FieldType.boolean)) ∈ lw_all := lw_g (lw_at lw_m7 26 rfl) rfl
theorem q1531 : (Jvm.Cond.instanceMethod ({ cls := "TicketScales$Counter", name := "would", desc := "(I)I" } : Jvm.MethodName)) ∈ lw_all := lw_g (lw_at lw_m7 32 rfl) rfl
theorem q1532 : (Jvm.Cond.selects "TicketScales$Counter" ({ cls := "TicketScales$Counter", name := "would", desc := "(I)I" } : Jvm.MethodName) ({ cls := "TicketScales$Counter", name := "would", desc := "(I)I" } : Jvm.MethodName)) ∈ lw_all := lw_g (lw_at lw_m7 33 rfl) rfl
theorem q1533 : (Jvm.Cond.code ({ cls := "TicketScales$Counter", name := "would", desc := "(I)I" } : Jvm.MethodName) prog_5_method_14_code (6 : Nat) (Option.some Jvm.ClassFile.FieldType.int)) ∈ lw_all := lw_g (lw_at lw_m7 34 rfl) rfl
theorem q1534 : (Jvm.Cond.constant "TicketScales$Counter" (155 : Nat) (-100009 : Int32)) ∈ lw_all := lw_g (lw_at lw_m7 35 rfl) rfl
theorem q1941 : (Jvm.Cond.castable "TicketScales$Counter" "java/lang/Object") ∈ lw_tbl := lw_at lw_m8 202 rfl
theorem in_X2 : ∀ w ∈ wsX20, w ∈ lw_all := lw_in wsX20 [158, 160, 162, 164, 166, 168, 170, 172, 174, 176] (by decide +kernel) (by decide +kernel)

/-! TicketScales$Customer -/
set_option maxRecDepth 100000
def RX4 : String := "TicketScales$Customer"
def TX4 : u_T := fun k => match k with
  | 0 => ("TicketScales$Customer", "points", "I", false)
  | _ => ("TicketScales$Customer", "kept", "LTicketScales$Weighing;", false)
def tyX4 : Nat → FieldType := fun k => match k with
  | 0 => .int
  | _ => .object "TicketScales$Weighing"
abbrev wsX40 : List Cond := u_ws RX4 TX4 2
theorem nmX4 : ∀ a, a < 2 → ∀ b, b < 2 → a ≠ b → (TX4 a).2.1 ≠ (TX4 b).2.1 := by decide +kernel
theorem tyX4_ok : ∀ k, k < 2 → parseFieldDescriptor (TX4 k).2.2.1 = some (tyX4 k) := by decide +kernel
abbrev cX4_copy : ByteArray := prog_6_method_2_code
def yX4_copy : MethodName := ⟨RX4, "copy", "()LTicketScales$Customer;"⟩
def dkwX4_copy_0 : List UInt8 := [187, 0, 8, 89, 42, 180, 0, 7, 183, 0, 13, 76, 43, 42, 180, 0, 16, 181, 0, 16, 43, 176]
abbrev dktX4_copy_0 : List UInt8 := dkwX4_copy_0 ++ []
theorem dksX4_copy_0 : cX4_copy.data.toList.drop 0 = dktX4_copy_0 := by decide +kernel
theorem dX4_copy_0 : decode cX4_copy 0 = .ok (.new 8, 3) := dk_187 0 8 (dk_at dksX4_copy_0 0 rfl rfl)
theorem dX4_copy_3 : decode cX4_copy 3 = .ok (.dup, 1) := dk_89 (dk_at dksX4_copy_0 3 rfl rfl)
theorem dX4_copy_4 : decode cX4_copy 4 = .ok (.aload_n 0, 1) := dk_42 (dk_at dksX4_copy_0 4 rfl rfl)
theorem dX4_copy_5 : decode cX4_copy 5 = .ok (.getfield 7, 3) := dk_180 0 7 (dk_at dksX4_copy_0 5 rfl rfl)
theorem dX4_copy_8 : decode cX4_copy 8 = .ok (.invokespecial 13, 3) := dk_183 0 13 (dk_at dksX4_copy_0 8 rfl rfl)
theorem dX4_copy_11 : decode cX4_copy 11 = .ok (.astore_n 1, 1) := dk_76 (dk_at dksX4_copy_0 11 rfl rfl)
theorem dX4_copy_12 : decode cX4_copy 12 = .ok (.aload_n 1, 1) := dk_43 (dk_at dksX4_copy_0 12 rfl rfl)
theorem dX4_copy_13 : decode cX4_copy 13 = .ok (.aload_n 0, 1) := dk_42 (dk_at dksX4_copy_0 13 rfl rfl)
theorem dX4_copy_14 : decode cX4_copy 14 = .ok (.getfield 16, 3) := dk_180 0 16 (dk_at dksX4_copy_0 14 rfl rfl)
theorem dX4_copy_17 : decode cX4_copy 17 = .ok (.putfield 16, 3) := dk_181 0 16 (dk_at dksX4_copy_0 17 rfl rfl)
theorem dX4_copy_20 : decode cX4_copy 20 = .ok (.aload_n 1, 1) := dk_43 (dk_at dksX4_copy_0 20 rfl rfl)
theorem dX4_copy_21 : decode cX4_copy 21 = .ok (.areturn, 1) := dk_176 (dk_at dksX4_copy_0 21 rfl rfl)
abbrev cX4_init : ByteArray := prog_6_method_1_code
def yX4_init : MethodName := ⟨RX4, "<init>", "(I)V"⟩
def dkwX4_init_0 : List UInt8 := [42, 183, 0, 1, 42, 27, 181, 0, 7, 177]
abbrev dktX4_init_0 : List UInt8 := dkwX4_init_0 ++ []
theorem dksX4_init_0 : cX4_init.data.toList.drop 0 = dktX4_init_0 := by decide +kernel
theorem dX4_init_0 : decode cX4_init 0 = .ok (.aload_n 0, 1) := dk_42 (dk_at dksX4_init_0 0 rfl rfl)
theorem dX4_init_1 : decode cX4_init 1 = .ok (.invokespecial 1, 3) := dk_183 0 1 (dk_at dksX4_init_0 1 rfl rfl)
theorem dX4_init_4 : decode cX4_init 4 = .ok (.aload_n 0, 1) := dk_42 (dk_at dksX4_init_0 4 rfl rfl)
theorem dX4_init_5 : decode cX4_init 5 = .ok (.iload_n 1, 1) := dk_27 (dk_at dksX4_init_0 5 rfl rfl)
theorem dX4_init_6 : decode cX4_init 6 = .ok (.putfield 7, 3) := dk_181 0 7 (dk_at dksX4_init_0 6 rfl rfl)
theorem dX4_init_9 : decode cX4_init 9 = .ok (.return_, 1) := dk_177 (dk_at dksX4_init_0 9 rfl rfl)
abbrev cX4_get : ByteArray := prog_6_method_3_code
def yX4_get : MethodName := ⟨RX4, "get", "(I)V"⟩
def dkwX4_get_0 : List UInt8 := [42, 3, 42, 180, 0, 7, 27, 96, 184, 0, 20, 181, 0, 7, 177]
abbrev dktX4_get_0 : List UInt8 := dkwX4_get_0 ++ []
theorem dksX4_get_0 : cX4_get.data.toList.drop 0 = dktX4_get_0 := by decide +kernel
theorem dX4_get_0 : decode cX4_get 0 = .ok (.aload_n 0, 1) := dk_42 (dk_at dksX4_get_0 0 rfl rfl)
theorem dX4_get_1 : decode cX4_get 1 = .ok (.iconst 0, 1) := dk_3 (dk_at dksX4_get_0 1 rfl rfl)
theorem dX4_get_2 : decode cX4_get 2 = .ok (.aload_n 0, 1) := dk_42 (dk_at dksX4_get_0 2 rfl rfl)
theorem dX4_get_3 : decode cX4_get 3 = .ok (.getfield 7, 3) := dk_180 0 7 (dk_at dksX4_get_0 3 rfl rfl)
theorem dX4_get_6 : decode cX4_get 6 = .ok (.iload_n 1, 1) := dk_27 (dk_at dksX4_get_0 6 rfl rfl)
theorem dX4_get_7 : decode cX4_get 7 = .ok (.iadd, 1) := dk_96 (dk_at dksX4_get_0 7 rfl rfl)
theorem dX4_get_8 : decode cX4_get 8 = .ok (.invokestatic 20, 3) := dk_184 0 20 (dk_at dksX4_get_0 8 rfl rfl)
theorem dX4_get_11 : decode cX4_get 11 = .ok (.putfield 7, 3) := dk_181 0 7 (dk_at dksX4_get_0 11 rfl rfl)
theorem dX4_get_14 : decode cX4_get 14 = .ok (.return_, 1) := dk_177 (dk_at dksX4_get_0 14 rfl rfl)
theorem q74 : (Jvm.Cond.initialized "TicketScales$Customer") ∈ lw_all := lw_g (lw_at lw_m1 15 rfl) rfl
theorem q346 : (Jvm.Cond.instanceMethod ({ cls := "TicketScales$Customer", name := "copy", desc := "()LTicketScales$Customer;" } : Jvm.MethodName)) ∈ lw_all := lw_g (lw_at lw_m2 47 rfl) rfl
theorem q347 : (Jvm.Cond.selects "TicketScales$Customer" ({ cls := "TicketScales$Customer", name := "copy", desc := "()LTicketScales$Customer;" } : Jvm.MethodName) ({ cls := "TicketScales$Customer", name := "copy", desc := "()LTicketScales$Customer;" } : Jvm.MethodName)) ∈ lw_all := lw_g (lw_at lw_m2 48 rfl) rfl
theorem q348 : (Jvm.Cond.code ({ cls := "TicketScales$Customer", name := "copy", desc := "()LTicketScales$Customer;" } : Jvm.MethodName) prog_6_method_2_code (2 : Nat) (Option.some (Jvm.ClassFile.FieldType.object "TicketScales$Customer"))) ∈ lw_all := lw_g (lw_at lw_m2 49 rfl) rfl
theorem q349 : (Jvm.Cond.classLink "TicketScales$Customer" (8 : Nat) "TicketScales$Customer") ∈ lw_all := lw_g (lw_at lw_m2 50 rfl) rfl
theorem q350 : (Jvm.Cond.instantiable "TicketScales$Customer" (2 : Nat)) ∈ lw_all := lw_g (lw_at lw_m2 51 rfl) rfl
theorem q351 : (Jvm.Cond.methodLink "TicketScales$Customer" (13 : Nat) ({ cls := "TicketScales$Customer", name := "<init>", desc := "(I)V" } : Jvm.MethodName)) ∈ lw_all := lw_g (lw_at lw_m2 52 rfl) rfl
theorem q352 : (Jvm.Cond.instanceMethod ({ cls := "TicketScales$Customer", name := "<init>", desc := "(I)V" } : Jvm.MethodName)) ∈ lw_all := lw_g (lw_at lw_m2 53 rfl) rfl
theorem q353 : (Jvm.Cond.code ({ cls := "TicketScales$Customer", name := "<init>", desc := "(I)V" } : Jvm.MethodName) prog_6_method_1_code (2 : Nat) (Option.none : Option Jvm.ClassFile.FieldType)) ∈ lw_all := lw_g (lw_at lw_m2 54 rfl) rfl
theorem q354 : (Jvm.Cond.methodLink "TicketScales$Customer" (1 : Nat) ({ cls := "java/lang/Object", name := "<init>", desc := "()V" } : Jvm.MethodName)) ∈ lw_all := lw_g (lw_at lw_m2 55 rfl) rfl
theorem q355 : (Jvm.Cond.fieldLink "TicketScales$Customer" (7 : Nat) "TicketScales$Customer" "points" "I") ∈ lw_all := lw_g (lw_at lw_m2 56 rfl) rfl
theorem q358 : (Jvm.Cond.fieldLink "TicketScales$Customer" (16 : Nat) "TicketScales$Customer" "kept" "LTicketScales$Weighing;") ∈ lw_all := lw_g (lw_at lw_m2 59 rfl) rfl
theorem q361 : (Jvm.Cond.lays "TicketScales$Customer" "TicketScales$Customer" "points" "I") ∈ lw_all := lw_g (lw_at lw_m2 62 rfl) rfl
theorem q362 : (Jvm.Cond.soleField "TicketScales$Customer" "points") ∈ lw_all := lw_g (lw_at lw_m2 63 rfl) rfl
theorem q363 : (Jvm.Cond.lays "TicketScales$Customer" "TicketScales$Customer" "kept" "LTicketScales$Weighing;") ∈ lw_all := lw_g (lw_at lw_m2 64 rfl) rfl
theorem q364 : (Jvm.Cond.soleField "TicketScales$Customer" "kept") ∈ lw_all := lw_g (lw_at lw_m2 65 rfl) rfl
theorem q365 : (Jvm.Cond.superclass "TicketScales$Customer" "java/lang/Object") ∈ lw_all := lw_g (lw_at lw_m2 66 rfl) rfl
theorem q406 : (Jvm.Cond.selects "TicketScales$Customer" ({ cls := "java/lang/Object", name := "getClass", desc := "()Ljava/lang/Class;" } : Jvm.MethodName) ({ cls := "java/lang/Object", name := "getClass", desc := "()Ljava/lang/Class;" } : Jvm.MethodName)) ∈ lw_all := lw_g (lw_at lw_m2 107 rfl) rfl
theorem q775 : (Jvm.Cond.instanceMethod ({ cls := "TicketScales$Customer", name := "get", desc := "(I)V" } : Jvm.MethodName)) ∈ lw_all := lw_g (lw_at lw_m3 236 rfl) rfl
theorem q776 : (Jvm.Cond.selects "TicketScales$Customer" ({ cls := "TicketScales$Customer", name := "get", desc := "(I)V" } : Jvm.MethodName) ({ cls := "TicketScales$Customer", name := "get", desc := "(I)V" } : Jvm.MethodName)) ∈ lw_all := lw_g (lw_at lw_m3 237 rfl) rfl
theorem q777 : (Jvm.Cond.code ({ cls := "TicketScales$Customer", name := "get", desc := "(I)V" } : Jvm.MethodName) prog_6_method_3_code (2 : Nat) (Option.none : Option Jvm.ClassFile.FieldType)) ∈ lw_all := lw_g (lw_at lw_m3 238 rfl) rfl
theorem q778 : (Jvm.Cond.methodLink "TicketScales$Customer" (20 : Nat) ({ cls := "java/lang/Math", name := "max", desc := "(II)I" } : Jvm.MethodName)) ∈ lw_all := lw_g (lw_at lw_m3 239 rfl) rfl
theorem q1950 : (Jvm.Cond.castable "TicketScales$Customer" "java/lang/Object") ∈ lw_tbl := lw_at lw_m8 211 rfl
theorem in_X4 : ∀ w ∈ wsX40, w ∈ lw_all := lw_in wsX40 [361, 363] (by decide +kernel) (by decide +kernel)

/-! TicketScales$Prize -/
set_option maxRecDepth 100000
def RX5 : String := "TicketScales$Prize"
def TX5 : u_T := fun k => match k with
  | 0 => ("TicketScales$Prize", "price", "I", false)
  | 1 => ("TicketScales$Prize", "weight", "I", true)
  | 2 => ("TicketScales$Prize", "stock", "I", false)
  | 3 => ("TicketScales$Prize", "mark", "I", true)
  | 4 => ("TicketScales$Prize", "box", "I", true)
  | 5 => ("TicketScales$Prize", "sold", "I", false)
  | _ => ("TicketScales$Prize", "boxes", "I", false)
def tyX5 : Nat → FieldType := fun k => match k with
  | 0 => .int
  | 1 => .int
  | 2 => .int
  | 3 => .int
  | 4 => .int
  | 5 => .int
  | _ => .int
abbrev wsX50 : List Cond := u_ws RX5 TX5 7
theorem nmX5 : ∀ a, a < 7 → ∀ b, b < 7 → a ≠ b → (TX5 a).2.1 ≠ (TX5 b).2.1 := by decide +kernel
theorem tyX5_ok : ∀ k, k < 7 → parseFieldDescriptor (TX5 k).2.2.1 = some (tyX5 k) := by decide +kernel
abbrev cX5_copy : ByteArray := prog_13_method_2_code
def yX5_copy : MethodName := ⟨RX5, "copy", "()LTicketScales$Prize;"⟩
def dkwX5_copy_1 : List UInt8 := [183, 0, 27, 76, 43, 42, 180, 0, 30, 181, 0, 30, 43, 42, 180, 0, 33, 181, 0, 33, 43, 176]
abbrev dktX5_copy_1 : List UInt8 := dkwX5_copy_1 ++ []
def dkwX5_copy_0 : List UInt8 := [187, 0, 10, 89, 42, 180, 0, 9, 42, 180, 0, 15, 42, 180, 0, 18, 42, 180, 0, 21, 42, 180, 0, 24]
abbrev dktX5_copy_0 : List UInt8 := dkwX5_copy_0 ++ dktX5_copy_1
theorem dksX5_copy_0 : cX5_copy.data.toList.drop 0 = dktX5_copy_0 := by decide +kernel
theorem dksX5_copy_1 : cX5_copy.data.toList.drop 24 = dktX5_copy_1 := dk_seg dksX5_copy_0 24 rfl rfl
theorem dX5_copy_0 : decode cX5_copy 0 = .ok (.new 10, 3) := dk_187 0 10 (dk_at dksX5_copy_0 0 rfl rfl)
theorem dX5_copy_3 : decode cX5_copy 3 = .ok (.dup, 1) := dk_89 (dk_at dksX5_copy_0 3 rfl rfl)
theorem dX5_copy_4 : decode cX5_copy 4 = .ok (.aload_n 0, 1) := dk_42 (dk_at dksX5_copy_0 4 rfl rfl)
theorem dX5_copy_5 : decode cX5_copy 5 = .ok (.getfield 9, 3) := dk_180 0 9 (dk_at dksX5_copy_0 5 rfl rfl)
theorem dX5_copy_8 : decode cX5_copy 8 = .ok (.aload_n 0, 1) := dk_42 (dk_at dksX5_copy_0 8 rfl rfl)
theorem dX5_copy_9 : decode cX5_copy 9 = .ok (.getfield 15, 3) := dk_180 0 15 (dk_at dksX5_copy_0 9 rfl rfl)
theorem dX5_copy_12 : decode cX5_copy 12 = .ok (.aload_n 0, 1) := dk_42 (dk_at dksX5_copy_0 12 rfl rfl)
theorem dX5_copy_13 : decode cX5_copy 13 = .ok (.getfield 18, 3) := dk_180 0 18 (dk_at dksX5_copy_0 13 rfl rfl)
theorem dX5_copy_16 : decode cX5_copy 16 = .ok (.aload_n 0, 1) := dk_42 (dk_at dksX5_copy_0 16 rfl rfl)
theorem dX5_copy_17 : decode cX5_copy 17 = .ok (.getfield 21, 3) := dk_180 0 21 (dk_at dksX5_copy_0 17 rfl rfl)
theorem dX5_copy_20 : decode cX5_copy 20 = .ok (.aload_n 0, 1) := dk_42 (dk_at dksX5_copy_0 20 rfl rfl)
theorem dX5_copy_21 : decode cX5_copy 21 = .ok (.getfield 24, 3) := dk_180 0 24 (dk_at dksX5_copy_0 21 rfl rfl)
theorem dX5_copy_24 : decode cX5_copy 24 = .ok (.invokespecial 27, 3) := dk_183 0 27 (dk_at dksX5_copy_1 0 rfl rfl)
theorem dX5_copy_27 : decode cX5_copy 27 = .ok (.astore_n 1, 1) := dk_76 (dk_at dksX5_copy_1 3 rfl rfl)
theorem dX5_copy_28 : decode cX5_copy 28 = .ok (.aload_n 1, 1) := dk_43 (dk_at dksX5_copy_1 4 rfl rfl)
theorem dX5_copy_29 : decode cX5_copy 29 = .ok (.aload_n 0, 1) := dk_42 (dk_at dksX5_copy_1 5 rfl rfl)
theorem dX5_copy_30 : decode cX5_copy 30 = .ok (.getfield 30, 3) := dk_180 0 30 (dk_at dksX5_copy_1 6 rfl rfl)
theorem dX5_copy_33 : decode cX5_copy 33 = .ok (.putfield 30, 3) := dk_181 0 30 (dk_at dksX5_copy_1 9 rfl rfl)
theorem dX5_copy_36 : decode cX5_copy 36 = .ok (.aload_n 1, 1) := dk_43 (dk_at dksX5_copy_1 12 rfl rfl)
theorem dX5_copy_37 : decode cX5_copy 37 = .ok (.aload_n 0, 1) := dk_42 (dk_at dksX5_copy_1 13 rfl rfl)
theorem dX5_copy_38 : decode cX5_copy 38 = .ok (.getfield 33, 3) := dk_180 0 33 (dk_at dksX5_copy_1 14 rfl rfl)
theorem dX5_copy_41 : decode cX5_copy 41 = .ok (.putfield 33, 3) := dk_181 0 33 (dk_at dksX5_copy_1 17 rfl rfl)
theorem dX5_copy_44 : decode cX5_copy 44 = .ok (.aload_n 1, 1) := dk_43 (dk_at dksX5_copy_1 20 rfl rfl)
theorem dX5_copy_45 : decode cX5_copy 45 = .ok (.areturn, 1) := dk_176 (dk_at dksX5_copy_1 21 rfl rfl)
abbrev cX5_init : ByteArray := prog_13_method_1_code
def yX5_init : MethodName := ⟨RX5, "<init>", "(IIIII)V"⟩
def dkwX5_init_1 : List UInt8 := [181, 0, 21, 42, 21, 5, 181, 0, 24, 177]
abbrev dktX5_init_1 : List UInt8 := dkwX5_init_1 ++ []
def dkwX5_init_0 : List UInt8 := [42, 183, 0, 3, 42, 27, 181, 0, 9, 42, 28, 181, 0, 15, 42, 29, 181, 0, 18, 42, 21, 4]
abbrev dktX5_init_0 : List UInt8 := dkwX5_init_0 ++ dktX5_init_1
theorem dksX5_init_0 : cX5_init.data.toList.drop 0 = dktX5_init_0 := by decide +kernel
theorem dksX5_init_1 : cX5_init.data.toList.drop 22 = dktX5_init_1 := dk_seg dksX5_init_0 22 rfl rfl
theorem dX5_init_0 : decode cX5_init 0 = .ok (.aload_n 0, 1) := dk_42 (dk_at dksX5_init_0 0 rfl rfl)
theorem dX5_init_1 : decode cX5_init 1 = .ok (.invokespecial 3, 3) := dk_183 0 3 (dk_at dksX5_init_0 1 rfl rfl)
theorem dX5_init_4 : decode cX5_init 4 = .ok (.aload_n 0, 1) := dk_42 (dk_at dksX5_init_0 4 rfl rfl)
theorem dX5_init_5 : decode cX5_init 5 = .ok (.iload_n 1, 1) := dk_27 (dk_at dksX5_init_0 5 rfl rfl)
theorem dX5_init_6 : decode cX5_init 6 = .ok (.putfield 9, 3) := dk_181 0 9 (dk_at dksX5_init_0 6 rfl rfl)
theorem dX5_init_9 : decode cX5_init 9 = .ok (.aload_n 0, 1) := dk_42 (dk_at dksX5_init_0 9 rfl rfl)
theorem dX5_init_10 : decode cX5_init 10 = .ok (.iload_n 2, 1) := dk_28 (dk_at dksX5_init_0 10 rfl rfl)
theorem dX5_init_11 : decode cX5_init 11 = .ok (.putfield 15, 3) := dk_181 0 15 (dk_at dksX5_init_0 11 rfl rfl)
theorem dX5_init_14 : decode cX5_init 14 = .ok (.aload_n 0, 1) := dk_42 (dk_at dksX5_init_0 14 rfl rfl)
theorem dX5_init_15 : decode cX5_init 15 = .ok (.iload_n 3, 1) := dk_29 (dk_at dksX5_init_0 15 rfl rfl)
theorem dX5_init_16 : decode cX5_init 16 = .ok (.putfield 18, 3) := dk_181 0 18 (dk_at dksX5_init_0 16 rfl rfl)
theorem dX5_init_19 : decode cX5_init 19 = .ok (.aload_n 0, 1) := dk_42 (dk_at dksX5_init_0 19 rfl rfl)
theorem dX5_init_20 : decode cX5_init 20 = .ok (.iload 4, 2) := dk_21 4 (dk_at dksX5_init_0 20 rfl rfl)
theorem dX5_init_22 : decode cX5_init 22 = .ok (.putfield 21, 3) := dk_181 0 21 (dk_at dksX5_init_1 0 rfl rfl)
theorem dX5_init_25 : decode cX5_init 25 = .ok (.aload_n 0, 1) := dk_42 (dk_at dksX5_init_1 3 rfl rfl)
theorem dX5_init_26 : decode cX5_init 26 = .ok (.iload 5, 2) := dk_21 5 (dk_at dksX5_init_1 4 rfl rfl)
theorem dX5_init_28 : decode cX5_init 28 = .ok (.putfield 24, 3) := dk_181 0 24 (dk_at dksX5_init_1 6 rfl rfl)
theorem dX5_init_31 : decode cX5_init 31 = .ok (.return_, 1) := dk_177 (dk_at dksX5_init_1 9 rfl rfl)
abbrev cX5_sell : ByteArray := prog_13_method_3_code
def yX5_sell : MethodName := ⟨RX5, "sell", "(I)V"⟩
def dkwX5_sell_3 : List UInt8 := [42, 180, 0, 24, 42, 180, 0, 15, 108, 133, 105, 97, 184, 0, 38, 136, 181, 0, 18, 177]
abbrev dktX5_sell_3 : List UInt8 := dkwX5_sell_3 ++ []
def dkwX5_sell_2 : List UInt8 := [181, 0, 30, 42, 89, 180, 0, 33, 32, 136, 96, 181, 0, 33, 42, 20, 0, 36, 42, 180, 0, 18, 133, 32]
abbrev dktX5_sell_2 : List UInt8 := dkwX5_sell_2 ++ dktX5_sell_3
def dkwX5_sell_1 : List UInt8 := [181, 0, 30, 42, 180, 0, 30, 42, 180, 0, 21, 108, 133, 65, 42, 89, 180, 0, 30, 42, 180, 0, 21, 112]
abbrev dktX5_sell_1 : List UInt8 := dkwX5_sell_1 ++ dktX5_sell_2
def dkwX5_sell_0 : List UInt8 := [42, 89, 180, 0, 18, 27, 100, 181, 0, 18, 42, 89, 180, 0, 30, 27, 42, 180, 0, 15, 104, 96]
abbrev dktX5_sell_0 : List UInt8 := dkwX5_sell_0 ++ dktX5_sell_1
theorem dksX5_sell_0 : cX5_sell.data.toList.drop 0 = dktX5_sell_0 := by decide +kernel
theorem dksX5_sell_1 : cX5_sell.data.toList.drop 22 = dktX5_sell_1 := dk_seg dksX5_sell_0 22 rfl rfl
theorem dksX5_sell_2 : cX5_sell.data.toList.drop 46 = dktX5_sell_2 := dk_seg dksX5_sell_1 24 rfl rfl
theorem dksX5_sell_3 : cX5_sell.data.toList.drop 70 = dktX5_sell_3 := dk_seg dksX5_sell_2 24 rfl rfl
theorem dX5_sell_0 : decode cX5_sell 0 = .ok (.aload_n 0, 1) := dk_42 (dk_at dksX5_sell_0 0 rfl rfl)
theorem dX5_sell_1 : decode cX5_sell 1 = .ok (.dup, 1) := dk_89 (dk_at dksX5_sell_0 1 rfl rfl)
theorem dX5_sell_2 : decode cX5_sell 2 = .ok (.getfield 18, 3) := dk_180 0 18 (dk_at dksX5_sell_0 2 rfl rfl)
theorem dX5_sell_5 : decode cX5_sell 5 = .ok (.iload_n 1, 1) := dk_27 (dk_at dksX5_sell_0 5 rfl rfl)
theorem dX5_sell_6 : decode cX5_sell 6 = .ok (.isub, 1) := dk_100 (dk_at dksX5_sell_0 6 rfl rfl)
theorem dX5_sell_7 : decode cX5_sell 7 = .ok (.putfield 18, 3) := dk_181 0 18 (dk_at dksX5_sell_0 7 rfl rfl)
theorem dX5_sell_10 : decode cX5_sell 10 = .ok (.aload_n 0, 1) := dk_42 (dk_at dksX5_sell_0 10 rfl rfl)
theorem dX5_sell_11 : decode cX5_sell 11 = .ok (.dup, 1) := dk_89 (dk_at dksX5_sell_0 11 rfl rfl)
theorem dX5_sell_12 : decode cX5_sell 12 = .ok (.getfield 30, 3) := dk_180 0 30 (dk_at dksX5_sell_0 12 rfl rfl)
theorem dX5_sell_15 : decode cX5_sell 15 = .ok (.iload_n 1, 1) := dk_27 (dk_at dksX5_sell_0 15 rfl rfl)
theorem dX5_sell_16 : decode cX5_sell 16 = .ok (.aload_n 0, 1) := dk_42 (dk_at dksX5_sell_0 16 rfl rfl)
theorem dX5_sell_17 : decode cX5_sell 17 = .ok (.getfield 15, 3) := dk_180 0 15 (dk_at dksX5_sell_0 17 rfl rfl)
theorem dX5_sell_20 : decode cX5_sell 20 = .ok (.imul, 1) := dk_104 (dk_at dksX5_sell_0 20 rfl rfl)
theorem dX5_sell_21 : decode cX5_sell 21 = .ok (.iadd, 1) := dk_96 (dk_at dksX5_sell_0 21 rfl rfl)
theorem dX5_sell_22 : decode cX5_sell 22 = .ok (.putfield 30, 3) := dk_181 0 30 (dk_at dksX5_sell_1 0 rfl rfl)
theorem dX5_sell_25 : decode cX5_sell 25 = .ok (.aload_n 0, 1) := dk_42 (dk_at dksX5_sell_1 3 rfl rfl)
theorem dX5_sell_26 : decode cX5_sell 26 = .ok (.getfield 30, 3) := dk_180 0 30 (dk_at dksX5_sell_1 4 rfl rfl)
theorem dX5_sell_29 : decode cX5_sell 29 = .ok (.aload_n 0, 1) := dk_42 (dk_at dksX5_sell_1 7 rfl rfl)
theorem dX5_sell_30 : decode cX5_sell 30 = .ok (.getfield 21, 3) := dk_180 0 21 (dk_at dksX5_sell_1 8 rfl rfl)
theorem dX5_sell_33 : decode cX5_sell 33 = .ok (.idiv, 1) := dk_108 (dk_at dksX5_sell_1 11 rfl rfl)
theorem dX5_sell_34 : decode cX5_sell 34 = .ok (.i2l, 1) := dk_133 (dk_at dksX5_sell_1 12 rfl rfl)
theorem dX5_sell_35 : decode cX5_sell 35 = .ok (.lstore_n 2, 1) := dk_65 (dk_at dksX5_sell_1 13 rfl rfl)
theorem dX5_sell_36 : decode cX5_sell 36 = .ok (.aload_n 0, 1) := dk_42 (dk_at dksX5_sell_1 14 rfl rfl)
theorem dX5_sell_37 : decode cX5_sell 37 = .ok (.dup, 1) := dk_89 (dk_at dksX5_sell_1 15 rfl rfl)
theorem dX5_sell_38 : decode cX5_sell 38 = .ok (.getfield 30, 3) := dk_180 0 30 (dk_at dksX5_sell_1 16 rfl rfl)
theorem dX5_sell_41 : decode cX5_sell 41 = .ok (.aload_n 0, 1) := dk_42 (dk_at dksX5_sell_1 19 rfl rfl)
theorem dX5_sell_42 : decode cX5_sell 42 = .ok (.getfield 21, 3) := dk_180 0 21 (dk_at dksX5_sell_1 20 rfl rfl)
theorem dX5_sell_45 : decode cX5_sell 45 = .ok (.irem, 1) := dk_112 (dk_at dksX5_sell_1 23 rfl rfl)
theorem dX5_sell_46 : decode cX5_sell 46 = .ok (.putfield 30, 3) := dk_181 0 30 (dk_at dksX5_sell_2 0 rfl rfl)
theorem dX5_sell_49 : decode cX5_sell 49 = .ok (.aload_n 0, 1) := dk_42 (dk_at dksX5_sell_2 3 rfl rfl)
theorem dX5_sell_50 : decode cX5_sell 50 = .ok (.dup, 1) := dk_89 (dk_at dksX5_sell_2 4 rfl rfl)
theorem dX5_sell_51 : decode cX5_sell 51 = .ok (.getfield 33, 3) := dk_180 0 33 (dk_at dksX5_sell_2 5 rfl rfl)
theorem dX5_sell_54 : decode cX5_sell 54 = .ok (.lload_n 2, 1) := dk_32 (dk_at dksX5_sell_2 8 rfl rfl)
theorem dX5_sell_55 : decode cX5_sell 55 = .ok (.l2i, 1) := dk_136 (dk_at dksX5_sell_2 9 rfl rfl)
theorem dX5_sell_56 : decode cX5_sell 56 = .ok (.iadd, 1) := dk_96 (dk_at dksX5_sell_2 10 rfl rfl)
theorem dX5_sell_57 : decode cX5_sell 57 = .ok (.putfield 33, 3) := dk_181 0 33 (dk_at dksX5_sell_2 11 rfl rfl)
theorem dX5_sell_60 : decode cX5_sell 60 = .ok (.aload_n 0, 1) := dk_42 (dk_at dksX5_sell_2 14 rfl rfl)
theorem dX5_sell_61 : decode cX5_sell 61 = .ok (.ldc2_w 36, 3) := dk_20 0 36 (dk_at dksX5_sell_2 15 rfl rfl)
theorem dX5_sell_64 : decode cX5_sell 64 = .ok (.aload_n 0, 1) := dk_42 (dk_at dksX5_sell_2 18 rfl rfl)
theorem dX5_sell_65 : decode cX5_sell 65 = .ok (.getfield 18, 3) := dk_180 0 18 (dk_at dksX5_sell_2 19 rfl rfl)
theorem dX5_sell_68 : decode cX5_sell 68 = .ok (.i2l, 1) := dk_133 (dk_at dksX5_sell_2 22 rfl rfl)
theorem dX5_sell_69 : decode cX5_sell 69 = .ok (.lload_n 2, 1) := dk_32 (dk_at dksX5_sell_2 23 rfl rfl)
theorem dX5_sell_70 : decode cX5_sell 70 = .ok (.aload_n 0, 1) := dk_42 (dk_at dksX5_sell_3 0 rfl rfl)
theorem dX5_sell_71 : decode cX5_sell 71 = .ok (.getfield 24, 3) := dk_180 0 24 (dk_at dksX5_sell_3 1 rfl rfl)
theorem dX5_sell_74 : decode cX5_sell 74 = .ok (.aload_n 0, 1) := dk_42 (dk_at dksX5_sell_3 4 rfl rfl)
theorem dX5_sell_75 : decode cX5_sell 75 = .ok (.getfield 15, 3) := dk_180 0 15 (dk_at dksX5_sell_3 5 rfl rfl)
theorem dX5_sell_78 : decode cX5_sell 78 = .ok (.idiv, 1) := dk_108 (dk_at dksX5_sell_3 8 rfl rfl)
theorem dX5_sell_79 : decode cX5_sell 79 = .ok (.i2l, 1) := dk_133 (dk_at dksX5_sell_3 9 rfl rfl)
theorem dX5_sell_80 : decode cX5_sell 80 = .ok (.lmul, 1) := dk_105 (dk_at dksX5_sell_3 10 rfl rfl)
theorem dX5_sell_81 : decode cX5_sell 81 = .ok (.ladd, 1) := dk_97 (dk_at dksX5_sell_3 11 rfl rfl)
theorem dX5_sell_82 : decode cX5_sell 82 = .ok (.invokestatic 38, 3) := dk_184 0 38 (dk_at dksX5_sell_3 12 rfl rfl)
theorem dX5_sell_85 : decode cX5_sell 85 = .ok (.l2i, 1) := dk_136 (dk_at dksX5_sell_3 15 rfl rfl)
theorem dX5_sell_86 : decode cX5_sell 86 = .ok (.putfield 18, 3) := dk_181 0 18 (dk_at dksX5_sell_3 16 rfl rfl)
theorem dX5_sell_89 : decode cX5_sell 89 = .ok (.return_, 1) := dk_177 (dk_at dksX5_sell_3 19 rfl rfl)
abbrev cX5_part : ByteArray := prog_13_method_5_code
def yX5_part : MethodName := ⟨RX5, "part", "(I)I"⟩
def dkwX5_part_4 : List UInt8 := [167, 0, 5, 18, 53, 172]
abbrev dktX5_part_4 : List UInt8 := dkwX5_part_4 ++ []
def dkwX5_part_3 : List UInt8 := [180, 0, 21, 167, 0, 26, 42, 180, 0, 24, 167, 0, 19, 42, 180, 0, 30, 167, 0, 12, 42, 180, 0, 33]
abbrev dktX5_part_3 : List UInt8 := dkwX5_part_3 ++ dktX5_part_4
def dkwX5_part_2 : List UInt8 := [42, 180, 0, 9, 167, 0, 47, 42, 180, 0, 15, 167, 0, 40, 42, 180, 0, 18, 167, 0, 33, 42]
abbrev dktX5_part_2 : List UInt8 := dkwX5_part_2 ++ dktX5_part_3
def dkwX5_part_1 : List UInt8 := [170, 0, 0, 0, 0, 0, 92, 0, 0, 0, 0, 0, 0, 0, 6, 0, 0, 0, 43, 0, 0, 0, 50, 0, 0, 0, 57, 0, 0, 0, 64, 0, 0, 0, 71, 0, 0, 0, 78, 0, 0, 0, 85]
abbrev dktX5_part_1 : List UInt8 := dkwX5_part_1 ++ dktX5_part_2
def dkwX5_part_0 : List UInt8 := [27]
abbrev dktX5_part_0 : List UInt8 := dkwX5_part_0 ++ dktX5_part_1
theorem dksX5_part_0 : cX5_part.data.toList.drop 0 = dktX5_part_0 := by decide +kernel
theorem dksX5_part_1 : cX5_part.data.toList.drop 1 = dktX5_part_1 := dk_seg dksX5_part_0 1 rfl rfl
theorem dksX5_part_2 : cX5_part.data.toList.drop 44 = dktX5_part_2 := dk_seg dksX5_part_1 43 rfl rfl
theorem dksX5_part_3 : cX5_part.data.toList.drop 66 = dktX5_part_3 := dk_seg dksX5_part_2 22 rfl rfl
theorem dksX5_part_4 : cX5_part.data.toList.drop 90 = dktX5_part_4 := dk_seg dksX5_part_3 24 rfl rfl
theorem dX5_part_0 : decode cX5_part 0 = .ok (.iload_n 1, 1) := dk_27 (dk_at dksX5_part_0 0 rfl rfl)
theorem dX5_part_1 : decode cX5_part 1 = .ok (.tableswitch 92 0 6 #[43, 50, 57, 64, 71, 78, 85], 43) := by decide +kernel
theorem dX5_part_44 : decode cX5_part 44 = .ok (.aload_n 0, 1) := dk_42 (dk_at dksX5_part_2 0 rfl rfl)
theorem dX5_part_45 : decode cX5_part 45 = .ok (.getfield 9, 3) := dk_180 0 9 (dk_at dksX5_part_2 1 rfl rfl)
theorem dX5_part_48 : decode cX5_part 48 = .ok (.goto 47, 3) := dk_167 0 47 (dk_at dksX5_part_2 4 rfl rfl)
theorem dX5_part_51 : decode cX5_part 51 = .ok (.aload_n 0, 1) := dk_42 (dk_at dksX5_part_2 7 rfl rfl)
theorem dX5_part_52 : decode cX5_part 52 = .ok (.getfield 15, 3) := dk_180 0 15 (dk_at dksX5_part_2 8 rfl rfl)
theorem dX5_part_55 : decode cX5_part 55 = .ok (.goto 40, 3) := dk_167 0 40 (dk_at dksX5_part_2 11 rfl rfl)
theorem dX5_part_58 : decode cX5_part 58 = .ok (.aload_n 0, 1) := dk_42 (dk_at dksX5_part_2 14 rfl rfl)
theorem dX5_part_59 : decode cX5_part 59 = .ok (.getfield 18, 3) := dk_180 0 18 (dk_at dksX5_part_2 15 rfl rfl)
theorem dX5_part_62 : decode cX5_part 62 = .ok (.goto 33, 3) := dk_167 0 33 (dk_at dksX5_part_2 18 rfl rfl)
theorem dX5_part_65 : decode cX5_part 65 = .ok (.aload_n 0, 1) := dk_42 (dk_at dksX5_part_2 21 rfl rfl)
theorem dX5_part_66 : decode cX5_part 66 = .ok (.getfield 21, 3) := dk_180 0 21 (dk_at dksX5_part_3 0 rfl rfl)
theorem dX5_part_69 : decode cX5_part 69 = .ok (.goto 26, 3) := dk_167 0 26 (dk_at dksX5_part_3 3 rfl rfl)
theorem dX5_part_72 : decode cX5_part 72 = .ok (.aload_n 0, 1) := dk_42 (dk_at dksX5_part_3 6 rfl rfl)
theorem dX5_part_73 : decode cX5_part 73 = .ok (.getfield 24, 3) := dk_180 0 24 (dk_at dksX5_part_3 7 rfl rfl)
theorem dX5_part_76 : decode cX5_part 76 = .ok (.goto 19, 3) := dk_167 0 19 (dk_at dksX5_part_3 10 rfl rfl)
theorem dX5_part_79 : decode cX5_part 79 = .ok (.aload_n 0, 1) := dk_42 (dk_at dksX5_part_3 13 rfl rfl)
theorem dX5_part_80 : decode cX5_part 80 = .ok (.getfield 30, 3) := dk_180 0 30 (dk_at dksX5_part_3 14 rfl rfl)
theorem dX5_part_83 : decode cX5_part 83 = .ok (.goto 12, 3) := dk_167 0 12 (dk_at dksX5_part_3 17 rfl rfl)
theorem dX5_part_86 : decode cX5_part 86 = .ok (.aload_n 0, 1) := dk_42 (dk_at dksX5_part_3 20 rfl rfl)
theorem dX5_part_87 : decode cX5_part 87 = .ok (.getfield 33, 3) := dk_180 0 33 (dk_at dksX5_part_3 21 rfl rfl)
theorem dX5_part_90 : decode cX5_part 90 = .ok (.goto 5, 3) := dk_167 0 5 (dk_at dksX5_part_4 0 rfl rfl)
theorem dX5_part_93 : decode cX5_part 93 = .ok (.ldc 53, 2) := dk_18 53 (dk_at dksX5_part_4 3 rfl rfl)
theorem dX5_part_95 : decode cX5_part 95 = .ok (.ireturn, 1) := dk_172 (dk_at dksX5_part_4 5 rfl rfl)
abbrev cX5_soldOut : ByteArray := prog_13_method_4_code
def yX5_soldOut : MethodName := ⟨RX5, "soldOut", "()I"⟩
def dkwX5_soldOut_1 : List UInt8 := [4, 182, 0, 48, 132, 2, 1, 167, 255, 232, 18, 52, 172]
abbrev dktX5_soldOut_1 : List UInt8 := dkwX5_soldOut_1 ++ []
def dkwX5_soldOut_0 : List UInt8 := [42, 182, 0, 44, 76, 3, 61, 28, 17, 3, 231, 163, 0, 23, 43, 180, 0, 18, 154, 0, 5, 28, 172, 43]
abbrev dktX5_soldOut_0 : List UInt8 := dkwX5_soldOut_0 ++ dktX5_soldOut_1
theorem dksX5_soldOut_0 : cX5_soldOut.data.toList.drop 0 = dktX5_soldOut_0 := by decide +kernel
theorem dksX5_soldOut_1 : cX5_soldOut.data.toList.drop 24 = dktX5_soldOut_1 := dk_seg dksX5_soldOut_0 24 rfl rfl
theorem dX5_soldOut_0 : decode cX5_soldOut 0 = .ok (.aload_n 0, 1) := dk_42 (dk_at dksX5_soldOut_0 0 rfl rfl)
theorem dX5_soldOut_1 : decode cX5_soldOut 1 = .ok (.invokevirtual 44, 3) := dk_182 0 44 (dk_at dksX5_soldOut_0 1 rfl rfl)
theorem dX5_soldOut_4 : decode cX5_soldOut 4 = .ok (.astore_n 1, 1) := dk_76 (dk_at dksX5_soldOut_0 4 rfl rfl)
theorem dX5_soldOut_5 : decode cX5_soldOut 5 = .ok (.iconst 0, 1) := dk_3 (dk_at dksX5_soldOut_0 5 rfl rfl)
theorem dX5_soldOut_6 : decode cX5_soldOut 6 = .ok (.istore_n 2, 1) := dk_61 (dk_at dksX5_soldOut_0 6 rfl rfl)
theorem dX5_soldOut_7 : decode cX5_soldOut 7 = .ok (.iload_n 2, 1) := dk_28 (dk_at dksX5_soldOut_0 7 rfl rfl)
theorem dX5_soldOut_8 : decode cX5_soldOut 8 = .ok (.sipush 999, 3) := dk_17 3 231 (dk_at dksX5_soldOut_0 8 rfl rfl)
theorem dX5_soldOut_11 : decode cX5_soldOut 11 = .ok (.if_icmp .gt 23, 3) := dk_163 0 23 (dk_at dksX5_soldOut_0 11 rfl rfl)
theorem dX5_soldOut_14 : decode cX5_soldOut 14 = .ok (.aload_n 1, 1) := dk_43 (dk_at dksX5_soldOut_0 14 rfl rfl)
theorem dX5_soldOut_15 : decode cX5_soldOut 15 = .ok (.getfield 18, 3) := dk_180 0 18 (dk_at dksX5_soldOut_0 15 rfl rfl)
theorem dX5_soldOut_18 : decode cX5_soldOut 18 = .ok (.ifCond .ne 5, 3) := dk_154 0 5 (dk_at dksX5_soldOut_0 18 rfl rfl)
theorem dX5_soldOut_21 : decode cX5_soldOut 21 = .ok (.iload_n 2, 1) := dk_28 (dk_at dksX5_soldOut_0 21 rfl rfl)
theorem dX5_soldOut_22 : decode cX5_soldOut 22 = .ok (.ireturn, 1) := dk_172 (dk_at dksX5_soldOut_0 22 rfl rfl)
theorem dX5_soldOut_23 : decode cX5_soldOut 23 = .ok (.aload_n 1, 1) := dk_43 (dk_at dksX5_soldOut_0 23 rfl rfl)
theorem dX5_soldOut_24 : decode cX5_soldOut 24 = .ok (.iconst 1, 1) := dk_4 (dk_at dksX5_soldOut_1 0 rfl rfl)
theorem dX5_soldOut_25 : decode cX5_soldOut 25 = .ok (.invokevirtual 48, 3) := dk_182 0 48 (dk_at dksX5_soldOut_1 1 rfl rfl)
theorem dX5_soldOut_28 : decode cX5_soldOut 28 = .ok (.iinc 2 1, 3) := dk_132 2 1 (dk_at dksX5_soldOut_1 4 rfl rfl)
theorem dX5_soldOut_31 : decode cX5_soldOut 31 = .ok (.goto (-24), 3) := dk_167 255 232 (dk_at dksX5_soldOut_1 7 rfl rfl)
theorem dX5_soldOut_34 : decode cX5_soldOut 34 = .ok (.ldc 52, 2) := dk_18 52 (dk_at dksX5_soldOut_1 10 rfl rfl)
theorem dX5_soldOut_36 : decode cX5_soldOut 36 = .ok (.ireturn, 1) := dk_172 (dk_at dksX5_soldOut_1 12 rfl rfl)
theorem q78 : (Jvm.Cond.initialized "TicketScales$Prize") ∈ lw_all := lw_g (lw_at lw_m1 19 rfl) rfl
theorem q412 : (Jvm.Cond.selects "TicketScales$Prize" ({ cls := "java/lang/Object", name := "getClass", desc := "()Ljava/lang/Class;" } : Jvm.MethodName) ({ cls := "java/lang/Object", name := "getClass", desc := "()Ljava/lang/Class;" } : Jvm.MethodName)) ∈ lw_all := lw_g (lw_at lw_m2 113 rfl) rfl
theorem q440 : (Jvm.Cond.instanceMethod ({ cls := "TicketScales$Prize", name := "copy", desc := "()LTicketScales$Prize;" } : Jvm.MethodName)) ∈ lw_all := lw_g (lw_at lw_m2 141 rfl) rfl
theorem q441 : (Jvm.Cond.selects "TicketScales$Prize" ({ cls := "TicketScales$Prize", name := "copy", desc := "()LTicketScales$Prize;" } : Jvm.MethodName) ({ cls := "TicketScales$Prize", name := "copy", desc := "()LTicketScales$Prize;" } : Jvm.MethodName)) ∈ lw_all := lw_g (lw_at lw_m2 142 rfl) rfl
theorem q442 : (Jvm.Cond.code ({ cls := "TicketScales$Prize", name := "copy", desc := "()LTicketScales$Prize;" } : Jvm.MethodName) prog_13_method_2_code (2 : Nat) (Option.some (Jvm.ClassFile.FieldType.object "TicketScales$Prize"))) ∈ lw_all := lw_g (lw_at lw_m2 143 rfl) rfl
theorem q443 : (Jvm.Cond.classLink "TicketScales$Prize" (10 : Nat) "TicketScales$Prize") ∈ lw_all := lw_g (lw_at lw_m2 144 rfl) rfl
theorem q444 : (Jvm.Cond.instantiable "TicketScales$Prize" (7 : Nat)) ∈ lw_all := lw_g (lw_at lw_m2 145 rfl) rfl
theorem q445 : (Jvm.Cond.methodLink "TicketScales$Prize" (27 : Nat) ({ cls := "TicketScales$Prize", name := "<init>", desc := "(IIIII)V" } : Jvm.MethodName)) ∈ lw_all := lw_g (lw_at lw_m2 146 rfl) rfl
theorem q446 : (Jvm.Cond.instanceMethod ({ cls := "TicketScales$Prize", name := "<init>", desc := "(IIIII)V" } : Jvm.MethodName)) ∈ lw_all := lw_g (lw_at lw_m2 147 rfl) rfl
theorem q447 : (Jvm.Cond.code ({ cls := "TicketScales$Prize", name := "<init>", desc := "(IIIII)V" } : Jvm.MethodName) prog_13_method_1_code (6 : Nat) (Option.none : Option Jvm.ClassFile.FieldType)) ∈ lw_all := lw_g (lw_at lw_m2 148 rfl) rfl
theorem q448 : (Jvm.Cond.methodLink "TicketScales$Prize" (3 : Nat) ({ cls := "java/lang/Object", name := "<init>", desc := "()V" } : Jvm.MethodName)) ∈ lw_all := lw_g (lw_at lw_m2 149 rfl) rfl
theorem q449 : (Jvm.Cond.fieldLink "TicketScales$Prize" (9 : Nat) "TicketScales$Prize" "price" "I") ∈ lw_all := lw_g (lw_at lw_m2 150 rfl) rfl
theorem q452 : (Jvm.Cond.fieldLink "TicketScales$Prize" (15 : Nat) "TicketScales$Prize" "weight" "I") ∈ lw_all := lw_g (lw_at lw_m2 153 rfl) rfl
theorem q454 : (Jvm.Cond.fieldLink "TicketScales$Prize" (18 : Nat) "TicketScales$Prize" "stock" "I") ∈ lw_all := lw_g (lw_at lw_m2 155 rfl) rfl
theorem q457 : (Jvm.Cond.fieldLink "TicketScales$Prize" (21 : Nat) "TicketScales$Prize" "mark" "I") ∈ lw_all := lw_g (lw_at lw_m2 158 rfl) rfl
theorem q458 : (Jvm.Cond.fieldLink "TicketScales$Prize" (24 : Nat) "TicketScales$Prize" "box" "I") ∈ lw_all := lw_g (lw_at lw_m2 159 rfl) rfl
theorem q459 : (Jvm.Cond.fieldLink "TicketScales$Prize" (30 : Nat) "TicketScales$Prize" "sold" "I") ∈ lw_all := lw_g (lw_at lw_m2 160 rfl) rfl
theorem q460 : (Jvm.Cond.fieldLink "TicketScales$Prize" (33 : Nat) "TicketScales$Prize" "boxes" "I") ∈ lw_all := lw_g (lw_at lw_m2 161 rfl) rfl
theorem q461 : (Jvm.Cond.lays "TicketScales$Prize" "TicketScales$Prize" "price" "I") ∈ lw_all := lw_g (lw_at lw_m2 162 rfl) rfl
theorem q462 : (Jvm.Cond.soleField "TicketScales$Prize" "price") ∈ lw_all := lw_g (lw_at lw_m2 163 rfl) rfl
theorem q463 : (Jvm.Cond.laysFinal "TicketScales$Prize" "TicketScales$Prize" "weight" "I") ∈ lw_all := lw_g (lw_at lw_m2 164 rfl) rfl
theorem q464 : (Jvm.Cond.soleField "TicketScales$Prize" "weight") ∈ lw_all := lw_g (lw_at lw_m2 165 rfl) rfl
theorem q465 : (Jvm.Cond.lays "TicketScales$Prize" "TicketScales$Prize" "stock" "I") ∈ lw_all := lw_g (lw_at lw_m2 166 rfl) rfl
theorem q466 : (Jvm.Cond.soleField "TicketScales$Prize" "stock") ∈ lw_all := lw_g (lw_at lw_m2 167 rfl) rfl
theorem q467 : (Jvm.Cond.laysFinal "TicketScales$Prize" "TicketScales$Prize" "mark" "I") ∈ lw_all := lw_g (lw_at lw_m2 168 rfl) rfl
theorem q468 : (Jvm.Cond.soleField "TicketScales$Prize" "mark") ∈ lw_all := lw_g (lw_at lw_m2 169 rfl) rfl
theorem q469 : (Jvm.Cond.laysFinal "TicketScales$Prize" "TicketScales$Prize" "box" "I") ∈ lw_all := lw_g (lw_at lw_m2 170 rfl) rfl
theorem q470 : (Jvm.Cond.soleField "TicketScales$Prize" "box") ∈ lw_all := lw_g (lw_at lw_m2 171 rfl) rfl
theorem q471 : (Jvm.Cond.lays "TicketScales$Prize" "TicketScales$Prize" "sold" "I") ∈ lw_all := lw_g (lw_at lw_m2 172 rfl) rfl
theorem q472 : (Jvm.Cond.soleField "TicketScales$Prize" "sold") ∈ lw_all := lw_g (lw_at lw_m2 173 rfl) rfl
theorem q473 : (Jvm.Cond.lays "TicketScales$Prize" "TicketScales$Prize" "boxes" "I") ∈ lw_all := lw_g (lw_at lw_m2 174 rfl) rfl
theorem q474 : (Jvm.Cond.soleField "TicketScales$Prize" "boxes") ∈ lw_all := lw_g (lw_at lw_m2 175 rfl) rfl
theorem q475 : (Jvm.Cond.superclass "TicketScales$Prize" "java/lang/Object") ∈ lw_all := lw_g (lw_at lw_m2 176 rfl) rfl
theorem q845 : (Jvm.Cond.instanceMethod ({ cls := "TicketScales$Prize", name := "sell", desc := "(I)V" } : Jvm.MethodName)) ∈ lw_all := lw_g (lw_at lw_m4 66 rfl) rfl
theorem q846 : (Jvm.Cond.selects "TicketScales$Prize" ({ cls := "TicketScales$Prize", name := "sell", desc := "(I)V" } : Jvm.MethodName) ({ cls := "TicketScales$Prize", name := "sell", desc := "(I)V" } : Jvm.MethodName)) ∈ lw_all := lw_g (lw_at lw_m4 67 rfl) rfl
theorem q847 : (Jvm.Cond.code ({ cls := "TicketScales$Prize", name := "sell", desc := "(I)V" } : Jvm.MethodName) prog_13_method_3_code (4 : Nat) (Option.none : Option Jvm.ClassFile.FieldType)) ∈ lw_all := lw_g (lw_at lw_m4 68 rfl) rfl
theorem q848 : (Jvm.Cond.constantLong "TicketScales$Prize" (36 : Nat) (99 : Int64)) ∈ lw_all := lw_g (lw_at lw_m4 69 rfl) rfl
theorem q849 : (Jvm.Cond.methodLink "TicketScales$Prize" (38 : Nat) ({ cls := "java/lang/Math", name := "min", desc := "(JJ)J" } : Jvm.MethodName)) ∈ lw_all := lw_g (lw_at lw_m4 70 rfl) rfl
theorem q1479 : (Jvm.Cond.instanceMethod ({ cls := "TicketScales$Prize", name := "part", desc := "(I)I" } : Jvm.MethodName)) ∈ lw_all := lw_g (lw_at lw_m6 220 rfl) rfl
theorem q1480 : (Jvm.Cond.selects "TicketScales$Prize" ({ cls := "TicketScales$Prize", name := "part", desc := "(I)I" } : Jvm.MethodName) ({ cls := "TicketScales$Prize", name := "part", desc := "(I)I" } : Jvm.MethodName)) ∈ lw_all := lw_g (lw_at lw_m6 221 rfl) rfl
theorem q1481 : (Jvm.Cond.code ({ cls := "TicketScales$Prize", name := "part", desc := "(I)I" } : Jvm.MethodName) prog_13_method_5_code (2 : Nat) (Option.some Jvm.ClassFile.FieldType.int)) ∈ lw_all := lw_g (lw_at lw_m6 222 rfl) rfl
theorem q1482 : (Jvm.Cond.constant "TicketScales$Prize" (53 : Nat) (-100001 : Int32)) ∈ lw_all := lw_g (lw_at lw_m6 223 rfl) rfl
theorem q1546 : (Jvm.Cond.instanceMethod ({ cls := "TicketScales$Prize", name := "soldOut", desc := "()I" } : Jvm.MethodName)) ∈ lw_all := lw_g (lw_at lw_m7 47 rfl) rfl
theorem q1547 : (Jvm.Cond.selects "TicketScales$Prize" ({ cls := "TicketScales$Prize", name := "soldOut", desc := "()I" } : Jvm.MethodName) ({ cls := "TicketScales$Prize", name := "soldOut", desc := "()I" } : Jvm.MethodName)) ∈ lw_all := lw_g (lw_at lw_m7 48 rfl) rfl
theorem q1548 : (Jvm.Cond.code ({ cls := "TicketScales$Prize", name := "soldOut", desc := "()I" } : Jvm.MethodName) prog_13_method_4_code (3 : Nat) (Option.some Jvm.ClassFile.FieldType.int)) ∈ lw_all := lw_g (lw_at lw_m7 49 rfl) rfl
theorem q1549 : (Jvm.Cond.methodLink "TicketScales$Prize" (44 : Nat) ({ cls := "TicketScales$Prize", name := "copy", desc := "()LTicketScales$Prize;" } : Jvm.MethodName)) ∈ lw_all := lw_g (lw_at lw_m7 50 rfl) rfl
theorem q1550 : (Jvm.Cond.methodLink "TicketScales$Prize" (48 : Nat) ({ cls := "TicketScales$Prize", name := "sell", desc := "(I)V" } : Jvm.MethodName)) ∈ lw_all := lw_g (lw_at lw_m7 51 rfl) rfl
theorem q1551 : (Jvm.Cond.constant "TicketScales$Prize" (52 : Nat) (-100009 : Int32)) ∈ lw_all := lw_g (lw_at lw_m7 52 rfl) rfl
theorem q1951 : (Jvm.Cond.castable "TicketScales$Prize" "java/lang/Object") ∈ lw_tbl := lw_at lw_m8 212 rfl
theorem in_X5 : ∀ w ∈ wsX50, w ∈ lw_all := lw_in wsX50 [461, 463, 465, 467, 469, 471, 473] (by decide +kernel) (by decide +kernel)

/-! TicketScales$Range -/
set_option maxRecDepth 100000
def RX6 : String := "TicketScales$Range"
def TX6 : u_T := fun k => match k with
  | 0 => ("TicketScales$Range", "least", "I", true)
  | _ => ("TicketScales$Range", "greatest", "I", true)
def tyX6 : Nat → FieldType := fun k => match k with
  | 0 => .int
  | _ => .int
abbrev wsX60 : List Cond := u_ws RX6 TX6 2
theorem nmX6 : ∀ a, a < 2 → ∀ b, b < 2 → a ≠ b → (TX6 a).2.1 ≠ (TX6 b).2.1 := by decide +kernel
theorem tyX6_ok : ∀ k, k < 2 → parseFieldDescriptor (TX6 k).2.2.1 = some (tyX6 k) := by decide +kernel
abbrev cX6_init : ByteArray := prog_15_method_1_code
def yX6_init : MethodName := ⟨RX6, "<init>", "(II)V"⟩
def dkwX6_init_0 : List UInt8 := [42, 183, 0, 1, 42, 27, 181, 0, 7, 42, 28, 181, 0, 13, 177]
abbrev dktX6_init_0 : List UInt8 := dkwX6_init_0 ++ []
theorem dksX6_init_0 : cX6_init.data.toList.drop 0 = dktX6_init_0 := by decide +kernel
theorem dX6_init_0 : decode cX6_init 0 = .ok (.aload_n 0, 1) := dk_42 (dk_at dksX6_init_0 0 rfl rfl)
theorem dX6_init_1 : decode cX6_init 1 = .ok (.invokespecial 1, 3) := dk_183 0 1 (dk_at dksX6_init_0 1 rfl rfl)
theorem dX6_init_4 : decode cX6_init 4 = .ok (.aload_n 0, 1) := dk_42 (dk_at dksX6_init_0 4 rfl rfl)
theorem dX6_init_5 : decode cX6_init 5 = .ok (.iload_n 1, 1) := dk_27 (dk_at dksX6_init_0 5 rfl rfl)
theorem dX6_init_6 : decode cX6_init 6 = .ok (.putfield 7, 3) := dk_181 0 7 (dk_at dksX6_init_0 6 rfl rfl)
theorem dX6_init_9 : decode cX6_init 9 = .ok (.aload_n 0, 1) := dk_42 (dk_at dksX6_init_0 9 rfl rfl)
theorem dX6_init_10 : decode cX6_init 10 = .ok (.iload_n 2, 1) := dk_28 (dk_at dksX6_init_0 10 rfl rfl)
theorem dX6_init_11 : decode cX6_init 11 = .ok (.putfield 13, 3) := dk_181 0 13 (dk_at dksX6_init_0 11 rfl rfl)
theorem dX6_init_14 : decode cX6_init 14 = .ok (.return_, 1) := dk_177 (dk_at dksX6_init_0 14 rfl rfl)
abbrev cX6_size : ByteArray := prog_15_method_2_code
def yX6_size : MethodName := ⟨RX6, "size", "()I"⟩
def dkwX6_size_0 : List UInt8 := [3, 42, 180, 0, 13, 42, 180, 0, 7, 100, 4, 96, 184, 0, 16, 172]
abbrev dktX6_size_0 : List UInt8 := dkwX6_size_0 ++ []
theorem dksX6_size_0 : cX6_size.data.toList.drop 0 = dktX6_size_0 := by decide +kernel
theorem dX6_size_0 : decode cX6_size 0 = .ok (.iconst 0, 1) := dk_3 (dk_at dksX6_size_0 0 rfl rfl)
theorem dX6_size_1 : decode cX6_size 1 = .ok (.aload_n 0, 1) := dk_42 (dk_at dksX6_size_0 1 rfl rfl)
theorem dX6_size_2 : decode cX6_size 2 = .ok (.getfield 13, 3) := dk_180 0 13 (dk_at dksX6_size_0 2 rfl rfl)
theorem dX6_size_5 : decode cX6_size 5 = .ok (.aload_n 0, 1) := dk_42 (dk_at dksX6_size_0 5 rfl rfl)
theorem dX6_size_6 : decode cX6_size 6 = .ok (.getfield 7, 3) := dk_180 0 7 (dk_at dksX6_size_0 6 rfl rfl)
theorem dX6_size_9 : decode cX6_size 9 = .ok (.isub, 1) := dk_100 (dk_at dksX6_size_0 9 rfl rfl)
theorem dX6_size_10 : decode cX6_size 10 = .ok (.iconst 1, 1) := dk_4 (dk_at dksX6_size_0 10 rfl rfl)
theorem dX6_size_11 : decode cX6_size 11 = .ok (.iadd, 1) := dk_96 (dk_at dksX6_size_0 11 rfl rfl)
theorem dX6_size_12 : decode cX6_size 12 = .ok (.invokestatic 16, 3) := dk_184 0 16 (dk_at dksX6_size_0 12 rfl rfl)
theorem dX6_size_15 : decode cX6_size 15 = .ok (.ireturn, 1) := dk_172 (dk_at dksX6_size_0 15 rfl rfl)
abbrev cX6_nearestTo : ByteArray := prog_15_method_4_code
def yX6_nearestTo : MethodName := ⟨RX6, "nearestTo", "(I)I"⟩
def dkwX6_nearestTo_0 : List UInt8 := [42, 180, 0, 7, 42, 180, 0, 13, 27, 184, 0, 28, 184, 0, 16, 172]
abbrev dktX6_nearestTo_0 : List UInt8 := dkwX6_nearestTo_0 ++ []
theorem dksX6_nearestTo_0 : cX6_nearestTo.data.toList.drop 0 = dktX6_nearestTo_0 := by decide +kernel
theorem dX6_nearestTo_0 : decode cX6_nearestTo 0 = .ok (.aload_n 0, 1) := dk_42 (dk_at dksX6_nearestTo_0 0 rfl rfl)
theorem dX6_nearestTo_1 : decode cX6_nearestTo 1 = .ok (.getfield 7, 3) := dk_180 0 7 (dk_at dksX6_nearestTo_0 1 rfl rfl)
theorem dX6_nearestTo_4 : decode cX6_nearestTo 4 = .ok (.aload_n 0, 1) := dk_42 (dk_at dksX6_nearestTo_0 4 rfl rfl)
theorem dX6_nearestTo_5 : decode cX6_nearestTo 5 = .ok (.getfield 13, 3) := dk_180 0 13 (dk_at dksX6_nearestTo_0 5 rfl rfl)
theorem dX6_nearestTo_8 : decode cX6_nearestTo 8 = .ok (.iload_n 1, 1) := dk_27 (dk_at dksX6_nearestTo_0 8 rfl rfl)
theorem dX6_nearestTo_9 : decode cX6_nearestTo 9 = .ok (.invokestatic 28, 3) := dk_184 0 28 (dk_at dksX6_nearestTo_0 9 rfl rfl)
theorem dX6_nearestTo_12 : decode cX6_nearestTo 12 = .ok (.invokestatic 16, 3) := dk_184 0 16 (dk_at dksX6_nearestTo_0 12 rfl rfl)
theorem dX6_nearestTo_15 : decode cX6_nearestTo 15 = .ok (.ireturn, 1) := dk_172 (dk_at dksX6_nearestTo_0 15 rfl rfl)
abbrev cX6_has : ByteArray := prog_15_method_3_code
def yX6_has : MethodName := ⟨RX6, "has", "(I)Z"⟩
def dkwX6_has_0 : List UInt8 := [27, 42, 180, 0, 7, 42, 180, 0, 13, 184, 0, 22, 172]
abbrev dktX6_has_0 : List UInt8 := dkwX6_has_0 ++ []
theorem dksX6_has_0 : cX6_has.data.toList.drop 0 = dktX6_has_0 := by decide +kernel
theorem dX6_has_0 : decode cX6_has 0 = .ok (.iload_n 1, 1) := dk_27 (dk_at dksX6_has_0 0 rfl rfl)
theorem dX6_has_1 : decode cX6_has 1 = .ok (.aload_n 0, 1) := dk_42 (dk_at dksX6_has_0 1 rfl rfl)
theorem dX6_has_2 : decode cX6_has 2 = .ok (.getfield 7, 3) := dk_180 0 7 (dk_at dksX6_has_0 2 rfl rfl)
theorem dX6_has_5 : decode cX6_has 5 = .ok (.aload_n 0, 1) := dk_42 (dk_at dksX6_has_0 5 rfl rfl)
theorem dX6_has_6 : decode cX6_has 6 = .ok (.getfield 13, 3) := dk_180 0 13 (dk_at dksX6_has_0 6 rfl rfl)
theorem dX6_has_9 : decode cX6_has 9 = .ok (.invokestatic 22, 3) := dk_184 0 22 (dk_at dksX6_has_0 9 rfl rfl)
theorem dX6_has_12 : decode cX6_has 12 = .ok (.ireturn, 1) := dk_172 (dk_at dksX6_has_0 12 rfl rfl)
theorem q81 : (Jvm.Cond.initialized "TicketScales$Range") ∈ lw_all := lw_g (lw_at lw_m1 22 rfl) rfl
theorem q414 : (Jvm.Cond.selects "TicketScales$Range" ({ cls := "java/lang/Object", name := "getClass", desc := "()Ljava/lang/Class;" } : Jvm.MethodName) ({ cls := "java/lang/Object", name := "getClass", desc := "()Ljava/lang/Class;" } : Jvm.MethodName)) ∈ lw_all := lw_g (lw_at lw_m2 115 rfl) rfl
theorem q658 : (Jvm.Cond.instantiable "TicketScales$Range" (2 : Nat)) ∈ lw_all := lw_g (lw_at lw_m3 119 rfl) rfl
theorem q660 : (Jvm.Cond.instanceMethod ({ cls := "TicketScales$Range", name := "<init>", desc := "(II)V" } : Jvm.MethodName)) ∈ lw_all := lw_g (lw_at lw_m3 121 rfl) rfl
theorem q661 : (Jvm.Cond.code ({ cls := "TicketScales$Range", name := "<init>", desc := "(II)V" } : Jvm.MethodName) prog_15_method_1_code (3 : Nat) (Option.none : Option Jvm.ClassFile.FieldType)) ∈ lw_all := lw_g (lw_at lw_m3 122 rfl) rfl
theorem q662 : (Jvm.Cond.methodLink "TicketScales$Range" (1 : Nat) ({ cls := "java/lang/Object", name := "<init>", desc := "()V" } : Jvm.MethodName)) ∈ lw_all := lw_g (lw_at lw_m3 123 rfl) rfl
theorem q663 : (Jvm.Cond.fieldLink "TicketScales$Range" (7 : Nat) "TicketScales$Range" "least" "I") ∈ lw_all := lw_g (lw_at lw_m3 124 rfl) rfl
theorem q667 : (Jvm.Cond.fieldLink "TicketScales$Range" (13 : Nat) "TicketScales$Range" "greatest" "I") ∈ lw_all := lw_g (lw_at lw_m3 128 rfl) rfl
theorem q671 : (Jvm.Cond.laysFinal "TicketScales$Range" "TicketScales$Range" "least" "I") ∈ lw_all := lw_g (lw_at lw_m3 132 rfl) rfl
theorem q672 : (Jvm.Cond.soleField "TicketScales$Range" "least") ∈ lw_all := lw_g (lw_at lw_m3 133 rfl) rfl
theorem q673 : (Jvm.Cond.laysFinal "TicketScales$Range" "TicketScales$Range" "greatest" "I") ∈ lw_all := lw_g (lw_at lw_m3 134 rfl) rfl
theorem q674 : (Jvm.Cond.soleField "TicketScales$Range" "greatest") ∈ lw_all := lw_g (lw_at lw_m3 135 rfl) rfl
theorem q675 : (Jvm.Cond.superclass "TicketScales$Range" "java/lang/Object") ∈ lw_all := lw_g (lw_at lw_m3 136 rfl) rfl
theorem q698 : (Jvm.Cond.instanceMethod ({ cls := "TicketScales$Range", name := "size", desc := "()I" } : Jvm.MethodName)) ∈ lw_all := lw_g (lw_at lw_m3 159 rfl) rfl
theorem q699 : (Jvm.Cond.selects "TicketScales$Range" ({ cls := "TicketScales$Range", name := "size", desc := "()I" } : Jvm.MethodName) ({ cls := "TicketScales$Range", name := "size", desc := "()I" } : Jvm.MethodName)) ∈ lw_all := lw_g (lw_at lw_m3 160 rfl) rfl
theorem q700 : (Jvm.Cond.code ({ cls := "TicketScales$Range", name := "size", desc := "()I" } : Jvm.MethodName) prog_15_method_2_code (1 : Nat) (Option.some Jvm.ClassFile.FieldType.int)) ∈ lw_all := lw_g (lw_at lw_m3 161 rfl) rfl
theorem q701 : (Jvm.Cond.methodLink "TicketScales$Range" (16 : Nat) ({ cls := "java/lang/Math", name := "max", desc := "(II)I" } : Jvm.MethodName)) ∈ lw_all := lw_g (lw_at lw_m3 162 rfl) rfl
theorem q731 : (Jvm.Cond.instanceMethod ({ cls := "TicketScales$Range", name := "nearestTo", desc := "(I)I" } : Jvm.MethodName)) ∈ lw_all := lw_g (lw_at lw_m3 192 rfl) rfl
theorem q732 : (Jvm.Cond.selects "TicketScales$Range" ({ cls := "TicketScales$Range", name := "nearestTo", desc := "(I)I" } : Jvm.MethodName) ({ cls := "TicketScales$Range", name := "nearestTo", desc := "(I)I" } : Jvm.MethodName)) ∈ lw_all := lw_g (lw_at lw_m3 193 rfl) rfl
theorem q733 : (Jvm.Cond.code ({ cls := "TicketScales$Range", name := "nearestTo", desc := "(I)I" } : Jvm.MethodName) prog_15_method_4_code (2 : Nat) (Option.some Jvm.ClassFile.FieldType.int)) ∈ lw_all := lw_g (lw_at lw_m3 194 rfl) rfl
theorem q734 : (Jvm.Cond.methodLink "TicketScales$Range" (28 : Nat) ({ cls := "java/lang/Math", name := "min", desc := "(II)I" } : Jvm.MethodName)) ∈ lw_all := lw_g (lw_at lw_m3 195 rfl) rfl
theorem q791 : (Jvm.Cond.instanceMethod ({ cls := "TicketScales$Range", name := "has", desc := "(I)Z" } : Jvm.MethodName)) ∈ lw_all := lw_g (lw_at lw_m4 12 rfl) rfl
theorem q792 : (Jvm.Cond.selects "TicketScales$Range" ({ cls := "TicketScales$Range", name := "has", desc := "(I)Z" } : Jvm.MethodName) ({ cls := "TicketScales$Range", name := "has", desc := "(I)Z" } : Jvm.MethodName)) ∈ lw_all := lw_g (lw_at lw_m4 13 rfl) rfl
theorem q793 : (Jvm.Cond.code ({ cls := "TicketScales$Range", name := "has", desc := "(I)Z" } : Jvm.MethodName) prog_15_method_3_code (2 : Nat) (Option.some Jvm.ClassFile.FieldType.boolean)) ∈ lw_all := lw_g (lw_at lw_m4 14 rfl) rfl
theorem q794 : (Jvm.Cond.methodLinkNest "TicketScales$Range" (22 : Nat) ({ cls := "TicketScales", name := "isBetween", desc := "(III)Z" } : Jvm.MethodName) "TicketScales") ∈ lw_tbl := lw_at lw_m4 15 rfl
theorem q1956 : (Jvm.Cond.castable "TicketScales$Range" "java/lang/Object") ∈ lw_tbl := lw_at lw_m8 217 rfl
theorem in_X6 : ∀ w ∈ wsX60, w ∈ lw_all := lw_in wsX60 [671, 673] (by decide +kernel) (by decide +kernel)

/-! TicketScales$Weighing -/
set_option maxRecDepth 100000
def RX7 : String := "TicketScales$Weighing"
def TX7 : u_T := fun k => match k with
  | 0 => ("TicketScales$Weighing", "kind", "I", true)
  | 1 => ("TicketScales$Weighing", "count", "I", true)
  | 2 => ("TicketScales$Weighing", "reading", "I", true)
  | _ => ("TicketScales$Weighing", "guess", "I", true)
def tyX7 : Nat → FieldType := fun k => match k with
  | 0 => .int
  | 1 => .int
  | 2 => .int
  | _ => .int
abbrev wsX70 : List Cond := u_ws RX7 TX7 4
theorem nmX7 : ∀ a, a < 4 → ∀ b, b < 4 → a ≠ b → (TX7 a).2.1 ≠ (TX7 b).2.1 := by decide +kernel
theorem tyX7_ok : ∀ k, k < 4 → parseFieldDescriptor (TX7 k).2.2.1 = some (tyX7 k) := by decide +kernel
abbrev cX7_init : ByteArray := prog_19_method_1_code
def yX7_init : MethodName := ⟨RX7, "<init>", "(IIII)V"⟩
def dkwX7_init_1 : List UInt8 := [181, 0, 19, 177]
abbrev dktX7_init_1 : List UInt8 := dkwX7_init_1 ++ []
def dkwX7_init_0 : List UInt8 := [42, 183, 0, 1, 42, 27, 181, 0, 7, 42, 28, 181, 0, 13, 42, 29, 181, 0, 16, 42, 21, 4]
abbrev dktX7_init_0 : List UInt8 := dkwX7_init_0 ++ dktX7_init_1
theorem dksX7_init_0 : cX7_init.data.toList.drop 0 = dktX7_init_0 := by decide +kernel
theorem dksX7_init_1 : cX7_init.data.toList.drop 22 = dktX7_init_1 := dk_seg dksX7_init_0 22 rfl rfl
theorem dX7_init_0 : decode cX7_init 0 = .ok (.aload_n 0, 1) := dk_42 (dk_at dksX7_init_0 0 rfl rfl)
theorem dX7_init_1 : decode cX7_init 1 = .ok (.invokespecial 1, 3) := dk_183 0 1 (dk_at dksX7_init_0 1 rfl rfl)
theorem dX7_init_4 : decode cX7_init 4 = .ok (.aload_n 0, 1) := dk_42 (dk_at dksX7_init_0 4 rfl rfl)
theorem dX7_init_5 : decode cX7_init 5 = .ok (.iload_n 1, 1) := dk_27 (dk_at dksX7_init_0 5 rfl rfl)
theorem dX7_init_6 : decode cX7_init 6 = .ok (.putfield 7, 3) := dk_181 0 7 (dk_at dksX7_init_0 6 rfl rfl)
theorem dX7_init_9 : decode cX7_init 9 = .ok (.aload_n 0, 1) := dk_42 (dk_at dksX7_init_0 9 rfl rfl)
theorem dX7_init_10 : decode cX7_init 10 = .ok (.iload_n 2, 1) := dk_28 (dk_at dksX7_init_0 10 rfl rfl)
theorem dX7_init_11 : decode cX7_init 11 = .ok (.putfield 13, 3) := dk_181 0 13 (dk_at dksX7_init_0 11 rfl rfl)
theorem dX7_init_14 : decode cX7_init 14 = .ok (.aload_n 0, 1) := dk_42 (dk_at dksX7_init_0 14 rfl rfl)
theorem dX7_init_15 : decode cX7_init 15 = .ok (.iload_n 3, 1) := dk_29 (dk_at dksX7_init_0 15 rfl rfl)
theorem dX7_init_16 : decode cX7_init 16 = .ok (.putfield 16, 3) := dk_181 0 16 (dk_at dksX7_init_0 16 rfl rfl)
theorem dX7_init_19 : decode cX7_init 19 = .ok (.aload_n 0, 1) := dk_42 (dk_at dksX7_init_0 19 rfl rfl)
theorem dX7_init_20 : decode cX7_init 20 = .ok (.iload 4, 2) := dk_21 4 (dk_at dksX7_init_0 20 rfl rfl)
theorem dX7_init_22 : decode cX7_init 22 = .ok (.putfield 19, 3) := dk_181 0 19 (dk_at dksX7_init_1 0 rfl rfl)
theorem dX7_init_25 : decode cX7_init 25 = .ok (.return_, 1) := dk_177 (dk_at dksX7_init_1 3 rfl rfl)
abbrev cX7_part : ByteArray := prog_19_method_2_code
def yX7_part : MethodName := ⟨RX7, "part", "(I)I"⟩
def dkwX7_part_3 : List UInt8 := [180, 0, 19, 172]
abbrev dktX7_part_3 : List UInt8 := dkwX7_part_3 ++ []
def dkwX7_part_2 : List UInt8 := [42, 180, 0, 7, 167, 0, 21, 42, 180, 0, 13, 167, 0, 14, 42, 180, 0, 16, 167, 0, 7, 42]
abbrev dktX7_part_2 : List UInt8 := dkwX7_part_2 ++ dktX7_part_3
def dkwX7_part_1 : List UInt8 := [170, 0, 0, 0, 0, 0, 48, 0, 0, 0, 1, 0, 0, 0, 3, 0, 0, 0, 27, 0, 0, 0, 34, 0, 0, 0, 41]
abbrev dktX7_part_1 : List UInt8 := dkwX7_part_1 ++ dktX7_part_2
def dkwX7_part_0 : List UInt8 := [27]
abbrev dktX7_part_0 : List UInt8 := dkwX7_part_0 ++ dktX7_part_1
theorem dksX7_part_0 : cX7_part.data.toList.drop 0 = dktX7_part_0 := by decide +kernel
theorem dksX7_part_1 : cX7_part.data.toList.drop 1 = dktX7_part_1 := dk_seg dksX7_part_0 1 rfl rfl
theorem dksX7_part_2 : cX7_part.data.toList.drop 28 = dktX7_part_2 := dk_seg dksX7_part_1 27 rfl rfl
theorem dksX7_part_3 : cX7_part.data.toList.drop 50 = dktX7_part_3 := dk_seg dksX7_part_2 22 rfl rfl
theorem dX7_part_0 : decode cX7_part 0 = .ok (.iload_n 1, 1) := dk_27 (dk_at dksX7_part_0 0 rfl rfl)
theorem dX7_part_1 : decode cX7_part 1 = .ok (.tableswitch 48 1 3 #[27, 34, 41], 27) := by decide +kernel
theorem dX7_part_28 : decode cX7_part 28 = .ok (.aload_n 0, 1) := dk_42 (dk_at dksX7_part_2 0 rfl rfl)
theorem dX7_part_29 : decode cX7_part 29 = .ok (.getfield 7, 3) := dk_180 0 7 (dk_at dksX7_part_2 1 rfl rfl)
theorem dX7_part_32 : decode cX7_part 32 = .ok (.goto 21, 3) := dk_167 0 21 (dk_at dksX7_part_2 4 rfl rfl)
theorem dX7_part_35 : decode cX7_part 35 = .ok (.aload_n 0, 1) := dk_42 (dk_at dksX7_part_2 7 rfl rfl)
theorem dX7_part_36 : decode cX7_part 36 = .ok (.getfield 13, 3) := dk_180 0 13 (dk_at dksX7_part_2 8 rfl rfl)
theorem dX7_part_39 : decode cX7_part 39 = .ok (.goto 14, 3) := dk_167 0 14 (dk_at dksX7_part_2 11 rfl rfl)
theorem dX7_part_42 : decode cX7_part 42 = .ok (.aload_n 0, 1) := dk_42 (dk_at dksX7_part_2 14 rfl rfl)
theorem dX7_part_43 : decode cX7_part 43 = .ok (.getfield 16, 3) := dk_180 0 16 (dk_at dksX7_part_2 15 rfl rfl)
theorem dX7_part_46 : decode cX7_part 46 = .ok (.goto 7, 3) := dk_167 0 7 (dk_at dksX7_part_2 18 rfl rfl)
theorem dX7_part_49 : decode cX7_part 49 = .ok (.aload_n 0, 1) := dk_42 (dk_at dksX7_part_2 21 rfl rfl)
theorem dX7_part_50 : decode cX7_part 50 = .ok (.getfield 19, 3) := dk_180 0 19 (dk_at dksX7_part_3 0 rfl rfl)
theorem dX7_part_53 : decode cX7_part 53 = .ok (.ireturn, 1) := dk_172 (dk_at dksX7_part_3 3 rfl rfl)
theorem q82 : (Jvm.Cond.initialized "TicketScales$Weighing") ∈ lw_all := lw_g (lw_at lw_m1 23 rfl) rfl
theorem q418 : (Jvm.Cond.selects "TicketScales$Weighing" ({ cls := "java/lang/Object", name := "getClass", desc := "()Ljava/lang/Class;" } : Jvm.MethodName) ({ cls := "java/lang/Object", name := "getClass", desc := "()Ljava/lang/Class;" } : Jvm.MethodName)) ∈ lw_all := lw_g (lw_at lw_m2 119 rfl) rfl
theorem q752 : (Jvm.Cond.instantiable "TicketScales$Weighing" (4 : Nat)) ∈ lw_all := lw_g (lw_at lw_m3 213 rfl) rfl
theorem q754 : (Jvm.Cond.instanceMethod ({ cls := "TicketScales$Weighing", name := "<init>", desc := "(IIII)V" } : Jvm.MethodName)) ∈ lw_all := lw_g (lw_at lw_m3 215 rfl) rfl
theorem q755 : (Jvm.Cond.code ({ cls := "TicketScales$Weighing", name := "<init>", desc := "(IIII)V" } : Jvm.MethodName) prog_19_method_1_code (5 : Nat) (Option.none : Option Jvm.ClassFile.FieldType)) ∈ lw_all := lw_g (lw_at lw_m3 216 rfl) rfl
theorem q756 : (Jvm.Cond.methodLink "TicketScales$Weighing" (1 : Nat) ({ cls := "java/lang/Object", name := "<init>", desc := "()V" } : Jvm.MethodName)) ∈ lw_all := lw_g (lw_at lw_m3 217 rfl) rfl
theorem q757 : (Jvm.Cond.fieldLink "TicketScales$Weighing" (7 : Nat) "TicketScales$Weighing" "kind" "I") ∈ lw_all := lw_g (lw_at lw_m3 218 rfl) rfl
theorem q759 : (Jvm.Cond.fieldLink "TicketScales$Weighing" (13 : Nat) "TicketScales$Weighing" "count" "I") ∈ lw_all := lw_g (lw_at lw_m3 220 rfl) rfl
theorem q761 : (Jvm.Cond.fieldLink "TicketScales$Weighing" (16 : Nat) "TicketScales$Weighing" "reading" "I") ∈ lw_all := lw_g (lw_at lw_m3 222 rfl) rfl
theorem q763 : (Jvm.Cond.fieldLink "TicketScales$Weighing" (19 : Nat) "TicketScales$Weighing" "guess" "I") ∈ lw_all := lw_g (lw_at lw_m3 224 rfl) rfl
theorem q765 : (Jvm.Cond.laysFinal "TicketScales$Weighing" "TicketScales$Weighing" "kind" "I") ∈ lw_all := lw_g (lw_at lw_m3 226 rfl) rfl
theorem q766 : (Jvm.Cond.soleField "TicketScales$Weighing" "kind") ∈ lw_all := lw_g (lw_at lw_m3 227 rfl) rfl
theorem q767 : (Jvm.Cond.laysFinal "TicketScales$Weighing" "TicketScales$Weighing" "count" "I") ∈ lw_all := lw_g (lw_at lw_m3 228 rfl) rfl
theorem q768 : (Jvm.Cond.soleField "TicketScales$Weighing" "count") ∈ lw_all := lw_g (lw_at lw_m3 229 rfl) rfl
theorem q769 : (Jvm.Cond.laysFinal "TicketScales$Weighing" "TicketScales$Weighing" "reading" "I") ∈ lw_all := lw_g (lw_at lw_m3 230 rfl) rfl
theorem q770 : (Jvm.Cond.soleField "TicketScales$Weighing" "reading") ∈ lw_all := lw_g (lw_at lw_m3 231 rfl) rfl
theorem q771 : (Jvm.Cond.laysFinal "TicketScales$Weighing" "TicketScales$Weighing" "guess" "I") ∈ lw_all := lw_g (lw_at lw_m3 232 rfl) rfl
theorem q772 : (Jvm.Cond.soleField "TicketScales$Weighing" "guess") ∈ lw_all := lw_g (lw_at lw_m3 233 rfl) rfl
theorem q773 : (Jvm.Cond.superclass "TicketScales$Weighing" "java/lang/Object") ∈ lw_all := lw_g (lw_at lw_m3 234 rfl) rfl
theorem q1470 : (Jvm.Cond.instanceMethod ({ cls := "TicketScales$Weighing", name := "part", desc := "(I)I" } : Jvm.MethodName)) ∈ lw_all := lw_g (lw_at lw_m6 211 rfl) rfl
theorem q1471 : (Jvm.Cond.selects "TicketScales$Weighing" ({ cls := "TicketScales$Weighing", name := "part", desc := "(I)I" } : Jvm.MethodName) ({ cls := "TicketScales$Weighing", name := "part", desc := "(I)I" } : Jvm.MethodName)) ∈ lw_all := lw_g (lw_at lw_m6 212 rfl) rfl
theorem q1472 : (Jvm.Cond.code ({ cls := "TicketScales$Weighing", name := "part", desc := "(I)I" } : Jvm.MethodName) prog_19_method_2_code (2 : Nat) (Option.some Jvm.ClassFile.FieldType.int)) ∈ lw_all := lw_g (lw_at lw_m6 213 rfl) rfl
theorem q1957 : (Jvm.Cond.castable "TicketScales$Weighing" "java/lang/Object") ∈ lw_tbl := lw_at lw_m8 218 rfl
theorem in_X7 : ∀ w ∈ wsX70, w ∈ lw_all := lw_in wsX70 [765, 767, 769, 771] (by decide +kernel) (by decide +kernel)

/-! TicketScales$Slice -/
set_option maxRecDepth 100000
def RX9 : String := "TicketScales$Slice"
def TX9 : u_T := fun k => match k with
  | 0 => ("TicketScales$Slice", "whole", "Ljava/lang/CharSequence;", true)
  | 1 => ("TicketScales$Slice", "from", "I", true)
  | _ => ("TicketScales$Slice", "size", "I", true)
def tyX9 : Nat → FieldType := fun k => match k with
  | 0 => .object "java/lang/CharSequence"
  | 1 => .int
  | _ => .int
abbrev wsX90 : List Cond := u_ws RX9 TX9 3
theorem nmX9 : ∀ a, a < 3 → ∀ b, b < 3 → a ≠ b → (TX9 a).2.1 ≠ (TX9 b).2.1 := by decide +kernel
theorem tyX9_ok : ∀ k, k < 3 → parseFieldDescriptor (TX9 k).2.2.1 = some (tyX9 k) := by decide +kernel
abbrev cX9_init : ByteArray := prog_17_method_1_code
def yX9_init : MethodName := ⟨RX9, "<init>", "(Ljava/lang/CharSequence;II)V"⟩
def dkwX9_init_0 : List UInt8 := [42, 183, 0, 1, 42, 43, 181, 0, 7, 42, 28, 181, 0, 13, 42, 29, 28, 100, 181, 0, 17, 177]
abbrev dktX9_init_0 : List UInt8 := dkwX9_init_0 ++ []
theorem dksX9_init_0 : cX9_init.data.toList.drop 0 = dktX9_init_0 := by decide +kernel
theorem dX9_init_0 : decode cX9_init 0 = .ok (.aload_n 0, 1) := dk_42 (dk_at dksX9_init_0 0 rfl rfl)
theorem dX9_init_1 : decode cX9_init 1 = .ok (.invokespecial 1, 3) := dk_183 0 1 (dk_at dksX9_init_0 1 rfl rfl)
theorem dX9_init_4 : decode cX9_init 4 = .ok (.aload_n 0, 1) := dk_42 (dk_at dksX9_init_0 4 rfl rfl)
theorem dX9_init_5 : decode cX9_init 5 = .ok (.aload_n 1, 1) := dk_43 (dk_at dksX9_init_0 5 rfl rfl)
theorem dX9_init_6 : decode cX9_init 6 = .ok (.putfield 7, 3) := dk_181 0 7 (dk_at dksX9_init_0 6 rfl rfl)
theorem dX9_init_9 : decode cX9_init 9 = .ok (.aload_n 0, 1) := dk_42 (dk_at dksX9_init_0 9 rfl rfl)
theorem dX9_init_10 : decode cX9_init 10 = .ok (.iload_n 2, 1) := dk_28 (dk_at dksX9_init_0 10 rfl rfl)
theorem dX9_init_11 : decode cX9_init 11 = .ok (.putfield 13, 3) := dk_181 0 13 (dk_at dksX9_init_0 11 rfl rfl)
theorem dX9_init_14 : decode cX9_init 14 = .ok (.aload_n 0, 1) := dk_42 (dk_at dksX9_init_0 14 rfl rfl)
theorem dX9_init_15 : decode cX9_init 15 = .ok (.iload_n 3, 1) := dk_29 (dk_at dksX9_init_0 15 rfl rfl)
theorem dX9_init_16 : decode cX9_init 16 = .ok (.iload_n 2, 1) := dk_28 (dk_at dksX9_init_0 16 rfl rfl)
theorem dX9_init_17 : decode cX9_init 17 = .ok (.isub, 1) := dk_100 (dk_at dksX9_init_0 17 rfl rfl)
theorem dX9_init_18 : decode cX9_init 18 = .ok (.putfield 17, 3) := dk_181 0 17 (dk_at dksX9_init_0 18 rfl rfl)
theorem dX9_init_21 : decode cX9_init 21 = .ok (.return_, 1) := dk_177 (dk_at dksX9_init_0 21 rfl rfl)
abbrev cX9_length : ByteArray := prog_17_method_2_code
def yX9_length : MethodName := ⟨RX9, "length", "()I"⟩
theorem dX9_length_0 : decode cX9_length 0 = .ok (.aload_n 0, 1) := by decide +kernel
theorem dX9_length_1 : decode cX9_length 1 = .ok (.getfield 17, 3) := by decide +kernel
theorem dX9_length_4 : decode cX9_length 4 = .ok (.ireturn, 1) := by decide +kernel
abbrev cX9_toString : ByteArray := prog_17_method_5_code
def yX9_toString : MethodName := ⟨RX9, "toString", "()Ljava/lang/String;"⟩
def dkwX9_toString_1 : List UInt8 := [182, 0, 33, 87, 132, 2, 1, 167, 255, 235, 43, 182, 0, 37, 176]
abbrev dktX9_toString_1 : List UInt8 := dkwX9_toString_1 ++ []
def dkwX9_toString_0 : List UInt8 := [187, 0, 29, 89, 183, 0, 31, 76, 3, 61, 28, 42, 180, 0, 17, 162, 0, 19, 43, 42, 28, 182, 0, 32]
abbrev dktX9_toString_0 : List UInt8 := dkwX9_toString_0 ++ dktX9_toString_1
theorem dksX9_toString_0 : cX9_toString.data.toList.drop 0 = dktX9_toString_0 := by decide +kernel
theorem dksX9_toString_1 : cX9_toString.data.toList.drop 24 = dktX9_toString_1 := dk_seg dksX9_toString_0 24 rfl rfl
theorem dX9_toString_0 : decode cX9_toString 0 = .ok (.new 29, 3) := dk_187 0 29 (dk_at dksX9_toString_0 0 rfl rfl)
theorem dX9_toString_3 : decode cX9_toString 3 = .ok (.dup, 1) := dk_89 (dk_at dksX9_toString_0 3 rfl rfl)
theorem dX9_toString_4 : decode cX9_toString 4 = .ok (.invokespecial 31, 3) := dk_183 0 31 (dk_at dksX9_toString_0 4 rfl rfl)
theorem dX9_toString_7 : decode cX9_toString 7 = .ok (.astore_n 1, 1) := dk_76 (dk_at dksX9_toString_0 7 rfl rfl)
theorem dX9_toString_8 : decode cX9_toString 8 = .ok (.iconst 0, 1) := dk_3 (dk_at dksX9_toString_0 8 rfl rfl)
theorem dX9_toString_9 : decode cX9_toString 9 = .ok (.istore_n 2, 1) := dk_61 (dk_at dksX9_toString_0 9 rfl rfl)
theorem dX9_toString_10 : decode cX9_toString 10 = .ok (.iload_n 2, 1) := dk_28 (dk_at dksX9_toString_0 10 rfl rfl)
theorem dX9_toString_11 : decode cX9_toString 11 = .ok (.aload_n 0, 1) := dk_42 (dk_at dksX9_toString_0 11 rfl rfl)
theorem dX9_toString_12 : decode cX9_toString 12 = .ok (.getfield 17, 3) := dk_180 0 17 (dk_at dksX9_toString_0 12 rfl rfl)
theorem dX9_toString_15 : decode cX9_toString 15 = .ok (.if_icmp .ge 19, 3) := dk_162 0 19 (dk_at dksX9_toString_0 15 rfl rfl)
theorem dX9_toString_18 : decode cX9_toString 18 = .ok (.aload_n 1, 1) := dk_43 (dk_at dksX9_toString_0 18 rfl rfl)
theorem dX9_toString_19 : decode cX9_toString 19 = .ok (.aload_n 0, 1) := dk_42 (dk_at dksX9_toString_0 19 rfl rfl)
theorem dX9_toString_20 : decode cX9_toString 20 = .ok (.iload_n 2, 1) := dk_28 (dk_at dksX9_toString_0 20 rfl rfl)
theorem dX9_toString_21 : decode cX9_toString 21 = .ok (.invokevirtual 32, 3) := dk_182 0 32 (dk_at dksX9_toString_0 21 rfl rfl)
theorem dX9_toString_24 : decode cX9_toString 24 = .ok (.invokevirtual 33, 3) := dk_182 0 33 (dk_at dksX9_toString_1 0 rfl rfl)
theorem dX9_toString_27 : decode cX9_toString 27 = .ok (.pop, 1) := dk_87 (dk_at dksX9_toString_1 3 rfl rfl)
theorem dX9_toString_28 : decode cX9_toString 28 = .ok (.iinc 2 1, 3) := dk_132 2 1 (dk_at dksX9_toString_1 4 rfl rfl)
theorem dX9_toString_31 : decode cX9_toString 31 = .ok (.goto (-21), 3) := dk_167 255 235 (dk_at dksX9_toString_1 7 rfl rfl)
theorem dX9_toString_34 : decode cX9_toString 34 = .ok (.aload_n 1, 1) := dk_43 (dk_at dksX9_toString_1 10 rfl rfl)
theorem dX9_toString_35 : decode cX9_toString 35 = .ok (.invokevirtual 37, 3) := dk_182 0 37 (dk_at dksX9_toString_1 11 rfl rfl)
theorem dX9_toString_38 : decode cX9_toString 38 = .ok (.areturn, 1) := dk_176 (dk_at dksX9_toString_1 14 rfl rfl)
abbrev cX9_charAt : ByteArray := prog_17_method_3_code
def yX9_charAt : MethodName := ⟨RX9, "charAt", "(I)C"⟩
def dkwX9_charAt_0 : List UInt8 := [42, 180, 0, 7, 42, 180, 0, 13, 27, 96, 185, 0, 20, 2, 0, 172]
abbrev dktX9_charAt_0 : List UInt8 := dkwX9_charAt_0 ++ []
theorem dksX9_charAt_0 : cX9_charAt.data.toList.drop 0 = dktX9_charAt_0 := by decide +kernel
theorem dX9_charAt_0 : decode cX9_charAt 0 = .ok (.aload_n 0, 1) := dk_42 (dk_at dksX9_charAt_0 0 rfl rfl)
theorem dX9_charAt_1 : decode cX9_charAt 1 = .ok (.getfield 7, 3) := dk_180 0 7 (dk_at dksX9_charAt_0 1 rfl rfl)
theorem dX9_charAt_4 : decode cX9_charAt 4 = .ok (.aload_n 0, 1) := dk_42 (dk_at dksX9_charAt_0 4 rfl rfl)
theorem dX9_charAt_5 : decode cX9_charAt 5 = .ok (.getfield 13, 3) := dk_180 0 13 (dk_at dksX9_charAt_0 5 rfl rfl)
theorem dX9_charAt_8 : decode cX9_charAt 8 = .ok (.iload_n 1, 1) := dk_27 (dk_at dksX9_charAt_0 8 rfl rfl)
theorem dX9_charAt_9 : decode cX9_charAt 9 = .ok (.iadd, 1) := dk_96 (dk_at dksX9_charAt_0 9 rfl rfl)
theorem dX9_charAt_10 : decode cX9_charAt 10 = .ok (.invokeinterface 20 2, 5) := by decide +kernel
theorem dX9_charAt_15 : decode cX9_charAt 15 = .ok (.ireturn, 1) := dk_172 (dk_at dksX9_charAt_0 15 rfl rfl)
abbrev cX9_begins : ByteArray := prog_17_method_6_code
def yX9_begins : MethodName := ⟨RX9, "begins", "(CC)Z"⟩
def dkwX9_begins_1 : List UInt8 := [3, 172]
abbrev dktX9_begins_1 : List UInt8 := dkwX9_begins_1 ++ []
def dkwX9_begins_0 : List UInt8 := [42, 180, 0, 17, 158, 0, 20, 42, 3, 182, 0, 32, 27, 28, 184, 0, 41, 153, 0, 7, 4, 167, 0, 4]
abbrev dktX9_begins_0 : List UInt8 := dkwX9_begins_0 ++ dktX9_begins_1
theorem dksX9_begins_0 : cX9_begins.data.toList.drop 0 = dktX9_begins_0 := by decide +kernel
theorem dksX9_begins_1 : cX9_begins.data.toList.drop 24 = dktX9_begins_1 := dk_seg dksX9_begins_0 24 rfl rfl
theorem dX9_begins_0 : decode cX9_begins 0 = .ok (.aload_n 0, 1) := dk_42 (dk_at dksX9_begins_0 0 rfl rfl)
theorem dX9_begins_1 : decode cX9_begins 1 = .ok (.getfield 17, 3) := dk_180 0 17 (dk_at dksX9_begins_0 1 rfl rfl)
theorem dX9_begins_4 : decode cX9_begins 4 = .ok (.ifCond .le 20, 3) := dk_158 0 20 (dk_at dksX9_begins_0 4 rfl rfl)
theorem dX9_begins_7 : decode cX9_begins 7 = .ok (.aload_n 0, 1) := dk_42 (dk_at dksX9_begins_0 7 rfl rfl)
theorem dX9_begins_8 : decode cX9_begins 8 = .ok (.iconst 0, 1) := dk_3 (dk_at dksX9_begins_0 8 rfl rfl)
theorem dX9_begins_9 : decode cX9_begins 9 = .ok (.invokevirtual 32, 3) := dk_182 0 32 (dk_at dksX9_begins_0 9 rfl rfl)
theorem dX9_begins_12 : decode cX9_begins 12 = .ok (.iload_n 1, 1) := dk_27 (dk_at dksX9_begins_0 12 rfl rfl)
theorem dX9_begins_13 : decode cX9_begins 13 = .ok (.iload_n 2, 1) := dk_28 (dk_at dksX9_begins_0 13 rfl rfl)
theorem dX9_begins_14 : decode cX9_begins 14 = .ok (.invokestatic 41, 3) := dk_184 0 41 (dk_at dksX9_begins_0 14 rfl rfl)
theorem dX9_begins_17 : decode cX9_begins 17 = .ok (.ifCond .eq 7, 3) := dk_153 0 7 (dk_at dksX9_begins_0 17 rfl rfl)
theorem dX9_begins_20 : decode cX9_begins 20 = .ok (.iconst 1, 1) := dk_4 (dk_at dksX9_begins_0 20 rfl rfl)
theorem dX9_begins_21 : decode cX9_begins 21 = .ok (.goto 4, 3) := dk_167 0 4 (dk_at dksX9_begins_0 21 rfl rfl)
theorem dX9_begins_24 : decode cX9_begins 24 = .ok (.iconst 0, 1) := dk_3 (dk_at dksX9_begins_1 0 rfl rfl)
theorem dX9_begins_25 : decode cX9_begins 25 = .ok (.ireturn, 1) := dk_172 (dk_at dksX9_begins_1 1 rfl rfl)
theorem q85 : (Jvm.Cond.initialized "TicketScales$Slice") ∈ lw_all := lw_g (lw_at lw_m1 26 rfl) rfl
theorem q416 : (Jvm.Cond.selects "TicketScales$Slice" ({ cls := "java/lang/Object", name := "getClass", desc := "()Ljava/lang/Class;" } : Jvm.MethodName) ({ cls := "java/lang/Object", name := "getClass", desc := "()Ljava/lang/Class;" } : Jvm.MethodName)) ∈ lw_all := lw_g (lw_at lw_m2 117 rfl) rfl
theorem q1066 : (Jvm.Cond.instantiable "TicketScales$Slice" (3 : Nat)) ∈ lw_all := lw_g (lw_at lw_m5 47 rfl) rfl
theorem q1068 : (Jvm.Cond.instanceMethod ({ cls := "TicketScales$Slice", name := "<init>", desc := "(Ljava/lang/CharSequence;II)V" } : Jvm.MethodName)) ∈ lw_all := lw_g (lw_at lw_m5 49 rfl) rfl
theorem q1069 : (Jvm.Cond.code ({ cls := "TicketScales$Slice", name := "<init>", desc := "(Ljava/lang/CharSequence;II)V" } : Jvm.MethodName) prog_17_method_1_code (4 : Nat) (Option.none : Option Jvm.ClassFile.FieldType)) ∈ lw_all := lw_g (lw_at lw_m5 50 rfl) rfl
theorem q1070 : (Jvm.Cond.methodLink "TicketScales$Slice" (1 : Nat) ({ cls := "java/lang/Object", name := "<init>", desc := "()V" } : Jvm.MethodName)) ∈ lw_all := lw_g (lw_at lw_m5 51 rfl) rfl
theorem q1071 : (Jvm.Cond.fieldLink "TicketScales$Slice" (7 : Nat) "TicketScales$Slice" "whole" "Ljava/lang/CharSequence;") ∈ lw_all := lw_g (lw_at lw_m5 52 rfl) rfl
theorem q1072 : (Jvm.Cond.fieldLink "TicketScales$Slice" (13 : Nat) "TicketScales$Slice" "from" "I") ∈ lw_all := lw_g (lw_at lw_m5 53 rfl) rfl
theorem q1074 : (Jvm.Cond.fieldLink "TicketScales$Slice" (17 : Nat) "TicketScales$Slice" "size" "I") ∈ lw_all := lw_g (lw_at lw_m5 55 rfl) rfl
theorem q1075 : (Jvm.Cond.laysFinal "TicketScales$Slice" "TicketScales$Slice" "whole" "Ljava/lang/CharSequence;") ∈ lw_all := lw_g (lw_at lw_m5 56 rfl) rfl
theorem q1076 : (Jvm.Cond.soleField "TicketScales$Slice" "whole") ∈ lw_all := lw_g (lw_at lw_m5 57 rfl) rfl
theorem q1077 : (Jvm.Cond.laysFinal "TicketScales$Slice" "TicketScales$Slice" "from" "I") ∈ lw_all := lw_g (lw_at lw_m5 58 rfl) rfl
theorem q1078 : (Jvm.Cond.soleField "TicketScales$Slice" "from") ∈ lw_all := lw_g (lw_at lw_m5 59 rfl) rfl
theorem q1079 : (Jvm.Cond.laysFinal "TicketScales$Slice" "TicketScales$Slice" "size" "I") ∈ lw_all := lw_g (lw_at lw_m5 60 rfl) rfl
theorem q1080 : (Jvm.Cond.soleField "TicketScales$Slice" "size") ∈ lw_all := lw_g (lw_at lw_m5 61 rfl) rfl
theorem q1081 : (Jvm.Cond.superclass "TicketScales$Slice" "java/lang/Object") ∈ lw_all := lw_g (lw_at lw_m5 62 rfl) rfl
theorem q1083 : (Jvm.Cond.instanceMethod ({ cls := "TicketScales$Slice", name := "length", desc := "()I" } : Jvm.MethodName)) ∈ lw_all := lw_g (lw_at lw_m5 64 rfl) rfl
theorem q1084 : (Jvm.Cond.selects "TicketScales$Slice" ({ cls := "TicketScales$Slice", name := "length", desc := "()I" } : Jvm.MethodName) ({ cls := "TicketScales$Slice", name := "length", desc := "()I" } : Jvm.MethodName)) ∈ lw_all := lw_g (lw_at lw_m5 65 rfl) rfl
theorem q1085 : (Jvm.Cond.code ({ cls := "TicketScales$Slice", name := "length", desc := "()I" } : Jvm.MethodName) prog_17_method_2_code (1 : Nat) (Option.some Jvm.ClassFile.FieldType.int)) ∈ lw_all := lw_g (lw_at lw_m5 66 rfl) rfl
theorem q1093 : (Jvm.Cond.instanceMethod ({ cls := "TicketScales$Slice", name := "toString", desc := "()Ljava/lang/String;" } : Jvm.MethodName)) ∈ lw_all := lw_g (lw_at lw_m5 74 rfl) rfl
theorem q1094 : (Jvm.Cond.selects "TicketScales$Slice" ({ cls := "TicketScales$Slice", name := "toString", desc := "()Ljava/lang/String;" } : Jvm.MethodName) ({ cls := "TicketScales$Slice", name := "toString", desc := "()Ljava/lang/String;" } : Jvm.MethodName)) ∈ lw_all := lw_g (lw_at lw_m5 75 rfl) rfl
theorem q1095 : (Jvm.Cond.code ({ cls := "TicketScales$Slice", name := "toString", desc := "()Ljava/lang/String;" } : Jvm.MethodName) prog_17_method_5_code (3 : Nat) (Option.some (Jvm.ClassFile.FieldType.object "java/lang/String"))) ∈ lw_all := lw_g (lw_at lw_m5 76 rfl) rfl
theorem q1096 : (Jvm.Cond.classLink "TicketScales$Slice" (29 : Nat) "java/lang/StringBuilder") ∈ lw_all := lw_g (lw_at lw_m5 77 rfl) rfl
theorem q1097 : (Jvm.Cond.methodLink "TicketScales$Slice" (31 : Nat) ({ cls := "java/lang/StringBuilder", name := "<init>", desc := "()V" } : Jvm.MethodName)) ∈ lw_all := lw_g (lw_at lw_m5 78 rfl) rfl
theorem q1098 : (Jvm.Cond.methodLink "TicketScales$Slice" (32 : Nat) ({ cls := "TicketScales$Slice", name := "charAt", desc := "(I)C" } : Jvm.MethodName)) ∈ lw_all := lw_g (lw_at lw_m5 79 rfl) rfl
theorem q1099 : (Jvm.Cond.instanceMethod ({ cls := "TicketScales$Slice", name := "charAt", desc := "(I)C" } : Jvm.MethodName)) ∈ lw_all := lw_g (lw_at lw_m5 80 rfl) rfl
theorem q1100 : (Jvm.Cond.selects "TicketScales$Slice" ({ cls := "TicketScales$Slice", name := "charAt", desc := "(I)C" } : Jvm.MethodName) ({ cls := "TicketScales$Slice", name := "charAt", desc := "(I)C" } : Jvm.MethodName)) ∈ lw_all := lw_g (lw_at lw_m5 81 rfl) rfl
theorem q1101 : (Jvm.Cond.code ({ cls := "TicketScales$Slice", name := "charAt", desc := "(I)C" } : Jvm.MethodName) prog_17_method_3_code (2 : Nat) (Option.some Jvm.ClassFile.FieldType.char)) ∈ lw_all := lw_g (lw_at lw_m5 82 rfl) rfl
theorem q1102 : (Jvm.Cond.interfaceEntry "TicketScales$Slice" (20 : Nat)) ∈ lw_tbl := lw_at lw_m5 83 rfl
theorem q1103 : (Jvm.Cond.methodLink "TicketScales$Slice" (20 : Nat) ({ cls := "java/lang/CharSequence", name := "charAt", desc := "(I)C" } : Jvm.MethodName)) ∈ lw_all := lw_g (lw_at lw_m5 84 rfl) rfl
theorem q1106 : (Jvm.Cond.castable "TicketScales$Slice" "java/lang/CharSequence") ∈ lw_tbl := lw_at lw_m5 87 rfl
theorem q1107 : (Jvm.Cond.selects "TicketScales$Slice" ({ cls := "java/lang/CharSequence", name := "charAt", desc := "(I)C" } : Jvm.MethodName) ({ cls := "TicketScales$Slice", name := "charAt", desc := "(I)C" } : Jvm.MethodName)) ∈ lw_all := lw_g (lw_at lw_m5 88 rfl) rfl
theorem q1108 : (Jvm.Cond.unhidden "TicketScales$Slice" "charAt" "(I)C") ∈ lw_tbl := lw_at lw_m5 89 rfl
theorem q1109 : (Jvm.Cond.publicMethod ({ cls := "TicketScales$Slice", name := "charAt", desc := "(I)C" } : Jvm.MethodName)) ∈ lw_tbl := lw_at lw_m5 90 rfl
theorem q1133 : (Jvm.Cond.methodLink "TicketScales$Slice" (33 : Nat) ({ cls := "java/lang/StringBuilder", name := "append", desc := "(C)Ljava/lang/StringBuilder;" } : Jvm.MethodName)) ∈ lw_all := lw_g (lw_at lw_m5 114 rfl) rfl
theorem q1134 : (Jvm.Cond.methodLink "TicketScales$Slice" (37 : Nat) ({ cls := "java/lang/StringBuilder", name := "toString", desc := "()Ljava/lang/String;" } : Jvm.MethodName)) ∈ lw_all := lw_g (lw_at lw_m5 115 rfl) rfl
theorem q1328 : (Jvm.Cond.instanceMethod ({ cls := "TicketScales$Slice", name := "begins", desc := "(CC)Z" } : Jvm.MethodName)) ∈ lw_all := lw_g (lw_at lw_m6 69 rfl) rfl
theorem q1329 : (Jvm.Cond.selects "TicketScales$Slice" ({ cls := "TicketScales$Slice", name := "begins", desc := "(CC)Z" } : Jvm.MethodName) ({ cls := "TicketScales$Slice", name := "begins", desc := "(CC)Z" } : Jvm.MethodName)) ∈ lw_all := lw_g (lw_at lw_m6 70 rfl) rfl
theorem q1330 : (Jvm.Cond.code ({ cls := "TicketScales$Slice", name := "begins", desc := "(CC)Z" } : Jvm.MethodName) prog_17_method_6_code (3 : Nat) (Option.some Jvm.ClassFile.FieldType.boolean)) ∈ lw_all := lw_g (lw_at lw_m6 71 rfl) rfl
theorem q1331 : (Jvm.Cond.methodLinkNest "TicketScales$Slice" (41 : Nat) ({ cls := "TicketScales", name := "isBetween", desc := "(III)Z" } : Jvm.MethodName) "TicketScales") ∈ lw_tbl := lw_at lw_m6 72 rfl
theorem q1959 : (Jvm.Cond.castable "TicketScales$Slice" "java/lang/Object") ∈ lw_tbl := lw_at lw_m8 220 rfl
theorem in_X9 : ∀ w ∈ wsX90, w ∈ lw_all := lw_in wsX90 [1075, 1077, 1079] (by decide +kernel) (by decide +kernel)

/-! TicketScales$FailureException -/
set_option maxRecDepth 100000
def RX10 : String := "TicketScales$FailureException"
def TX10 : u_T := fun k => match k with
  | 0 => ("java/lang/Throwable", "cause", "Ljava/lang/Throwable;", false)
  | 1 => ("java/lang/Throwable", "stackTrace", "[Ljava/lang/StackTraceElement;", false)
  | 2 => ("java/lang/Throwable", "suppressedExceptions", "Ljava/util/List;", false)
  | 3 => ("java/lang/Throwable", "detailMessage", "Ljava/lang/String;", false)
  | 4 => ("java/lang/Throwable", "backtrace", "Ljava/lang/Object;", false)
  | 5 => ("java/lang/Throwable", "depth", "I", false)
  | _ => ("TicketScales$FailureException", "place", "I", true)
def tyX10 : Nat → FieldType := fun k => match k with
  | 0 => .object "java/lang/Throwable"
  | 1 => .array (.object "java/lang/StackTraceElement")
  | 2 => .object "java/util/List"
  | 3 => .object "java/lang/String"
  | 4 => .object "java/lang/Object"
  | 5 => .int
  | _ => .int
abbrev wsX100 : List Cond := u_ws RX10 TX10 7
theorem nmX10 : ∀ a, a < 7 → ∀ b, b < 7 → a ≠ b → (TX10 a).2.1 ≠ (TX10 b).2.1 := by decide +kernel
theorem tyX10_ok : ∀ k, k < 7 → parseFieldDescriptor (TX10 k).2.2.1 = some (tyX10 k) := by decide +kernel
abbrev cX10_init : ByteArray := prog_7_method_1_code
def yX10_init : MethodName := ⟨RX10, "<init>", "(ILTicketScales$CallException;)V"⟩
def dkwX10_init_0 : List UInt8 := [42, 1, 44, 183, 0, 3, 42, 27, 181, 0, 9, 177]
abbrev dktX10_init_0 : List UInt8 := dkwX10_init_0 ++ []
theorem dksX10_init_0 : cX10_init.data.toList.drop 0 = dktX10_init_0 := by decide +kernel
theorem dX10_init_0 : decode cX10_init 0 = .ok (.aload_n 0, 1) := dk_42 (dk_at dksX10_init_0 0 rfl rfl)
theorem dX10_init_1 : decode cX10_init 1 = .ok (.aconst_null, 1) := dk_1 (dk_at dksX10_init_0 1 rfl rfl)
theorem dX10_init_2 : decode cX10_init 2 = .ok (.aload_n 2, 1) := dk_44 (dk_at dksX10_init_0 2 rfl rfl)
theorem dX10_init_3 : decode cX10_init 3 = .ok (.invokespecial 3, 3) := dk_183 0 3 (dk_at dksX10_init_0 3 rfl rfl)
theorem dX10_init_6 : decode cX10_init 6 = .ok (.aload_n 0, 1) := dk_42 (dk_at dksX10_init_0 6 rfl rfl)
theorem dX10_init_7 : decode cX10_init 7 = .ok (.iload_n 1, 1) := dk_27 (dk_at dksX10_init_0 7 rfl rfl)
theorem dX10_init_8 : decode cX10_init 8 = .ok (.putfield 9, 3) := dk_181 0 9 (dk_at dksX10_init_0 8 rfl rfl)
theorem dX10_init_11 : decode cX10_init 11 = .ok (.return_, 1) := dk_177 (dk_at dksX10_init_0 11 rfl rfl)
abbrev cX10_kind : ByteArray := prog_7_method_3_code
def yX10_kind : MethodName := ⟨RX10, "kind", "()I"⟩
def dkwX10_kind_1 : List UInt8 := [4, 172]
abbrev dktX10_kind_1 : List UInt8 := dkwX10_kind_1 ++ []
def dkwX10_kind_0 : List UInt8 := [42, 182, 0, 21, 77, 44, 193, 0, 22, 153, 0, 15, 44, 192, 0, 22, 76, 43, 182, 0, 24, 167, 0, 4]
abbrev dktX10_kind_0 : List UInt8 := dkwX10_kind_0 ++ dktX10_kind_1
theorem dksX10_kind_0 : cX10_kind.data.toList.drop 0 = dktX10_kind_0 := by decide +kernel
theorem dksX10_kind_1 : cX10_kind.data.toList.drop 24 = dktX10_kind_1 := dk_seg dksX10_kind_0 24 rfl rfl
theorem dX10_kind_0 : decode cX10_kind 0 = .ok (.aload_n 0, 1) := dk_42 (dk_at dksX10_kind_0 0 rfl rfl)
theorem dX10_kind_1 : decode cX10_kind 1 = .ok (.invokevirtual 21, 3) := dk_182 0 21 (dk_at dksX10_kind_0 1 rfl rfl)
theorem dX10_kind_4 : decode cX10_kind 4 = .ok (.astore_n 2, 1) := dk_77 (dk_at dksX10_kind_0 4 rfl rfl)
theorem dX10_kind_5 : decode cX10_kind 5 = .ok (.aload_n 2, 1) := dk_44 (dk_at dksX10_kind_0 5 rfl rfl)
theorem dX10_kind_6 : decode cX10_kind 6 = .ok (.instanceof 22, 3) := dk_193 0 22 (dk_at dksX10_kind_0 6 rfl rfl)
theorem dX10_kind_9 : decode cX10_kind 9 = .ok (.ifCond .eq 15, 3) := dk_153 0 15 (dk_at dksX10_kind_0 9 rfl rfl)
theorem dX10_kind_12 : decode cX10_kind 12 = .ok (.aload_n 2, 1) := dk_44 (dk_at dksX10_kind_0 12 rfl rfl)
theorem dX10_kind_13 : decode cX10_kind 13 = .ok (.checkcast 22, 3) := dk_192 0 22 (dk_at dksX10_kind_0 13 rfl rfl)
theorem dX10_kind_16 : decode cX10_kind 16 = .ok (.astore_n 1, 1) := dk_76 (dk_at dksX10_kind_0 16 rfl rfl)
theorem dX10_kind_17 : decode cX10_kind 17 = .ok (.aload_n 1, 1) := dk_43 (dk_at dksX10_kind_0 17 rfl rfl)
theorem dX10_kind_18 : decode cX10_kind 18 = .ok (.invokevirtual 24, 3) := dk_182 0 24 (dk_at dksX10_kind_0 18 rfl rfl)
theorem dX10_kind_21 : decode cX10_kind 21 = .ok (.goto 4, 3) := dk_167 0 4 (dk_at dksX10_kind_0 21 rfl rfl)
theorem dX10_kind_24 : decode cX10_kind 24 = .ok (.iconst 1, 1) := dk_4 (dk_at dksX10_kind_1 0 rfl rfl)
theorem dX10_kind_25 : decode cX10_kind 25 = .ok (.ireturn, 1) := dk_172 (dk_at dksX10_kind_1 1 rfl rfl)
abbrev cX10_depth : ByteArray := prog_7_method_2_code
def yX10_depth : MethodName := ⟨RX10, "depth", "()I"⟩
def dkwX10_depth_0 : List UInt8 := [3, 60, 42, 77, 44, 198, 0, 14, 132, 1, 1, 44, 182, 0, 15, 77, 167, 255, 244, 27, 172]
abbrev dktX10_depth_0 : List UInt8 := dkwX10_depth_0 ++ []
theorem dksX10_depth_0 : cX10_depth.data.toList.drop 0 = dktX10_depth_0 := by decide +kernel
theorem dX10_depth_0 : decode cX10_depth 0 = .ok (.iconst 0, 1) := dk_3 (dk_at dksX10_depth_0 0 rfl rfl)
theorem dX10_depth_1 : decode cX10_depth 1 = .ok (.istore_n 1, 1) := dk_60 (dk_at dksX10_depth_0 1 rfl rfl)
theorem dX10_depth_2 : decode cX10_depth 2 = .ok (.aload_n 0, 1) := dk_42 (dk_at dksX10_depth_0 2 rfl rfl)
theorem dX10_depth_3 : decode cX10_depth 3 = .ok (.astore_n 2, 1) := dk_77 (dk_at dksX10_depth_0 3 rfl rfl)
theorem dX10_depth_4 : decode cX10_depth 4 = .ok (.aload_n 2, 1) := dk_44 (dk_at dksX10_depth_0 4 rfl rfl)
theorem dX10_depth_5 : decode cX10_depth 5 = .ok (.ifnull 14, 3) := dk_198 0 14 (dk_at dksX10_depth_0 5 rfl rfl)
theorem dX10_depth_8 : decode cX10_depth 8 = .ok (.iinc 1 1, 3) := dk_132 1 1 (dk_at dksX10_depth_0 8 rfl rfl)
theorem dX10_depth_11 : decode cX10_depth 11 = .ok (.aload_n 2, 1) := dk_44 (dk_at dksX10_depth_0 11 rfl rfl)
theorem dX10_depth_12 : decode cX10_depth 12 = .ok (.invokevirtual 15, 3) := dk_182 0 15 (dk_at dksX10_depth_0 12 rfl rfl)
theorem dX10_depth_15 : decode cX10_depth 15 = .ok (.astore_n 2, 1) := dk_77 (dk_at dksX10_depth_0 15 rfl rfl)
theorem dX10_depth_16 : decode cX10_depth 16 = .ok (.goto (-12), 3) := dk_167 255 244 (dk_at dksX10_depth_0 16 rfl rfl)
theorem dX10_depth_19 : decode cX10_depth 19 = .ok (.iload_n 1, 1) := dk_27 (dk_at dksX10_depth_0 19 rfl rfl)
theorem dX10_depth_20 : decode cX10_depth 20 = .ok (.ireturn, 1) := dk_172 (dk_at dksX10_depth_0 20 rfl rfl)
abbrev cX10_code : ByteArray := prog_7_method_4_code
def yX10_code : MethodName := ⟨RX10, "code", "()I"⟩
def dkwX10_code_1 : List UInt8 := [18, 31, 172]
abbrev dktX10_code_1 : List UInt8 := dkwX10_code_1 ++ []
def dkwX10_code_0 : List UInt8 := [42, 182, 0, 21, 77, 44, 193, 0, 22, 153, 0, 15, 44, 192, 0, 22, 76, 43, 180, 0, 28, 167, 0, 5]
abbrev dktX10_code_0 : List UInt8 := dkwX10_code_0 ++ dktX10_code_1
theorem dksX10_code_0 : cX10_code.data.toList.drop 0 = dktX10_code_0 := by decide +kernel
theorem dksX10_code_1 : cX10_code.data.toList.drop 24 = dktX10_code_1 := dk_seg dksX10_code_0 24 rfl rfl
theorem dX10_code_0 : decode cX10_code 0 = .ok (.aload_n 0, 1) := dk_42 (dk_at dksX10_code_0 0 rfl rfl)
theorem dX10_code_1 : decode cX10_code 1 = .ok (.invokevirtual 21, 3) := dk_182 0 21 (dk_at dksX10_code_0 1 rfl rfl)
theorem dX10_code_4 : decode cX10_code 4 = .ok (.astore_n 2, 1) := dk_77 (dk_at dksX10_code_0 4 rfl rfl)
theorem dX10_code_5 : decode cX10_code 5 = .ok (.aload_n 2, 1) := dk_44 (dk_at dksX10_code_0 5 rfl rfl)
theorem dX10_code_6 : decode cX10_code 6 = .ok (.instanceof 22, 3) := dk_193 0 22 (dk_at dksX10_code_0 6 rfl rfl)
theorem dX10_code_9 : decode cX10_code 9 = .ok (.ifCond .eq 15, 3) := dk_153 0 15 (dk_at dksX10_code_0 9 rfl rfl)
theorem dX10_code_12 : decode cX10_code 12 = .ok (.aload_n 2, 1) := dk_44 (dk_at dksX10_code_0 12 rfl rfl)
theorem dX10_code_13 : decode cX10_code 13 = .ok (.checkcast 22, 3) := dk_192 0 22 (dk_at dksX10_code_0 13 rfl rfl)
theorem dX10_code_16 : decode cX10_code 16 = .ok (.astore_n 1, 1) := dk_76 (dk_at dksX10_code_0 16 rfl rfl)
theorem dX10_code_17 : decode cX10_code 17 = .ok (.aload_n 1, 1) := dk_43 (dk_at dksX10_code_0 17 rfl rfl)
theorem dX10_code_18 : decode cX10_code 18 = .ok (.getfield 28, 3) := dk_180 0 28 (dk_at dksX10_code_0 18 rfl rfl)
theorem dX10_code_21 : decode cX10_code 21 = .ok (.goto 5, 3) := dk_167 0 5 (dk_at dksX10_code_0 21 rfl rfl)
theorem dX10_code_24 : decode cX10_code 24 = .ok (.ldc 31, 2) := dk_18 31 (dk_at dksX10_code_1 0 rfl rfl)
theorem dX10_code_26 : decode cX10_code 26 = .ok (.ireturn, 1) := dk_172 (dk_at dksX10_code_1 2 rfl rfl)
theorem q88 : (Jvm.Cond.initialized "TicketScales$FailureException") ∈ lw_all := lw_g (lw_at lw_m1 29 rfl) rfl
theorem q407 : (Jvm.Cond.selects "TicketScales$FailureException" ({ cls := "java/lang/Object", name := "getClass", desc := "()Ljava/lang/Class;" } : Jvm.MethodName) ({ cls := "java/lang/Object", name := "getClass", desc := "()Ljava/lang/Class;" } : Jvm.MethodName)) ∈ lw_all := lw_g (lw_at lw_m2 108 rfl) rfl
theorem q1258 : (Jvm.Cond.instantiable "TicketScales$FailureException" (7 : Nat)) ∈ lw_all := lw_g (lw_at lw_m5 239 rfl) rfl
theorem q1259 : (Jvm.Cond.castable "TicketScales$FailureException" "TicketScales$FailureException") ∈ lw_tbl := lw_at lw_m6 0 rfl
theorem q1264 : (Jvm.Cond.selects "TicketScales$FailureException" ({ cls := "java/lang/Throwable", name := "fillInStackTrace", desc := "(I)Ljava/lang/Throwable;" } : Jvm.MethodName) ({ cls := "java/lang/Throwable", name := "fillInStackTrace", desc := "(I)Ljava/lang/Throwable;" } : Jvm.MethodName)) ∈ lw_all := lw_g (lw_at lw_m6 5 rfl) rfl
theorem q1265 : (Jvm.Cond.selects "TicketScales$FailureException" ({ cls := "java/lang/Throwable", name := "fillInStackTrace", desc := "()Ljava/lang/Throwable;" } : Jvm.MethodName) ({ cls := "java/lang/Throwable", name := "fillInStackTrace", desc := "()Ljava/lang/Throwable;" } : Jvm.MethodName)) ∈ lw_all := lw_g (lw_at lw_m6 6 rfl) rfl
theorem q1266 : (Jvm.Cond.lays "TicketScales$FailureException" "java/lang/Throwable" "cause" "Ljava/lang/Throwable;") ∈ lw_all := lw_g (lw_at lw_m6 7 rfl) rfl
theorem q1268 : (Jvm.Cond.lays "TicketScales$FailureException" "java/lang/Throwable" "stackTrace" "[Ljava/lang/StackTraceElement;") ∈ lw_all := lw_g (lw_at lw_m6 9 rfl) rfl
theorem q1270 : (Jvm.Cond.lays "TicketScales$FailureException" "java/lang/Throwable" "suppressedExceptions" "Ljava/util/List;") ∈ lw_all := lw_g (lw_at lw_m6 11 rfl) rfl
theorem q1272 : (Jvm.Cond.lays "TicketScales$FailureException" "java/lang/Throwable" "detailMessage" "Ljava/lang/String;") ∈ lw_all := lw_g (lw_at lw_m6 13 rfl) rfl
theorem q1274 : (Jvm.Cond.lays "TicketScales$FailureException" "java/lang/Throwable" "backtrace" "Ljava/lang/Object;") ∈ lw_all := lw_g (lw_at lw_m6 15 rfl) rfl
theorem q1297 : (Jvm.Cond.instanceMethod ({ cls := "TicketScales$FailureException", name := "<init>", desc := "(ILTicketScales$CallException;)V" } : Jvm.MethodName)) ∈ lw_all := lw_g (lw_at lw_m6 38 rfl) rfl
theorem q1298 : (Jvm.Cond.code ({ cls := "TicketScales$FailureException", name := "<init>", desc := "(ILTicketScales$CallException;)V" } : Jvm.MethodName) prog_7_method_1_code (3 : Nat) (Option.none : Option Jvm.ClassFile.FieldType)) ∈ lw_all := lw_g (lw_at lw_m6 39 rfl) rfl
theorem q1299 : (Jvm.Cond.methodLink "TicketScales$FailureException" (3 : Nat) ({ cls := "java/lang/Exception", name := "<init>", desc := "(Ljava/lang/String;Ljava/lang/Throwable;)V" } : Jvm.MethodName)) ∈ lw_all := lw_g (lw_at lw_m6 40 rfl) rfl
theorem q1305 : (Jvm.Cond.fieldLink "TicketScales$FailureException" (9 : Nat) "TicketScales$FailureException" "place" "I") ∈ lw_all := lw_g (lw_at lw_m6 46 rfl) rfl
theorem q1313 : (Jvm.Cond.laysFinal "TicketScales$FailureException" "TicketScales$FailureException" "place" "I") ∈ lw_all := lw_g (lw_at lw_m6 54 rfl) rfl
theorem q1314 : (Jvm.Cond.soleField "TicketScales$FailureException" "place") ∈ lw_all := lw_g (lw_at lw_m6 55 rfl) rfl
theorem q1319 : (Jvm.Cond.lays "TicketScales$FailureException" "java/lang/Throwable" "depth" "I") ∈ lw_all := lw_g (lw_at lw_m6 60 rfl) rfl
theorem q1322 : (Jvm.Cond.superclass "TicketScales$FailureException" "java/lang/Exception") ∈ lw_all := lw_g (lw_at lw_m6 63 rfl) rfl
theorem q1373 : (Jvm.Cond.fieldLinkNest "TicketScales$FailureException" (28 : Nat) "TicketScales$CallException" "code" "I" "TicketScales") ∈ lw_tbl := lw_at lw_m6 114 rfl
theorem q1395 : (Jvm.Cond.instanceMethod ({ cls := "TicketScales$FailureException", name := "kind", desc := "()I" } : Jvm.MethodName)) ∈ lw_all := lw_g (lw_at lw_m6 136 rfl) rfl
theorem q1396 : (Jvm.Cond.selects "TicketScales$FailureException" ({ cls := "TicketScales$FailureException", name := "kind", desc := "()I" } : Jvm.MethodName) ({ cls := "TicketScales$FailureException", name := "kind", desc := "()I" } : Jvm.MethodName)) ∈ lw_all := lw_g (lw_at lw_m6 137 rfl) rfl
theorem q1397 : (Jvm.Cond.code ({ cls := "TicketScales$FailureException", name := "kind", desc := "()I" } : Jvm.MethodName) prog_7_method_3_code (3 : Nat) (Option.some Jvm.ClassFile.FieldType.int)) ∈ lw_all := lw_g (lw_at lw_m6 138 rfl) rfl
theorem q1398 : (Jvm.Cond.methodLink "TicketScales$FailureException" (21 : Nat) ({ cls := "TicketScales$FailureException", name := "getCause", desc := "()Ljava/lang/Throwable;" } : Jvm.MethodName)) ∈ lw_all := lw_g (lw_at lw_m6 139 rfl) rfl
theorem q1399 : (Jvm.Cond.sameMethod "TicketScales$FailureException" "java/lang/Throwable" "getCause" "()Ljava/lang/Throwable;") ∈ lw_all := lw_g (lw_at lw_m6 140 rfl) rfl
theorem q1401 : (Jvm.Cond.selects "TicketScales$FailureException" ({ cls := "TicketScales$FailureException", name := "getCause", desc := "()Ljava/lang/Throwable;" } : Jvm.MethodName) ({ cls := "java/lang/Throwable", name := "getCause", desc := "()Ljava/lang/Throwable;" } : Jvm.MethodName)) ∈ lw_all := lw_g (lw_at lw_m6 142 rfl) rfl
theorem q1404 : (Jvm.Cond.classLink "TicketScales$FailureException" (22 : Nat) "TicketScales$CallException") ∈ lw_all := lw_g (lw_at lw_m6 145 rfl) rfl
theorem q1405 : (Jvm.Cond.methodLink "TicketScales$FailureException" (24 : Nat) ({ cls := "TicketScales$CallException", name := "kind", desc := "()I" } : Jvm.MethodName)) ∈ lw_all := lw_g (lw_at lw_m6 146 rfl) rfl
theorem q1415 : (Jvm.Cond.instanceMethod ({ cls := "TicketScales$FailureException", name := "depth", desc := "()I" } : Jvm.MethodName)) ∈ lw_all := lw_g (lw_at lw_m6 156 rfl) rfl
theorem q1416 : (Jvm.Cond.selects "TicketScales$FailureException" ({ cls := "TicketScales$FailureException", name := "depth", desc := "()I" } : Jvm.MethodName) ({ cls := "TicketScales$FailureException", name := "depth", desc := "()I" } : Jvm.MethodName)) ∈ lw_all := lw_g (lw_at lw_m6 157 rfl) rfl
theorem q1417 : (Jvm.Cond.code ({ cls := "TicketScales$FailureException", name := "depth", desc := "()I" } : Jvm.MethodName) prog_7_method_2_code (3 : Nat) (Option.some Jvm.ClassFile.FieldType.int)) ∈ lw_all := lw_g (lw_at lw_m6 158 rfl) rfl
theorem q1418 : (Jvm.Cond.methodLink "TicketScales$FailureException" (15 : Nat) ({ cls := "java/lang/Throwable", name := "getCause", desc := "()Ljava/lang/Throwable;" } : Jvm.MethodName)) ∈ lw_all := lw_g (lw_at lw_m6 159 rfl) rfl
theorem q1420 : (Jvm.Cond.instanceMethod ({ cls := "TicketScales$FailureException", name := "code", desc := "()I" } : Jvm.MethodName)) ∈ lw_all := lw_g (lw_at lw_m6 161 rfl) rfl
theorem q1421 : (Jvm.Cond.selects "TicketScales$FailureException" ({ cls := "TicketScales$FailureException", name := "code", desc := "()I" } : Jvm.MethodName) ({ cls := "TicketScales$FailureException", name := "code", desc := "()I" } : Jvm.MethodName)) ∈ lw_all := lw_g (lw_at lw_m6 162 rfl) rfl
theorem q1422 : (Jvm.Cond.code ({ cls := "TicketScales$FailureException", name := "code", desc := "()I" } : Jvm.MethodName) prog_7_method_4_code (3 : Nat) (Option.some Jvm.ClassFile.FieldType.int)) ∈ lw_all := lw_g (lw_at lw_m6 163 rfl) rfl
theorem q1423 : (Jvm.Cond.constant "TicketScales$FailureException" (31 : Nat) (-100009 : Int32)) ∈ lw_all := lw_g (lw_at lw_m6 164 rfl) rfl
theorem q1931 : (Jvm.Cond.selects "TicketScales$FailureException" ({ cls := "java/lang/Throwable", name := "getCause", desc := "()Ljava/lang/Throwable;" } : Jvm.MethodName) ({ cls := "java/lang/Throwable", name := "getCause", desc := "()Ljava/lang/Throwable;" } : Jvm.MethodName)) ∈ lw_all := lw_g (lw_at lw_m8 192 rfl) rfl
theorem q1962 : (Jvm.Cond.castable "TicketScales$FailureException" "java/lang/Object") ∈ lw_tbl := lw_at lw_m8 223 rfl
theorem in_X10 : ∀ w ∈ wsX100, w ∈ lw_all := lw_in wsX100 [1266, 1268, 1270, 1272, 1274, 1319, 1313] (by decide +kernel) (by decide +kernel)

/-! TicketScales$CallException -/
set_option maxRecDepth 100000
def RX11 : String := "TicketScales$CallException"
abbrev cX11_init : ByteArray := prog_4_method_1_code
def yX11_init : MethodName := ⟨RX11, "<init>", "(I)V"⟩
def dkwX11_init_0 : List UInt8 := [42, 18, 1, 183, 0, 3, 42, 27, 181, 0, 9, 177]
abbrev dktX11_init_0 : List UInt8 := dkwX11_init_0 ++ []
theorem dksX11_init_0 : cX11_init.data.toList.drop 0 = dktX11_init_0 := by decide +kernel
theorem dX11_init_0 : decode cX11_init 0 = .ok (.aload_n 0, 1) := dk_42 (dk_at dksX11_init_0 0 rfl rfl)
theorem dX11_init_1 : decode cX11_init 1 = .ok (.ldc 1, 2) := dk_18 1 (dk_at dksX11_init_0 1 rfl rfl)
theorem dX11_init_3 : decode cX11_init 3 = .ok (.invokespecial 3, 3) := dk_183 0 3 (dk_at dksX11_init_0 3 rfl rfl)
theorem dX11_init_6 : decode cX11_init 6 = .ok (.aload_n 0, 1) := dk_42 (dk_at dksX11_init_0 6 rfl rfl)
theorem dX11_init_7 : decode cX11_init 7 = .ok (.iload_n 1, 1) := dk_27 (dk_at dksX11_init_0 7 rfl rfl)
theorem dX11_init_8 : decode cX11_init 8 = .ok (.putfield 9, 3) := dk_181 0 9 (dk_at dksX11_init_0 8 rfl rfl)
theorem dX11_init_11 : decode cX11_init 11 = .ok (.return_, 1) := dk_177 (dk_at dksX11_init_0 11 rfl rfl)
theorem q89 : (Jvm.Cond.initialized "TicketScales$CallException") ∈ lw_all := lw_g (lw_at lw_m1 30 rfl) rfl
theorem q1363 : (Jvm.Cond.instanceMethod ({ cls := "TicketScales$CallException", name := "<init>", desc := "(I)V" } : Jvm.MethodName)) ∈ lw_all := lw_g (lw_at lw_m6 104 rfl) rfl
theorem q1364 : (Jvm.Cond.code ({ cls := "TicketScales$CallException", name := "<init>", desc := "(I)V" } : Jvm.MethodName) prog_4_method_1_code (2 : Nat) (Option.none : Option Jvm.ClassFile.FieldType)) ∈ lw_all := lw_g (lw_at lw_m6 105 rfl) rfl
theorem q1365 : (Jvm.Cond.stringRef "TicketScales$CallException" (1 : Nat) "refused") ∈ lw_tbl := lw_at lw_m6 106 rfl
theorem q1366 : (Jvm.Cond.methodLink "TicketScales$CallException" (3 : Nat) ({ cls := "java/lang/Exception", name := "<init>", desc := "(Ljava/lang/String;)V" } : Jvm.MethodName)) ∈ lw_all := lw_g (lw_at lw_m6 107 rfl) rfl
theorem q1372 : (Jvm.Cond.fieldLink "TicketScales$CallException" (9 : Nat) "TicketScales$CallException" "code" "I") ∈ lw_all := lw_g (lw_at lw_m6 113 rfl) rfl
theorem q1375 : (Jvm.Cond.soleField "TicketScales$CallException" "code") ∈ lw_all := lw_g (lw_at lw_m6 116 rfl) rfl
theorem q1406 : (Jvm.Cond.declares ({ cls := "TicketScales$CallException", name := "kind", desc := "()I" } : Jvm.MethodName)) ∈ lw_tbl := lw_at lw_m6 147 rfl
theorem q1407 : (Jvm.Cond.sameMethod "TicketScales$CallException" "TicketScales$CallException" "kind" "()I") ∈ lw_all := lw_g (lw_at lw_m6 148 rfl) rfl

/-! TicketScales$ArgumentException -/
set_option maxRecDepth 100000
def RX12 : String := "TicketScales$ArgumentException"
def TX12 : u_T := fun k => match k with
  | 0 => ("TicketScales$CallException", "code", "I", true)
  | 1 => ("java/lang/Throwable", "cause", "Ljava/lang/Throwable;", false)
  | 2 => ("java/lang/Throwable", "stackTrace", "[Ljava/lang/StackTraceElement;", false)
  | 3 => ("java/lang/Throwable", "suppressedExceptions", "Ljava/util/List;", false)
  | 4 => ("java/lang/Throwable", "detailMessage", "Ljava/lang/String;", false)
  | 5 => ("java/lang/Throwable", "backtrace", "Ljava/lang/Object;", false)
  | _ => ("java/lang/Throwable", "depth", "I", false)
def tyX12 : Nat → FieldType := fun k => match k with
  | 0 => .int
  | 1 => .object "java/lang/Throwable"
  | 2 => .array (.object "java/lang/StackTraceElement")
  | 3 => .object "java/util/List"
  | 4 => .object "java/lang/String"
  | 5 => .object "java/lang/Object"
  | _ => .int
abbrev wsX120 : List Cond := u_ws RX12 TX12 7
theorem nmX12 : ∀ a, a < 7 → ∀ b, b < 7 → a ≠ b → (TX12 a).2.1 ≠ (TX12 b).2.1 := by decide +kernel
theorem tyX12_ok : ∀ k, k < 7 → parseFieldDescriptor (TX12 k).2.2.1 = some (tyX12 k) := by decide +kernel
abbrev cX12_init : ByteArray := prog_2_method_1_code
def yX12_init : MethodName := ⟨RX12, "<init>", "()V"⟩
def dkwX12_init_0 : List UInt8 := [42, 18, 3, 183, 0, 4, 177]
abbrev dktX12_init_0 : List UInt8 := dkwX12_init_0 ++ []
theorem dksX12_init_0 : cX12_init.data.toList.drop 0 = dktX12_init_0 := by decide +kernel
theorem dX12_init_0 : decode cX12_init 0 = .ok (.aload_n 0, 1) := dk_42 (dk_at dksX12_init_0 0 rfl rfl)
theorem dX12_init_1 : decode cX12_init 1 = .ok (.ldc 3, 2) := dk_18 3 (dk_at dksX12_init_0 1 rfl rfl)
theorem dX12_init_3 : decode cX12_init 3 = .ok (.invokespecial 4, 3) := dk_183 0 4 (dk_at dksX12_init_0 3 rfl rfl)
theorem dX12_init_6 : decode cX12_init 6 = .ok (.return_, 1) := dk_177 (dk_at dksX12_init_0 6 rfl rfl)
abbrev cX12_kind : ByteArray := prog_2_method_2_code
def yX12_kind : MethodName := ⟨RX12, "kind", "()I"⟩
theorem dX12_kind_0 : decode cX12_kind 0 = .ok (.iconst 2, 1) := by decide +kernel
theorem dX12_kind_1 : decode cX12_kind 1 = .ok (.ireturn, 1) := by decide +kernel
theorem q90 : (Jvm.Cond.initialized "TicketScales$ArgumentException") ∈ lw_all := lw_g (lw_at lw_m1 31 rfl) rfl
theorem q404 : (Jvm.Cond.selects "TicketScales$ArgumentException" ({ cls := "java/lang/Object", name := "getClass", desc := "()Ljava/lang/Class;" } : Jvm.MethodName) ({ cls := "java/lang/Object", name := "getClass", desc := "()Ljava/lang/Class;" } : Jvm.MethodName)) ∈ lw_all := lw_g (lw_at lw_m2 105 rfl) rfl
theorem q1288 : (Jvm.Cond.selects "TicketScales$ArgumentException" ({ cls := "java/lang/Throwable", name := "fillInStackTrace", desc := "()Ljava/lang/Throwable;" } : Jvm.MethodName) ({ cls := "java/lang/Throwable", name := "fillInStackTrace", desc := "()Ljava/lang/Throwable;" } : Jvm.MethodName)) ∈ lw_all := lw_g (lw_at lw_m6 29 rfl) rfl
theorem q1350 : (Jvm.Cond.instantiable "TicketScales$ArgumentException" (7 : Nat)) ∈ lw_all := lw_g (lw_at lw_m6 91 rfl) rfl
theorem q1351 : (Jvm.Cond.castable "TicketScales$ArgumentException" "TicketScales$ArgumentException") ∈ lw_tbl := lw_at lw_m6 92 rfl
theorem q1352 : (Jvm.Cond.selects "TicketScales$ArgumentException" ({ cls := "java/lang/Throwable", name := "fillInStackTrace", desc := "(I)Ljava/lang/Throwable;" } : Jvm.MethodName) ({ cls := "java/lang/Throwable", name := "fillInStackTrace", desc := "(I)Ljava/lang/Throwable;" } : Jvm.MethodName)) ∈ lw_all := lw_g (lw_at lw_m6 93 rfl) rfl
theorem q1353 : (Jvm.Cond.lays "TicketScales$ArgumentException" "java/lang/Throwable" "cause" "Ljava/lang/Throwable;") ∈ lw_all := lw_g (lw_at lw_m6 94 rfl) rfl
theorem q1354 : (Jvm.Cond.lays "TicketScales$ArgumentException" "java/lang/Throwable" "stackTrace" "[Ljava/lang/StackTraceElement;") ∈ lw_all := lw_g (lw_at lw_m6 95 rfl) rfl
theorem q1355 : (Jvm.Cond.lays "TicketScales$ArgumentException" "java/lang/Throwable" "suppressedExceptions" "Ljava/util/List;") ∈ lw_all := lw_g (lw_at lw_m6 96 rfl) rfl
theorem q1356 : (Jvm.Cond.lays "TicketScales$ArgumentException" "java/lang/Throwable" "detailMessage" "Ljava/lang/String;") ∈ lw_all := lw_g (lw_at lw_m6 97 rfl) rfl
theorem q1357 : (Jvm.Cond.lays "TicketScales$ArgumentException" "java/lang/Throwable" "backtrace" "Ljava/lang/Object;") ∈ lw_all := lw_g (lw_at lw_m6 98 rfl) rfl
theorem q1359 : (Jvm.Cond.instanceMethod ({ cls := "TicketScales$ArgumentException", name := "<init>", desc := "()V" } : Jvm.MethodName)) ∈ lw_all := lw_g (lw_at lw_m6 100 rfl) rfl
theorem q1360 : (Jvm.Cond.code ({ cls := "TicketScales$ArgumentException", name := "<init>", desc := "()V" } : Jvm.MethodName) prog_2_method_1_code (1 : Nat) (Option.none : Option Jvm.ClassFile.FieldType)) ∈ lw_all := lw_g (lw_at lw_m6 101 rfl) rfl
theorem q1361 : (Jvm.Cond.constant "TicketScales$ArgumentException" (3 : Nat) (-100001 : Int32)) ∈ lw_all := lw_g (lw_at lw_m6 102 rfl) rfl
theorem q1362 : (Jvm.Cond.methodLink "TicketScales$ArgumentException" (4 : Nat) ({ cls := "TicketScales$CallException", name := "<init>", desc := "(I)V" } : Jvm.MethodName)) ∈ lw_all := lw_g (lw_at lw_m6 103 rfl) rfl
theorem q1374 : (Jvm.Cond.laysFinal "TicketScales$ArgumentException" "TicketScales$CallException" "code" "I") ∈ lw_all := lw_g (lw_at lw_m6 115 rfl) rfl
theorem q1376 : (Jvm.Cond.lays "TicketScales$ArgumentException" "java/lang/Throwable" "depth" "I") ∈ lw_all := lw_g (lw_at lw_m6 117 rfl) rfl
theorem q1377 : (Jvm.Cond.superclass "TicketScales$ArgumentException" "TicketScales$CallException") ∈ lw_all := lw_g (lw_at lw_m6 118 rfl) rfl
theorem q1408 : (Jvm.Cond.selects "TicketScales$ArgumentException" ({ cls := "TicketScales$CallException", name := "kind", desc := "()I" } : Jvm.MethodName) ({ cls := "TicketScales$ArgumentException", name := "kind", desc := "()I" } : Jvm.MethodName)) ∈ lw_all := lw_g (lw_at lw_m6 149 rfl) rfl
theorem q1409 : (Jvm.Cond.instanceMethod ({ cls := "TicketScales$ArgumentException", name := "kind", desc := "()I" } : Jvm.MethodName)) ∈ lw_all := lw_g (lw_at lw_m6 150 rfl) rfl
theorem q1410 : (Jvm.Cond.code ({ cls := "TicketScales$ArgumentException", name := "kind", desc := "()I" } : Jvm.MethodName) prog_2_method_2_code (1 : Nat) (Option.some Jvm.ClassFile.FieldType.int)) ∈ lw_all := lw_g (lw_at lw_m6 151 rfl) rfl
theorem q1930 : (Jvm.Cond.selects "TicketScales$ArgumentException" ({ cls := "java/lang/Throwable", name := "getCause", desc := "()Ljava/lang/Throwable;" } : Jvm.MethodName) ({ cls := "java/lang/Throwable", name := "getCause", desc := "()Ljava/lang/Throwable;" } : Jvm.MethodName)) ∈ lw_all := lw_g (lw_at lw_m8 191 rfl) rfl
theorem q1939 : (Jvm.Cond.castable "TicketScales$ArgumentException" "TicketScales$CallException") ∈ lw_tbl := lw_at lw_m8 200 rfl
theorem q1963 : (Jvm.Cond.castable "TicketScales$ArgumentException" "java/lang/Object") ∈ lw_tbl := lw_at lw_m8 224 rfl
theorem in_X12 : ∀ w ∈ wsX120, w ∈ lw_all := lw_in wsX120 [1374, 1353, 1354, 1355, 1356, 1357, 1376] (by decide +kernel) (by decide +kernel)

/-! TicketScales$RefusalException -/
set_option maxRecDepth 100000
def RX13 : String := "TicketScales$RefusalException"
def TX13 : u_T := fun k => match k with
  | 0 => ("TicketScales$CallException", "code", "I", true)
  | 1 => ("java/lang/Throwable", "cause", "Ljava/lang/Throwable;", false)
  | 2 => ("java/lang/Throwable", "stackTrace", "[Ljava/lang/StackTraceElement;", false)
  | 3 => ("java/lang/Throwable", "suppressedExceptions", "Ljava/util/List;", false)
  | 4 => ("java/lang/Throwable", "detailMessage", "Ljava/lang/String;", false)
  | 5 => ("java/lang/Throwable", "backtrace", "Ljava/lang/Object;", false)
  | _ => ("java/lang/Throwable", "depth", "I", false)
def tyX13 : Nat → FieldType := fun k => match k with
  | 0 => .int
  | 1 => .object "java/lang/Throwable"
  | 2 => .array (.object "java/lang/StackTraceElement")
  | 3 => .object "java/util/List"
  | 4 => .object "java/lang/String"
  | 5 => .object "java/lang/Object"
  | _ => .int
abbrev wsX130 : List Cond := u_ws RX13 TX13 7
theorem nmX13 : ∀ a, a < 7 → ∀ b, b < 7 → a ≠ b → (TX13 a).2.1 ≠ (TX13 b).2.1 := by decide +kernel
theorem tyX13_ok : ∀ k, k < 7 → parseFieldDescriptor (TX13 k).2.2.1 = some (tyX13 k) := by decide +kernel
abbrev cX13_init : ByteArray := prog_16_method_1_code
def yX13_init : MethodName := ⟨RX13, "<init>", "(I)V"⟩
def dkwX13_init_0 : List UInt8 := [42, 27, 183, 0, 3, 177]
abbrev dktX13_init_0 : List UInt8 := dkwX13_init_0 ++ []
theorem dksX13_init_0 : cX13_init.data.toList.drop 0 = dktX13_init_0 := by decide +kernel
theorem dX13_init_0 : decode cX13_init 0 = .ok (.aload_n 0, 1) := dk_42 (dk_at dksX13_init_0 0 rfl rfl)
theorem dX13_init_1 : decode cX13_init 1 = .ok (.iload_n 1, 1) := dk_27 (dk_at dksX13_init_0 1 rfl rfl)
theorem dX13_init_2 : decode cX13_init 2 = .ok (.invokespecial 3, 3) := dk_183 0 3 (dk_at dksX13_init_0 2 rfl rfl)
theorem dX13_init_5 : decode cX13_init 5 = .ok (.return_, 1) := dk_177 (dk_at dksX13_init_0 5 rfl rfl)
abbrev cX13_kind : ByteArray := prog_16_method_2_code
def yX13_kind : MethodName := ⟨RX13, "kind", "()I"⟩
theorem dX13_kind_0 : decode cX13_kind 0 = .ok (.iconst 3, 1) := by decide +kernel
theorem dX13_kind_1 : decode cX13_kind 1 = .ok (.ireturn, 1) := by decide +kernel
theorem q91 : (Jvm.Cond.initialized "TicketScales$RefusalException") ∈ lw_all := lw_g (lw_at lw_m1 32 rfl) rfl
theorem q415 : (Jvm.Cond.selects "TicketScales$RefusalException" ({ cls := "java/lang/Object", name := "getClass", desc := "()Ljava/lang/Class;" } : Jvm.MethodName) ({ cls := "java/lang/Object", name := "getClass", desc := "()Ljava/lang/Class;" } : Jvm.MethodName)) ∈ lw_all := lw_g (lw_at lw_m2 116 rfl) rfl
theorem q1289 : (Jvm.Cond.selects "TicketScales$RefusalException" ({ cls := "java/lang/Throwable", name := "fillInStackTrace", desc := "()Ljava/lang/Throwable;" } : Jvm.MethodName) ({ cls := "java/lang/Throwable", name := "fillInStackTrace", desc := "()Ljava/lang/Throwable;" } : Jvm.MethodName)) ∈ lw_all := lw_g (lw_at lw_m6 30 rfl) rfl
theorem q1379 : (Jvm.Cond.instantiable "TicketScales$RefusalException" (7 : Nat)) ∈ lw_all := lw_g (lw_at lw_m6 120 rfl) rfl
theorem q1380 : (Jvm.Cond.castable "TicketScales$RefusalException" "TicketScales$RefusalException") ∈ lw_tbl := lw_at lw_m6 121 rfl
theorem q1381 : (Jvm.Cond.selects "TicketScales$RefusalException" ({ cls := "java/lang/Throwable", name := "fillInStackTrace", desc := "(I)Ljava/lang/Throwable;" } : Jvm.MethodName) ({ cls := "java/lang/Throwable", name := "fillInStackTrace", desc := "(I)Ljava/lang/Throwable;" } : Jvm.MethodName)) ∈ lw_all := lw_g (lw_at lw_m6 122 rfl) rfl
theorem q1382 : (Jvm.Cond.lays "TicketScales$RefusalException" "java/lang/Throwable" "cause" "Ljava/lang/Throwable;") ∈ lw_all := lw_g (lw_at lw_m6 123 rfl) rfl
theorem q1383 : (Jvm.Cond.lays "TicketScales$RefusalException" "java/lang/Throwable" "stackTrace" "[Ljava/lang/StackTraceElement;") ∈ lw_all := lw_g (lw_at lw_m6 124 rfl) rfl
theorem q1384 : (Jvm.Cond.lays "TicketScales$RefusalException" "java/lang/Throwable" "suppressedExceptions" "Ljava/util/List;") ∈ lw_all := lw_g (lw_at lw_m6 125 rfl) rfl
theorem q1385 : (Jvm.Cond.lays "TicketScales$RefusalException" "java/lang/Throwable" "detailMessage" "Ljava/lang/String;") ∈ lw_all := lw_g (lw_at lw_m6 126 rfl) rfl
theorem q1386 : (Jvm.Cond.lays "TicketScales$RefusalException" "java/lang/Throwable" "backtrace" "Ljava/lang/Object;") ∈ lw_all := lw_g (lw_at lw_m6 127 rfl) rfl
theorem q1388 : (Jvm.Cond.instanceMethod ({ cls := "TicketScales$RefusalException", name := "<init>", desc := "(I)V" } : Jvm.MethodName)) ∈ lw_all := lw_g (lw_at lw_m6 129 rfl) rfl
theorem q1389 : (Jvm.Cond.code ({ cls := "TicketScales$RefusalException", name := "<init>", desc := "(I)V" } : Jvm.MethodName) prog_16_method_1_code (2 : Nat) (Option.none : Option Jvm.ClassFile.FieldType)) ∈ lw_all := lw_g (lw_at lw_m6 130 rfl) rfl
theorem q1390 : (Jvm.Cond.methodLink "TicketScales$RefusalException" (3 : Nat) ({ cls := "TicketScales$CallException", name := "<init>", desc := "(I)V" } : Jvm.MethodName)) ∈ lw_all := lw_g (lw_at lw_m6 131 rfl) rfl
theorem q1391 : (Jvm.Cond.laysFinal "TicketScales$RefusalException" "TicketScales$CallException" "code" "I") ∈ lw_all := lw_g (lw_at lw_m6 132 rfl) rfl
theorem q1392 : (Jvm.Cond.lays "TicketScales$RefusalException" "java/lang/Throwable" "depth" "I") ∈ lw_all := lw_g (lw_at lw_m6 133 rfl) rfl
theorem q1393 : (Jvm.Cond.superclass "TicketScales$RefusalException" "TicketScales$CallException") ∈ lw_all := lw_g (lw_at lw_m6 134 rfl) rfl
theorem q1411 : (Jvm.Cond.selects "TicketScales$RefusalException" ({ cls := "TicketScales$CallException", name := "kind", desc := "()I" } : Jvm.MethodName) ({ cls := "TicketScales$RefusalException", name := "kind", desc := "()I" } : Jvm.MethodName)) ∈ lw_all := lw_g (lw_at lw_m6 152 rfl) rfl
theorem q1412 : (Jvm.Cond.instanceMethod ({ cls := "TicketScales$RefusalException", name := "kind", desc := "()I" } : Jvm.MethodName)) ∈ lw_all := lw_g (lw_at lw_m6 153 rfl) rfl
theorem q1413 : (Jvm.Cond.code ({ cls := "TicketScales$RefusalException", name := "kind", desc := "()I" } : Jvm.MethodName) prog_16_method_2_code (1 : Nat) (Option.some Jvm.ClassFile.FieldType.int)) ∈ lw_all := lw_g (lw_at lw_m6 154 rfl) rfl
theorem q1932 : (Jvm.Cond.selects "TicketScales$RefusalException" ({ cls := "java/lang/Throwable", name := "getCause", desc := "()Ljava/lang/Throwable;" } : Jvm.MethodName) ({ cls := "java/lang/Throwable", name := "getCause", desc := "()Ljava/lang/Throwable;" } : Jvm.MethodName)) ∈ lw_all := lw_g (lw_at lw_m8 193 rfl) rfl
theorem q1940 : (Jvm.Cond.castable "TicketScales$RefusalException" "TicketScales$CallException") ∈ lw_tbl := lw_at lw_m8 201 rfl
theorem q1964 : (Jvm.Cond.castable "TicketScales$RefusalException" "java/lang/Object") ∈ lw_tbl := lw_at lw_m8 225 rfl
theorem in_X13 : ∀ w ∈ wsX130, w ∈ lw_all := lw_in wsX130 [1391, 1382, 1383, 1384, 1385, 1386, 1392] (by decide +kernel) (by decide +kernel)

/-! TicketScales$Greatest -/
set_option maxRecDepth 100000
def RX14 : String := "TicketScales$Greatest"
abbrev cX14_among : ByteArray := prog_8_method_2_code
def yX14_among : MethodName := ⟨RX14, "among", "(LTicketScales$Range;II)I"⟩
theorem dX14_among_0 : decode cX14_among 0 = .ok (.aload_n 1, 1) := by decide +kernel
theorem dX14_among_1 : decode cX14_among 1 = .ok (.getfield 7, 3) := by decide +kernel
theorem dX14_among_4 : decode cX14_among 4 = .ok (.ireturn, 1) := by decide +kernel
theorem q408 : (Jvm.Cond.selects "TicketScales$Greatest" ({ cls := "java/lang/Object", name := "getClass", desc := "()Ljava/lang/Class;" } : Jvm.MethodName) ({ cls := "java/lang/Object", name := "getClass", desc := "()Ljava/lang/Class;" } : Jvm.MethodName)) ∈ lw_all := lw_g (lw_at lw_m2 109 rfl) rfl
theorem q668 : (Jvm.Cond.fieldLinkNest "TicketScales$Greatest" (7 : Nat) "TicketScales$Range" "greatest" "I" "TicketScales") ∈ lw_tbl := lw_at lw_m3 129 rfl
theorem q692 : (Jvm.Cond.castable "TicketScales$Greatest" "TicketScales$Guess") ∈ lw_tbl := lw_at lw_m3 153 rfl
theorem q693 : (Jvm.Cond.unhidden "TicketScales$Greatest" "of" "(LTicketScales$Range;II)I") ∈ lw_tbl := lw_at lw_m3 154 rfl
theorem q707 : (Jvm.Cond.selects "TicketScales$Greatest" ({ cls := "TicketScales$Guess", name := "among", desc := "(LTicketScales$Range;II)I" } : Jvm.MethodName) ({ cls := "TicketScales$Greatest", name := "among", desc := "(LTicketScales$Range;II)I" } : Jvm.MethodName)) ∈ lw_all := lw_g (lw_at lw_m3 168 rfl) rfl
theorem q708 : (Jvm.Cond.unhidden "TicketScales$Greatest" "among" "(LTicketScales$Range;II)I") ∈ lw_tbl := lw_at lw_m3 169 rfl
theorem q709 : (Jvm.Cond.instanceMethod ({ cls := "TicketScales$Greatest", name := "among", desc := "(LTicketScales$Range;II)I" } : Jvm.MethodName)) ∈ lw_all := lw_g (lw_at lw_m3 170 rfl) rfl
theorem q710 : (Jvm.Cond.publicMethod ({ cls := "TicketScales$Greatest", name := "among", desc := "(LTicketScales$Range;II)I" } : Jvm.MethodName)) ∈ lw_tbl := lw_at lw_m3 171 rfl
theorem q711 : (Jvm.Cond.code ({ cls := "TicketScales$Greatest", name := "among", desc := "(LTicketScales$Range;II)I" } : Jvm.MethodName) prog_8_method_2_code (4 : Nat) (Option.some Jvm.ClassFile.FieldType.int)) ∈ lw_all := lw_g (lw_at lw_m3 172 rfl) rfl
theorem q1934 : (Jvm.Cond.initialized "TicketScales$Greatest") ∈ lw_all := lw_g (lw_at lw_m8 195 rfl) rfl
theorem q1954 : (Jvm.Cond.castable "TicketScales$Greatest" "java/lang/Object") ∈ lw_tbl := lw_at lw_m8 215 rfl

/-! TicketScales$Least -/
set_option maxRecDepth 100000
def RX15 : String := "TicketScales$Least"
abbrev cX15_among : ByteArray := prog_10_method_2_code
def yX15_among : MethodName := ⟨RX15, "among", "(LTicketScales$Range;II)I"⟩
theorem dX15_among_0 : decode cX15_among 0 = .ok (.aload_n 1, 1) := by decide +kernel
theorem dX15_among_1 : decode cX15_among 1 = .ok (.getfield 7, 3) := by decide +kernel
theorem dX15_among_4 : decode cX15_among 4 = .ok (.ireturn, 1) := by decide +kernel
theorem q409 : (Jvm.Cond.selects "TicketScales$Least" ({ cls := "java/lang/Object", name := "getClass", desc := "()Ljava/lang/Class;" } : Jvm.MethodName) ({ cls := "java/lang/Object", name := "getClass", desc := "()Ljava/lang/Class;" } : Jvm.MethodName)) ∈ lw_all := lw_g (lw_at lw_m2 110 rfl) rfl
theorem q664 : (Jvm.Cond.fieldLinkNest "TicketScales$Least" (7 : Nat) "TicketScales$Range" "least" "I" "TicketScales") ∈ lw_tbl := lw_at lw_m3 125 rfl
theorem q712 : (Jvm.Cond.castable "TicketScales$Least" "TicketScales$Guess") ∈ lw_tbl := lw_at lw_m3 173 rfl
theorem q713 : (Jvm.Cond.selects "TicketScales$Least" ({ cls := "TicketScales$Guess", name := "among", desc := "(LTicketScales$Range;II)I" } : Jvm.MethodName) ({ cls := "TicketScales$Least", name := "among", desc := "(LTicketScales$Range;II)I" } : Jvm.MethodName)) ∈ lw_all := lw_g (lw_at lw_m3 174 rfl) rfl
theorem q714 : (Jvm.Cond.unhidden "TicketScales$Least" "among" "(LTicketScales$Range;II)I") ∈ lw_tbl := lw_at lw_m3 175 rfl
theorem q715 : (Jvm.Cond.instanceMethod ({ cls := "TicketScales$Least", name := "among", desc := "(LTicketScales$Range;II)I" } : Jvm.MethodName)) ∈ lw_all := lw_g (lw_at lw_m3 176 rfl) rfl
theorem q716 : (Jvm.Cond.publicMethod ({ cls := "TicketScales$Least", name := "among", desc := "(LTicketScales$Range;II)I" } : Jvm.MethodName)) ∈ lw_tbl := lw_at lw_m3 177 rfl
theorem q717 : (Jvm.Cond.code ({ cls := "TicketScales$Least", name := "among", desc := "(LTicketScales$Range;II)I" } : Jvm.MethodName) prog_10_method_2_code (4 : Nat) (Option.some Jvm.ClassFile.FieldType.int)) ∈ lw_all := lw_g (lw_at lw_m3 178 rfl) rfl
theorem q735 : (Jvm.Cond.unhidden "TicketScales$Least" "of" "(LTicketScales$Range;II)I") ∈ lw_tbl := lw_at lw_m3 196 rfl
theorem q1935 : (Jvm.Cond.initialized "TicketScales$Least") ∈ lw_all := lw_g (lw_at lw_m8 196 rfl) rfl
theorem q1953 : (Jvm.Cond.castable "TicketScales$Least" "java/lang/Object") ∈ lw_tbl := lw_at lw_m8 214 rfl

/-! TicketScales$Middle -/
set_option maxRecDepth 100000
def RX16 : String := "TicketScales$Middle"
abbrev cX16_among : ByteArray := prog_11_method_2_code
def yX16_among : MethodName := ⟨RX16, "among", "(LTicketScales$Range;II)I"⟩
def dkwX16_among_0 : List UInt8 := [43, 180, 0, 7, 43, 180, 0, 13, 96, 5, 108, 172]
abbrev dktX16_among_0 : List UInt8 := dkwX16_among_0 ++ []
theorem dksX16_among_0 : cX16_among.data.toList.drop 0 = dktX16_among_0 := by decide +kernel
theorem dX16_among_0 : decode cX16_among 0 = .ok (.aload_n 1, 1) := dk_43 (dk_at dksX16_among_0 0 rfl rfl)
theorem dX16_among_1 : decode cX16_among 1 = .ok (.getfield 7, 3) := dk_180 0 7 (dk_at dksX16_among_0 1 rfl rfl)
theorem dX16_among_4 : decode cX16_among 4 = .ok (.aload_n 1, 1) := dk_43 (dk_at dksX16_among_0 4 rfl rfl)
theorem dX16_among_5 : decode cX16_among 5 = .ok (.getfield 13, 3) := dk_180 0 13 (dk_at dksX16_among_0 5 rfl rfl)
theorem dX16_among_8 : decode cX16_among 8 = .ok (.iadd, 1) := dk_96 (dk_at dksX16_among_0 8 rfl rfl)
theorem dX16_among_9 : decode cX16_among 9 = .ok (.iconst 2, 1) := dk_5 (dk_at dksX16_among_0 9 rfl rfl)
theorem dX16_among_10 : decode cX16_among 10 = .ok (.idiv, 1) := dk_108 (dk_at dksX16_among_0 10 rfl rfl)
theorem dX16_among_11 : decode cX16_among 11 = .ok (.ireturn, 1) := dk_172 (dk_at dksX16_among_0 11 rfl rfl)
theorem q410 : (Jvm.Cond.selects "TicketScales$Middle" ({ cls := "java/lang/Object", name := "getClass", desc := "()Ljava/lang/Class;" } : Jvm.MethodName) ({ cls := "java/lang/Object", name := "getClass", desc := "()Ljava/lang/Class;" } : Jvm.MethodName)) ∈ lw_all := lw_g (lw_at lw_m2 111 rfl) rfl
theorem q665 : (Jvm.Cond.fieldLinkNest "TicketScales$Middle" (7 : Nat) "TicketScales$Range" "least" "I" "TicketScales") ∈ lw_tbl := lw_at lw_m3 126 rfl
theorem q669 : (Jvm.Cond.fieldLinkNest "TicketScales$Middle" (13 : Nat) "TicketScales$Range" "greatest" "I" "TicketScales") ∈ lw_tbl := lw_at lw_m3 130 rfl
theorem q718 : (Jvm.Cond.castable "TicketScales$Middle" "TicketScales$Guess") ∈ lw_tbl := lw_at lw_m3 179 rfl
theorem q719 : (Jvm.Cond.selects "TicketScales$Middle" ({ cls := "TicketScales$Guess", name := "among", desc := "(LTicketScales$Range;II)I" } : Jvm.MethodName) ({ cls := "TicketScales$Middle", name := "among", desc := "(LTicketScales$Range;II)I" } : Jvm.MethodName)) ∈ lw_all := lw_g (lw_at lw_m3 180 rfl) rfl
theorem q720 : (Jvm.Cond.unhidden "TicketScales$Middle" "among" "(LTicketScales$Range;II)I") ∈ lw_tbl := lw_at lw_m3 181 rfl
theorem q721 : (Jvm.Cond.instanceMethod ({ cls := "TicketScales$Middle", name := "among", desc := "(LTicketScales$Range;II)I" } : Jvm.MethodName)) ∈ lw_all := lw_g (lw_at lw_m3 182 rfl) rfl
theorem q722 : (Jvm.Cond.publicMethod ({ cls := "TicketScales$Middle", name := "among", desc := "(LTicketScales$Range;II)I" } : Jvm.MethodName)) ∈ lw_tbl := lw_at lw_m3 183 rfl
theorem q723 : (Jvm.Cond.code ({ cls := "TicketScales$Middle", name := "among", desc := "(LTicketScales$Range;II)I" } : Jvm.MethodName) prog_11_method_2_code (4 : Nat) (Option.some Jvm.ClassFile.FieldType.int)) ∈ lw_all := lw_g (lw_at lw_m3 184 rfl) rfl
theorem q736 : (Jvm.Cond.unhidden "TicketScales$Middle" "of" "(LTicketScales$Range;II)I") ∈ lw_tbl := lw_at lw_m3 197 rfl
theorem q1936 : (Jvm.Cond.initialized "TicketScales$Middle") ∈ lw_all := lw_g (lw_at lw_m8 197 rfl) rfl
theorem q1955 : (Jvm.Cond.castable "TicketScales$Middle" "java/lang/Object") ∈ lw_tbl := lw_at lw_m8 216 rfl

/-! TicketScales$Nearest -/
set_option maxRecDepth 100000
def RX17 : String := "TicketScales$Nearest"
abbrev cX17_among : ByteArray := prog_12_method_2_code
def yX17_among : MethodName := ⟨RX17, "among", "(LTicketScales$Range;II)I"⟩
def dkwX17_among_0 : List UInt8 := [43, 5, 28, 104, 29, 96, 4, 100, 5, 29, 104, 108, 182, 0, 7, 172]
abbrev dktX17_among_0 : List UInt8 := dkwX17_among_0 ++ []
theorem dksX17_among_0 : cX17_among.data.toList.drop 0 = dktX17_among_0 := by decide +kernel
theorem dX17_among_0 : decode cX17_among 0 = .ok (.aload_n 1, 1) := dk_43 (dk_at dksX17_among_0 0 rfl rfl)
theorem dX17_among_1 : decode cX17_among 1 = .ok (.iconst 2, 1) := dk_5 (dk_at dksX17_among_0 1 rfl rfl)
theorem dX17_among_2 : decode cX17_among 2 = .ok (.iload_n 2, 1) := dk_28 (dk_at dksX17_among_0 2 rfl rfl)
theorem dX17_among_3 : decode cX17_among 3 = .ok (.imul, 1) := dk_104 (dk_at dksX17_among_0 3 rfl rfl)
theorem dX17_among_4 : decode cX17_among 4 = .ok (.iload_n 3, 1) := dk_29 (dk_at dksX17_among_0 4 rfl rfl)
theorem dX17_among_5 : decode cX17_among 5 = .ok (.iadd, 1) := dk_96 (dk_at dksX17_among_0 5 rfl rfl)
theorem dX17_among_6 : decode cX17_among 6 = .ok (.iconst 1, 1) := dk_4 (dk_at dksX17_among_0 6 rfl rfl)
theorem dX17_among_7 : decode cX17_among 7 = .ok (.isub, 1) := dk_100 (dk_at dksX17_among_0 7 rfl rfl)
theorem dX17_among_8 : decode cX17_among 8 = .ok (.iconst 2, 1) := dk_5 (dk_at dksX17_among_0 8 rfl rfl)
theorem dX17_among_9 : decode cX17_among 9 = .ok (.iload_n 3, 1) := dk_29 (dk_at dksX17_among_0 9 rfl rfl)
theorem dX17_among_10 : decode cX17_among 10 = .ok (.imul, 1) := dk_104 (dk_at dksX17_among_0 10 rfl rfl)
theorem dX17_among_11 : decode cX17_among 11 = .ok (.idiv, 1) := dk_108 (dk_at dksX17_among_0 11 rfl rfl)
theorem dX17_among_12 : decode cX17_among 12 = .ok (.invokevirtual 7, 3) := dk_182 0 7 (dk_at dksX17_among_0 12 rfl rfl)
theorem dX17_among_15 : decode cX17_among 15 = .ok (.ireturn, 1) := dk_172 (dk_at dksX17_among_0 15 rfl rfl)
theorem q411 : (Jvm.Cond.selects "TicketScales$Nearest" ({ cls := "java/lang/Object", name := "getClass", desc := "()Ljava/lang/Class;" } : Jvm.MethodName) ({ cls := "java/lang/Object", name := "getClass", desc := "()Ljava/lang/Class;" } : Jvm.MethodName)) ∈ lw_all := lw_g (lw_at lw_m2 112 rfl) rfl
theorem q724 : (Jvm.Cond.castable "TicketScales$Nearest" "TicketScales$Guess") ∈ lw_tbl := lw_at lw_m3 185 rfl
theorem q725 : (Jvm.Cond.selects "TicketScales$Nearest" ({ cls := "TicketScales$Guess", name := "among", desc := "(LTicketScales$Range;II)I" } : Jvm.MethodName) ({ cls := "TicketScales$Nearest", name := "among", desc := "(LTicketScales$Range;II)I" } : Jvm.MethodName)) ∈ lw_all := lw_g (lw_at lw_m3 186 rfl) rfl
theorem q726 : (Jvm.Cond.unhidden "TicketScales$Nearest" "among" "(LTicketScales$Range;II)I") ∈ lw_tbl := lw_at lw_m3 187 rfl
theorem q727 : (Jvm.Cond.instanceMethod ({ cls := "TicketScales$Nearest", name := "among", desc := "(LTicketScales$Range;II)I" } : Jvm.MethodName)) ∈ lw_all := lw_g (lw_at lw_m3 188 rfl) rfl
theorem q728 : (Jvm.Cond.publicMethod ({ cls := "TicketScales$Nearest", name := "among", desc := "(LTicketScales$Range;II)I" } : Jvm.MethodName)) ∈ lw_tbl := lw_at lw_m3 189 rfl
theorem q729 : (Jvm.Cond.code ({ cls := "TicketScales$Nearest", name := "among", desc := "(LTicketScales$Range;II)I" } : Jvm.MethodName) prog_12_method_2_code (4 : Nat) (Option.some Jvm.ClassFile.FieldType.int)) ∈ lw_all := lw_g (lw_at lw_m3 190 rfl) rfl
theorem q730 : (Jvm.Cond.methodLink "TicketScales$Nearest" (7 : Nat) ({ cls := "TicketScales$Range", name := "nearestTo", desc := "(I)I" } : Jvm.MethodName)) ∈ lw_all := lw_g (lw_at lw_m3 191 rfl) rfl
theorem q737 : (Jvm.Cond.unhidden "TicketScales$Nearest" "of" "(LTicketScales$Range;II)I") ∈ lw_tbl := lw_at lw_m3 198 rfl
theorem q1937 : (Jvm.Cond.initialized "TicketScales$Nearest") ∈ lw_all := lw_g (lw_at lw_m8 198 rfl) rfl
theorem q1952 : (Jvm.Cond.castable "TicketScales$Nearest" "java/lang/Object") ∈ lw_tbl := lw_at lw_m8 213 rfl

/-! TicketScales$Guess -/
set_option maxRecDepth 100000
def RX18 : String := "TicketScales$Guess"
abbrev cX18_of : ByteArray := prog_9_method_2_code
def yX18_of : MethodName := ⟨RX18, "of", "(LTicketScales$Range;II)I"⟩
def dkwX18_of_0 : List UInt8 := [43, 182, 0, 3, 154, 0, 8, 18, 9, 167, 0, 12, 42, 43, 28, 29, 185, 0, 10, 4, 0, 172]
abbrev dktX18_of_0 : List UInt8 := dkwX18_of_0 ++ []
theorem dksX18_of_0 : cX18_of.data.toList.drop 0 = dktX18_of_0 := by decide +kernel
theorem dX18_of_0 : decode cX18_of 0 = .ok (.aload_n 1, 1) := dk_43 (dk_at dksX18_of_0 0 rfl rfl)
theorem dX18_of_1 : decode cX18_of 1 = .ok (.invokevirtual 3, 3) := dk_182 0 3 (dk_at dksX18_of_0 1 rfl rfl)
theorem dX18_of_4 : decode cX18_of 4 = .ok (.ifCond .ne 8, 3) := dk_154 0 8 (dk_at dksX18_of_0 4 rfl rfl)
theorem dX18_of_7 : decode cX18_of 7 = .ok (.ldc 9, 2) := dk_18 9 (dk_at dksX18_of_0 7 rfl rfl)
theorem dX18_of_9 : decode cX18_of 9 = .ok (.goto 12, 3) := dk_167 0 12 (dk_at dksX18_of_0 9 rfl rfl)
theorem dX18_of_12 : decode cX18_of 12 = .ok (.aload_n 0, 1) := dk_42 (dk_at dksX18_of_0 12 rfl rfl)
theorem dX18_of_13 : decode cX18_of 13 = .ok (.aload_n 1, 1) := dk_43 (dk_at dksX18_of_0 13 rfl rfl)
theorem dX18_of_14 : decode cX18_of 14 = .ok (.iload_n 2, 1) := dk_28 (dk_at dksX18_of_0 14 rfl rfl)
theorem dX18_of_15 : decode cX18_of 15 = .ok (.iload_n 3, 1) := dk_29 (dk_at dksX18_of_0 15 rfl rfl)
theorem dX18_of_16 : decode cX18_of 16 = .ok (.invokeinterface 10 4, 5) := by decide +kernel
theorem dX18_of_21 : decode cX18_of 21 = .ok (.ireturn, 1) := dk_172 (dk_at dksX18_of_0 21 rfl rfl)
theorem q690 : (Jvm.Cond.interfaceMethod "TicketScales$Guess" "TicketScales$Guess" "of" "(LTicketScales$Range;II)I") ∈ lw_tbl := lw_at lw_m3 151 rfl
theorem q691 : (Jvm.Cond.declares ({ cls := "TicketScales$Guess", name := "of", desc := "(LTicketScales$Range;II)I" } : Jvm.MethodName)) ∈ lw_tbl := lw_at lw_m3 152 rfl
theorem q694 : (Jvm.Cond.instanceMethod ({ cls := "TicketScales$Guess", name := "of", desc := "(LTicketScales$Range;II)I" } : Jvm.MethodName)) ∈ lw_all := lw_g (lw_at lw_m3 155 rfl) rfl
theorem q695 : (Jvm.Cond.publicMethod ({ cls := "TicketScales$Guess", name := "of", desc := "(LTicketScales$Range;II)I" } : Jvm.MethodName)) ∈ lw_tbl := lw_at lw_m3 156 rfl
theorem q696 : (Jvm.Cond.code ({ cls := "TicketScales$Guess", name := "of", desc := "(LTicketScales$Range;II)I" } : Jvm.MethodName) prog_9_method_2_code (4 : Nat) (Option.some Jvm.ClassFile.FieldType.int)) ∈ lw_all := lw_g (lw_at lw_m3 157 rfl) rfl
theorem q697 : (Jvm.Cond.methodLink "TicketScales$Guess" (3 : Nat) ({ cls := "TicketScales$Range", name := "size", desc := "()I" } : Jvm.MethodName)) ∈ lw_all := lw_g (lw_at lw_m3 158 rfl) rfl
theorem q702 : (Jvm.Cond.constant "TicketScales$Guess" (9 : Nat) (-100009 : Int32)) ∈ lw_all := lw_g (lw_at lw_m3 163 rfl) rfl
theorem q703 : (Jvm.Cond.interfaceEntry "TicketScales$Guess" (10 : Nat)) ∈ lw_tbl := lw_at lw_m3 164 rfl
theorem q704 : (Jvm.Cond.methodLink "TicketScales$Guess" (10 : Nat) ({ cls := "TicketScales$Guess", name := "among", desc := "(LTicketScales$Range;II)I" } : Jvm.MethodName)) ∈ lw_all := lw_g (lw_at lw_m3 165 rfl) rfl
theorem q705 : (Jvm.Cond.interfaceMethod "TicketScales$Guess" "TicketScales$Guess" "among" "(LTicketScales$Range;II)I") ∈ lw_tbl := lw_at lw_m3 166 rfl
theorem q706 : (Jvm.Cond.declares ({ cls := "TicketScales$Guess", name := "among", desc := "(LTicketScales$Range;II)I" } : Jvm.MethodName)) ∈ lw_tbl := lw_at lw_m3 167 rfl
theorem q1938 : (Jvm.Cond.initialized "TicketScales$Guess") ∈ lw_all := lw_g (lw_at lw_m8 199 rfl) rfl
theorem q1942 : (Jvm.Cond.castable "TicketScales$Guess" "java/lang/Object") ∈ lw_tbl := lw_at lw_m8 203 rfl
