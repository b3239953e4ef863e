/-! java/util/AbstractCollection -/
set_option maxRecDepth 100000
def RJ0 : String := "java/util/AbstractCollection"
abbrev cJ0_init : ByteArray := prog_40_method_1_code
def yJ0_init : MethodName := ⟨RJ0, "<init>", "()V"⟩
theorem dJ0_init_0 : decode cJ0_init 0 = .ok (.aload_n 0, 1) := by decide +kernel
theorem dJ0_init_1 : decode cJ0_init 1 = .ok (.invokespecial 1, 3) := by decide +kernel
theorem dJ0_init_4 : decode cJ0_init 4 = .ok (.return_, 1) := by decide +kernel
theorem q63 : (Jvm.Cond.initialized "java/util/AbstractCollection") ∈ lw_all := lw_g (lw_at lw_m1 4 rfl) rfl
theorem q117 : (Jvm.Cond.instanceMethod ({ cls := "java/util/AbstractCollection", name := "<init>", desc := "()V" } : Jvm.MethodName)) ∈ lw_all := lw_g (lw_at lw_m1 58 rfl) rfl
theorem q118 : (Jvm.Cond.code ({ cls := "java/util/AbstractCollection", name := "<init>", desc := "()V" } : Jvm.MethodName) prog_40_method_1_code (1 : Nat) (Option.none : Option Jvm.ClassFile.FieldType)) ∈ lw_all := lw_g (lw_at lw_m1 59 rfl) rfl
theorem q119 : (Jvm.Cond.methodLink "java/util/AbstractCollection" (1 : Nat) ({ cls := "java/lang/Object", name := "<init>", desc := "()V" } : Jvm.MethodName)) ∈ lw_all := lw_g (lw_at lw_m1 60 rfl) rfl

/-! java/util/AbstractList -/
set_option maxRecDepth 100000
def RJ1 : String := "java/util/AbstractList"
abbrev cJ1_init : ByteArray := prog_41_method_1_code
def yJ1_init : MethodName := ⟨RJ1, "<init>", "()V"⟩
def dkwJ1_init_0 : List UInt8 := [42, 183, 0, 1, 42, 3, 181, 0, 7, 177]
abbrev dktJ1_init_0 : List UInt8 := dkwJ1_init_0 ++ []
theorem dksJ1_init_0 : cJ1_init.data.toList.drop 0 = dktJ1_init_0 := by decide +kernel
theorem dJ1_init_0 : decode cJ1_init 0 = .ok (.aload_n 0, 1) := dk_42 (dk_at dksJ1_init_0 0 rfl rfl)
theorem dJ1_init_1 : decode cJ1_init 1 = .ok (.invokespecial 1, 3) := dk_183 0 1 (dk_at dksJ1_init_0 1 rfl rfl)
theorem dJ1_init_4 : decode cJ1_init 4 = .ok (.aload_n 0, 1) := dk_42 (dk_at dksJ1_init_0 4 rfl rfl)
theorem dJ1_init_5 : decode cJ1_init 5 = .ok (.iconst 0, 1) := dk_3 (dk_at dksJ1_init_0 5 rfl rfl)
theorem dJ1_init_6 : decode cJ1_init 6 = .ok (.putfield 7, 3) := dk_181 0 7 (dk_at dksJ1_init_0 6 rfl rfl)
theorem dJ1_init_9 : decode cJ1_init 9 = .ok (.return_, 1) := dk_177 (dk_at dksJ1_init_0 9 rfl rfl)
theorem q64 : (Jvm.Cond.initialized "java/util/AbstractList") ∈ lw_all := lw_g (lw_at lw_m1 5 rfl) rfl
theorem q114 : (Jvm.Cond.instanceMethod ({ cls := "java/util/AbstractList", name := "<init>", desc := "()V" } : Jvm.MethodName)) ∈ lw_all := lw_g (lw_at lw_m1 55 rfl) rfl
theorem q115 : (Jvm.Cond.code ({ cls := "java/util/AbstractList", name := "<init>", desc := "()V" } : Jvm.MethodName) prog_41_method_1_code (1 : Nat) (Option.none : Option Jvm.ClassFile.FieldType)) ∈ lw_all := lw_g (lw_at lw_m1 56 rfl) rfl
theorem q116 : (Jvm.Cond.methodLink "java/util/AbstractList" (1 : Nat) ({ cls := "java/util/AbstractCollection", name := "<init>", desc := "()V" } : Jvm.MethodName)) ∈ lw_all := lw_g (lw_at lw_m1 57 rfl) rfl
theorem q126 : (Jvm.Cond.fieldLink "java/util/AbstractList" (7 : Nat) "java/util/AbstractList" "modCount" "I") ∈ lw_all := lw_g (lw_at lw_m1 67 rfl) rfl
theorem q135 : (Jvm.Cond.soleField "java/util/AbstractList" "modCount") ∈ lw_all := lw_g (lw_at lw_m1 76 rfl) rfl

/-! java/util/ArrayList -/
set_option maxRecDepth 100000
def RJ2 : String := "java/util/ArrayList"
def TJ2 : u_T := fun k => match k with
  | 0 => ("java/util/AbstractList", "modCount", "I", false)
  | 1 => ("java/util/ArrayList", "elementData", "[Ljava/lang/Object;", false)
  | _ => ("java/util/ArrayList", "size", "I", false)
def tyJ2 : Nat → FieldType := fun k => match k with
  | 0 => .int
  | 1 => .array (.object "java/lang/Object")
  | _ => .int
abbrev wsJ20 : List Cond := u_ws RJ2 TJ2 3
theorem nmJ2 : ∀ a, a < 3 → ∀ b, b < 3 → a ≠ b → (TJ2 a).2.1 ≠ (TJ2 b).2.1 := by decide +kernel
theorem tyJ2_ok : ∀ k, k < 3 → parseFieldDescriptor (TJ2 k).2.2.1 = some (tyJ2 k) := by decide +kernel
abbrev cJ2_init : ByteArray := prog_43_method_2_code
def yJ2_init : MethodName := ⟨RJ2, "<init>", "()V"⟩
def dkwJ2_init_0 : List UInt8 := [42, 183, 0, 1, 42, 178, 0, 39, 181, 0, 9, 177]
abbrev dktJ2_init_0 : List UInt8 := dkwJ2_init_0 ++ []
theorem dksJ2_init_0 : cJ2_init.data.toList.drop 0 = dktJ2_init_0 := by decide +kernel
theorem dJ2_init_0 : decode cJ2_init 0 = .ok (.aload_n 0, 1) := dk_42 (dk_at dksJ2_init_0 0 rfl rfl)
theorem dJ2_init_1 : decode cJ2_init 1 = .ok (.invokespecial 1, 3) := dk_183 0 1 (dk_at dksJ2_init_0 1 rfl rfl)
theorem dJ2_init_4 : decode cJ2_init 4 = .ok (.aload_n 0, 1) := dk_42 (dk_at dksJ2_init_0 4 rfl rfl)
theorem dJ2_init_5 : decode cJ2_init 5 = .ok (.getstatic 39, 3) := dk_178 0 39 (dk_at dksJ2_init_0 5 rfl rfl)
theorem dJ2_init_8 : decode cJ2_init 8 = .ok (.putfield 9, 3) := dk_181 0 9 (dk_at dksJ2_init_0 8 rfl rfl)
theorem dJ2_init_11 : decode cJ2_init 11 = .ok (.return_, 1) := dk_177 (dk_at dksJ2_init_0 11 rfl rfl)
abbrev cJ2_iterator : ByteArray := prog_43_method_55_code
def yJ2_iterator : MethodName := ⟨RJ2, "iterator", "()Ljava/util/Iterator;"⟩
def dkwJ2_iterator_0 : List UInt8 := [187, 1, 11, 89, 42, 183, 1, 13, 176]
abbrev dktJ2_iterator_0 : List UInt8 := dkwJ2_iterator_0 ++ []
theorem dksJ2_iterator_0 : cJ2_iterator.data.toList.drop 0 = dktJ2_iterator_0 := by decide +kernel
theorem dJ2_iterator_0 : decode cJ2_iterator 0 = .ok (.new 267, 3) := dk_187 1 11 (dk_at dksJ2_iterator_0 0 rfl rfl)
theorem dJ2_iterator_3 : decode cJ2_iterator 3 = .ok (.dup, 1) := dk_89 (dk_at dksJ2_iterator_0 3 rfl rfl)
theorem dJ2_iterator_4 : decode cJ2_iterator 4 = .ok (.aload_n 0, 1) := dk_42 (dk_at dksJ2_iterator_0 4 rfl rfl)
theorem dJ2_iterator_5 : decode cJ2_iterator 5 = .ok (.invokespecial 269, 3) := dk_183 1 13 (dk_at dksJ2_iterator_0 5 rfl rfl)
theorem dJ2_iterator_8 : decode cJ2_iterator 8 = .ok (.areturn, 1) := dk_176 (dk_at dksJ2_iterator_0 8 rfl rfl)
abbrev cJ2_add : ByteArray := prog_43_method_25_code
def yJ2_add : MethodName := ⟨RJ2, "add", "(Ljava/lang/Object;)Z"⟩
def dkwJ2_add_1 : List UInt8 := [172]
abbrev dktJ2_add_1 : List UInt8 := dkwJ2_add_1 ++ []
def dkwJ2_add_0 : List UInt8 := [42, 89, 180, 0, 63, 4, 96, 181, 0, 63, 42, 43, 42, 180, 0, 9, 42, 180, 0, 48, 182, 0, 131, 4]
abbrev dktJ2_add_0 : List UInt8 := dkwJ2_add_0 ++ dktJ2_add_1
theorem dksJ2_add_0 : cJ2_add.data.toList.drop 0 = dktJ2_add_0 := by decide +kernel
theorem dksJ2_add_1 : cJ2_add.data.toList.drop 24 = dktJ2_add_1 := dk_seg dksJ2_add_0 24 rfl rfl
theorem dJ2_add_0 : decode cJ2_add 0 = .ok (.aload_n 0, 1) := dk_42 (dk_at dksJ2_add_0 0 rfl rfl)
theorem dJ2_add_1 : decode cJ2_add 1 = .ok (.dup, 1) := dk_89 (dk_at dksJ2_add_0 1 rfl rfl)
theorem dJ2_add_2 : decode cJ2_add 2 = .ok (.getfield 63, 3) := dk_180 0 63 (dk_at dksJ2_add_0 2 rfl rfl)
theorem dJ2_add_5 : decode cJ2_add 5 = .ok (.iconst 1, 1) := dk_4 (dk_at dksJ2_add_0 5 rfl rfl)
theorem dJ2_add_6 : decode cJ2_add 6 = .ok (.iadd, 1) := dk_96 (dk_at dksJ2_add_0 6 rfl rfl)
theorem dJ2_add_7 : decode cJ2_add 7 = .ok (.putfield 63, 3) := dk_181 0 63 (dk_at dksJ2_add_0 7 rfl rfl)
theorem dJ2_add_10 : decode cJ2_add 10 = .ok (.aload_n 0, 1) := dk_42 (dk_at dksJ2_add_0 10 rfl rfl)
theorem dJ2_add_11 : decode cJ2_add 11 = .ok (.aload_n 1, 1) := dk_43 (dk_at dksJ2_add_0 11 rfl rfl)
theorem dJ2_add_12 : decode cJ2_add 12 = .ok (.aload_n 0, 1) := dk_42 (dk_at dksJ2_add_0 12 rfl rfl)
theorem dJ2_add_13 : decode cJ2_add 13 = .ok (.getfield 9, 3) := dk_180 0 9 (dk_at dksJ2_add_0 13 rfl rfl)
theorem dJ2_add_16 : decode cJ2_add 16 = .ok (.aload_n 0, 1) := dk_42 (dk_at dksJ2_add_0 16 rfl rfl)
theorem dJ2_add_17 : decode cJ2_add 17 = .ok (.getfield 48, 3) := dk_180 0 48 (dk_at dksJ2_add_0 17 rfl rfl)
theorem dJ2_add_20 : decode cJ2_add 20 = .ok (.invokevirtual 131, 3) := dk_182 0 131 (dk_at dksJ2_add_0 20 rfl rfl)
theorem dJ2_add_23 : decode cJ2_add 23 = .ok (.iconst 1, 1) := dk_4 (dk_at dksJ2_add_0 23 rfl rfl)
theorem dJ2_add_24 : decode cJ2_add 24 = .ok (.ireturn, 1) := dk_172 (dk_at dksJ2_add_1 0 rfl rfl)
abbrev cJ2_add_2 : ByteArray := prog_43_method_24_code
def yJ2_add_2 : MethodName := ⟨RJ2, "add", "(Ljava/lang/Object;[Ljava/lang/Object;I)V"⟩
def dkwJ2_add_2_0 : List UInt8 := [29, 44, 190, 160, 0, 8, 42, 182, 0, 129, 77, 44, 29, 43, 83, 42, 29, 4, 96, 181, 0, 48, 177]
abbrev dktJ2_add_2_0 : List UInt8 := dkwJ2_add_2_0 ++ []
theorem dksJ2_add_2_0 : cJ2_add_2.data.toList.drop 0 = dktJ2_add_2_0 := by decide +kernel
theorem dJ2_add_2_0 : decode cJ2_add_2 0 = .ok (.iload_n 3, 1) := dk_29 (dk_at dksJ2_add_2_0 0 rfl rfl)
theorem dJ2_add_2_1 : decode cJ2_add_2 1 = .ok (.aload_n 2, 1) := dk_44 (dk_at dksJ2_add_2_0 1 rfl rfl)
theorem dJ2_add_2_2 : decode cJ2_add_2 2 = .ok (.arraylength, 1) := dk_190 (dk_at dksJ2_add_2_0 2 rfl rfl)
theorem dJ2_add_2_3 : decode cJ2_add_2 3 = .ok (.if_icmp .ne 8, 3) := dk_160 0 8 (dk_at dksJ2_add_2_0 3 rfl rfl)
theorem dJ2_add_2_6 : decode cJ2_add_2 6 = .ok (.aload_n 0, 1) := dk_42 (dk_at dksJ2_add_2_0 6 rfl rfl)
theorem dJ2_add_2_7 : decode cJ2_add_2 7 = .ok (.invokevirtual 129, 3) := dk_182 0 129 (dk_at dksJ2_add_2_0 7 rfl rfl)
theorem dJ2_add_2_10 : decode cJ2_add_2 10 = .ok (.astore_n 2, 1) := dk_77 (dk_at dksJ2_add_2_0 10 rfl rfl)
theorem dJ2_add_2_11 : decode cJ2_add_2 11 = .ok (.aload_n 2, 1) := dk_44 (dk_at dksJ2_add_2_0 11 rfl rfl)
theorem dJ2_add_2_12 : decode cJ2_add_2 12 = .ok (.iload_n 3, 1) := dk_29 (dk_at dksJ2_add_2_0 12 rfl rfl)
theorem dJ2_add_2_13 : decode cJ2_add_2 13 = .ok (.aload_n 1, 1) := dk_43 (dk_at dksJ2_add_2_0 13 rfl rfl)
theorem dJ2_add_2_14 : decode cJ2_add_2 14 = .ok (.aastore, 1) := dk_83 (dk_at dksJ2_add_2_0 14 rfl rfl)
theorem dJ2_add_2_15 : decode cJ2_add_2 15 = .ok (.aload_n 0, 1) := dk_42 (dk_at dksJ2_add_2_0 15 rfl rfl)
theorem dJ2_add_2_16 : decode cJ2_add_2 16 = .ok (.iload_n 3, 1) := dk_29 (dk_at dksJ2_add_2_0 16 rfl rfl)
theorem dJ2_add_2_17 : decode cJ2_add_2 17 = .ok (.iconst 1, 1) := dk_4 (dk_at dksJ2_add_2_0 17 rfl rfl)
theorem dJ2_add_2_18 : decode cJ2_add_2 18 = .ok (.iadd, 1) := dk_96 (dk_at dksJ2_add_2_0 18 rfl rfl)
theorem dJ2_add_2_19 : decode cJ2_add_2 19 = .ok (.putfield 48, 3) := dk_181 0 48 (dk_at dksJ2_add_2_0 19 rfl rfl)
theorem dJ2_add_2_22 : decode cJ2_add_2 22 = .ok (.return_, 1) := dk_177 (dk_at dksJ2_add_2_0 22 rfl rfl)
abbrev cJ2_grow : ByteArray := prog_43_method_7_code
def yJ2_grow : MethodName := ⟨RJ2, "grow", "()[Ljava/lang/Object;"⟩
def dkwJ2_grow_0 : List UInt8 := [42, 42, 180, 0, 48, 4, 96, 182, 0, 69, 176]
abbrev dktJ2_grow_0 : List UInt8 := dkwJ2_grow_0 ++ []
theorem dksJ2_grow_0 : cJ2_grow.data.toList.drop 0 = dktJ2_grow_0 := by decide +kernel
theorem dJ2_grow_0 : decode cJ2_grow 0 = .ok (.aload_n 0, 1) := dk_42 (dk_at dksJ2_grow_0 0 rfl rfl)
theorem dJ2_grow_1 : decode cJ2_grow 1 = .ok (.aload_n 0, 1) := dk_42 (dk_at dksJ2_grow_0 1 rfl rfl)
theorem dJ2_grow_2 : decode cJ2_grow 2 = .ok (.getfield 48, 3) := dk_180 0 48 (dk_at dksJ2_grow_0 2 rfl rfl)
theorem dJ2_grow_5 : decode cJ2_grow 5 = .ok (.iconst 1, 1) := dk_4 (dk_at dksJ2_grow_0 5 rfl rfl)
theorem dJ2_grow_6 : decode cJ2_grow 6 = .ok (.iadd, 1) := dk_96 (dk_at dksJ2_grow_0 6 rfl rfl)
theorem dJ2_grow_7 : decode cJ2_grow 7 = .ok (.invokevirtual 69, 3) := dk_182 0 69 (dk_at dksJ2_grow_0 7 rfl rfl)
theorem dJ2_grow_10 : decode cJ2_grow 10 = .ok (.areturn, 1) := dk_176 (dk_at dksJ2_grow_0 10 rfl rfl)
abbrev cJ2_grow_2 : ByteArray := prog_43_method_6_code
def yJ2_grow_2 : MethodName := ⟨RJ2, "grow", "(I)[Ljava/lang/Object;"⟩
def dkwJ2_grow_2_2 : List UInt8 := [27, 184, 0, 79, 189, 0, 7, 90, 181, 0, 9, 176]
abbrev dktJ2_grow_2_2 : List UInt8 := dkwJ2_grow_2_2 ++ []
def dkwJ2_grow_2_1 : List UInt8 := [28, 4, 122, 184, 0, 73, 62, 42, 42, 180, 0, 9, 29, 184, 0, 66, 90, 181, 0, 9, 176, 42, 16, 10]
abbrev dktJ2_grow_2_1 : List UInt8 := dkwJ2_grow_2_1 ++ dktJ2_grow_2_2
def dkwJ2_grow_2_0 : List UInt8 := [42, 180, 0, 9, 190, 61, 28, 157, 0, 13, 42, 180, 0, 9, 178, 0, 39, 165, 0, 28, 28, 27, 28, 100]
abbrev dktJ2_grow_2_0 : List UInt8 := dkwJ2_grow_2_0 ++ dktJ2_grow_2_1
theorem dksJ2_grow_2_0 : cJ2_grow_2.data.toList.drop 0 = dktJ2_grow_2_0 := by decide +kernel
theorem dksJ2_grow_2_1 : cJ2_grow_2.data.toList.drop 24 = dktJ2_grow_2_1 := dk_seg dksJ2_grow_2_0 24 rfl rfl
theorem dksJ2_grow_2_2 : cJ2_grow_2.data.toList.drop 48 = dktJ2_grow_2_2 := dk_seg dksJ2_grow_2_1 24 rfl rfl
theorem dJ2_grow_2_0 : decode cJ2_grow_2 0 = .ok (.aload_n 0, 1) := dk_42 (dk_at dksJ2_grow_2_0 0 rfl rfl)
theorem dJ2_grow_2_1 : decode cJ2_grow_2 1 = .ok (.getfield 9, 3) := dk_180 0 9 (dk_at dksJ2_grow_2_0 1 rfl rfl)
theorem dJ2_grow_2_4 : decode cJ2_grow_2 4 = .ok (.arraylength, 1) := dk_190 (dk_at dksJ2_grow_2_0 4 rfl rfl)
theorem dJ2_grow_2_5 : decode cJ2_grow_2 5 = .ok (.istore_n 2, 1) := dk_61 (dk_at dksJ2_grow_2_0 5 rfl rfl)
theorem dJ2_grow_2_6 : decode cJ2_grow_2 6 = .ok (.iload_n 2, 1) := dk_28 (dk_at dksJ2_grow_2_0 6 rfl rfl)
theorem dJ2_grow_2_7 : decode cJ2_grow_2 7 = .ok (.ifCond .gt 13, 3) := dk_157 0 13 (dk_at dksJ2_grow_2_0 7 rfl rfl)
theorem dJ2_grow_2_10 : decode cJ2_grow_2 10 = .ok (.aload_n 0, 1) := dk_42 (dk_at dksJ2_grow_2_0 10 rfl rfl)
theorem dJ2_grow_2_11 : decode cJ2_grow_2 11 = .ok (.getfield 9, 3) := dk_180 0 9 (dk_at dksJ2_grow_2_0 11 rfl rfl)
theorem dJ2_grow_2_14 : decode cJ2_grow_2 14 = .ok (.getstatic 39, 3) := dk_178 0 39 (dk_at dksJ2_grow_2_0 14 rfl rfl)
theorem dJ2_grow_2_17 : decode cJ2_grow_2 17 = .ok (.if_acmp .eq 28, 3) := dk_165 0 28 (dk_at dksJ2_grow_2_0 17 rfl rfl)
theorem dJ2_grow_2_20 : decode cJ2_grow_2 20 = .ok (.iload_n 2, 1) := dk_28 (dk_at dksJ2_grow_2_0 20 rfl rfl)
theorem dJ2_grow_2_21 : decode cJ2_grow_2 21 = .ok (.iload_n 1, 1) := dk_27 (dk_at dksJ2_grow_2_0 21 rfl rfl)
theorem dJ2_grow_2_22 : decode cJ2_grow_2 22 = .ok (.iload_n 2, 1) := dk_28 (dk_at dksJ2_grow_2_0 22 rfl rfl)
theorem dJ2_grow_2_23 : decode cJ2_grow_2 23 = .ok (.isub, 1) := dk_100 (dk_at dksJ2_grow_2_0 23 rfl rfl)
theorem dJ2_grow_2_24 : decode cJ2_grow_2 24 = .ok (.iload_n 2, 1) := dk_28 (dk_at dksJ2_grow_2_1 0 rfl rfl)
theorem dJ2_grow_2_25 : decode cJ2_grow_2 25 = .ok (.iconst 1, 1) := dk_4 (dk_at dksJ2_grow_2_1 1 rfl rfl)
theorem dJ2_grow_2_26 : decode cJ2_grow_2 26 = .ok (.ishr, 1) := dk_122 (dk_at dksJ2_grow_2_1 2 rfl rfl)
theorem dJ2_grow_2_27 : decode cJ2_grow_2 27 = .ok (.invokestatic 73, 3) := dk_184 0 73 (dk_at dksJ2_grow_2_1 3 rfl rfl)
theorem dJ2_grow_2_30 : decode cJ2_grow_2 30 = .ok (.istore_n 3, 1) := dk_62 (dk_at dksJ2_grow_2_1 6 rfl rfl)
theorem dJ2_grow_2_31 : decode cJ2_grow_2 31 = .ok (.aload_n 0, 1) := dk_42 (dk_at dksJ2_grow_2_1 7 rfl rfl)
theorem dJ2_grow_2_32 : decode cJ2_grow_2 32 = .ok (.aload_n 0, 1) := dk_42 (dk_at dksJ2_grow_2_1 8 rfl rfl)
theorem dJ2_grow_2_33 : decode cJ2_grow_2 33 = .ok (.getfield 9, 3) := dk_180 0 9 (dk_at dksJ2_grow_2_1 9 rfl rfl)
theorem dJ2_grow_2_36 : decode cJ2_grow_2 36 = .ok (.iload_n 3, 1) := dk_29 (dk_at dksJ2_grow_2_1 12 rfl rfl)
theorem dJ2_grow_2_37 : decode cJ2_grow_2 37 = .ok (.invokestatic 66, 3) := dk_184 0 66 (dk_at dksJ2_grow_2_1 13 rfl rfl)
theorem dJ2_grow_2_40 : decode cJ2_grow_2 40 = .ok (.dup_x1, 1) := dk_90 (dk_at dksJ2_grow_2_1 16 rfl rfl)
theorem dJ2_grow_2_41 : decode cJ2_grow_2 41 = .ok (.putfield 9, 3) := dk_181 0 9 (dk_at dksJ2_grow_2_1 17 rfl rfl)
theorem dJ2_grow_2_44 : decode cJ2_grow_2 44 = .ok (.areturn, 1) := dk_176 (dk_at dksJ2_grow_2_1 20 rfl rfl)
theorem dJ2_grow_2_45 : decode cJ2_grow_2 45 = .ok (.aload_n 0, 1) := dk_42 (dk_at dksJ2_grow_2_1 21 rfl rfl)
theorem dJ2_grow_2_46 : decode cJ2_grow_2 46 = .ok (.bipush 10, 2) := dk_16 10 (dk_at dksJ2_grow_2_1 22 rfl rfl)
theorem dJ2_grow_2_48 : decode cJ2_grow_2 48 = .ok (.iload_n 1, 1) := dk_27 (dk_at dksJ2_grow_2_2 0 rfl rfl)
theorem dJ2_grow_2_49 : decode cJ2_grow_2 49 = .ok (.invokestatic 79, 3) := dk_184 0 79 (dk_at dksJ2_grow_2_2 1 rfl rfl)
theorem dJ2_grow_2_52 : decode cJ2_grow_2 52 = .ok (.anewarray 7, 3) := dk_189 0 7 (dk_at dksJ2_grow_2_2 4 rfl rfl)
theorem dJ2_grow_2_55 : decode cJ2_grow_2 55 = .ok (.dup_x1, 1) := dk_90 (dk_at dksJ2_grow_2_2 7 rfl rfl)
theorem dJ2_grow_2_56 : decode cJ2_grow_2 56 = .ok (.putfield 9, 3) := dk_181 0 9 (dk_at dksJ2_grow_2_2 8 rfl rfl)
theorem dJ2_grow_2_59 : decode cJ2_grow_2 59 = .ok (.areturn, 1) := dk_176 (dk_at dksJ2_grow_2_2 11 rfl rfl)
abbrev cJ2_size : ByteArray := prog_43_method_8_code
def yJ2_size : MethodName := ⟨RJ2, "size", "()I"⟩
theorem dJ2_size_0 : decode cJ2_size 0 = .ok (.aload_n 0, 1) := by decide +kernel
theorem dJ2_size_1 : decode cJ2_size 1 = .ok (.getfield 48, 3) := by decide +kernel
theorem dJ2_size_4 : decode cJ2_size 4 = .ok (.ireturn, 1) := by decide +kernel
abbrev cJ2_remove : ByteArray := prog_43_method_29_code
def yJ2_remove : MethodName := ⟨RJ2, "remove", "(I)Ljava/lang/Object;"⟩
def dkwJ2_remove_1 : List UInt8 := [45, 176]
abbrev dktJ2_remove_1 : List UInt8 := dkwJ2_remove_1 ++ []
def dkwJ2_remove_0 : List UInt8 := [27, 42, 180, 0, 48, 184, 0, 118, 87, 42, 180, 0, 9, 77, 44, 27, 50, 78, 42, 44, 27, 182, 0, 144]
abbrev dktJ2_remove_0 : List UInt8 := dkwJ2_remove_0 ++ dktJ2_remove_1
theorem dksJ2_remove_0 : cJ2_remove.data.toList.drop 0 = dktJ2_remove_0 := by decide +kernel
theorem dksJ2_remove_1 : cJ2_remove.data.toList.drop 24 = dktJ2_remove_1 := dk_seg dksJ2_remove_0 24 rfl rfl
theorem dJ2_remove_0 : decode cJ2_remove 0 = .ok (.iload_n 1, 1) := dk_27 (dk_at dksJ2_remove_0 0 rfl rfl)
theorem dJ2_remove_1 : decode cJ2_remove 1 = .ok (.aload_n 0, 1) := dk_42 (dk_at dksJ2_remove_0 1 rfl rfl)
theorem dJ2_remove_2 : decode cJ2_remove 2 = .ok (.getfield 48, 3) := dk_180 0 48 (dk_at dksJ2_remove_0 2 rfl rfl)
theorem dJ2_remove_5 : decode cJ2_remove 5 = .ok (.invokestatic 118, 3) := dk_184 0 118 (dk_at dksJ2_remove_0 5 rfl rfl)
theorem dJ2_remove_8 : decode cJ2_remove 8 = .ok (.pop, 1) := dk_87 (dk_at dksJ2_remove_0 8 rfl rfl)
theorem dJ2_remove_9 : decode cJ2_remove 9 = .ok (.aload_n 0, 1) := dk_42 (dk_at dksJ2_remove_0 9 rfl rfl)
theorem dJ2_remove_10 : decode cJ2_remove 10 = .ok (.getfield 9, 3) := dk_180 0 9 (dk_at dksJ2_remove_0 10 rfl rfl)
theorem dJ2_remove_13 : decode cJ2_remove 13 = .ok (.astore_n 2, 1) := dk_77 (dk_at dksJ2_remove_0 13 rfl rfl)
theorem dJ2_remove_14 : decode cJ2_remove 14 = .ok (.aload_n 2, 1) := dk_44 (dk_at dksJ2_remove_0 14 rfl rfl)
theorem dJ2_remove_15 : decode cJ2_remove 15 = .ok (.iload_n 1, 1) := dk_27 (dk_at dksJ2_remove_0 15 rfl rfl)
theorem dJ2_remove_16 : decode cJ2_remove 16 = .ok (.aaload, 1) := dk_50 (dk_at dksJ2_remove_0 16 rfl rfl)
theorem dJ2_remove_17 : decode cJ2_remove 17 = .ok (.astore_n 3, 1) := dk_78 (dk_at dksJ2_remove_0 17 rfl rfl)
theorem dJ2_remove_18 : decode cJ2_remove 18 = .ok (.aload_n 0, 1) := dk_42 (dk_at dksJ2_remove_0 18 rfl rfl)
theorem dJ2_remove_19 : decode cJ2_remove 19 = .ok (.aload_n 2, 1) := dk_44 (dk_at dksJ2_remove_0 19 rfl rfl)
theorem dJ2_remove_20 : decode cJ2_remove 20 = .ok (.iload_n 1, 1) := dk_27 (dk_at dksJ2_remove_0 20 rfl rfl)
theorem dJ2_remove_21 : decode cJ2_remove 21 = .ok (.invokevirtual 144, 3) := dk_182 0 144 (dk_at dksJ2_remove_0 21 rfl rfl)
theorem dJ2_remove_24 : decode cJ2_remove 24 = .ok (.aload_n 3, 1) := dk_45 (dk_at dksJ2_remove_1 0 rfl rfl)
theorem dJ2_remove_25 : decode cJ2_remove 25 = .ok (.areturn, 1) := dk_176 (dk_at dksJ2_remove_1 1 rfl rfl)
abbrev cJ2_fastRemove : ByteArray := prog_43_method_39_code
def yJ2_fastRemove : MethodName := ⟨RJ2, "fastRemove", "([Ljava/lang/Object;I)V"⟩
def dkwJ2_fastRemove_1 : List UInt8 := [4, 96, 43, 28, 29, 28, 100, 184, 0, 112, 43, 42, 29, 90, 181, 0, 48, 1, 83, 177]
abbrev dktJ2_fastRemove_1 : List UInt8 := dkwJ2_fastRemove_1 ++ []
def dkwJ2_fastRemove_0 : List UInt8 := [42, 89, 180, 0, 63, 4, 96, 181, 0, 63, 42, 180, 0, 48, 4, 100, 89, 62, 28, 164, 0, 15, 43, 28]
abbrev dktJ2_fastRemove_0 : List UInt8 := dkwJ2_fastRemove_0 ++ dktJ2_fastRemove_1
theorem dksJ2_fastRemove_0 : cJ2_fastRemove.data.toList.drop 0 = dktJ2_fastRemove_0 := by decide +kernel
theorem dksJ2_fastRemove_1 : cJ2_fastRemove.data.toList.drop 24 = dktJ2_fastRemove_1 := dk_seg dksJ2_fastRemove_0 24 rfl rfl
theorem dJ2_fastRemove_0 : decode cJ2_fastRemove 0 = .ok (.aload_n 0, 1) := dk_42 (dk_at dksJ2_fastRemove_0 0 rfl rfl)
theorem dJ2_fastRemove_1 : decode cJ2_fastRemove 1 = .ok (.dup, 1) := dk_89 (dk_at dksJ2_fastRemove_0 1 rfl rfl)
theorem dJ2_fastRemove_2 : decode cJ2_fastRemove 2 = .ok (.getfield 63, 3) := dk_180 0 63 (dk_at dksJ2_fastRemove_0 2 rfl rfl)
theorem dJ2_fastRemove_5 : decode cJ2_fastRemove 5 = .ok (.iconst 1, 1) := dk_4 (dk_at dksJ2_fastRemove_0 5 rfl rfl)
theorem dJ2_fastRemove_6 : decode cJ2_fastRemove 6 = .ok (.iadd, 1) := dk_96 (dk_at dksJ2_fastRemove_0 6 rfl rfl)
theorem dJ2_fastRemove_7 : decode cJ2_fastRemove 7 = .ok (.putfield 63, 3) := dk_181 0 63 (dk_at dksJ2_fastRemove_0 7 rfl rfl)
theorem dJ2_fastRemove_10 : decode cJ2_fastRemove 10 = .ok (.aload_n 0, 1) := dk_42 (dk_at dksJ2_fastRemove_0 10 rfl rfl)
theorem dJ2_fastRemove_11 : decode cJ2_fastRemove 11 = .ok (.getfield 48, 3) := dk_180 0 48 (dk_at dksJ2_fastRemove_0 11 rfl rfl)
theorem dJ2_fastRemove_14 : decode cJ2_fastRemove 14 = .ok (.iconst 1, 1) := dk_4 (dk_at dksJ2_fastRemove_0 14 rfl rfl)
theorem dJ2_fastRemove_15 : decode cJ2_fastRemove 15 = .ok (.isub, 1) := dk_100 (dk_at dksJ2_fastRemove_0 15 rfl rfl)
theorem dJ2_fastRemove_16 : decode cJ2_fastRemove 16 = .ok (.dup, 1) := dk_89 (dk_at dksJ2_fastRemove_0 16 rfl rfl)
theorem dJ2_fastRemove_17 : decode cJ2_fastRemove 17 = .ok (.istore_n 3, 1) := dk_62 (dk_at dksJ2_fastRemove_0 17 rfl rfl)
theorem dJ2_fastRemove_18 : decode cJ2_fastRemove 18 = .ok (.iload_n 2, 1) := dk_28 (dk_at dksJ2_fastRemove_0 18 rfl rfl)
theorem dJ2_fastRemove_19 : decode cJ2_fastRemove 19 = .ok (.if_icmp .le 15, 3) := dk_164 0 15 (dk_at dksJ2_fastRemove_0 19 rfl rfl)
theorem dJ2_fastRemove_22 : decode cJ2_fastRemove 22 = .ok (.aload_n 1, 1) := dk_43 (dk_at dksJ2_fastRemove_0 22 rfl rfl)
theorem dJ2_fastRemove_23 : decode cJ2_fastRemove 23 = .ok (.iload_n 2, 1) := dk_28 (dk_at dksJ2_fastRemove_0 23 rfl rfl)
theorem dJ2_fastRemove_24 : decode cJ2_fastRemove 24 = .ok (.iconst 1, 1) := dk_4 (dk_at dksJ2_fastRemove_1 0 rfl rfl)
theorem dJ2_fastRemove_25 : decode cJ2_fastRemove 25 = .ok (.iadd, 1) := dk_96 (dk_at dksJ2_fastRemove_1 1 rfl rfl)
theorem dJ2_fastRemove_26 : decode cJ2_fastRemove 26 = .ok (.aload_n 1, 1) := dk_43 (dk_at dksJ2_fastRemove_1 2 rfl rfl)
theorem dJ2_fastRemove_27 : decode cJ2_fastRemove 27 = .ok (.iload_n 2, 1) := dk_28 (dk_at dksJ2_fastRemove_1 3 rfl rfl)
theorem dJ2_fastRemove_28 : decode cJ2_fastRemove 28 = .ok (.iload_n 3, 1) := dk_29 (dk_at dksJ2_fastRemove_1 4 rfl rfl)
theorem dJ2_fastRemove_29 : decode cJ2_fastRemove 29 = .ok (.iload_n 2, 1) := dk_28 (dk_at dksJ2_fastRemove_1 5 rfl rfl)
theorem dJ2_fastRemove_30 : decode cJ2_fastRemove 30 = .ok (.isub, 1) := dk_100 (dk_at dksJ2_fastRemove_1 6 rfl rfl)
theorem dJ2_fastRemove_31 : decode cJ2_fastRemove 31 = .ok (.invokestatic 112, 3) := dk_184 0 112 (dk_at dksJ2_fastRemove_1 7 rfl rfl)
theorem dJ2_fastRemove_34 : decode cJ2_fastRemove 34 = .ok (.aload_n 1, 1) := dk_43 (dk_at dksJ2_fastRemove_1 10 rfl rfl)
theorem dJ2_fastRemove_35 : decode cJ2_fastRemove 35 = .ok (.aload_n 0, 1) := dk_42 (dk_at dksJ2_fastRemove_1 11 rfl rfl)
theorem dJ2_fastRemove_36 : decode cJ2_fastRemove 36 = .ok (.iload_n 3, 1) := dk_29 (dk_at dksJ2_fastRemove_1 12 rfl rfl)
theorem dJ2_fastRemove_37 : decode cJ2_fastRemove 37 = .ok (.dup_x1, 1) := dk_90 (dk_at dksJ2_fastRemove_1 13 rfl rfl)
theorem dJ2_fastRemove_38 : decode cJ2_fastRemove 38 = .ok (.putfield 48, 3) := dk_181 0 48 (dk_at dksJ2_fastRemove_1 14 rfl rfl)
theorem dJ2_fastRemove_41 : decode cJ2_fastRemove 41 = .ok (.aconst_null, 1) := dk_1 (dk_at dksJ2_fastRemove_1 17 rfl rfl)
theorem dJ2_fastRemove_42 : decode cJ2_fastRemove 42 = .ok (.aastore, 1) := dk_83 (dk_at dksJ2_fastRemove_1 18 rfl rfl)
theorem dJ2_fastRemove_43 : decode cJ2_fastRemove 43 = .ok (.return_, 1) := dk_177 (dk_at dksJ2_fastRemove_1 19 rfl rfl)
abbrev cJ2_get : ByteArray := prog_43_method_20_code
def yJ2_get : MethodName := ⟨RJ2, "get", "(I)Ljava/lang/Object;"⟩
def dkwJ2_get_0 : List UInt8 := [27, 42, 180, 0, 48, 184, 0, 118, 87, 42, 27, 182, 0, 123, 176]
abbrev dktJ2_get_0 : List UInt8 := dkwJ2_get_0 ++ []
theorem dksJ2_get_0 : cJ2_get.data.toList.drop 0 = dktJ2_get_0 := by decide +kernel
theorem dJ2_get_0 : decode cJ2_get 0 = .ok (.iload_n 1, 1) := dk_27 (dk_at dksJ2_get_0 0 rfl rfl)
theorem dJ2_get_1 : decode cJ2_get 1 = .ok (.aload_n 0, 1) := dk_42 (dk_at dksJ2_get_0 1 rfl rfl)
theorem dJ2_get_2 : decode cJ2_get 2 = .ok (.getfield 48, 3) := dk_180 0 48 (dk_at dksJ2_get_0 2 rfl rfl)
theorem dJ2_get_5 : decode cJ2_get 5 = .ok (.invokestatic 118, 3) := dk_184 0 118 (dk_at dksJ2_get_0 5 rfl rfl)
theorem dJ2_get_8 : decode cJ2_get 8 = .ok (.pop, 1) := dk_87 (dk_at dksJ2_get_0 8 rfl rfl)
theorem dJ2_get_9 : decode cJ2_get 9 = .ok (.aload_n 0, 1) := dk_42 (dk_at dksJ2_get_0 9 rfl rfl)
theorem dJ2_get_10 : decode cJ2_get 10 = .ok (.iload_n 1, 1) := dk_27 (dk_at dksJ2_get_0 10 rfl rfl)
theorem dJ2_get_11 : decode cJ2_get 11 = .ok (.invokevirtual 123, 3) := dk_182 0 123 (dk_at dksJ2_get_0 11 rfl rfl)
theorem dJ2_get_14 : decode cJ2_get 14 = .ok (.areturn, 1) := dk_176 (dk_at dksJ2_get_0 14 rfl rfl)
abbrev cJ2_elementData : ByteArray := prog_43_method_18_code
def yJ2_elementData : MethodName := ⟨RJ2, "elementData", "(I)Ljava/lang/Object;"⟩
def dkwJ2_elementData_0 : List UInt8 := [42, 180, 0, 9, 27, 50, 176]
abbrev dktJ2_elementData_0 : List UInt8 := dkwJ2_elementData_0 ++ []
theorem dksJ2_elementData_0 : cJ2_elementData.data.toList.drop 0 = dktJ2_elementData_0 := by decide +kernel
theorem dJ2_elementData_0 : decode cJ2_elementData 0 = .ok (.aload_n 0, 1) := dk_42 (dk_at dksJ2_elementData_0 0 rfl rfl)
theorem dJ2_elementData_1 : decode cJ2_elementData 1 = .ok (.getfield 9, 3) := dk_180 0 9 (dk_at dksJ2_elementData_0 1 rfl rfl)
theorem dJ2_elementData_4 : decode cJ2_elementData 4 = .ok (.iload_n 1, 1) := dk_27 (dk_at dksJ2_elementData_0 4 rfl rfl)
theorem dJ2_elementData_5 : decode cJ2_elementData 5 = .ok (.aaload, 1) := dk_50 (dk_at dksJ2_elementData_0 5 rfl rfl)
theorem dJ2_elementData_6 : decode cJ2_elementData 6 = .ok (.areturn, 1) := dk_176 (dk_at dksJ2_elementData_0 6 rfl rfl)
theorem q65 : (Jvm.Cond.initialized "java/util/ArrayList") ∈ lw_all := lw_g (lw_at lw_m1 6 rfl) rfl
theorem q109 : (Jvm.Cond.instantiable "java/util/ArrayList" (3 : Nat)) ∈ lw_all := lw_g (lw_at lw_m1 50 rfl) rfl
theorem q111 : (Jvm.Cond.instanceMethod ({ cls := "java/util/ArrayList", name := "<init>", desc := "()V" } : Jvm.MethodName)) ∈ lw_all := lw_g (lw_at lw_m1 52 rfl) rfl
theorem q112 : (Jvm.Cond.code ({ cls := "java/util/ArrayList", name := "<init>", desc := "()V" } : Jvm.MethodName) prog_43_method_2_code (1 : Nat) (Option.none : Option Jvm.ClassFile.FieldType)) ∈ lw_all := lw_g (lw_at lw_m1 53 rfl) rfl
theorem q113 : (Jvm.Cond.methodLink "java/util/ArrayList" (1 : Nat) ({ cls := "java/util/AbstractList", name := "<init>", desc := "()V" } : Jvm.MethodName)) ∈ lw_all := lw_g (lw_at lw_m1 54 rfl) rfl
theorem q120 : (Jvm.Cond.fieldLink "java/util/ArrayList" (39 : Nat) "java/util/ArrayList" "DEFAULTCAPACITY_EMPTY_ELEMENTDATA" "[Ljava/lang/Object;") ∈ lw_all := lw_g (lw_at lw_m1 61 rfl) rfl
theorem q121 : (Jvm.Cond.laysStatic "java/util/ArrayList" "DEFAULTCAPACITY_EMPTY_ELEMENTDATA" "[Ljava/lang/Object;") ∈ lw_tbl := lw_at lw_m1 62 rfl
theorem q122 : (Jvm.Cond.fieldLink "java/util/ArrayList" (9 : Nat) "java/util/ArrayList" "elementData" "[Ljava/lang/Object;") ∈ lw_all := lw_g (lw_at lw_m1 63 rfl) rfl
theorem q125 : (Jvm.Cond.fieldLink "java/util/ArrayList" (48 : Nat) "java/util/ArrayList" "size" "I") ∈ lw_all := lw_g (lw_at lw_m1 66 rfl) rfl
theorem q128 : (Jvm.Cond.sameField "java/util/ArrayList" "java/util/AbstractList" "modCount" "I") ∈ lw_all := lw_g (lw_at lw_m1 69 rfl) rfl
theorem q129 : (Jvm.Cond.fieldLink "java/util/ArrayList" (63 : Nat) "java/util/ArrayList" "modCount" "I") ∈ lw_all := lw_g (lw_at lw_m1 70 rfl) rfl
theorem q130 : (Jvm.Cond.lays "java/util/ArrayList" "java/util/ArrayList" "elementData" "[Ljava/lang/Object;") ∈ lw_all := lw_g (lw_at lw_m1 71 rfl) rfl
theorem q131 : (Jvm.Cond.soleField "java/util/ArrayList" "elementData") ∈ lw_all := lw_g (lw_at lw_m1 72 rfl) rfl
theorem q132 : (Jvm.Cond.lays "java/util/ArrayList" "java/util/ArrayList" "size" "I") ∈ lw_all := lw_g (lw_at lw_m1 73 rfl) rfl
theorem q133 : (Jvm.Cond.soleField "java/util/ArrayList" "size") ∈ lw_all := lw_g (lw_at lw_m1 74 rfl) rfl
theorem q134 : (Jvm.Cond.lays "java/util/ArrayList" "java/util/AbstractList" "modCount" "I") ∈ lw_all := lw_g (lw_at lw_m1 75 rfl) rfl
theorem q136 : (Jvm.Cond.superclass "java/util/ArrayList" "java/util/AbstractList") ∈ lw_all := lw_g (lw_at lw_m1 77 rfl) rfl
theorem q296 : (Jvm.Cond.castable "java/util/ArrayList" "java/util/List") ∈ lw_tbl := lw_at lw_m1 237 rfl
theorem q297 : (Jvm.Cond.selects "java/util/ArrayList" ({ cls := "java/util/List", name := "iterator", desc := "()Ljava/util/Iterator;" } : Jvm.MethodName) ({ cls := "java/util/ArrayList", name := "iterator", desc := "()Ljava/util/Iterator;" } : Jvm.MethodName)) ∈ lw_all := lw_g (lw_at lw_m1 238 rfl) rfl
theorem q298 : (Jvm.Cond.unhidden "java/util/ArrayList" "iterator" "()Ljava/util/Iterator;") ∈ lw_tbl := lw_at lw_m1 239 rfl
theorem q299 : (Jvm.Cond.instanceMethod ({ cls := "java/util/ArrayList", name := "iterator", desc := "()Ljava/util/Iterator;" } : Jvm.MethodName)) ∈ lw_all := lw_g (lw_at lw_m2 0 rfl) rfl
theorem q300 : (Jvm.Cond.publicMethod ({ cls := "java/util/ArrayList", name := "iterator", desc := "()Ljava/util/Iterator;" } : Jvm.MethodName)) ∈ lw_tbl := lw_at lw_m2 1 rfl
theorem q301 : (Jvm.Cond.code ({ cls := "java/util/ArrayList", name := "iterator", desc := "()Ljava/util/Iterator;" } : Jvm.MethodName) prog_43_method_55_code (1 : Nat) (Option.some (Jvm.ClassFile.FieldType.object "java/util/Iterator"))) ∈ lw_all := lw_g (lw_at lw_m2 2 rfl) rfl
theorem q302 : (Jvm.Cond.classLink "java/util/ArrayList" (267 : Nat) "java/util/ArrayList$Itr") ∈ lw_all := lw_g (lw_at lw_m2 3 rfl) rfl
theorem q304 : (Jvm.Cond.methodLink "java/util/ArrayList" (269 : Nat) ({ cls := "java/util/ArrayList$Itr", name := "<init>", desc := "(Ljava/util/ArrayList;)V" } : Jvm.MethodName)) ∈ lw_all := lw_g (lw_at lw_m2 5 rfl) rfl
theorem q370 : (Jvm.Cond.selects "java/util/ArrayList" ({ cls := "java/util/List", name := "add", desc := "(Ljava/lang/Object;)Z" } : Jvm.MethodName) ({ cls := "java/util/ArrayList", name := "add", desc := "(Ljava/lang/Object;)Z" } : Jvm.MethodName)) ∈ lw_all := lw_g (lw_at lw_m2 71 rfl) rfl
theorem q371 : (Jvm.Cond.unhidden "java/util/ArrayList" "add" "(Ljava/lang/Object;)Z") ∈ lw_tbl := lw_at lw_m2 72 rfl
theorem q372 : (Jvm.Cond.instanceMethod ({ cls := "java/util/ArrayList", name := "add", desc := "(Ljava/lang/Object;)Z" } : Jvm.MethodName)) ∈ lw_all := lw_g (lw_at lw_m2 73 rfl) rfl
theorem q373 : (Jvm.Cond.publicMethod ({ cls := "java/util/ArrayList", name := "add", desc := "(Ljava/lang/Object;)Z" } : Jvm.MethodName)) ∈ lw_tbl := lw_at lw_m2 74 rfl
theorem q374 : (Jvm.Cond.code ({ cls := "java/util/ArrayList", name := "add", desc := "(Ljava/lang/Object;)Z" } : Jvm.MethodName) prog_43_method_25_code (2 : Nat) (Option.some Jvm.ClassFile.FieldType.boolean)) ∈ lw_all := lw_g (lw_at lw_m2 75 rfl) rfl
theorem q375 : (Jvm.Cond.methodLink "java/util/ArrayList" (131 : Nat) ({ cls := "java/util/ArrayList", name := "add", desc := "(Ljava/lang/Object;[Ljava/lang/Object;I)V" } : Jvm.MethodName)) ∈ lw_all := lw_g (lw_at lw_m2 76 rfl) rfl
theorem q376 : (Jvm.Cond.privateMethod ({ cls := "java/util/ArrayList", name := "add", desc := "(Ljava/lang/Object;[Ljava/lang/Object;I)V" } : Jvm.MethodName)) ∈ lw_tbl := lw_at lw_m2 77 rfl
theorem q377 : (Jvm.Cond.instanceMethod ({ cls := "java/util/ArrayList", name := "add", desc := "(Ljava/lang/Object;[Ljava/lang/Object;I)V" } : Jvm.MethodName)) ∈ lw_all := lw_g (lw_at lw_m2 78 rfl) rfl
theorem q378 : (Jvm.Cond.code ({ cls := "java/util/ArrayList", name := "add", desc := "(Ljava/lang/Object;[Ljava/lang/Object;I)V" } : Jvm.MethodName) prog_43_method_24_code (4 : Nat) (Option.none : Option Jvm.ClassFile.FieldType)) ∈ lw_all := lw_g (lw_at lw_m2 79 rfl) rfl
theorem q379 : (Jvm.Cond.methodLink "java/util/ArrayList" (129 : Nat) ({ cls := "java/util/ArrayList", name := "grow", desc := "()[Ljava/lang/Object;" } : Jvm.MethodName)) ∈ lw_all := lw_g (lw_at lw_m2 80 rfl) rfl
theorem q380 : (Jvm.Cond.privateMethod ({ cls := "java/util/ArrayList", name := "grow", desc := "()[Ljava/lang/Object;" } : Jvm.MethodName)) ∈ lw_tbl := lw_at lw_m2 81 rfl
theorem q381 : (Jvm.Cond.instanceMethod ({ cls := "java/util/ArrayList", name := "grow", desc := "()[Ljava/lang/Object;" } : Jvm.MethodName)) ∈ lw_all := lw_g (lw_at lw_m2 82 rfl) rfl
theorem q382 : (Jvm.Cond.code ({ cls := "java/util/ArrayList", name := "grow", desc := "()[Ljava/lang/Object;" } : Jvm.MethodName) prog_43_method_7_code (1 : Nat) (Option.some (Jvm.ClassFile.FieldType.array (Jvm.ClassFile.FieldType.object "java/lang/Object")))) ∈ lw_all := lw_g (lw_at lw_m2 83 rfl) rfl
theorem q383 : (Jvm.Cond.methodLink "java/util/ArrayList" (69 : Nat) ({ cls := "java/util/ArrayList", name := "grow", desc := "(I)[Ljava/lang/Object;" } : Jvm.MethodName)) ∈ lw_all := lw_g (lw_at lw_m2 84 rfl) rfl
theorem q384 : (Jvm.Cond.privateMethod ({ cls := "java/util/ArrayList", name := "grow", desc := "(I)[Ljava/lang/Object;" } : Jvm.MethodName)) ∈ lw_tbl := lw_at lw_m2 85 rfl
theorem q385 : (Jvm.Cond.instanceMethod ({ cls := "java/util/ArrayList", name := "grow", desc := "(I)[Ljava/lang/Object;" } : Jvm.MethodName)) ∈ lw_all := lw_g (lw_at lw_m2 86 rfl) rfl
theorem q386 : (Jvm.Cond.code ({ cls := "java/util/ArrayList", name := "grow", desc := "(I)[Ljava/lang/Object;" } : Jvm.MethodName) prog_43_method_6_code (4 : Nat) (Option.some (Jvm.ClassFile.FieldType.array (Jvm.ClassFile.FieldType.object "java/lang/Object")))) ∈ lw_all := lw_g (lw_at lw_m2 87 rfl) rfl
theorem q387 : (Jvm.Cond.methodLink "java/util/ArrayList" (73 : Nat) ({ cls := "jdk/internal/util/ArraysSupport", name := "newLength", desc := "(III)I" } : Jvm.MethodName)) ∈ lw_all := lw_g (lw_at lw_m2 88 rfl) rfl
theorem q397 : (Jvm.Cond.methodLink "java/util/ArrayList" (66 : Nat) ({ cls := "java/util/Arrays", name := "copyOf", desc := "([Ljava/lang/Object;I)[Ljava/lang/Object;" } : Jvm.MethodName)) ∈ lw_all := lw_g (lw_at lw_m2 98 rfl) rfl
theorem q424 : (Jvm.Cond.selects "java/util/ArrayList" ({ cls := "java/lang/Object", name := "getClass", desc := "()Ljava/lang/Class;" } : Jvm.MethodName) ({ cls := "java/lang/Object", name := "getClass", desc := "()Ljava/lang/Class;" } : Jvm.MethodName)) ∈ lw_all := lw_g (lw_at lw_m2 125 rfl) rfl
theorem q436 : (Jvm.Cond.methodLink "java/util/ArrayList" (79 : Nat) ({ cls := "java/lang/Math", name := "max", desc := "(II)I" } : Jvm.MethodName)) ∈ lw_all := lw_g (lw_at lw_m2 137 rfl) rfl
theorem q437 : (Jvm.Cond.classLink "java/util/ArrayList" (7 : Nat) "java/lang/Object") ∈ lw_all := lw_g (lw_at lw_m2 138 rfl) rfl
theorem q585 : (Jvm.Cond.selects "java/util/ArrayList" ({ cls := "java/util/List", name := "size", desc := "()I" } : Jvm.MethodName) ({ cls := "java/util/ArrayList", name := "size", desc := "()I" } : Jvm.MethodName)) ∈ lw_all := lw_g (lw_at lw_m3 46 rfl) rfl
theorem q586 : (Jvm.Cond.unhidden "java/util/ArrayList" "size" "()I") ∈ lw_tbl := lw_at lw_m3 47 rfl
theorem q587 : (Jvm.Cond.instanceMethod ({ cls := "java/util/ArrayList", name := "size", desc := "()I" } : Jvm.MethodName)) ∈ lw_all := lw_g (lw_at lw_m3 48 rfl) rfl
theorem q588 : (Jvm.Cond.publicMethod ({ cls := "java/util/ArrayList", name := "size", desc := "()I" } : Jvm.MethodName)) ∈ lw_tbl := lw_at lw_m3 49 rfl
theorem q589 : (Jvm.Cond.code ({ cls := "java/util/ArrayList", name := "size", desc := "()I" } : Jvm.MethodName) prog_43_method_8_code (1 : Nat) (Option.some Jvm.ClassFile.FieldType.int)) ∈ lw_all := lw_g (lw_at lw_m3 50 rfl) rfl
theorem q610 : (Jvm.Cond.selects "java/util/ArrayList" ({ cls := "java/util/List", name := "remove", desc := "(I)Ljava/lang/Object;" } : Jvm.MethodName) ({ cls := "java/util/ArrayList", name := "remove", desc := "(I)Ljava/lang/Object;" } : Jvm.MethodName)) ∈ lw_all := lw_g (lw_at lw_m3 71 rfl) rfl
theorem q611 : (Jvm.Cond.unhidden "java/util/ArrayList" "remove" "(I)Ljava/lang/Object;") ∈ lw_tbl := lw_at lw_m3 72 rfl
theorem q612 : (Jvm.Cond.instanceMethod ({ cls := "java/util/ArrayList", name := "remove", desc := "(I)Ljava/lang/Object;" } : Jvm.MethodName)) ∈ lw_all := lw_g (lw_at lw_m3 73 rfl) rfl
theorem q613 : (Jvm.Cond.publicMethod ({ cls := "java/util/ArrayList", name := "remove", desc := "(I)Ljava/lang/Object;" } : Jvm.MethodName)) ∈ lw_tbl := lw_at lw_m3 74 rfl
theorem q614 : (Jvm.Cond.code ({ cls := "java/util/ArrayList", name := "remove", desc := "(I)Ljava/lang/Object;" } : Jvm.MethodName) prog_43_method_29_code (4 : Nat) (Option.some (Jvm.ClassFile.FieldType.object "java/lang/Object"))) ∈ lw_all := lw_g (lw_at lw_m3 75 rfl) rfl
theorem q615 : (Jvm.Cond.methodLink "java/util/ArrayList" (118 : Nat) ({ cls := "java/util/Objects", name := "checkIndex", desc := "(II)I" } : Jvm.MethodName)) ∈ lw_all := lw_g (lw_at lw_m3 76 rfl) rfl
theorem q621 : (Jvm.Cond.methodLink "java/util/ArrayList" (144 : Nat) ({ cls := "java/util/ArrayList", name := "fastRemove", desc := "([Ljava/lang/Object;I)V" } : Jvm.MethodName)) ∈ lw_all := lw_g (lw_at lw_m3 82 rfl) rfl
theorem q622 : (Jvm.Cond.privateMethod ({ cls := "java/util/ArrayList", name := "fastRemove", desc := "([Ljava/lang/Object;I)V" } : Jvm.MethodName)) ∈ lw_tbl := lw_at lw_m3 83 rfl
theorem q623 : (Jvm.Cond.instanceMethod ({ cls := "java/util/ArrayList", name := "fastRemove", desc := "([Ljava/lang/Object;I)V" } : Jvm.MethodName)) ∈ lw_all := lw_g (lw_at lw_m3 84 rfl) rfl
theorem q624 : (Jvm.Cond.code ({ cls := "java/util/ArrayList", name := "fastRemove", desc := "([Ljava/lang/Object;I)V" } : Jvm.MethodName) prog_43_method_39_code (4 : Nat) (Option.none : Option Jvm.ClassFile.FieldType)) ∈ lw_all := lw_g (lw_at lw_m3 85 rfl) rfl
theorem q625 : (Jvm.Cond.methodLink "java/util/ArrayList" (112 : Nat) ({ cls := "java/lang/System", name := "arraycopy", desc := "(Ljava/lang/Object;ILjava/lang/Object;II)V" } : Jvm.MethodName)) ∈ lw_all := lw_g (lw_at lw_m3 86 rfl) rfl
theorem q742 : (Jvm.Cond.selects "java/util/ArrayList" ({ cls := "java/util/List", name := "get", desc := "(I)Ljava/lang/Object;" } : Jvm.MethodName) ({ cls := "java/util/ArrayList", name := "get", desc := "(I)Ljava/lang/Object;" } : Jvm.MethodName)) ∈ lw_all := lw_g (lw_at lw_m3 203 rfl) rfl
theorem q743 : (Jvm.Cond.unhidden "java/util/ArrayList" "get" "(I)Ljava/lang/Object;") ∈ lw_tbl := lw_at lw_m3 204 rfl
theorem q744 : (Jvm.Cond.instanceMethod ({ cls := "java/util/ArrayList", name := "get", desc := "(I)Ljava/lang/Object;" } : Jvm.MethodName)) ∈ lw_all := lw_g (lw_at lw_m3 205 rfl) rfl
theorem q745 : (Jvm.Cond.publicMethod ({ cls := "java/util/ArrayList", name := "get", desc := "(I)Ljava/lang/Object;" } : Jvm.MethodName)) ∈ lw_tbl := lw_at lw_m3 206 rfl
theorem q746 : (Jvm.Cond.code ({ cls := "java/util/ArrayList", name := "get", desc := "(I)Ljava/lang/Object;" } : Jvm.MethodName) prog_43_method_20_code (2 : Nat) (Option.some (Jvm.ClassFile.FieldType.object "java/lang/Object"))) ∈ lw_all := lw_g (lw_at lw_m3 207 rfl) rfl
theorem q747 : (Jvm.Cond.methodLink "java/util/ArrayList" (123 : Nat) ({ cls := "java/util/ArrayList", name := "elementData", desc := "(I)Ljava/lang/Object;" } : Jvm.MethodName)) ∈ lw_all := lw_g (lw_at lw_m3 208 rfl) rfl
theorem q748 : (Jvm.Cond.instanceMethod ({ cls := "java/util/ArrayList", name := "elementData", desc := "(I)Ljava/lang/Object;" } : Jvm.MethodName)) ∈ lw_all := lw_g (lw_at lw_m3 209 rfl) rfl
theorem q749 : (Jvm.Cond.selects "java/util/ArrayList" ({ cls := "java/util/ArrayList", name := "elementData", desc := "(I)Ljava/lang/Object;" } : Jvm.MethodName) ({ cls := "java/util/ArrayList", name := "elementData", desc := "(I)Ljava/lang/Object;" } : Jvm.MethodName)) ∈ lw_all := lw_g (lw_at lw_m3 210 rfl) rfl
theorem q750 : (Jvm.Cond.code ({ cls := "java/util/ArrayList", name := "elementData", desc := "(I)Ljava/lang/Object;" } : Jvm.MethodName) prog_43_method_18_code (2 : Nat) (Option.some (Jvm.ClassFile.FieldType.object "java/lang/Object"))) ∈ lw_all := lw_g (lw_at lw_m3 211 rfl) rfl
theorem q1945 : (Jvm.Cond.castable "java/util/ArrayList" "java/lang/Object") ∈ lw_tbl := lw_at lw_m8 206 rfl
theorem in_J2 : ∀ w ∈ wsJ20, w ∈ lw_all := lw_in wsJ20 [134, 130, 132] (by decide +kernel) (by decide +kernel)

/-! java/util/ArrayDeque -/
set_option maxRecDepth 100000
def RJ3 : String := "java/util/ArrayDeque"
def TJ3 : u_T := fun k => match k with
  | 0 => ("java/util/ArrayDeque", "elements", "[Ljava/lang/Object;", false)
  | 1 => ("java/util/ArrayDeque", "head", "I", false)
  | _ => ("java/util/ArrayDeque", "tail", "I", false)
def tyJ3 : Nat → FieldType := fun k => match k with
  | 0 => .array (.object "java/lang/Object")
  | 1 => .int
  | _ => .int
abbrev wsJ30 : List Cond := u_ws RJ3 TJ3 3
theorem nmJ3 : ∀ a, a < 3 → ∀ b, b < 3 → a ≠ b → (TJ3 a).2.1 ≠ (TJ3 b).2.1 := by decide +kernel
theorem tyJ3_ok : ∀ k, k < 3 → parseFieldDescriptor (TJ3 k).2.2.1 = some (tyJ3 k) := by decide +kernel
abbrev cJ3_init : ByteArray := prog_42_method_3_code
def yJ3_init : MethodName := ⟨RJ3, "<init>", "()V"⟩
def dkwJ3_init_0 : List UInt8 := [42, 183, 0, 42, 42, 16, 17, 189, 0, 47, 181, 0, 3, 177]
abbrev dktJ3_init_0 : List UInt8 := dkwJ3_init_0 ++ []
theorem dksJ3_init_0 : cJ3_init.data.toList.drop 0 = dktJ3_init_0 := by decide +kernel
theorem dJ3_init_0 : decode cJ3_init 0 = .ok (.aload_n 0, 1) := dk_42 (dk_at dksJ3_init_0 0 rfl rfl)
theorem dJ3_init_1 : decode cJ3_init 1 = .ok (.invokespecial 42, 3) := dk_183 0 42 (dk_at dksJ3_init_0 1 rfl rfl)
theorem dJ3_init_4 : decode cJ3_init 4 = .ok (.aload_n 0, 1) := dk_42 (dk_at dksJ3_init_0 4 rfl rfl)
theorem dJ3_init_5 : decode cJ3_init 5 = .ok (.bipush 17, 2) := dk_16 17 (dk_at dksJ3_init_0 5 rfl rfl)
theorem dJ3_init_7 : decode cJ3_init 7 = .ok (.anewarray 47, 3) := dk_189 0 47 (dk_at dksJ3_init_0 7 rfl rfl)
theorem dJ3_init_10 : decode cJ3_init 10 = .ok (.putfield 3, 3) := dk_181 0 3 (dk_at dksJ3_init_0 10 rfl rfl)
theorem dJ3_init_13 : decode cJ3_init 13 = .ok (.return_, 1) := dk_177 (dk_at dksJ3_init_0 13 rfl rfl)
abbrev cJ3_size : ByteArray := prog_42_method_37_code
def yJ3_size : MethodName := ⟨RJ3, "size", "()I"⟩
def dkwJ3_size_0 : List UInt8 := [42, 180, 0, 20, 42, 180, 0, 24, 42, 180, 0, 3, 190, 184, 0, 127, 172]
abbrev dktJ3_size_0 : List UInt8 := dkwJ3_size_0 ++ []
theorem dksJ3_size_0 : cJ3_size.data.toList.drop 0 = dktJ3_size_0 := by decide +kernel
theorem dJ3_size_0 : decode cJ3_size 0 = .ok (.aload_n 0, 1) := dk_42 (dk_at dksJ3_size_0 0 rfl rfl)
theorem dJ3_size_1 : decode cJ3_size 1 = .ok (.getfield 20, 3) := dk_180 0 20 (dk_at dksJ3_size_0 1 rfl rfl)
theorem dJ3_size_4 : decode cJ3_size 4 = .ok (.aload_n 0, 1) := dk_42 (dk_at dksJ3_size_0 4 rfl rfl)
theorem dJ3_size_5 : decode cJ3_size 5 = .ok (.getfield 24, 3) := dk_180 0 24 (dk_at dksJ3_size_0 5 rfl rfl)
theorem dJ3_size_8 : decode cJ3_size 8 = .ok (.aload_n 0, 1) := dk_42 (dk_at dksJ3_size_0 8 rfl rfl)
theorem dJ3_size_9 : decode cJ3_size 9 = .ok (.getfield 3, 3) := dk_180 0 3 (dk_at dksJ3_size_0 9 rfl rfl)
theorem dJ3_size_12 : decode cJ3_size 12 = .ok (.arraylength, 1) := dk_190 (dk_at dksJ3_size_0 12 rfl rfl)
theorem dJ3_size_13 : decode cJ3_size 13 = .ok (.invokestatic 127, 3) := dk_184 0 127 (dk_at dksJ3_size_0 13 rfl rfl)
theorem dJ3_size_16 : decode cJ3_size 16 = .ok (.ireturn, 1) := dk_172 (dk_at dksJ3_size_0 16 rfl rfl)
abbrev cJ3_sub : ByteArray := prog_42_method_9_code
def yJ3_sub : MethodName := ⟨RJ3, "sub", "(III)I"⟩
def dkwJ3_sub_0 : List UInt8 := [26, 27, 100, 89, 59, 156, 0, 7, 26, 28, 96, 59, 26, 172]
abbrev dktJ3_sub_0 : List UInt8 := dkwJ3_sub_0 ++ []
theorem dksJ3_sub_0 : cJ3_sub.data.toList.drop 0 = dktJ3_sub_0 := by decide +kernel
theorem dJ3_sub_0 : decode cJ3_sub 0 = .ok (.iload_n 0, 1) := dk_26 (dk_at dksJ3_sub_0 0 rfl rfl)
theorem dJ3_sub_1 : decode cJ3_sub 1 = .ok (.iload_n 1, 1) := dk_27 (dk_at dksJ3_sub_0 1 rfl rfl)
theorem dJ3_sub_2 : decode cJ3_sub 2 = .ok (.isub, 1) := dk_100 (dk_at dksJ3_sub_0 2 rfl rfl)
theorem dJ3_sub_3 : decode cJ3_sub 3 = .ok (.dup, 1) := dk_89 (dk_at dksJ3_sub_0 3 rfl rfl)
theorem dJ3_sub_4 : decode cJ3_sub 4 = .ok (.istore_n 0, 1) := dk_59 (dk_at dksJ3_sub_0 4 rfl rfl)
theorem dJ3_sub_5 : decode cJ3_sub 5 = .ok (.ifCond .ge 7, 3) := dk_156 0 7 (dk_at dksJ3_sub_0 5 rfl rfl)
theorem dJ3_sub_8 : decode cJ3_sub 8 = .ok (.iload_n 0, 1) := dk_26 (dk_at dksJ3_sub_0 8 rfl rfl)
theorem dJ3_sub_9 : decode cJ3_sub 9 = .ok (.iload_n 2, 1) := dk_28 (dk_at dksJ3_sub_0 9 rfl rfl)
theorem dJ3_sub_10 : decode cJ3_sub 10 = .ok (.iadd, 1) := dk_96 (dk_at dksJ3_sub_0 10 rfl rfl)
theorem dJ3_sub_11 : decode cJ3_sub 11 = .ok (.istore_n 0, 1) := dk_59 (dk_at dksJ3_sub_0 11 rfl rfl)
theorem dJ3_sub_12 : decode cJ3_sub 12 = .ok (.iload_n 0, 1) := dk_26 (dk_at dksJ3_sub_0 12 rfl rfl)
theorem dJ3_sub_13 : decode cJ3_sub 13 = .ok (.ireturn, 1) := dk_172 (dk_at dksJ3_sub_0 13 rfl rfl)
abbrev cJ3_removeFirst : ByteArray := prog_42_method_18_code
def yJ3_removeFirst : MethodName := ⟨RJ3, "removeFirst", "()Ljava/lang/Object;"⟩
def dkwJ3_removeFirst_0 : List UInt8 := [42, 182, 0, 93, 76, 43, 199, 0, 11, 187, 0, 97, 89, 183, 0, 99, 191, 43, 176]
abbrev dktJ3_removeFirst_0 : List UInt8 := dkwJ3_removeFirst_0 ++ []
theorem dksJ3_removeFirst_0 : cJ3_removeFirst.data.toList.drop 0 = dktJ3_removeFirst_0 := by decide +kernel
theorem dJ3_removeFirst_0 : decode cJ3_removeFirst 0 = .ok (.aload_n 0, 1) := dk_42 (dk_at dksJ3_removeFirst_0 0 rfl rfl)
theorem dJ3_removeFirst_1 : decode cJ3_removeFirst 1 = .ok (.invokevirtual 93, 3) := dk_182 0 93 (dk_at dksJ3_removeFirst_0 1 rfl rfl)
theorem dJ3_removeFirst_4 : decode cJ3_removeFirst 4 = .ok (.astore_n 1, 1) := dk_76 (dk_at dksJ3_removeFirst_0 4 rfl rfl)
theorem dJ3_removeFirst_5 : decode cJ3_removeFirst 5 = .ok (.aload_n 1, 1) := dk_43 (dk_at dksJ3_removeFirst_0 5 rfl rfl)
theorem dJ3_removeFirst_6 : decode cJ3_removeFirst 6 = .ok (.ifnonnull 11, 3) := dk_199 0 11 (dk_at dksJ3_removeFirst_0 6 rfl rfl)
theorem dJ3_removeFirst_9 : decode cJ3_removeFirst 9 = .ok (.new 97, 3) := dk_187 0 97 (dk_at dksJ3_removeFirst_0 9 rfl rfl)
theorem dJ3_removeFirst_12 : decode cJ3_removeFirst 12 = .ok (.dup, 1) := dk_89 (dk_at dksJ3_removeFirst_0 12 rfl rfl)
theorem dJ3_removeFirst_13 : decode cJ3_removeFirst 13 = .ok (.invokespecial 99, 3) := dk_183 0 99 (dk_at dksJ3_removeFirst_0 13 rfl rfl)
theorem dJ3_removeFirst_16 : decode cJ3_removeFirst 16 = .ok (.athrow, 1) := dk_191 (dk_at dksJ3_removeFirst_0 16 rfl rfl)
theorem dJ3_removeFirst_17 : decode cJ3_removeFirst 17 = .ok (.aload_n 1, 1) := dk_43 (dk_at dksJ3_removeFirst_0 17 rfl rfl)
theorem dJ3_removeFirst_18 : decode cJ3_removeFirst 18 = .ok (.areturn, 1) := dk_176 (dk_at dksJ3_removeFirst_0 18 rfl rfl)
abbrev cJ3_pollFirst : ByteArray := prog_42_method_20_code
def yJ3_pollFirst : MethodName := ⟨RJ3, "pollFirst", "()Ljava/lang/Object;"⟩
def dkwJ3_pollFirst_1 : List UInt8 := [42, 28, 43, 190, 184, 0, 74, 181, 0, 24, 45, 176]
abbrev dktJ3_pollFirst_1 : List UInt8 := dkwJ3_pollFirst_1 ++ []
def dkwJ3_pollFirst_0 : List UInt8 := [42, 180, 0, 3, 89, 76, 42, 180, 0, 24, 89, 61, 184, 0, 103, 78, 45, 198, 0, 17, 43, 28, 1, 83]
abbrev dktJ3_pollFirst_0 : List UInt8 := dkwJ3_pollFirst_0 ++ dktJ3_pollFirst_1
theorem dksJ3_pollFirst_0 : cJ3_pollFirst.data.toList.drop 0 = dktJ3_pollFirst_0 := by decide +kernel
theorem dksJ3_pollFirst_1 : cJ3_pollFirst.data.toList.drop 24 = dktJ3_pollFirst_1 := dk_seg dksJ3_pollFirst_0 24 rfl rfl
theorem dJ3_pollFirst_0 : decode cJ3_pollFirst 0 = .ok (.aload_n 0, 1) := dk_42 (dk_at dksJ3_pollFirst_0 0 rfl rfl)
theorem dJ3_pollFirst_1 : decode cJ3_pollFirst 1 = .ok (.getfield 3, 3) := dk_180 0 3 (dk_at dksJ3_pollFirst_0 1 rfl rfl)
theorem dJ3_pollFirst_4 : decode cJ3_pollFirst 4 = .ok (.dup, 1) := dk_89 (dk_at dksJ3_pollFirst_0 4 rfl rfl)
theorem dJ3_pollFirst_5 : decode cJ3_pollFirst 5 = .ok (.astore_n 1, 1) := dk_76 (dk_at dksJ3_pollFirst_0 5 rfl rfl)
theorem dJ3_pollFirst_6 : decode cJ3_pollFirst 6 = .ok (.aload_n 0, 1) := dk_42 (dk_at dksJ3_pollFirst_0 6 rfl rfl)
theorem dJ3_pollFirst_7 : decode cJ3_pollFirst 7 = .ok (.getfield 24, 3) := dk_180 0 24 (dk_at dksJ3_pollFirst_0 7 rfl rfl)
theorem dJ3_pollFirst_10 : decode cJ3_pollFirst 10 = .ok (.dup, 1) := dk_89 (dk_at dksJ3_pollFirst_0 10 rfl rfl)
theorem dJ3_pollFirst_11 : decode cJ3_pollFirst 11 = .ok (.istore_n 2, 1) := dk_61 (dk_at dksJ3_pollFirst_0 11 rfl rfl)
theorem dJ3_pollFirst_12 : decode cJ3_pollFirst 12 = .ok (.invokestatic 103, 3) := dk_184 0 103 (dk_at dksJ3_pollFirst_0 12 rfl rfl)
theorem dJ3_pollFirst_15 : decode cJ3_pollFirst 15 = .ok (.astore_n 3, 1) := dk_78 (dk_at dksJ3_pollFirst_0 15 rfl rfl)
theorem dJ3_pollFirst_16 : decode cJ3_pollFirst 16 = .ok (.aload_n 3, 1) := dk_45 (dk_at dksJ3_pollFirst_0 16 rfl rfl)
theorem dJ3_pollFirst_17 : decode cJ3_pollFirst 17 = .ok (.ifnull 17, 3) := dk_198 0 17 (dk_at dksJ3_pollFirst_0 17 rfl rfl)
theorem dJ3_pollFirst_20 : decode cJ3_pollFirst 20 = .ok (.aload_n 1, 1) := dk_43 (dk_at dksJ3_pollFirst_0 20 rfl rfl)
theorem dJ3_pollFirst_21 : decode cJ3_pollFirst 21 = .ok (.iload_n 2, 1) := dk_28 (dk_at dksJ3_pollFirst_0 21 rfl rfl)
theorem dJ3_pollFirst_22 : decode cJ3_pollFirst 22 = .ok (.aconst_null, 1) := dk_1 (dk_at dksJ3_pollFirst_0 22 rfl rfl)
theorem dJ3_pollFirst_23 : decode cJ3_pollFirst 23 = .ok (.aastore, 1) := dk_83 (dk_at dksJ3_pollFirst_0 23 rfl rfl)
theorem dJ3_pollFirst_24 : decode cJ3_pollFirst 24 = .ok (.aload_n 0, 1) := dk_42 (dk_at dksJ3_pollFirst_1 0 rfl rfl)
theorem dJ3_pollFirst_25 : decode cJ3_pollFirst 25 = .ok (.iload_n 2, 1) := dk_28 (dk_at dksJ3_pollFirst_1 1 rfl rfl)
theorem dJ3_pollFirst_26 : decode cJ3_pollFirst 26 = .ok (.aload_n 1, 1) := dk_43 (dk_at dksJ3_pollFirst_1 2 rfl rfl)
theorem dJ3_pollFirst_27 : decode cJ3_pollFirst 27 = .ok (.arraylength, 1) := dk_190 (dk_at dksJ3_pollFirst_1 3 rfl rfl)
theorem dJ3_pollFirst_28 : decode cJ3_pollFirst 28 = .ok (.invokestatic 74, 3) := dk_184 0 74 (dk_at dksJ3_pollFirst_1 4 rfl rfl)
theorem dJ3_pollFirst_31 : decode cJ3_pollFirst 31 = .ok (.putfield 24, 3) := dk_181 0 24 (dk_at dksJ3_pollFirst_1 7 rfl rfl)
theorem dJ3_pollFirst_34 : decode cJ3_pollFirst 34 = .ok (.aload_n 3, 1) := dk_45 (dk_at dksJ3_pollFirst_1 10 rfl rfl)
theorem dJ3_pollFirst_35 : decode cJ3_pollFirst 35 = .ok (.areturn, 1) := dk_176 (dk_at dksJ3_pollFirst_1 11 rfl rfl)
abbrev cJ3_elementAt : ByteArray := prog_42_method_10_code
def yJ3_elementAt : MethodName := ⟨RJ3, "elementAt", "([Ljava/lang/Object;I)Ljava/lang/Object;"⟩
def dkwJ3_elementAt_0 : List UInt8 := [42, 27, 50, 176]
abbrev dktJ3_elementAt_0 : List UInt8 := dkwJ3_elementAt_0 ++ []
theorem dksJ3_elementAt_0 : cJ3_elementAt.data.toList.drop 0 = dktJ3_elementAt_0 := by decide +kernel
theorem dJ3_elementAt_0 : decode cJ3_elementAt 0 = .ok (.aload_n 0, 1) := dk_42 (dk_at dksJ3_elementAt_0 0 rfl rfl)
theorem dJ3_elementAt_1 : decode cJ3_elementAt 1 = .ok (.iload_n 1, 1) := dk_27 (dk_at dksJ3_elementAt_0 1 rfl rfl)
theorem dJ3_elementAt_2 : decode cJ3_elementAt 2 = .ok (.aaload, 1) := dk_50 (dk_at dksJ3_elementAt_0 2 rfl rfl)
theorem dJ3_elementAt_3 : decode cJ3_elementAt 3 = .ok (.areturn, 1) := dk_176 (dk_at dksJ3_elementAt_0 3 rfl rfl)
abbrev cJ3_inc : ByteArray := prog_42_method_6_code
def yJ3_inc : MethodName := ⟨RJ3, "inc", "(II)I"⟩
def dkwJ3_inc_0 : List UInt8 := [132, 0, 1, 26, 27, 161, 0, 5, 3, 59, 26, 172]
abbrev dktJ3_inc_0 : List UInt8 := dkwJ3_inc_0 ++ []
theorem dksJ3_inc_0 : cJ3_inc.data.toList.drop 0 = dktJ3_inc_0 := by decide +kernel
theorem dJ3_inc_0 : decode cJ3_inc 0 = .ok (.iinc 0 1, 3) := dk_132 0 1 (dk_at dksJ3_inc_0 0 rfl rfl)
theorem dJ3_inc_3 : decode cJ3_inc 3 = .ok (.iload_n 0, 1) := dk_26 (dk_at dksJ3_inc_0 3 rfl rfl)
theorem dJ3_inc_4 : decode cJ3_inc 4 = .ok (.iload_n 1, 1) := dk_27 (dk_at dksJ3_inc_0 4 rfl rfl)
theorem dJ3_inc_5 : decode cJ3_inc 5 = .ok (.if_icmp .lt 5, 3) := dk_161 0 5 (dk_at dksJ3_inc_0 5 rfl rfl)
theorem dJ3_inc_8 : decode cJ3_inc 8 = .ok (.iconst 0, 1) := dk_3 (dk_at dksJ3_inc_0 8 rfl rfl)
theorem dJ3_inc_9 : decode cJ3_inc 9 = .ok (.istore_n 0, 1) := dk_59 (dk_at dksJ3_inc_0 9 rfl rfl)
theorem dJ3_inc_10 : decode cJ3_inc 10 = .ok (.iload_n 0, 1) := dk_26 (dk_at dksJ3_inc_0 10 rfl rfl)
theorem dJ3_inc_11 : decode cJ3_inc 11 = .ok (.ireturn, 1) := dk_172 (dk_at dksJ3_inc_0 11 rfl rfl)
abbrev cJ3_addLast : ByteArray := prog_42_method_13_code
def yJ3_addLast : MethodName := ⟨RJ3, "addLast", "(Ljava/lang/Object;)V"⟩
def dkwJ3_addLast_2 : List UInt8 := [182, 0, 71, 177]
abbrev dktJ3_addLast_2 : List UInt8 := dkwJ3_addLast_2 ++ []
def dkwJ3_addLast_1 : List UInt8 := [42, 180, 0, 24, 42, 42, 180, 0, 20, 44, 190, 184, 0, 74, 90, 181, 0, 20, 160, 0, 8, 42, 4]
abbrev dktJ3_addLast_1 : List UInt8 := dkwJ3_addLast_1 ++ dktJ3_addLast_2
def dkwJ3_addLast_0 : List UInt8 := [43, 199, 0, 11, 187, 0, 65, 89, 183, 0, 67, 191, 42, 180, 0, 3, 77, 44, 42, 180, 0, 20, 43, 83]
abbrev dktJ3_addLast_0 : List UInt8 := dkwJ3_addLast_0 ++ dktJ3_addLast_1
theorem dksJ3_addLast_0 : cJ3_addLast.data.toList.drop 0 = dktJ3_addLast_0 := by decide +kernel
theorem dksJ3_addLast_1 : cJ3_addLast.data.toList.drop 24 = dktJ3_addLast_1 := dk_seg dksJ3_addLast_0 24 rfl rfl
theorem dksJ3_addLast_2 : cJ3_addLast.data.toList.drop 47 = dktJ3_addLast_2 := dk_seg dksJ3_addLast_1 23 rfl rfl
theorem dJ3_addLast_0 : decode cJ3_addLast 0 = .ok (.aload_n 1, 1) := dk_43 (dk_at dksJ3_addLast_0 0 rfl rfl)
theorem dJ3_addLast_1 : decode cJ3_addLast 1 = .ok (.ifnonnull 11, 3) := dk_199 0 11 (dk_at dksJ3_addLast_0 1 rfl rfl)
theorem dJ3_addLast_4 : decode cJ3_addLast 4 = .ok (.new 65, 3) := dk_187 0 65 (dk_at dksJ3_addLast_0 4 rfl rfl)
theorem dJ3_addLast_7 : decode cJ3_addLast 7 = .ok (.dup, 1) := dk_89 (dk_at dksJ3_addLast_0 7 rfl rfl)
theorem dJ3_addLast_8 : decode cJ3_addLast 8 = .ok (.invokespecial 67, 3) := dk_183 0 67 (dk_at dksJ3_addLast_0 8 rfl rfl)
theorem dJ3_addLast_11 : decode cJ3_addLast 11 = .ok (.athrow, 1) := dk_191 (dk_at dksJ3_addLast_0 11 rfl rfl)
theorem dJ3_addLast_12 : decode cJ3_addLast 12 = .ok (.aload_n 0, 1) := dk_42 (dk_at dksJ3_addLast_0 12 rfl rfl)
theorem dJ3_addLast_13 : decode cJ3_addLast 13 = .ok (.getfield 3, 3) := dk_180 0 3 (dk_at dksJ3_addLast_0 13 rfl rfl)
theorem dJ3_addLast_16 : decode cJ3_addLast 16 = .ok (.astore_n 2, 1) := dk_77 (dk_at dksJ3_addLast_0 16 rfl rfl)
theorem dJ3_addLast_17 : decode cJ3_addLast 17 = .ok (.aload_n 2, 1) := dk_44 (dk_at dksJ3_addLast_0 17 rfl rfl)
theorem dJ3_addLast_18 : decode cJ3_addLast 18 = .ok (.aload_n 0, 1) := dk_42 (dk_at dksJ3_addLast_0 18 rfl rfl)
theorem dJ3_addLast_19 : decode cJ3_addLast 19 = .ok (.getfield 20, 3) := dk_180 0 20 (dk_at dksJ3_addLast_0 19 rfl rfl)
theorem dJ3_addLast_22 : decode cJ3_addLast 22 = .ok (.aload_n 1, 1) := dk_43 (dk_at dksJ3_addLast_0 22 rfl rfl)
theorem dJ3_addLast_23 : decode cJ3_addLast 23 = .ok (.aastore, 1) := dk_83 (dk_at dksJ3_addLast_0 23 rfl rfl)
theorem dJ3_addLast_24 : decode cJ3_addLast 24 = .ok (.aload_n 0, 1) := dk_42 (dk_at dksJ3_addLast_1 0 rfl rfl)
theorem dJ3_addLast_25 : decode cJ3_addLast 25 = .ok (.getfield 24, 3) := dk_180 0 24 (dk_at dksJ3_addLast_1 1 rfl rfl)
theorem dJ3_addLast_28 : decode cJ3_addLast 28 = .ok (.aload_n 0, 1) := dk_42 (dk_at dksJ3_addLast_1 4 rfl rfl)
theorem dJ3_addLast_29 : decode cJ3_addLast 29 = .ok (.aload_n 0, 1) := dk_42 (dk_at dksJ3_addLast_1 5 rfl rfl)
theorem dJ3_addLast_30 : decode cJ3_addLast 30 = .ok (.getfield 20, 3) := dk_180 0 20 (dk_at dksJ3_addLast_1 6 rfl rfl)
theorem dJ3_addLast_33 : decode cJ3_addLast 33 = .ok (.aload_n 2, 1) := dk_44 (dk_at dksJ3_addLast_1 9 rfl rfl)
theorem dJ3_addLast_34 : decode cJ3_addLast 34 = .ok (.arraylength, 1) := dk_190 (dk_at dksJ3_addLast_1 10 rfl rfl)
theorem dJ3_addLast_35 : decode cJ3_addLast 35 = .ok (.invokestatic 74, 3) := dk_184 0 74 (dk_at dksJ3_addLast_1 11 rfl rfl)
theorem dJ3_addLast_38 : decode cJ3_addLast 38 = .ok (.dup_x1, 1) := dk_90 (dk_at dksJ3_addLast_1 14 rfl rfl)
theorem dJ3_addLast_39 : decode cJ3_addLast 39 = .ok (.putfield 20, 3) := dk_181 0 20 (dk_at dksJ3_addLast_1 15 rfl rfl)
theorem dJ3_addLast_42 : decode cJ3_addLast 42 = .ok (.if_icmp .ne 8, 3) := dk_160 0 8 (dk_at dksJ3_addLast_1 18 rfl rfl)
theorem dJ3_addLast_45 : decode cJ3_addLast 45 = .ok (.aload_n 0, 1) := dk_42 (dk_at dksJ3_addLast_1 21 rfl rfl)
theorem dJ3_addLast_46 : decode cJ3_addLast 46 = .ok (.iconst 1, 1) := dk_4 (dk_at dksJ3_addLast_1 22 rfl rfl)
theorem dJ3_addLast_47 : decode cJ3_addLast 47 = .ok (.invokevirtual 71, 3) := dk_182 0 71 (dk_at dksJ3_addLast_2 0 rfl rfl)
theorem dJ3_addLast_50 : decode cJ3_addLast 50 = .ok (.return_, 1) := dk_177 (dk_at dksJ3_addLast_2 3 rfl rfl)
abbrev cJ3_grow : ByteArray := prog_42_method_1_code
def yJ3_grow : MethodName := ⟨RJ3, "grow", "(I)V"⟩
def dkwJ3_grow_7 : List UInt8 := [177]
abbrev dktJ3_grow_7 : List UInt8 := dkwJ3_grow_7 ++ []
def dkwJ3_grow_6 : List UInt8 := [181, 0, 24, 54, 8, 21, 7, 21, 8, 162, 0, 15, 25, 5, 21, 7, 1, 83, 132, 7, 1, 167, 255, 240]
abbrev dktJ3_grow_6 : List UInt8 := dkwJ3_grow_6 ++ dktJ3_grow_7
def dkwJ3_grow_5 : List UInt8 := [42, 180, 0, 24, 100, 184, 0, 27, 42, 180, 0, 24, 54, 7, 42, 89, 180, 0, 24, 21, 6, 96, 90]
abbrev dktJ3_grow_5 : List UInt8 := dkwJ3_grow_5 ++ dktJ3_grow_6
def dkwJ3_grow_4 : List UInt8 := [198, 0, 71, 29, 28, 100, 54, 6, 25, 5, 42, 180, 0, 24, 25, 5, 42, 180, 0, 24, 21, 6, 96, 28]
abbrev dktJ3_grow_4 : List UInt8 := dkwJ3_grow_4 ++ dktJ3_grow_5
def dkwJ3_grow_3 : List UInt8 := [180, 0, 24, 161, 0, 24, 42, 180, 0, 20, 42, 180, 0, 24, 160, 0, 81, 25, 5, 42, 180, 0, 24, 50]
abbrev dktJ3_grow_3 : List UInt8 := dkwJ3_grow_3 ++ dktJ3_grow_4
def dkwJ3_grow_2 : List UInt8 := [182, 0, 10, 62, 42, 42, 180, 0, 3, 29, 184, 0, 14, 90, 181, 0, 3, 58, 5, 42, 180, 0, 20, 42]
abbrev dktJ3_grow_2 : List UInt8 := dkwJ3_grow_2 ++ dktJ3_grow_3
def dkwJ3_grow_1 : List UInt8 := [21, 4, 27, 161, 0, 15, 28, 21, 4, 96, 89, 62, 18, 9, 100, 158, 0, 11, 42, 27, 21, 4]
abbrev dktJ3_grow_1 : List UInt8 := dkwJ3_grow_1 ++ dktJ3_grow_2
def dkwJ3_grow_0 : List UInt8 := [42, 180, 0, 3, 190, 61, 28, 16, 64, 162, 0, 9, 28, 5, 96, 167, 0, 6, 28, 4, 122, 54, 4]
abbrev dktJ3_grow_0 : List UInt8 := dkwJ3_grow_0 ++ dktJ3_grow_1
theorem dksJ3_grow_0 : cJ3_grow.data.toList.drop 0 = dktJ3_grow_0 := by decide +kernel
theorem dksJ3_grow_1 : cJ3_grow.data.toList.drop 23 = dktJ3_grow_1 := dk_seg dksJ3_grow_0 23 rfl rfl
theorem dksJ3_grow_2 : cJ3_grow.data.toList.drop 45 = dktJ3_grow_2 := dk_seg dksJ3_grow_1 22 rfl rfl
theorem dksJ3_grow_3 : cJ3_grow.data.toList.drop 69 = dktJ3_grow_3 := dk_seg dksJ3_grow_2 24 rfl rfl
theorem dksJ3_grow_4 : cJ3_grow.data.toList.drop 93 = dktJ3_grow_4 := dk_seg dksJ3_grow_3 24 rfl rfl
theorem dksJ3_grow_5 : cJ3_grow.data.toList.drop 117 = dktJ3_grow_5 := dk_seg dksJ3_grow_4 24 rfl rfl
theorem dksJ3_grow_6 : cJ3_grow.data.toList.drop 140 = dktJ3_grow_6 := dk_seg dksJ3_grow_5 23 rfl rfl
theorem dksJ3_grow_7 : cJ3_grow.data.toList.drop 164 = dktJ3_grow_7 := dk_seg dksJ3_grow_6 24 rfl rfl
theorem dJ3_grow_0 : decode cJ3_grow 0 = .ok (.aload_n 0, 1) := dk_42 (dk_at dksJ3_grow_0 0 rfl rfl)
theorem dJ3_grow_1 : decode cJ3_grow 1 = .ok (.getfield 3, 3) := dk_180 0 3 (dk_at dksJ3_grow_0 1 rfl rfl)
theorem dJ3_grow_4 : decode cJ3_grow 4 = .ok (.arraylength, 1) := dk_190 (dk_at dksJ3_grow_0 4 rfl rfl)
theorem dJ3_grow_5 : decode cJ3_grow 5 = .ok (.istore_n 2, 1) := dk_61 (dk_at dksJ3_grow_0 5 rfl rfl)
theorem dJ3_grow_6 : decode cJ3_grow 6 = .ok (.iload_n 2, 1) := dk_28 (dk_at dksJ3_grow_0 6 rfl rfl)
theorem dJ3_grow_7 : decode cJ3_grow 7 = .ok (.bipush 64, 2) := dk_16 64 (dk_at dksJ3_grow_0 7 rfl rfl)
theorem dJ3_grow_9 : decode cJ3_grow 9 = .ok (.if_icmp .ge 9, 3) := dk_162 0 9 (dk_at dksJ3_grow_0 9 rfl rfl)
theorem dJ3_grow_12 : decode cJ3_grow 12 = .ok (.iload_n 2, 1) := dk_28 (dk_at dksJ3_grow_0 12 rfl rfl)
theorem dJ3_grow_13 : decode cJ3_grow 13 = .ok (.iconst 2, 1) := dk_5 (dk_at dksJ3_grow_0 13 rfl rfl)
theorem dJ3_grow_14 : decode cJ3_grow 14 = .ok (.iadd, 1) := dk_96 (dk_at dksJ3_grow_0 14 rfl rfl)
theorem dJ3_grow_15 : decode cJ3_grow 15 = .ok (.goto 6, 3) := dk_167 0 6 (dk_at dksJ3_grow_0 15 rfl rfl)
theorem dJ3_grow_18 : decode cJ3_grow 18 = .ok (.iload_n 2, 1) := dk_28 (dk_at dksJ3_grow_0 18 rfl rfl)
theorem dJ3_grow_19 : decode cJ3_grow 19 = .ok (.iconst 1, 1) := dk_4 (dk_at dksJ3_grow_0 19 rfl rfl)
theorem dJ3_grow_20 : decode cJ3_grow 20 = .ok (.ishr, 1) := dk_122 (dk_at dksJ3_grow_0 20 rfl rfl)
theorem dJ3_grow_21 : decode cJ3_grow 21 = .ok (.istore 4, 2) := dk_54 4 (dk_at dksJ3_grow_0 21 rfl rfl)
theorem dJ3_grow_23 : decode cJ3_grow 23 = .ok (.iload 4, 2) := dk_21 4 (dk_at dksJ3_grow_1 0 rfl rfl)
theorem dJ3_grow_25 : decode cJ3_grow 25 = .ok (.iload_n 1, 1) := dk_27 (dk_at dksJ3_grow_1 2 rfl rfl)
theorem dJ3_grow_26 : decode cJ3_grow 26 = .ok (.if_icmp .lt 15, 3) := dk_161 0 15 (dk_at dksJ3_grow_1 3 rfl rfl)
theorem dJ3_grow_29 : decode cJ3_grow 29 = .ok (.iload_n 2, 1) := dk_28 (dk_at dksJ3_grow_1 6 rfl rfl)
theorem dJ3_grow_30 : decode cJ3_grow 30 = .ok (.iload 4, 2) := dk_21 4 (dk_at dksJ3_grow_1 7 rfl rfl)
theorem dJ3_grow_32 : decode cJ3_grow 32 = .ok (.iadd, 1) := dk_96 (dk_at dksJ3_grow_1 9 rfl rfl)
theorem dJ3_grow_33 : decode cJ3_grow 33 = .ok (.dup, 1) := dk_89 (dk_at dksJ3_grow_1 10 rfl rfl)
theorem dJ3_grow_34 : decode cJ3_grow 34 = .ok (.istore_n 3, 1) := dk_62 (dk_at dksJ3_grow_1 11 rfl rfl)
theorem dJ3_grow_35 : decode cJ3_grow 35 = .ok (.ldc 9, 2) := dk_18 9 (dk_at dksJ3_grow_1 12 rfl rfl)
theorem dJ3_grow_37 : decode cJ3_grow 37 = .ok (.isub, 1) := dk_100 (dk_at dksJ3_grow_1 14 rfl rfl)
theorem dJ3_grow_38 : decode cJ3_grow 38 = .ok (.ifCond .le 11, 3) := dk_158 0 11 (dk_at dksJ3_grow_1 15 rfl rfl)
theorem dJ3_grow_41 : decode cJ3_grow 41 = .ok (.aload_n 0, 1) := dk_42 (dk_at dksJ3_grow_1 18 rfl rfl)
theorem dJ3_grow_42 : decode cJ3_grow 42 = .ok (.iload_n 1, 1) := dk_27 (dk_at dksJ3_grow_1 19 rfl rfl)
theorem dJ3_grow_43 : decode cJ3_grow 43 = .ok (.iload 4, 2) := dk_21 4 (dk_at dksJ3_grow_1 20 rfl rfl)
theorem dJ3_grow_45 : decode cJ3_grow 45 = .ok (.invokevirtual 10, 3) := dk_182 0 10 (dk_at dksJ3_grow_2 0 rfl rfl)
theorem dJ3_grow_48 : decode cJ3_grow 48 = .ok (.istore_n 3, 1) := dk_62 (dk_at dksJ3_grow_2 3 rfl rfl)
theorem dJ3_grow_49 : decode cJ3_grow 49 = .ok (.aload_n 0, 1) := dk_42 (dk_at dksJ3_grow_2 4 rfl rfl)
theorem dJ3_grow_50 : decode cJ3_grow 50 = .ok (.aload_n 0, 1) := dk_42 (dk_at dksJ3_grow_2 5 rfl rfl)
theorem dJ3_grow_51 : decode cJ3_grow 51 = .ok (.getfield 3, 3) := dk_180 0 3 (dk_at dksJ3_grow_2 6 rfl rfl)
theorem dJ3_grow_54 : decode cJ3_grow 54 = .ok (.iload_n 3, 1) := dk_29 (dk_at dksJ3_grow_2 9 rfl rfl)
theorem dJ3_grow_55 : decode cJ3_grow 55 = .ok (.invokestatic 14, 3) := dk_184 0 14 (dk_at dksJ3_grow_2 10 rfl rfl)
theorem dJ3_grow_58 : decode cJ3_grow 58 = .ok (.dup_x1, 1) := dk_90 (dk_at dksJ3_grow_2 13 rfl rfl)
theorem dJ3_grow_59 : decode cJ3_grow 59 = .ok (.putfield 3, 3) := dk_181 0 3 (dk_at dksJ3_grow_2 14 rfl rfl)
theorem dJ3_grow_62 : decode cJ3_grow 62 = .ok (.astore 5, 2) := dk_58 5 (dk_at dksJ3_grow_2 17 rfl rfl)
theorem dJ3_grow_64 : decode cJ3_grow 64 = .ok (.aload_n 0, 1) := dk_42 (dk_at dksJ3_grow_2 19 rfl rfl)
theorem dJ3_grow_65 : decode cJ3_grow 65 = .ok (.getfield 20, 3) := dk_180 0 20 (dk_at dksJ3_grow_2 20 rfl rfl)
theorem dJ3_grow_68 : decode cJ3_grow 68 = .ok (.aload_n 0, 1) := dk_42 (dk_at dksJ3_grow_2 23 rfl rfl)
theorem dJ3_grow_69 : decode cJ3_grow 69 = .ok (.getfield 24, 3) := dk_180 0 24 (dk_at dksJ3_grow_3 0 rfl rfl)
theorem dJ3_grow_72 : decode cJ3_grow 72 = .ok (.if_icmp .lt 24, 3) := dk_161 0 24 (dk_at dksJ3_grow_3 3 rfl rfl)
theorem dJ3_grow_75 : decode cJ3_grow 75 = .ok (.aload_n 0, 1) := dk_42 (dk_at dksJ3_grow_3 6 rfl rfl)
theorem dJ3_grow_76 : decode cJ3_grow 76 = .ok (.getfield 20, 3) := dk_180 0 20 (dk_at dksJ3_grow_3 7 rfl rfl)
theorem dJ3_grow_79 : decode cJ3_grow 79 = .ok (.aload_n 0, 1) := dk_42 (dk_at dksJ3_grow_3 10 rfl rfl)
theorem dJ3_grow_80 : decode cJ3_grow 80 = .ok (.getfield 24, 3) := dk_180 0 24 (dk_at dksJ3_grow_3 11 rfl rfl)
theorem dJ3_grow_83 : decode cJ3_grow 83 = .ok (.if_icmp .ne 81, 3) := dk_160 0 81 (dk_at dksJ3_grow_3 14 rfl rfl)
theorem dJ3_grow_86 : decode cJ3_grow 86 = .ok (.aload 5, 2) := dk_25 5 (dk_at dksJ3_grow_3 17 rfl rfl)
theorem dJ3_grow_88 : decode cJ3_grow 88 = .ok (.aload_n 0, 1) := dk_42 (dk_at dksJ3_grow_3 19 rfl rfl)
theorem dJ3_grow_89 : decode cJ3_grow 89 = .ok (.getfield 24, 3) := dk_180 0 24 (dk_at dksJ3_grow_3 20 rfl rfl)
theorem dJ3_grow_92 : decode cJ3_grow 92 = .ok (.aaload, 1) := dk_50 (dk_at dksJ3_grow_3 23 rfl rfl)
theorem dJ3_grow_93 : decode cJ3_grow 93 = .ok (.ifnull 71, 3) := dk_198 0 71 (dk_at dksJ3_grow_4 0 rfl rfl)
theorem dJ3_grow_96 : decode cJ3_grow 96 = .ok (.iload_n 3, 1) := dk_29 (dk_at dksJ3_grow_4 3 rfl rfl)
theorem dJ3_grow_97 : decode cJ3_grow 97 = .ok (.iload_n 2, 1) := dk_28 (dk_at dksJ3_grow_4 4 rfl rfl)
theorem dJ3_grow_98 : decode cJ3_grow 98 = .ok (.isub, 1) := dk_100 (dk_at dksJ3_grow_4 5 rfl rfl)
theorem dJ3_grow_99 : decode cJ3_grow 99 = .ok (.istore 6, 2) := dk_54 6 (dk_at dksJ3_grow_4 6 rfl rfl)
theorem dJ3_grow_101 : decode cJ3_grow 101 = .ok (.aload 5, 2) := dk_25 5 (dk_at dksJ3_grow_4 8 rfl rfl)
theorem dJ3_grow_103 : decode cJ3_grow 103 = .ok (.aload_n 0, 1) := dk_42 (dk_at dksJ3_grow_4 10 rfl rfl)
theorem dJ3_grow_104 : decode cJ3_grow 104 = .ok (.getfield 24, 3) := dk_180 0 24 (dk_at dksJ3_grow_4 11 rfl rfl)
theorem dJ3_grow_107 : decode cJ3_grow 107 = .ok (.aload 5, 2) := dk_25 5 (dk_at dksJ3_grow_4 14 rfl rfl)
theorem dJ3_grow_109 : decode cJ3_grow 109 = .ok (.aload_n 0, 1) := dk_42 (dk_at dksJ3_grow_4 16 rfl rfl)
theorem dJ3_grow_110 : decode cJ3_grow 110 = .ok (.getfield 24, 3) := dk_180 0 24 (dk_at dksJ3_grow_4 17 rfl rfl)
theorem dJ3_grow_113 : decode cJ3_grow 113 = .ok (.iload 6, 2) := dk_21 6 (dk_at dksJ3_grow_4 20 rfl rfl)
theorem dJ3_grow_115 : decode cJ3_grow 115 = .ok (.iadd, 1) := dk_96 (dk_at dksJ3_grow_4 22 rfl rfl)
theorem dJ3_grow_116 : decode cJ3_grow 116 = .ok (.iload_n 2, 1) := dk_28 (dk_at dksJ3_grow_4 23 rfl rfl)
theorem dJ3_grow_117 : decode cJ3_grow 117 = .ok (.aload_n 0, 1) := dk_42 (dk_at dksJ3_grow_5 0 rfl rfl)
theorem dJ3_grow_118 : decode cJ3_grow 118 = .ok (.getfield 24, 3) := dk_180 0 24 (dk_at dksJ3_grow_5 1 rfl rfl)
theorem dJ3_grow_121 : decode cJ3_grow 121 = .ok (.isub, 1) := dk_100 (dk_at dksJ3_grow_5 4 rfl rfl)
theorem dJ3_grow_122 : decode cJ3_grow 122 = .ok (.invokestatic 27, 3) := dk_184 0 27 (dk_at dksJ3_grow_5 5 rfl rfl)
theorem dJ3_grow_125 : decode cJ3_grow 125 = .ok (.aload_n 0, 1) := dk_42 (dk_at dksJ3_grow_5 8 rfl rfl)
theorem dJ3_grow_126 : decode cJ3_grow 126 = .ok (.getfield 24, 3) := dk_180 0 24 (dk_at dksJ3_grow_5 9 rfl rfl)
theorem dJ3_grow_129 : decode cJ3_grow 129 = .ok (.istore 7, 2) := dk_54 7 (dk_at dksJ3_grow_5 12 rfl rfl)
theorem dJ3_grow_131 : decode cJ3_grow 131 = .ok (.aload_n 0, 1) := dk_42 (dk_at dksJ3_grow_5 14 rfl rfl)
theorem dJ3_grow_132 : decode cJ3_grow 132 = .ok (.dup, 1) := dk_89 (dk_at dksJ3_grow_5 15 rfl rfl)
theorem dJ3_grow_133 : decode cJ3_grow 133 = .ok (.getfield 24, 3) := dk_180 0 24 (dk_at dksJ3_grow_5 16 rfl rfl)
theorem dJ3_grow_136 : decode cJ3_grow 136 = .ok (.iload 6, 2) := dk_21 6 (dk_at dksJ3_grow_5 19 rfl rfl)
theorem dJ3_grow_138 : decode cJ3_grow 138 = .ok (.iadd, 1) := dk_96 (dk_at dksJ3_grow_5 21 rfl rfl)
theorem dJ3_grow_139 : decode cJ3_grow 139 = .ok (.dup_x1, 1) := dk_90 (dk_at dksJ3_grow_5 22 rfl rfl)
theorem dJ3_grow_140 : decode cJ3_grow 140 = .ok (.putfield 24, 3) := dk_181 0 24 (dk_at dksJ3_grow_6 0 rfl rfl)
theorem dJ3_grow_143 : decode cJ3_grow 143 = .ok (.istore 8, 2) := dk_54 8 (dk_at dksJ3_grow_6 3 rfl rfl)
theorem dJ3_grow_145 : decode cJ3_grow 145 = .ok (.iload 7, 2) := dk_21 7 (dk_at dksJ3_grow_6 5 rfl rfl)
theorem dJ3_grow_147 : decode cJ3_grow 147 = .ok (.iload 8, 2) := dk_21 8 (dk_at dksJ3_grow_6 7 rfl rfl)
theorem dJ3_grow_149 : decode cJ3_grow 149 = .ok (.if_icmp .ge 15, 3) := dk_162 0 15 (dk_at dksJ3_grow_6 9 rfl rfl)
theorem dJ3_grow_152 : decode cJ3_grow 152 = .ok (.aload 5, 2) := dk_25 5 (dk_at dksJ3_grow_6 12 rfl rfl)
theorem dJ3_grow_154 : decode cJ3_grow 154 = .ok (.iload 7, 2) := dk_21 7 (dk_at dksJ3_grow_6 14 rfl rfl)
theorem dJ3_grow_156 : decode cJ3_grow 156 = .ok (.aconst_null, 1) := dk_1 (dk_at dksJ3_grow_6 16 rfl rfl)
theorem dJ3_grow_157 : decode cJ3_grow 157 = .ok (.aastore, 1) := dk_83 (dk_at dksJ3_grow_6 17 rfl rfl)
theorem dJ3_grow_158 : decode cJ3_grow 158 = .ok (.iinc 7 1, 3) := dk_132 7 1 (dk_at dksJ3_grow_6 18 rfl rfl)
theorem dJ3_grow_161 : decode cJ3_grow 161 = .ok (.goto (-16), 3) := dk_167 255 240 (dk_at dksJ3_grow_6 21 rfl rfl)
theorem dJ3_grow_164 : decode cJ3_grow 164 = .ok (.return_, 1) := dk_177 (dk_at dksJ3_grow_7 0 rfl rfl)
abbrev cJ3_newCapacity : ByteArray := prog_42_method_2_code
def yJ3_newCapacity : MethodName := ⟨RJ3, "newCapacity", "(II)I"⟩
def dkwJ3_newCapacity_2 : List UInt8 := [18, 9, 100, 156, 0, 9, 29, 28, 96, 167, 0, 5, 18, 9, 172]
abbrev dktJ3_newCapacity_2 : List UInt8 := dkwJ3_newCapacity_2 ++ []
def dkwJ3_newCapacity_1 : List UInt8 := [187, 0, 33, 89, 18, 35, 183, 0, 37, 191, 18, 41, 172, 27, 28, 164, 0, 6, 21, 4, 172, 29, 28, 96]
abbrev dktJ3_newCapacity_1 : List UInt8 := dkwJ3_newCapacity_1 ++ dktJ3_newCapacity_2
def dkwJ3_newCapacity_0 : List UInt8 := [42, 180, 0, 3, 190, 62, 29, 27, 96, 89, 54, 4, 18, 9, 100, 158, 0, 21, 21, 4, 156, 0, 13]
abbrev dktJ3_newCapacity_0 : List UInt8 := dkwJ3_newCapacity_0 ++ dktJ3_newCapacity_1
theorem dksJ3_newCapacity_0 : cJ3_newCapacity.data.toList.drop 0 = dktJ3_newCapacity_0 := by decide +kernel
theorem dksJ3_newCapacity_1 : cJ3_newCapacity.data.toList.drop 23 = dktJ3_newCapacity_1 := dk_seg dksJ3_newCapacity_0 23 rfl rfl
theorem dksJ3_newCapacity_2 : cJ3_newCapacity.data.toList.drop 47 = dktJ3_newCapacity_2 := dk_seg dksJ3_newCapacity_1 24 rfl rfl
theorem dJ3_newCapacity_0 : decode cJ3_newCapacity 0 = .ok (.aload_n 0, 1) := dk_42 (dk_at dksJ3_newCapacity_0 0 rfl rfl)
theorem dJ3_newCapacity_1 : decode cJ3_newCapacity 1 = .ok (.getfield 3, 3) := dk_180 0 3 (dk_at dksJ3_newCapacity_0 1 rfl rfl)
theorem dJ3_newCapacity_4 : decode cJ3_newCapacity 4 = .ok (.arraylength, 1) := dk_190 (dk_at dksJ3_newCapacity_0 4 rfl rfl)
theorem dJ3_newCapacity_5 : decode cJ3_newCapacity 5 = .ok (.istore_n 3, 1) := dk_62 (dk_at dksJ3_newCapacity_0 5 rfl rfl)
theorem dJ3_newCapacity_6 : decode cJ3_newCapacity 6 = .ok (.iload_n 3, 1) := dk_29 (dk_at dksJ3_newCapacity_0 6 rfl rfl)
theorem dJ3_newCapacity_7 : decode cJ3_newCapacity 7 = .ok (.iload_n 1, 1) := dk_27 (dk_at dksJ3_newCapacity_0 7 rfl rfl)
theorem dJ3_newCapacity_8 : decode cJ3_newCapacity 8 = .ok (.iadd, 1) := dk_96 (dk_at dksJ3_newCapacity_0 8 rfl rfl)
theorem dJ3_newCapacity_9 : decode cJ3_newCapacity 9 = .ok (.dup, 1) := dk_89 (dk_at dksJ3_newCapacity_0 9 rfl rfl)
theorem dJ3_newCapacity_10 : decode cJ3_newCapacity 10 = .ok (.istore 4, 2) := dk_54 4 (dk_at dksJ3_newCapacity_0 10 rfl rfl)
theorem dJ3_newCapacity_12 : decode cJ3_newCapacity 12 = .ok (.ldc 9, 2) := dk_18 9 (dk_at dksJ3_newCapacity_0 12 rfl rfl)
theorem dJ3_newCapacity_14 : decode cJ3_newCapacity 14 = .ok (.isub, 1) := dk_100 (dk_at dksJ3_newCapacity_0 14 rfl rfl)
theorem dJ3_newCapacity_15 : decode cJ3_newCapacity 15 = .ok (.ifCond .le 21, 3) := dk_158 0 21 (dk_at dksJ3_newCapacity_0 15 rfl rfl)
theorem dJ3_newCapacity_18 : decode cJ3_newCapacity 18 = .ok (.iload 4, 2) := dk_21 4 (dk_at dksJ3_newCapacity_0 18 rfl rfl)
theorem dJ3_newCapacity_20 : decode cJ3_newCapacity 20 = .ok (.ifCond .ge 13, 3) := dk_156 0 13 (dk_at dksJ3_newCapacity_0 20 rfl rfl)
theorem dJ3_newCapacity_23 : decode cJ3_newCapacity 23 = .ok (.new 33, 3) := dk_187 0 33 (dk_at dksJ3_newCapacity_1 0 rfl rfl)
theorem dJ3_newCapacity_26 : decode cJ3_newCapacity 26 = .ok (.dup, 1) := dk_89 (dk_at dksJ3_newCapacity_1 3 rfl rfl)
theorem dJ3_newCapacity_27 : decode cJ3_newCapacity 27 = .ok (.ldc 35, 2) := dk_18 35 (dk_at dksJ3_newCapacity_1 4 rfl rfl)
theorem dJ3_newCapacity_29 : decode cJ3_newCapacity 29 = .ok (.invokespecial 37, 3) := dk_183 0 37 (dk_at dksJ3_newCapacity_1 6 rfl rfl)
theorem dJ3_newCapacity_32 : decode cJ3_newCapacity 32 = .ok (.athrow, 1) := dk_191 (dk_at dksJ3_newCapacity_1 9 rfl rfl)
theorem dJ3_newCapacity_33 : decode cJ3_newCapacity 33 = .ok (.ldc 41, 2) := dk_18 41 (dk_at dksJ3_newCapacity_1 10 rfl rfl)
theorem dJ3_newCapacity_35 : decode cJ3_newCapacity 35 = .ok (.ireturn, 1) := dk_172 (dk_at dksJ3_newCapacity_1 12 rfl rfl)
theorem dJ3_newCapacity_36 : decode cJ3_newCapacity 36 = .ok (.iload_n 1, 1) := dk_27 (dk_at dksJ3_newCapacity_1 13 rfl rfl)
theorem dJ3_newCapacity_37 : decode cJ3_newCapacity 37 = .ok (.iload_n 2, 1) := dk_28 (dk_at dksJ3_newCapacity_1 14 rfl rfl)
theorem dJ3_newCapacity_38 : decode cJ3_newCapacity 38 = .ok (.if_icmp .le 6, 3) := dk_164 0 6 (dk_at dksJ3_newCapacity_1 15 rfl rfl)
theorem dJ3_newCapacity_41 : decode cJ3_newCapacity 41 = .ok (.iload 4, 2) := dk_21 4 (dk_at dksJ3_newCapacity_1 18 rfl rfl)
theorem dJ3_newCapacity_43 : decode cJ3_newCapacity 43 = .ok (.ireturn, 1) := dk_172 (dk_at dksJ3_newCapacity_1 20 rfl rfl)
theorem dJ3_newCapacity_44 : decode cJ3_newCapacity 44 = .ok (.iload_n 3, 1) := dk_29 (dk_at dksJ3_newCapacity_1 21 rfl rfl)
theorem dJ3_newCapacity_45 : decode cJ3_newCapacity 45 = .ok (.iload_n 2, 1) := dk_28 (dk_at dksJ3_newCapacity_1 22 rfl rfl)
theorem dJ3_newCapacity_46 : decode cJ3_newCapacity 46 = .ok (.iadd, 1) := dk_96 (dk_at dksJ3_newCapacity_1 23 rfl rfl)
theorem dJ3_newCapacity_47 : decode cJ3_newCapacity 47 = .ok (.ldc 9, 2) := dk_18 9 (dk_at dksJ3_newCapacity_2 0 rfl rfl)
theorem dJ3_newCapacity_49 : decode cJ3_newCapacity 49 = .ok (.isub, 1) := dk_100 (dk_at dksJ3_newCapacity_2 2 rfl rfl)
theorem dJ3_newCapacity_50 : decode cJ3_newCapacity 50 = .ok (.ifCond .ge 9, 3) := dk_156 0 9 (dk_at dksJ3_newCapacity_2 3 rfl rfl)
theorem dJ3_newCapacity_53 : decode cJ3_newCapacity 53 = .ok (.iload_n 3, 1) := dk_29 (dk_at dksJ3_newCapacity_2 6 rfl rfl)
theorem dJ3_newCapacity_54 : decode cJ3_newCapacity 54 = .ok (.iload_n 2, 1) := dk_28 (dk_at dksJ3_newCapacity_2 7 rfl rfl)
theorem dJ3_newCapacity_55 : decode cJ3_newCapacity 55 = .ok (.iadd, 1) := dk_96 (dk_at dksJ3_newCapacity_2 8 rfl rfl)
theorem dJ3_newCapacity_56 : decode cJ3_newCapacity 56 = .ok (.goto 5, 3) := dk_167 0 5 (dk_at dksJ3_newCapacity_2 9 rfl rfl)
theorem dJ3_newCapacity_59 : decode cJ3_newCapacity 59 = .ok (.ldc 9, 2) := dk_18 9 (dk_at dksJ3_newCapacity_2 12 rfl rfl)
theorem dJ3_newCapacity_61 : decode cJ3_newCapacity 61 = .ok (.ireturn, 1) := dk_172 (dk_at dksJ3_newCapacity_2 14 rfl rfl)
abbrev cJ3_isEmpty : ByteArray := prog_42_method_38_code
def yJ3_isEmpty : MethodName := ⟨RJ3, "isEmpty", "()Z"⟩
def dkwJ3_isEmpty_0 : List UInt8 := [42, 180, 0, 24, 42, 180, 0, 20, 160, 0, 7, 4, 167, 0, 4, 3, 172]
abbrev dktJ3_isEmpty_0 : List UInt8 := dkwJ3_isEmpty_0 ++ []
theorem dksJ3_isEmpty_0 : cJ3_isEmpty.data.toList.drop 0 = dktJ3_isEmpty_0 := by decide +kernel
theorem dJ3_isEmpty_0 : decode cJ3_isEmpty 0 = .ok (.aload_n 0, 1) := dk_42 (dk_at dksJ3_isEmpty_0 0 rfl rfl)
theorem dJ3_isEmpty_1 : decode cJ3_isEmpty 1 = .ok (.getfield 24, 3) := dk_180 0 24 (dk_at dksJ3_isEmpty_0 1 rfl rfl)
theorem dJ3_isEmpty_4 : decode cJ3_isEmpty 4 = .ok (.aload_n 0, 1) := dk_42 (dk_at dksJ3_isEmpty_0 4 rfl rfl)
theorem dJ3_isEmpty_5 : decode cJ3_isEmpty 5 = .ok (.getfield 20, 3) := dk_180 0 20 (dk_at dksJ3_isEmpty_0 5 rfl rfl)
theorem dJ3_isEmpty_8 : decode cJ3_isEmpty 8 = .ok (.if_icmp .ne 7, 3) := dk_160 0 7 (dk_at dksJ3_isEmpty_0 8 rfl rfl)
theorem dJ3_isEmpty_11 : decode cJ3_isEmpty 11 = .ok (.iconst 1, 1) := dk_4 (dk_at dksJ3_isEmpty_0 11 rfl rfl)
theorem dJ3_isEmpty_12 : decode cJ3_isEmpty 12 = .ok (.goto 4, 3) := dk_167 0 4 (dk_at dksJ3_isEmpty_0 12 rfl rfl)
theorem dJ3_isEmpty_15 : decode cJ3_isEmpty 15 = .ok (.iconst 0, 1) := dk_3 (dk_at dksJ3_isEmpty_0 15 rfl rfl)
theorem dJ3_isEmpty_16 : decode cJ3_isEmpty 16 = .ok (.ireturn, 1) := dk_172 (dk_at dksJ3_isEmpty_0 16 rfl rfl)
abbrev cJ3_removeLast : ByteArray := prog_42_method_19_code
def yJ3_removeLast : MethodName := ⟨RJ3, "removeLast", "()Ljava/lang/Object;"⟩
def dkwJ3_removeLast_0 : List UInt8 := [42, 182, 0, 100, 76, 43, 199, 0, 11, 187, 0, 97, 89, 183, 0, 99, 191, 43, 176]
abbrev dktJ3_removeLast_0 : List UInt8 := dkwJ3_removeLast_0 ++ []
theorem dksJ3_removeLast_0 : cJ3_removeLast.data.toList.drop 0 = dktJ3_removeLast_0 := by decide +kernel
theorem dJ3_removeLast_0 : decode cJ3_removeLast 0 = .ok (.aload_n 0, 1) := dk_42 (dk_at dksJ3_removeLast_0 0 rfl rfl)
theorem dJ3_removeLast_1 : decode cJ3_removeLast 1 = .ok (.invokevirtual 100, 3) := dk_182 0 100 (dk_at dksJ3_removeLast_0 1 rfl rfl)
theorem dJ3_removeLast_4 : decode cJ3_removeLast 4 = .ok (.astore_n 1, 1) := dk_76 (dk_at dksJ3_removeLast_0 4 rfl rfl)
theorem dJ3_removeLast_5 : decode cJ3_removeLast 5 = .ok (.aload_n 1, 1) := dk_43 (dk_at dksJ3_removeLast_0 5 rfl rfl)
theorem dJ3_removeLast_6 : decode cJ3_removeLast 6 = .ok (.ifnonnull 11, 3) := dk_199 0 11 (dk_at dksJ3_removeLast_0 6 rfl rfl)
theorem dJ3_removeLast_9 : decode cJ3_removeLast 9 = .ok (.new 97, 3) := dk_187 0 97 (dk_at dksJ3_removeLast_0 9 rfl rfl)
theorem dJ3_removeLast_12 : decode cJ3_removeLast 12 = .ok (.dup, 1) := dk_89 (dk_at dksJ3_removeLast_0 12 rfl rfl)
theorem dJ3_removeLast_13 : decode cJ3_removeLast 13 = .ok (.invokespecial 99, 3) := dk_183 0 99 (dk_at dksJ3_removeLast_0 13 rfl rfl)
theorem dJ3_removeLast_16 : decode cJ3_removeLast 16 = .ok (.athrow, 1) := dk_191 (dk_at dksJ3_removeLast_0 16 rfl rfl)
theorem dJ3_removeLast_17 : decode cJ3_removeLast 17 = .ok (.aload_n 1, 1) := dk_43 (dk_at dksJ3_removeLast_0 17 rfl rfl)
theorem dJ3_removeLast_18 : decode cJ3_removeLast 18 = .ok (.areturn, 1) := dk_176 (dk_at dksJ3_removeLast_0 18 rfl rfl)
abbrev cJ3_pollLast : ByteArray := prog_42_method_21_code
def yJ3_pollLast : MethodName := ⟨RJ3, "pollLast", "()Ljava/lang/Object;"⟩
def dkwJ3_pollLast_1 : List UInt8 := [198, 0, 12, 43, 42, 28, 90, 181, 0, 20, 1, 83, 45, 176]
abbrev dktJ3_pollLast_1 : List UInt8 := dkwJ3_pollLast_1 ++ []
def dkwJ3_pollLast_0 : List UInt8 := [42, 180, 0, 3, 89, 76, 42, 180, 0, 20, 43, 190, 184, 0, 68, 89, 61, 184, 0, 103, 78, 45]
abbrev dktJ3_pollLast_0 : List UInt8 := dkwJ3_pollLast_0 ++ dktJ3_pollLast_1
theorem dksJ3_pollLast_0 : cJ3_pollLast.data.toList.drop 0 = dktJ3_pollLast_0 := by decide +kernel
theorem dksJ3_pollLast_1 : cJ3_pollLast.data.toList.drop 22 = dktJ3_pollLast_1 := dk_seg dksJ3_pollLast_0 22 rfl rfl
theorem dJ3_pollLast_0 : decode cJ3_pollLast 0 = .ok (.aload_n 0, 1) := dk_42 (dk_at dksJ3_pollLast_0 0 rfl rfl)
theorem dJ3_pollLast_1 : decode cJ3_pollLast 1 = .ok (.getfield 3, 3) := dk_180 0 3 (dk_at dksJ3_pollLast_0 1 rfl rfl)
theorem dJ3_pollLast_4 : decode cJ3_pollLast 4 = .ok (.dup, 1) := dk_89 (dk_at dksJ3_pollLast_0 4 rfl rfl)
theorem dJ3_pollLast_5 : decode cJ3_pollLast 5 = .ok (.astore_n 1, 1) := dk_76 (dk_at dksJ3_pollLast_0 5 rfl rfl)
theorem dJ3_pollLast_6 : decode cJ3_pollLast 6 = .ok (.aload_n 0, 1) := dk_42 (dk_at dksJ3_pollLast_0 6 rfl rfl)
theorem dJ3_pollLast_7 : decode cJ3_pollLast 7 = .ok (.getfield 20, 3) := dk_180 0 20 (dk_at dksJ3_pollLast_0 7 rfl rfl)
theorem dJ3_pollLast_10 : decode cJ3_pollLast 10 = .ok (.aload_n 1, 1) := dk_43 (dk_at dksJ3_pollLast_0 10 rfl rfl)
theorem dJ3_pollLast_11 : decode cJ3_pollLast 11 = .ok (.arraylength, 1) := dk_190 (dk_at dksJ3_pollLast_0 11 rfl rfl)
theorem dJ3_pollLast_12 : decode cJ3_pollLast 12 = .ok (.invokestatic 68, 3) := dk_184 0 68 (dk_at dksJ3_pollLast_0 12 rfl rfl)
theorem dJ3_pollLast_15 : decode cJ3_pollLast 15 = .ok (.dup, 1) := dk_89 (dk_at dksJ3_pollLast_0 15 rfl rfl)
theorem dJ3_pollLast_16 : decode cJ3_pollLast 16 = .ok (.istore_n 2, 1) := dk_61 (dk_at dksJ3_pollLast_0 16 rfl rfl)
theorem dJ3_pollLast_17 : decode cJ3_pollLast 17 = .ok (.invokestatic 103, 3) := dk_184 0 103 (dk_at dksJ3_pollLast_0 17 rfl rfl)
theorem dJ3_pollLast_20 : decode cJ3_pollLast 20 = .ok (.astore_n 3, 1) := dk_78 (dk_at dksJ3_pollLast_0 20 rfl rfl)
theorem dJ3_pollLast_21 : decode cJ3_pollLast 21 = .ok (.aload_n 3, 1) := dk_45 (dk_at dksJ3_pollLast_0 21 rfl rfl)
theorem dJ3_pollLast_22 : decode cJ3_pollLast 22 = .ok (.ifnull 12, 3) := dk_198 0 12 (dk_at dksJ3_pollLast_1 0 rfl rfl)
theorem dJ3_pollLast_25 : decode cJ3_pollLast 25 = .ok (.aload_n 1, 1) := dk_43 (dk_at dksJ3_pollLast_1 3 rfl rfl)
theorem dJ3_pollLast_26 : decode cJ3_pollLast 26 = .ok (.aload_n 0, 1) := dk_42 (dk_at dksJ3_pollLast_1 4 rfl rfl)
theorem dJ3_pollLast_27 : decode cJ3_pollLast 27 = .ok (.iload_n 2, 1) := dk_28 (dk_at dksJ3_pollLast_1 5 rfl rfl)
theorem dJ3_pollLast_28 : decode cJ3_pollLast 28 = .ok (.dup_x1, 1) := dk_90 (dk_at dksJ3_pollLast_1 6 rfl rfl)
theorem dJ3_pollLast_29 : decode cJ3_pollLast 29 = .ok (.putfield 20, 3) := dk_181 0 20 (dk_at dksJ3_pollLast_1 7 rfl rfl)
theorem dJ3_pollLast_32 : decode cJ3_pollLast 32 = .ok (.aconst_null, 1) := dk_1 (dk_at dksJ3_pollLast_1 10 rfl rfl)
theorem dJ3_pollLast_33 : decode cJ3_pollLast 33 = .ok (.aastore, 1) := dk_83 (dk_at dksJ3_pollLast_1 11 rfl rfl)
theorem dJ3_pollLast_34 : decode cJ3_pollLast 34 = .ok (.aload_n 3, 1) := dk_45 (dk_at dksJ3_pollLast_1 12 rfl rfl)
theorem dJ3_pollLast_35 : decode cJ3_pollLast 35 = .ok (.areturn, 1) := dk_176 (dk_at dksJ3_pollLast_1 13 rfl rfl)
abbrev cJ3_dec : ByteArray := prog_42_method_7_code
def yJ3_dec : MethodName := ⟨RJ3, "dec", "(II)I"⟩
def dkwJ3_dec_0 : List UInt8 := [132, 0, 255, 26, 156, 0, 7, 27, 4, 100, 59, 26, 172]
abbrev dktJ3_dec_0 : List UInt8 := dkwJ3_dec_0 ++ []
theorem dksJ3_dec_0 : cJ3_dec.data.toList.drop 0 = dktJ3_dec_0 := by decide +kernel
theorem dJ3_dec_0 : decode cJ3_dec 0 = .ok (.iinc 0 (-1), 3) := dk_132 0 255 (dk_at dksJ3_dec_0 0 rfl rfl)
theorem dJ3_dec_3 : decode cJ3_dec 3 = .ok (.iload_n 0, 1) := dk_26 (dk_at dksJ3_dec_0 3 rfl rfl)
theorem dJ3_dec_4 : decode cJ3_dec 4 = .ok (.ifCond .ge 7, 3) := dk_156 0 7 (dk_at dksJ3_dec_0 4 rfl rfl)
theorem dJ3_dec_7 : decode cJ3_dec 7 = .ok (.iload_n 1, 1) := dk_27 (dk_at dksJ3_dec_0 7 rfl rfl)
theorem dJ3_dec_8 : decode cJ3_dec 8 = .ok (.iconst 1, 1) := dk_4 (dk_at dksJ3_dec_0 8 rfl rfl)
theorem dJ3_dec_9 : decode cJ3_dec 9 = .ok (.isub, 1) := dk_100 (dk_at dksJ3_dec_0 9 rfl rfl)
theorem dJ3_dec_10 : decode cJ3_dec 10 = .ok (.istore_n 0, 1) := dk_59 (dk_at dksJ3_dec_0 10 rfl rfl)
theorem dJ3_dec_11 : decode cJ3_dec 11 = .ok (.iload_n 0, 1) := dk_26 (dk_at dksJ3_dec_0 11 rfl rfl)
theorem dJ3_dec_12 : decode cJ3_dec 12 = .ok (.ireturn, 1) := dk_172 (dk_at dksJ3_dec_0 12 rfl rfl)
theorem q66 : (Jvm.Cond.initialized "java/util/ArrayDeque") ∈ lw_all := lw_g (lw_at lw_m1 7 rfl) rfl
theorem q195 : (Jvm.Cond.instantiable "java/util/ArrayDeque" (3 : Nat)) ∈ lw_all := lw_g (lw_at lw_m1 136 rfl) rfl
theorem q197 : (Jvm.Cond.instanceMethod ({ cls := "java/util/ArrayDeque", name := "<init>", desc := "()V" } : Jvm.MethodName)) ∈ lw_all := lw_g (lw_at lw_m1 138 rfl) rfl
theorem q198 : (Jvm.Cond.code ({ cls := "java/util/ArrayDeque", name := "<init>", desc := "()V" } : Jvm.MethodName) prog_42_method_3_code (1 : Nat) (Option.none : Option Jvm.ClassFile.FieldType)) ∈ lw_all := lw_g (lw_at lw_m1 139 rfl) rfl
theorem q199 : (Jvm.Cond.methodLink "java/util/ArrayDeque" (42 : Nat) ({ cls := "java/util/AbstractCollection", name := "<init>", desc := "()V" } : Jvm.MethodName)) ∈ lw_all := lw_g (lw_at lw_m1 140 rfl) rfl
theorem q200 : (Jvm.Cond.classLink "java/util/ArrayDeque" (47 : Nat) "java/lang/Object") ∈ lw_all := lw_g (lw_at lw_m1 141 rfl) rfl
theorem q202 : (Jvm.Cond.fieldLink "java/util/ArrayDeque" (3 : Nat) "java/util/ArrayDeque" "elements" "[Ljava/lang/Object;") ∈ lw_all := lw_g (lw_at lw_m1 143 rfl) rfl
theorem q203 : (Jvm.Cond.fieldLink "java/util/ArrayDeque" (24 : Nat) "java/util/ArrayDeque" "head" "I") ∈ lw_all := lw_g (lw_at lw_m1 144 rfl) rfl
theorem q204 : (Jvm.Cond.fieldLink "java/util/ArrayDeque" (20 : Nat) "java/util/ArrayDeque" "tail" "I") ∈ lw_all := lw_g (lw_at lw_m1 145 rfl) rfl
theorem q205 : (Jvm.Cond.lays "java/util/ArrayDeque" "java/util/ArrayDeque" "elements" "[Ljava/lang/Object;") ∈ lw_all := lw_g (lw_at lw_m1 146 rfl) rfl
theorem q206 : (Jvm.Cond.soleField "java/util/ArrayDeque" "elements") ∈ lw_all := lw_g (lw_at lw_m1 147 rfl) rfl
theorem q207 : (Jvm.Cond.lays "java/util/ArrayDeque" "java/util/ArrayDeque" "head" "I") ∈ lw_all := lw_g (lw_at lw_m1 148 rfl) rfl
theorem q208 : (Jvm.Cond.soleField "java/util/ArrayDeque" "head") ∈ lw_all := lw_g (lw_at lw_m1 149 rfl) rfl
theorem q209 : (Jvm.Cond.lays "java/util/ArrayDeque" "java/util/ArrayDeque" "tail" "I") ∈ lw_all := lw_g (lw_at lw_m1 150 rfl) rfl
theorem q210 : (Jvm.Cond.soleField "java/util/ArrayDeque" "tail") ∈ lw_all := lw_g (lw_at lw_m1 151 rfl) rfl
theorem q211 : (Jvm.Cond.superclass "java/util/ArrayDeque" "java/util/AbstractCollection") ∈ lw_all := lw_g (lw_at lw_m1 152 rfl) rfl
theorem q423 : (Jvm.Cond.selects "java/util/ArrayDeque" ({ cls := "java/lang/Object", name := "getClass", desc := "()Ljava/lang/Class;" } : Jvm.MethodName) ({ cls := "java/lang/Object", name := "getClass", desc := "()Ljava/lang/Class;" } : Jvm.MethodName)) ∈ lw_all := lw_g (lw_at lw_m2 124 rfl) rfl
theorem q493 : (Jvm.Cond.instanceMethod ({ cls := "java/util/ArrayDeque", name := "size", desc := "()I" } : Jvm.MethodName)) ∈ lw_all := lw_g (lw_at lw_m2 194 rfl) rfl
theorem q494 : (Jvm.Cond.selects "java/util/ArrayDeque" ({ cls := "java/util/ArrayDeque", name := "size", desc := "()I" } : Jvm.MethodName) ({ cls := "java/util/ArrayDeque", name := "size", desc := "()I" } : Jvm.MethodName)) ∈ lw_all := lw_g (lw_at lw_m2 195 rfl) rfl
theorem q495 : (Jvm.Cond.code ({ cls := "java/util/ArrayDeque", name := "size", desc := "()I" } : Jvm.MethodName) prog_42_method_37_code (1 : Nat) (Option.some Jvm.ClassFile.FieldType.int)) ∈ lw_all := lw_g (lw_at lw_m2 196 rfl) rfl
theorem q496 : (Jvm.Cond.methodLink "java/util/ArrayDeque" (127 : Nat) ({ cls := "java/util/ArrayDeque", name := "sub", desc := "(III)I" } : Jvm.MethodName)) ∈ lw_all := lw_g (lw_at lw_m2 197 rfl) rfl
theorem q497 : (Jvm.Cond.static ({ cls := "java/util/ArrayDeque", name := "sub", desc := "(III)I" } : Jvm.MethodName)) ∈ lw_all := lw_g (lw_at lw_m2 198 rfl) rfl
theorem q498 : (Jvm.Cond.code ({ cls := "java/util/ArrayDeque", name := "sub", desc := "(III)I" } : Jvm.MethodName) prog_42_method_9_code (3 : Nat) (Option.some Jvm.ClassFile.FieldType.int)) ∈ lw_all := lw_g (lw_at lw_m2 199 rfl) rfl
theorem q500 : (Jvm.Cond.instanceMethod ({ cls := "java/util/ArrayDeque", name := "removeFirst", desc := "()Ljava/lang/Object;" } : Jvm.MethodName)) ∈ lw_all := lw_g (lw_at lw_m2 201 rfl) rfl
theorem q501 : (Jvm.Cond.selects "java/util/ArrayDeque" ({ cls := "java/util/ArrayDeque", name := "removeFirst", desc := "()Ljava/lang/Object;" } : Jvm.MethodName) ({ cls := "java/util/ArrayDeque", name := "removeFirst", desc := "()Ljava/lang/Object;" } : Jvm.MethodName)) ∈ lw_all := lw_g (lw_at lw_m2 202 rfl) rfl
theorem q502 : (Jvm.Cond.code ({ cls := "java/util/ArrayDeque", name := "removeFirst", desc := "()Ljava/lang/Object;" } : Jvm.MethodName) prog_42_method_18_code (2 : Nat) (Option.some (Jvm.ClassFile.FieldType.object "java/lang/Object"))) ∈ lw_all := lw_g (lw_at lw_m2 203 rfl) rfl
theorem q503 : (Jvm.Cond.methodLink "java/util/ArrayDeque" (93 : Nat) ({ cls := "java/util/ArrayDeque", name := "pollFirst", desc := "()Ljava/lang/Object;" } : Jvm.MethodName)) ∈ lw_all := lw_g (lw_at lw_m2 204 rfl) rfl
theorem q504 : (Jvm.Cond.instanceMethod ({ cls := "java/util/ArrayDeque", name := "pollFirst", desc := "()Ljava/lang/Object;" } : Jvm.MethodName)) ∈ lw_all := lw_g (lw_at lw_m2 205 rfl) rfl
theorem q505 : (Jvm.Cond.selects "java/util/ArrayDeque" ({ cls := "java/util/ArrayDeque", name := "pollFirst", desc := "()Ljava/lang/Object;" } : Jvm.MethodName) ({ cls := "java/util/ArrayDeque", name := "pollFirst", desc := "()Ljava/lang/Object;" } : Jvm.MethodName)) ∈ lw_all := lw_g (lw_at lw_m2 206 rfl) rfl
theorem q506 : (Jvm.Cond.code ({ cls := "java/util/ArrayDeque", name := "pollFirst", desc := "()Ljava/lang/Object;" } : Jvm.MethodName) prog_42_method_20_code (4 : Nat) (Option.some (Jvm.ClassFile.FieldType.object "java/lang/Object"))) ∈ lw_all := lw_g (lw_at lw_m2 207 rfl) rfl
theorem q507 : (Jvm.Cond.methodLink "java/util/ArrayDeque" (103 : Nat) ({ cls := "java/util/ArrayDeque", name := "elementAt", desc := "([Ljava/lang/Object;I)Ljava/lang/Object;" } : Jvm.MethodName)) ∈ lw_all := lw_g (lw_at lw_m2 208 rfl) rfl
theorem q508 : (Jvm.Cond.static ({ cls := "java/util/ArrayDeque", name := "elementAt", desc := "([Ljava/lang/Object;I)Ljava/lang/Object;" } : Jvm.MethodName)) ∈ lw_all := lw_g (lw_at lw_m2 209 rfl) rfl
theorem q509 : (Jvm.Cond.code ({ cls := "java/util/ArrayDeque", name := "elementAt", desc := "([Ljava/lang/Object;I)Ljava/lang/Object;" } : Jvm.MethodName) prog_42_method_10_code (2 : Nat) (Option.some (Jvm.ClassFile.FieldType.object "java/lang/Object"))) ∈ lw_all := lw_g (lw_at lw_m2 210 rfl) rfl
theorem q510 : (Jvm.Cond.methodLink "java/util/ArrayDeque" (74 : Nat) ({ cls := "java/util/ArrayDeque", name := "inc", desc := "(II)I" } : Jvm.MethodName)) ∈ lw_all := lw_g (lw_at lw_m2 211 rfl) rfl
theorem q511 : (Jvm.Cond.static ({ cls := "java/util/ArrayDeque", name := "inc", desc := "(II)I" } : Jvm.MethodName)) ∈ lw_all := lw_g (lw_at lw_m2 212 rfl) rfl
theorem q512 : (Jvm.Cond.code ({ cls := "java/util/ArrayDeque", name := "inc", desc := "(II)I" } : Jvm.MethodName) prog_42_method_6_code (2 : Nat) (Option.some Jvm.ClassFile.FieldType.int)) ∈ lw_all := lw_g (lw_at lw_m2 213 rfl) rfl
theorem q514 : (Jvm.Cond.instanceMethod ({ cls := "java/util/ArrayDeque", name := "addLast", desc := "(Ljava/lang/Object;)V" } : Jvm.MethodName)) ∈ lw_all := lw_g (lw_at lw_m2 215 rfl) rfl
theorem q515 : (Jvm.Cond.selects "java/util/ArrayDeque" ({ cls := "java/util/ArrayDeque", name := "addLast", desc := "(Ljava/lang/Object;)V" } : Jvm.MethodName) ({ cls := "java/util/ArrayDeque", name := "addLast", desc := "(Ljava/lang/Object;)V" } : Jvm.MethodName)) ∈ lw_all := lw_g (lw_at lw_m2 216 rfl) rfl
theorem q516 : (Jvm.Cond.code ({ cls := "java/util/ArrayDeque", name := "addLast", desc := "(Ljava/lang/Object;)V" } : Jvm.MethodName) prog_42_method_13_code (3 : Nat) (Option.none : Option Jvm.ClassFile.FieldType)) ∈ lw_all := lw_g (lw_at lw_m2 217 rfl) rfl
theorem q517 : (Jvm.Cond.methodLink "java/util/ArrayDeque" (71 : Nat) ({ cls := "java/util/ArrayDeque", name := "grow", desc := "(I)V" } : Jvm.MethodName)) ∈ lw_all := lw_g (lw_at lw_m2 218 rfl) rfl
theorem q518 : (Jvm.Cond.privateMethod ({ cls := "java/util/ArrayDeque", name := "grow", desc := "(I)V" } : Jvm.MethodName)) ∈ lw_tbl := lw_at lw_m2 219 rfl
theorem q519 : (Jvm.Cond.instanceMethod ({ cls := "java/util/ArrayDeque", name := "grow", desc := "(I)V" } : Jvm.MethodName)) ∈ lw_all := lw_g (lw_at lw_m2 220 rfl) rfl
theorem q520 : (Jvm.Cond.code ({ cls := "java/util/ArrayDeque", name := "grow", desc := "(I)V" } : Jvm.MethodName) prog_42_method_1_code (9 : Nat) (Option.none : Option Jvm.ClassFile.FieldType)) ∈ lw_all := lw_g (lw_at lw_m2 221 rfl) rfl
theorem q521 : (Jvm.Cond.constant "java/util/ArrayDeque" (9 : Nat) (2147483639 : Int32)) ∈ lw_all := lw_g (lw_at lw_m2 222 rfl) rfl
theorem q522 : (Jvm.Cond.methodLink "java/util/ArrayDeque" (10 : Nat) ({ cls := "java/util/ArrayDeque", name := "newCapacity", desc := "(II)I" } : Jvm.MethodName)) ∈ lw_all := lw_g (lw_at lw_m2 223 rfl) rfl
theorem q523 : (Jvm.Cond.privateMethod ({ cls := "java/util/ArrayDeque", name := "newCapacity", desc := "(II)I" } : Jvm.MethodName)) ∈ lw_tbl := lw_at lw_m2 224 rfl
theorem q524 : (Jvm.Cond.instanceMethod ({ cls := "java/util/ArrayDeque", name := "newCapacity", desc := "(II)I" } : Jvm.MethodName)) ∈ lw_all := lw_g (lw_at lw_m2 225 rfl) rfl
theorem q525 : (Jvm.Cond.code ({ cls := "java/util/ArrayDeque", name := "newCapacity", desc := "(II)I" } : Jvm.MethodName) prog_42_method_2_code (5 : Nat) (Option.some Jvm.ClassFile.FieldType.int)) ∈ lw_all := lw_g (lw_at lw_m2 226 rfl) rfl
theorem q526 : (Jvm.Cond.constant "java/util/ArrayDeque" (41 : Nat) (2147483647 : Int32)) ∈ lw_all := lw_g (lw_at lw_m2 227 rfl) rfl
theorem q527 : (Jvm.Cond.methodLink "java/util/ArrayDeque" (14 : Nat) ({ cls := "java/util/Arrays", name := "copyOf", desc := "([Ljava/lang/Object;I)[Ljava/lang/Object;" } : Jvm.MethodName)) ∈ lw_all := lw_g (lw_at lw_m2 228 rfl) rfl
theorem q528 : (Jvm.Cond.methodLink "java/util/ArrayDeque" (27 : Nat) ({ cls := "java/lang/System", name := "arraycopy", desc := "(Ljava/lang/Object;ILjava/lang/Object;II)V" } : Jvm.MethodName)) ∈ lw_all := lw_g (lw_at lw_m2 229 rfl) rfl
theorem q878 : (Jvm.Cond.instanceMethod ({ cls := "java/util/ArrayDeque", name := "isEmpty", desc := "()Z" } : Jvm.MethodName)) ∈ lw_all := lw_g (lw_at lw_m4 99 rfl) rfl
theorem q879 : (Jvm.Cond.selects "java/util/ArrayDeque" ({ cls := "java/util/ArrayDeque", name := "isEmpty", desc := "()Z" } : Jvm.MethodName) ({ cls := "java/util/ArrayDeque", name := "isEmpty", desc := "()Z" } : Jvm.MethodName)) ∈ lw_all := lw_g (lw_at lw_m4 100 rfl) rfl
theorem q880 : (Jvm.Cond.code ({ cls := "java/util/ArrayDeque", name := "isEmpty", desc := "()Z" } : Jvm.MethodName) prog_42_method_38_code (1 : Nat) (Option.some Jvm.ClassFile.FieldType.boolean)) ∈ lw_all := lw_g (lw_at lw_m4 101 rfl) rfl
theorem q882 : (Jvm.Cond.instanceMethod ({ cls := "java/util/ArrayDeque", name := "removeLast", desc := "()Ljava/lang/Object;" } : Jvm.MethodName)) ∈ lw_all := lw_g (lw_at lw_m4 103 rfl) rfl
theorem q883 : (Jvm.Cond.selects "java/util/ArrayDeque" ({ cls := "java/util/ArrayDeque", name := "removeLast", desc := "()Ljava/lang/Object;" } : Jvm.MethodName) ({ cls := "java/util/ArrayDeque", name := "removeLast", desc := "()Ljava/lang/Object;" } : Jvm.MethodName)) ∈ lw_all := lw_g (lw_at lw_m4 104 rfl) rfl
theorem q884 : (Jvm.Cond.code ({ cls := "java/util/ArrayDeque", name := "removeLast", desc := "()Ljava/lang/Object;" } : Jvm.MethodName) prog_42_method_19_code (2 : Nat) (Option.some (Jvm.ClassFile.FieldType.object "java/lang/Object"))) ∈ lw_all := lw_g (lw_at lw_m4 105 rfl) rfl
theorem q885 : (Jvm.Cond.methodLink "java/util/ArrayDeque" (100 : Nat) ({ cls := "java/util/ArrayDeque", name := "pollLast", desc := "()Ljava/lang/Object;" } : Jvm.MethodName)) ∈ lw_all := lw_g (lw_at lw_m4 106 rfl) rfl
theorem q886 : (Jvm.Cond.instanceMethod ({ cls := "java/util/ArrayDeque", name := "pollLast", desc := "()Ljava/lang/Object;" } : Jvm.MethodName)) ∈ lw_all := lw_g (lw_at lw_m4 107 rfl) rfl
theorem q887 : (Jvm.Cond.selects "java/util/ArrayDeque" ({ cls := "java/util/ArrayDeque", name := "pollLast", desc := "()Ljava/lang/Object;" } : Jvm.MethodName) ({ cls := "java/util/ArrayDeque", name := "pollLast", desc := "()Ljava/lang/Object;" } : Jvm.MethodName)) ∈ lw_all := lw_g (lw_at lw_m4 108 rfl) rfl
theorem q888 : (Jvm.Cond.code ({ cls := "java/util/ArrayDeque", name := "pollLast", desc := "()Ljava/lang/Object;" } : Jvm.MethodName) prog_42_method_21_code (4 : Nat) (Option.some (Jvm.ClassFile.FieldType.object "java/lang/Object"))) ∈ lw_all := lw_g (lw_at lw_m4 109 rfl) rfl
theorem q889 : (Jvm.Cond.methodLink "java/util/ArrayDeque" (68 : Nat) ({ cls := "java/util/ArrayDeque", name := "dec", desc := "(II)I" } : Jvm.MethodName)) ∈ lw_all := lw_g (lw_at lw_m4 110 rfl) rfl
theorem q890 : (Jvm.Cond.static ({ cls := "java/util/ArrayDeque", name := "dec", desc := "(II)I" } : Jvm.MethodName)) ∈ lw_all := lw_g (lw_at lw_m4 111 rfl) rfl
theorem q891 : (Jvm.Cond.code ({ cls := "java/util/ArrayDeque", name := "dec", desc := "(II)I" } : Jvm.MethodName) prog_42_method_7_code (2 : Nat) (Option.some Jvm.ClassFile.FieldType.int)) ∈ lw_all := lw_g (lw_at lw_m4 112 rfl) rfl
theorem q1946 : (Jvm.Cond.castable "java/util/ArrayDeque" "java/lang/Object") ∈ lw_tbl := lw_at lw_m8 207 rfl
theorem in_J3 : ∀ w ∈ wsJ30, w ∈ lw_all := lw_in wsJ30 [205, 207, 209] (by decide +kernel) (by decide +kernel)

/-! java/lang/AbstractStringBuilder -/
set_option maxRecDepth 100000
def RJ4 : String := "java/lang/AbstractStringBuilder"
abbrev cJ4_init : ByteArray := prog_23_method_2_code
def yJ4_init : MethodName := ⟨RJ4, "<init>", "(I)V"⟩
def dkwJ4_init_1 : List UInt8 := [167, 0, 16, 42, 27, 184, 0, 26, 181, 0, 15, 42, 4, 181, 0, 22, 177]
abbrev dktJ4_init_1 : List UInt8 := dkwJ4_init_1 ++ []
def dkwJ4_init_0 : List UInt8 := [42, 183, 0, 3, 178, 0, 18, 153, 0, 18, 42, 27, 188, 8, 181, 0, 15, 42, 3, 181, 0, 22]
abbrev dktJ4_init_0 : List UInt8 := dkwJ4_init_0 ++ dktJ4_init_1
theorem dksJ4_init_0 : cJ4_init.data.toList.drop 0 = dktJ4_init_0 := by decide +kernel
theorem dksJ4_init_1 : cJ4_init.data.toList.drop 22 = dktJ4_init_1 := dk_seg dksJ4_init_0 22 rfl rfl
theorem dJ4_init_0 : decode cJ4_init 0 = .ok (.aload_n 0, 1) := dk_42 (dk_at dksJ4_init_0 0 rfl rfl)
theorem dJ4_init_1 : decode cJ4_init 1 = .ok (.invokespecial 3, 3) := dk_183 0 3 (dk_at dksJ4_init_0 1 rfl rfl)
theorem dJ4_init_4 : decode cJ4_init 4 = .ok (.getstatic 18, 3) := dk_178 0 18 (dk_at dksJ4_init_0 4 rfl rfl)
theorem dJ4_init_7 : decode cJ4_init 7 = .ok (.ifCond .eq 18, 3) := dk_153 0 18 (dk_at dksJ4_init_0 7 rfl rfl)
theorem dJ4_init_10 : decode cJ4_init 10 = .ok (.aload_n 0, 1) := dk_42 (dk_at dksJ4_init_0 10 rfl rfl)
theorem dJ4_init_11 : decode cJ4_init 11 = .ok (.iload_n 1, 1) := dk_27 (dk_at dksJ4_init_0 11 rfl rfl)
theorem dJ4_init_12 : decode cJ4_init 12 = .ok (.newarray .byte, 2) := dk_188_8 (dk_at dksJ4_init_0 12 rfl rfl)
theorem dJ4_init_14 : decode cJ4_init 14 = .ok (.putfield 15, 3) := dk_181 0 15 (dk_at dksJ4_init_0 14 rfl rfl)
theorem dJ4_init_17 : decode cJ4_init 17 = .ok (.aload_n 0, 1) := dk_42 (dk_at dksJ4_init_0 17 rfl rfl)
theorem dJ4_init_18 : decode cJ4_init 18 = .ok (.iconst 0, 1) := dk_3 (dk_at dksJ4_init_0 18 rfl rfl)
theorem dJ4_init_19 : decode cJ4_init 19 = .ok (.putfield 22, 3) := dk_181 0 22 (dk_at dksJ4_init_0 19 rfl rfl)
theorem dJ4_init_22 : decode cJ4_init 22 = .ok (.goto 16, 3) := dk_167 0 16 (dk_at dksJ4_init_1 0 rfl rfl)
theorem dJ4_init_25 : decode cJ4_init 25 = .ok (.aload_n 0, 1) := dk_42 (dk_at dksJ4_init_1 3 rfl rfl)
theorem dJ4_init_26 : decode cJ4_init 26 = .ok (.iload_n 1, 1) := dk_27 (dk_at dksJ4_init_1 4 rfl rfl)
theorem dJ4_init_27 : decode cJ4_init 27 = .ok (.invokestatic 26, 3) := dk_184 0 26 (dk_at dksJ4_init_1 5 rfl rfl)
theorem dJ4_init_30 : decode cJ4_init 30 = .ok (.putfield 15, 3) := dk_181 0 15 (dk_at dksJ4_init_1 8 rfl rfl)
theorem dJ4_init_33 : decode cJ4_init 33 = .ok (.aload_n 0, 1) := dk_42 (dk_at dksJ4_init_1 11 rfl rfl)
theorem dJ4_init_34 : decode cJ4_init 34 = .ok (.iconst 1, 1) := dk_4 (dk_at dksJ4_init_1 12 rfl rfl)
theorem dJ4_init_35 : decode cJ4_init 35 = .ok (.putfield 22, 3) := dk_181 0 22 (dk_at dksJ4_init_1 13 rfl rfl)
theorem dJ4_init_38 : decode cJ4_init 38 = .ok (.return_, 1) := dk_177 (dk_at dksJ4_init_1 16 rfl rfl)
abbrev cJ4_length : ByteArray := prog_23_method_6_code
def yJ4_length : MethodName := ⟨RJ4, "length", "()I"⟩
theorem dJ4_length_0 : decode cJ4_length 0 = .ok (.aload_n 0, 1) := by decide +kernel
theorem dJ4_length_1 : decode cJ4_length 1 = .ok (.getfield 79, 3) := by decide +kernel
theorem dJ4_length_4 : decode cJ4_length 4 = .ok (.ireturn, 1) := by decide +kernel
abbrev cJ4_append : ByteArray := prog_23_method_31_code
def yJ4_append : MethodName := ⟨RJ4, "append", "(C)Ljava/lang/AbstractStringBuilder;"⟩
def dkwJ4_append_3 : List UInt8 := [181, 0, 79, 27, 184, 0, 197, 42, 176]
abbrev dktJ4_append_3 : List UInt8 := dkwJ4_append_3 ++ []
def dkwJ4_append_2 : List UInt8 := [182, 0, 83, 153, 0, 7, 42, 182, 0, 195, 42, 180, 0, 15, 42, 89, 180, 0, 79, 90, 4, 96]
abbrev dktJ4_append_2 : List UInt8 := dkwJ4_append_2 ++ dktJ4_append_3
def dkwJ4_append_1 : List UInt8 := [42, 180, 0, 15, 42, 89, 180, 0, 79, 90, 4, 96, 181, 0, 79, 27, 145, 84, 167, 0, 33, 42]
abbrev dktJ4_append_1 : List UInt8 := dkwJ4_append_1 ++ dktJ4_append_2
def dkwJ4_append_0 : List UInt8 := [42, 42, 180, 0, 79, 4, 96, 182, 0, 100, 42, 182, 0, 83, 153, 0, 31, 27, 184, 0, 191, 153, 0, 24]
abbrev dktJ4_append_0 : List UInt8 := dkwJ4_append_0 ++ dktJ4_append_1
theorem dksJ4_append_0 : cJ4_append.data.toList.drop 0 = dktJ4_append_0 := by decide +kernel
theorem dksJ4_append_1 : cJ4_append.data.toList.drop 24 = dktJ4_append_1 := dk_seg dksJ4_append_0 24 rfl rfl
theorem dksJ4_append_2 : cJ4_append.data.toList.drop 46 = dktJ4_append_2 := dk_seg dksJ4_append_1 22 rfl rfl
theorem dksJ4_append_3 : cJ4_append.data.toList.drop 68 = dktJ4_append_3 := dk_seg dksJ4_append_2 22 rfl rfl
theorem dJ4_append_0 : decode cJ4_append 0 = .ok (.aload_n 0, 1) := dk_42 (dk_at dksJ4_append_0 0 rfl rfl)
theorem dJ4_append_1 : decode cJ4_append 1 = .ok (.aload_n 0, 1) := dk_42 (dk_at dksJ4_append_0 1 rfl rfl)
theorem dJ4_append_2 : decode cJ4_append 2 = .ok (.getfield 79, 3) := dk_180 0 79 (dk_at dksJ4_append_0 2 rfl rfl)
theorem dJ4_append_5 : decode cJ4_append 5 = .ok (.iconst 1, 1) := dk_4 (dk_at dksJ4_append_0 5 rfl rfl)
theorem dJ4_append_6 : decode cJ4_append 6 = .ok (.iadd, 1) := dk_96 (dk_at dksJ4_append_0 6 rfl rfl)
theorem dJ4_append_7 : decode cJ4_append 7 = .ok (.invokevirtual 100, 3) := dk_182 0 100 (dk_at dksJ4_append_0 7 rfl rfl)
theorem dJ4_append_10 : decode cJ4_append 10 = .ok (.aload_n 0, 1) := dk_42 (dk_at dksJ4_append_0 10 rfl rfl)
theorem dJ4_append_11 : decode cJ4_append 11 = .ok (.invokevirtual 83, 3) := dk_182 0 83 (dk_at dksJ4_append_0 11 rfl rfl)
theorem dJ4_append_14 : decode cJ4_append 14 = .ok (.ifCond .eq 31, 3) := dk_153 0 31 (dk_at dksJ4_append_0 14 rfl rfl)
theorem dJ4_append_17 : decode cJ4_append 17 = .ok (.iload_n 1, 1) := dk_27 (dk_at dksJ4_append_0 17 rfl rfl)
theorem dJ4_append_18 : decode cJ4_append 18 = .ok (.invokestatic 191, 3) := dk_184 0 191 (dk_at dksJ4_append_0 18 rfl rfl)
theorem dJ4_append_21 : decode cJ4_append 21 = .ok (.ifCond .eq 24, 3) := dk_153 0 24 (dk_at dksJ4_append_0 21 rfl rfl)
theorem dJ4_append_24 : decode cJ4_append 24 = .ok (.aload_n 0, 1) := dk_42 (dk_at dksJ4_append_1 0 rfl rfl)
theorem dJ4_append_25 : decode cJ4_append 25 = .ok (.getfield 15, 3) := dk_180 0 15 (dk_at dksJ4_append_1 1 rfl rfl)
theorem dJ4_append_28 : decode cJ4_append 28 = .ok (.aload_n 0, 1) := dk_42 (dk_at dksJ4_append_1 4 rfl rfl)
theorem dJ4_append_29 : decode cJ4_append 29 = .ok (.dup, 1) := dk_89 (dk_at dksJ4_append_1 5 rfl rfl)
theorem dJ4_append_30 : decode cJ4_append 30 = .ok (.getfield 79, 3) := dk_180 0 79 (dk_at dksJ4_append_1 6 rfl rfl)
theorem dJ4_append_33 : decode cJ4_append 33 = .ok (.dup_x1, 1) := dk_90 (dk_at dksJ4_append_1 9 rfl rfl)
theorem dJ4_append_34 : decode cJ4_append 34 = .ok (.iconst 1, 1) := dk_4 (dk_at dksJ4_append_1 10 rfl rfl)
theorem dJ4_append_35 : decode cJ4_append 35 = .ok (.iadd, 1) := dk_96 (dk_at dksJ4_append_1 11 rfl rfl)
theorem dJ4_append_36 : decode cJ4_append 36 = .ok (.putfield 79, 3) := dk_181 0 79 (dk_at dksJ4_append_1 12 rfl rfl)
theorem dJ4_append_39 : decode cJ4_append 39 = .ok (.iload_n 1, 1) := dk_27 (dk_at dksJ4_append_1 15 rfl rfl)
theorem dJ4_append_40 : decode cJ4_append 40 = .ok (.i2b, 1) := dk_145 (dk_at dksJ4_append_1 16 rfl rfl)
theorem dJ4_append_41 : decode cJ4_append 41 = .ok (.bastore, 1) := dk_84 (dk_at dksJ4_append_1 17 rfl rfl)
theorem dJ4_append_42 : decode cJ4_append 42 = .ok (.goto 33, 3) := dk_167 0 33 (dk_at dksJ4_append_1 18 rfl rfl)
theorem dJ4_append_45 : decode cJ4_append 45 = .ok (.aload_n 0, 1) := dk_42 (dk_at dksJ4_append_1 21 rfl rfl)
theorem dJ4_append_46 : decode cJ4_append 46 = .ok (.invokevirtual 83, 3) := dk_182 0 83 (dk_at dksJ4_append_2 0 rfl rfl)
theorem dJ4_append_49 : decode cJ4_append 49 = .ok (.ifCond .eq 7, 3) := dk_153 0 7 (dk_at dksJ4_append_2 3 rfl rfl)
theorem dJ4_append_52 : decode cJ4_append 52 = .ok (.aload_n 0, 1) := dk_42 (dk_at dksJ4_append_2 6 rfl rfl)
theorem dJ4_append_53 : decode cJ4_append 53 = .ok (.invokevirtual 195, 3) := dk_182 0 195 (dk_at dksJ4_append_2 7 rfl rfl)
theorem dJ4_append_56 : decode cJ4_append 56 = .ok (.aload_n 0, 1) := dk_42 (dk_at dksJ4_append_2 10 rfl rfl)
theorem dJ4_append_57 : decode cJ4_append 57 = .ok (.getfield 15, 3) := dk_180 0 15 (dk_at dksJ4_append_2 11 rfl rfl)
theorem dJ4_append_60 : decode cJ4_append 60 = .ok (.aload_n 0, 1) := dk_42 (dk_at dksJ4_append_2 14 rfl rfl)
theorem dJ4_append_61 : decode cJ4_append 61 = .ok (.dup, 1) := dk_89 (dk_at dksJ4_append_2 15 rfl rfl)
theorem dJ4_append_62 : decode cJ4_append 62 = .ok (.getfield 79, 3) := dk_180 0 79 (dk_at dksJ4_append_2 16 rfl rfl)
theorem dJ4_append_65 : decode cJ4_append 65 = .ok (.dup_x1, 1) := dk_90 (dk_at dksJ4_append_2 19 rfl rfl)
theorem dJ4_append_66 : decode cJ4_append 66 = .ok (.iconst 1, 1) := dk_4 (dk_at dksJ4_append_2 20 rfl rfl)
theorem dJ4_append_67 : decode cJ4_append 67 = .ok (.iadd, 1) := dk_96 (dk_at dksJ4_append_2 21 rfl rfl)
theorem dJ4_append_68 : decode cJ4_append 68 = .ok (.putfield 79, 3) := dk_181 0 79 (dk_at dksJ4_append_3 0 rfl rfl)
theorem dJ4_append_71 : decode cJ4_append 71 = .ok (.iload_n 1, 1) := dk_27 (dk_at dksJ4_append_3 3 rfl rfl)
theorem dJ4_append_72 : decode cJ4_append 72 = .ok (.invokestatic 197, 3) := dk_184 0 197 (dk_at dksJ4_append_3 4 rfl rfl)
theorem dJ4_append_75 : decode cJ4_append 75 = .ok (.aload_n 0, 1) := dk_42 (dk_at dksJ4_append_3 7 rfl rfl)
theorem dJ4_append_76 : decode cJ4_append 76 = .ok (.areturn, 1) := dk_176 (dk_at dksJ4_append_3 8 rfl rfl)
abbrev cJ4_ensureCapacityInternal : ByteArray := prog_23_method_9_code
def yJ4_ensureCapacityInternal : MethodName := ⟨RJ4, "ensureCapacityInternal", "(I)V"⟩
def dkwJ4_ensureCapacityInternal_1 : List UInt8 := [182, 0, 104, 42, 180, 0, 22, 120, 184, 0, 108, 181, 0, 15, 177]
abbrev dktJ4_ensureCapacityInternal_1 : List UInt8 := dkwJ4_ensureCapacityInternal_1 ++ []
def dkwJ4_ensureCapacityInternal_0 : List UInt8 := [42, 180, 0, 15, 190, 42, 180, 0, 22, 122, 61, 27, 28, 100, 158, 0, 24, 42, 42, 180, 0, 15, 42, 27]
abbrev dktJ4_ensureCapacityInternal_0 : List UInt8 := dkwJ4_ensureCapacityInternal_0 ++ dktJ4_ensureCapacityInternal_1
theorem dksJ4_ensureCapacityInternal_0 : cJ4_ensureCapacityInternal.data.toList.drop 0 = dktJ4_ensureCapacityInternal_0 := by decide +kernel
theorem dksJ4_ensureCapacityInternal_1 : cJ4_ensureCapacityInternal.data.toList.drop 24 = dktJ4_ensureCapacityInternal_1 := dk_seg dksJ4_ensureCapacityInternal_0 24 rfl rfl
theorem dJ4_ensureCapacityInternal_0 : decode cJ4_ensureCapacityInternal 0 = .ok (.aload_n 0, 1) := dk_42 (dk_at dksJ4_ensureCapacityInternal_0 0 rfl rfl)
theorem dJ4_ensureCapacityInternal_1 : decode cJ4_ensureCapacityInternal 1 = .ok (.getfield 15, 3) := dk_180 0 15 (dk_at dksJ4_ensureCapacityInternal_0 1 rfl rfl)
theorem dJ4_ensureCapacityInternal_4 : decode cJ4_ensureCapacityInternal 4 = .ok (.arraylength, 1) := dk_190 (dk_at dksJ4_ensureCapacityInternal_0 4 rfl rfl)
theorem dJ4_ensureCapacityInternal_5 : decode cJ4_ensureCapacityInternal 5 = .ok (.aload_n 0, 1) := dk_42 (dk_at dksJ4_ensureCapacityInternal_0 5 rfl rfl)
theorem dJ4_ensureCapacityInternal_6 : decode cJ4_ensureCapacityInternal 6 = .ok (.getfield 22, 3) := dk_180 0 22 (dk_at dksJ4_ensureCapacityInternal_0 6 rfl rfl)
theorem dJ4_ensureCapacityInternal_9 : decode cJ4_ensureCapacityInternal 9 = .ok (.ishr, 1) := dk_122 (dk_at dksJ4_ensureCapacityInternal_0 9 rfl rfl)
theorem dJ4_ensureCapacityInternal_10 : decode cJ4_ensureCapacityInternal 10 = .ok (.istore_n 2, 1) := dk_61 (dk_at dksJ4_ensureCapacityInternal_0 10 rfl rfl)
theorem dJ4_ensureCapacityInternal_11 : decode cJ4_ensureCapacityInternal 11 = .ok (.iload_n 1, 1) := dk_27 (dk_at dksJ4_ensureCapacityInternal_0 11 rfl rfl)
theorem dJ4_ensureCapacityInternal_12 : decode cJ4_ensureCapacityInternal 12 = .ok (.iload_n 2, 1) := dk_28 (dk_at dksJ4_ensureCapacityInternal_0 12 rfl rfl)
theorem dJ4_ensureCapacityInternal_13 : decode cJ4_ensureCapacityInternal 13 = .ok (.isub, 1) := dk_100 (dk_at dksJ4_ensureCapacityInternal_0 13 rfl rfl)
theorem dJ4_ensureCapacityInternal_14 : decode cJ4_ensureCapacityInternal 14 = .ok (.ifCond .le 24, 3) := dk_158 0 24 (dk_at dksJ4_ensureCapacityInternal_0 14 rfl rfl)
theorem dJ4_ensureCapacityInternal_17 : decode cJ4_ensureCapacityInternal 17 = .ok (.aload_n 0, 1) := dk_42 (dk_at dksJ4_ensureCapacityInternal_0 17 rfl rfl)
theorem dJ4_ensureCapacityInternal_18 : decode cJ4_ensureCapacityInternal 18 = .ok (.aload_n 0, 1) := dk_42 (dk_at dksJ4_ensureCapacityInternal_0 18 rfl rfl)
theorem dJ4_ensureCapacityInternal_19 : decode cJ4_ensureCapacityInternal 19 = .ok (.getfield 15, 3) := dk_180 0 15 (dk_at dksJ4_ensureCapacityInternal_0 19 rfl rfl)
theorem dJ4_ensureCapacityInternal_22 : decode cJ4_ensureCapacityInternal 22 = .ok (.aload_n 0, 1) := dk_42 (dk_at dksJ4_ensureCapacityInternal_0 22 rfl rfl)
theorem dJ4_ensureCapacityInternal_23 : decode cJ4_ensureCapacityInternal 23 = .ok (.iload_n 1, 1) := dk_27 (dk_at dksJ4_ensureCapacityInternal_0 23 rfl rfl)
theorem dJ4_ensureCapacityInternal_24 : decode cJ4_ensureCapacityInternal 24 = .ok (.invokevirtual 104, 3) := dk_182 0 104 (dk_at dksJ4_ensureCapacityInternal_1 0 rfl rfl)
theorem dJ4_ensureCapacityInternal_27 : decode cJ4_ensureCapacityInternal 27 = .ok (.aload_n 0, 1) := dk_42 (dk_at dksJ4_ensureCapacityInternal_1 3 rfl rfl)
theorem dJ4_ensureCapacityInternal_28 : decode cJ4_ensureCapacityInternal 28 = .ok (.getfield 22, 3) := dk_180 0 22 (dk_at dksJ4_ensureCapacityInternal_1 4 rfl rfl)
theorem dJ4_ensureCapacityInternal_31 : decode cJ4_ensureCapacityInternal 31 = .ok (.ishl, 1) := dk_120 (dk_at dksJ4_ensureCapacityInternal_1 7 rfl rfl)
theorem dJ4_ensureCapacityInternal_32 : decode cJ4_ensureCapacityInternal 32 = .ok (.invokestatic 108, 3) := dk_184 0 108 (dk_at dksJ4_ensureCapacityInternal_1 8 rfl rfl)
theorem dJ4_ensureCapacityInternal_35 : decode cJ4_ensureCapacityInternal 35 = .ok (.putfield 15, 3) := dk_181 0 15 (dk_at dksJ4_ensureCapacityInternal_1 11 rfl rfl)
theorem dJ4_ensureCapacityInternal_38 : decode cJ4_ensureCapacityInternal 38 = .ok (.return_, 1) := dk_177 (dk_at dksJ4_ensureCapacityInternal_1 14 rfl rfl)
abbrev cJ4_newCapacity : ByteArray := prog_23_method_10_code
def yJ4_newCapacity : MethodName := ⟨RJ4, "newCapacity", "(I)I"⟩
def dkwJ4_newCapacity_2 : List UInt8 := [183, 0, 124, 191, 21, 5, 42, 180, 0, 22, 122, 172]
abbrev dktJ4_newCapacity_2 : List UInt8 := dkwJ4_newCapacity_2 ++ []
def dkwJ4_newCapacity_1 : List UInt8 := [180, 0, 22, 120, 96, 184, 0, 114, 54, 5, 21, 5, 18, 39, 160, 0, 13, 187, 0, 120, 89, 18, 122]
abbrev dktJ4_newCapacity_1 : List UInt8 := dkwJ4_newCapacity_1 ++ dktJ4_newCapacity_2
def dkwJ4_newCapacity_0 : List UInt8 := [42, 180, 0, 15, 190, 61, 27, 42, 180, 0, 22, 120, 62, 29, 28, 100, 54, 4, 28, 21, 4, 28, 5, 42]
abbrev dktJ4_newCapacity_0 : List UInt8 := dkwJ4_newCapacity_0 ++ dktJ4_newCapacity_1
theorem dksJ4_newCapacity_0 : cJ4_newCapacity.data.toList.drop 0 = dktJ4_newCapacity_0 := by decide +kernel
theorem dksJ4_newCapacity_1 : cJ4_newCapacity.data.toList.drop 24 = dktJ4_newCapacity_1 := dk_seg dksJ4_newCapacity_0 24 rfl rfl
theorem dksJ4_newCapacity_2 : cJ4_newCapacity.data.toList.drop 47 = dktJ4_newCapacity_2 := dk_seg dksJ4_newCapacity_1 23 rfl rfl
theorem dJ4_newCapacity_0 : decode cJ4_newCapacity 0 = .ok (.aload_n 0, 1) := dk_42 (dk_at dksJ4_newCapacity_0 0 rfl rfl)
theorem dJ4_newCapacity_1 : decode cJ4_newCapacity 1 = .ok (.getfield 15, 3) := dk_180 0 15 (dk_at dksJ4_newCapacity_0 1 rfl rfl)
theorem dJ4_newCapacity_4 : decode cJ4_newCapacity 4 = .ok (.arraylength, 1) := dk_190 (dk_at dksJ4_newCapacity_0 4 rfl rfl)
theorem dJ4_newCapacity_5 : decode cJ4_newCapacity 5 = .ok (.istore_n 2, 1) := dk_61 (dk_at dksJ4_newCapacity_0 5 rfl rfl)
theorem dJ4_newCapacity_6 : decode cJ4_newCapacity 6 = .ok (.iload_n 1, 1) := dk_27 (dk_at dksJ4_newCapacity_0 6 rfl rfl)
theorem dJ4_newCapacity_7 : decode cJ4_newCapacity 7 = .ok (.aload_n 0, 1) := dk_42 (dk_at dksJ4_newCapacity_0 7 rfl rfl)
theorem dJ4_newCapacity_8 : decode cJ4_newCapacity 8 = .ok (.getfield 22, 3) := dk_180 0 22 (dk_at dksJ4_newCapacity_0 8 rfl rfl)
theorem dJ4_newCapacity_11 : decode cJ4_newCapacity 11 = .ok (.ishl, 1) := dk_120 (dk_at dksJ4_newCapacity_0 11 rfl rfl)
theorem dJ4_newCapacity_12 : decode cJ4_newCapacity 12 = .ok (.istore_n 3, 1) := dk_62 (dk_at dksJ4_newCapacity_0 12 rfl rfl)
theorem dJ4_newCapacity_13 : decode cJ4_newCapacity 13 = .ok (.iload_n 3, 1) := dk_29 (dk_at dksJ4_newCapacity_0 13 rfl rfl)
theorem dJ4_newCapacity_14 : decode cJ4_newCapacity 14 = .ok (.iload_n 2, 1) := dk_28 (dk_at dksJ4_newCapacity_0 14 rfl rfl)
theorem dJ4_newCapacity_15 : decode cJ4_newCapacity 15 = .ok (.isub, 1) := dk_100 (dk_at dksJ4_newCapacity_0 15 rfl rfl)
theorem dJ4_newCapacity_16 : decode cJ4_newCapacity 16 = .ok (.istore 4, 2) := dk_54 4 (dk_at dksJ4_newCapacity_0 16 rfl rfl)
theorem dJ4_newCapacity_18 : decode cJ4_newCapacity 18 = .ok (.iload_n 2, 1) := dk_28 (dk_at dksJ4_newCapacity_0 18 rfl rfl)
theorem dJ4_newCapacity_19 : decode cJ4_newCapacity 19 = .ok (.iload 4, 2) := dk_21 4 (dk_at dksJ4_newCapacity_0 19 rfl rfl)
theorem dJ4_newCapacity_21 : decode cJ4_newCapacity 21 = .ok (.iload_n 2, 1) := dk_28 (dk_at dksJ4_newCapacity_0 21 rfl rfl)
theorem dJ4_newCapacity_22 : decode cJ4_newCapacity 22 = .ok (.iconst 2, 1) := dk_5 (dk_at dksJ4_newCapacity_0 22 rfl rfl)
theorem dJ4_newCapacity_23 : decode cJ4_newCapacity 23 = .ok (.aload_n 0, 1) := dk_42 (dk_at dksJ4_newCapacity_0 23 rfl rfl)
theorem dJ4_newCapacity_24 : decode cJ4_newCapacity 24 = .ok (.getfield 22, 3) := dk_180 0 22 (dk_at dksJ4_newCapacity_1 0 rfl rfl)
theorem dJ4_newCapacity_27 : decode cJ4_newCapacity 27 = .ok (.ishl, 1) := dk_120 (dk_at dksJ4_newCapacity_1 3 rfl rfl)
theorem dJ4_newCapacity_28 : decode cJ4_newCapacity 28 = .ok (.iadd, 1) := dk_96 (dk_at dksJ4_newCapacity_1 4 rfl rfl)
theorem dJ4_newCapacity_29 : decode cJ4_newCapacity 29 = .ok (.invokestatic 114, 3) := dk_184 0 114 (dk_at dksJ4_newCapacity_1 5 rfl rfl)
theorem dJ4_newCapacity_32 : decode cJ4_newCapacity 32 = .ok (.istore 5, 2) := dk_54 5 (dk_at dksJ4_newCapacity_1 8 rfl rfl)
theorem dJ4_newCapacity_34 : decode cJ4_newCapacity 34 = .ok (.iload 5, 2) := dk_21 5 (dk_at dksJ4_newCapacity_1 10 rfl rfl)
theorem dJ4_newCapacity_36 : decode cJ4_newCapacity 36 = .ok (.ldc 39, 2) := dk_18 39 (dk_at dksJ4_newCapacity_1 12 rfl rfl)
theorem dJ4_newCapacity_38 : decode cJ4_newCapacity 38 = .ok (.if_icmp .ne 13, 3) := dk_160 0 13 (dk_at dksJ4_newCapacity_1 14 rfl rfl)
theorem dJ4_newCapacity_41 : decode cJ4_newCapacity 41 = .ok (.new 120, 3) := dk_187 0 120 (dk_at dksJ4_newCapacity_1 17 rfl rfl)
theorem dJ4_newCapacity_44 : decode cJ4_newCapacity 44 = .ok (.dup, 1) := dk_89 (dk_at dksJ4_newCapacity_1 20 rfl rfl)
theorem dJ4_newCapacity_45 : decode cJ4_newCapacity 45 = .ok (.ldc 122, 2) := dk_18 122 (dk_at dksJ4_newCapacity_1 21 rfl rfl)
theorem dJ4_newCapacity_47 : decode cJ4_newCapacity 47 = .ok (.invokespecial 124, 3) := dk_183 0 124 (dk_at dksJ4_newCapacity_2 0 rfl rfl)
theorem dJ4_newCapacity_50 : decode cJ4_newCapacity 50 = .ok (.athrow, 1) := dk_191 (dk_at dksJ4_newCapacity_2 3 rfl rfl)
theorem dJ4_newCapacity_51 : decode cJ4_newCapacity 51 = .ok (.iload 5, 2) := dk_21 5 (dk_at dksJ4_newCapacity_2 4 rfl rfl)
theorem dJ4_newCapacity_53 : decode cJ4_newCapacity 53 = .ok (.aload_n 0, 1) := dk_42 (dk_at dksJ4_newCapacity_2 6 rfl rfl)
theorem dJ4_newCapacity_54 : decode cJ4_newCapacity 54 = .ok (.getfield 22, 3) := dk_180 0 22 (dk_at dksJ4_newCapacity_2 7 rfl rfl)
theorem dJ4_newCapacity_57 : decode cJ4_newCapacity 57 = .ok (.ishr, 1) := dk_122 (dk_at dksJ4_newCapacity_2 10 rfl rfl)
theorem dJ4_newCapacity_58 : decode cJ4_newCapacity 58 = .ok (.ireturn, 1) := dk_172 (dk_at dksJ4_newCapacity_2 11 rfl rfl)
abbrev cJ4_isLatin1 : ByteArray := prog_23_method_68_code
def yJ4_isLatin1 : MethodName := ⟨RJ4, "isLatin1", "()Z"⟩
def dkwJ4_isLatin1_0 : List UInt8 := [178, 0, 18, 153, 0, 14, 42, 180, 0, 22, 154, 0, 7, 4, 167, 0, 4, 3, 172]
abbrev dktJ4_isLatin1_0 : List UInt8 := dkwJ4_isLatin1_0 ++ []
theorem dksJ4_isLatin1_0 : cJ4_isLatin1.data.toList.drop 0 = dktJ4_isLatin1_0 := by decide +kernel
theorem dJ4_isLatin1_0 : decode cJ4_isLatin1 0 = .ok (.getstatic 18, 3) := dk_178 0 18 (dk_at dksJ4_isLatin1_0 0 rfl rfl)
theorem dJ4_isLatin1_3 : decode cJ4_isLatin1 3 = .ok (.ifCond .eq 14, 3) := dk_153 0 14 (dk_at dksJ4_isLatin1_0 3 rfl rfl)
theorem dJ4_isLatin1_6 : decode cJ4_isLatin1 6 = .ok (.aload_n 0, 1) := dk_42 (dk_at dksJ4_isLatin1_0 6 rfl rfl)
theorem dJ4_isLatin1_7 : decode cJ4_isLatin1 7 = .ok (.getfield 22, 3) := dk_180 0 22 (dk_at dksJ4_isLatin1_0 7 rfl rfl)
theorem dJ4_isLatin1_10 : decode cJ4_isLatin1 10 = .ok (.ifCond .ne 7, 3) := dk_154 0 7 (dk_at dksJ4_isLatin1_0 10 rfl rfl)
theorem dJ4_isLatin1_13 : decode cJ4_isLatin1 13 = .ok (.iconst 1, 1) := dk_4 (dk_at dksJ4_isLatin1_0 13 rfl rfl)
theorem dJ4_isLatin1_14 : decode cJ4_isLatin1 14 = .ok (.goto 4, 3) := dk_167 0 4 (dk_at dksJ4_isLatin1_0 14 rfl rfl)
theorem dJ4_isLatin1_17 : decode cJ4_isLatin1 17 = .ok (.iconst 0, 1) := dk_3 (dk_at dksJ4_isLatin1_0 17 rfl rfl)
theorem dJ4_isLatin1_18 : decode cJ4_isLatin1 18 = .ok (.ireturn, 1) := dk_172 (dk_at dksJ4_isLatin1_0 18 rfl rfl)
abbrev cJ4_inflate : ByteArray := prog_23_method_11_code
def yJ4_inflate : MethodName := ⟨RJ4, "inflate", "()V"⟩
def dkwJ4_inflate_1 : List UInt8 := [42, 180, 0, 79, 184, 0, 125, 42, 43, 181, 0, 15, 42, 4, 181, 0, 22, 177]
abbrev dktJ4_inflate_1 : List UInt8 := dkwJ4_inflate_1 ++ []
def dkwJ4_inflate_0 : List UInt8 := [42, 182, 0, 83, 154, 0, 4, 177, 42, 180, 0, 15, 190, 184, 0, 26, 76, 42, 180, 0, 15, 3, 43, 3]
abbrev dktJ4_inflate_0 : List UInt8 := dkwJ4_inflate_0 ++ dktJ4_inflate_1
theorem dksJ4_inflate_0 : cJ4_inflate.data.toList.drop 0 = dktJ4_inflate_0 := by decide +kernel
theorem dksJ4_inflate_1 : cJ4_inflate.data.toList.drop 24 = dktJ4_inflate_1 := dk_seg dksJ4_inflate_0 24 rfl rfl
theorem dJ4_inflate_0 : decode cJ4_inflate 0 = .ok (.aload_n 0, 1) := dk_42 (dk_at dksJ4_inflate_0 0 rfl rfl)
theorem dJ4_inflate_1 : decode cJ4_inflate 1 = .ok (.invokevirtual 83, 3) := dk_182 0 83 (dk_at dksJ4_inflate_0 1 rfl rfl)
theorem dJ4_inflate_4 : decode cJ4_inflate 4 = .ok (.ifCond .ne 4, 3) := dk_154 0 4 (dk_at dksJ4_inflate_0 4 rfl rfl)
theorem dJ4_inflate_7 : decode cJ4_inflate 7 = .ok (.return_, 1) := dk_177 (dk_at dksJ4_inflate_0 7 rfl rfl)
theorem dJ4_inflate_8 : decode cJ4_inflate 8 = .ok (.aload_n 0, 1) := dk_42 (dk_at dksJ4_inflate_0 8 rfl rfl)
theorem dJ4_inflate_9 : decode cJ4_inflate 9 = .ok (.getfield 15, 3) := dk_180 0 15 (dk_at dksJ4_inflate_0 9 rfl rfl)
theorem dJ4_inflate_12 : decode cJ4_inflate 12 = .ok (.arraylength, 1) := dk_190 (dk_at dksJ4_inflate_0 12 rfl rfl)
theorem dJ4_inflate_13 : decode cJ4_inflate 13 = .ok (.invokestatic 26, 3) := dk_184 0 26 (dk_at dksJ4_inflate_0 13 rfl rfl)
theorem dJ4_inflate_16 : decode cJ4_inflate 16 = .ok (.astore_n 1, 1) := dk_76 (dk_at dksJ4_inflate_0 16 rfl rfl)
theorem dJ4_inflate_17 : decode cJ4_inflate 17 = .ok (.aload_n 0, 1) := dk_42 (dk_at dksJ4_inflate_0 17 rfl rfl)
theorem dJ4_inflate_18 : decode cJ4_inflate 18 = .ok (.getfield 15, 3) := dk_180 0 15 (dk_at dksJ4_inflate_0 18 rfl rfl)
theorem dJ4_inflate_21 : decode cJ4_inflate 21 = .ok (.iconst 0, 1) := dk_3 (dk_at dksJ4_inflate_0 21 rfl rfl)
theorem dJ4_inflate_22 : decode cJ4_inflate 22 = .ok (.aload_n 1, 1) := dk_43 (dk_at dksJ4_inflate_0 22 rfl rfl)
theorem dJ4_inflate_23 : decode cJ4_inflate 23 = .ok (.iconst 0, 1) := dk_3 (dk_at dksJ4_inflate_0 23 rfl rfl)
theorem dJ4_inflate_24 : decode cJ4_inflate 24 = .ok (.aload_n 0, 1) := dk_42 (dk_at dksJ4_inflate_1 0 rfl rfl)
theorem dJ4_inflate_25 : decode cJ4_inflate 25 = .ok (.getfield 79, 3) := dk_180 0 79 (dk_at dksJ4_inflate_1 1 rfl rfl)
theorem dJ4_inflate_28 : decode cJ4_inflate 28 = .ok (.invokestatic 125, 3) := dk_184 0 125 (dk_at dksJ4_inflate_1 4 rfl rfl)
theorem dJ4_inflate_31 : decode cJ4_inflate 31 = .ok (.aload_n 0, 1) := dk_42 (dk_at dksJ4_inflate_1 7 rfl rfl)
theorem dJ4_inflate_32 : decode cJ4_inflate 32 = .ok (.aload_n 1, 1) := dk_43 (dk_at dksJ4_inflate_1 8 rfl rfl)
theorem dJ4_inflate_33 : decode cJ4_inflate 33 = .ok (.putfield 15, 3) := dk_181 0 15 (dk_at dksJ4_inflate_1 9 rfl rfl)
theorem dJ4_inflate_36 : decode cJ4_inflate 36 = .ok (.aload_n 0, 1) := dk_42 (dk_at dksJ4_inflate_1 12 rfl rfl)
theorem dJ4_inflate_37 : decode cJ4_inflate 37 = .ok (.iconst 1, 1) := dk_4 (dk_at dksJ4_inflate_1 13 rfl rfl)
theorem dJ4_inflate_38 : decode cJ4_inflate 38 = .ok (.putfield 22, 3) := dk_181 0 22 (dk_at dksJ4_inflate_1 14 rfl rfl)
theorem dJ4_inflate_41 : decode cJ4_inflate 41 = .ok (.return_, 1) := dk_177 (dk_at dksJ4_inflate_1 17 rfl rfl)
abbrev cJ4_setLength : ByteArray := prog_23_method_13_code
def yJ4_setLength : MethodName := ⟨RJ4, "setLength", "(I)V"⟩
def dkwJ4_setLength_3 : List UInt8 := [164, 0, 8, 42, 4, 181, 0, 73, 42, 27, 181, 0, 79, 177]
abbrev dktJ4_setLength_3 : List UInt8 := dkwJ4_setLength_3 ++ []
def dkwJ4_setLength_2 : List UInt8 := [167, 0, 31, 42, 180, 0, 15, 42, 180, 0, 79, 27, 184, 0, 137, 167, 0, 16, 42, 180, 0, 79, 27]
abbrev dktJ4_setLength_2 : List UInt8 := dkwJ4_setLength_2 ++ dktJ4_setLength_3
def dkwJ4_setLength_1 : List UInt8 := [162, 0, 40, 42, 182, 0, 83, 153, 0, 18, 42, 180, 0, 15, 42, 180, 0, 79, 27, 184, 0, 133]
abbrev dktJ4_setLength_1 : List UInt8 := dkwJ4_setLength_1 ++ dktJ4_setLength_2
def dkwJ4_setLength_0 : List UInt8 := [27, 156, 0, 12, 187, 0, 129, 89, 27, 183, 0, 131, 191, 42, 27, 182, 0, 100, 42, 180, 0, 79, 27]
abbrev dktJ4_setLength_0 : List UInt8 := dkwJ4_setLength_0 ++ dktJ4_setLength_1
theorem dksJ4_setLength_0 : cJ4_setLength.data.toList.drop 0 = dktJ4_setLength_0 := by decide +kernel
theorem dksJ4_setLength_1 : cJ4_setLength.data.toList.drop 23 = dktJ4_setLength_1 := dk_seg dksJ4_setLength_0 23 rfl rfl
theorem dksJ4_setLength_2 : cJ4_setLength.data.toList.drop 45 = dktJ4_setLength_2 := dk_seg dksJ4_setLength_1 22 rfl rfl
theorem dksJ4_setLength_3 : cJ4_setLength.data.toList.drop 68 = dktJ4_setLength_3 := dk_seg dksJ4_setLength_2 23 rfl rfl
theorem dJ4_setLength_0 : decode cJ4_setLength 0 = .ok (.iload_n 1, 1) := dk_27 (dk_at dksJ4_setLength_0 0 rfl rfl)
theorem dJ4_setLength_1 : decode cJ4_setLength 1 = .ok (.ifCond .ge 12, 3) := dk_156 0 12 (dk_at dksJ4_setLength_0 1 rfl rfl)
theorem dJ4_setLength_4 : decode cJ4_setLength 4 = .ok (.new 129, 3) := dk_187 0 129 (dk_at dksJ4_setLength_0 4 rfl rfl)
theorem dJ4_setLength_7 : decode cJ4_setLength 7 = .ok (.dup, 1) := dk_89 (dk_at dksJ4_setLength_0 7 rfl rfl)
theorem dJ4_setLength_8 : decode cJ4_setLength 8 = .ok (.iload_n 1, 1) := dk_27 (dk_at dksJ4_setLength_0 8 rfl rfl)
theorem dJ4_setLength_9 : decode cJ4_setLength 9 = .ok (.invokespecial 131, 3) := dk_183 0 131 (dk_at dksJ4_setLength_0 9 rfl rfl)
theorem dJ4_setLength_12 : decode cJ4_setLength 12 = .ok (.athrow, 1) := dk_191 (dk_at dksJ4_setLength_0 12 rfl rfl)
theorem dJ4_setLength_13 : decode cJ4_setLength 13 = .ok (.aload_n 0, 1) := dk_42 (dk_at dksJ4_setLength_0 13 rfl rfl)
theorem dJ4_setLength_14 : decode cJ4_setLength 14 = .ok (.iload_n 1, 1) := dk_27 (dk_at dksJ4_setLength_0 14 rfl rfl)
theorem dJ4_setLength_15 : decode cJ4_setLength 15 = .ok (.invokevirtual 100, 3) := dk_182 0 100 (dk_at dksJ4_setLength_0 15 rfl rfl)
theorem dJ4_setLength_18 : decode cJ4_setLength 18 = .ok (.aload_n 0, 1) := dk_42 (dk_at dksJ4_setLength_0 18 rfl rfl)
theorem dJ4_setLength_19 : decode cJ4_setLength 19 = .ok (.getfield 79, 3) := dk_180 0 79 (dk_at dksJ4_setLength_0 19 rfl rfl)
theorem dJ4_setLength_22 : decode cJ4_setLength 22 = .ok (.iload_n 1, 1) := dk_27 (dk_at dksJ4_setLength_0 22 rfl rfl)
theorem dJ4_setLength_23 : decode cJ4_setLength 23 = .ok (.if_icmp .ge 40, 3) := dk_162 0 40 (dk_at dksJ4_setLength_1 0 rfl rfl)
theorem dJ4_setLength_26 : decode cJ4_setLength 26 = .ok (.aload_n 0, 1) := dk_42 (dk_at dksJ4_setLength_1 3 rfl rfl)
theorem dJ4_setLength_27 : decode cJ4_setLength 27 = .ok (.invokevirtual 83, 3) := dk_182 0 83 (dk_at dksJ4_setLength_1 4 rfl rfl)
theorem dJ4_setLength_30 : decode cJ4_setLength 30 = .ok (.ifCond .eq 18, 3) := dk_153 0 18 (dk_at dksJ4_setLength_1 7 rfl rfl)
theorem dJ4_setLength_33 : decode cJ4_setLength 33 = .ok (.aload_n 0, 1) := dk_42 (dk_at dksJ4_setLength_1 10 rfl rfl)
theorem dJ4_setLength_34 : decode cJ4_setLength 34 = .ok (.getfield 15, 3) := dk_180 0 15 (dk_at dksJ4_setLength_1 11 rfl rfl)
theorem dJ4_setLength_37 : decode cJ4_setLength 37 = .ok (.aload_n 0, 1) := dk_42 (dk_at dksJ4_setLength_1 14 rfl rfl)
theorem dJ4_setLength_38 : decode cJ4_setLength 38 = .ok (.getfield 79, 3) := dk_180 0 79 (dk_at dksJ4_setLength_1 15 rfl rfl)
theorem dJ4_setLength_41 : decode cJ4_setLength 41 = .ok (.iload_n 1, 1) := dk_27 (dk_at dksJ4_setLength_1 18 rfl rfl)
theorem dJ4_setLength_42 : decode cJ4_setLength 42 = .ok (.invokestatic 133, 3) := dk_184 0 133 (dk_at dksJ4_setLength_1 19 rfl rfl)
theorem dJ4_setLength_45 : decode cJ4_setLength 45 = .ok (.goto 31, 3) := dk_167 0 31 (dk_at dksJ4_setLength_2 0 rfl rfl)
theorem dJ4_setLength_48 : decode cJ4_setLength 48 = .ok (.aload_n 0, 1) := dk_42 (dk_at dksJ4_setLength_2 3 rfl rfl)
theorem dJ4_setLength_49 : decode cJ4_setLength 49 = .ok (.getfield 15, 3) := dk_180 0 15 (dk_at dksJ4_setLength_2 4 rfl rfl)
theorem dJ4_setLength_52 : decode cJ4_setLength 52 = .ok (.aload_n 0, 1) := dk_42 (dk_at dksJ4_setLength_2 7 rfl rfl)
theorem dJ4_setLength_53 : decode cJ4_setLength 53 = .ok (.getfield 79, 3) := dk_180 0 79 (dk_at dksJ4_setLength_2 8 rfl rfl)
theorem dJ4_setLength_56 : decode cJ4_setLength 56 = .ok (.iload_n 1, 1) := dk_27 (dk_at dksJ4_setLength_2 11 rfl rfl)
theorem dJ4_setLength_57 : decode cJ4_setLength 57 = .ok (.invokestatic 137, 3) := dk_184 0 137 (dk_at dksJ4_setLength_2 12 rfl rfl)
theorem dJ4_setLength_60 : decode cJ4_setLength 60 = .ok (.goto 16, 3) := dk_167 0 16 (dk_at dksJ4_setLength_2 15 rfl rfl)
theorem dJ4_setLength_63 : decode cJ4_setLength 63 = .ok (.aload_n 0, 1) := dk_42 (dk_at dksJ4_setLength_2 18 rfl rfl)
theorem dJ4_setLength_64 : decode cJ4_setLength 64 = .ok (.getfield 79, 3) := dk_180 0 79 (dk_at dksJ4_setLength_2 19 rfl rfl)
theorem dJ4_setLength_67 : decode cJ4_setLength 67 = .ok (.iload_n 1, 1) := dk_27 (dk_at dksJ4_setLength_2 22 rfl rfl)
theorem dJ4_setLength_68 : decode cJ4_setLength 68 = .ok (.if_icmp .le 8, 3) := dk_164 0 8 (dk_at dksJ4_setLength_3 0 rfl rfl)
theorem dJ4_setLength_71 : decode cJ4_setLength 71 = .ok (.aload_n 0, 1) := dk_42 (dk_at dksJ4_setLength_3 3 rfl rfl)
theorem dJ4_setLength_72 : decode cJ4_setLength 72 = .ok (.iconst 1, 1) := dk_4 (dk_at dksJ4_setLength_3 4 rfl rfl)
theorem dJ4_setLength_73 : decode cJ4_setLength 73 = .ok (.putfield 73, 3) := dk_181 0 73 (dk_at dksJ4_setLength_3 5 rfl rfl)
theorem dJ4_setLength_76 : decode cJ4_setLength 76 = .ok (.aload_n 0, 1) := dk_42 (dk_at dksJ4_setLength_3 8 rfl rfl)
theorem dJ4_setLength_77 : decode cJ4_setLength 77 = .ok (.iload_n 1, 1) := dk_27 (dk_at dksJ4_setLength_3 9 rfl rfl)
theorem dJ4_setLength_78 : decode cJ4_setLength 78 = .ok (.putfield 79, 3) := dk_181 0 79 (dk_at dksJ4_setLength_3 10 rfl rfl)
theorem dJ4_setLength_81 : decode cJ4_setLength 81 = .ok (.return_, 1) := dk_177 (dk_at dksJ4_setLength_3 13 rfl rfl)
abbrev cJ4_charAt : ByteArray := prog_23_method_14_code
def yJ4_charAt : MethodName := ⟨RJ4, "charAt", "(I)C"⟩
def dkwJ4_charAt_1 : List UInt8 := [21, 4, 184, 0, 144, 28, 154, 0, 12, 45, 27, 51, 17, 0, 255, 126, 146, 172, 45, 27, 184, 0, 148, 172]
abbrev dktJ4_charAt_1 : List UInt8 := dkwJ4_charAt_1 ++ []
def dkwJ4_charAt_0 : List UInt8 := [42, 180, 0, 22, 61, 42, 180, 0, 15, 78, 42, 180, 0, 79, 45, 190, 28, 122, 184, 0, 138, 54, 4, 27]
abbrev dktJ4_charAt_0 : List UInt8 := dkwJ4_charAt_0 ++ dktJ4_charAt_1
theorem dksJ4_charAt_0 : cJ4_charAt.data.toList.drop 0 = dktJ4_charAt_0 := by decide +kernel
theorem dksJ4_charAt_1 : cJ4_charAt.data.toList.drop 24 = dktJ4_charAt_1 := dk_seg dksJ4_charAt_0 24 rfl rfl
theorem dJ4_charAt_0 : decode cJ4_charAt 0 = .ok (.aload_n 0, 1) := dk_42 (dk_at dksJ4_charAt_0 0 rfl rfl)
theorem dJ4_charAt_1 : decode cJ4_charAt 1 = .ok (.getfield 22, 3) := dk_180 0 22 (dk_at dksJ4_charAt_0 1 rfl rfl)
theorem dJ4_charAt_4 : decode cJ4_charAt 4 = .ok (.istore_n 2, 1) := dk_61 (dk_at dksJ4_charAt_0 4 rfl rfl)
theorem dJ4_charAt_5 : decode cJ4_charAt 5 = .ok (.aload_n 0, 1) := dk_42 (dk_at dksJ4_charAt_0 5 rfl rfl)
theorem dJ4_charAt_6 : decode cJ4_charAt 6 = .ok (.getfield 15, 3) := dk_180 0 15 (dk_at dksJ4_charAt_0 6 rfl rfl)
theorem dJ4_charAt_9 : decode cJ4_charAt 9 = .ok (.astore_n 3, 1) := dk_78 (dk_at dksJ4_charAt_0 9 rfl rfl)
theorem dJ4_charAt_10 : decode cJ4_charAt 10 = .ok (.aload_n 0, 1) := dk_42 (dk_at dksJ4_charAt_0 10 rfl rfl)
theorem dJ4_charAt_11 : decode cJ4_charAt 11 = .ok (.getfield 79, 3) := dk_180 0 79 (dk_at dksJ4_charAt_0 11 rfl rfl)
theorem dJ4_charAt_14 : decode cJ4_charAt 14 = .ok (.aload_n 3, 1) := dk_45 (dk_at dksJ4_charAt_0 14 rfl rfl)
theorem dJ4_charAt_15 : decode cJ4_charAt 15 = .ok (.arraylength, 1) := dk_190 (dk_at dksJ4_charAt_0 15 rfl rfl)
theorem dJ4_charAt_16 : decode cJ4_charAt 16 = .ok (.iload_n 2, 1) := dk_28 (dk_at dksJ4_charAt_0 16 rfl rfl)
theorem dJ4_charAt_17 : decode cJ4_charAt 17 = .ok (.ishr, 1) := dk_122 (dk_at dksJ4_charAt_0 17 rfl rfl)
theorem dJ4_charAt_18 : decode cJ4_charAt 18 = .ok (.invokestatic 138, 3) := dk_184 0 138 (dk_at dksJ4_charAt_0 18 rfl rfl)
theorem dJ4_charAt_21 : decode cJ4_charAt 21 = .ok (.istore 4, 2) := dk_54 4 (dk_at dksJ4_charAt_0 21 rfl rfl)
theorem dJ4_charAt_23 : decode cJ4_charAt 23 = .ok (.iload_n 1, 1) := dk_27 (dk_at dksJ4_charAt_0 23 rfl rfl)
theorem dJ4_charAt_24 : decode cJ4_charAt 24 = .ok (.iload 4, 2) := dk_21 4 (dk_at dksJ4_charAt_1 0 rfl rfl)
theorem dJ4_charAt_26 : decode cJ4_charAt 26 = .ok (.invokestatic 144, 3) := dk_184 0 144 (dk_at dksJ4_charAt_1 2 rfl rfl)
theorem dJ4_charAt_29 : decode cJ4_charAt 29 = .ok (.iload_n 2, 1) := dk_28 (dk_at dksJ4_charAt_1 5 rfl rfl)
theorem dJ4_charAt_30 : decode cJ4_charAt 30 = .ok (.ifCond .ne 12, 3) := dk_154 0 12 (dk_at dksJ4_charAt_1 6 rfl rfl)
theorem dJ4_charAt_33 : decode cJ4_charAt 33 = .ok (.aload_n 3, 1) := dk_45 (dk_at dksJ4_charAt_1 9 rfl rfl)
theorem dJ4_charAt_34 : decode cJ4_charAt 34 = .ok (.iload_n 1, 1) := dk_27 (dk_at dksJ4_charAt_1 10 rfl rfl)
theorem dJ4_charAt_35 : decode cJ4_charAt 35 = .ok (.baload, 1) := dk_51 (dk_at dksJ4_charAt_1 11 rfl rfl)
theorem dJ4_charAt_36 : decode cJ4_charAt 36 = .ok (.sipush 255, 3) := dk_17 0 255 (dk_at dksJ4_charAt_1 12 rfl rfl)
theorem dJ4_charAt_39 : decode cJ4_charAt 39 = .ok (.iand, 1) := dk_126 (dk_at dksJ4_charAt_1 15 rfl rfl)
theorem dJ4_charAt_40 : decode cJ4_charAt 40 = .ok (.i2c, 1) := dk_146 (dk_at dksJ4_charAt_1 16 rfl rfl)
theorem dJ4_charAt_41 : decode cJ4_charAt 41 = .ok (.ireturn, 1) := dk_172 (dk_at dksJ4_charAt_1 17 rfl rfl)
theorem dJ4_charAt_42 : decode cJ4_charAt 42 = .ok (.aload_n 3, 1) := dk_45 (dk_at dksJ4_charAt_1 18 rfl rfl)
theorem dJ4_charAt_43 : decode cJ4_charAt 43 = .ok (.iload_n 1, 1) := dk_27 (dk_at dksJ4_charAt_1 19 rfl rfl)
theorem dJ4_charAt_44 : decode cJ4_charAt 44 = .ok (.invokestatic 148, 3) := dk_184 0 148 (dk_at dksJ4_charAt_1 20 rfl rfl)
theorem dJ4_charAt_47 : decode cJ4_charAt 47 = .ok (.ireturn, 1) := dk_172 (dk_at dksJ4_charAt_1 23 rfl rfl)
abbrev cJ4_getValue : ByteArray := prog_23_method_64_code
def yJ4_getValue : MethodName := ⟨RJ4, "getValue", "()[B"⟩
theorem dJ4_getValue_0 : decode cJ4_getValue 0 = .ok (.aload_n 0, 1) := by decide +kernel
theorem dJ4_getValue_1 : decode cJ4_getValue 1 = .ok (.getfield 15, 3) := by decide +kernel
theorem dJ4_getValue_4 : decode cJ4_getValue 4 = .ok (.areturn, 1) := by decide +kernel
theorem q67 : (Jvm.Cond.initialized "java/lang/AbstractStringBuilder") ∈ lw_all := lw_g (lw_at lw_m1 8 rfl) rfl
theorem q218 : (Jvm.Cond.instanceMethod ({ cls := "java/lang/AbstractStringBuilder", name := "<init>", desc := "(I)V" } : Jvm.MethodName)) ∈ lw_all := lw_g (lw_at lw_m1 159 rfl) rfl
theorem q219 : (Jvm.Cond.code ({ cls := "java/lang/AbstractStringBuilder", name := "<init>", desc := "(I)V" } : Jvm.MethodName) prog_23_method_2_code (2 : Nat) (Option.none : Option Jvm.ClassFile.FieldType)) ∈ lw_all := lw_g (lw_at lw_m1 160 rfl) rfl
theorem q220 : (Jvm.Cond.methodLink "java/lang/AbstractStringBuilder" (3 : Nat) ({ cls := "java/lang/Object", name := "<init>", desc := "()V" } : Jvm.MethodName)) ∈ lw_all := lw_g (lw_at lw_m1 161 rfl) rfl
theorem q221 : (Jvm.Cond.fieldLink "java/lang/AbstractStringBuilder" (18 : Nat) "java/lang/String" "COMPACT_STRINGS" "Z") ∈ lw_all := lw_g (lw_at lw_m1 162 rfl) rfl
theorem q223 : (Jvm.Cond.methodLink "java/lang/AbstractStringBuilder" (26 : Nat) ({ cls := "java/lang/StringUTF16", name := "newBytesFor", desc := "(I)[B" } : Jvm.MethodName)) ∈ lw_all := lw_g (lw_at lw_m1 164 rfl) rfl
theorem q230 : (Jvm.Cond.fieldLink "java/lang/AbstractStringBuilder" (15 : Nat) "java/lang/AbstractStringBuilder" "value" "[B") ∈ lw_all := lw_g (lw_at lw_m1 171 rfl) rfl
theorem q231 : (Jvm.Cond.fieldLink "java/lang/AbstractStringBuilder" (22 : Nat) "java/lang/AbstractStringBuilder" "coder" "B") ∈ lw_all := lw_g (lw_at lw_m1 172 rfl) rfl
theorem q232 : (Jvm.Cond.fieldLink "java/lang/AbstractStringBuilder" (73 : Nat) "java/lang/AbstractStringBuilder" "maybeLatin1" "Z") ∈ lw_all := lw_g (lw_at lw_m1 173 rfl) rfl
theorem q234 : (Jvm.Cond.fieldLink "java/lang/AbstractStringBuilder" (79 : Nat) "java/lang/AbstractStringBuilder" "count" "I") ∈ lw_all := lw_g (lw_at lw_m1 175 rfl) rfl
theorem q236 : (Jvm.Cond.soleField "java/lang/AbstractStringBuilder" "value") ∈ lw_all := lw_g (lw_at lw_m1 177 rfl) rfl
theorem q238 : (Jvm.Cond.soleField "java/lang/AbstractStringBuilder" "coder") ∈ lw_all := lw_g (lw_at lw_m1 179 rfl) rfl
theorem q240 : (Jvm.Cond.soleField "java/lang/AbstractStringBuilder" "maybeLatin1") ∈ lw_all := lw_g (lw_at lw_m1 181 rfl) rfl
theorem q242 : (Jvm.Cond.soleField "java/lang/AbstractStringBuilder" "count") ∈ lw_all := lw_g (lw_at lw_m1 183 rfl) rfl
theorem q901 : (Jvm.Cond.instanceMethod ({ cls := "java/lang/AbstractStringBuilder", name := "length", desc := "()I" } : Jvm.MethodName)) ∈ lw_all := lw_g (lw_at lw_m4 122 rfl) rfl
theorem q902 : (Jvm.Cond.code ({ cls := "java/lang/AbstractStringBuilder", name := "length", desc := "()I" } : Jvm.MethodName) prog_23_method_6_code (1 : Nat) (Option.some Jvm.ClassFile.FieldType.int)) ∈ lw_all := lw_g (lw_at lw_m4 123 rfl) rfl
theorem q908 : (Jvm.Cond.instanceMethod ({ cls := "java/lang/AbstractStringBuilder", name := "append", desc := "(C)Ljava/lang/AbstractStringBuilder;" } : Jvm.MethodName)) ∈ lw_all := lw_g (lw_at lw_m4 129 rfl) rfl
theorem q909 : (Jvm.Cond.code ({ cls := "java/lang/AbstractStringBuilder", name := "append", desc := "(C)Ljava/lang/AbstractStringBuilder;" } : Jvm.MethodName) prog_23_method_31_code (2 : Nat) (Option.some (Jvm.ClassFile.FieldType.object "java/lang/AbstractStringBuilder"))) ∈ lw_all := lw_g (lw_at lw_m4 130 rfl) rfl
theorem q910 : (Jvm.Cond.methodLink "java/lang/AbstractStringBuilder" (100 : Nat) ({ cls := "java/lang/AbstractStringBuilder", name := "ensureCapacityInternal", desc := "(I)V" } : Jvm.MethodName)) ∈ lw_all := lw_g (lw_at lw_m4 131 rfl) rfl
theorem q911 : (Jvm.Cond.privateMethod ({ cls := "java/lang/AbstractStringBuilder", name := "ensureCapacityInternal", desc := "(I)V" } : Jvm.MethodName)) ∈ lw_tbl := lw_at lw_m4 132 rfl
theorem q912 : (Jvm.Cond.instanceMethod ({ cls := "java/lang/AbstractStringBuilder", name := "ensureCapacityInternal", desc := "(I)V" } : Jvm.MethodName)) ∈ lw_all := lw_g (lw_at lw_m4 133 rfl) rfl
theorem q913 : (Jvm.Cond.code ({ cls := "java/lang/AbstractStringBuilder", name := "ensureCapacityInternal", desc := "(I)V" } : Jvm.MethodName) prog_23_method_9_code (3 : Nat) (Option.none : Option Jvm.ClassFile.FieldType)) ∈ lw_all := lw_g (lw_at lw_m4 134 rfl) rfl
theorem q914 : (Jvm.Cond.methodLink "java/lang/AbstractStringBuilder" (104 : Nat) ({ cls := "java/lang/AbstractStringBuilder", name := "newCapacity", desc := "(I)I" } : Jvm.MethodName)) ∈ lw_all := lw_g (lw_at lw_m4 135 rfl) rfl
theorem q915 : (Jvm.Cond.privateMethod ({ cls := "java/lang/AbstractStringBuilder", name := "newCapacity", desc := "(I)I" } : Jvm.MethodName)) ∈ lw_tbl := lw_at lw_m4 136 rfl
theorem q916 : (Jvm.Cond.instanceMethod ({ cls := "java/lang/AbstractStringBuilder", name := "newCapacity", desc := "(I)I" } : Jvm.MethodName)) ∈ lw_all := lw_g (lw_at lw_m4 137 rfl) rfl
theorem q917 : (Jvm.Cond.code ({ cls := "java/lang/AbstractStringBuilder", name := "newCapacity", desc := "(I)I" } : Jvm.MethodName) prog_23_method_10_code (6 : Nat) (Option.some Jvm.ClassFile.FieldType.int)) ∈ lw_all := lw_g (lw_at lw_m4 138 rfl) rfl
theorem q918 : (Jvm.Cond.methodLink "java/lang/AbstractStringBuilder" (114 : Nat) ({ cls := "jdk/internal/util/ArraysSupport", name := "newLength", desc := "(III)I" } : Jvm.MethodName)) ∈ lw_all := lw_g (lw_at lw_m4 139 rfl) rfl
theorem q919 : (Jvm.Cond.constant "java/lang/AbstractStringBuilder" (39 : Nat) (2147483647 : Int32)) ∈ lw_all := lw_g (lw_at lw_m4 140 rfl) rfl
theorem q920 : (Jvm.Cond.methodLink "java/lang/AbstractStringBuilder" (108 : Nat) ({ cls := "java/util/Arrays", name := "copyOf", desc := "([BI)[B" } : Jvm.MethodName)) ∈ lw_all := lw_g (lw_at lw_m4 141 rfl) rfl
theorem q930 : (Jvm.Cond.methodLink "java/lang/AbstractStringBuilder" (83 : Nat) ({ cls := "java/lang/AbstractStringBuilder", name := "isLatin1", desc := "()Z" } : Jvm.MethodName)) ∈ lw_all := lw_g (lw_at lw_m4 151 rfl) rfl
theorem q931 : (Jvm.Cond.instanceMethod ({ cls := "java/lang/AbstractStringBuilder", name := "isLatin1", desc := "()Z" } : Jvm.MethodName)) ∈ lw_all := lw_g (lw_at lw_m4 152 rfl) rfl
theorem q932 : (Jvm.Cond.sameMethod "java/lang/AbstractStringBuilder" "java/lang/AbstractStringBuilder" "isLatin1" "()Z") ∈ lw_all := lw_g (lw_at lw_m4 153 rfl) rfl
theorem q934 : (Jvm.Cond.code ({ cls := "java/lang/AbstractStringBuilder", name := "isLatin1", desc := "()Z" } : Jvm.MethodName) prog_23_method_68_code (1 : Nat) (Option.some Jvm.ClassFile.FieldType.boolean)) ∈ lw_all := lw_g (lw_at lw_m4 155 rfl) rfl
theorem q935 : (Jvm.Cond.methodLink "java/lang/AbstractStringBuilder" (191 : Nat) ({ cls := "java/lang/StringLatin1", name := "canEncode", desc := "(C)Z" } : Jvm.MethodName)) ∈ lw_all := lw_g (lw_at lw_m4 156 rfl) rfl
theorem q938 : (Jvm.Cond.methodLink "java/lang/AbstractStringBuilder" (195 : Nat) ({ cls := "java/lang/AbstractStringBuilder", name := "inflate", desc := "()V" } : Jvm.MethodName)) ∈ lw_all := lw_g (lw_at lw_m4 159 rfl) rfl
theorem q939 : (Jvm.Cond.privateMethod ({ cls := "java/lang/AbstractStringBuilder", name := "inflate", desc := "()V" } : Jvm.MethodName)) ∈ lw_tbl := lw_at lw_m4 160 rfl
theorem q940 : (Jvm.Cond.instanceMethod ({ cls := "java/lang/AbstractStringBuilder", name := "inflate", desc := "()V" } : Jvm.MethodName)) ∈ lw_all := lw_g (lw_at lw_m4 161 rfl) rfl
theorem q941 : (Jvm.Cond.code ({ cls := "java/lang/AbstractStringBuilder", name := "inflate", desc := "()V" } : Jvm.MethodName) prog_23_method_11_code (2 : Nat) (Option.none : Option Jvm.ClassFile.FieldType)) ∈ lw_all := lw_g (lw_at lw_m4 162 rfl) rfl
theorem q942 : (Jvm.Cond.methodLink "java/lang/AbstractStringBuilder" (125 : Nat) ({ cls := "java/lang/StringLatin1", name := "inflate", desc := "([BI[BII)V" } : Jvm.MethodName)) ∈ lw_all := lw_g (lw_at lw_m4 163 rfl) rfl
theorem q971 : (Jvm.Cond.methodLink "java/lang/AbstractStringBuilder" (197 : Nat) ({ cls := "java/lang/StringUTF16", name := "putCharSB", desc := "([BII)V" } : Jvm.MethodName)) ∈ lw_all := lw_g (lw_at lw_m4 192 rfl) rfl
theorem q990 : (Jvm.Cond.instanceMethod ({ cls := "java/lang/AbstractStringBuilder", name := "setLength", desc := "(I)V" } : Jvm.MethodName)) ∈ lw_all := lw_g (lw_at lw_m4 211 rfl) rfl
theorem q991 : (Jvm.Cond.code ({ cls := "java/lang/AbstractStringBuilder", name := "setLength", desc := "(I)V" } : Jvm.MethodName) prog_23_method_13_code (2 : Nat) (Option.none : Option Jvm.ClassFile.FieldType)) ∈ lw_all := lw_g (lw_at lw_m4 212 rfl) rfl
theorem q992 : (Jvm.Cond.methodLink "java/lang/AbstractStringBuilder" (133 : Nat) ({ cls := "java/lang/StringLatin1", name := "fillNull", desc := "([BII)V" } : Jvm.MethodName)) ∈ lw_all := lw_g (lw_at lw_m4 213 rfl) rfl
theorem q1001 : (Jvm.Cond.methodLink "java/lang/AbstractStringBuilder" (137 : Nat) ({ cls := "java/lang/StringUTF16", name := "fillNull", desc := "([BII)V" } : Jvm.MethodName)) ∈ lw_all := lw_g (lw_at lw_m4 222 rfl) rfl
theorem q1056 : (Jvm.Cond.instanceMethod ({ cls := "java/lang/AbstractStringBuilder", name := "charAt", desc := "(I)C" } : Jvm.MethodName)) ∈ lw_all := lw_g (lw_at lw_m5 37 rfl) rfl
theorem q1057 : (Jvm.Cond.code ({ cls := "java/lang/AbstractStringBuilder", name := "charAt", desc := "(I)C" } : Jvm.MethodName) prog_23_method_14_code (5 : Nat) (Option.some Jvm.ClassFile.FieldType.char)) ∈ lw_all := lw_g (lw_at lw_m5 38 rfl) rfl
theorem q1058 : (Jvm.Cond.methodLink "java/lang/AbstractStringBuilder" (138 : Nat) ({ cls := "java/lang/Math", name := "min", desc := "(II)I" } : Jvm.MethodName)) ∈ lw_all := lw_g (lw_at lw_m5 39 rfl) rfl
theorem q1059 : (Jvm.Cond.methodLink "java/lang/AbstractStringBuilder" (144 : Nat) ({ cls := "java/lang/String", name := "checkIndex", desc := "(II)V" } : Jvm.MethodName)) ∈ lw_all := lw_g (lw_at lw_m5 40 rfl) rfl
theorem q1060 : (Jvm.Cond.methodLink "java/lang/AbstractStringBuilder" (148 : Nat) ({ cls := "java/lang/StringUTF16", name := "getChar", desc := "([BI)C" } : Jvm.MethodName)) ∈ lw_all := lw_g (lw_at lw_m5 41 rfl) rfl
theorem q1148 : (Jvm.Cond.instanceMethod ({ cls := "java/lang/AbstractStringBuilder", name := "getValue", desc := "()[B" } : Jvm.MethodName)) ∈ lw_all := lw_g (lw_at lw_m5 129 rfl) rfl
theorem q1149 : (Jvm.Cond.sameMethod "java/lang/AbstractStringBuilder" "java/lang/AbstractStringBuilder" "getValue" "()[B") ∈ lw_all := lw_g (lw_at lw_m5 130 rfl) rfl
theorem q1151 : (Jvm.Cond.code ({ cls := "java/lang/AbstractStringBuilder", name := "getValue", desc := "()[B" } : Jvm.MethodName) prog_23_method_64_code (1 : Nat) (Option.some (Jvm.ClassFile.FieldType.array Jvm.ClassFile.FieldType.byte))) ∈ lw_all := lw_g (lw_at lw_m5 132 rfl) rfl
theorem q1920 : (Jvm.Cond.sameMethod "java/lang/AbstractStringBuilder" "java/lang/AbstractStringBuilder" "length" "()I") ∈ lw_all := lw_g (lw_at lw_m8 181 rfl) rfl
theorem q1921 : (Jvm.Cond.sameMethod "java/lang/AbstractStringBuilder" "java/lang/AbstractStringBuilder" "append" "(C)Ljava/lang/AbstractStringBuilder;") ∈ lw_all := lw_g (lw_at lw_m8 182 rfl) rfl
theorem q1922 : (Jvm.Cond.sameMethod "java/lang/AbstractStringBuilder" "java/lang/AbstractStringBuilder" "ensureCapacityInternal" "(I)V") ∈ lw_all := lw_g (lw_at lw_m8 183 rfl) rfl
theorem q1923 : (Jvm.Cond.sameMethod "java/lang/AbstractStringBuilder" "java/lang/AbstractStringBuilder" "newCapacity" "(I)I") ∈ lw_all := lw_g (lw_at lw_m8 184 rfl) rfl
theorem q1924 : (Jvm.Cond.sameMethod "java/lang/AbstractStringBuilder" "java/lang/AbstractStringBuilder" "inflate" "()V") ∈ lw_all := lw_g (lw_at lw_m8 185 rfl) rfl
theorem q1925 : (Jvm.Cond.sameMethod "java/lang/AbstractStringBuilder" "java/lang/AbstractStringBuilder" "setLength" "(I)V") ∈ lw_all := lw_g (lw_at lw_m8 186 rfl) rfl
theorem q1926 : (Jvm.Cond.sameMethod "java/lang/AbstractStringBuilder" "java/lang/AbstractStringBuilder" "charAt" "(I)C") ∈ lw_all := lw_g (lw_at lw_m8 187 rfl) rfl

/-! java/lang/StringBuilder -/
set_option maxRecDepth 100000
def RJ5 : String := "java/lang/StringBuilder"
def TJ5 : u_T := fun k => match k with
  | 0 => ("java/lang/AbstractStringBuilder", "value", "[B", false)
  | 1 => ("java/lang/AbstractStringBuilder", "coder", "B", false)
  | 2 => ("java/lang/AbstractStringBuilder", "maybeLatin1", "Z", false)
  | _ => ("java/lang/AbstractStringBuilder", "count", "I", false)
def tyJ5 : Nat → FieldType := fun k => match k with
  | 0 => .array .byte
  | 1 => .byte
  | 2 => .boolean
  | _ => .int
abbrev wsJ50 : List Cond := u_ws RJ5 TJ5 4
theorem nmJ5 : ∀ a, a < 4 → ∀ b, b < 4 → a ≠ b → (TJ5 a).2.1 ≠ (TJ5 b).2.1 := by decide +kernel
theorem tyJ5_ok : ∀ k, k < 4 → parseFieldDescriptor (TJ5 k).2.2.1 = some (tyJ5 k) := by decide +kernel
abbrev cJ5_init : ByteArray := prog_32_method_1_code
def yJ5_init : MethodName := ⟨RJ5, "<init>", "()V"⟩
def dkwJ5_init_0 : List UInt8 := [42, 16, 16, 183, 0, 1, 177]
abbrev dktJ5_init_0 : List UInt8 := dkwJ5_init_0 ++ []
theorem dksJ5_init_0 : cJ5_init.data.toList.drop 0 = dktJ5_init_0 := by decide +kernel
theorem dJ5_init_0 : decode cJ5_init 0 = .ok (.aload_n 0, 1) := dk_42 (dk_at dksJ5_init_0 0 rfl rfl)
theorem dJ5_init_1 : decode cJ5_init 1 = .ok (.bipush 16, 2) := dk_16 16 (dk_at dksJ5_init_0 1 rfl rfl)
theorem dJ5_init_3 : decode cJ5_init 3 = .ok (.invokespecial 1, 3) := dk_183 0 1 (dk_at dksJ5_init_0 3 rfl rfl)
theorem dJ5_init_6 : decode cJ5_init 6 = .ok (.return_, 1) := dk_177 (dk_at dksJ5_init_0 6 rfl rfl)
abbrev cJ5_length : ByteArray := prog_32_method_93_code
def yJ5_length : MethodName := ⟨RJ5, "length", "()I"⟩
theorem dJ5_length_0 : decode cJ5_length 0 = .ok (.aload_n 0, 1) := by decide +kernel
theorem dJ5_length_1 : decode cJ5_length 1 = .ok (.invokespecial 343, 3) := by decide +kernel
theorem dJ5_length_4 : decode cJ5_length 4 = .ok (.ireturn, 1) := by decide +kernel
abbrev cJ5_append : ByteArray := prog_32_method_14_code
def yJ5_append : MethodName := ⟨RJ5, "append", "(C)Ljava/lang/StringBuilder;"⟩
def dkwJ5_append_0 : List UInt8 := [42, 27, 183, 0, 50, 87, 42, 176]
abbrev dktJ5_append_0 : List UInt8 := dkwJ5_append_0 ++ []
theorem dksJ5_append_0 : cJ5_append.data.toList.drop 0 = dktJ5_append_0 := by decide +kernel
theorem dJ5_append_0 : decode cJ5_append 0 = .ok (.aload_n 0, 1) := dk_42 (dk_at dksJ5_append_0 0 rfl rfl)
theorem dJ5_append_1 : decode cJ5_append 1 = .ok (.iload_n 1, 1) := dk_27 (dk_at dksJ5_append_0 1 rfl rfl)
theorem dJ5_append_2 : decode cJ5_append 2 = .ok (.invokespecial 50, 3) := dk_183 0 50 (dk_at dksJ5_append_0 2 rfl rfl)
theorem dJ5_append_5 : decode cJ5_append 5 = .ok (.pop, 1) := dk_87 (dk_at dksJ5_append_0 5 rfl rfl)
theorem dJ5_append_6 : decode cJ5_append 6 = .ok (.aload_n 0, 1) := dk_42 (dk_at dksJ5_append_0 6 rfl rfl)
theorem dJ5_append_7 : decode cJ5_append 7 = .ok (.areturn, 1) := dk_176 (dk_at dksJ5_append_0 7 rfl rfl)
abbrev cJ5_setLength : ByteArray := prog_32_method_89_code
def yJ5_setLength : MethodName := ⟨RJ5, "setLength", "(I)V"⟩
def dkwJ5_setLength_0 : List UInt8 := [42, 27, 183, 1, 77, 177]
abbrev dktJ5_setLength_0 : List UInt8 := dkwJ5_setLength_0 ++ []
theorem dksJ5_setLength_0 : cJ5_setLength.data.toList.drop 0 = dktJ5_setLength_0 := by decide +kernel
theorem dJ5_setLength_0 : decode cJ5_setLength 0 = .ok (.aload_n 0, 1) := dk_42 (dk_at dksJ5_setLength_0 0 rfl rfl)
theorem dJ5_setLength_1 : decode cJ5_setLength 1 = .ok (.iload_n 1, 1) := dk_27 (dk_at dksJ5_setLength_0 1 rfl rfl)
theorem dJ5_setLength_2 : decode cJ5_setLength 2 = .ok (.invokespecial 333, 3) := dk_183 1 77 (dk_at dksJ5_setLength_0 2 rfl rfl)
theorem dJ5_setLength_5 : decode cJ5_setLength 5 = .ok (.return_, 1) := dk_177 (dk_at dksJ5_setLength_0 5 rfl rfl)
abbrev cJ5_charAt : ByteArray := prog_32_method_88_code
def yJ5_charAt : MethodName := ⟨RJ5, "charAt", "(I)C"⟩
def dkwJ5_charAt_0 : List UInt8 := [42, 27, 183, 1, 73, 172]
abbrev dktJ5_charAt_0 : List UInt8 := dkwJ5_charAt_0 ++ []
theorem dksJ5_charAt_0 : cJ5_charAt.data.toList.drop 0 = dktJ5_charAt_0 := by decide +kernel
theorem dJ5_charAt_0 : decode cJ5_charAt 0 = .ok (.aload_n 0, 1) := dk_42 (dk_at dksJ5_charAt_0 0 rfl rfl)
theorem dJ5_charAt_1 : decode cJ5_charAt 1 = .ok (.iload_n 1, 1) := dk_27 (dk_at dksJ5_charAt_0 1 rfl rfl)
theorem dJ5_charAt_2 : decode cJ5_charAt 2 = .ok (.invokespecial 329, 3) := dk_183 1 73 (dk_at dksJ5_charAt_0 2 rfl rfl)
theorem dJ5_charAt_5 : decode cJ5_charAt 5 = .ok (.ireturn, 1) := dk_172 (dk_at dksJ5_charAt_0 5 rfl rfl)
abbrev cJ5_toString : ByteArray := prog_32_method_42_code
def yJ5_toString : MethodName := ⟨RJ5, "toString", "()Ljava/lang/String;"⟩
def dkwJ5_toString_0 : List UInt8 := [187, 0, 18, 89, 42, 183, 0, 137, 176]
abbrev dktJ5_toString_0 : List UInt8 := dkwJ5_toString_0 ++ []
theorem dksJ5_toString_0 : cJ5_toString.data.toList.drop 0 = dktJ5_toString_0 := by decide +kernel
theorem dJ5_toString_0 : decode cJ5_toString 0 = .ok (.new 18, 3) := dk_187 0 18 (dk_at dksJ5_toString_0 0 rfl rfl)
theorem dJ5_toString_3 : decode cJ5_toString 3 = .ok (.dup, 1) := dk_89 (dk_at dksJ5_toString_0 3 rfl rfl)
theorem dJ5_toString_4 : decode cJ5_toString 4 = .ok (.aload_n 0, 1) := dk_42 (dk_at dksJ5_toString_0 4 rfl rfl)
theorem dJ5_toString_5 : decode cJ5_toString 5 = .ok (.invokespecial 137, 3) := dk_183 0 137 (dk_at dksJ5_toString_0 5 rfl rfl)
theorem dJ5_toString_8 : decode cJ5_toString 8 = .ok (.areturn, 1) := dk_176 (dk_at dksJ5_toString_0 8 rfl rfl)
theorem q68 : (Jvm.Cond.initialized "java/lang/StringBuilder") ∈ lw_all := lw_g (lw_at lw_m1 9 rfl) rfl
theorem q213 : (Jvm.Cond.instantiable "java/lang/StringBuilder" (4 : Nat)) ∈ lw_all := lw_g (lw_at lw_m1 154 rfl) rfl
theorem q215 : (Jvm.Cond.instanceMethod ({ cls := "java/lang/StringBuilder", name := "<init>", desc := "()V" } : Jvm.MethodName)) ∈ lw_all := lw_g (lw_at lw_m1 156 rfl) rfl
theorem q216 : (Jvm.Cond.code ({ cls := "java/lang/StringBuilder", name := "<init>", desc := "()V" } : Jvm.MethodName) prog_32_method_1_code (1 : Nat) (Option.none : Option Jvm.ClassFile.FieldType)) ∈ lw_all := lw_g (lw_at lw_m1 157 rfl) rfl
theorem q217 : (Jvm.Cond.methodLink "java/lang/StringBuilder" (1 : Nat) ({ cls := "java/lang/AbstractStringBuilder", name := "<init>", desc := "(I)V" } : Jvm.MethodName)) ∈ lw_all := lw_g (lw_at lw_m1 158 rfl) rfl
theorem q235 : (Jvm.Cond.lays "java/lang/StringBuilder" "java/lang/AbstractStringBuilder" "value" "[B") ∈ lw_all := lw_g (lw_at lw_m1 176 rfl) rfl
theorem q237 : (Jvm.Cond.lays "java/lang/StringBuilder" "java/lang/AbstractStringBuilder" "coder" "B") ∈ lw_all := lw_g (lw_at lw_m1 178 rfl) rfl
theorem q239 : (Jvm.Cond.lays "java/lang/StringBuilder" "java/lang/AbstractStringBuilder" "maybeLatin1" "Z") ∈ lw_all := lw_g (lw_at lw_m1 180 rfl) rfl
theorem q241 : (Jvm.Cond.lays "java/lang/StringBuilder" "java/lang/AbstractStringBuilder" "count" "I") ∈ lw_all := lw_g (lw_at lw_m1 182 rfl) rfl
theorem q243 : (Jvm.Cond.superclass "java/lang/StringBuilder" "java/lang/AbstractStringBuilder") ∈ lw_all := lw_g (lw_at lw_m1 184 rfl) rfl
theorem q421 : (Jvm.Cond.selects "java/lang/StringBuilder" ({ cls := "java/lang/Object", name := "getClass", desc := "()Ljava/lang/Class;" } : Jvm.MethodName) ({ cls := "java/lang/Object", name := "getClass", desc := "()Ljava/lang/Class;" } : Jvm.MethodName)) ∈ lw_all := lw_g (lw_at lw_m2 122 rfl) rfl
theorem q897 : (Jvm.Cond.instanceMethod ({ cls := "java/lang/StringBuilder", name := "length", desc := "()I" } : Jvm.MethodName)) ∈ lw_all := lw_g (lw_at lw_m4 118 rfl) rfl
theorem q898 : (Jvm.Cond.selects "java/lang/StringBuilder" ({ cls := "java/lang/StringBuilder", name := "length", desc := "()I" } : Jvm.MethodName) ({ cls := "java/lang/StringBuilder", name := "length", desc := "()I" } : Jvm.MethodName)) ∈ lw_all := lw_g (lw_at lw_m4 119 rfl) rfl
theorem q899 : (Jvm.Cond.code ({ cls := "java/lang/StringBuilder", name := "length", desc := "()I" } : Jvm.MethodName) prog_32_method_93_code (1 : Nat) (Option.some Jvm.ClassFile.FieldType.int)) ∈ lw_all := lw_g (lw_at lw_m4 120 rfl) rfl
theorem q900 : (Jvm.Cond.methodLink "java/lang/StringBuilder" (343 : Nat) ({ cls := "java/lang/AbstractStringBuilder", name := "length", desc := "()I" } : Jvm.MethodName)) ∈ lw_all := lw_g (lw_at lw_m4 121 rfl) rfl
theorem q904 : (Jvm.Cond.instanceMethod ({ cls := "java/lang/StringBuilder", name := "append", desc := "(C)Ljava/lang/StringBuilder;" } : Jvm.MethodName)) ∈ lw_all := lw_g (lw_at lw_m4 125 rfl) rfl
theorem q905 : (Jvm.Cond.selects "java/lang/StringBuilder" ({ cls := "java/lang/StringBuilder", name := "append", desc := "(C)Ljava/lang/StringBuilder;" } : Jvm.MethodName) ({ cls := "java/lang/StringBuilder", name := "append", desc := "(C)Ljava/lang/StringBuilder;" } : Jvm.MethodName)) ∈ lw_all := lw_g (lw_at lw_m4 126 rfl) rfl
theorem q906 : (Jvm.Cond.code ({ cls := "java/lang/StringBuilder", name := "append", desc := "(C)Ljava/lang/StringBuilder;" } : Jvm.MethodName) prog_32_method_14_code (2 : Nat) (Option.some (Jvm.ClassFile.FieldType.object "java/lang/StringBuilder"))) ∈ lw_all := lw_g (lw_at lw_m4 127 rfl) rfl
theorem q907 : (Jvm.Cond.methodLink "java/lang/StringBuilder" (50 : Nat) ({ cls := "java/lang/AbstractStringBuilder", name := "append", desc := "(C)Ljava/lang/AbstractStringBuilder;" } : Jvm.MethodName)) ∈ lw_all := lw_g (lw_at lw_m4 128 rfl) rfl
theorem q933 : (Jvm.Cond.selects "java/lang/StringBuilder" ({ cls := "java/lang/AbstractStringBuilder", name := "isLatin1", desc := "()Z" } : Jvm.MethodName) ({ cls := "java/lang/AbstractStringBuilder", name := "isLatin1", desc := "()Z" } : Jvm.MethodName)) ∈ lw_all := lw_g (lw_at lw_m4 154 rfl) rfl
theorem q986 : (Jvm.Cond.instanceMethod ({ cls := "java/lang/StringBuilder", name := "setLength", desc := "(I)V" } : Jvm.MethodName)) ∈ lw_all := lw_g (lw_at lw_m4 207 rfl) rfl
theorem q987 : (Jvm.Cond.selects "java/lang/StringBuilder" ({ cls := "java/lang/StringBuilder", name := "setLength", desc := "(I)V" } : Jvm.MethodName) ({ cls := "java/lang/StringBuilder", name := "setLength", desc := "(I)V" } : Jvm.MethodName)) ∈ lw_all := lw_g (lw_at lw_m4 208 rfl) rfl
theorem q988 : (Jvm.Cond.code ({ cls := "java/lang/StringBuilder", name := "setLength", desc := "(I)V" } : Jvm.MethodName) prog_32_method_89_code (2 : Nat) (Option.none : Option Jvm.ClassFile.FieldType)) ∈ lw_all := lw_g (lw_at lw_m4 209 rfl) rfl
theorem q989 : (Jvm.Cond.methodLink "java/lang/StringBuilder" (333 : Nat) ({ cls := "java/lang/AbstractStringBuilder", name := "setLength", desc := "(I)V" } : Jvm.MethodName)) ∈ lw_all := lw_g (lw_at lw_m4 210 rfl) rfl
theorem q1052 : (Jvm.Cond.instanceMethod ({ cls := "java/lang/StringBuilder", name := "charAt", desc := "(I)C" } : Jvm.MethodName)) ∈ lw_all := lw_g (lw_at lw_m5 33 rfl) rfl
theorem q1053 : (Jvm.Cond.selects "java/lang/StringBuilder" ({ cls := "java/lang/StringBuilder", name := "charAt", desc := "(I)C" } : Jvm.MethodName) ({ cls := "java/lang/StringBuilder", name := "charAt", desc := "(I)C" } : Jvm.MethodName)) ∈ lw_all := lw_g (lw_at lw_m5 34 rfl) rfl
theorem q1054 : (Jvm.Cond.code ({ cls := "java/lang/StringBuilder", name := "charAt", desc := "(I)C" } : Jvm.MethodName) prog_32_method_88_code (2 : Nat) (Option.some Jvm.ClassFile.FieldType.char)) ∈ lw_all := lw_g (lw_at lw_m5 35 rfl) rfl
theorem q1055 : (Jvm.Cond.methodLink "java/lang/StringBuilder" (329 : Nat) ({ cls := "java/lang/AbstractStringBuilder", name := "charAt", desc := "(I)C" } : Jvm.MethodName)) ∈ lw_all := lw_g (lw_at lw_m5 36 rfl) rfl
theorem q1129 : (Jvm.Cond.castable "java/lang/StringBuilder" "java/lang/CharSequence") ∈ lw_tbl := lw_at lw_m5 110 rfl
theorem q1130 : (Jvm.Cond.selects "java/lang/StringBuilder" ({ cls := "java/lang/CharSequence", name := "charAt", desc := "(I)C" } : Jvm.MethodName) ({ cls := "java/lang/StringBuilder", name := "charAt", desc := "(I)C" } : Jvm.MethodName)) ∈ lw_all := lw_g (lw_at lw_m5 111 rfl) rfl
theorem q1131 : (Jvm.Cond.unhidden "java/lang/StringBuilder" "charAt" "(I)C") ∈ lw_tbl := lw_at lw_m5 112 rfl
theorem q1132 : (Jvm.Cond.publicMethod ({ cls := "java/lang/StringBuilder", name := "charAt", desc := "(I)C" } : Jvm.MethodName)) ∈ lw_tbl := lw_at lw_m5 113 rfl
theorem q1135 : (Jvm.Cond.instanceMethod ({ cls := "java/lang/StringBuilder", name := "toString", desc := "()Ljava/lang/String;" } : Jvm.MethodName)) ∈ lw_all := lw_g (lw_at lw_m5 116 rfl) rfl
theorem q1136 : (Jvm.Cond.selects "java/lang/StringBuilder" ({ cls := "java/lang/StringBuilder", name := "toString", desc := "()Ljava/lang/String;" } : Jvm.MethodName) ({ cls := "java/lang/StringBuilder", name := "toString", desc := "()Ljava/lang/String;" } : Jvm.MethodName)) ∈ lw_all := lw_g (lw_at lw_m5 117 rfl) rfl
theorem q1137 : (Jvm.Cond.code ({ cls := "java/lang/StringBuilder", name := "toString", desc := "()Ljava/lang/String;" } : Jvm.MethodName) prog_32_method_42_code (1 : Nat) (Option.some (Jvm.ClassFile.FieldType.object "java/lang/String"))) ∈ lw_all := lw_g (lw_at lw_m5 118 rfl) rfl
theorem q1138 : (Jvm.Cond.classLink "java/lang/StringBuilder" (18 : Nat) "java/lang/String") ∈ lw_all := lw_g (lw_at lw_m5 119 rfl) rfl
theorem q1140 : (Jvm.Cond.methodLink "java/lang/StringBuilder" (137 : Nat) ({ cls := "java/lang/String", name := "<init>", desc := "(Ljava/lang/StringBuilder;)V" } : Jvm.MethodName)) ∈ lw_all := lw_g (lw_at lw_m5 121 rfl) rfl
theorem q1150 : (Jvm.Cond.selects "java/lang/StringBuilder" ({ cls := "java/lang/AbstractStringBuilder", name := "getValue", desc := "()[B" } : Jvm.MethodName) ({ cls := "java/lang/AbstractStringBuilder", name := "getValue", desc := "()[B" } : Jvm.MethodName)) ∈ lw_all := lw_g (lw_at lw_m5 131 rfl) rfl
theorem q1927 : (Jvm.Cond.selects "java/lang/StringBuilder" ({ cls := "java/lang/AbstractStringBuilder", name := "length", desc := "()I" } : Jvm.MethodName) ({ cls := "java/lang/StringBuilder", name := "length", desc := "()I" } : Jvm.MethodName)) ∈ lw_all := lw_g (lw_at lw_m8 188 rfl) rfl
theorem q1947 : (Jvm.Cond.castable "java/lang/StringBuilder" "java/lang/Object") ∈ lw_tbl := lw_at lw_m8 208 rfl
theorem in_J5 : ∀ w ∈ wsJ50, w ∈ lw_all := lw_in wsJ50 [235, 237, 239, 241] (by decide +kernel) (by decide +kernel)

/-! java/lang/String -/
set_option maxRecDepth 100000
def RJ6 : String := "java/lang/String"
def TJ6 : u_T := fun k => match k with
  | 0 => ("java/lang/String", "value", "[B", true)
  | 1 => ("java/lang/String", "coder", "B", true)
  | 2 => ("java/lang/String", "hash", "I", false)
  | _ => ("java/lang/String", "hashIsZero", "Z", false)
def tyJ6 : Nat → FieldType := fun k => match k with
  | 0 => .array .byte
  | 1 => .byte
  | 2 => .int
  | _ => .boolean
abbrev wsJ60 : List Cond := u_ws RJ6 TJ6 4
theorem nmJ6 : ∀ a, a < 4 → ∀ b, b < 4 → a ≠ b → (TJ6 a).2.1 ≠ (TJ6 b).2.1 := by decide +kernel
theorem tyJ6_ok : ∀ k, k < 4 → parseFieldDescriptor (TJ6 k).2.2.1 = some (tyJ6 k) := by decide +kernel
abbrev cJ6_checkBoundsOffCount : ByteArray := prog_31_method_157_code
def yJ6_checkBoundsOffCount : MethodName := ⟨RJ6, "checkBoundsOffCount", "(III)I"⟩
def dkwJ6_checkBoundsOffCount_0 : List UInt8 := [26, 27, 28, 178, 4, 29, 184, 4, 41, 172]
abbrev dktJ6_checkBoundsOffCount_0 : List UInt8 := dkwJ6_checkBoundsOffCount_0 ++ []
theorem dksJ6_checkBoundsOffCount_0 : cJ6_checkBoundsOffCount.data.toList.drop 0 = dktJ6_checkBoundsOffCount_0 := by decide +kernel
theorem dJ6_checkBoundsOffCount_0 : decode cJ6_checkBoundsOffCount 0 = .ok (.iload_n 0, 1) := dk_26 (dk_at dksJ6_checkBoundsOffCount_0 0 rfl rfl)
theorem dJ6_checkBoundsOffCount_1 : decode cJ6_checkBoundsOffCount 1 = .ok (.iload_n 1, 1) := dk_27 (dk_at dksJ6_checkBoundsOffCount_0 1 rfl rfl)
theorem dJ6_checkBoundsOffCount_2 : decode cJ6_checkBoundsOffCount 2 = .ok (.iload_n 2, 1) := dk_28 (dk_at dksJ6_checkBoundsOffCount_0 2 rfl rfl)
theorem dJ6_checkBoundsOffCount_3 : decode cJ6_checkBoundsOffCount 3 = .ok (.getstatic 1053, 3) := dk_178 4 29 (dk_at dksJ6_checkBoundsOffCount_0 3 rfl rfl)
theorem dJ6_checkBoundsOffCount_6 : decode cJ6_checkBoundsOffCount 6 = .ok (.invokestatic 1065, 3) := dk_184 4 41 (dk_at dksJ6_checkBoundsOffCount_0 6 rfl rfl)
theorem dJ6_checkBoundsOffCount_9 : decode cJ6_checkBoundsOffCount 9 = .ok (.ireturn, 1) := dk_172 (dk_at dksJ6_checkBoundsOffCount_0 9 rfl rfl)
abbrev cJ6_checkIndex : ByteArray := prog_31_method_155_code
def yJ6_checkIndex : MethodName := ⟨RJ6, "checkIndex", "(II)V"⟩
def dkwJ6_checkIndex_0 : List UInt8 := [26, 27, 178, 4, 29, 184, 4, 35, 87, 177]
abbrev dktJ6_checkIndex_0 : List UInt8 := dkwJ6_checkIndex_0 ++ []
theorem dksJ6_checkIndex_0 : cJ6_checkIndex.data.toList.drop 0 = dktJ6_checkIndex_0 := by decide +kernel
theorem dJ6_checkIndex_0 : decode cJ6_checkIndex 0 = .ok (.iload_n 0, 1) := dk_26 (dk_at dksJ6_checkIndex_0 0 rfl rfl)
theorem dJ6_checkIndex_1 : decode cJ6_checkIndex 1 = .ok (.iload_n 1, 1) := dk_27 (dk_at dksJ6_checkIndex_0 1 rfl rfl)
theorem dJ6_checkIndex_2 : decode cJ6_checkIndex 2 = .ok (.getstatic 1053, 3) := dk_178 4 29 (dk_at dksJ6_checkIndex_0 2 rfl rfl)
theorem dJ6_checkIndex_5 : decode cJ6_checkIndex 5 = .ok (.invokestatic 1059, 3) := dk_184 4 35 (dk_at dksJ6_checkIndex_0 5 rfl rfl)
theorem dJ6_checkIndex_8 : decode cJ6_checkIndex 8 = .ok (.pop, 1) := dk_87 (dk_at dksJ6_checkIndex_0 8 rfl rfl)
theorem dJ6_checkIndex_9 : decode cJ6_checkIndex 9 = .ok (.return_, 1) := dk_177 (dk_at dksJ6_checkIndex_0 9 rfl rfl)
abbrev cJ6_charAt : ByteArray := prog_31_method_56_code
def yJ6_charAt : MethodName := ⟨RJ6, "charAt", "(I)C"⟩
def dkwJ6_charAt_1 : List UInt8 := [172]
abbrev dktJ6_charAt_1 : List UInt8 := dkwJ6_charAt_1 ++ []
def dkwJ6_charAt_0 : List UInt8 := [42, 182, 1, 236, 153, 0, 12, 42, 180, 0, 9, 27, 184, 1, 239, 172, 42, 180, 0, 9, 27, 184, 1, 242]
abbrev dktJ6_charAt_0 : List UInt8 := dkwJ6_charAt_0 ++ dktJ6_charAt_1
theorem dksJ6_charAt_0 : cJ6_charAt.data.toList.drop 0 = dktJ6_charAt_0 := by decide +kernel
theorem dksJ6_charAt_1 : cJ6_charAt.data.toList.drop 24 = dktJ6_charAt_1 := dk_seg dksJ6_charAt_0 24 rfl rfl
theorem dJ6_charAt_0 : decode cJ6_charAt 0 = .ok (.aload_n 0, 1) := dk_42 (dk_at dksJ6_charAt_0 0 rfl rfl)
theorem dJ6_charAt_1 : decode cJ6_charAt 1 = .ok (.invokevirtual 492, 3) := dk_182 1 236 (dk_at dksJ6_charAt_0 1 rfl rfl)
theorem dJ6_charAt_4 : decode cJ6_charAt 4 = .ok (.ifCond .eq 12, 3) := dk_153 0 12 (dk_at dksJ6_charAt_0 4 rfl rfl)
theorem dJ6_charAt_7 : decode cJ6_charAt 7 = .ok (.aload_n 0, 1) := dk_42 (dk_at dksJ6_charAt_0 7 rfl rfl)
theorem dJ6_charAt_8 : decode cJ6_charAt 8 = .ok (.getfield 9, 3) := dk_180 0 9 (dk_at dksJ6_charAt_0 8 rfl rfl)
theorem dJ6_charAt_11 : decode cJ6_charAt 11 = .ok (.iload_n 1, 1) := dk_27 (dk_at dksJ6_charAt_0 11 rfl rfl)
theorem dJ6_charAt_12 : decode cJ6_charAt 12 = .ok (.invokestatic 495, 3) := dk_184 1 239 (dk_at dksJ6_charAt_0 12 rfl rfl)
theorem dJ6_charAt_15 : decode cJ6_charAt 15 = .ok (.ireturn, 1) := dk_172 (dk_at dksJ6_charAt_0 15 rfl rfl)
theorem dJ6_charAt_16 : decode cJ6_charAt 16 = .ok (.aload_n 0, 1) := dk_42 (dk_at dksJ6_charAt_0 16 rfl rfl)
theorem dJ6_charAt_17 : decode cJ6_charAt 17 = .ok (.getfield 9, 3) := dk_180 0 9 (dk_at dksJ6_charAt_0 17 rfl rfl)
theorem dJ6_charAt_20 : decode cJ6_charAt 20 = .ok (.iload_n 1, 1) := dk_27 (dk_at dksJ6_charAt_0 20 rfl rfl)
theorem dJ6_charAt_21 : decode cJ6_charAt 21 = .ok (.invokestatic 498, 3) := dk_184 1 242 (dk_at dksJ6_charAt_0 21 rfl rfl)
theorem dJ6_charAt_24 : decode cJ6_charAt 24 = .ok (.ireturn, 1) := dk_172 (dk_at dksJ6_charAt_1 0 rfl rfl)
abbrev cJ6_isLatin1 : ByteArray := prog_31_method_154_code
def yJ6_isLatin1 : MethodName := ⟨RJ6, "isLatin1", "()Z"⟩
def dkwJ6_isLatin1_0 : List UInt8 := [178, 0, 38, 153, 0, 14, 42, 180, 0, 15, 154, 0, 7, 4, 167, 0, 4, 3, 172]
abbrev dktJ6_isLatin1_0 : List UInt8 := dkwJ6_isLatin1_0 ++ []
theorem dksJ6_isLatin1_0 : cJ6_isLatin1.data.toList.drop 0 = dktJ6_isLatin1_0 := by decide +kernel
theorem dJ6_isLatin1_0 : decode cJ6_isLatin1 0 = .ok (.getstatic 38, 3) := dk_178 0 38 (dk_at dksJ6_isLatin1_0 0 rfl rfl)
theorem dJ6_isLatin1_3 : decode cJ6_isLatin1 3 = .ok (.ifCond .eq 14, 3) := dk_153 0 14 (dk_at dksJ6_isLatin1_0 3 rfl rfl)
theorem dJ6_isLatin1_6 : decode cJ6_isLatin1 6 = .ok (.aload_n 0, 1) := dk_42 (dk_at dksJ6_isLatin1_0 6 rfl rfl)
theorem dJ6_isLatin1_7 : decode cJ6_isLatin1 7 = .ok (.getfield 15, 3) := dk_180 0 15 (dk_at dksJ6_isLatin1_0 7 rfl rfl)
theorem dJ6_isLatin1_10 : decode cJ6_isLatin1 10 = .ok (.ifCond .ne 7, 3) := dk_154 0 7 (dk_at dksJ6_isLatin1_0 10 rfl rfl)
theorem dJ6_isLatin1_13 : decode cJ6_isLatin1 13 = .ok (.iconst 1, 1) := dk_4 (dk_at dksJ6_isLatin1_0 13 rfl rfl)
theorem dJ6_isLatin1_14 : decode cJ6_isLatin1 14 = .ok (.goto 4, 3) := dk_167 0 4 (dk_at dksJ6_isLatin1_0 14 rfl rfl)
theorem dJ6_isLatin1_17 : decode cJ6_isLatin1 17 = .ok (.iconst 0, 1) := dk_3 (dk_at dksJ6_isLatin1_0 17 rfl rfl)
theorem dJ6_isLatin1_18 : decode cJ6_isLatin1 18 = .ok (.ireturn, 1) := dk_172 (dk_at dksJ6_isLatin1_0 18 rfl rfl)
abbrev cJ6_init : ByteArray := prog_31_method_53_code
def yJ6_init : MethodName := ⟨RJ6, "<init>", "(Ljava/lang/StringBuilder;)V"⟩
def dkwJ6_init_0 : List UInt8 := [42, 43, 1, 183, 1, 233, 177]
abbrev dktJ6_init_0 : List UInt8 := dkwJ6_init_0 ++ []
theorem dksJ6_init_0 : cJ6_init.data.toList.drop 0 = dktJ6_init_0 := by decide +kernel
theorem dJ6_init_0 : decode cJ6_init 0 = .ok (.aload_n 0, 1) := dk_42 (dk_at dksJ6_init_0 0 rfl rfl)
theorem dJ6_init_1 : decode cJ6_init 1 = .ok (.aload_n 1, 1) := dk_43 (dk_at dksJ6_init_0 1 rfl rfl)
theorem dJ6_init_2 : decode cJ6_init 2 = .ok (.aconst_null, 1) := dk_1 (dk_at dksJ6_init_0 2 rfl rfl)
theorem dJ6_init_3 : decode cJ6_init 3 = .ok (.invokespecial 489, 3) := dk_183 1 233 (dk_at dksJ6_init_0 3 rfl rfl)
theorem dJ6_init_6 : decode cJ6_init 6 = .ok (.return_, 1) := dk_177 (dk_at dksJ6_init_0 6 rfl rfl)
abbrev cJ6_init_2 : ByteArray := prog_31_method_150_code
def yJ6_init_2 : MethodName := ⟨RJ6, "<init>", "(Ljava/lang/AbstractStringBuilder;Ljava/lang/Void;)V"⟩
def dkwJ6_init_2_4 : List UInt8 := [181, 0, 9, 177]
abbrev dktJ6_init_2_4 : List UInt8 := dkwJ6_init_2_4 ++ []
def dkwJ6_init_2_3 : List UInt8 := [184, 0, 47, 181, 0, 15, 177, 42, 4, 181, 0, 15, 42, 45, 3, 21, 4, 4, 120, 184, 0, 54]
abbrev dktJ6_init_2_3 : List UInt8 := dkwJ6_init_2_3 ++ dktJ6_init_2_4
def dkwJ6_init_2_2 : List UInt8 := [180, 4, 24, 153, 0, 28, 42, 45, 3, 21, 4, 184, 4, 27, 181, 0, 9, 42, 42, 180, 0, 9, 21, 4]
abbrev dktJ6_init_2_2 : List UInt8 := dkwJ6_init_2_2 ++ dktJ6_init_2_3
def dkwJ6_init_2_1 : List UInt8 := [181, 0, 15, 42, 45, 3, 21, 4, 184, 0, 54, 181, 0, 9, 167, 0, 59, 178, 0, 38, 153, 0, 35, 43]
abbrev dktJ6_init_2_1 : List UInt8 := dkwJ6_init_2_1 ++ dktJ6_init_2_2
def dkwJ6_init_2_0 : List UInt8 := [42, 183, 0, 1, 43, 182, 2, 40, 78, 43, 182, 2, 37, 54, 4, 43, 182, 4, 23, 153, 0, 22, 42, 3]
abbrev dktJ6_init_2_0 : List UInt8 := dkwJ6_init_2_0 ++ dktJ6_init_2_1
theorem dksJ6_init_2_0 : cJ6_init_2.data.toList.drop 0 = dktJ6_init_2_0 := by decide +kernel
theorem dksJ6_init_2_1 : cJ6_init_2.data.toList.drop 24 = dktJ6_init_2_1 := dk_seg dksJ6_init_2_0 24 rfl rfl
theorem dksJ6_init_2_2 : cJ6_init_2.data.toList.drop 48 = dktJ6_init_2_2 := dk_seg dksJ6_init_2_1 24 rfl rfl
theorem dksJ6_init_2_3 : cJ6_init_2.data.toList.drop 72 = dktJ6_init_2_3 := dk_seg dksJ6_init_2_2 24 rfl rfl
theorem dksJ6_init_2_4 : cJ6_init_2.data.toList.drop 94 = dktJ6_init_2_4 := dk_seg dksJ6_init_2_3 22 rfl rfl
theorem dJ6_init_2_0 : decode cJ6_init_2 0 = .ok (.aload_n 0, 1) := dk_42 (dk_at dksJ6_init_2_0 0 rfl rfl)
theorem dJ6_init_2_1 : decode cJ6_init_2 1 = .ok (.invokespecial 1, 3) := dk_183 0 1 (dk_at dksJ6_init_2_0 1 rfl rfl)
theorem dJ6_init_2_4 : decode cJ6_init_2 4 = .ok (.aload_n 1, 1) := dk_43 (dk_at dksJ6_init_2_0 4 rfl rfl)
theorem dJ6_init_2_5 : decode cJ6_init_2 5 = .ok (.invokevirtual 552, 3) := dk_182 2 40 (dk_at dksJ6_init_2_0 5 rfl rfl)
theorem dJ6_init_2_8 : decode cJ6_init_2 8 = .ok (.astore_n 3, 1) := dk_78 (dk_at dksJ6_init_2_0 8 rfl rfl)
theorem dJ6_init_2_9 : decode cJ6_init_2 9 = .ok (.aload_n 1, 1) := dk_43 (dk_at dksJ6_init_2_0 9 rfl rfl)
theorem dJ6_init_2_10 : decode cJ6_init_2 10 = .ok (.invokevirtual 549, 3) := dk_182 2 37 (dk_at dksJ6_init_2_0 10 rfl rfl)
theorem dJ6_init_2_13 : decode cJ6_init_2 13 = .ok (.istore 4, 2) := dk_54 4 (dk_at dksJ6_init_2_0 13 rfl rfl)
theorem dJ6_init_2_15 : decode cJ6_init_2 15 = .ok (.aload_n 1, 1) := dk_43 (dk_at dksJ6_init_2_0 15 rfl rfl)
theorem dJ6_init_2_16 : decode cJ6_init_2 16 = .ok (.invokevirtual 1047, 3) := dk_182 4 23 (dk_at dksJ6_init_2_0 16 rfl rfl)
theorem dJ6_init_2_19 : decode cJ6_init_2 19 = .ok (.ifCond .eq 22, 3) := dk_153 0 22 (dk_at dksJ6_init_2_0 19 rfl rfl)
theorem dJ6_init_2_22 : decode cJ6_init_2 22 = .ok (.aload_n 0, 1) := dk_42 (dk_at dksJ6_init_2_0 22 rfl rfl)
theorem dJ6_init_2_23 : decode cJ6_init_2 23 = .ok (.iconst 0, 1) := dk_3 (dk_at dksJ6_init_2_0 23 rfl rfl)
theorem dJ6_init_2_24 : decode cJ6_init_2 24 = .ok (.putfield 15, 3) := dk_181 0 15 (dk_at dksJ6_init_2_1 0 rfl rfl)
theorem dJ6_init_2_27 : decode cJ6_init_2 27 = .ok (.aload_n 0, 1) := dk_42 (dk_at dksJ6_init_2_1 3 rfl rfl)
theorem dJ6_init_2_28 : decode cJ6_init_2 28 = .ok (.aload_n 3, 1) := dk_45 (dk_at dksJ6_init_2_1 4 rfl rfl)
theorem dJ6_init_2_29 : decode cJ6_init_2 29 = .ok (.iconst 0, 1) := dk_3 (dk_at dksJ6_init_2_1 5 rfl rfl)
theorem dJ6_init_2_30 : decode cJ6_init_2 30 = .ok (.iload 4, 2) := dk_21 4 (dk_at dksJ6_init_2_1 6 rfl rfl)
theorem dJ6_init_2_32 : decode cJ6_init_2 32 = .ok (.invokestatic 54, 3) := dk_184 0 54 (dk_at dksJ6_init_2_1 8 rfl rfl)
theorem dJ6_init_2_35 : decode cJ6_init_2 35 = .ok (.putfield 9, 3) := dk_181 0 9 (dk_at dksJ6_init_2_1 11 rfl rfl)
theorem dJ6_init_2_38 : decode cJ6_init_2 38 = .ok (.goto 59, 3) := dk_167 0 59 (dk_at dksJ6_init_2_1 14 rfl rfl)
theorem dJ6_init_2_41 : decode cJ6_init_2 41 = .ok (.getstatic 38, 3) := dk_178 0 38 (dk_at dksJ6_init_2_1 17 rfl rfl)
theorem dJ6_init_2_44 : decode cJ6_init_2 44 = .ok (.ifCond .eq 35, 3) := dk_153 0 35 (dk_at dksJ6_init_2_1 20 rfl rfl)
theorem dJ6_init_2_47 : decode cJ6_init_2 47 = .ok (.aload_n 1, 1) := dk_43 (dk_at dksJ6_init_2_1 23 rfl rfl)
theorem dJ6_init_2_48 : decode cJ6_init_2 48 = .ok (.getfield 1048, 3) := dk_180 4 24 (dk_at dksJ6_init_2_2 0 rfl rfl)
theorem dJ6_init_2_51 : decode cJ6_init_2 51 = .ok (.ifCond .eq 28, 3) := dk_153 0 28 (dk_at dksJ6_init_2_2 3 rfl rfl)
theorem dJ6_init_2_54 : decode cJ6_init_2 54 = .ok (.aload_n 0, 1) := dk_42 (dk_at dksJ6_init_2_2 6 rfl rfl)
theorem dJ6_init_2_55 : decode cJ6_init_2 55 = .ok (.aload_n 3, 1) := dk_45 (dk_at dksJ6_init_2_2 7 rfl rfl)
theorem dJ6_init_2_56 : decode cJ6_init_2 56 = .ok (.iconst 0, 1) := dk_3 (dk_at dksJ6_init_2_2 8 rfl rfl)
theorem dJ6_init_2_57 : decode cJ6_init_2 57 = .ok (.iload 4, 2) := dk_21 4 (dk_at dksJ6_init_2_2 9 rfl rfl)
theorem dJ6_init_2_59 : decode cJ6_init_2 59 = .ok (.invokestatic 1051, 3) := dk_184 4 27 (dk_at dksJ6_init_2_2 11 rfl rfl)
theorem dJ6_init_2_62 : decode cJ6_init_2 62 = .ok (.putfield 9, 3) := dk_181 0 9 (dk_at dksJ6_init_2_2 14 rfl rfl)
theorem dJ6_init_2_65 : decode cJ6_init_2 65 = .ok (.aload_n 0, 1) := dk_42 (dk_at dksJ6_init_2_2 17 rfl rfl)
theorem dJ6_init_2_66 : decode cJ6_init_2 66 = .ok (.aload_n 0, 1) := dk_42 (dk_at dksJ6_init_2_2 18 rfl rfl)
theorem dJ6_init_2_67 : decode cJ6_init_2 67 = .ok (.getfield 9, 3) := dk_180 0 9 (dk_at dksJ6_init_2_2 19 rfl rfl)
theorem dJ6_init_2_70 : decode cJ6_init_2 70 = .ok (.iload 4, 2) := dk_21 4 (dk_at dksJ6_init_2_2 22 rfl rfl)
theorem dJ6_init_2_72 : decode cJ6_init_2 72 = .ok (.invokestatic 47, 3) := dk_184 0 47 (dk_at dksJ6_init_2_3 0 rfl rfl)
theorem dJ6_init_2_75 : decode cJ6_init_2 75 = .ok (.putfield 15, 3) := dk_181 0 15 (dk_at dksJ6_init_2_3 3 rfl rfl)
theorem dJ6_init_2_78 : decode cJ6_init_2 78 = .ok (.return_, 1) := dk_177 (dk_at dksJ6_init_2_3 6 rfl rfl)
theorem dJ6_init_2_79 : decode cJ6_init_2 79 = .ok (.aload_n 0, 1) := dk_42 (dk_at dksJ6_init_2_3 7 rfl rfl)
theorem dJ6_init_2_80 : decode cJ6_init_2 80 = .ok (.iconst 1, 1) := dk_4 (dk_at dksJ6_init_2_3 8 rfl rfl)
theorem dJ6_init_2_81 : decode cJ6_init_2 81 = .ok (.putfield 15, 3) := dk_181 0 15 (dk_at dksJ6_init_2_3 9 rfl rfl)
theorem dJ6_init_2_84 : decode cJ6_init_2 84 = .ok (.aload_n 0, 1) := dk_42 (dk_at dksJ6_init_2_3 12 rfl rfl)
theorem dJ6_init_2_85 : decode cJ6_init_2 85 = .ok (.aload_n 3, 1) := dk_45 (dk_at dksJ6_init_2_3 13 rfl rfl)
theorem dJ6_init_2_86 : decode cJ6_init_2 86 = .ok (.iconst 0, 1) := dk_3 (dk_at dksJ6_init_2_3 14 rfl rfl)
theorem dJ6_init_2_87 : decode cJ6_init_2 87 = .ok (.iload 4, 2) := dk_21 4 (dk_at dksJ6_init_2_3 15 rfl rfl)
theorem dJ6_init_2_89 : decode cJ6_init_2 89 = .ok (.iconst 1, 1) := dk_4 (dk_at dksJ6_init_2_3 17 rfl rfl)
theorem dJ6_init_2_90 : decode cJ6_init_2 90 = .ok (.ishl, 1) := dk_120 (dk_at dksJ6_init_2_3 18 rfl rfl)
theorem dJ6_init_2_91 : decode cJ6_init_2 91 = .ok (.invokestatic 54, 3) := dk_184 0 54 (dk_at dksJ6_init_2_3 19 rfl rfl)
theorem dJ6_init_2_94 : decode cJ6_init_2 94 = .ok (.putfield 9, 3) := dk_181 0 9 (dk_at dksJ6_init_2_4 0 rfl rfl)
theorem dJ6_init_2_97 : decode cJ6_init_2 97 = .ok (.return_, 1) := dk_177 (dk_at dksJ6_init_2_4 3 rfl rfl)
abbrev cJ6_hashCode : ByteArray := prog_31_method_78_code
def yJ6_hashCode : MethodName := ⟨RJ6, "hashCode", "()I"⟩
def dkwJ6_hashCode_2 : List UInt8 := [181, 0, 23, 167, 0, 8, 42, 27, 181, 0, 19, 27, 172]
abbrev dktJ6_hashCode_2 : List UInt8 := dkwJ6_hashCode_2 ++ []
def dkwJ6_hashCode_1 : List UInt8 := [180, 0, 9, 184, 2, 116, 167, 0, 10, 42, 180, 0, 9, 184, 2, 120, 60, 27, 154, 0, 11, 42, 4]
abbrev dktJ6_hashCode_1 : List UInt8 := dkwJ6_hashCode_1 ++ dktJ6_hashCode_2
def dkwJ6_hashCode_0 : List UInt8 := [42, 180, 0, 19, 60, 27, 154, 0, 52, 42, 180, 0, 23, 154, 0, 45, 42, 182, 1, 236, 153, 0, 13, 42]
abbrev dktJ6_hashCode_0 : List UInt8 := dkwJ6_hashCode_0 ++ dktJ6_hashCode_1
theorem dksJ6_hashCode_0 : cJ6_hashCode.data.toList.drop 0 = dktJ6_hashCode_0 := by decide +kernel
theorem dksJ6_hashCode_1 : cJ6_hashCode.data.toList.drop 24 = dktJ6_hashCode_1 := dk_seg dksJ6_hashCode_0 24 rfl rfl
theorem dksJ6_hashCode_2 : cJ6_hashCode.data.toList.drop 47 = dktJ6_hashCode_2 := dk_seg dksJ6_hashCode_1 23 rfl rfl
theorem dJ6_hashCode_0 : decode cJ6_hashCode 0 = .ok (.aload_n 0, 1) := dk_42 (dk_at dksJ6_hashCode_0 0 rfl rfl)
theorem dJ6_hashCode_1 : decode cJ6_hashCode 1 = .ok (.getfield 19, 3) := dk_180 0 19 (dk_at dksJ6_hashCode_0 1 rfl rfl)
theorem dJ6_hashCode_4 : decode cJ6_hashCode 4 = .ok (.istore_n 1, 1) := dk_60 (dk_at dksJ6_hashCode_0 4 rfl rfl)
theorem dJ6_hashCode_5 : decode cJ6_hashCode 5 = .ok (.iload_n 1, 1) := dk_27 (dk_at dksJ6_hashCode_0 5 rfl rfl)
theorem dJ6_hashCode_6 : decode cJ6_hashCode 6 = .ok (.ifCond .ne 52, 3) := dk_154 0 52 (dk_at dksJ6_hashCode_0 6 rfl rfl)
theorem dJ6_hashCode_9 : decode cJ6_hashCode 9 = .ok (.aload_n 0, 1) := dk_42 (dk_at dksJ6_hashCode_0 9 rfl rfl)
theorem dJ6_hashCode_10 : decode cJ6_hashCode 10 = .ok (.getfield 23, 3) := dk_180 0 23 (dk_at dksJ6_hashCode_0 10 rfl rfl)
theorem dJ6_hashCode_13 : decode cJ6_hashCode 13 = .ok (.ifCond .ne 45, 3) := dk_154 0 45 (dk_at dksJ6_hashCode_0 13 rfl rfl)
theorem dJ6_hashCode_16 : decode cJ6_hashCode 16 = .ok (.aload_n 0, 1) := dk_42 (dk_at dksJ6_hashCode_0 16 rfl rfl)
theorem dJ6_hashCode_17 : decode cJ6_hashCode 17 = .ok (.invokevirtual 492, 3) := dk_182 1 236 (dk_at dksJ6_hashCode_0 17 rfl rfl)
theorem dJ6_hashCode_20 : decode cJ6_hashCode 20 = .ok (.ifCond .eq 13, 3) := dk_153 0 13 (dk_at dksJ6_hashCode_0 20 rfl rfl)
theorem dJ6_hashCode_23 : decode cJ6_hashCode 23 = .ok (.aload_n 0, 1) := dk_42 (dk_at dksJ6_hashCode_0 23 rfl rfl)
theorem dJ6_hashCode_24 : decode cJ6_hashCode 24 = .ok (.getfield 9, 3) := dk_180 0 9 (dk_at dksJ6_hashCode_1 0 rfl rfl)
theorem dJ6_hashCode_27 : decode cJ6_hashCode 27 = .ok (.invokestatic 628, 3) := dk_184 2 116 (dk_at dksJ6_hashCode_1 3 rfl rfl)
theorem dJ6_hashCode_30 : decode cJ6_hashCode 30 = .ok (.goto 10, 3) := dk_167 0 10 (dk_at dksJ6_hashCode_1 6 rfl rfl)
theorem dJ6_hashCode_33 : decode cJ6_hashCode 33 = .ok (.aload_n 0, 1) := dk_42 (dk_at dksJ6_hashCode_1 9 rfl rfl)
theorem dJ6_hashCode_34 : decode cJ6_hashCode 34 = .ok (.getfield 9, 3) := dk_180 0 9 (dk_at dksJ6_hashCode_1 10 rfl rfl)
theorem dJ6_hashCode_37 : decode cJ6_hashCode 37 = .ok (.invokestatic 632, 3) := dk_184 2 120 (dk_at dksJ6_hashCode_1 13 rfl rfl)
theorem dJ6_hashCode_40 : decode cJ6_hashCode 40 = .ok (.istore_n 1, 1) := dk_60 (dk_at dksJ6_hashCode_1 16 rfl rfl)
theorem dJ6_hashCode_41 : decode cJ6_hashCode 41 = .ok (.iload_n 1, 1) := dk_27 (dk_at dksJ6_hashCode_1 17 rfl rfl)
theorem dJ6_hashCode_42 : decode cJ6_hashCode 42 = .ok (.ifCond .ne 11, 3) := dk_154 0 11 (dk_at dksJ6_hashCode_1 18 rfl rfl)
theorem dJ6_hashCode_45 : decode cJ6_hashCode 45 = .ok (.aload_n 0, 1) := dk_42 (dk_at dksJ6_hashCode_1 21 rfl rfl)
theorem dJ6_hashCode_46 : decode cJ6_hashCode 46 = .ok (.iconst 1, 1) := dk_4 (dk_at dksJ6_hashCode_1 22 rfl rfl)
theorem dJ6_hashCode_47 : decode cJ6_hashCode 47 = .ok (.putfield 23, 3) := dk_181 0 23 (dk_at dksJ6_hashCode_2 0 rfl rfl)
theorem dJ6_hashCode_50 : decode cJ6_hashCode 50 = .ok (.goto 8, 3) := dk_167 0 8 (dk_at dksJ6_hashCode_2 3 rfl rfl)
theorem dJ6_hashCode_53 : decode cJ6_hashCode 53 = .ok (.aload_n 0, 1) := dk_42 (dk_at dksJ6_hashCode_2 6 rfl rfl)
theorem dJ6_hashCode_54 : decode cJ6_hashCode 54 = .ok (.iload_n 1, 1) := dk_27 (dk_at dksJ6_hashCode_2 7 rfl rfl)
theorem dJ6_hashCode_55 : decode cJ6_hashCode 55 = .ok (.putfield 19, 3) := dk_181 0 19 (dk_at dksJ6_hashCode_2 8 rfl rfl)
theorem dJ6_hashCode_58 : decode cJ6_hashCode 58 = .ok (.iload_n 1, 1) := dk_27 (dk_at dksJ6_hashCode_2 11 rfl rfl)
theorem dJ6_hashCode_59 : decode cJ6_hashCode 59 = .ok (.ireturn, 1) := dk_172 (dk_at dksJ6_hashCode_2 12 rfl rfl)
abbrev cJ6_equals : ByteArray := prog_31_method_66_code
def yJ6_equals : MethodName := ⟨RJ6, "equals", "(Ljava/lang/Object;)Z"⟩
def dkwJ6_equals_2 : List UInt8 := [184, 2, 29, 153, 0, 7, 4, 167, 0, 4, 3, 172]
abbrev dktJ6_equals_2 : List UInt8 := dkwJ6_equals_2 ++ []
def dkwJ6_equals_1 : List UInt8 := [153, 0, 14, 42, 180, 0, 15, 44, 180, 0, 15, 160, 0, 21, 42, 180, 0, 9, 44, 180, 0, 9]
abbrev dktJ6_equals_1 : List UInt8 := dkwJ6_equals_1 ++ dktJ6_equals_2
def dkwJ6_equals_0 : List UInt8 := [42, 43, 166, 0, 5, 4, 172, 43, 193, 0, 10, 153, 0, 43, 43, 192, 0, 10, 77, 178, 0, 38]
abbrev dktJ6_equals_0 : List UInt8 := dkwJ6_equals_0 ++ dktJ6_equals_1
theorem dksJ6_equals_0 : cJ6_equals.data.toList.drop 0 = dktJ6_equals_0 := by decide +kernel
theorem dksJ6_equals_1 : cJ6_equals.data.toList.drop 22 = dktJ6_equals_1 := dk_seg dksJ6_equals_0 22 rfl rfl
theorem dksJ6_equals_2 : cJ6_equals.data.toList.drop 44 = dktJ6_equals_2 := dk_seg dksJ6_equals_1 22 rfl rfl
theorem dJ6_equals_0 : decode cJ6_equals 0 = .ok (.aload_n 0, 1) := dk_42 (dk_at dksJ6_equals_0 0 rfl rfl)
theorem dJ6_equals_1 : decode cJ6_equals 1 = .ok (.aload_n 1, 1) := dk_43 (dk_at dksJ6_equals_0 1 rfl rfl)
theorem dJ6_equals_2 : decode cJ6_equals 2 = .ok (.if_acmp .ne 5, 3) := dk_166 0 5 (dk_at dksJ6_equals_0 2 rfl rfl)
theorem dJ6_equals_5 : decode cJ6_equals 5 = .ok (.iconst 1, 1) := dk_4 (dk_at dksJ6_equals_0 5 rfl rfl)
theorem dJ6_equals_6 : decode cJ6_equals 6 = .ok (.ireturn, 1) := dk_172 (dk_at dksJ6_equals_0 6 rfl rfl)
theorem dJ6_equals_7 : decode cJ6_equals 7 = .ok (.aload_n 1, 1) := dk_43 (dk_at dksJ6_equals_0 7 rfl rfl)
theorem dJ6_equals_8 : decode cJ6_equals 8 = .ok (.instanceof 10, 3) := dk_193 0 10 (dk_at dksJ6_equals_0 8 rfl rfl)
theorem dJ6_equals_11 : decode cJ6_equals 11 = .ok (.ifCond .eq 43, 3) := dk_153 0 43 (dk_at dksJ6_equals_0 11 rfl rfl)
theorem dJ6_equals_14 : decode cJ6_equals 14 = .ok (.aload_n 1, 1) := dk_43 (dk_at dksJ6_equals_0 14 rfl rfl)
theorem dJ6_equals_15 : decode cJ6_equals 15 = .ok (.checkcast 10, 3) := dk_192 0 10 (dk_at dksJ6_equals_0 15 rfl rfl)
theorem dJ6_equals_18 : decode cJ6_equals 18 = .ok (.astore_n 2, 1) := dk_77 (dk_at dksJ6_equals_0 18 rfl rfl)
theorem dJ6_equals_19 : decode cJ6_equals 19 = .ok (.getstatic 38, 3) := dk_178 0 38 (dk_at dksJ6_equals_0 19 rfl rfl)
theorem dJ6_equals_22 : decode cJ6_equals 22 = .ok (.ifCond .eq 14, 3) := dk_153 0 14 (dk_at dksJ6_equals_1 0 rfl rfl)
theorem dJ6_equals_25 : decode cJ6_equals 25 = .ok (.aload_n 0, 1) := dk_42 (dk_at dksJ6_equals_1 3 rfl rfl)
theorem dJ6_equals_26 : decode cJ6_equals 26 = .ok (.getfield 15, 3) := dk_180 0 15 (dk_at dksJ6_equals_1 4 rfl rfl)
theorem dJ6_equals_29 : decode cJ6_equals 29 = .ok (.aload_n 2, 1) := dk_44 (dk_at dksJ6_equals_1 7 rfl rfl)
theorem dJ6_equals_30 : decode cJ6_equals 30 = .ok (.getfield 15, 3) := dk_180 0 15 (dk_at dksJ6_equals_1 8 rfl rfl)
theorem dJ6_equals_33 : decode cJ6_equals 33 = .ok (.if_icmp .ne 21, 3) := dk_160 0 21 (dk_at dksJ6_equals_1 11 rfl rfl)
theorem dJ6_equals_36 : decode cJ6_equals 36 = .ok (.aload_n 0, 1) := dk_42 (dk_at dksJ6_equals_1 14 rfl rfl)
theorem dJ6_equals_37 : decode cJ6_equals 37 = .ok (.getfield 9, 3) := dk_180 0 9 (dk_at dksJ6_equals_1 15 rfl rfl)
theorem dJ6_equals_40 : decode cJ6_equals 40 = .ok (.aload_n 2, 1) := dk_44 (dk_at dksJ6_equals_1 18 rfl rfl)
theorem dJ6_equals_41 : decode cJ6_equals 41 = .ok (.getfield 9, 3) := dk_180 0 9 (dk_at dksJ6_equals_1 19 rfl rfl)
theorem dJ6_equals_44 : decode cJ6_equals 44 = .ok (.invokestatic 541, 3) := dk_184 2 29 (dk_at dksJ6_equals_2 0 rfl rfl)
theorem dJ6_equals_47 : decode cJ6_equals 47 = .ok (.ifCond .eq 7, 3) := dk_153 0 7 (dk_at dksJ6_equals_2 3 rfl rfl)
theorem dJ6_equals_50 : decode cJ6_equals 50 = .ok (.iconst 1, 1) := dk_4 (dk_at dksJ6_equals_2 6 rfl rfl)
theorem dJ6_equals_51 : decode cJ6_equals 51 = .ok (.goto 4, 3) := dk_167 0 4 (dk_at dksJ6_equals_2 7 rfl rfl)
theorem dJ6_equals_54 : decode cJ6_equals 54 = .ok (.iconst 0, 1) := dk_3 (dk_at dksJ6_equals_2 10 rfl rfl)
theorem dJ6_equals_55 : decode cJ6_equals 55 = .ok (.ireturn, 1) := dk_172 (dk_at dksJ6_equals_2 11 rfl rfl)
theorem q69 : (Jvm.Cond.initialized "java/lang/String") ∈ lw_all := lw_g (lw_at lw_m1 10 rfl) rfl
theorem q222 : (Jvm.Cond.laysStatic "java/lang/String" "COMPACT_STRINGS" "Z") ∈ lw_tbl := lw_at lw_m1 163 rfl
theorem q233 : (Jvm.Cond.fieldLink "java/lang/String" (1048 : Nat) "java/lang/AbstractStringBuilder" "maybeLatin1" "Z") ∈ lw_all := lw_g (lw_at lw_m1 174 rfl) rfl
theorem q420 : (Jvm.Cond.selects "java/lang/String" ({ cls := "java/lang/Object", name := "getClass", desc := "()Ljava/lang/Class;" } : Jvm.MethodName) ({ cls := "java/lang/Object", name := "getClass", desc := "()Ljava/lang/Class;" } : Jvm.MethodName)) ∈ lw_all := lw_g (lw_at lw_m2 121 rfl) rfl
theorem q955 : (Jvm.Cond.static ({ cls := "java/lang/String", name := "checkBoundsOffCount", desc := "(III)I" } : Jvm.MethodName)) ∈ lw_all := lw_g (lw_at lw_m4 176 rfl) rfl
theorem q956 : (Jvm.Cond.code ({ cls := "java/lang/String", name := "checkBoundsOffCount", desc := "(III)I" } : Jvm.MethodName) prog_31_method_157_code (3 : Nat) (Option.some Jvm.ClassFile.FieldType.int)) ∈ lw_all := lw_g (lw_at lw_m4 177 rfl) rfl
theorem q957 : (Jvm.Cond.fieldLink "java/lang/String" (1053 : Nat) "jdk/internal/util/Preconditions" "SIOOBE_FORMATTER" "Ljava/util/function/BiFunction;") ∈ lw_all := lw_g (lw_at lw_m4 178 rfl) rfl
theorem q959 : (Jvm.Cond.methodLink "java/lang/String" (1065 : Nat) ({ cls := "jdk/internal/util/Preconditions", name := "checkFromIndexSize", desc := "(IIILjava/util/function/BiFunction;)I" } : Jvm.MethodName)) ∈ lw_all := lw_g (lw_at lw_m4 180 rfl) rfl
theorem q978 : (Jvm.Cond.static ({ cls := "java/lang/String", name := "checkIndex", desc := "(II)V" } : Jvm.MethodName)) ∈ lw_all := lw_g (lw_at lw_m4 199 rfl) rfl
theorem q979 : (Jvm.Cond.code ({ cls := "java/lang/String", name := "checkIndex", desc := "(II)V" } : Jvm.MethodName) prog_31_method_155_code (2 : Nat) (Option.none : Option Jvm.ClassFile.FieldType)) ∈ lw_all := lw_g (lw_at lw_m4 200 rfl) rfl
theorem q980 : (Jvm.Cond.methodLink "java/lang/String" (1059 : Nat) ({ cls := "jdk/internal/util/Preconditions", name := "checkIndex", desc := "(IILjava/util/function/BiFunction;)I" } : Jvm.MethodName)) ∈ lw_all := lw_g (lw_at lw_m4 201 rfl) rfl
theorem q1110 : (Jvm.Cond.castable "java/lang/String" "java/lang/CharSequence") ∈ lw_tbl := lw_at lw_m5 91 rfl
theorem q1111 : (Jvm.Cond.selects "java/lang/String" ({ cls := "java/lang/CharSequence", name := "charAt", desc := "(I)C" } : Jvm.MethodName) ({ cls := "java/lang/String", name := "charAt", desc := "(I)C" } : Jvm.MethodName)) ∈ lw_all := lw_g (lw_at lw_m5 92 rfl) rfl
theorem q1112 : (Jvm.Cond.unhidden "java/lang/String" "charAt" "(I)C") ∈ lw_tbl := lw_at lw_m5 93 rfl
theorem q1113 : (Jvm.Cond.instanceMethod ({ cls := "java/lang/String", name := "charAt", desc := "(I)C" } : Jvm.MethodName)) ∈ lw_all := lw_g (lw_at lw_m5 94 rfl) rfl
theorem q1114 : (Jvm.Cond.publicMethod ({ cls := "java/lang/String", name := "charAt", desc := "(I)C" } : Jvm.MethodName)) ∈ lw_tbl := lw_at lw_m5 95 rfl
theorem q1115 : (Jvm.Cond.code ({ cls := "java/lang/String", name := "charAt", desc := "(I)C" } : Jvm.MethodName) prog_31_method_56_code (2 : Nat) (Option.some Jvm.ClassFile.FieldType.char)) ∈ lw_all := lw_g (lw_at lw_m5 96 rfl) rfl
theorem q1116 : (Jvm.Cond.methodLink "java/lang/String" (492 : Nat) ({ cls := "java/lang/String", name := "isLatin1", desc := "()Z" } : Jvm.MethodName)) ∈ lw_all := lw_g (lw_at lw_m5 97 rfl) rfl
theorem q1117 : (Jvm.Cond.instanceMethod ({ cls := "java/lang/String", name := "isLatin1", desc := "()Z" } : Jvm.MethodName)) ∈ lw_all := lw_g (lw_at lw_m5 98 rfl) rfl
theorem q1118 : (Jvm.Cond.selects "java/lang/String" ({ cls := "java/lang/String", name := "isLatin1", desc := "()Z" } : Jvm.MethodName) ({ cls := "java/lang/String", name := "isLatin1", desc := "()Z" } : Jvm.MethodName)) ∈ lw_all := lw_g (lw_at lw_m5 99 rfl) rfl
theorem q1119 : (Jvm.Cond.code ({ cls := "java/lang/String", name := "isLatin1", desc := "()Z" } : Jvm.MethodName) prog_31_method_154_code (1 : Nat) (Option.some Jvm.ClassFile.FieldType.boolean)) ∈ lw_all := lw_g (lw_at lw_m5 100 rfl) rfl
theorem q1120 : (Jvm.Cond.fieldLink "java/lang/String" (38 : Nat) "java/lang/String" "COMPACT_STRINGS" "Z") ∈ lw_all := lw_g (lw_at lw_m5 101 rfl) rfl
theorem q1121 : (Jvm.Cond.methodLink "java/lang/String" (495 : Nat) ({ cls := "java/lang/StringLatin1", name := "charAt", desc := "([BI)C" } : Jvm.MethodName)) ∈ lw_all := lw_g (lw_at lw_m5 102 rfl) rfl
theorem q1125 : (Jvm.Cond.methodLink "java/lang/String" (498 : Nat) ({ cls := "java/lang/StringUTF16", name := "charAt", desc := "([BI)C" } : Jvm.MethodName)) ∈ lw_all := lw_g (lw_at lw_m5 106 rfl) rfl
theorem q1139 : (Jvm.Cond.instantiable "java/lang/String" (4 : Nat)) ∈ lw_all := lw_g (lw_at lw_m5 120 rfl) rfl
theorem q1141 : (Jvm.Cond.instanceMethod ({ cls := "java/lang/String", name := "<init>", desc := "(Ljava/lang/StringBuilder;)V" } : Jvm.MethodName)) ∈ lw_all := lw_g (lw_at lw_m5 122 rfl) rfl
theorem q1142 : (Jvm.Cond.code ({ cls := "java/lang/String", name := "<init>", desc := "(Ljava/lang/StringBuilder;)V" } : Jvm.MethodName) prog_31_method_53_code (2 : Nat) (Option.none : Option Jvm.ClassFile.FieldType)) ∈ lw_all := lw_g (lw_at lw_m5 123 rfl) rfl
theorem q1143 : (Jvm.Cond.methodLink "java/lang/String" (489 : Nat) ({ cls := "java/lang/String", name := "<init>", desc := "(Ljava/lang/AbstractStringBuilder;Ljava/lang/Void;)V" } : Jvm.MethodName)) ∈ lw_all := lw_g (lw_at lw_m5 124 rfl) rfl
theorem q1144 : (Jvm.Cond.instanceMethod ({ cls := "java/lang/String", name := "<init>", desc := "(Ljava/lang/AbstractStringBuilder;Ljava/lang/Void;)V" } : Jvm.MethodName)) ∈ lw_all := lw_g (lw_at lw_m5 125 rfl) rfl
theorem q1145 : (Jvm.Cond.code ({ cls := "java/lang/String", name := "<init>", desc := "(Ljava/lang/AbstractStringBuilder;Ljava/lang/Void;)V" } : Jvm.MethodName) prog_31_method_150_code (5 : Nat) (Option.none : Option Jvm.ClassFile.FieldType)) ∈ lw_all := lw_g (lw_at lw_m5 126 rfl) rfl
theorem q1146 : (Jvm.Cond.methodLink "java/lang/String" (1 : Nat) ({ cls := "java/lang/Object", name := "<init>", desc := "()V" } : Jvm.MethodName)) ∈ lw_all := lw_g (lw_at lw_m5 127 rfl) rfl
theorem q1147 : (Jvm.Cond.methodLink "java/lang/String" (552 : Nat) ({ cls := "java/lang/AbstractStringBuilder", name := "getValue", desc := "()[B" } : Jvm.MethodName)) ∈ lw_all := lw_g (lw_at lw_m5 128 rfl) rfl
theorem q1152 : (Jvm.Cond.methodLink "java/lang/String" (549 : Nat) ({ cls := "java/lang/AbstractStringBuilder", name := "length", desc := "()I" } : Jvm.MethodName)) ∈ lw_all := lw_g (lw_at lw_m5 133 rfl) rfl
theorem q1153 : (Jvm.Cond.methodLink "java/lang/String" (1047 : Nat) ({ cls := "java/lang/AbstractStringBuilder", name := "isLatin1", desc := "()Z" } : Jvm.MethodName)) ∈ lw_all := lw_g (lw_at lw_m5 134 rfl) rfl
theorem q1154 : (Jvm.Cond.methodLink "java/lang/String" (54 : Nat) ({ cls := "java/util/Arrays", name := "copyOfRange", desc := "([BII)[B" } : Jvm.MethodName)) ∈ lw_all := lw_g (lw_at lw_m5 135 rfl) rfl
theorem q1163 : (Jvm.Cond.methodLink "java/lang/String" (1051 : Nat) ({ cls := "java/lang/StringUTF16", name := "compress", desc := "([BII)[B" } : Jvm.MethodName)) ∈ lw_all := lw_g (lw_at lw_m5 144 rfl) rfl
theorem q1170 : (Jvm.Cond.methodLink "java/lang/String" (47 : Nat) ({ cls := "java/lang/StringUTF16", name := "coderFromArrayLen", desc := "([BI)B" } : Jvm.MethodName)) ∈ lw_all := lw_g (lw_at lw_m5 151 rfl) rfl
theorem q1173 : (Jvm.Cond.fieldLink "java/lang/String" (9 : Nat) "java/lang/String" "value" "[B") ∈ lw_all := lw_g (lw_at lw_m5 154 rfl) rfl
theorem q1174 : (Jvm.Cond.fieldLink "java/lang/String" (15 : Nat) "java/lang/String" "coder" "B") ∈ lw_all := lw_g (lw_at lw_m5 155 rfl) rfl
theorem q1175 : (Jvm.Cond.fieldLink "java/lang/String" (19 : Nat) "java/lang/String" "hash" "I") ∈ lw_all := lw_g (lw_at lw_m5 156 rfl) rfl
theorem q1176 : (Jvm.Cond.fieldLink "java/lang/String" (23 : Nat) "java/lang/String" "hashIsZero" "Z") ∈ lw_all := lw_g (lw_at lw_m5 157 rfl) rfl
theorem q1177 : (Jvm.Cond.laysFinal "java/lang/String" "java/lang/String" "value" "[B") ∈ lw_all := lw_g (lw_at lw_m5 158 rfl) rfl
theorem q1178 : (Jvm.Cond.soleField "java/lang/String" "value") ∈ lw_all := lw_g (lw_at lw_m5 159 rfl) rfl
theorem q1179 : (Jvm.Cond.laysFinal "java/lang/String" "java/lang/String" "coder" "B") ∈ lw_all := lw_g (lw_at lw_m5 160 rfl) rfl
theorem q1180 : (Jvm.Cond.soleField "java/lang/String" "coder") ∈ lw_all := lw_g (lw_at lw_m5 161 rfl) rfl
theorem q1181 : (Jvm.Cond.lays "java/lang/String" "java/lang/String" "hash" "I") ∈ lw_all := lw_g (lw_at lw_m5 162 rfl) rfl
theorem q1182 : (Jvm.Cond.soleField "java/lang/String" "hash") ∈ lw_all := lw_g (lw_at lw_m5 163 rfl) rfl
theorem q1183 : (Jvm.Cond.lays "java/lang/String" "java/lang/String" "hashIsZero" "Z") ∈ lw_all := lw_g (lw_at lw_m5 164 rfl) rfl
theorem q1184 : (Jvm.Cond.soleField "java/lang/String" "hashIsZero") ∈ lw_all := lw_g (lw_at lw_m5 165 rfl) rfl
theorem q1185 : (Jvm.Cond.superclass "java/lang/String" "java/lang/Object") ∈ lw_all := lw_g (lw_at lw_m5 166 rfl) rfl
theorem q1190 : (Jvm.Cond.instanceMethod ({ cls := "java/lang/String", name := "hashCode", desc := "()I" } : Jvm.MethodName)) ∈ lw_all := lw_g (lw_at lw_m5 171 rfl) rfl
theorem q1191 : (Jvm.Cond.selects "java/lang/String" ({ cls := "java/lang/String", name := "hashCode", desc := "()I" } : Jvm.MethodName) ({ cls := "java/lang/String", name := "hashCode", desc := "()I" } : Jvm.MethodName)) ∈ lw_all := lw_g (lw_at lw_m5 172 rfl) rfl
theorem q1192 : (Jvm.Cond.code ({ cls := "java/lang/String", name := "hashCode", desc := "()I" } : Jvm.MethodName) prog_31_method_78_code (2 : Nat) (Option.some Jvm.ClassFile.FieldType.int)) ∈ lw_all := lw_g (lw_at lw_m5 173 rfl) rfl
theorem q1193 : (Jvm.Cond.methodLink "java/lang/String" (628 : Nat) ({ cls := "java/lang/StringLatin1", name := "hashCode", desc := "([B)I" } : Jvm.MethodName)) ∈ lw_all := lw_g (lw_at lw_m5 174 rfl) rfl
theorem q1234 : (Jvm.Cond.methodLink "java/lang/String" (632 : Nat) ({ cls := "java/lang/StringUTF16", name := "hashCode", desc := "([B)I" } : Jvm.MethodName)) ∈ lw_all := lw_g (lw_at lw_m5 215 rfl) rfl
theorem q1240 : (Jvm.Cond.instanceMethod ({ cls := "java/lang/String", name := "equals", desc := "(Ljava/lang/Object;)Z" } : Jvm.MethodName)) ∈ lw_all := lw_g (lw_at lw_m5 221 rfl) rfl
theorem q1241 : (Jvm.Cond.selects "java/lang/String" ({ cls := "java/lang/String", name := "equals", desc := "(Ljava/lang/Object;)Z" } : Jvm.MethodName) ({ cls := "java/lang/String", name := "equals", desc := "(Ljava/lang/Object;)Z" } : Jvm.MethodName)) ∈ lw_all := lw_g (lw_at lw_m5 222 rfl) rfl
theorem q1242 : (Jvm.Cond.code ({ cls := "java/lang/String", name := "equals", desc := "(Ljava/lang/Object;)Z" } : Jvm.MethodName) prog_31_method_66_code (3 : Nat) (Option.some Jvm.ClassFile.FieldType.boolean)) ∈ lw_all := lw_g (lw_at lw_m5 223 rfl) rfl
theorem q1243 : (Jvm.Cond.classLink "java/lang/String" (10 : Nat) "java/lang/String") ∈ lw_all := lw_g (lw_at lw_m5 224 rfl) rfl
theorem q1244 : (Jvm.Cond.methodLink "java/lang/String" (541 : Nat) ({ cls := "java/lang/StringLatin1", name := "equals", desc := "([B[B)Z" } : Jvm.MethodName)) ∈ lw_all := lw_g (lw_at lw_m5 225 rfl) rfl
theorem q1960 : (Jvm.Cond.castable "java/lang/String" "java/lang/Object") ∈ lw_tbl := lw_at lw_m8 221 rfl
theorem in_J6 : ∀ w ∈ wsJ60, w ∈ lw_all := lw_in wsJ60 [1177, 1179, 1181, 1183] (by decide +kernel) (by decide +kernel)

/-! java/lang/StringUTF16 -/
set_option maxRecDepth 100000
def RJ7 : String := "java/lang/StringUTF16"
abbrev cJ7_newBytesFor : ByteArray := prog_34_method_2_code
def yJ7_newBytesFor : MethodName := ⟨RJ7, "newBytesFor", "(I)[B"⟩
def dkwJ7_newBytesFor_0 : List UInt8 := [26, 184, 0, 11, 188, 8, 176]
abbrev dktJ7_newBytesFor_0 : List UInt8 := dkwJ7_newBytesFor_0 ++ []
theorem dksJ7_newBytesFor_0 : cJ7_newBytesFor.data.toList.drop 0 = dktJ7_newBytesFor_0 := by decide +kernel
theorem dJ7_newBytesFor_0 : decode cJ7_newBytesFor 0 = .ok (.iload_n 0, 1) := dk_26 (dk_at dksJ7_newBytesFor_0 0 rfl rfl)
theorem dJ7_newBytesFor_1 : decode cJ7_newBytesFor 1 = .ok (.invokestatic 11, 3) := dk_184 0 11 (dk_at dksJ7_newBytesFor_0 1 rfl rfl)
theorem dJ7_newBytesFor_4 : decode cJ7_newBytesFor 4 = .ok (.newarray .byte, 2) := dk_188_8 (dk_at dksJ7_newBytesFor_0 4 rfl rfl)
theorem dJ7_newBytesFor_6 : decode cJ7_newBytesFor 6 = .ok (.areturn, 1) := dk_176 (dk_at dksJ7_newBytesFor_0 6 rfl rfl)
abbrev cJ7_newBytesLength : ByteArray := prog_34_method_3_code
def yJ7_newBytesLength : MethodName := ⟨RJ7, "newBytesLength", "(I)I"⟩
def dkwJ7_newBytesLength_2 : List UInt8 := [182, 0, 32, 182, 0, 37, 183, 0, 41, 191, 26, 4, 120, 172]
abbrev dktJ7_newBytesLength_2 : List UInt8 := dkwJ7_newBytesLength_2 ++ []
def dkwJ7_newBytesLength_1 : List UInt8 := [187, 0, 23, 89, 183, 0, 25, 18, 26, 182, 0, 28, 26, 182, 0, 32, 18, 35, 182, 0, 28, 18, 20]
abbrev dktJ7_newBytesLength_1 : List UInt8 := dkwJ7_newBytesLength_1 ++ dktJ7_newBytesLength_2
def dkwJ7_newBytesLength_0 : List UInt8 := [26, 156, 0, 11, 187, 0, 17, 89, 183, 0, 19, 191, 26, 18, 20, 161, 0, 40, 187, 0, 21, 89]
abbrev dktJ7_newBytesLength_0 : List UInt8 := dkwJ7_newBytesLength_0 ++ dktJ7_newBytesLength_1
theorem dksJ7_newBytesLength_0 : cJ7_newBytesLength.data.toList.drop 0 = dktJ7_newBytesLength_0 := by decide +kernel
theorem dksJ7_newBytesLength_1 : cJ7_newBytesLength.data.toList.drop 22 = dktJ7_newBytesLength_1 := dk_seg dksJ7_newBytesLength_0 22 rfl rfl
theorem dksJ7_newBytesLength_2 : cJ7_newBytesLength.data.toList.drop 45 = dktJ7_newBytesLength_2 := dk_seg dksJ7_newBytesLength_1 23 rfl rfl
theorem dJ7_newBytesLength_0 : decode cJ7_newBytesLength 0 = .ok (.iload_n 0, 1) := dk_26 (dk_at dksJ7_newBytesLength_0 0 rfl rfl)
theorem dJ7_newBytesLength_1 : decode cJ7_newBytesLength 1 = .ok (.ifCond .ge 11, 3) := dk_156 0 11 (dk_at dksJ7_newBytesLength_0 1 rfl rfl)
theorem dJ7_newBytesLength_4 : decode cJ7_newBytesLength 4 = .ok (.new 17, 3) := dk_187 0 17 (dk_at dksJ7_newBytesLength_0 4 rfl rfl)
theorem dJ7_newBytesLength_7 : decode cJ7_newBytesLength 7 = .ok (.dup, 1) := dk_89 (dk_at dksJ7_newBytesLength_0 7 rfl rfl)
theorem dJ7_newBytesLength_8 : decode cJ7_newBytesLength 8 = .ok (.invokespecial 19, 3) := dk_183 0 19 (dk_at dksJ7_newBytesLength_0 8 rfl rfl)
theorem dJ7_newBytesLength_11 : decode cJ7_newBytesLength 11 = .ok (.athrow, 1) := dk_191 (dk_at dksJ7_newBytesLength_0 11 rfl rfl)
theorem dJ7_newBytesLength_12 : decode cJ7_newBytesLength 12 = .ok (.iload_n 0, 1) := dk_26 (dk_at dksJ7_newBytesLength_0 12 rfl rfl)
theorem dJ7_newBytesLength_13 : decode cJ7_newBytesLength 13 = .ok (.ldc 20, 2) := dk_18 20 (dk_at dksJ7_newBytesLength_0 13 rfl rfl)
theorem dJ7_newBytesLength_15 : decode cJ7_newBytesLength 15 = .ok (.if_icmp .lt 40, 3) := dk_161 0 40 (dk_at dksJ7_newBytesLength_0 15 rfl rfl)
theorem dJ7_newBytesLength_18 : decode cJ7_newBytesLength 18 = .ok (.new 21, 3) := dk_187 0 21 (dk_at dksJ7_newBytesLength_0 18 rfl rfl)
theorem dJ7_newBytesLength_21 : decode cJ7_newBytesLength 21 = .ok (.dup, 1) := dk_89 (dk_at dksJ7_newBytesLength_0 21 rfl rfl)
theorem dJ7_newBytesLength_22 : decode cJ7_newBytesLength 22 = .ok (.new 23, 3) := dk_187 0 23 (dk_at dksJ7_newBytesLength_1 0 rfl rfl)
theorem dJ7_newBytesLength_25 : decode cJ7_newBytesLength 25 = .ok (.dup, 1) := dk_89 (dk_at dksJ7_newBytesLength_1 3 rfl rfl)
theorem dJ7_newBytesLength_26 : decode cJ7_newBytesLength 26 = .ok (.invokespecial 25, 3) := dk_183 0 25 (dk_at dksJ7_newBytesLength_1 4 rfl rfl)
theorem dJ7_newBytesLength_29 : decode cJ7_newBytesLength 29 = .ok (.ldc 26, 2) := dk_18 26 (dk_at dksJ7_newBytesLength_1 7 rfl rfl)
theorem dJ7_newBytesLength_31 : decode cJ7_newBytesLength 31 = .ok (.invokevirtual 28, 3) := dk_182 0 28 (dk_at dksJ7_newBytesLength_1 9 rfl rfl)
theorem dJ7_newBytesLength_34 : decode cJ7_newBytesLength 34 = .ok (.iload_n 0, 1) := dk_26 (dk_at dksJ7_newBytesLength_1 12 rfl rfl)
theorem dJ7_newBytesLength_35 : decode cJ7_newBytesLength 35 = .ok (.invokevirtual 32, 3) := dk_182 0 32 (dk_at dksJ7_newBytesLength_1 13 rfl rfl)
theorem dJ7_newBytesLength_38 : decode cJ7_newBytesLength 38 = .ok (.ldc 35, 2) := dk_18 35 (dk_at dksJ7_newBytesLength_1 16 rfl rfl)
theorem dJ7_newBytesLength_40 : decode cJ7_newBytesLength 40 = .ok (.invokevirtual 28, 3) := dk_182 0 28 (dk_at dksJ7_newBytesLength_1 18 rfl rfl)
theorem dJ7_newBytesLength_43 : decode cJ7_newBytesLength 43 = .ok (.ldc 20, 2) := dk_18 20 (dk_at dksJ7_newBytesLength_1 21 rfl rfl)
theorem dJ7_newBytesLength_45 : decode cJ7_newBytesLength 45 = .ok (.invokevirtual 32, 3) := dk_182 0 32 (dk_at dksJ7_newBytesLength_2 0 rfl rfl)
theorem dJ7_newBytesLength_48 : decode cJ7_newBytesLength 48 = .ok (.invokevirtual 37, 3) := dk_182 0 37 (dk_at dksJ7_newBytesLength_2 3 rfl rfl)
theorem dJ7_newBytesLength_51 : decode cJ7_newBytesLength 51 = .ok (.invokespecial 41, 3) := dk_183 0 41 (dk_at dksJ7_newBytesLength_2 6 rfl rfl)
theorem dJ7_newBytesLength_54 : decode cJ7_newBytesLength 54 = .ok (.athrow, 1) := dk_191 (dk_at dksJ7_newBytesLength_2 9 rfl rfl)
theorem dJ7_newBytesLength_55 : decode cJ7_newBytesLength 55 = .ok (.iload_n 0, 1) := dk_26 (dk_at dksJ7_newBytesLength_2 10 rfl rfl)
theorem dJ7_newBytesLength_56 : decode cJ7_newBytesLength 56 = .ok (.iconst 1, 1) := dk_4 (dk_at dksJ7_newBytesLength_2 11 rfl rfl)
theorem dJ7_newBytesLength_57 : decode cJ7_newBytesLength 57 = .ok (.ishl, 1) := dk_120 (dk_at dksJ7_newBytesLength_2 12 rfl rfl)
theorem dJ7_newBytesLength_58 : decode cJ7_newBytesLength 58 = .ok (.ireturn, 1) := dk_172 (dk_at dksJ7_newBytesLength_2 13 rfl rfl)
abbrev cJ7_inflate : ByteArray := prog_34_method_86_code
def yJ7_inflate : MethodName := ⟨RJ7, "inflate", "([BI[BII)V"⟩
def dkwJ7_inflate_1 : List UInt8 := [132, 1, 1, 51, 17, 0, 255, 126, 184, 0, 111, 132, 5, 1, 167, 255, 228, 177]
abbrev dktJ7_inflate_1 : List UInt8 := dkwJ7_inflate_1 ++ []
def dkwJ7_inflate_0 : List UInt8 := [29, 21, 4, 44, 184, 0, 173, 3, 54, 5, 21, 5, 21, 4, 162, 0, 27, 44, 29, 132, 3, 1, 42, 27]
abbrev dktJ7_inflate_0 : List UInt8 := dkwJ7_inflate_0 ++ dktJ7_inflate_1
theorem dksJ7_inflate_0 : cJ7_inflate.data.toList.drop 0 = dktJ7_inflate_0 := by decide +kernel
theorem dksJ7_inflate_1 : cJ7_inflate.data.toList.drop 24 = dktJ7_inflate_1 := dk_seg dksJ7_inflate_0 24 rfl rfl
theorem dJ7_inflate_0 : decode cJ7_inflate 0 = .ok (.iload_n 3, 1) := dk_29 (dk_at dksJ7_inflate_0 0 rfl rfl)
theorem dJ7_inflate_1 : decode cJ7_inflate 1 = .ok (.iload 4, 2) := dk_21 4 (dk_at dksJ7_inflate_0 1 rfl rfl)
theorem dJ7_inflate_3 : decode cJ7_inflate 3 = .ok (.aload_n 2, 1) := dk_44 (dk_at dksJ7_inflate_0 3 rfl rfl)
theorem dJ7_inflate_4 : decode cJ7_inflate 4 = .ok (.invokestatic 173, 3) := dk_184 0 173 (dk_at dksJ7_inflate_0 4 rfl rfl)
theorem dJ7_inflate_7 : decode cJ7_inflate 7 = .ok (.iconst 0, 1) := dk_3 (dk_at dksJ7_inflate_0 7 rfl rfl)
theorem dJ7_inflate_8 : decode cJ7_inflate 8 = .ok (.istore 5, 2) := dk_54 5 (dk_at dksJ7_inflate_0 8 rfl rfl)
theorem dJ7_inflate_10 : decode cJ7_inflate 10 = .ok (.iload 5, 2) := dk_21 5 (dk_at dksJ7_inflate_0 10 rfl rfl)
theorem dJ7_inflate_12 : decode cJ7_inflate 12 = .ok (.iload 4, 2) := dk_21 4 (dk_at dksJ7_inflate_0 12 rfl rfl)
theorem dJ7_inflate_14 : decode cJ7_inflate 14 = .ok (.if_icmp .ge 27, 3) := dk_162 0 27 (dk_at dksJ7_inflate_0 14 rfl rfl)
theorem dJ7_inflate_17 : decode cJ7_inflate 17 = .ok (.aload_n 2, 1) := dk_44 (dk_at dksJ7_inflate_0 17 rfl rfl)
theorem dJ7_inflate_18 : decode cJ7_inflate 18 = .ok (.iload_n 3, 1) := dk_29 (dk_at dksJ7_inflate_0 18 rfl rfl)
theorem dJ7_inflate_19 : decode cJ7_inflate 19 = .ok (.iinc 3 1, 3) := dk_132 3 1 (dk_at dksJ7_inflate_0 19 rfl rfl)
theorem dJ7_inflate_22 : decode cJ7_inflate 22 = .ok (.aload_n 0, 1) := dk_42 (dk_at dksJ7_inflate_0 22 rfl rfl)
theorem dJ7_inflate_23 : decode cJ7_inflate 23 = .ok (.iload_n 1, 1) := dk_27 (dk_at dksJ7_inflate_0 23 rfl rfl)
theorem dJ7_inflate_24 : decode cJ7_inflate 24 = .ok (.iinc 1 1, 3) := dk_132 1 1 (dk_at dksJ7_inflate_1 0 rfl rfl)
theorem dJ7_inflate_27 : decode cJ7_inflate 27 = .ok (.baload, 1) := dk_51 (dk_at dksJ7_inflate_1 3 rfl rfl)
theorem dJ7_inflate_28 : decode cJ7_inflate 28 = .ok (.sipush 255, 3) := dk_17 0 255 (dk_at dksJ7_inflate_1 4 rfl rfl)
theorem dJ7_inflate_31 : decode cJ7_inflate 31 = .ok (.iand, 1) := dk_126 (dk_at dksJ7_inflate_1 7 rfl rfl)
theorem dJ7_inflate_32 : decode cJ7_inflate 32 = .ok (.invokestatic 111, 3) := dk_184 0 111 (dk_at dksJ7_inflate_1 8 rfl rfl)
theorem dJ7_inflate_35 : decode cJ7_inflate 35 = .ok (.iinc 5 1, 3) := dk_132 5 1 (dk_at dksJ7_inflate_1 11 rfl rfl)
theorem dJ7_inflate_38 : decode cJ7_inflate 38 = .ok (.goto (-28), 3) := dk_167 255 228 (dk_at dksJ7_inflate_1 14 rfl rfl)
theorem dJ7_inflate_41 : decode cJ7_inflate 41 = .ok (.return_, 1) := dk_177 (dk_at dksJ7_inflate_1 17 rfl rfl)
abbrev cJ7_checkBoundsOffCount : ByteArray := prog_34_method_94_code
def yJ7_checkBoundsOffCount : MethodName := ⟨RJ7, "checkBoundsOffCount", "(II[B)V"⟩
def dkwJ7_checkBoundsOffCount_0 : List UInt8 := [26, 27, 44, 184, 0, 48, 184, 1, 163, 87, 177]
abbrev dktJ7_checkBoundsOffCount_0 : List UInt8 := dkwJ7_checkBoundsOffCount_0 ++ []
theorem dksJ7_checkBoundsOffCount_0 : cJ7_checkBoundsOffCount.data.toList.drop 0 = dktJ7_checkBoundsOffCount_0 := by decide +kernel
theorem dJ7_checkBoundsOffCount_0 : decode cJ7_checkBoundsOffCount 0 = .ok (.iload_n 0, 1) := dk_26 (dk_at dksJ7_checkBoundsOffCount_0 0 rfl rfl)
theorem dJ7_checkBoundsOffCount_1 : decode cJ7_checkBoundsOffCount 1 = .ok (.iload_n 1, 1) := dk_27 (dk_at dksJ7_checkBoundsOffCount_0 1 rfl rfl)
theorem dJ7_checkBoundsOffCount_2 : decode cJ7_checkBoundsOffCount 2 = .ok (.aload_n 2, 1) := dk_44 (dk_at dksJ7_checkBoundsOffCount_0 2 rfl rfl)
theorem dJ7_checkBoundsOffCount_3 : decode cJ7_checkBoundsOffCount 3 = .ok (.invokestatic 48, 3) := dk_184 0 48 (dk_at dksJ7_checkBoundsOffCount_0 3 rfl rfl)
theorem dJ7_checkBoundsOffCount_6 : decode cJ7_checkBoundsOffCount 6 = .ok (.invokestatic 419, 3) := dk_184 1 163 (dk_at dksJ7_checkBoundsOffCount_0 6 rfl rfl)
theorem dJ7_checkBoundsOffCount_9 : decode cJ7_checkBoundsOffCount 9 = .ok (.pop, 1) := dk_87 (dk_at dksJ7_checkBoundsOffCount_0 9 rfl rfl)
theorem dJ7_checkBoundsOffCount_10 : decode cJ7_checkBoundsOffCount 10 = .ok (.return_, 1) := dk_177 (dk_at dksJ7_checkBoundsOffCount_0 10 rfl rfl)
abbrev cJ7_length : ByteArray := prog_34_method_6_code
def yJ7_length : MethodName := ⟨RJ7, "length", "([B)I"⟩
def dkwJ7_length_0 : List UInt8 := [42, 190, 4, 122, 172]
abbrev dktJ7_length_0 : List UInt8 := dkwJ7_length_0 ++ []
theorem dksJ7_length_0 : cJ7_length.data.toList.drop 0 = dktJ7_length_0 := by decide +kernel
theorem dJ7_length_0 : decode cJ7_length 0 = .ok (.aload_n 0, 1) := dk_42 (dk_at dksJ7_length_0 0 rfl rfl)
theorem dJ7_length_1 : decode cJ7_length 1 = .ok (.arraylength, 1) := dk_190 (dk_at dksJ7_length_0 1 rfl rfl)
theorem dJ7_length_2 : decode cJ7_length 2 = .ok (.iconst 1, 1) := dk_4 (dk_at dksJ7_length_0 2 rfl rfl)
theorem dJ7_length_3 : decode cJ7_length 3 = .ok (.ishr, 1) := dk_122 (dk_at dksJ7_length_0 3 rfl rfl)
theorem dJ7_length_4 : decode cJ7_length 4 = .ok (.ireturn, 1) := dk_172 (dk_at dksJ7_length_0 4 rfl rfl)
abbrev cJ7_putChar : ByteArray := prog_34_method_4_code
def yJ7_putChar : MethodName := ⟨RJ7, "putChar", "([BII)V"⟩
def dkwJ7_putChar_2 : List UInt8 := [178, 0, 63, 122, 145, 84, 177]
abbrev dktJ7_putChar_2 : List UInt8 := dkwJ7_putChar_2 ++ []
def dkwJ7_putChar_1 : List UInt8 := [183, 0, 56, 191, 27, 4, 120, 60, 42, 27, 132, 1, 1, 28, 178, 0, 59, 122, 145, 84, 42, 27, 28]
abbrev dktJ7_putChar_1 : List UInt8 := dkwJ7_putChar_1 ++ dktJ7_putChar_2
def dkwJ7_putChar_0 : List UInt8 := [178, 0, 44, 154, 0, 25, 27, 155, 0, 11, 27, 42, 184, 0, 48, 161, 0, 13, 187, 0, 52, 89, 18, 54]
abbrev dktJ7_putChar_0 : List UInt8 := dkwJ7_putChar_0 ++ dktJ7_putChar_1
theorem dksJ7_putChar_0 : cJ7_putChar.data.toList.drop 0 = dktJ7_putChar_0 := by decide +kernel
theorem dksJ7_putChar_1 : cJ7_putChar.data.toList.drop 24 = dktJ7_putChar_1 := dk_seg dksJ7_putChar_0 24 rfl rfl
theorem dksJ7_putChar_2 : cJ7_putChar.data.toList.drop 47 = dktJ7_putChar_2 := dk_seg dksJ7_putChar_1 23 rfl rfl
theorem dJ7_putChar_0 : decode cJ7_putChar 0 = .ok (.getstatic 44, 3) := dk_178 0 44 (dk_at dksJ7_putChar_0 0 rfl rfl)
theorem dJ7_putChar_3 : decode cJ7_putChar 3 = .ok (.ifCond .ne 25, 3) := dk_154 0 25 (dk_at dksJ7_putChar_0 3 rfl rfl)
theorem dJ7_putChar_6 : decode cJ7_putChar 6 = .ok (.iload_n 1, 1) := dk_27 (dk_at dksJ7_putChar_0 6 rfl rfl)
theorem dJ7_putChar_7 : decode cJ7_putChar 7 = .ok (.ifCond .lt 11, 3) := dk_155 0 11 (dk_at dksJ7_putChar_0 7 rfl rfl)
theorem dJ7_putChar_10 : decode cJ7_putChar 10 = .ok (.iload_n 1, 1) := dk_27 (dk_at dksJ7_putChar_0 10 rfl rfl)
theorem dJ7_putChar_11 : decode cJ7_putChar 11 = .ok (.aload_n 0, 1) := dk_42 (dk_at dksJ7_putChar_0 11 rfl rfl)
theorem dJ7_putChar_12 : decode cJ7_putChar 12 = .ok (.invokestatic 48, 3) := dk_184 0 48 (dk_at dksJ7_putChar_0 12 rfl rfl)
theorem dJ7_putChar_15 : decode cJ7_putChar 15 = .ok (.if_icmp .lt 13, 3) := dk_161 0 13 (dk_at dksJ7_putChar_0 15 rfl rfl)
theorem dJ7_putChar_18 : decode cJ7_putChar 18 = .ok (.new 52, 3) := dk_187 0 52 (dk_at dksJ7_putChar_0 18 rfl rfl)
theorem dJ7_putChar_21 : decode cJ7_putChar 21 = .ok (.dup, 1) := dk_89 (dk_at dksJ7_putChar_0 21 rfl rfl)
theorem dJ7_putChar_22 : decode cJ7_putChar 22 = .ok (.ldc 54, 2) := dk_18 54 (dk_at dksJ7_putChar_0 22 rfl rfl)
theorem dJ7_putChar_24 : decode cJ7_putChar 24 = .ok (.invokespecial 56, 3) := dk_183 0 56 (dk_at dksJ7_putChar_1 0 rfl rfl)
theorem dJ7_putChar_27 : decode cJ7_putChar 27 = .ok (.athrow, 1) := dk_191 (dk_at dksJ7_putChar_1 3 rfl rfl)
theorem dJ7_putChar_28 : decode cJ7_putChar 28 = .ok (.iload_n 1, 1) := dk_27 (dk_at dksJ7_putChar_1 4 rfl rfl)
theorem dJ7_putChar_29 : decode cJ7_putChar 29 = .ok (.iconst 1, 1) := dk_4 (dk_at dksJ7_putChar_1 5 rfl rfl)
theorem dJ7_putChar_30 : decode cJ7_putChar 30 = .ok (.ishl, 1) := dk_120 (dk_at dksJ7_putChar_1 6 rfl rfl)
theorem dJ7_putChar_31 : decode cJ7_putChar 31 = .ok (.istore_n 1, 1) := dk_60 (dk_at dksJ7_putChar_1 7 rfl rfl)
theorem dJ7_putChar_32 : decode cJ7_putChar 32 = .ok (.aload_n 0, 1) := dk_42 (dk_at dksJ7_putChar_1 8 rfl rfl)
theorem dJ7_putChar_33 : decode cJ7_putChar 33 = .ok (.iload_n 1, 1) := dk_27 (dk_at dksJ7_putChar_1 9 rfl rfl)
theorem dJ7_putChar_34 : decode cJ7_putChar 34 = .ok (.iinc 1 1, 3) := dk_132 1 1 (dk_at dksJ7_putChar_1 10 rfl rfl)
theorem dJ7_putChar_37 : decode cJ7_putChar 37 = .ok (.iload_n 2, 1) := dk_28 (dk_at dksJ7_putChar_1 13 rfl rfl)
theorem dJ7_putChar_38 : decode cJ7_putChar 38 = .ok (.getstatic 59, 3) := dk_178 0 59 (dk_at dksJ7_putChar_1 14 rfl rfl)
theorem dJ7_putChar_41 : decode cJ7_putChar 41 = .ok (.ishr, 1) := dk_122 (dk_at dksJ7_putChar_1 17 rfl rfl)
theorem dJ7_putChar_42 : decode cJ7_putChar 42 = .ok (.i2b, 1) := dk_145 (dk_at dksJ7_putChar_1 18 rfl rfl)
theorem dJ7_putChar_43 : decode cJ7_putChar 43 = .ok (.bastore, 1) := dk_84 (dk_at dksJ7_putChar_1 19 rfl rfl)
theorem dJ7_putChar_44 : decode cJ7_putChar 44 = .ok (.aload_n 0, 1) := dk_42 (dk_at dksJ7_putChar_1 20 rfl rfl)
theorem dJ7_putChar_45 : decode cJ7_putChar 45 = .ok (.iload_n 1, 1) := dk_27 (dk_at dksJ7_putChar_1 21 rfl rfl)
theorem dJ7_putChar_46 : decode cJ7_putChar 46 = .ok (.iload_n 2, 1) := dk_28 (dk_at dksJ7_putChar_1 22 rfl rfl)
theorem dJ7_putChar_47 : decode cJ7_putChar 47 = .ok (.getstatic 63, 3) := dk_178 0 63 (dk_at dksJ7_putChar_2 0 rfl rfl)
theorem dJ7_putChar_50 : decode cJ7_putChar 50 = .ok (.ishr, 1) := dk_122 (dk_at dksJ7_putChar_2 3 rfl rfl)
theorem dJ7_putChar_51 : decode cJ7_putChar 51 = .ok (.i2b, 1) := dk_145 (dk_at dksJ7_putChar_2 4 rfl rfl)
theorem dJ7_putChar_52 : decode cJ7_putChar 52 = .ok (.bastore, 1) := dk_84 (dk_at dksJ7_putChar_2 5 rfl rfl)
theorem dJ7_putChar_53 : decode cJ7_putChar 53 = .ok (.return_, 1) := dk_177 (dk_at dksJ7_putChar_2 6 rfl rfl)
abbrev cJ7_putCharSB : ByteArray := prog_34_method_71_code
def yJ7_putCharSB : MethodName := ⟨RJ7, "putCharSB", "([BII)V"⟩
def dkwJ7_putCharSB_0 : List UInt8 := [27, 42, 184, 0, 67, 42, 27, 28, 184, 0, 111, 177]
abbrev dktJ7_putCharSB_0 : List UInt8 := dkwJ7_putCharSB_0 ++ []
theorem dksJ7_putCharSB_0 : cJ7_putCharSB.data.toList.drop 0 = dktJ7_putCharSB_0 := by decide +kernel
theorem dJ7_putCharSB_0 : decode cJ7_putCharSB 0 = .ok (.iload_n 1, 1) := dk_27 (dk_at dksJ7_putCharSB_0 0 rfl rfl)
theorem dJ7_putCharSB_1 : decode cJ7_putCharSB 1 = .ok (.aload_n 0, 1) := dk_42 (dk_at dksJ7_putCharSB_0 1 rfl rfl)
theorem dJ7_putCharSB_2 : decode cJ7_putCharSB 2 = .ok (.invokestatic 67, 3) := dk_184 0 67 (dk_at dksJ7_putCharSB_0 2 rfl rfl)
theorem dJ7_putCharSB_5 : decode cJ7_putCharSB 5 = .ok (.aload_n 0, 1) := dk_42 (dk_at dksJ7_putCharSB_0 5 rfl rfl)
theorem dJ7_putCharSB_6 : decode cJ7_putCharSB 6 = .ok (.iload_n 1, 1) := dk_27 (dk_at dksJ7_putCharSB_0 6 rfl rfl)
theorem dJ7_putCharSB_7 : decode cJ7_putCharSB 7 = .ok (.iload_n 2, 1) := dk_28 (dk_at dksJ7_putCharSB_0 7 rfl rfl)
theorem dJ7_putCharSB_8 : decode cJ7_putCharSB 8 = .ok (.invokestatic 111, 3) := dk_184 0 111 (dk_at dksJ7_putCharSB_0 8 rfl rfl)
theorem dJ7_putCharSB_11 : decode cJ7_putCharSB 11 = .ok (.return_, 1) := dk_177 (dk_at dksJ7_putCharSB_0 11 rfl rfl)
abbrev cJ7_checkIndex : ByteArray := prog_34_method_91_code
def yJ7_checkIndex : MethodName := ⟨RJ7, "checkIndex", "(I[B)V"⟩
def dkwJ7_checkIndex_0 : List UInt8 := [26, 43, 184, 0, 48, 184, 1, 158, 177]
abbrev dktJ7_checkIndex_0 : List UInt8 := dkwJ7_checkIndex_0 ++ []
theorem dksJ7_checkIndex_0 : cJ7_checkIndex.data.toList.drop 0 = dktJ7_checkIndex_0 := by decide +kernel
theorem dJ7_checkIndex_0 : decode cJ7_checkIndex 0 = .ok (.iload_n 0, 1) := dk_26 (dk_at dksJ7_checkIndex_0 0 rfl rfl)
theorem dJ7_checkIndex_1 : decode cJ7_checkIndex 1 = .ok (.aload_n 1, 1) := dk_43 (dk_at dksJ7_checkIndex_0 1 rfl rfl)
theorem dJ7_checkIndex_2 : decode cJ7_checkIndex 2 = .ok (.invokestatic 48, 3) := dk_184 0 48 (dk_at dksJ7_checkIndex_0 2 rfl rfl)
theorem dJ7_checkIndex_5 : decode cJ7_checkIndex 5 = .ok (.invokestatic 414, 3) := dk_184 1 158 (dk_at dksJ7_checkIndex_0 5 rfl rfl)
theorem dJ7_checkIndex_8 : decode cJ7_checkIndex 8 = .ok (.return_, 1) := dk_177 (dk_at dksJ7_checkIndex_0 8 rfl rfl)
abbrev cJ7_fillNull : ByteArray := prog_34_method_70_code
def yJ7_fillNull : MethodName := ⟨RJ7, "fillNull", "([BII)V"⟩
def dkwJ7_fillNull_0 : List UInt8 := [42, 27, 4, 120, 28, 4, 120, 3, 184, 1, 124, 177]
abbrev dktJ7_fillNull_0 : List UInt8 := dkwJ7_fillNull_0 ++ []
theorem dksJ7_fillNull_0 : cJ7_fillNull.data.toList.drop 0 = dktJ7_fillNull_0 := by decide +kernel
theorem dJ7_fillNull_0 : decode cJ7_fillNull 0 = .ok (.aload_n 0, 1) := dk_42 (dk_at dksJ7_fillNull_0 0 rfl rfl)
theorem dJ7_fillNull_1 : decode cJ7_fillNull 1 = .ok (.iload_n 1, 1) := dk_27 (dk_at dksJ7_fillNull_0 1 rfl rfl)
theorem dJ7_fillNull_2 : decode cJ7_fillNull 2 = .ok (.iconst 1, 1) := dk_4 (dk_at dksJ7_fillNull_0 2 rfl rfl)
theorem dJ7_fillNull_3 : decode cJ7_fillNull 3 = .ok (.ishl, 1) := dk_120 (dk_at dksJ7_fillNull_0 3 rfl rfl)
theorem dJ7_fillNull_4 : decode cJ7_fillNull 4 = .ok (.iload_n 2, 1) := dk_28 (dk_at dksJ7_fillNull_0 4 rfl rfl)
theorem dJ7_fillNull_5 : decode cJ7_fillNull 5 = .ok (.iconst 1, 1) := dk_4 (dk_at dksJ7_fillNull_0 5 rfl rfl)
theorem dJ7_fillNull_6 : decode cJ7_fillNull 6 = .ok (.ishl, 1) := dk_120 (dk_at dksJ7_fillNull_0 6 rfl rfl)
theorem dJ7_fillNull_7 : decode cJ7_fillNull 7 = .ok (.iconst 0, 1) := dk_3 (dk_at dksJ7_fillNull_0 7 rfl rfl)
theorem dJ7_fillNull_8 : decode cJ7_fillNull 8 = .ok (.invokestatic 380, 3) := dk_184 1 124 (dk_at dksJ7_fillNull_0 8 rfl rfl)
theorem dJ7_fillNull_11 : decode cJ7_fillNull 11 = .ok (.return_, 1) := dk_177 (dk_at dksJ7_fillNull_0 11 rfl rfl)
abbrev cJ7_getChar : ByteArray := prog_34_method_5_code
def yJ7_getChar : MethodName := ⟨RJ7, "getChar", "([BI)C"⟩
def dkwJ7_getChar_2 : List UInt8 := [51, 17, 0, 255, 126, 178, 0, 63, 120, 128, 146, 172]
abbrev dktJ7_getChar_2 : List UInt8 := dkwJ7_getChar_2 ++ []
def dkwJ7_getChar_1 : List UInt8 := [183, 0, 56, 191, 27, 4, 120, 60, 42, 27, 132, 1, 1, 51, 17, 0, 255, 126, 178, 0, 59, 120, 42, 27]
abbrev dktJ7_getChar_1 : List UInt8 := dkwJ7_getChar_1 ++ dktJ7_getChar_2
def dkwJ7_getChar_0 : List UInt8 := [178, 0, 44, 154, 0, 25, 27, 155, 0, 11, 27, 42, 184, 0, 48, 161, 0, 13, 187, 0, 52, 89, 18, 54]
abbrev dktJ7_getChar_0 : List UInt8 := dkwJ7_getChar_0 ++ dktJ7_getChar_1
theorem dksJ7_getChar_0 : cJ7_getChar.data.toList.drop 0 = dktJ7_getChar_0 := by decide +kernel
theorem dksJ7_getChar_1 : cJ7_getChar.data.toList.drop 24 = dktJ7_getChar_1 := dk_seg dksJ7_getChar_0 24 rfl rfl
theorem dksJ7_getChar_2 : cJ7_getChar.data.toList.drop 48 = dktJ7_getChar_2 := dk_seg dksJ7_getChar_1 24 rfl rfl
theorem dJ7_getChar_0 : decode cJ7_getChar 0 = .ok (.getstatic 44, 3) := dk_178 0 44 (dk_at dksJ7_getChar_0 0 rfl rfl)
theorem dJ7_getChar_3 : decode cJ7_getChar 3 = .ok (.ifCond .ne 25, 3) := dk_154 0 25 (dk_at dksJ7_getChar_0 3 rfl rfl)
theorem dJ7_getChar_6 : decode cJ7_getChar 6 = .ok (.iload_n 1, 1) := dk_27 (dk_at dksJ7_getChar_0 6 rfl rfl)
theorem dJ7_getChar_7 : decode cJ7_getChar 7 = .ok (.ifCond .lt 11, 3) := dk_155 0 11 (dk_at dksJ7_getChar_0 7 rfl rfl)
theorem dJ7_getChar_10 : decode cJ7_getChar 10 = .ok (.iload_n 1, 1) := dk_27 (dk_at dksJ7_getChar_0 10 rfl rfl)
theorem dJ7_getChar_11 : decode cJ7_getChar 11 = .ok (.aload_n 0, 1) := dk_42 (dk_at dksJ7_getChar_0 11 rfl rfl)
theorem dJ7_getChar_12 : decode cJ7_getChar 12 = .ok (.invokestatic 48, 3) := dk_184 0 48 (dk_at dksJ7_getChar_0 12 rfl rfl)
theorem dJ7_getChar_15 : decode cJ7_getChar 15 = .ok (.if_icmp .lt 13, 3) := dk_161 0 13 (dk_at dksJ7_getChar_0 15 rfl rfl)
theorem dJ7_getChar_18 : decode cJ7_getChar 18 = .ok (.new 52, 3) := dk_187 0 52 (dk_at dksJ7_getChar_0 18 rfl rfl)
theorem dJ7_getChar_21 : decode cJ7_getChar 21 = .ok (.dup, 1) := dk_89 (dk_at dksJ7_getChar_0 21 rfl rfl)
theorem dJ7_getChar_22 : decode cJ7_getChar 22 = .ok (.ldc 54, 2) := dk_18 54 (dk_at dksJ7_getChar_0 22 rfl rfl)
theorem dJ7_getChar_24 : decode cJ7_getChar 24 = .ok (.invokespecial 56, 3) := dk_183 0 56 (dk_at dksJ7_getChar_1 0 rfl rfl)
theorem dJ7_getChar_27 : decode cJ7_getChar 27 = .ok (.athrow, 1) := dk_191 (dk_at dksJ7_getChar_1 3 rfl rfl)
theorem dJ7_getChar_28 : decode cJ7_getChar 28 = .ok (.iload_n 1, 1) := dk_27 (dk_at dksJ7_getChar_1 4 rfl rfl)
theorem dJ7_getChar_29 : decode cJ7_getChar 29 = .ok (.iconst 1, 1) := dk_4 (dk_at dksJ7_getChar_1 5 rfl rfl)
theorem dJ7_getChar_30 : decode cJ7_getChar 30 = .ok (.ishl, 1) := dk_120 (dk_at dksJ7_getChar_1 6 rfl rfl)
theorem dJ7_getChar_31 : decode cJ7_getChar 31 = .ok (.istore_n 1, 1) := dk_60 (dk_at dksJ7_getChar_1 7 rfl rfl)
theorem dJ7_getChar_32 : decode cJ7_getChar 32 = .ok (.aload_n 0, 1) := dk_42 (dk_at dksJ7_getChar_1 8 rfl rfl)
theorem dJ7_getChar_33 : decode cJ7_getChar 33 = .ok (.iload_n 1, 1) := dk_27 (dk_at dksJ7_getChar_1 9 rfl rfl)
theorem dJ7_getChar_34 : decode cJ7_getChar 34 = .ok (.iinc 1 1, 3) := dk_132 1 1 (dk_at dksJ7_getChar_1 10 rfl rfl)
theorem dJ7_getChar_37 : decode cJ7_getChar 37 = .ok (.baload, 1) := dk_51 (dk_at dksJ7_getChar_1 13 rfl rfl)
theorem dJ7_getChar_38 : decode cJ7_getChar 38 = .ok (.sipush 255, 3) := dk_17 0 255 (dk_at dksJ7_getChar_1 14 rfl rfl)
theorem dJ7_getChar_41 : decode cJ7_getChar 41 = .ok (.iand, 1) := dk_126 (dk_at dksJ7_getChar_1 17 rfl rfl)
theorem dJ7_getChar_42 : decode cJ7_getChar 42 = .ok (.getstatic 59, 3) := dk_178 0 59 (dk_at dksJ7_getChar_1 18 rfl rfl)
theorem dJ7_getChar_45 : decode cJ7_getChar 45 = .ok (.ishl, 1) := dk_120 (dk_at dksJ7_getChar_1 21 rfl rfl)
theorem dJ7_getChar_46 : decode cJ7_getChar 46 = .ok (.aload_n 0, 1) := dk_42 (dk_at dksJ7_getChar_1 22 rfl rfl)
theorem dJ7_getChar_47 : decode cJ7_getChar 47 = .ok (.iload_n 1, 1) := dk_27 (dk_at dksJ7_getChar_1 23 rfl rfl)
theorem dJ7_getChar_48 : decode cJ7_getChar 48 = .ok (.baload, 1) := dk_51 (dk_at dksJ7_getChar_2 0 rfl rfl)
theorem dJ7_getChar_49 : decode cJ7_getChar 49 = .ok (.sipush 255, 3) := dk_17 0 255 (dk_at dksJ7_getChar_2 1 rfl rfl)
theorem dJ7_getChar_52 : decode cJ7_getChar 52 = .ok (.iand, 1) := dk_126 (dk_at dksJ7_getChar_2 4 rfl rfl)
theorem dJ7_getChar_53 : decode cJ7_getChar 53 = .ok (.getstatic 63, 3) := dk_178 0 63 (dk_at dksJ7_getChar_2 5 rfl rfl)
theorem dJ7_getChar_56 : decode cJ7_getChar 56 = .ok (.ishl, 1) := dk_120 (dk_at dksJ7_getChar_2 8 rfl rfl)
theorem dJ7_getChar_57 : decode cJ7_getChar 57 = .ok (.ior, 1) := dk_128 (dk_at dksJ7_getChar_2 9 rfl rfl)
theorem dJ7_getChar_58 : decode cJ7_getChar 58 = .ok (.i2c, 1) := dk_146 (dk_at dksJ7_getChar_2 10 rfl rfl)
theorem dJ7_getChar_59 : decode cJ7_getChar 59 = .ok (.ireturn, 1) := dk_172 (dk_at dksJ7_getChar_2 11 rfl rfl)
abbrev cJ7_charAt : ByteArray := prog_34_method_83_code
def yJ7_charAt : MethodName := ⟨RJ7, "charAt", "([BI)C"⟩
def dkwJ7_charAt_0 : List UInt8 := [27, 42, 184, 0, 67, 42, 27, 184, 0, 71, 172]
abbrev dktJ7_charAt_0 : List UInt8 := dkwJ7_charAt_0 ++ []
theorem dksJ7_charAt_0 : cJ7_charAt.data.toList.drop 0 = dktJ7_charAt_0 := by decide +kernel
theorem dJ7_charAt_0 : decode cJ7_charAt 0 = .ok (.iload_n 1, 1) := dk_27 (dk_at dksJ7_charAt_0 0 rfl rfl)
theorem dJ7_charAt_1 : decode cJ7_charAt 1 = .ok (.aload_n 0, 1) := dk_42 (dk_at dksJ7_charAt_0 1 rfl rfl)
theorem dJ7_charAt_2 : decode cJ7_charAt 2 = .ok (.invokestatic 67, 3) := dk_184 0 67 (dk_at dksJ7_charAt_0 2 rfl rfl)
theorem dJ7_charAt_5 : decode cJ7_charAt 5 = .ok (.aload_n 0, 1) := dk_42 (dk_at dksJ7_charAt_0 5 rfl rfl)
theorem dJ7_charAt_6 : decode cJ7_charAt 6 = .ok (.iload_n 1, 1) := dk_27 (dk_at dksJ7_charAt_0 6 rfl rfl)
theorem dJ7_charAt_7 : decode cJ7_charAt 7 = .ok (.invokestatic 71, 3) := dk_184 0 71 (dk_at dksJ7_charAt_0 7 rfl rfl)
theorem dJ7_charAt_10 : decode cJ7_charAt 10 = .ok (.ireturn, 1) := dk_172 (dk_at dksJ7_charAt_0 10 rfl rfl)
abbrev cJ7_compress : ByteArray := prog_34_method_17_code
def yJ7_compress : MethodName := ⟨RJ7, "compress", "([BII)[B"⟩
def dkwJ7_compress_2 : List UInt8 := [25, 5, 3, 45, 3, 28, 184, 0, 123, 28, 159, 0, 6, 25, 5, 176, 45, 176]
abbrev dktJ7_compress_2 : List UInt8 := dkwJ7_compress_2 ++ []
def dkwJ7_compress_1 : List UInt8 := [27, 28, 96, 184, 0, 11, 184, 0, 126, 58, 5, 25, 5, 21, 4, 184, 0, 71, 17, 0, 255, 163, 0, 16]
abbrev dktJ7_compress_1 : List UInt8 := dkwJ7_compress_1 ++ dktJ7_compress_2
def dkwJ7_compress_0 : List UInt8 := [28, 188, 8, 78, 42, 27, 45, 3, 28, 184, 0, 123, 54, 4, 21, 4, 28, 159, 0, 47, 42, 27, 4, 120]
abbrev dktJ7_compress_0 : List UInt8 := dkwJ7_compress_0 ++ dktJ7_compress_1
theorem dksJ7_compress_0 : cJ7_compress.data.toList.drop 0 = dktJ7_compress_0 := by decide +kernel
theorem dksJ7_compress_1 : cJ7_compress.data.toList.drop 24 = dktJ7_compress_1 := dk_seg dksJ7_compress_0 24 rfl rfl
theorem dksJ7_compress_2 : cJ7_compress.data.toList.drop 48 = dktJ7_compress_2 := dk_seg dksJ7_compress_1 24 rfl rfl
theorem dJ7_compress_0 : decode cJ7_compress 0 = .ok (.iload_n 2, 1) := dk_28 (dk_at dksJ7_compress_0 0 rfl rfl)
theorem dJ7_compress_1 : decode cJ7_compress 1 = .ok (.newarray .byte, 2) := dk_188_8 (dk_at dksJ7_compress_0 1 rfl rfl)
theorem dJ7_compress_3 : decode cJ7_compress 3 = .ok (.astore_n 3, 1) := dk_78 (dk_at dksJ7_compress_0 3 rfl rfl)
theorem dJ7_compress_4 : decode cJ7_compress 4 = .ok (.aload_n 0, 1) := dk_42 (dk_at dksJ7_compress_0 4 rfl rfl)
theorem dJ7_compress_5 : decode cJ7_compress 5 = .ok (.iload_n 1, 1) := dk_27 (dk_at dksJ7_compress_0 5 rfl rfl)
theorem dJ7_compress_6 : decode cJ7_compress 6 = .ok (.aload_n 3, 1) := dk_45 (dk_at dksJ7_compress_0 6 rfl rfl)
theorem dJ7_compress_7 : decode cJ7_compress 7 = .ok (.iconst 0, 1) := dk_3 (dk_at dksJ7_compress_0 7 rfl rfl)
theorem dJ7_compress_8 : decode cJ7_compress 8 = .ok (.iload_n 2, 1) := dk_28 (dk_at dksJ7_compress_0 8 rfl rfl)
theorem dJ7_compress_9 : decode cJ7_compress 9 = .ok (.invokestatic 123, 3) := dk_184 0 123 (dk_at dksJ7_compress_0 9 rfl rfl)
theorem dJ7_compress_12 : decode cJ7_compress 12 = .ok (.istore 4, 2) := dk_54 4 (dk_at dksJ7_compress_0 12 rfl rfl)
theorem dJ7_compress_14 : decode cJ7_compress 14 = .ok (.iload 4, 2) := dk_21 4 (dk_at dksJ7_compress_0 14 rfl rfl)
theorem dJ7_compress_16 : decode cJ7_compress 16 = .ok (.iload_n 2, 1) := dk_28 (dk_at dksJ7_compress_0 16 rfl rfl)
theorem dJ7_compress_17 : decode cJ7_compress 17 = .ok (.if_icmp .eq 47, 3) := dk_159 0 47 (dk_at dksJ7_compress_0 17 rfl rfl)
theorem dJ7_compress_20 : decode cJ7_compress 20 = .ok (.aload_n 0, 1) := dk_42 (dk_at dksJ7_compress_0 20 rfl rfl)
theorem dJ7_compress_21 : decode cJ7_compress 21 = .ok (.iload_n 1, 1) := dk_27 (dk_at dksJ7_compress_0 21 rfl rfl)
theorem dJ7_compress_22 : decode cJ7_compress 22 = .ok (.iconst 1, 1) := dk_4 (dk_at dksJ7_compress_0 22 rfl rfl)
theorem dJ7_compress_23 : decode cJ7_compress 23 = .ok (.ishl, 1) := dk_120 (dk_at dksJ7_compress_0 23 rfl rfl)
theorem dJ7_compress_24 : decode cJ7_compress 24 = .ok (.iload_n 1, 1) := dk_27 (dk_at dksJ7_compress_1 0 rfl rfl)
theorem dJ7_compress_25 : decode cJ7_compress 25 = .ok (.iload_n 2, 1) := dk_28 (dk_at dksJ7_compress_1 1 rfl rfl)
theorem dJ7_compress_26 : decode cJ7_compress 26 = .ok (.iadd, 1) := dk_96 (dk_at dksJ7_compress_1 2 rfl rfl)
theorem dJ7_compress_27 : decode cJ7_compress 27 = .ok (.invokestatic 11, 3) := dk_184 0 11 (dk_at dksJ7_compress_1 3 rfl rfl)
theorem dJ7_compress_30 : decode cJ7_compress 30 = .ok (.invokestatic 126, 3) := dk_184 0 126 (dk_at dksJ7_compress_1 6 rfl rfl)
theorem dJ7_compress_33 : decode cJ7_compress 33 = .ok (.astore 5, 2) := dk_58 5 (dk_at dksJ7_compress_1 9 rfl rfl)
theorem dJ7_compress_35 : decode cJ7_compress 35 = .ok (.aload 5, 2) := dk_25 5 (dk_at dksJ7_compress_1 11 rfl rfl)
theorem dJ7_compress_37 : decode cJ7_compress 37 = .ok (.iload 4, 2) := dk_21 4 (dk_at dksJ7_compress_1 13 rfl rfl)
theorem dJ7_compress_39 : decode cJ7_compress 39 = .ok (.invokestatic 71, 3) := dk_184 0 71 (dk_at dksJ7_compress_1 15 rfl rfl)
theorem dJ7_compress_42 : decode cJ7_compress 42 = .ok (.sipush 255, 3) := dk_17 0 255 (dk_at dksJ7_compress_1 18 rfl rfl)
theorem dJ7_compress_45 : decode cJ7_compress 45 = .ok (.if_icmp .gt 16, 3) := dk_163 0 16 (dk_at dksJ7_compress_1 21 rfl rfl)
theorem dJ7_compress_48 : decode cJ7_compress 48 = .ok (.aload 5, 2) := dk_25 5 (dk_at dksJ7_compress_2 0 rfl rfl)
theorem dJ7_compress_50 : decode cJ7_compress 50 = .ok (.iconst 0, 1) := dk_3 (dk_at dksJ7_compress_2 2 rfl rfl)
theorem dJ7_compress_51 : decode cJ7_compress 51 = .ok (.aload_n 3, 1) := dk_45 (dk_at dksJ7_compress_2 3 rfl rfl)
theorem dJ7_compress_52 : decode cJ7_compress 52 = .ok (.iconst 0, 1) := dk_3 (dk_at dksJ7_compress_2 4 rfl rfl)
theorem dJ7_compress_53 : decode cJ7_compress 53 = .ok (.iload_n 2, 1) := dk_28 (dk_at dksJ7_compress_2 5 rfl rfl)
theorem dJ7_compress_54 : decode cJ7_compress 54 = .ok (.invokestatic 123, 3) := dk_184 0 123 (dk_at dksJ7_compress_2 6 rfl rfl)
theorem dJ7_compress_57 : decode cJ7_compress 57 = .ok (.iload_n 2, 1) := dk_28 (dk_at dksJ7_compress_2 9 rfl rfl)
theorem dJ7_compress_58 : decode cJ7_compress 58 = .ok (.if_icmp .eq 6, 3) := dk_159 0 6 (dk_at dksJ7_compress_2 10 rfl rfl)
theorem dJ7_compress_61 : decode cJ7_compress 61 = .ok (.aload 5, 2) := dk_25 5 (dk_at dksJ7_compress_2 13 rfl rfl)
theorem dJ7_compress_63 : decode cJ7_compress 63 = .ok (.areturn, 1) := dk_176 (dk_at dksJ7_compress_2 15 rfl rfl)
theorem dJ7_compress_64 : decode cJ7_compress 64 = .ok (.aload_n 3, 1) := dk_45 (dk_at dksJ7_compress_2 16 rfl rfl)
theorem dJ7_compress_65 : decode cJ7_compress 65 = .ok (.areturn, 1) := dk_176 (dk_at dksJ7_compress_2 17 rfl rfl)
abbrev cJ7_compress_2 : ByteArray := prog_34_method_22_code
def yJ7_compress_2 : MethodName := ⟨RJ7, "compress", "([BI[BII)I"⟩
def dkwJ7_compress_2_2 : List UInt8 := [132, 5, 1, 167, 255, 216, 21, 4, 172]
abbrev dktJ7_compress_2_2 : List UInt8 := dkwJ7_compress_2_2 ++ []
def dkwJ7_compress_2_1 : List UInt8 := [21, 6, 17, 0, 255, 164, 0, 6, 21, 5, 172, 44, 29, 21, 6, 145, 84, 132, 1, 1, 132, 3, 1]
abbrev dktJ7_compress_2_1 : List UInt8 := dkwJ7_compress_2_1 ++ dktJ7_compress_2_2
def dkwJ7_compress_2_0 : List UInt8 := [27, 21, 4, 42, 184, 0, 173, 3, 54, 5, 21, 5, 21, 4, 162, 0, 39, 42, 27, 184, 0, 71, 54, 6]
abbrev dktJ7_compress_2_0 : List UInt8 := dkwJ7_compress_2_0 ++ dktJ7_compress_2_1
theorem dksJ7_compress_2_0 : cJ7_compress_2.data.toList.drop 0 = dktJ7_compress_2_0 := by decide +kernel
theorem dksJ7_compress_2_1 : cJ7_compress_2.data.toList.drop 24 = dktJ7_compress_2_1 := dk_seg dksJ7_compress_2_0 24 rfl rfl
theorem dksJ7_compress_2_2 : cJ7_compress_2.data.toList.drop 47 = dktJ7_compress_2_2 := dk_seg dksJ7_compress_2_1 23 rfl rfl
theorem dJ7_compress_2_0 : decode cJ7_compress_2 0 = .ok (.iload_n 1, 1) := dk_27 (dk_at dksJ7_compress_2_0 0 rfl rfl)
theorem dJ7_compress_2_1 : decode cJ7_compress_2 1 = .ok (.iload 4, 2) := dk_21 4 (dk_at dksJ7_compress_2_0 1 rfl rfl)
theorem dJ7_compress_2_3 : decode cJ7_compress_2 3 = .ok (.aload_n 0, 1) := dk_42 (dk_at dksJ7_compress_2_0 3 rfl rfl)
theorem dJ7_compress_2_4 : decode cJ7_compress_2 4 = .ok (.invokestatic 173, 3) := dk_184 0 173 (dk_at dksJ7_compress_2_0 4 rfl rfl)
theorem dJ7_compress_2_7 : decode cJ7_compress_2 7 = .ok (.iconst 0, 1) := dk_3 (dk_at dksJ7_compress_2_0 7 rfl rfl)
theorem dJ7_compress_2_8 : decode cJ7_compress_2 8 = .ok (.istore 5, 2) := dk_54 5 (dk_at dksJ7_compress_2_0 8 rfl rfl)
theorem dJ7_compress_2_10 : decode cJ7_compress_2 10 = .ok (.iload 5, 2) := dk_21 5 (dk_at dksJ7_compress_2_0 10 rfl rfl)
theorem dJ7_compress_2_12 : decode cJ7_compress_2 12 = .ok (.iload 4, 2) := dk_21 4 (dk_at dksJ7_compress_2_0 12 rfl rfl)
theorem dJ7_compress_2_14 : decode cJ7_compress_2 14 = .ok (.if_icmp .ge 39, 3) := dk_162 0 39 (dk_at dksJ7_compress_2_0 14 rfl rfl)
theorem dJ7_compress_2_17 : decode cJ7_compress_2 17 = .ok (.aload_n 0, 1) := dk_42 (dk_at dksJ7_compress_2_0 17 rfl rfl)
theorem dJ7_compress_2_18 : decode cJ7_compress_2 18 = .ok (.iload_n 1, 1) := dk_27 (dk_at dksJ7_compress_2_0 18 rfl rfl)
theorem dJ7_compress_2_19 : decode cJ7_compress_2 19 = .ok (.invokestatic 71, 3) := dk_184 0 71 (dk_at dksJ7_compress_2_0 19 rfl rfl)
theorem dJ7_compress_2_22 : decode cJ7_compress_2 22 = .ok (.istore 6, 2) := dk_54 6 (dk_at dksJ7_compress_2_0 22 rfl rfl)
theorem dJ7_compress_2_24 : decode cJ7_compress_2 24 = .ok (.iload 6, 2) := dk_21 6 (dk_at dksJ7_compress_2_1 0 rfl rfl)
theorem dJ7_compress_2_26 : decode cJ7_compress_2 26 = .ok (.sipush 255, 3) := dk_17 0 255 (dk_at dksJ7_compress_2_1 2 rfl rfl)
theorem dJ7_compress_2_29 : decode cJ7_compress_2 29 = .ok (.if_icmp .le 6, 3) := dk_164 0 6 (dk_at dksJ7_compress_2_1 5 rfl rfl)
theorem dJ7_compress_2_32 : decode cJ7_compress_2 32 = .ok (.iload 5, 2) := dk_21 5 (dk_at dksJ7_compress_2_1 8 rfl rfl)
theorem dJ7_compress_2_34 : decode cJ7_compress_2 34 = .ok (.ireturn, 1) := dk_172 (dk_at dksJ7_compress_2_1 10 rfl rfl)
theorem dJ7_compress_2_35 : decode cJ7_compress_2 35 = .ok (.aload_n 2, 1) := dk_44 (dk_at dksJ7_compress_2_1 11 rfl rfl)
theorem dJ7_compress_2_36 : decode cJ7_compress_2 36 = .ok (.iload_n 3, 1) := dk_29 (dk_at dksJ7_compress_2_1 12 rfl rfl)
theorem dJ7_compress_2_37 : decode cJ7_compress_2 37 = .ok (.iload 6, 2) := dk_21 6 (dk_at dksJ7_compress_2_1 13 rfl rfl)
theorem dJ7_compress_2_39 : decode cJ7_compress_2 39 = .ok (.i2b, 1) := dk_145 (dk_at dksJ7_compress_2_1 15 rfl rfl)
theorem dJ7_compress_2_40 : decode cJ7_compress_2 40 = .ok (.bastore, 1) := dk_84 (dk_at dksJ7_compress_2_1 16 rfl rfl)
theorem dJ7_compress_2_41 : decode cJ7_compress_2 41 = .ok (.iinc 1 1, 3) := dk_132 1 1 (dk_at dksJ7_compress_2_1 17 rfl rfl)
theorem dJ7_compress_2_44 : decode cJ7_compress_2 44 = .ok (.iinc 3 1, 3) := dk_132 3 1 (dk_at dksJ7_compress_2_1 20 rfl rfl)
theorem dJ7_compress_2_47 : decode cJ7_compress_2 47 = .ok (.iinc 5 1, 3) := dk_132 5 1 (dk_at dksJ7_compress_2_2 0 rfl rfl)
theorem dJ7_compress_2_50 : decode cJ7_compress_2 50 = .ok (.goto (-40), 3) := dk_167 255 216 (dk_at dksJ7_compress_2_2 3 rfl rfl)
theorem dJ7_compress_2_53 : decode cJ7_compress_2 53 = .ok (.iload 4, 2) := dk_21 4 (dk_at dksJ7_compress_2_2 6 rfl rfl)
theorem dJ7_compress_2_55 : decode cJ7_compress_2 55 = .ok (.ireturn, 1) := dk_172 (dk_at dksJ7_compress_2_2 8 rfl rfl)
abbrev cJ7_coderFromArrayLen : ByteArray := prog_34_method_15_code
def yJ7_coderFromArrayLen : MethodName := ⟨RJ7, "coderFromArrayLen", "([BI)B"⟩
def dkwJ7_coderFromArrayLen_0 : List UInt8 := [27, 42, 190, 100, 16, 31, 124, 145, 172]
abbrev dktJ7_coderFromArrayLen_0 : List UInt8 := dkwJ7_coderFromArrayLen_0 ++ []
theorem dksJ7_coderFromArrayLen_0 : cJ7_coderFromArrayLen.data.toList.drop 0 = dktJ7_coderFromArrayLen_0 := by decide +kernel
theorem dJ7_coderFromArrayLen_0 : decode cJ7_coderFromArrayLen 0 = .ok (.iload_n 1, 1) := dk_27 (dk_at dksJ7_coderFromArrayLen_0 0 rfl rfl)
theorem dJ7_coderFromArrayLen_1 : decode cJ7_coderFromArrayLen 1 = .ok (.aload_n 0, 1) := dk_42 (dk_at dksJ7_coderFromArrayLen_0 1 rfl rfl)
theorem dJ7_coderFromArrayLen_2 : decode cJ7_coderFromArrayLen 2 = .ok (.arraylength, 1) := dk_190 (dk_at dksJ7_coderFromArrayLen_0 2 rfl rfl)
theorem dJ7_coderFromArrayLen_3 : decode cJ7_coderFromArrayLen 3 = .ok (.isub, 1) := dk_100 (dk_at dksJ7_coderFromArrayLen_0 3 rfl rfl)
theorem dJ7_coderFromArrayLen_4 : decode cJ7_coderFromArrayLen 4 = .ok (.bipush 31, 2) := dk_16 31 (dk_at dksJ7_coderFromArrayLen_0 4 rfl rfl)
theorem dJ7_coderFromArrayLen_6 : decode cJ7_coderFromArrayLen 6 = .ok (.iushr, 1) := dk_124 (dk_at dksJ7_coderFromArrayLen_0 6 rfl rfl)
theorem dJ7_coderFromArrayLen_7 : decode cJ7_coderFromArrayLen 7 = .ok (.i2b, 1) := dk_145 (dk_at dksJ7_coderFromArrayLen_0 7 rfl rfl)
theorem dJ7_coderFromArrayLen_8 : decode cJ7_coderFromArrayLen 8 = .ok (.ireturn, 1) := dk_172 (dk_at dksJ7_coderFromArrayLen_0 8 rfl rfl)
abbrev cJ7_hashCode : ByteArray := prog_34_method_39_code
def yJ7_hashCode : MethodName := ⟨RJ7, "hashCode", "([B)I"⟩
def dkwJ7_hashCode_2 : List UInt8 := [3, 167, 0, 22, 42, 3, 184, 0, 71, 167, 0, 14, 42, 3, 42, 190, 4, 122, 3, 8, 184, 0, 220, 172]
abbrev dktJ7_hashCode_2 : List UInt8 := dkwJ7_hashCode_2 ++ []
def dkwJ7_hashCode_1 : List UInt8 := [171, 0, 0, 0, 0, 38, 0, 0, 0, 2, 0, 0, 0, 0, 0, 0, 0, 26, 0, 0, 0, 2, 0, 0, 0, 30]
abbrev dktJ7_hashCode_1 : List UInt8 := dkwJ7_hashCode_1 ++ dktJ7_hashCode_2
def dkwJ7_hashCode_0 : List UInt8 := [42, 190]
abbrev dktJ7_hashCode_0 : List UInt8 := dkwJ7_hashCode_0 ++ dktJ7_hashCode_1
theorem dksJ7_hashCode_0 : cJ7_hashCode.data.toList.drop 0 = dktJ7_hashCode_0 := by decide +kernel
theorem dksJ7_hashCode_1 : cJ7_hashCode.data.toList.drop 2 = dktJ7_hashCode_1 := dk_seg dksJ7_hashCode_0 2 rfl rfl
theorem dksJ7_hashCode_2 : cJ7_hashCode.data.toList.drop 28 = dktJ7_hashCode_2 := dk_seg dksJ7_hashCode_1 26 rfl rfl
theorem dJ7_hashCode_0 : decode cJ7_hashCode 0 = .ok (.aload_n 0, 1) := dk_42 (dk_at dksJ7_hashCode_0 0 rfl rfl)
theorem dJ7_hashCode_1 : decode cJ7_hashCode 1 = .ok (.arraylength, 1) := dk_190 (dk_at dksJ7_hashCode_0 1 rfl rfl)
theorem dJ7_hashCode_2 : decode cJ7_hashCode 2 = .ok (.lookupswitch 38 #[(0, 26), (2, 30)], 26) := by decide +kernel
theorem dJ7_hashCode_28 : decode cJ7_hashCode 28 = .ok (.iconst 0, 1) := dk_3 (dk_at dksJ7_hashCode_2 0 rfl rfl)
theorem dJ7_hashCode_29 : decode cJ7_hashCode 29 = .ok (.goto 22, 3) := dk_167 0 22 (dk_at dksJ7_hashCode_2 1 rfl rfl)
theorem dJ7_hashCode_32 : decode cJ7_hashCode 32 = .ok (.aload_n 0, 1) := dk_42 (dk_at dksJ7_hashCode_2 4 rfl rfl)
theorem dJ7_hashCode_33 : decode cJ7_hashCode 33 = .ok (.iconst 0, 1) := dk_3 (dk_at dksJ7_hashCode_2 5 rfl rfl)
theorem dJ7_hashCode_34 : decode cJ7_hashCode 34 = .ok (.invokestatic 71, 3) := dk_184 0 71 (dk_at dksJ7_hashCode_2 6 rfl rfl)
theorem dJ7_hashCode_37 : decode cJ7_hashCode 37 = .ok (.goto 14, 3) := dk_167 0 14 (dk_at dksJ7_hashCode_2 9 rfl rfl)
theorem dJ7_hashCode_40 : decode cJ7_hashCode 40 = .ok (.aload_n 0, 1) := dk_42 (dk_at dksJ7_hashCode_2 12 rfl rfl)
theorem dJ7_hashCode_41 : decode cJ7_hashCode 41 = .ok (.iconst 0, 1) := dk_3 (dk_at dksJ7_hashCode_2 13 rfl rfl)
theorem dJ7_hashCode_42 : decode cJ7_hashCode 42 = .ok (.aload_n 0, 1) := dk_42 (dk_at dksJ7_hashCode_2 14 rfl rfl)
theorem dJ7_hashCode_43 : decode cJ7_hashCode 43 = .ok (.arraylength, 1) := dk_190 (dk_at dksJ7_hashCode_2 15 rfl rfl)
theorem dJ7_hashCode_44 : decode cJ7_hashCode 44 = .ok (.iconst 1, 1) := dk_4 (dk_at dksJ7_hashCode_2 16 rfl rfl)
theorem dJ7_hashCode_45 : decode cJ7_hashCode 45 = .ok (.ishr, 1) := dk_122 (dk_at dksJ7_hashCode_2 17 rfl rfl)
theorem dJ7_hashCode_46 : decode cJ7_hashCode 46 = .ok (.iconst 0, 1) := dk_3 (dk_at dksJ7_hashCode_2 18 rfl rfl)
theorem dJ7_hashCode_47 : decode cJ7_hashCode 47 = .ok (.iconst 5, 1) := dk_8 (dk_at dksJ7_hashCode_2 19 rfl rfl)
theorem dJ7_hashCode_48 : decode cJ7_hashCode 48 = .ok (.invokestatic 220, 3) := dk_184 0 220 (dk_at dksJ7_hashCode_2 20 rfl rfl)
theorem dJ7_hashCode_51 : decode cJ7_hashCode 51 = .ok (.ireturn, 1) := dk_172 (dk_at dksJ7_hashCode_2 23 rfl rfl)
theorem q70 : (Jvm.Cond.initialized "java/lang/StringUTF16") ∈ lw_all := lw_g (lw_at lw_m1 11 rfl) rfl
theorem q224 : (Jvm.Cond.static ({ cls := "java/lang/StringUTF16", name := "newBytesFor", desc := "(I)[B" } : Jvm.MethodName)) ∈ lw_all := lw_g (lw_at lw_m1 165 rfl) rfl
theorem q225 : (Jvm.Cond.code ({ cls := "java/lang/StringUTF16", name := "newBytesFor", desc := "(I)[B" } : Jvm.MethodName) prog_34_method_2_code (1 : Nat) (Option.some (Jvm.ClassFile.FieldType.array Jvm.ClassFile.FieldType.byte))) ∈ lw_all := lw_g (lw_at lw_m1 166 rfl) rfl
theorem q226 : (Jvm.Cond.methodLink "java/lang/StringUTF16" (11 : Nat) ({ cls := "java/lang/StringUTF16", name := "newBytesLength", desc := "(I)I" } : Jvm.MethodName)) ∈ lw_all := lw_g (lw_at lw_m1 167 rfl) rfl
theorem q227 : (Jvm.Cond.static ({ cls := "java/lang/StringUTF16", name := "newBytesLength", desc := "(I)I" } : Jvm.MethodName)) ∈ lw_all := lw_g (lw_at lw_m1 168 rfl) rfl
theorem q228 : (Jvm.Cond.code ({ cls := "java/lang/StringUTF16", name := "newBytesLength", desc := "(I)I" } : Jvm.MethodName) prog_34_method_3_code (1 : Nat) (Option.some Jvm.ClassFile.FieldType.int)) ∈ lw_all := lw_g (lw_at lw_m1 169 rfl) rfl
theorem q229 : (Jvm.Cond.constant "java/lang/StringUTF16" (20 : Nat) (1073741823 : Int32)) ∈ lw_all := lw_g (lw_at lw_m1 170 rfl) rfl
theorem q946 : (Jvm.Cond.static ({ cls := "java/lang/StringUTF16", name := "inflate", desc := "([BI[BII)V" } : Jvm.MethodName)) ∈ lw_all := lw_g (lw_at lw_m4 167 rfl) rfl
theorem q947 : (Jvm.Cond.code ({ cls := "java/lang/StringUTF16", name := "inflate", desc := "([BI[BII)V" } : Jvm.MethodName) prog_34_method_86_code (6 : Nat) (Option.none : Option Jvm.ClassFile.FieldType)) ∈ lw_all := lw_g (lw_at lw_m4 168 rfl) rfl
theorem q948 : (Jvm.Cond.methodLink "java/lang/StringUTF16" (173 : Nat) ({ cls := "java/lang/StringUTF16", name := "checkBoundsOffCount", desc := "(II[B)V" } : Jvm.MethodName)) ∈ lw_all := lw_g (lw_at lw_m4 169 rfl) rfl
theorem q949 : (Jvm.Cond.static ({ cls := "java/lang/StringUTF16", name := "checkBoundsOffCount", desc := "(II[B)V" } : Jvm.MethodName)) ∈ lw_all := lw_g (lw_at lw_m4 170 rfl) rfl
theorem q950 : (Jvm.Cond.code ({ cls := "java/lang/StringUTF16", name := "checkBoundsOffCount", desc := "(II[B)V" } : Jvm.MethodName) prog_34_method_94_code (3 : Nat) (Option.none : Option Jvm.ClassFile.FieldType)) ∈ lw_all := lw_g (lw_at lw_m4 171 rfl) rfl
theorem q951 : (Jvm.Cond.methodLink "java/lang/StringUTF16" (48 : Nat) ({ cls := "java/lang/StringUTF16", name := "length", desc := "([B)I" } : Jvm.MethodName)) ∈ lw_all := lw_g (lw_at lw_m4 172 rfl) rfl
theorem q952 : (Jvm.Cond.static ({ cls := "java/lang/StringUTF16", name := "length", desc := "([B)I" } : Jvm.MethodName)) ∈ lw_all := lw_g (lw_at lw_m4 173 rfl) rfl
theorem q953 : (Jvm.Cond.code ({ cls := "java/lang/StringUTF16", name := "length", desc := "([B)I" } : Jvm.MethodName) prog_34_method_6_code (1 : Nat) (Option.some Jvm.ClassFile.FieldType.int)) ∈ lw_all := lw_g (lw_at lw_m4 174 rfl) rfl
theorem q954 : (Jvm.Cond.methodLink "java/lang/StringUTF16" (419 : Nat) ({ cls := "java/lang/String", name := "checkBoundsOffCount", desc := "(III)I" } : Jvm.MethodName)) ∈ lw_all := lw_g (lw_at lw_m4 175 rfl) rfl
theorem q962 : (Jvm.Cond.methodLink "java/lang/StringUTF16" (111 : Nat) ({ cls := "java/lang/StringUTF16", name := "putChar", desc := "([BII)V" } : Jvm.MethodName)) ∈ lw_all := lw_g (lw_at lw_m4 183 rfl) rfl
theorem q963 : (Jvm.Cond.static ({ cls := "java/lang/StringUTF16", name := "putChar", desc := "([BII)V" } : Jvm.MethodName)) ∈ lw_all := lw_g (lw_at lw_m4 184 rfl) rfl
theorem q964 : (Jvm.Cond.code ({ cls := "java/lang/StringUTF16", name := "putChar", desc := "([BII)V" } : Jvm.MethodName) prog_34_method_4_code (3 : Nat) (Option.none : Option Jvm.ClassFile.FieldType)) ∈ lw_all := lw_g (lw_at lw_m4 185 rfl) rfl
theorem q965 : (Jvm.Cond.fieldLink "java/lang/StringUTF16" (44 : Nat) "java/lang/StringUTF16" "$assertionsDisabled" "Z") ∈ lw_all := lw_g (lw_at lw_m4 186 rfl) rfl
theorem q966 : (Jvm.Cond.laysStatic "java/lang/StringUTF16" "$assertionsDisabled" "Z") ∈ lw_tbl := lw_at lw_m4 187 rfl
theorem q967 : (Jvm.Cond.fieldLink "java/lang/StringUTF16" (59 : Nat) "java/lang/StringUTF16" "HI_BYTE_SHIFT" "I") ∈ lw_all := lw_g (lw_at lw_m4 188 rfl) rfl
theorem q968 : (Jvm.Cond.laysStatic "java/lang/StringUTF16" "HI_BYTE_SHIFT" "I") ∈ lw_tbl := lw_at lw_m4 189 rfl
theorem q969 : (Jvm.Cond.fieldLink "java/lang/StringUTF16" (63 : Nat) "java/lang/StringUTF16" "LO_BYTE_SHIFT" "I") ∈ lw_all := lw_g (lw_at lw_m4 190 rfl) rfl
theorem q970 : (Jvm.Cond.laysStatic "java/lang/StringUTF16" "LO_BYTE_SHIFT" "I") ∈ lw_tbl := lw_at lw_m4 191 rfl
theorem q972 : (Jvm.Cond.static ({ cls := "java/lang/StringUTF16", name := "putCharSB", desc := "([BII)V" } : Jvm.MethodName)) ∈ lw_all := lw_g (lw_at lw_m4 193 rfl) rfl
theorem q973 : (Jvm.Cond.code ({ cls := "java/lang/StringUTF16", name := "putCharSB", desc := "([BII)V" } : Jvm.MethodName) prog_34_method_71_code (3 : Nat) (Option.none : Option Jvm.ClassFile.FieldType)) ∈ lw_all := lw_g (lw_at lw_m4 194 rfl) rfl
theorem q974 : (Jvm.Cond.methodLink "java/lang/StringUTF16" (67 : Nat) ({ cls := "java/lang/StringUTF16", name := "checkIndex", desc := "(I[B)V" } : Jvm.MethodName)) ∈ lw_all := lw_g (lw_at lw_m4 195 rfl) rfl
theorem q975 : (Jvm.Cond.static ({ cls := "java/lang/StringUTF16", name := "checkIndex", desc := "(I[B)V" } : Jvm.MethodName)) ∈ lw_all := lw_g (lw_at lw_m4 196 rfl) rfl
theorem q976 : (Jvm.Cond.code ({ cls := "java/lang/StringUTF16", name := "checkIndex", desc := "(I[B)V" } : Jvm.MethodName) prog_34_method_91_code (2 : Nat) (Option.none : Option Jvm.ClassFile.FieldType)) ∈ lw_all := lw_g (lw_at lw_m4 197 rfl) rfl
theorem q977 : (Jvm.Cond.methodLink "java/lang/StringUTF16" (414 : Nat) ({ cls := "java/lang/String", name := "checkIndex", desc := "(II)V" } : Jvm.MethodName)) ∈ lw_all := lw_g (lw_at lw_m4 198 rfl) rfl
theorem q1002 : (Jvm.Cond.static ({ cls := "java/lang/StringUTF16", name := "fillNull", desc := "([BII)V" } : Jvm.MethodName)) ∈ lw_all := lw_g (lw_at lw_m4 223 rfl) rfl
theorem q1003 : (Jvm.Cond.code ({ cls := "java/lang/StringUTF16", name := "fillNull", desc := "([BII)V" } : Jvm.MethodName) prog_34_method_70_code (3 : Nat) (Option.none : Option Jvm.ClassFile.FieldType)) ∈ lw_all := lw_g (lw_at lw_m4 224 rfl) rfl
theorem q1004 : (Jvm.Cond.methodLink "java/lang/StringUTF16" (380 : Nat) ({ cls := "java/util/Arrays", name := "fill", desc := "([BIIB)V" } : Jvm.MethodName)) ∈ lw_all := lw_g (lw_at lw_m4 225 rfl) rfl
theorem q1061 : (Jvm.Cond.static ({ cls := "java/lang/StringUTF16", name := "getChar", desc := "([BI)C" } : Jvm.MethodName)) ∈ lw_all := lw_g (lw_at lw_m5 42 rfl) rfl
theorem q1062 : (Jvm.Cond.code ({ cls := "java/lang/StringUTF16", name := "getChar", desc := "([BI)C" } : Jvm.MethodName) prog_34_method_5_code (2 : Nat) (Option.some Jvm.ClassFile.FieldType.char)) ∈ lw_all := lw_g (lw_at lw_m5 43 rfl) rfl
theorem q1126 : (Jvm.Cond.static ({ cls := "java/lang/StringUTF16", name := "charAt", desc := "([BI)C" } : Jvm.MethodName)) ∈ lw_all := lw_g (lw_at lw_m5 107 rfl) rfl
theorem q1127 : (Jvm.Cond.code ({ cls := "java/lang/StringUTF16", name := "charAt", desc := "([BI)C" } : Jvm.MethodName) prog_34_method_83_code (2 : Nat) (Option.some Jvm.ClassFile.FieldType.char)) ∈ lw_all := lw_g (lw_at lw_m5 108 rfl) rfl
theorem q1128 : (Jvm.Cond.methodLink "java/lang/StringUTF16" (71 : Nat) ({ cls := "java/lang/StringUTF16", name := "getChar", desc := "([BI)C" } : Jvm.MethodName)) ∈ lw_all := lw_g (lw_at lw_m5 109 rfl) rfl
theorem q1164 : (Jvm.Cond.static ({ cls := "java/lang/StringUTF16", name := "compress", desc := "([BII)[B" } : Jvm.MethodName)) ∈ lw_all := lw_g (lw_at lw_m5 145 rfl) rfl
theorem q1165 : (Jvm.Cond.code ({ cls := "java/lang/StringUTF16", name := "compress", desc := "([BII)[B" } : Jvm.MethodName) prog_34_method_17_code (6 : Nat) (Option.some (Jvm.ClassFile.FieldType.array Jvm.ClassFile.FieldType.byte))) ∈ lw_all := lw_g (lw_at lw_m5 146 rfl) rfl
theorem q1166 : (Jvm.Cond.methodLink "java/lang/StringUTF16" (123 : Nat) ({ cls := "java/lang/StringUTF16", name := "compress", desc := "([BI[BII)I" } : Jvm.MethodName)) ∈ lw_all := lw_g (lw_at lw_m5 147 rfl) rfl
theorem q1167 : (Jvm.Cond.static ({ cls := "java/lang/StringUTF16", name := "compress", desc := "([BI[BII)I" } : Jvm.MethodName)) ∈ lw_all := lw_g (lw_at lw_m5 148 rfl) rfl
theorem q1168 : (Jvm.Cond.code ({ cls := "java/lang/StringUTF16", name := "compress", desc := "([BI[BII)I" } : Jvm.MethodName) prog_34_method_22_code (7 : Nat) (Option.some Jvm.ClassFile.FieldType.int)) ∈ lw_all := lw_g (lw_at lw_m5 149 rfl) rfl
theorem q1169 : (Jvm.Cond.methodLink "java/lang/StringUTF16" (126 : Nat) ({ cls := "java/util/Arrays", name := "copyOfRange", desc := "([BII)[B" } : Jvm.MethodName)) ∈ lw_all := lw_g (lw_at lw_m5 150 rfl) rfl
theorem q1171 : (Jvm.Cond.static ({ cls := "java/lang/StringUTF16", name := "coderFromArrayLen", desc := "([BI)B" } : Jvm.MethodName)) ∈ lw_all := lw_g (lw_at lw_m5 152 rfl) rfl
theorem q1172 : (Jvm.Cond.code ({ cls := "java/lang/StringUTF16", name := "coderFromArrayLen", desc := "([BI)B" } : Jvm.MethodName) prog_34_method_15_code (2 : Nat) (Option.some Jvm.ClassFile.FieldType.byte)) ∈ lw_all := lw_g (lw_at lw_m5 153 rfl) rfl
theorem q1235 : (Jvm.Cond.static ({ cls := "java/lang/StringUTF16", name := "hashCode", desc := "([B)I" } : Jvm.MethodName)) ∈ lw_all := lw_g (lw_at lw_m5 216 rfl) rfl
theorem q1236 : (Jvm.Cond.code ({ cls := "java/lang/StringUTF16", name := "hashCode", desc := "([B)I" } : Jvm.MethodName) prog_34_method_39_code (1 : Nat) (Option.some Jvm.ClassFile.FieldType.int)) ∈ lw_all := lw_g (lw_at lw_m5 217 rfl) rfl
theorem q1237 : (Jvm.Cond.methodLink "java/lang/StringUTF16" (220 : Nat) ({ cls := "jdk/internal/util/ArraysSupport", name := "vectorizedHashCode", desc := "(Ljava/lang/Object;IIII)I" } : Jvm.MethodName)) ∈ lw_all := lw_g (lw_at lw_m5 218 rfl) rfl

/-! java/util/ArrayList$Itr -/
set_option maxRecDepth 100000
def RJ8 : String := "java/util/ArrayList$Itr"
def TJ8 : u_T := fun k => match k with
  | 0 => ("java/util/ArrayList$Itr", "cursor", "I", false)
  | 1 => ("java/util/ArrayList$Itr", "lastRet", "I", false)
  | 2 => ("java/util/ArrayList$Itr", "expectedModCount", "I", false)
  | _ => ("java/util/ArrayList$Itr", "this$0", "Ljava/util/ArrayList;", true)
def tyJ8 : Nat → FieldType := fun k => match k with
  | 0 => .int
  | 1 => .int
  | 2 => .int
  | _ => .object "java/util/ArrayList"
abbrev wsJ80 : List Cond := u_ws RJ8 TJ8 4
theorem nmJ8 : ∀ a, a < 4 → ∀ b, b < 4 → a ≠ b → (TJ8 a).2.1 ≠ (TJ8 b).2.1 := by decide +kernel
theorem tyJ8_ok : ∀ k, k < 4 → parseFieldDescriptor (TJ8 k).2.2.1 = some (tyJ8 k) := by decide +kernel
abbrev cJ8_init : ByteArray := prog_44_method_1_code
def yJ8_init : MethodName := ⟨RJ8, "<init>", "(Ljava/util/ArrayList;)V"⟩
def dkwJ8_init_1 : List UInt8 := [181, 0, 22, 177]
abbrev dktJ8_init_1 : List UInt8 := dkwJ8_init_1 ++ []
def dkwJ8_init_0 : List UInt8 := [42, 43, 181, 0, 1, 42, 183, 0, 7, 42, 2, 181, 0, 13, 42, 42, 180, 0, 1, 180, 0, 17]
abbrev dktJ8_init_0 : List UInt8 := dkwJ8_init_0 ++ dktJ8_init_1
theorem dksJ8_init_0 : cJ8_init.data.toList.drop 0 = dktJ8_init_0 := by decide +kernel
theorem dksJ8_init_1 : cJ8_init.data.toList.drop 22 = dktJ8_init_1 := dk_seg dksJ8_init_0 22 rfl rfl
theorem dJ8_init_0 : decode cJ8_init 0 = .ok (.aload_n 0, 1) := dk_42 (dk_at dksJ8_init_0 0 rfl rfl)
theorem dJ8_init_1 : decode cJ8_init 1 = .ok (.aload_n 1, 1) := dk_43 (dk_at dksJ8_init_0 1 rfl rfl)
theorem dJ8_init_2 : decode cJ8_init 2 = .ok (.putfield 1, 3) := dk_181 0 1 (dk_at dksJ8_init_0 2 rfl rfl)
theorem dJ8_init_5 : decode cJ8_init 5 = .ok (.aload_n 0, 1) := dk_42 (dk_at dksJ8_init_0 5 rfl rfl)
theorem dJ8_init_6 : decode cJ8_init 6 = .ok (.invokespecial 7, 3) := dk_183 0 7 (dk_at dksJ8_init_0 6 rfl rfl)
theorem dJ8_init_9 : decode cJ8_init 9 = .ok (.aload_n 0, 1) := dk_42 (dk_at dksJ8_init_0 9 rfl rfl)
theorem dJ8_init_10 : decode cJ8_init 10 = .ok (.iconst (-1), 1) := dk_2 (dk_at dksJ8_init_0 10 rfl rfl)
theorem dJ8_init_11 : decode cJ8_init 11 = .ok (.putfield 13, 3) := dk_181 0 13 (dk_at dksJ8_init_0 11 rfl rfl)
theorem dJ8_init_14 : decode cJ8_init 14 = .ok (.aload_n 0, 1) := dk_42 (dk_at dksJ8_init_0 14 rfl rfl)
theorem dJ8_init_15 : decode cJ8_init 15 = .ok (.aload_n 0, 1) := dk_42 (dk_at dksJ8_init_0 15 rfl rfl)
theorem dJ8_init_16 : decode cJ8_init 16 = .ok (.getfield 1, 3) := dk_180 0 1 (dk_at dksJ8_init_0 16 rfl rfl)
theorem dJ8_init_19 : decode cJ8_init 19 = .ok (.getfield 17, 3) := dk_180 0 17 (dk_at dksJ8_init_0 19 rfl rfl)
theorem dJ8_init_22 : decode cJ8_init 22 = .ok (.putfield 22, 3) := dk_181 0 22 (dk_at dksJ8_init_1 0 rfl rfl)
theorem dJ8_init_25 : decode cJ8_init 25 = .ok (.return_, 1) := dk_177 (dk_at dksJ8_init_1 3 rfl rfl)
abbrev cJ8_hasNext : ByteArray := prog_44_method_2_code
def yJ8_hasNext : MethodName := ⟨RJ8, "hasNext", "()Z"⟩
def dkwJ8_hasNext_0 : List UInt8 := [42, 180, 0, 25, 42, 180, 0, 1, 180, 0, 28, 159, 0, 7, 4, 167, 0, 4, 3, 172]
abbrev dktJ8_hasNext_0 : List UInt8 := dkwJ8_hasNext_0 ++ []
theorem dksJ8_hasNext_0 : cJ8_hasNext.data.toList.drop 0 = dktJ8_hasNext_0 := by decide +kernel
theorem dJ8_hasNext_0 : decode cJ8_hasNext 0 = .ok (.aload_n 0, 1) := dk_42 (dk_at dksJ8_hasNext_0 0 rfl rfl)
theorem dJ8_hasNext_1 : decode cJ8_hasNext 1 = .ok (.getfield 25, 3) := dk_180 0 25 (dk_at dksJ8_hasNext_0 1 rfl rfl)
theorem dJ8_hasNext_4 : decode cJ8_hasNext 4 = .ok (.aload_n 0, 1) := dk_42 (dk_at dksJ8_hasNext_0 4 rfl rfl)
theorem dJ8_hasNext_5 : decode cJ8_hasNext 5 = .ok (.getfield 1, 3) := dk_180 0 1 (dk_at dksJ8_hasNext_0 5 rfl rfl)
theorem dJ8_hasNext_8 : decode cJ8_hasNext 8 = .ok (.getfield 28, 3) := dk_180 0 28 (dk_at dksJ8_hasNext_0 8 rfl rfl)
theorem dJ8_hasNext_11 : decode cJ8_hasNext 11 = .ok (.if_icmp .eq 7, 3) := dk_159 0 7 (dk_at dksJ8_hasNext_0 11 rfl rfl)
theorem dJ8_hasNext_14 : decode cJ8_hasNext 14 = .ok (.iconst 1, 1) := dk_4 (dk_at dksJ8_hasNext_0 14 rfl rfl)
theorem dJ8_hasNext_15 : decode cJ8_hasNext 15 = .ok (.goto 4, 3) := dk_167 0 4 (dk_at dksJ8_hasNext_0 15 rfl rfl)
theorem dJ8_hasNext_18 : decode cJ8_hasNext 18 = .ok (.iconst 0, 1) := dk_3 (dk_at dksJ8_hasNext_0 18 rfl rfl)
theorem dJ8_hasNext_19 : decode cJ8_hasNext 19 = .ok (.ireturn, 1) := dk_172 (dk_at dksJ8_hasNext_0 19 rfl rfl)
abbrev cJ8_next : ByteArray := prog_44_method_3_code
def yJ8_next : MethodName := ⟨RJ8, "next", "()Ljava/lang/Object;"⟩
def dkwJ8_next_2 : List UInt8 := [183, 0, 43, 191, 42, 27, 4, 96, 181, 0, 25, 44, 42, 27, 90, 181, 0, 13, 50, 176]
abbrev dktJ8_next_2 : List UInt8 := dkwJ8_next_2 ++ []
def dkwJ8_next_1 : List UInt8 := [183, 0, 36, 191, 42, 180, 0, 1, 180, 0, 37, 77, 27, 44, 190, 161, 0, 11, 187, 0, 41, 89]
abbrev dktJ8_next_1 : List UInt8 := dkwJ8_next_1 ++ dktJ8_next_2
def dkwJ8_next_0 : List UInt8 := [42, 182, 0, 31, 42, 180, 0, 25, 60, 27, 42, 180, 0, 1, 180, 0, 28, 161, 0, 11, 187, 0, 34, 89]
abbrev dktJ8_next_0 : List UInt8 := dkwJ8_next_0 ++ dktJ8_next_1
theorem dksJ8_next_0 : cJ8_next.data.toList.drop 0 = dktJ8_next_0 := by decide +kernel
theorem dksJ8_next_1 : cJ8_next.data.toList.drop 24 = dktJ8_next_1 := dk_seg dksJ8_next_0 24 rfl rfl
theorem dksJ8_next_2 : cJ8_next.data.toList.drop 46 = dktJ8_next_2 := dk_seg dksJ8_next_1 22 rfl rfl
theorem dJ8_next_0 : decode cJ8_next 0 = .ok (.aload_n 0, 1) := dk_42 (dk_at dksJ8_next_0 0 rfl rfl)
theorem dJ8_next_1 : decode cJ8_next 1 = .ok (.invokevirtual 31, 3) := dk_182 0 31 (dk_at dksJ8_next_0 1 rfl rfl)
theorem dJ8_next_4 : decode cJ8_next 4 = .ok (.aload_n 0, 1) := dk_42 (dk_at dksJ8_next_0 4 rfl rfl)
theorem dJ8_next_5 : decode cJ8_next 5 = .ok (.getfield 25, 3) := dk_180 0 25 (dk_at dksJ8_next_0 5 rfl rfl)
theorem dJ8_next_8 : decode cJ8_next 8 = .ok (.istore_n 1, 1) := dk_60 (dk_at dksJ8_next_0 8 rfl rfl)
theorem dJ8_next_9 : decode cJ8_next 9 = .ok (.iload_n 1, 1) := dk_27 (dk_at dksJ8_next_0 9 rfl rfl)
theorem dJ8_next_10 : decode cJ8_next 10 = .ok (.aload_n 0, 1) := dk_42 (dk_at dksJ8_next_0 10 rfl rfl)
theorem dJ8_next_11 : decode cJ8_next 11 = .ok (.getfield 1, 3) := dk_180 0 1 (dk_at dksJ8_next_0 11 rfl rfl)
theorem dJ8_next_14 : decode cJ8_next 14 = .ok (.getfield 28, 3) := dk_180 0 28 (dk_at dksJ8_next_0 14 rfl rfl)
theorem dJ8_next_17 : decode cJ8_next 17 = .ok (.if_icmp .lt 11, 3) := dk_161 0 11 (dk_at dksJ8_next_0 17 rfl rfl)
theorem dJ8_next_20 : decode cJ8_next 20 = .ok (.new 34, 3) := dk_187 0 34 (dk_at dksJ8_next_0 20 rfl rfl)
theorem dJ8_next_23 : decode cJ8_next 23 = .ok (.dup, 1) := dk_89 (dk_at dksJ8_next_0 23 rfl rfl)
theorem dJ8_next_24 : decode cJ8_next 24 = .ok (.invokespecial 36, 3) := dk_183 0 36 (dk_at dksJ8_next_1 0 rfl rfl)
theorem dJ8_next_27 : decode cJ8_next 27 = .ok (.athrow, 1) := dk_191 (dk_at dksJ8_next_1 3 rfl rfl)
theorem dJ8_next_28 : decode cJ8_next 28 = .ok (.aload_n 0, 1) := dk_42 (dk_at dksJ8_next_1 4 rfl rfl)
theorem dJ8_next_29 : decode cJ8_next 29 = .ok (.getfield 1, 3) := dk_180 0 1 (dk_at dksJ8_next_1 5 rfl rfl)
theorem dJ8_next_32 : decode cJ8_next 32 = .ok (.getfield 37, 3) := dk_180 0 37 (dk_at dksJ8_next_1 8 rfl rfl)
theorem dJ8_next_35 : decode cJ8_next 35 = .ok (.astore_n 2, 1) := dk_77 (dk_at dksJ8_next_1 11 rfl rfl)
theorem dJ8_next_36 : decode cJ8_next 36 = .ok (.iload_n 1, 1) := dk_27 (dk_at dksJ8_next_1 12 rfl rfl)
theorem dJ8_next_37 : decode cJ8_next 37 = .ok (.aload_n 2, 1) := dk_44 (dk_at dksJ8_next_1 13 rfl rfl)
theorem dJ8_next_38 : decode cJ8_next 38 = .ok (.arraylength, 1) := dk_190 (dk_at dksJ8_next_1 14 rfl rfl)
theorem dJ8_next_39 : decode cJ8_next 39 = .ok (.if_icmp .lt 11, 3) := dk_161 0 11 (dk_at dksJ8_next_1 15 rfl rfl)
theorem dJ8_next_42 : decode cJ8_next 42 = .ok (.new 41, 3) := dk_187 0 41 (dk_at dksJ8_next_1 18 rfl rfl)
theorem dJ8_next_45 : decode cJ8_next 45 = .ok (.dup, 1) := dk_89 (dk_at dksJ8_next_1 21 rfl rfl)
theorem dJ8_next_46 : decode cJ8_next 46 = .ok (.invokespecial 43, 3) := dk_183 0 43 (dk_at dksJ8_next_2 0 rfl rfl)
theorem dJ8_next_49 : decode cJ8_next 49 = .ok (.athrow, 1) := dk_191 (dk_at dksJ8_next_2 3 rfl rfl)
theorem dJ8_next_50 : decode cJ8_next 50 = .ok (.aload_n 0, 1) := dk_42 (dk_at dksJ8_next_2 4 rfl rfl)
theorem dJ8_next_51 : decode cJ8_next 51 = .ok (.iload_n 1, 1) := dk_27 (dk_at dksJ8_next_2 5 rfl rfl)
theorem dJ8_next_52 : decode cJ8_next 52 = .ok (.iconst 1, 1) := dk_4 (dk_at dksJ8_next_2 6 rfl rfl)
theorem dJ8_next_53 : decode cJ8_next 53 = .ok (.iadd, 1) := dk_96 (dk_at dksJ8_next_2 7 rfl rfl)
theorem dJ8_next_54 : decode cJ8_next 54 = .ok (.putfield 25, 3) := dk_181 0 25 (dk_at dksJ8_next_2 8 rfl rfl)
theorem dJ8_next_57 : decode cJ8_next 57 = .ok (.aload_n 2, 1) := dk_44 (dk_at dksJ8_next_2 11 rfl rfl)
theorem dJ8_next_58 : decode cJ8_next 58 = .ok (.aload_n 0, 1) := dk_42 (dk_at dksJ8_next_2 12 rfl rfl)
theorem dJ8_next_59 : decode cJ8_next 59 = .ok (.iload_n 1, 1) := dk_27 (dk_at dksJ8_next_2 13 rfl rfl)
theorem dJ8_next_60 : decode cJ8_next 60 = .ok (.dup_x1, 1) := dk_90 (dk_at dksJ8_next_2 14 rfl rfl)
theorem dJ8_next_61 : decode cJ8_next 61 = .ok (.putfield 13, 3) := dk_181 0 13 (dk_at dksJ8_next_2 15 rfl rfl)
theorem dJ8_next_64 : decode cJ8_next 64 = .ok (.aaload, 1) := dk_50 (dk_at dksJ8_next_2 18 rfl rfl)
theorem dJ8_next_65 : decode cJ8_next 65 = .ok (.areturn, 1) := dk_176 (dk_at dksJ8_next_2 19 rfl rfl)
abbrev cJ8_checkForComodification : ByteArray := prog_44_method_6_code
def yJ8_checkForComodification : MethodName := ⟨RJ8, "checkForComodification", "()V"⟩
def dkwJ8_checkForComodification_0 : List UInt8 := [42, 180, 0, 1, 180, 0, 17, 42, 180, 0, 22, 159, 0, 11, 187, 0, 41, 89, 183, 0, 43, 191, 177]
abbrev dktJ8_checkForComodification_0 : List UInt8 := dkwJ8_checkForComodification_0 ++ []
theorem dksJ8_checkForComodification_0 : cJ8_checkForComodification.data.toList.drop 0 = dktJ8_checkForComodification_0 := by decide +kernel
theorem dJ8_checkForComodification_0 : decode cJ8_checkForComodification 0 = .ok (.aload_n 0, 1) := dk_42 (dk_at dksJ8_checkForComodification_0 0 rfl rfl)
theorem dJ8_checkForComodification_1 : decode cJ8_checkForComodification 1 = .ok (.getfield 1, 3) := dk_180 0 1 (dk_at dksJ8_checkForComodification_0 1 rfl rfl)
theorem dJ8_checkForComodification_4 : decode cJ8_checkForComodification 4 = .ok (.getfield 17, 3) := dk_180 0 17 (dk_at dksJ8_checkForComodification_0 4 rfl rfl)
theorem dJ8_checkForComodification_7 : decode cJ8_checkForComodification 7 = .ok (.aload_n 0, 1) := dk_42 (dk_at dksJ8_checkForComodification_0 7 rfl rfl)
theorem dJ8_checkForComodification_8 : decode cJ8_checkForComodification 8 = .ok (.getfield 22, 3) := dk_180 0 22 (dk_at dksJ8_checkForComodification_0 8 rfl rfl)
theorem dJ8_checkForComodification_11 : decode cJ8_checkForComodification 11 = .ok (.if_icmp .eq 11, 3) := dk_159 0 11 (dk_at dksJ8_checkForComodification_0 11 rfl rfl)
theorem dJ8_checkForComodification_14 : decode cJ8_checkForComodification 14 = .ok (.new 41, 3) := dk_187 0 41 (dk_at dksJ8_checkForComodification_0 14 rfl rfl)
theorem dJ8_checkForComodification_17 : decode cJ8_checkForComodification 17 = .ok (.dup, 1) := dk_89 (dk_at dksJ8_checkForComodification_0 17 rfl rfl)
theorem dJ8_checkForComodification_18 : decode cJ8_checkForComodification 18 = .ok (.invokespecial 43, 3) := dk_183 0 43 (dk_at dksJ8_checkForComodification_0 18 rfl rfl)
theorem dJ8_checkForComodification_21 : decode cJ8_checkForComodification 21 = .ok (.athrow, 1) := dk_191 (dk_at dksJ8_checkForComodification_0 21 rfl rfl)
theorem dJ8_checkForComodification_22 : decode cJ8_checkForComodification 22 = .ok (.return_, 1) := dk_177 (dk_at dksJ8_checkForComodification_0 22 rfl rfl)
theorem q73 : (Jvm.Cond.initialized "java/util/ArrayList$Itr") ∈ lw_all := lw_g (lw_at lw_m1 14 rfl) rfl
theorem q123 : (Jvm.Cond.fieldLink "java/util/ArrayList$Itr" (37 : Nat) "java/util/ArrayList" "elementData" "[Ljava/lang/Object;") ∈ lw_all := lw_g (lw_at lw_m1 64 rfl) rfl
theorem q124 : (Jvm.Cond.fieldLinkNest "java/util/ArrayList$Itr" (28 : Nat) "java/util/ArrayList" "size" "I" "java/util/ArrayList") ∈ lw_tbl := lw_at lw_m1 65 rfl
theorem q127 : (Jvm.Cond.fieldLink "java/util/ArrayList$Itr" (17 : Nat) "java/util/ArrayList" "modCount" "I") ∈ lw_all := lw_g (lw_at lw_m1 68 rfl) rfl
theorem q303 : (Jvm.Cond.instantiable "java/util/ArrayList$Itr" (4 : Nat)) ∈ lw_all := lw_g (lw_at lw_m2 4 rfl) rfl
theorem q305 : (Jvm.Cond.instanceMethod ({ cls := "java/util/ArrayList$Itr", name := "<init>", desc := "(Ljava/util/ArrayList;)V" } : Jvm.MethodName)) ∈ lw_all := lw_g (lw_at lw_m2 6 rfl) rfl
theorem q306 : (Jvm.Cond.code ({ cls := "java/util/ArrayList$Itr", name := "<init>", desc := "(Ljava/util/ArrayList;)V" } : Jvm.MethodName) prog_44_method_1_code (2 : Nat) (Option.none : Option Jvm.ClassFile.FieldType)) ∈ lw_all := lw_g (lw_at lw_m2 7 rfl) rfl
theorem q307 : (Jvm.Cond.methodLink "java/util/ArrayList$Itr" (7 : Nat) ({ cls := "java/lang/Object", name := "<init>", desc := "()V" } : Jvm.MethodName)) ∈ lw_all := lw_g (lw_at lw_m2 8 rfl) rfl
theorem q308 : (Jvm.Cond.fieldLink "java/util/ArrayList$Itr" (25 : Nat) "java/util/ArrayList$Itr" "cursor" "I") ∈ lw_all := lw_g (lw_at lw_m2 9 rfl) rfl
theorem q309 : (Jvm.Cond.fieldLink "java/util/ArrayList$Itr" (13 : Nat) "java/util/ArrayList$Itr" "lastRet" "I") ∈ lw_all := lw_g (lw_at lw_m2 10 rfl) rfl
theorem q310 : (Jvm.Cond.fieldLink "java/util/ArrayList$Itr" (22 : Nat) "java/util/ArrayList$Itr" "expectedModCount" "I") ∈ lw_all := lw_g (lw_at lw_m2 11 rfl) rfl
theorem q311 : (Jvm.Cond.fieldLink "java/util/ArrayList$Itr" (1 : Nat) "java/util/ArrayList$Itr" "this$0" "Ljava/util/ArrayList;") ∈ lw_all := lw_g (lw_at lw_m2 12 rfl) rfl
theorem q312 : (Jvm.Cond.lays "java/util/ArrayList$Itr" "java/util/ArrayList$Itr" "cursor" "I") ∈ lw_all := lw_g (lw_at lw_m2 13 rfl) rfl
theorem q313 : (Jvm.Cond.soleField "java/util/ArrayList$Itr" "cursor") ∈ lw_all := lw_g (lw_at lw_m2 14 rfl) rfl
theorem q314 : (Jvm.Cond.lays "java/util/ArrayList$Itr" "java/util/ArrayList$Itr" "lastRet" "I") ∈ lw_all := lw_g (lw_at lw_m2 15 rfl) rfl
theorem q315 : (Jvm.Cond.soleField "java/util/ArrayList$Itr" "lastRet") ∈ lw_all := lw_g (lw_at lw_m2 16 rfl) rfl
theorem q316 : (Jvm.Cond.lays "java/util/ArrayList$Itr" "java/util/ArrayList$Itr" "expectedModCount" "I") ∈ lw_all := lw_g (lw_at lw_m2 17 rfl) rfl
theorem q317 : (Jvm.Cond.soleField "java/util/ArrayList$Itr" "expectedModCount") ∈ lw_all := lw_g (lw_at lw_m2 18 rfl) rfl
theorem q318 : (Jvm.Cond.laysFinal "java/util/ArrayList$Itr" "java/util/ArrayList$Itr" "this$0" "Ljava/util/ArrayList;") ∈ lw_all := lw_g (lw_at lw_m2 19 rfl) rfl
theorem q319 : (Jvm.Cond.soleField "java/util/ArrayList$Itr" "this$0") ∈ lw_all := lw_g (lw_at lw_m2 20 rfl) rfl
theorem q320 : (Jvm.Cond.superclass "java/util/ArrayList$Itr" "java/lang/Object") ∈ lw_all := lw_g (lw_at lw_m2 21 rfl) rfl
theorem q325 : (Jvm.Cond.castable "java/util/ArrayList$Itr" "java/util/Iterator") ∈ lw_tbl := lw_at lw_m2 26 rfl
theorem q326 : (Jvm.Cond.selects "java/util/ArrayList$Itr" ({ cls := "java/util/Iterator", name := "hasNext", desc := "()Z" } : Jvm.MethodName) ({ cls := "java/util/ArrayList$Itr", name := "hasNext", desc := "()Z" } : Jvm.MethodName)) ∈ lw_all := lw_g (lw_at lw_m2 27 rfl) rfl
theorem q327 : (Jvm.Cond.unhidden "java/util/ArrayList$Itr" "hasNext" "()Z") ∈ lw_tbl := lw_at lw_m2 28 rfl
theorem q328 : (Jvm.Cond.instanceMethod ({ cls := "java/util/ArrayList$Itr", name := "hasNext", desc := "()Z" } : Jvm.MethodName)) ∈ lw_all := lw_g (lw_at lw_m2 29 rfl) rfl
theorem q329 : (Jvm.Cond.publicMethod ({ cls := "java/util/ArrayList$Itr", name := "hasNext", desc := "()Z" } : Jvm.MethodName)) ∈ lw_tbl := lw_at lw_m2 30 rfl
theorem q330 : (Jvm.Cond.code ({ cls := "java/util/ArrayList$Itr", name := "hasNext", desc := "()Z" } : Jvm.MethodName) prog_44_method_2_code (1 : Nat) (Option.some Jvm.ClassFile.FieldType.boolean)) ∈ lw_all := lw_g (lw_at lw_m2 31 rfl) rfl
theorem q335 : (Jvm.Cond.selects "java/util/ArrayList$Itr" ({ cls := "java/util/Iterator", name := "next", desc := "()Ljava/lang/Object;" } : Jvm.MethodName) ({ cls := "java/util/ArrayList$Itr", name := "next", desc := "()Ljava/lang/Object;" } : Jvm.MethodName)) ∈ lw_all := lw_g (lw_at lw_m2 36 rfl) rfl
theorem q336 : (Jvm.Cond.unhidden "java/util/ArrayList$Itr" "next" "()Ljava/lang/Object;") ∈ lw_tbl := lw_at lw_m2 37 rfl
theorem q337 : (Jvm.Cond.instanceMethod ({ cls := "java/util/ArrayList$Itr", name := "next", desc := "()Ljava/lang/Object;" } : Jvm.MethodName)) ∈ lw_all := lw_g (lw_at lw_m2 38 rfl) rfl
theorem q338 : (Jvm.Cond.publicMethod ({ cls := "java/util/ArrayList$Itr", name := "next", desc := "()Ljava/lang/Object;" } : Jvm.MethodName)) ∈ lw_tbl := lw_at lw_m2 39 rfl
theorem q339 : (Jvm.Cond.code ({ cls := "java/util/ArrayList$Itr", name := "next", desc := "()Ljava/lang/Object;" } : Jvm.MethodName) prog_44_method_3_code (3 : Nat) (Option.some (Jvm.ClassFile.FieldType.object "java/lang/Object"))) ∈ lw_all := lw_g (lw_at lw_m2 40 rfl) rfl
theorem q340 : (Jvm.Cond.methodLink "java/util/ArrayList$Itr" (31 : Nat) ({ cls := "java/util/ArrayList$Itr", name := "checkForComodification", desc := "()V" } : Jvm.MethodName)) ∈ lw_all := lw_g (lw_at lw_m2 41 rfl) rfl
theorem q341 : (Jvm.Cond.instanceMethod ({ cls := "java/util/ArrayList$Itr", name := "checkForComodification", desc := "()V" } : Jvm.MethodName)) ∈ lw_all := lw_g (lw_at lw_m2 42 rfl) rfl
theorem q342 : (Jvm.Cond.selects "java/util/ArrayList$Itr" ({ cls := "java/util/ArrayList$Itr", name := "checkForComodification", desc := "()V" } : Jvm.MethodName) ({ cls := "java/util/ArrayList$Itr", name := "checkForComodification", desc := "()V" } : Jvm.MethodName)) ∈ lw_all := lw_g (lw_at lw_m2 43 rfl) rfl
theorem q343 : (Jvm.Cond.code ({ cls := "java/util/ArrayList$Itr", name := "checkForComodification", desc := "()V" } : Jvm.MethodName) prog_44_method_6_code (1 : Nat) (Option.none : Option Jvm.ClassFile.FieldType)) ∈ lw_all := lw_g (lw_at lw_m2 44 rfl) rfl
theorem q425 : (Jvm.Cond.selects "java/util/ArrayList$Itr" ({ cls := "java/lang/Object", name := "getClass", desc := "()Ljava/lang/Class;" } : Jvm.MethodName) ({ cls := "java/lang/Object", name := "getClass", desc := "()Ljava/lang/Class;" } : Jvm.MethodName)) ∈ lw_all := lw_g (lw_at lw_m2 126 rfl) rfl
theorem q1949 : (Jvm.Cond.castable "java/util/ArrayList$Itr" "java/lang/Object") ∈ lw_tbl := lw_at lw_m8 210 rfl
theorem in_J8 : ∀ w ∈ wsJ80, w ∈ lw_all := lw_in wsJ80 [312, 314, 316, 318] (by decide +kernel) (by decide +kernel)

/-! jdk/internal/util/ArraysSupport -/
set_option maxRecDepth 100000
def RJ9 : String := "jdk/internal/util/ArraysSupport"
abbrev cJ9_newLength : ByteArray := prog_55_method_27_code
def yJ9_newLength : MethodName := ⟨RJ9, "newLength", "(III)I"⟩
def dkwJ9_newLength_1 : List UInt8 := [184, 0, 201, 172]
abbrev dktJ9_newLength_1 : List UInt8 := dkwJ9_newLength_1 ++ []
def dkwJ9_newLength_0 : List UInt8 := [26, 27, 28, 184, 0, 194, 96, 62, 3, 29, 162, 0, 11, 29, 18, 200, 163, 0, 5, 29, 172, 26, 27]
abbrev dktJ9_newLength_0 : List UInt8 := dkwJ9_newLength_0 ++ dktJ9_newLength_1
theorem dksJ9_newLength_0 : cJ9_newLength.data.toList.drop 0 = dktJ9_newLength_0 := by decide +kernel
theorem dksJ9_newLength_1 : cJ9_newLength.data.toList.drop 23 = dktJ9_newLength_1 := dk_seg dksJ9_newLength_0 23 rfl rfl
theorem dJ9_newLength_0 : decode cJ9_newLength 0 = .ok (.iload_n 0, 1) := dk_26 (dk_at dksJ9_newLength_0 0 rfl rfl)
theorem dJ9_newLength_1 : decode cJ9_newLength 1 = .ok (.iload_n 1, 1) := dk_27 (dk_at dksJ9_newLength_0 1 rfl rfl)
theorem dJ9_newLength_2 : decode cJ9_newLength 2 = .ok (.iload_n 2, 1) := dk_28 (dk_at dksJ9_newLength_0 2 rfl rfl)
theorem dJ9_newLength_3 : decode cJ9_newLength 3 = .ok (.invokestatic 194, 3) := dk_184 0 194 (dk_at dksJ9_newLength_0 3 rfl rfl)
theorem dJ9_newLength_6 : decode cJ9_newLength 6 = .ok (.iadd, 1) := dk_96 (dk_at dksJ9_newLength_0 6 rfl rfl)
theorem dJ9_newLength_7 : decode cJ9_newLength 7 = .ok (.istore_n 3, 1) := dk_62 (dk_at dksJ9_newLength_0 7 rfl rfl)
theorem dJ9_newLength_8 : decode cJ9_newLength 8 = .ok (.iconst 0, 1) := dk_3 (dk_at dksJ9_newLength_0 8 rfl rfl)
theorem dJ9_newLength_9 : decode cJ9_newLength 9 = .ok (.iload_n 3, 1) := dk_29 (dk_at dksJ9_newLength_0 9 rfl rfl)
theorem dJ9_newLength_10 : decode cJ9_newLength 10 = .ok (.if_icmp .ge 11, 3) := dk_162 0 11 (dk_at dksJ9_newLength_0 10 rfl rfl)
theorem dJ9_newLength_13 : decode cJ9_newLength 13 = .ok (.iload_n 3, 1) := dk_29 (dk_at dksJ9_newLength_0 13 rfl rfl)
theorem dJ9_newLength_14 : decode cJ9_newLength 14 = .ok (.ldc 200, 2) := dk_18 200 (dk_at dksJ9_newLength_0 14 rfl rfl)
theorem dJ9_newLength_16 : decode cJ9_newLength 16 = .ok (.if_icmp .gt 5, 3) := dk_163 0 5 (dk_at dksJ9_newLength_0 16 rfl rfl)
theorem dJ9_newLength_19 : decode cJ9_newLength 19 = .ok (.iload_n 3, 1) := dk_29 (dk_at dksJ9_newLength_0 19 rfl rfl)
theorem dJ9_newLength_20 : decode cJ9_newLength 20 = .ok (.ireturn, 1) := dk_172 (dk_at dksJ9_newLength_0 20 rfl rfl)
theorem dJ9_newLength_21 : decode cJ9_newLength 21 = .ok (.iload_n 0, 1) := dk_26 (dk_at dksJ9_newLength_0 21 rfl rfl)
theorem dJ9_newLength_22 : decode cJ9_newLength 22 = .ok (.iload_n 1, 1) := dk_27 (dk_at dksJ9_newLength_0 22 rfl rfl)
theorem dJ9_newLength_23 : decode cJ9_newLength 23 = .ok (.invokestatic 201, 3) := dk_184 0 201 (dk_at dksJ9_newLength_1 0 rfl rfl)
theorem dJ9_newLength_26 : decode cJ9_newLength 26 = .ok (.ireturn, 1) := dk_172 (dk_at dksJ9_newLength_1 3 rfl rfl)
abbrev cJ9_hugeLength : ByteArray := prog_55_method_28_code
def yJ9_hugeLength : MethodName := ⟨RJ9, "hugeLength", "(II)I"⟩
def dkwJ9_hugeLength_2 : List UInt8 := [191, 28, 18, 200, 163, 0, 6, 18, 200, 172, 28, 172]
abbrev dktJ9_hugeLength_2 : List UInt8 := dkwJ9_hugeLength_2 ++ []
def dkwJ9_hugeLength_1 : List UInt8 := [26, 182, 0, 98, 18, 208, 182, 0, 94, 27, 182, 0, 98, 18, 210, 182, 0, 94, 182, 0, 101, 183, 0, 212]
abbrev dktJ9_hugeLength_1 : List UInt8 := dkwJ9_hugeLength_1 ++ dktJ9_hugeLength_2
def dkwJ9_hugeLength_0 : List UInt8 := [26, 27, 96, 61, 28, 156, 0, 44, 187, 0, 204, 89, 187, 0, 89, 89, 183, 0, 91, 18, 206, 182, 0, 94]
abbrev dktJ9_hugeLength_0 : List UInt8 := dkwJ9_hugeLength_0 ++ dktJ9_hugeLength_1
theorem dksJ9_hugeLength_0 : cJ9_hugeLength.data.toList.drop 0 = dktJ9_hugeLength_0 := by decide +kernel
theorem dksJ9_hugeLength_1 : cJ9_hugeLength.data.toList.drop 24 = dktJ9_hugeLength_1 := dk_seg dksJ9_hugeLength_0 24 rfl rfl
theorem dksJ9_hugeLength_2 : cJ9_hugeLength.data.toList.drop 48 = dktJ9_hugeLength_2 := dk_seg dksJ9_hugeLength_1 24 rfl rfl
theorem dJ9_hugeLength_0 : decode cJ9_hugeLength 0 = .ok (.iload_n 0, 1) := dk_26 (dk_at dksJ9_hugeLength_0 0 rfl rfl)
theorem dJ9_hugeLength_1 : decode cJ9_hugeLength 1 = .ok (.iload_n 1, 1) := dk_27 (dk_at dksJ9_hugeLength_0 1 rfl rfl)
theorem dJ9_hugeLength_2 : decode cJ9_hugeLength 2 = .ok (.iadd, 1) := dk_96 (dk_at dksJ9_hugeLength_0 2 rfl rfl)
theorem dJ9_hugeLength_3 : decode cJ9_hugeLength 3 = .ok (.istore_n 2, 1) := dk_61 (dk_at dksJ9_hugeLength_0 3 rfl rfl)
theorem dJ9_hugeLength_4 : decode cJ9_hugeLength 4 = .ok (.iload_n 2, 1) := dk_28 (dk_at dksJ9_hugeLength_0 4 rfl rfl)
theorem dJ9_hugeLength_5 : decode cJ9_hugeLength 5 = .ok (.ifCond .ge 44, 3) := dk_156 0 44 (dk_at dksJ9_hugeLength_0 5 rfl rfl)
theorem dJ9_hugeLength_8 : decode cJ9_hugeLength 8 = .ok (.new 204, 3) := dk_187 0 204 (dk_at dksJ9_hugeLength_0 8 rfl rfl)
theorem dJ9_hugeLength_11 : decode cJ9_hugeLength 11 = .ok (.dup, 1) := dk_89 (dk_at dksJ9_hugeLength_0 11 rfl rfl)
theorem dJ9_hugeLength_12 : decode cJ9_hugeLength 12 = .ok (.new 89, 3) := dk_187 0 89 (dk_at dksJ9_hugeLength_0 12 rfl rfl)
theorem dJ9_hugeLength_15 : decode cJ9_hugeLength 15 = .ok (.dup, 1) := dk_89 (dk_at dksJ9_hugeLength_0 15 rfl rfl)
theorem dJ9_hugeLength_16 : decode cJ9_hugeLength 16 = .ok (.invokespecial 91, 3) := dk_183 0 91 (dk_at dksJ9_hugeLength_0 16 rfl rfl)
theorem dJ9_hugeLength_19 : decode cJ9_hugeLength 19 = .ok (.ldc 206, 2) := dk_18 206 (dk_at dksJ9_hugeLength_0 19 rfl rfl)
theorem dJ9_hugeLength_21 : decode cJ9_hugeLength 21 = .ok (.invokevirtual 94, 3) := dk_182 0 94 (dk_at dksJ9_hugeLength_0 21 rfl rfl)
theorem dJ9_hugeLength_24 : decode cJ9_hugeLength 24 = .ok (.iload_n 0, 1) := dk_26 (dk_at dksJ9_hugeLength_1 0 rfl rfl)
theorem dJ9_hugeLength_25 : decode cJ9_hugeLength 25 = .ok (.invokevirtual 98, 3) := dk_182 0 98 (dk_at dksJ9_hugeLength_1 1 rfl rfl)
theorem dJ9_hugeLength_28 : decode cJ9_hugeLength 28 = .ok (.ldc 208, 2) := dk_18 208 (dk_at dksJ9_hugeLength_1 4 rfl rfl)
theorem dJ9_hugeLength_30 : decode cJ9_hugeLength 30 = .ok (.invokevirtual 94, 3) := dk_182 0 94 (dk_at dksJ9_hugeLength_1 6 rfl rfl)
theorem dJ9_hugeLength_33 : decode cJ9_hugeLength 33 = .ok (.iload_n 1, 1) := dk_27 (dk_at dksJ9_hugeLength_1 9 rfl rfl)
theorem dJ9_hugeLength_34 : decode cJ9_hugeLength 34 = .ok (.invokevirtual 98, 3) := dk_182 0 98 (dk_at dksJ9_hugeLength_1 10 rfl rfl)
theorem dJ9_hugeLength_37 : decode cJ9_hugeLength 37 = .ok (.ldc 210, 2) := dk_18 210 (dk_at dksJ9_hugeLength_1 13 rfl rfl)
theorem dJ9_hugeLength_39 : decode cJ9_hugeLength 39 = .ok (.invokevirtual 94, 3) := dk_182 0 94 (dk_at dksJ9_hugeLength_1 15 rfl rfl)
theorem dJ9_hugeLength_42 : decode cJ9_hugeLength 42 = .ok (.invokevirtual 101, 3) := dk_182 0 101 (dk_at dksJ9_hugeLength_1 18 rfl rfl)
theorem dJ9_hugeLength_45 : decode cJ9_hugeLength 45 = .ok (.invokespecial 212, 3) := dk_183 0 212 (dk_at dksJ9_hugeLength_1 21 rfl rfl)
theorem dJ9_hugeLength_48 : decode cJ9_hugeLength 48 = .ok (.athrow, 1) := dk_191 (dk_at dksJ9_hugeLength_2 0 rfl rfl)
theorem dJ9_hugeLength_49 : decode cJ9_hugeLength 49 = .ok (.iload_n 2, 1) := dk_28 (dk_at dksJ9_hugeLength_2 1 rfl rfl)
theorem dJ9_hugeLength_50 : decode cJ9_hugeLength 50 = .ok (.ldc 200, 2) := dk_18 200 (dk_at dksJ9_hugeLength_2 2 rfl rfl)
theorem dJ9_hugeLength_52 : decode cJ9_hugeLength 52 = .ok (.if_icmp .gt 6, 3) := dk_163 0 6 (dk_at dksJ9_hugeLength_2 4 rfl rfl)
theorem dJ9_hugeLength_55 : decode cJ9_hugeLength 55 = .ok (.ldc 200, 2) := dk_18 200 (dk_at dksJ9_hugeLength_2 7 rfl rfl)
theorem dJ9_hugeLength_57 : decode cJ9_hugeLength 57 = .ok (.ireturn, 1) := dk_172 (dk_at dksJ9_hugeLength_2 9 rfl rfl)
theorem dJ9_hugeLength_58 : decode cJ9_hugeLength 58 = .ok (.iload_n 2, 1) := dk_28 (dk_at dksJ9_hugeLength_2 10 rfl rfl)
theorem dJ9_hugeLength_59 : decode cJ9_hugeLength 59 = .ok (.ireturn, 1) := dk_172 (dk_at dksJ9_hugeLength_2 11 rfl rfl)
abbrev cJ9_vectorizedHashCode : ByteArray := prog_55_method_4_code
def yJ9_vectorizedHashCode : MethodName := ⟨RJ9, "vectorizedHashCode", "(Ljava/lang/Object;IIII)I"⟩
def dkwJ9_vectorizedHashCode_6 : List UInt8 := [183, 0, 91, 18, 92, 182, 0, 94, 21, 4, 182, 0, 98, 182, 0, 101, 183, 0, 105, 191, 172]
abbrev dktJ9_vectorizedHashCode_6 : List UInt8 := dkwJ9_vectorizedHashCode_6 ++ []
def dkwJ9_vectorizedHashCode_5 : List UInt8 := [167, 0, 44, 29, 42, 192, 0, 82, 27, 28, 184, 0, 84, 167, 0, 31, 187, 0, 87, 89, 187, 0, 89, 89]
abbrev dktJ9_vectorizedHashCode_5 : List UInt8 := dkwJ9_vectorizedHashCode_5 ++ dktJ9_vectorizedHashCode_6
def dkwJ9_vectorizedHashCode_4 : List UInt8 := [29, 42, 192, 0, 60, 27, 28, 184, 0, 75, 167, 0, 57, 29, 42, 192, 0, 77, 27, 28, 184, 0, 79]
abbrev dktJ9_vectorizedHashCode_4 : List UInt8 := dkwJ9_vectorizedHashCode_4 ++ dktJ9_vectorizedHashCode_5
def dkwJ9_vectorizedHashCode_3 : List UInt8 := [192, 0, 60, 27, 28, 184, 0, 66, 167, 0, 83, 29, 42, 192, 0, 69, 27, 28, 184, 0, 71, 167, 0, 70]
abbrev dktJ9_vectorizedHashCode_3 : List UInt8 := dkwJ9_vectorizedHashCode_3 ++ dktJ9_vectorizedHashCode_4
def dkwJ9_vectorizedHashCode_2 : List UInt8 := [29, 42, 192, 0, 60, 27, 28, 184, 0, 62, 167, 0, 103, 42, 193, 0, 60, 153, 0, 16, 29, 42]
abbrev dktJ9_vectorizedHashCode_2 : List UInt8 := dkwJ9_vectorizedHashCode_2 ++ dktJ9_vectorizedHashCode_3
def dkwJ9_vectorizedHashCode_1 : List UInt8 := [170, 0, 0, 0, 0, 127, 0, 0, 0, 4, 0, 0, 0, 10, 0, 0, 0, 42, 0, 0, 0, 55, 0, 0, 0, 127, 0, 0, 0, 127, 0, 0, 0, 88, 0, 0, 0, 101, 0, 0, 0, 114]
abbrev dktJ9_vectorizedHashCode_1 : List UInt8 := dkwJ9_vectorizedHashCode_1 ++ dktJ9_vectorizedHashCode_2
def dkwJ9_vectorizedHashCode_0 : List UInt8 := [21, 4]
abbrev dktJ9_vectorizedHashCode_0 : List UInt8 := dkwJ9_vectorizedHashCode_0 ++ dktJ9_vectorizedHashCode_1
theorem dksJ9_vectorizedHashCode_0 : cJ9_vectorizedHashCode.data.toList.drop 0 = dktJ9_vectorizedHashCode_0 := by decide +kernel
theorem dksJ9_vectorizedHashCode_1 : cJ9_vectorizedHashCode.data.toList.drop 2 = dktJ9_vectorizedHashCode_1 := dk_seg dksJ9_vectorizedHashCode_0 2 rfl rfl
theorem dksJ9_vectorizedHashCode_2 : cJ9_vectorizedHashCode.data.toList.drop 44 = dktJ9_vectorizedHashCode_2 := dk_seg dksJ9_vectorizedHashCode_1 42 rfl rfl
theorem dksJ9_vectorizedHashCode_3 : cJ9_vectorizedHashCode.data.toList.drop 66 = dktJ9_vectorizedHashCode_3 := dk_seg dksJ9_vectorizedHashCode_2 22 rfl rfl
theorem dksJ9_vectorizedHashCode_4 : cJ9_vectorizedHashCode.data.toList.drop 90 = dktJ9_vectorizedHashCode_4 := dk_seg dksJ9_vectorizedHashCode_3 24 rfl rfl
theorem dksJ9_vectorizedHashCode_5 : cJ9_vectorizedHashCode.data.toList.drop 113 = dktJ9_vectorizedHashCode_5 := dk_seg dksJ9_vectorizedHashCode_4 23 rfl rfl
theorem dksJ9_vectorizedHashCode_6 : cJ9_vectorizedHashCode.data.toList.drop 137 = dktJ9_vectorizedHashCode_6 := dk_seg dksJ9_vectorizedHashCode_5 24 rfl rfl
theorem dJ9_vectorizedHashCode_0 : decode cJ9_vectorizedHashCode 0 = .ok (.iload 4, 2) := dk_21 4 (dk_at dksJ9_vectorizedHashCode_0 0 rfl rfl)
theorem dJ9_vectorizedHashCode_2 : decode cJ9_vectorizedHashCode 2 = .ok (.tableswitch 127 4 10 #[42, 55, 127, 127, 88, 101, 114], 42) := by decide +kernel
theorem dJ9_vectorizedHashCode_44 : decode cJ9_vectorizedHashCode 44 = .ok (.iload_n 3, 1) := dk_29 (dk_at dksJ9_vectorizedHashCode_2 0 rfl rfl)
theorem dJ9_vectorizedHashCode_45 : decode cJ9_vectorizedHashCode 45 = .ok (.aload_n 0, 1) := dk_42 (dk_at dksJ9_vectorizedHashCode_2 1 rfl rfl)
theorem dJ9_vectorizedHashCode_46 : decode cJ9_vectorizedHashCode 46 = .ok (.checkcast 60, 3) := dk_192 0 60 (dk_at dksJ9_vectorizedHashCode_2 2 rfl rfl)
theorem dJ9_vectorizedHashCode_49 : decode cJ9_vectorizedHashCode 49 = .ok (.iload_n 1, 1) := dk_27 (dk_at dksJ9_vectorizedHashCode_2 5 rfl rfl)
theorem dJ9_vectorizedHashCode_50 : decode cJ9_vectorizedHashCode 50 = .ok (.iload_n 2, 1) := dk_28 (dk_at dksJ9_vectorizedHashCode_2 6 rfl rfl)
theorem dJ9_vectorizedHashCode_51 : decode cJ9_vectorizedHashCode 51 = .ok (.invokestatic 62, 3) := dk_184 0 62 (dk_at dksJ9_vectorizedHashCode_2 7 rfl rfl)
theorem dJ9_vectorizedHashCode_54 : decode cJ9_vectorizedHashCode 54 = .ok (.goto 103, 3) := dk_167 0 103 (dk_at dksJ9_vectorizedHashCode_2 10 rfl rfl)
theorem dJ9_vectorizedHashCode_57 : decode cJ9_vectorizedHashCode 57 = .ok (.aload_n 0, 1) := dk_42 (dk_at dksJ9_vectorizedHashCode_2 13 rfl rfl)
theorem dJ9_vectorizedHashCode_58 : decode cJ9_vectorizedHashCode 58 = .ok (.instanceof 60, 3) := dk_193 0 60 (dk_at dksJ9_vectorizedHashCode_2 14 rfl rfl)
theorem dJ9_vectorizedHashCode_61 : decode cJ9_vectorizedHashCode 61 = .ok (.ifCond .eq 16, 3) := dk_153 0 16 (dk_at dksJ9_vectorizedHashCode_2 17 rfl rfl)
theorem dJ9_vectorizedHashCode_64 : decode cJ9_vectorizedHashCode 64 = .ok (.iload_n 3, 1) := dk_29 (dk_at dksJ9_vectorizedHashCode_2 20 rfl rfl)
theorem dJ9_vectorizedHashCode_65 : decode cJ9_vectorizedHashCode 65 = .ok (.aload_n 0, 1) := dk_42 (dk_at dksJ9_vectorizedHashCode_2 21 rfl rfl)
theorem dJ9_vectorizedHashCode_66 : decode cJ9_vectorizedHashCode 66 = .ok (.checkcast 60, 3) := dk_192 0 60 (dk_at dksJ9_vectorizedHashCode_3 0 rfl rfl)
theorem dJ9_vectorizedHashCode_69 : decode cJ9_vectorizedHashCode 69 = .ok (.iload_n 1, 1) := dk_27 (dk_at dksJ9_vectorizedHashCode_3 3 rfl rfl)
theorem dJ9_vectorizedHashCode_70 : decode cJ9_vectorizedHashCode 70 = .ok (.iload_n 2, 1) := dk_28 (dk_at dksJ9_vectorizedHashCode_3 4 rfl rfl)
theorem dJ9_vectorizedHashCode_71 : decode cJ9_vectorizedHashCode 71 = .ok (.invokestatic 66, 3) := dk_184 0 66 (dk_at dksJ9_vectorizedHashCode_3 5 rfl rfl)
theorem dJ9_vectorizedHashCode_74 : decode cJ9_vectorizedHashCode 74 = .ok (.goto 83, 3) := dk_167 0 83 (dk_at dksJ9_vectorizedHashCode_3 8 rfl rfl)
theorem dJ9_vectorizedHashCode_77 : decode cJ9_vectorizedHashCode 77 = .ok (.iload_n 3, 1) := dk_29 (dk_at dksJ9_vectorizedHashCode_3 11 rfl rfl)
theorem dJ9_vectorizedHashCode_78 : decode cJ9_vectorizedHashCode 78 = .ok (.aload_n 0, 1) := dk_42 (dk_at dksJ9_vectorizedHashCode_3 12 rfl rfl)
theorem dJ9_vectorizedHashCode_79 : decode cJ9_vectorizedHashCode 79 = .ok (.checkcast 69, 3) := dk_192 0 69 (dk_at dksJ9_vectorizedHashCode_3 13 rfl rfl)
theorem dJ9_vectorizedHashCode_82 : decode cJ9_vectorizedHashCode 82 = .ok (.iload_n 1, 1) := dk_27 (dk_at dksJ9_vectorizedHashCode_3 16 rfl rfl)
theorem dJ9_vectorizedHashCode_83 : decode cJ9_vectorizedHashCode 83 = .ok (.iload_n 2, 1) := dk_28 (dk_at dksJ9_vectorizedHashCode_3 17 rfl rfl)
theorem dJ9_vectorizedHashCode_84 : decode cJ9_vectorizedHashCode 84 = .ok (.invokestatic 71, 3) := dk_184 0 71 (dk_at dksJ9_vectorizedHashCode_3 18 rfl rfl)
theorem dJ9_vectorizedHashCode_87 : decode cJ9_vectorizedHashCode 87 = .ok (.goto 70, 3) := dk_167 0 70 (dk_at dksJ9_vectorizedHashCode_3 21 rfl rfl)
theorem dJ9_vectorizedHashCode_90 : decode cJ9_vectorizedHashCode 90 = .ok (.iload_n 3, 1) := dk_29 (dk_at dksJ9_vectorizedHashCode_4 0 rfl rfl)
theorem dJ9_vectorizedHashCode_91 : decode cJ9_vectorizedHashCode 91 = .ok (.aload_n 0, 1) := dk_42 (dk_at dksJ9_vectorizedHashCode_4 1 rfl rfl)
theorem dJ9_vectorizedHashCode_92 : decode cJ9_vectorizedHashCode 92 = .ok (.checkcast 60, 3) := dk_192 0 60 (dk_at dksJ9_vectorizedHashCode_4 2 rfl rfl)
theorem dJ9_vectorizedHashCode_95 : decode cJ9_vectorizedHashCode 95 = .ok (.iload_n 1, 1) := dk_27 (dk_at dksJ9_vectorizedHashCode_4 5 rfl rfl)
theorem dJ9_vectorizedHashCode_96 : decode cJ9_vectorizedHashCode 96 = .ok (.iload_n 2, 1) := dk_28 (dk_at dksJ9_vectorizedHashCode_4 6 rfl rfl)
theorem dJ9_vectorizedHashCode_97 : decode cJ9_vectorizedHashCode 97 = .ok (.invokestatic 75, 3) := dk_184 0 75 (dk_at dksJ9_vectorizedHashCode_4 7 rfl rfl)
theorem dJ9_vectorizedHashCode_100 : decode cJ9_vectorizedHashCode 100 = .ok (.goto 57, 3) := dk_167 0 57 (dk_at dksJ9_vectorizedHashCode_4 10 rfl rfl)
theorem dJ9_vectorizedHashCode_103 : decode cJ9_vectorizedHashCode 103 = .ok (.iload_n 3, 1) := dk_29 (dk_at dksJ9_vectorizedHashCode_4 13 rfl rfl)
theorem dJ9_vectorizedHashCode_104 : decode cJ9_vectorizedHashCode 104 = .ok (.aload_n 0, 1) := dk_42 (dk_at dksJ9_vectorizedHashCode_4 14 rfl rfl)
theorem dJ9_vectorizedHashCode_105 : decode cJ9_vectorizedHashCode 105 = .ok (.checkcast 77, 3) := dk_192 0 77 (dk_at dksJ9_vectorizedHashCode_4 15 rfl rfl)
theorem dJ9_vectorizedHashCode_108 : decode cJ9_vectorizedHashCode 108 = .ok (.iload_n 1, 1) := dk_27 (dk_at dksJ9_vectorizedHashCode_4 18 rfl rfl)
theorem dJ9_vectorizedHashCode_109 : decode cJ9_vectorizedHashCode 109 = .ok (.iload_n 2, 1) := dk_28 (dk_at dksJ9_vectorizedHashCode_4 19 rfl rfl)
theorem dJ9_vectorizedHashCode_110 : decode cJ9_vectorizedHashCode 110 = .ok (.invokestatic 79, 3) := dk_184 0 79 (dk_at dksJ9_vectorizedHashCode_4 20 rfl rfl)
theorem dJ9_vectorizedHashCode_113 : decode cJ9_vectorizedHashCode 113 = .ok (.goto 44, 3) := dk_167 0 44 (dk_at dksJ9_vectorizedHashCode_5 0 rfl rfl)
theorem dJ9_vectorizedHashCode_116 : decode cJ9_vectorizedHashCode 116 = .ok (.iload_n 3, 1) := dk_29 (dk_at dksJ9_vectorizedHashCode_5 3 rfl rfl)
theorem dJ9_vectorizedHashCode_117 : decode cJ9_vectorizedHashCode 117 = .ok (.aload_n 0, 1) := dk_42 (dk_at dksJ9_vectorizedHashCode_5 4 rfl rfl)
theorem dJ9_vectorizedHashCode_118 : decode cJ9_vectorizedHashCode 118 = .ok (.checkcast 82, 3) := dk_192 0 82 (dk_at dksJ9_vectorizedHashCode_5 5 rfl rfl)
theorem dJ9_vectorizedHashCode_121 : decode cJ9_vectorizedHashCode 121 = .ok (.iload_n 1, 1) := dk_27 (dk_at dksJ9_vectorizedHashCode_5 8 rfl rfl)
theorem dJ9_vectorizedHashCode_122 : decode cJ9_vectorizedHashCode 122 = .ok (.iload_n 2, 1) := dk_28 (dk_at dksJ9_vectorizedHashCode_5 9 rfl rfl)
theorem dJ9_vectorizedHashCode_123 : decode cJ9_vectorizedHashCode 123 = .ok (.invokestatic 84, 3) := dk_184 0 84 (dk_at dksJ9_vectorizedHashCode_5 10 rfl rfl)
theorem dJ9_vectorizedHashCode_126 : decode cJ9_vectorizedHashCode 126 = .ok (.goto 31, 3) := dk_167 0 31 (dk_at dksJ9_vectorizedHashCode_5 13 rfl rfl)
theorem dJ9_vectorizedHashCode_129 : decode cJ9_vectorizedHashCode 129 = .ok (.new 87, 3) := dk_187 0 87 (dk_at dksJ9_vectorizedHashCode_5 16 rfl rfl)
theorem dJ9_vectorizedHashCode_132 : decode cJ9_vectorizedHashCode 132 = .ok (.dup, 1) := dk_89 (dk_at dksJ9_vectorizedHashCode_5 19 rfl rfl)
theorem dJ9_vectorizedHashCode_133 : decode cJ9_vectorizedHashCode 133 = .ok (.new 89, 3) := dk_187 0 89 (dk_at dksJ9_vectorizedHashCode_5 20 rfl rfl)
theorem dJ9_vectorizedHashCode_136 : decode cJ9_vectorizedHashCode 136 = .ok (.dup, 1) := dk_89 (dk_at dksJ9_vectorizedHashCode_5 23 rfl rfl)
theorem dJ9_vectorizedHashCode_137 : decode cJ9_vectorizedHashCode 137 = .ok (.invokespecial 91, 3) := dk_183 0 91 (dk_at dksJ9_vectorizedHashCode_6 0 rfl rfl)
theorem dJ9_vectorizedHashCode_140 : decode cJ9_vectorizedHashCode 140 = .ok (.ldc 92, 2) := dk_18 92 (dk_at dksJ9_vectorizedHashCode_6 3 rfl rfl)
theorem dJ9_vectorizedHashCode_142 : decode cJ9_vectorizedHashCode 142 = .ok (.invokevirtual 94, 3) := dk_182 0 94 (dk_at dksJ9_vectorizedHashCode_6 5 rfl rfl)
theorem dJ9_vectorizedHashCode_145 : decode cJ9_vectorizedHashCode 145 = .ok (.iload 4, 2) := dk_21 4 (dk_at dksJ9_vectorizedHashCode_6 8 rfl rfl)
theorem dJ9_vectorizedHashCode_147 : decode cJ9_vectorizedHashCode 147 = .ok (.invokevirtual 98, 3) := dk_182 0 98 (dk_at dksJ9_vectorizedHashCode_6 10 rfl rfl)
theorem dJ9_vectorizedHashCode_150 : decode cJ9_vectorizedHashCode 150 = .ok (.invokevirtual 101, 3) := dk_182 0 101 (dk_at dksJ9_vectorizedHashCode_6 13 rfl rfl)
theorem dJ9_vectorizedHashCode_153 : decode cJ9_vectorizedHashCode 153 = .ok (.invokespecial 105, 3) := dk_183 0 105 (dk_at dksJ9_vectorizedHashCode_6 16 rfl rfl)
theorem dJ9_vectorizedHashCode_156 : decode cJ9_vectorizedHashCode 156 = .ok (.athrow, 1) := dk_191 (dk_at dksJ9_vectorizedHashCode_6 19 rfl rfl)
theorem dJ9_vectorizedHashCode_157 : decode cJ9_vectorizedHashCode 157 = .ok (.ireturn, 1) := dk_172 (dk_at dksJ9_vectorizedHashCode_6 20 rfl rfl)
abbrev cJ9_signedHashCode : ByteArray := prog_55_method_5_code
def yJ9_signedHashCode : MethodName := ⟨RJ9, "signedHashCode", "(I[BII)I"⟩
def dkwJ9_signedHashCode_1 : List UInt8 := [17, 0, 255, 126, 96, 59, 132, 5, 1, 167, 255, 232, 26, 172]
abbrev dktJ9_signedHashCode_1 : List UInt8 := dkwJ9_signedHashCode_1 ++ []
def dkwJ9_signedHashCode_0 : List UInt8 := [28, 29, 96, 54, 4, 28, 54, 5, 21, 5, 21, 4, 162, 0, 23, 16, 31, 26, 104, 43, 21, 5, 51]
abbrev dktJ9_signedHashCode_0 : List UInt8 := dkwJ9_signedHashCode_0 ++ dktJ9_signedHashCode_1
theorem dksJ9_signedHashCode_0 : cJ9_signedHashCode.data.toList.drop 0 = dktJ9_signedHashCode_0 := by decide +kernel
theorem dksJ9_signedHashCode_1 : cJ9_signedHashCode.data.toList.drop 23 = dktJ9_signedHashCode_1 := dk_seg dksJ9_signedHashCode_0 23 rfl rfl
theorem dJ9_signedHashCode_0 : decode cJ9_signedHashCode 0 = .ok (.iload_n 2, 1) := dk_28 (dk_at dksJ9_signedHashCode_0 0 rfl rfl)
theorem dJ9_signedHashCode_1 : decode cJ9_signedHashCode 1 = .ok (.iload_n 3, 1) := dk_29 (dk_at dksJ9_signedHashCode_0 1 rfl rfl)
theorem dJ9_signedHashCode_2 : decode cJ9_signedHashCode 2 = .ok (.iadd, 1) := dk_96 (dk_at dksJ9_signedHashCode_0 2 rfl rfl)
theorem dJ9_signedHashCode_3 : decode cJ9_signedHashCode 3 = .ok (.istore 4, 2) := dk_54 4 (dk_at dksJ9_signedHashCode_0 3 rfl rfl)
theorem dJ9_signedHashCode_5 : decode cJ9_signedHashCode 5 = .ok (.iload_n 2, 1) := dk_28 (dk_at dksJ9_signedHashCode_0 5 rfl rfl)
theorem dJ9_signedHashCode_6 : decode cJ9_signedHashCode 6 = .ok (.istore 5, 2) := dk_54 5 (dk_at dksJ9_signedHashCode_0 6 rfl rfl)
theorem dJ9_signedHashCode_8 : decode cJ9_signedHashCode 8 = .ok (.iload 5, 2) := dk_21 5 (dk_at dksJ9_signedHashCode_0 8 rfl rfl)
theorem dJ9_signedHashCode_10 : decode cJ9_signedHashCode 10 = .ok (.iload 4, 2) := dk_21 4 (dk_at dksJ9_signedHashCode_0 10 rfl rfl)
theorem dJ9_signedHashCode_12 : decode cJ9_signedHashCode 12 = .ok (.if_icmp .ge 23, 3) := dk_162 0 23 (dk_at dksJ9_signedHashCode_0 12 rfl rfl)
theorem dJ9_signedHashCode_15 : decode cJ9_signedHashCode 15 = .ok (.bipush 31, 2) := dk_16 31 (dk_at dksJ9_signedHashCode_0 15 rfl rfl)
theorem dJ9_signedHashCode_17 : decode cJ9_signedHashCode 17 = .ok (.iload_n 0, 1) := dk_26 (dk_at dksJ9_signedHashCode_0 17 rfl rfl)
theorem dJ9_signedHashCode_18 : decode cJ9_signedHashCode 18 = .ok (.imul, 1) := dk_104 (dk_at dksJ9_signedHashCode_0 18 rfl rfl)
theorem dJ9_signedHashCode_19 : decode cJ9_signedHashCode 19 = .ok (.aload_n 1, 1) := dk_43 (dk_at dksJ9_signedHashCode_0 19 rfl rfl)
theorem dJ9_signedHashCode_20 : decode cJ9_signedHashCode 20 = .ok (.iload 5, 2) := dk_21 5 (dk_at dksJ9_signedHashCode_0 20 rfl rfl)
theorem dJ9_signedHashCode_22 : decode cJ9_signedHashCode 22 = .ok (.baload, 1) := dk_51 (dk_at dksJ9_signedHashCode_0 22 rfl rfl)
theorem dJ9_signedHashCode_23 : decode cJ9_signedHashCode 23 = .ok (.sipush 255, 3) := dk_17 0 255 (dk_at dksJ9_signedHashCode_1 0 rfl rfl)
theorem dJ9_signedHashCode_26 : decode cJ9_signedHashCode 26 = .ok (.iand, 1) := dk_126 (dk_at dksJ9_signedHashCode_1 3 rfl rfl)
theorem dJ9_signedHashCode_27 : decode cJ9_signedHashCode 27 = .ok (.iadd, 1) := dk_96 (dk_at dksJ9_signedHashCode_1 4 rfl rfl)
theorem dJ9_signedHashCode_28 : decode cJ9_signedHashCode 28 = .ok (.istore_n 0, 1) := dk_59 (dk_at dksJ9_signedHashCode_1 5 rfl rfl)
theorem dJ9_signedHashCode_29 : decode cJ9_signedHashCode 29 = .ok (.iinc 5 1, 3) := dk_132 5 1 (dk_at dksJ9_signedHashCode_1 6 rfl rfl)
theorem dJ9_signedHashCode_32 : decode cJ9_signedHashCode 32 = .ok (.goto (-24), 3) := dk_167 255 232 (dk_at dksJ9_signedHashCode_1 9 rfl rfl)
theorem dJ9_signedHashCode_35 : decode cJ9_signedHashCode 35 = .ok (.iload_n 0, 1) := dk_26 (dk_at dksJ9_signedHashCode_1 12 rfl rfl)
theorem dJ9_signedHashCode_36 : decode cJ9_signedHashCode 36 = .ok (.ireturn, 1) := dk_172 (dk_at dksJ9_signedHashCode_1 13 rfl rfl)
abbrev cJ9_utf16hashCode : ByteArray := prog_55_method_10_code
def yJ9_utf16hashCode : MethodName := ⟨RJ9, "utf16hashCode", "(I[BII)I"⟩
def dkwJ9_utf16hashCode_1 : List UInt8 := [21, 5, 185, 0, 110, 3, 0, 96, 59, 132, 5, 1, 167, 255, 229, 26, 172]
abbrev dktJ9_utf16hashCode_1 : List UInt8 := dkwJ9_utf16hashCode_1 ++ []
def dkwJ9_utf16hashCode_0 : List UInt8 := [28, 29, 96, 54, 4, 28, 54, 5, 21, 5, 21, 4, 162, 0, 26, 16, 31, 26, 104, 178, 0, 106, 43]
abbrev dktJ9_utf16hashCode_0 : List UInt8 := dkwJ9_utf16hashCode_0 ++ dktJ9_utf16hashCode_1
theorem dksJ9_utf16hashCode_0 : cJ9_utf16hashCode.data.toList.drop 0 = dktJ9_utf16hashCode_0 := by decide +kernel
theorem dksJ9_utf16hashCode_1 : cJ9_utf16hashCode.data.toList.drop 23 = dktJ9_utf16hashCode_1 := dk_seg dksJ9_utf16hashCode_0 23 rfl rfl
theorem dJ9_utf16hashCode_0 : decode cJ9_utf16hashCode 0 = .ok (.iload_n 2, 1) := dk_28 (dk_at dksJ9_utf16hashCode_0 0 rfl rfl)
theorem dJ9_utf16hashCode_1 : decode cJ9_utf16hashCode 1 = .ok (.iload_n 3, 1) := dk_29 (dk_at dksJ9_utf16hashCode_0 1 rfl rfl)
theorem dJ9_utf16hashCode_2 : decode cJ9_utf16hashCode 2 = .ok (.iadd, 1) := dk_96 (dk_at dksJ9_utf16hashCode_0 2 rfl rfl)
theorem dJ9_utf16hashCode_3 : decode cJ9_utf16hashCode 3 = .ok (.istore 4, 2) := dk_54 4 (dk_at dksJ9_utf16hashCode_0 3 rfl rfl)
theorem dJ9_utf16hashCode_5 : decode cJ9_utf16hashCode 5 = .ok (.iload_n 2, 1) := dk_28 (dk_at dksJ9_utf16hashCode_0 5 rfl rfl)
theorem dJ9_utf16hashCode_6 : decode cJ9_utf16hashCode 6 = .ok (.istore 5, 2) := dk_54 5 (dk_at dksJ9_utf16hashCode_0 6 rfl rfl)
theorem dJ9_utf16hashCode_8 : decode cJ9_utf16hashCode 8 = .ok (.iload 5, 2) := dk_21 5 (dk_at dksJ9_utf16hashCode_0 8 rfl rfl)
theorem dJ9_utf16hashCode_10 : decode cJ9_utf16hashCode 10 = .ok (.iload 4, 2) := dk_21 4 (dk_at dksJ9_utf16hashCode_0 10 rfl rfl)
theorem dJ9_utf16hashCode_12 : decode cJ9_utf16hashCode 12 = .ok (.if_icmp .ge 26, 3) := dk_162 0 26 (dk_at dksJ9_utf16hashCode_0 12 rfl rfl)
theorem dJ9_utf16hashCode_15 : decode cJ9_utf16hashCode 15 = .ok (.bipush 31, 2) := dk_16 31 (dk_at dksJ9_utf16hashCode_0 15 rfl rfl)
theorem dJ9_utf16hashCode_17 : decode cJ9_utf16hashCode 17 = .ok (.iload_n 0, 1) := dk_26 (dk_at dksJ9_utf16hashCode_0 17 rfl rfl)
theorem dJ9_utf16hashCode_18 : decode cJ9_utf16hashCode 18 = .ok (.imul, 1) := dk_104 (dk_at dksJ9_utf16hashCode_0 18 rfl rfl)
theorem dJ9_utf16hashCode_19 : decode cJ9_utf16hashCode 19 = .ok (.getstatic 106, 3) := dk_178 0 106 (dk_at dksJ9_utf16hashCode_0 19 rfl rfl)
theorem dJ9_utf16hashCode_22 : decode cJ9_utf16hashCode 22 = .ok (.aload_n 1, 1) := dk_43 (dk_at dksJ9_utf16hashCode_0 22 rfl rfl)
theorem dJ9_utf16hashCode_23 : decode cJ9_utf16hashCode 23 = .ok (.iload 5, 2) := dk_21 5 (dk_at dksJ9_utf16hashCode_1 0 rfl rfl)
theorem dJ9_utf16hashCode_25 : decode cJ9_utf16hashCode 25 = .ok (.invokeinterface 110 3, 5) := by decide +kernel
theorem dJ9_utf16hashCode_30 : decode cJ9_utf16hashCode 30 = .ok (.iadd, 1) := dk_96 (dk_at dksJ9_utf16hashCode_1 7 rfl rfl)
theorem dJ9_utf16hashCode_31 : decode cJ9_utf16hashCode 31 = .ok (.istore_n 0, 1) := dk_59 (dk_at dksJ9_utf16hashCode_1 8 rfl rfl)
theorem dJ9_utf16hashCode_32 : decode cJ9_utf16hashCode 32 = .ok (.iinc 5 1, 3) := dk_132 5 1 (dk_at dksJ9_utf16hashCode_1 9 rfl rfl)
theorem dJ9_utf16hashCode_35 : decode cJ9_utf16hashCode 35 = .ok (.goto (-27), 3) := dk_167 255 229 (dk_at dksJ9_utf16hashCode_1 12 rfl rfl)
theorem dJ9_utf16hashCode_38 : decode cJ9_utf16hashCode 38 = .ok (.iload_n 0, 1) := dk_26 (dk_at dksJ9_utf16hashCode_1 15 rfl rfl)
theorem dJ9_utf16hashCode_39 : decode cJ9_utf16hashCode 39 = .ok (.ireturn, 1) := dk_172 (dk_at dksJ9_utf16hashCode_1 16 rfl rfl)
abbrev cJ9_hashCode : ByteArray := prog_55_method_7_code
def yJ9_hashCode : MethodName := ⟨RJ9, "hashCode", "(I[CII)I"⟩
def dkwJ9_hashCode_1 : List UInt8 := [59, 132, 5, 1, 167, 255, 236, 26, 172]
abbrev dktJ9_hashCode_1 : List UInt8 := dkwJ9_hashCode_1 ++ []
def dkwJ9_hashCode_0 : List UInt8 := [28, 29, 96, 54, 4, 28, 54, 5, 21, 5, 21, 4, 162, 0, 19, 16, 31, 26, 104, 43, 21, 5, 52, 96]
abbrev dktJ9_hashCode_0 : List UInt8 := dkwJ9_hashCode_0 ++ dktJ9_hashCode_1
theorem dksJ9_hashCode_0 : cJ9_hashCode.data.toList.drop 0 = dktJ9_hashCode_0 := by decide +kernel
theorem dksJ9_hashCode_1 : cJ9_hashCode.data.toList.drop 24 = dktJ9_hashCode_1 := dk_seg dksJ9_hashCode_0 24 rfl rfl
theorem dJ9_hashCode_0 : decode cJ9_hashCode 0 = .ok (.iload_n 2, 1) := dk_28 (dk_at dksJ9_hashCode_0 0 rfl rfl)
theorem dJ9_hashCode_1 : decode cJ9_hashCode 1 = .ok (.iload_n 3, 1) := dk_29 (dk_at dksJ9_hashCode_0 1 rfl rfl)
theorem dJ9_hashCode_2 : decode cJ9_hashCode 2 = .ok (.iadd, 1) := dk_96 (dk_at dksJ9_hashCode_0 2 rfl rfl)
theorem dJ9_hashCode_3 : decode cJ9_hashCode 3 = .ok (.istore 4, 2) := dk_54 4 (dk_at dksJ9_hashCode_0 3 rfl rfl)
theorem dJ9_hashCode_5 : decode cJ9_hashCode 5 = .ok (.iload_n 2, 1) := dk_28 (dk_at dksJ9_hashCode_0 5 rfl rfl)
theorem dJ9_hashCode_6 : decode cJ9_hashCode 6 = .ok (.istore 5, 2) := dk_54 5 (dk_at dksJ9_hashCode_0 6 rfl rfl)
theorem dJ9_hashCode_8 : decode cJ9_hashCode 8 = .ok (.iload 5, 2) := dk_21 5 (dk_at dksJ9_hashCode_0 8 rfl rfl)
theorem dJ9_hashCode_10 : decode cJ9_hashCode 10 = .ok (.iload 4, 2) := dk_21 4 (dk_at dksJ9_hashCode_0 10 rfl rfl)
theorem dJ9_hashCode_12 : decode cJ9_hashCode 12 = .ok (.if_icmp .ge 19, 3) := dk_162 0 19 (dk_at dksJ9_hashCode_0 12 rfl rfl)
theorem dJ9_hashCode_15 : decode cJ9_hashCode 15 = .ok (.bipush 31, 2) := dk_16 31 (dk_at dksJ9_hashCode_0 15 rfl rfl)
theorem dJ9_hashCode_17 : decode cJ9_hashCode 17 = .ok (.iload_n 0, 1) := dk_26 (dk_at dksJ9_hashCode_0 17 rfl rfl)
theorem dJ9_hashCode_18 : decode cJ9_hashCode 18 = .ok (.imul, 1) := dk_104 (dk_at dksJ9_hashCode_0 18 rfl rfl)
theorem dJ9_hashCode_19 : decode cJ9_hashCode 19 = .ok (.aload_n 1, 1) := dk_43 (dk_at dksJ9_hashCode_0 19 rfl rfl)
theorem dJ9_hashCode_20 : decode cJ9_hashCode 20 = .ok (.iload 5, 2) := dk_21 5 (dk_at dksJ9_hashCode_0 20 rfl rfl)
theorem dJ9_hashCode_22 : decode cJ9_hashCode 22 = .ok (.caload, 1) := dk_52 (dk_at dksJ9_hashCode_0 22 rfl rfl)
theorem dJ9_hashCode_23 : decode cJ9_hashCode 23 = .ok (.iadd, 1) := dk_96 (dk_at dksJ9_hashCode_0 23 rfl rfl)
theorem dJ9_hashCode_24 : decode cJ9_hashCode 24 = .ok (.istore_n 0, 1) := dk_59 (dk_at dksJ9_hashCode_1 0 rfl rfl)
theorem dJ9_hashCode_25 : decode cJ9_hashCode 25 = .ok (.iinc 5 1, 3) := dk_132 5 1 (dk_at dksJ9_hashCode_1 1 rfl rfl)
theorem dJ9_hashCode_28 : decode cJ9_hashCode 28 = .ok (.goto (-20), 3) := dk_167 255 236 (dk_at dksJ9_hashCode_1 4 rfl rfl)
theorem dJ9_hashCode_31 : decode cJ9_hashCode 31 = .ok (.iload_n 0, 1) := dk_26 (dk_at dksJ9_hashCode_1 7 rfl rfl)
theorem dJ9_hashCode_32 : decode cJ9_hashCode 32 = .ok (.ireturn, 1) := dk_172 (dk_at dksJ9_hashCode_1 8 rfl rfl)
abbrev cJ9_hashCode_2 : ByteArray := prog_55_method_6_code
def yJ9_hashCode_2 : MethodName := ⟨RJ9, "hashCode", "(I[BII)I"⟩
def dkwJ9_hashCode_2_1 : List UInt8 := [59, 132, 5, 1, 167, 255, 236, 26, 172]
abbrev dktJ9_hashCode_2_1 : List UInt8 := dkwJ9_hashCode_2_1 ++ []
def dkwJ9_hashCode_2_0 : List UInt8 := [28, 29, 96, 54, 4, 28, 54, 5, 21, 5, 21, 4, 162, 0, 19, 16, 31, 26, 104, 43, 21, 5, 51, 96]
abbrev dktJ9_hashCode_2_0 : List UInt8 := dkwJ9_hashCode_2_0 ++ dktJ9_hashCode_2_1
theorem dksJ9_hashCode_2_0 : cJ9_hashCode_2.data.toList.drop 0 = dktJ9_hashCode_2_0 := by decide +kernel
theorem dksJ9_hashCode_2_1 : cJ9_hashCode_2.data.toList.drop 24 = dktJ9_hashCode_2_1 := dk_seg dksJ9_hashCode_2_0 24 rfl rfl
theorem dJ9_hashCode_2_0 : decode cJ9_hashCode_2 0 = .ok (.iload_n 2, 1) := dk_28 (dk_at dksJ9_hashCode_2_0 0 rfl rfl)
theorem dJ9_hashCode_2_1 : decode cJ9_hashCode_2 1 = .ok (.iload_n 3, 1) := dk_29 (dk_at dksJ9_hashCode_2_0 1 rfl rfl)
theorem dJ9_hashCode_2_2 : decode cJ9_hashCode_2 2 = .ok (.iadd, 1) := dk_96 (dk_at dksJ9_hashCode_2_0 2 rfl rfl)
theorem dJ9_hashCode_2_3 : decode cJ9_hashCode_2 3 = .ok (.istore 4, 2) := dk_54 4 (dk_at dksJ9_hashCode_2_0 3 rfl rfl)
theorem dJ9_hashCode_2_5 : decode cJ9_hashCode_2 5 = .ok (.iload_n 2, 1) := dk_28 (dk_at dksJ9_hashCode_2_0 5 rfl rfl)
theorem dJ9_hashCode_2_6 : decode cJ9_hashCode_2 6 = .ok (.istore 5, 2) := dk_54 5 (dk_at dksJ9_hashCode_2_0 6 rfl rfl)
theorem dJ9_hashCode_2_8 : decode cJ9_hashCode_2 8 = .ok (.iload 5, 2) := dk_21 5 (dk_at dksJ9_hashCode_2_0 8 rfl rfl)
theorem dJ9_hashCode_2_10 : decode cJ9_hashCode_2 10 = .ok (.iload 4, 2) := dk_21 4 (dk_at dksJ9_hashCode_2_0 10 rfl rfl)
theorem dJ9_hashCode_2_12 : decode cJ9_hashCode_2 12 = .ok (.if_icmp .ge 19, 3) := dk_162 0 19 (dk_at dksJ9_hashCode_2_0 12 rfl rfl)
theorem dJ9_hashCode_2_15 : decode cJ9_hashCode_2 15 = .ok (.bipush 31, 2) := dk_16 31 (dk_at dksJ9_hashCode_2_0 15 rfl rfl)
theorem dJ9_hashCode_2_17 : decode cJ9_hashCode_2 17 = .ok (.iload_n 0, 1) := dk_26 (dk_at dksJ9_hashCode_2_0 17 rfl rfl)
theorem dJ9_hashCode_2_18 : decode cJ9_hashCode_2 18 = .ok (.imul, 1) := dk_104 (dk_at dksJ9_hashCode_2_0 18 rfl rfl)
theorem dJ9_hashCode_2_19 : decode cJ9_hashCode_2 19 = .ok (.aload_n 1, 1) := dk_43 (dk_at dksJ9_hashCode_2_0 19 rfl rfl)
theorem dJ9_hashCode_2_20 : decode cJ9_hashCode_2 20 = .ok (.iload 5, 2) := dk_21 5 (dk_at dksJ9_hashCode_2_0 20 rfl rfl)
theorem dJ9_hashCode_2_22 : decode cJ9_hashCode_2 22 = .ok (.baload, 1) := dk_51 (dk_at dksJ9_hashCode_2_0 22 rfl rfl)
theorem dJ9_hashCode_2_23 : decode cJ9_hashCode_2 23 = .ok (.iadd, 1) := dk_96 (dk_at dksJ9_hashCode_2_0 23 rfl rfl)
theorem dJ9_hashCode_2_24 : decode cJ9_hashCode_2 24 = .ok (.istore_n 0, 1) := dk_59 (dk_at dksJ9_hashCode_2_1 0 rfl rfl)
theorem dJ9_hashCode_2_25 : decode cJ9_hashCode_2 25 = .ok (.iinc 5 1, 3) := dk_132 5 1 (dk_at dksJ9_hashCode_2_1 1 rfl rfl)
theorem dJ9_hashCode_2_28 : decode cJ9_hashCode_2 28 = .ok (.goto (-20), 3) := dk_167 255 236 (dk_at dksJ9_hashCode_2_1 4 rfl rfl)
theorem dJ9_hashCode_2_31 : decode cJ9_hashCode_2 31 = .ok (.iload_n 0, 1) := dk_26 (dk_at dksJ9_hashCode_2_1 7 rfl rfl)
theorem dJ9_hashCode_2_32 : decode cJ9_hashCode_2 32 = .ok (.ireturn, 1) := dk_172 (dk_at dksJ9_hashCode_2_1 8 rfl rfl)
abbrev cJ9_hashCode_3 : ByteArray := prog_55_method_8_code
def yJ9_hashCode_3 : MethodName := ⟨RJ9, "hashCode", "(I[SII)I"⟩
def dkwJ9_hashCode_3_1 : List UInt8 := [59, 132, 5, 1, 167, 255, 236, 26, 172]
abbrev dktJ9_hashCode_3_1 : List UInt8 := dkwJ9_hashCode_3_1 ++ []
def dkwJ9_hashCode_3_0 : List UInt8 := [28, 29, 96, 54, 4, 28, 54, 5, 21, 5, 21, 4, 162, 0, 19, 16, 31, 26, 104, 43, 21, 5, 53, 96]
abbrev dktJ9_hashCode_3_0 : List UInt8 := dkwJ9_hashCode_3_0 ++ dktJ9_hashCode_3_1
theorem dksJ9_hashCode_3_0 : cJ9_hashCode_3.data.toList.drop 0 = dktJ9_hashCode_3_0 := by decide +kernel
theorem dksJ9_hashCode_3_1 : cJ9_hashCode_3.data.toList.drop 24 = dktJ9_hashCode_3_1 := dk_seg dksJ9_hashCode_3_0 24 rfl rfl
theorem dJ9_hashCode_3_0 : decode cJ9_hashCode_3 0 = .ok (.iload_n 2, 1) := dk_28 (dk_at dksJ9_hashCode_3_0 0 rfl rfl)
theorem dJ9_hashCode_3_1 : decode cJ9_hashCode_3 1 = .ok (.iload_n 3, 1) := dk_29 (dk_at dksJ9_hashCode_3_0 1 rfl rfl)
theorem dJ9_hashCode_3_2 : decode cJ9_hashCode_3 2 = .ok (.iadd, 1) := dk_96 (dk_at dksJ9_hashCode_3_0 2 rfl rfl)
theorem dJ9_hashCode_3_3 : decode cJ9_hashCode_3 3 = .ok (.istore 4, 2) := dk_54 4 (dk_at dksJ9_hashCode_3_0 3 rfl rfl)
theorem dJ9_hashCode_3_5 : decode cJ9_hashCode_3 5 = .ok (.iload_n 2, 1) := dk_28 (dk_at dksJ9_hashCode_3_0 5 rfl rfl)
theorem dJ9_hashCode_3_6 : decode cJ9_hashCode_3 6 = .ok (.istore 5, 2) := dk_54 5 (dk_at dksJ9_hashCode_3_0 6 rfl rfl)
theorem dJ9_hashCode_3_8 : decode cJ9_hashCode_3 8 = .ok (.iload 5, 2) := dk_21 5 (dk_at dksJ9_hashCode_3_0 8 rfl rfl)
theorem dJ9_hashCode_3_10 : decode cJ9_hashCode_3 10 = .ok (.iload 4, 2) := dk_21 4 (dk_at dksJ9_hashCode_3_0 10 rfl rfl)
theorem dJ9_hashCode_3_12 : decode cJ9_hashCode_3 12 = .ok (.if_icmp .ge 19, 3) := dk_162 0 19 (dk_at dksJ9_hashCode_3_0 12 rfl rfl)
theorem dJ9_hashCode_3_15 : decode cJ9_hashCode_3 15 = .ok (.bipush 31, 2) := dk_16 31 (dk_at dksJ9_hashCode_3_0 15 rfl rfl)
theorem dJ9_hashCode_3_17 : decode cJ9_hashCode_3 17 = .ok (.iload_n 0, 1) := dk_26 (dk_at dksJ9_hashCode_3_0 17 rfl rfl)
theorem dJ9_hashCode_3_18 : decode cJ9_hashCode_3 18 = .ok (.imul, 1) := dk_104 (dk_at dksJ9_hashCode_3_0 18 rfl rfl)
theorem dJ9_hashCode_3_19 : decode cJ9_hashCode_3 19 = .ok (.aload_n 1, 1) := dk_43 (dk_at dksJ9_hashCode_3_0 19 rfl rfl)
theorem dJ9_hashCode_3_20 : decode cJ9_hashCode_3 20 = .ok (.iload 5, 2) := dk_21 5 (dk_at dksJ9_hashCode_3_0 20 rfl rfl)
theorem dJ9_hashCode_3_22 : decode cJ9_hashCode_3 22 = .ok (.saload, 1) := dk_53 (dk_at dksJ9_hashCode_3_0 22 rfl rfl)
theorem dJ9_hashCode_3_23 : decode cJ9_hashCode_3 23 = .ok (.iadd, 1) := dk_96 (dk_at dksJ9_hashCode_3_0 23 rfl rfl)
theorem dJ9_hashCode_3_24 : decode cJ9_hashCode_3 24 = .ok (.istore_n 0, 1) := dk_59 (dk_at dksJ9_hashCode_3_1 0 rfl rfl)
theorem dJ9_hashCode_3_25 : decode cJ9_hashCode_3 25 = .ok (.iinc 5 1, 3) := dk_132 5 1 (dk_at dksJ9_hashCode_3_1 1 rfl rfl)
theorem dJ9_hashCode_3_28 : decode cJ9_hashCode_3 28 = .ok (.goto (-20), 3) := dk_167 255 236 (dk_at dksJ9_hashCode_3_1 4 rfl rfl)
theorem dJ9_hashCode_3_31 : decode cJ9_hashCode_3 31 = .ok (.iload_n 0, 1) := dk_26 (dk_at dksJ9_hashCode_3_1 7 rfl rfl)
theorem dJ9_hashCode_3_32 : decode cJ9_hashCode_3 32 = .ok (.ireturn, 1) := dk_172 (dk_at dksJ9_hashCode_3_1 8 rfl rfl)
abbrev cJ9_hashCode_4 : ByteArray := prog_55_method_9_code
def yJ9_hashCode_4 : MethodName := ⟨RJ9, "hashCode", "(I[III)I"⟩
def dkwJ9_hashCode_4_1 : List UInt8 := [59, 132, 5, 1, 167, 255, 236, 26, 172]
abbrev dktJ9_hashCode_4_1 : List UInt8 := dkwJ9_hashCode_4_1 ++ []
def dkwJ9_hashCode_4_0 : List UInt8 := [28, 29, 96, 54, 4, 28, 54, 5, 21, 5, 21, 4, 162, 0, 19, 16, 31, 26, 104, 43, 21, 5, 46, 96]
abbrev dktJ9_hashCode_4_0 : List UInt8 := dkwJ9_hashCode_4_0 ++ dktJ9_hashCode_4_1
theorem dksJ9_hashCode_4_0 : cJ9_hashCode_4.data.toList.drop 0 = dktJ9_hashCode_4_0 := by decide +kernel
theorem dksJ9_hashCode_4_1 : cJ9_hashCode_4.data.toList.drop 24 = dktJ9_hashCode_4_1 := dk_seg dksJ9_hashCode_4_0 24 rfl rfl
theorem dJ9_hashCode_4_0 : decode cJ9_hashCode_4 0 = .ok (.iload_n 2, 1) := dk_28 (dk_at dksJ9_hashCode_4_0 0 rfl rfl)
theorem dJ9_hashCode_4_1 : decode cJ9_hashCode_4 1 = .ok (.iload_n 3, 1) := dk_29 (dk_at dksJ9_hashCode_4_0 1 rfl rfl)
theorem dJ9_hashCode_4_2 : decode cJ9_hashCode_4 2 = .ok (.iadd, 1) := dk_96 (dk_at dksJ9_hashCode_4_0 2 rfl rfl)
theorem dJ9_hashCode_4_3 : decode cJ9_hashCode_4 3 = .ok (.istore 4, 2) := dk_54 4 (dk_at dksJ9_hashCode_4_0 3 rfl rfl)
theorem dJ9_hashCode_4_5 : decode cJ9_hashCode_4 5 = .ok (.iload_n 2, 1) := dk_28 (dk_at dksJ9_hashCode_4_0 5 rfl rfl)
theorem dJ9_hashCode_4_6 : decode cJ9_hashCode_4 6 = .ok (.istore 5, 2) := dk_54 5 (dk_at dksJ9_hashCode_4_0 6 rfl rfl)
theorem dJ9_hashCode_4_8 : decode cJ9_hashCode_4 8 = .ok (.iload 5, 2) := dk_21 5 (dk_at dksJ9_hashCode_4_0 8 rfl rfl)
theorem dJ9_hashCode_4_10 : decode cJ9_hashCode_4 10 = .ok (.iload 4, 2) := dk_21 4 (dk_at dksJ9_hashCode_4_0 10 rfl rfl)
theorem dJ9_hashCode_4_12 : decode cJ9_hashCode_4 12 = .ok (.if_icmp .ge 19, 3) := dk_162 0 19 (dk_at dksJ9_hashCode_4_0 12 rfl rfl)
theorem dJ9_hashCode_4_15 : decode cJ9_hashCode_4 15 = .ok (.bipush 31, 2) := dk_16 31 (dk_at dksJ9_hashCode_4_0 15 rfl rfl)
theorem dJ9_hashCode_4_17 : decode cJ9_hashCode_4 17 = .ok (.iload_n 0, 1) := dk_26 (dk_at dksJ9_hashCode_4_0 17 rfl rfl)
theorem dJ9_hashCode_4_18 : decode cJ9_hashCode_4 18 = .ok (.imul, 1) := dk_104 (dk_at dksJ9_hashCode_4_0 18 rfl rfl)
theorem dJ9_hashCode_4_19 : decode cJ9_hashCode_4 19 = .ok (.aload_n 1, 1) := dk_43 (dk_at dksJ9_hashCode_4_0 19 rfl rfl)
theorem dJ9_hashCode_4_20 : decode cJ9_hashCode_4 20 = .ok (.iload 5, 2) := dk_21 5 (dk_at dksJ9_hashCode_4_0 20 rfl rfl)
theorem dJ9_hashCode_4_22 : decode cJ9_hashCode_4 22 = .ok (.iaload, 1) := dk_46 (dk_at dksJ9_hashCode_4_0 22 rfl rfl)
theorem dJ9_hashCode_4_23 : decode cJ9_hashCode_4 23 = .ok (.iadd, 1) := dk_96 (dk_at dksJ9_hashCode_4_0 23 rfl rfl)
theorem dJ9_hashCode_4_24 : decode cJ9_hashCode_4 24 = .ok (.istore_n 0, 1) := dk_59 (dk_at dksJ9_hashCode_4_1 0 rfl rfl)
theorem dJ9_hashCode_4_25 : decode cJ9_hashCode_4 25 = .ok (.iinc 5 1, 3) := dk_132 5 1 (dk_at dksJ9_hashCode_4_1 1 rfl rfl)
theorem dJ9_hashCode_4_28 : decode cJ9_hashCode_4 28 = .ok (.goto (-20), 3) := dk_167 255 236 (dk_at dksJ9_hashCode_4_1 4 rfl rfl)
theorem dJ9_hashCode_4_31 : decode cJ9_hashCode_4 31 = .ok (.iload_n 0, 1) := dk_26 (dk_at dksJ9_hashCode_4_1 7 rfl rfl)
theorem dJ9_hashCode_4_32 : decode cJ9_hashCode_4 32 = .ok (.ireturn, 1) := dk_172 (dk_at dksJ9_hashCode_4_1 8 rfl rfl)
theorem q75 : (Jvm.Cond.initialized "jdk/internal/util/ArraysSupport") ∈ lw_all := lw_g (lw_at lw_m1 16 rfl) rfl
theorem q388 : (Jvm.Cond.static ({ cls := "jdk/internal/util/ArraysSupport", name := "newLength", desc := "(III)I" } : Jvm.MethodName)) ∈ lw_all := lw_g (lw_at lw_m2 89 rfl) rfl
theorem q389 : (Jvm.Cond.code ({ cls := "jdk/internal/util/ArraysSupport", name := "newLength", desc := "(III)I" } : Jvm.MethodName) prog_55_method_27_code (4 : Nat) (Option.some Jvm.ClassFile.FieldType.int)) ∈ lw_all := lw_g (lw_at lw_m2 90 rfl) rfl
theorem q390 : (Jvm.Cond.methodLink "jdk/internal/util/ArraysSupport" (194 : Nat) ({ cls := "java/lang/Math", name := "max", desc := "(II)I" } : Jvm.MethodName)) ∈ lw_all := lw_g (lw_at lw_m2 91 rfl) rfl
theorem q393 : (Jvm.Cond.constant "jdk/internal/util/ArraysSupport" (200 : Nat) (2147483639 : Int32)) ∈ lw_all := lw_g (lw_at lw_m2 94 rfl) rfl
theorem q394 : (Jvm.Cond.methodLink "jdk/internal/util/ArraysSupport" (201 : Nat) ({ cls := "jdk/internal/util/ArraysSupport", name := "hugeLength", desc := "(II)I" } : Jvm.MethodName)) ∈ lw_all := lw_g (lw_at lw_m2 95 rfl) rfl
theorem q395 : (Jvm.Cond.static ({ cls := "jdk/internal/util/ArraysSupport", name := "hugeLength", desc := "(II)I" } : Jvm.MethodName)) ∈ lw_all := lw_g (lw_at lw_m2 96 rfl) rfl
theorem q396 : (Jvm.Cond.code ({ cls := "jdk/internal/util/ArraysSupport", name := "hugeLength", desc := "(II)I" } : Jvm.MethodName) prog_55_method_28_code (3 : Nat) (Option.some Jvm.ClassFile.FieldType.int)) ∈ lw_all := lw_g (lw_at lw_m2 97 rfl) rfl
theorem q1197 : (Jvm.Cond.static ({ cls := "jdk/internal/util/ArraysSupport", name := "vectorizedHashCode", desc := "(Ljava/lang/Object;IIII)I" } : Jvm.MethodName)) ∈ lw_all := lw_g (lw_at lw_m5 178 rfl) rfl
theorem q1198 : (Jvm.Cond.code ({ cls := "jdk/internal/util/ArraysSupport", name := "vectorizedHashCode", desc := "(Ljava/lang/Object;IIII)I" } : Jvm.MethodName) prog_55_method_4_code (5 : Nat) (Option.some Jvm.ClassFile.FieldType.int)) ∈ lw_all := lw_g (lw_at lw_m5 179 rfl) rfl
theorem q1199 : (Jvm.Cond.classLink "jdk/internal/util/ArraysSupport" (60 : Nat) "[B") ∈ lw_all := lw_g (lw_at lw_m5 180 rfl) rfl
theorem q1200 : (Jvm.Cond.methodLink "jdk/internal/util/ArraysSupport" (62 : Nat) ({ cls := "jdk/internal/util/ArraysSupport", name := "signedHashCode", desc := "(I[BII)I" } : Jvm.MethodName)) ∈ lw_all := lw_g (lw_at lw_m5 181 rfl) rfl
theorem q1201 : (Jvm.Cond.static ({ cls := "jdk/internal/util/ArraysSupport", name := "signedHashCode", desc := "(I[BII)I" } : Jvm.MethodName)) ∈ lw_all := lw_g (lw_at lw_m5 182 rfl) rfl
theorem q1202 : (Jvm.Cond.code ({ cls := "jdk/internal/util/ArraysSupport", name := "signedHashCode", desc := "(I[BII)I" } : Jvm.MethodName) prog_55_method_5_code (6 : Nat) (Option.some Jvm.ClassFile.FieldType.int)) ∈ lw_all := lw_g (lw_at lw_m5 183 rfl) rfl
theorem q1203 : (Jvm.Cond.methodLink "jdk/internal/util/ArraysSupport" (66 : Nat) ({ cls := "jdk/internal/util/ArraysSupport", name := "utf16hashCode", desc := "(I[BII)I" } : Jvm.MethodName)) ∈ lw_all := lw_g (lw_at lw_m5 184 rfl) rfl
theorem q1204 : (Jvm.Cond.static ({ cls := "jdk/internal/util/ArraysSupport", name := "utf16hashCode", desc := "(I[BII)I" } : Jvm.MethodName)) ∈ lw_all := lw_g (lw_at lw_m5 185 rfl) rfl
theorem q1205 : (Jvm.Cond.code ({ cls := "jdk/internal/util/ArraysSupport", name := "utf16hashCode", desc := "(I[BII)I" } : Jvm.MethodName) prog_55_method_10_code (6 : Nat) (Option.some Jvm.ClassFile.FieldType.int)) ∈ lw_all := lw_g (lw_at lw_m5 186 rfl) rfl
theorem q1206 : (Jvm.Cond.fieldLink "jdk/internal/util/ArraysSupport" (106 : Nat) "jdk/internal/util/ArraysSupport" "JLA" "Ljdk/internal/access/JavaLangAccess;") ∈ lw_all := lw_g (lw_at lw_m5 187 rfl) rfl
theorem q1207 : (Jvm.Cond.laysStatic "jdk/internal/util/ArraysSupport" "JLA" "Ljdk/internal/access/JavaLangAccess;") ∈ lw_tbl := lw_at lw_m5 188 rfl
theorem q1208 : (Jvm.Cond.interfaceEntry "jdk/internal/util/ArraysSupport" (110 : Nat)) ∈ lw_tbl := lw_at lw_m5 189 rfl
theorem q1209 : (Jvm.Cond.methodLink "jdk/internal/util/ArraysSupport" (110 : Nat) ({ cls := "jdk/internal/access/JavaLangAccess", name := "getUTF16Char", desc := "([BI)C" } : Jvm.MethodName)) ∈ lw_all := lw_g (lw_at lw_m5 190 rfl) rfl
theorem q1219 : (Jvm.Cond.classLink "jdk/internal/util/ArraysSupport" (69 : Nat) "[C") ∈ lw_all := lw_g (lw_at lw_m5 200 rfl) rfl
theorem q1220 : (Jvm.Cond.methodLink "jdk/internal/util/ArraysSupport" (71 : Nat) ({ cls := "jdk/internal/util/ArraysSupport", name := "hashCode", desc := "(I[CII)I" } : Jvm.MethodName)) ∈ lw_all := lw_g (lw_at lw_m5 201 rfl) rfl
theorem q1221 : (Jvm.Cond.static ({ cls := "jdk/internal/util/ArraysSupport", name := "hashCode", desc := "(I[CII)I" } : Jvm.MethodName)) ∈ lw_all := lw_g (lw_at lw_m5 202 rfl) rfl
theorem q1222 : (Jvm.Cond.code ({ cls := "jdk/internal/util/ArraysSupport", name := "hashCode", desc := "(I[CII)I" } : Jvm.MethodName) prog_55_method_7_code (6 : Nat) (Option.some Jvm.ClassFile.FieldType.int)) ∈ lw_all := lw_g (lw_at lw_m5 203 rfl) rfl
theorem q1223 : (Jvm.Cond.methodLink "jdk/internal/util/ArraysSupport" (75 : Nat) ({ cls := "jdk/internal/util/ArraysSupport", name := "hashCode", desc := "(I[BII)I" } : Jvm.MethodName)) ∈ lw_all := lw_g (lw_at lw_m5 204 rfl) rfl
theorem q1224 : (Jvm.Cond.static ({ cls := "jdk/internal/util/ArraysSupport", name := "hashCode", desc := "(I[BII)I" } : Jvm.MethodName)) ∈ lw_all := lw_g (lw_at lw_m5 205 rfl) rfl
theorem q1225 : (Jvm.Cond.code ({ cls := "jdk/internal/util/ArraysSupport", name := "hashCode", desc := "(I[BII)I" } : Jvm.MethodName) prog_55_method_6_code (6 : Nat) (Option.some Jvm.ClassFile.FieldType.int)) ∈ lw_all := lw_g (lw_at lw_m5 206 rfl) rfl
theorem q1226 : (Jvm.Cond.classLink "jdk/internal/util/ArraysSupport" (77 : Nat) "[S") ∈ lw_all := lw_g (lw_at lw_m5 207 rfl) rfl
theorem q1227 : (Jvm.Cond.methodLink "jdk/internal/util/ArraysSupport" (79 : Nat) ({ cls := "jdk/internal/util/ArraysSupport", name := "hashCode", desc := "(I[SII)I" } : Jvm.MethodName)) ∈ lw_all := lw_g (lw_at lw_m5 208 rfl) rfl
theorem q1228 : (Jvm.Cond.static ({ cls := "jdk/internal/util/ArraysSupport", name := "hashCode", desc := "(I[SII)I" } : Jvm.MethodName)) ∈ lw_all := lw_g (lw_at lw_m5 209 rfl) rfl
theorem q1229 : (Jvm.Cond.code ({ cls := "jdk/internal/util/ArraysSupport", name := "hashCode", desc := "(I[SII)I" } : Jvm.MethodName) prog_55_method_8_code (6 : Nat) (Option.some Jvm.ClassFile.FieldType.int)) ∈ lw_all := lw_g (lw_at lw_m5 210 rfl) rfl
theorem q1230 : (Jvm.Cond.classLink "jdk/internal/util/ArraysSupport" (82 : Nat) "[I") ∈ lw_all := lw_g (lw_at lw_m5 211 rfl) rfl
theorem q1231 : (Jvm.Cond.methodLink "jdk/internal/util/ArraysSupport" (84 : Nat) ({ cls := "jdk/internal/util/ArraysSupport", name := "hashCode", desc := "(I[III)I" } : Jvm.MethodName)) ∈ lw_all := lw_g (lw_at lw_m5 212 rfl) rfl
theorem q1232 : (Jvm.Cond.static ({ cls := "jdk/internal/util/ArraysSupport", name := "hashCode", desc := "(I[III)I" } : Jvm.MethodName)) ∈ lw_all := lw_g (lw_at lw_m5 213 rfl) rfl
theorem q1233 : (Jvm.Cond.code ({ cls := "jdk/internal/util/ArraysSupport", name := "hashCode", desc := "(I[III)I" } : Jvm.MethodName) prog_55_method_9_code (6 : Nat) (Option.some Jvm.ClassFile.FieldType.int)) ∈ lw_all := lw_g (lw_at lw_m5 214 rfl) rfl

/-! java/lang/Math -/
set_option maxRecDepth 100000
def RJ10 : String := "java/lang/Math"
abbrev cJ10_max : ByteArray := prog_30_method_65_code
def yJ10_max : MethodName := ⟨RJ10, "max", "(II)I"⟩
def dkwJ10_max_0 : List UInt8 := [26, 27, 161, 0, 7, 26, 167, 0, 4, 27, 172]
abbrev dktJ10_max_0 : List UInt8 := dkwJ10_max_0 ++ []
theorem dksJ10_max_0 : cJ10_max.data.toList.drop 0 = dktJ10_max_0 := by decide +kernel
theorem dJ10_max_0 : decode cJ10_max 0 = .ok (.iload_n 0, 1) := dk_26 (dk_at dksJ10_max_0 0 rfl rfl)
theorem dJ10_max_1 : decode cJ10_max 1 = .ok (.iload_n 1, 1) := dk_27 (dk_at dksJ10_max_0 1 rfl rfl)
theorem dJ10_max_2 : decode cJ10_max 2 = .ok (.if_icmp .lt 7, 3) := dk_161 0 7 (dk_at dksJ10_max_0 2 rfl rfl)
theorem dJ10_max_5 : decode cJ10_max 5 = .ok (.iload_n 0, 1) := dk_26 (dk_at dksJ10_max_0 5 rfl rfl)
theorem dJ10_max_6 : decode cJ10_max 6 = .ok (.goto 4, 3) := dk_167 0 4 (dk_at dksJ10_max_0 6 rfl rfl)
theorem dJ10_max_9 : decode cJ10_max 9 = .ok (.iload_n 1, 1) := dk_27 (dk_at dksJ10_max_0 9 rfl rfl)
theorem dJ10_max_10 : decode cJ10_max 10 = .ok (.ireturn, 1) := dk_172 (dk_at dksJ10_max_0 10 rfl rfl)
abbrev cJ10_min : ByteArray := prog_30_method_69_code
def yJ10_min : MethodName := ⟨RJ10, "min", "(II)I"⟩
def dkwJ10_min_0 : List UInt8 := [26, 27, 163, 0, 7, 26, 167, 0, 4, 27, 172]
abbrev dktJ10_min_0 : List UInt8 := dkwJ10_min_0 ++ []
theorem dksJ10_min_0 : cJ10_min.data.toList.drop 0 = dktJ10_min_0 := by decide +kernel
theorem dJ10_min_0 : decode cJ10_min 0 = .ok (.iload_n 0, 1) := dk_26 (dk_at dksJ10_min_0 0 rfl rfl)
theorem dJ10_min_1 : decode cJ10_min 1 = .ok (.iload_n 1, 1) := dk_27 (dk_at dksJ10_min_0 1 rfl rfl)
theorem dJ10_min_2 : decode cJ10_min 2 = .ok (.if_icmp .gt 7, 3) := dk_163 0 7 (dk_at dksJ10_min_0 2 rfl rfl)
theorem dJ10_min_5 : decode cJ10_min 5 = .ok (.iload_n 0, 1) := dk_26 (dk_at dksJ10_min_0 5 rfl rfl)
theorem dJ10_min_6 : decode cJ10_min 6 = .ok (.goto 4, 3) := dk_167 0 4 (dk_at dksJ10_min_0 6 rfl rfl)
theorem dJ10_min_9 : decode cJ10_min 9 = .ok (.iload_n 1, 1) := dk_27 (dk_at dksJ10_min_0 9 rfl rfl)
theorem dJ10_min_10 : decode cJ10_min 10 = .ok (.ireturn, 1) := dk_172 (dk_at dksJ10_min_0 10 rfl rfl)
abbrev cJ10_floorDiv : ByteArray := prog_30_method_47_code
def yJ10_floorDiv : MethodName := ⟨RJ10, "floorDiv", "(II)I"⟩
def dkwJ10_floorDiv_0 : List UInt8 := [26, 27, 108, 61, 26, 27, 130, 156, 0, 14, 28, 27, 104, 26, 159, 0, 7, 28, 4, 100, 172, 28, 172]
abbrev dktJ10_floorDiv_0 : List UInt8 := dkwJ10_floorDiv_0 ++ []
theorem dksJ10_floorDiv_0 : cJ10_floorDiv.data.toList.drop 0 = dktJ10_floorDiv_0 := by decide +kernel
theorem dJ10_floorDiv_0 : decode cJ10_floorDiv 0 = .ok (.iload_n 0, 1) := dk_26 (dk_at dksJ10_floorDiv_0 0 rfl rfl)
theorem dJ10_floorDiv_1 : decode cJ10_floorDiv 1 = .ok (.iload_n 1, 1) := dk_27 (dk_at dksJ10_floorDiv_0 1 rfl rfl)
theorem dJ10_floorDiv_2 : decode cJ10_floorDiv 2 = .ok (.idiv, 1) := dk_108 (dk_at dksJ10_floorDiv_0 2 rfl rfl)
theorem dJ10_floorDiv_3 : decode cJ10_floorDiv 3 = .ok (.istore_n 2, 1) := dk_61 (dk_at dksJ10_floorDiv_0 3 rfl rfl)
theorem dJ10_floorDiv_4 : decode cJ10_floorDiv 4 = .ok (.iload_n 0, 1) := dk_26 (dk_at dksJ10_floorDiv_0 4 rfl rfl)
theorem dJ10_floorDiv_5 : decode cJ10_floorDiv 5 = .ok (.iload_n 1, 1) := dk_27 (dk_at dksJ10_floorDiv_0 5 rfl rfl)
theorem dJ10_floorDiv_6 : decode cJ10_floorDiv 6 = .ok (.ixor, 1) := dk_130 (dk_at dksJ10_floorDiv_0 6 rfl rfl)
theorem dJ10_floorDiv_7 : decode cJ10_floorDiv 7 = .ok (.ifCond .ge 14, 3) := dk_156 0 14 (dk_at dksJ10_floorDiv_0 7 rfl rfl)
theorem dJ10_floorDiv_10 : decode cJ10_floorDiv 10 = .ok (.iload_n 2, 1) := dk_28 (dk_at dksJ10_floorDiv_0 10 rfl rfl)
theorem dJ10_floorDiv_11 : decode cJ10_floorDiv 11 = .ok (.iload_n 1, 1) := dk_27 (dk_at dksJ10_floorDiv_0 11 rfl rfl)
theorem dJ10_floorDiv_12 : decode cJ10_floorDiv 12 = .ok (.imul, 1) := dk_104 (dk_at dksJ10_floorDiv_0 12 rfl rfl)
theorem dJ10_floorDiv_13 : decode cJ10_floorDiv 13 = .ok (.iload_n 0, 1) := dk_26 (dk_at dksJ10_floorDiv_0 13 rfl rfl)
theorem dJ10_floorDiv_14 : decode cJ10_floorDiv 14 = .ok (.if_icmp .eq 7, 3) := dk_159 0 7 (dk_at dksJ10_floorDiv_0 14 rfl rfl)
theorem dJ10_floorDiv_17 : decode cJ10_floorDiv 17 = .ok (.iload_n 2, 1) := dk_28 (dk_at dksJ10_floorDiv_0 17 rfl rfl)
theorem dJ10_floorDiv_18 : decode cJ10_floorDiv 18 = .ok (.iconst 1, 1) := dk_4 (dk_at dksJ10_floorDiv_0 18 rfl rfl)
theorem dJ10_floorDiv_19 : decode cJ10_floorDiv 19 = .ok (.isub, 1) := dk_100 (dk_at dksJ10_floorDiv_0 19 rfl rfl)
theorem dJ10_floorDiv_20 : decode cJ10_floorDiv 20 = .ok (.ireturn, 1) := dk_172 (dk_at dksJ10_floorDiv_0 20 rfl rfl)
theorem dJ10_floorDiv_21 : decode cJ10_floorDiv 21 = .ok (.iload_n 2, 1) := dk_28 (dk_at dksJ10_floorDiv_0 21 rfl rfl)
theorem dJ10_floorDiv_22 : decode cJ10_floorDiv 22 = .ok (.ireturn, 1) := dk_172 (dk_at dksJ10_floorDiv_0 22 rfl rfl)
abbrev cJ10_abs : ByteArray := prog_30_method_59_code
def yJ10_abs : MethodName := ⟨RJ10, "abs", "(I)I"⟩
def dkwJ10_abs_0 : List UInt8 := [26, 156, 0, 8, 26, 116, 167, 0, 4, 26, 172]
abbrev dktJ10_abs_0 : List UInt8 := dkwJ10_abs_0 ++ []
theorem dksJ10_abs_0 : cJ10_abs.data.toList.drop 0 = dktJ10_abs_0 := by decide +kernel
theorem dJ10_abs_0 : decode cJ10_abs 0 = .ok (.iload_n 0, 1) := dk_26 (dk_at dksJ10_abs_0 0 rfl rfl)
theorem dJ10_abs_1 : decode cJ10_abs 1 = .ok (.ifCond .ge 8, 3) := dk_156 0 8 (dk_at dksJ10_abs_0 1 rfl rfl)
theorem dJ10_abs_4 : decode cJ10_abs 4 = .ok (.iload_n 0, 1) := dk_26 (dk_at dksJ10_abs_0 4 rfl rfl)
theorem dJ10_abs_5 : decode cJ10_abs 5 = .ok (.ineg, 1) := dk_116 (dk_at dksJ10_abs_0 5 rfl rfl)
theorem dJ10_abs_6 : decode cJ10_abs 6 = .ok (.goto 4, 3) := dk_167 0 4 (dk_at dksJ10_abs_0 6 rfl rfl)
theorem dJ10_abs_9 : decode cJ10_abs 9 = .ok (.iload_n 0, 1) := dk_26 (dk_at dksJ10_abs_0 9 rfl rfl)
theorem dJ10_abs_10 : decode cJ10_abs 10 = .ok (.ireturn, 1) := dk_172 (dk_at dksJ10_abs_0 10 rfl rfl)
abbrev cJ10_min_2 : ByteArray := prog_30_method_70_code
def yJ10_min_2 : MethodName := ⟨RJ10, "min", "(JJ)J"⟩
def dkwJ10_min_2_0 : List UInt8 := [30, 32, 148, 157, 0, 7, 30, 167, 0, 4, 32, 173]
abbrev dktJ10_min_2_0 : List UInt8 := dkwJ10_min_2_0 ++ []
theorem dksJ10_min_2_0 : cJ10_min_2.data.toList.drop 0 = dktJ10_min_2_0 := by decide +kernel
theorem dJ10_min_2_0 : decode cJ10_min_2 0 = .ok (.lload_n 0, 1) := dk_30 (dk_at dksJ10_min_2_0 0 rfl rfl)
theorem dJ10_min_2_1 : decode cJ10_min_2 1 = .ok (.lload_n 2, 1) := dk_32 (dk_at dksJ10_min_2_0 1 rfl rfl)
theorem dJ10_min_2_2 : decode cJ10_min_2 2 = .ok (.lcmp, 1) := dk_148 (dk_at dksJ10_min_2_0 2 rfl rfl)
theorem dJ10_min_2_3 : decode cJ10_min_2 3 = .ok (.ifCond .gt 7, 3) := dk_157 0 7 (dk_at dksJ10_min_2_0 3 rfl rfl)
theorem dJ10_min_2_6 : decode cJ10_min_2 6 = .ok (.lload_n 0, 1) := dk_30 (dk_at dksJ10_min_2_0 6 rfl rfl)
theorem dJ10_min_2_7 : decode cJ10_min_2 7 = .ok (.goto 4, 3) := dk_167 0 4 (dk_at dksJ10_min_2_0 7 rfl rfl)
theorem dJ10_min_2_10 : decode cJ10_min_2 10 = .ok (.lload_n 2, 1) := dk_32 (dk_at dksJ10_min_2_0 10 rfl rfl)
theorem dJ10_min_2_11 : decode cJ10_min_2 11 = .ok (.lreturn, 1) := dk_173 (dk_at dksJ10_min_2_0 11 rfl rfl)
theorem q76 : (Jvm.Cond.initialized "java/lang/Math") ∈ lw_all := lw_g (lw_at lw_m1 17 rfl) rfl
theorem q391 : (Jvm.Cond.static ({ cls := "java/lang/Math", name := "max", desc := "(II)I" } : Jvm.MethodName)) ∈ lw_all := lw_g (lw_at lw_m2 92 rfl) rfl
theorem q392 : (Jvm.Cond.code ({ cls := "java/lang/Math", name := "max", desc := "(II)I" } : Jvm.MethodName) prog_30_method_65_code (2 : Nat) (Option.some Jvm.ClassFile.FieldType.int)) ∈ lw_all := lw_g (lw_at lw_m2 93 rfl) rfl
theorem q433 : (Jvm.Cond.static ({ cls := "java/lang/Math", name := "min", desc := "(II)I" } : Jvm.MethodName)) ∈ lw_all := lw_g (lw_at lw_m2 134 rfl) rfl
theorem q434 : (Jvm.Cond.code ({ cls := "java/lang/Math", name := "min", desc := "(II)I" } : Jvm.MethodName) prog_30_method_69_code (2 : Nat) (Option.some Jvm.ClassFile.FieldType.int)) ∈ lw_all := lw_g (lw_at lw_m2 135 rfl) rfl
theorem q645 : (Jvm.Cond.static ({ cls := "java/lang/Math", name := "floorDiv", desc := "(II)I" } : Jvm.MethodName)) ∈ lw_all := lw_g (lw_at lw_m3 106 rfl) rfl
theorem q646 : (Jvm.Cond.code ({ cls := "java/lang/Math", name := "floorDiv", desc := "(II)I" } : Jvm.MethodName) prog_30_method_47_code (3 : Nat) (Option.some Jvm.ClassFile.FieldType.int)) ∈ lw_all := lw_g (lw_at lw_m3 107 rfl) rfl
theorem q796 : (Jvm.Cond.static ({ cls := "java/lang/Math", name := "abs", desc := "(I)I" } : Jvm.MethodName)) ∈ lw_all := lw_g (lw_at lw_m4 17 rfl) rfl
theorem q797 : (Jvm.Cond.code ({ cls := "java/lang/Math", name := "abs", desc := "(I)I" } : Jvm.MethodName) prog_30_method_59_code (1 : Nat) (Option.some Jvm.ClassFile.FieldType.int)) ∈ lw_all := lw_g (lw_at lw_m4 18 rfl) rfl
theorem q850 : (Jvm.Cond.static ({ cls := "java/lang/Math", name := "min", desc := "(JJ)J" } : Jvm.MethodName)) ∈ lw_all := lw_g (lw_at lw_m4 71 rfl) rfl
theorem q851 : (Jvm.Cond.code ({ cls := "java/lang/Math", name := "min", desc := "(JJ)J" } : Jvm.MethodName) prog_30_method_70_code (4 : Nat) (Option.some Jvm.ClassFile.FieldType.long)) ∈ lw_all := lw_g (lw_at lw_m4 72 rfl) rfl

/-! java/util/Arrays -/
set_option maxRecDepth 100000
def RJ11 : String := "java/util/Arrays"
abbrev cJ11_copyOf : ByteArray := prog_45_method_119_code
def yJ11_copyOf : MethodName := ⟨RJ11, "copyOf", "([Ljava/lang/Object;I)[Ljava/lang/Object;"⟩
def dkwJ11_copyOf_0 : List UInt8 := [42, 27, 42, 182, 0, 86, 184, 1, 44, 176]
abbrev dktJ11_copyOf_0 : List UInt8 := dkwJ11_copyOf_0 ++ []
theorem dksJ11_copyOf_0 : cJ11_copyOf.data.toList.drop 0 = dktJ11_copyOf_0 := by decide +kernel
theorem dJ11_copyOf_0 : decode cJ11_copyOf 0 = .ok (.aload_n 0, 1) := dk_42 (dk_at dksJ11_copyOf_0 0 rfl rfl)
theorem dJ11_copyOf_1 : decode cJ11_copyOf 1 = .ok (.iload_n 1, 1) := dk_27 (dk_at dksJ11_copyOf_0 1 rfl rfl)
theorem dJ11_copyOf_2 : decode cJ11_copyOf 2 = .ok (.aload_n 0, 1) := dk_42 (dk_at dksJ11_copyOf_0 2 rfl rfl)
theorem dJ11_copyOf_3 : decode cJ11_copyOf 3 = .ok (.invokevirtual 86, 3) := dk_182 0 86 (dk_at dksJ11_copyOf_0 3 rfl rfl)
theorem dJ11_copyOf_6 : decode cJ11_copyOf 6 = .ok (.invokestatic 300, 3) := dk_184 1 44 (dk_at dksJ11_copyOf_0 6 rfl rfl)
theorem dJ11_copyOf_9 : decode cJ11_copyOf 9 = .ok (.areturn, 1) := dk_176 (dk_at dksJ11_copyOf_0 9 rfl rfl)
abbrev cJ11_copyOf_2 : ByteArray := prog_45_method_120_code
def yJ11_copyOf_2 : MethodName := ⟨RJ11, "copyOf", "([Ljava/lang/Object;ILjava/lang/Class;)[Ljava/lang/Object;"⟩
def dkwJ11_copyOf_2_1 : List UInt8 := [78, 42, 3, 45, 3, 42, 190, 27, 184, 1, 48, 184, 0, 150, 45, 176]
abbrev dktJ11_copyOf_2_1 : List UInt8 := dkwJ11_copyOf_2_1 ++ []
def dkwJ11_copyOf_2_0 : List UInt8 := [44, 18, 110, 166, 0, 10, 27, 189, 0, 2, 167, 0, 14, 44, 182, 0, 90, 27, 184, 0, 95, 192, 0, 110]
abbrev dktJ11_copyOf_2_0 : List UInt8 := dkwJ11_copyOf_2_0 ++ dktJ11_copyOf_2_1
theorem dksJ11_copyOf_2_0 : cJ11_copyOf_2.data.toList.drop 0 = dktJ11_copyOf_2_0 := by decide +kernel
theorem dksJ11_copyOf_2_1 : cJ11_copyOf_2.data.toList.drop 24 = dktJ11_copyOf_2_1 := dk_seg dksJ11_copyOf_2_0 24 rfl rfl
theorem dJ11_copyOf_2_0 : decode cJ11_copyOf_2 0 = .ok (.aload_n 2, 1) := dk_44 (dk_at dksJ11_copyOf_2_0 0 rfl rfl)
theorem dJ11_copyOf_2_1 : decode cJ11_copyOf_2 1 = .ok (.ldc 110, 2) := dk_18 110 (dk_at dksJ11_copyOf_2_0 1 rfl rfl)
theorem dJ11_copyOf_2_3 : decode cJ11_copyOf_2 3 = .ok (.if_acmp .ne 10, 3) := dk_166 0 10 (dk_at dksJ11_copyOf_2_0 3 rfl rfl)
theorem dJ11_copyOf_2_6 : decode cJ11_copyOf_2 6 = .ok (.iload_n 1, 1) := dk_27 (dk_at dksJ11_copyOf_2_0 6 rfl rfl)
theorem dJ11_copyOf_2_7 : decode cJ11_copyOf_2 7 = .ok (.anewarray 2, 3) := dk_189 0 2 (dk_at dksJ11_copyOf_2_0 7 rfl rfl)
theorem dJ11_copyOf_2_10 : decode cJ11_copyOf_2 10 = .ok (.goto 14, 3) := dk_167 0 14 (dk_at dksJ11_copyOf_2_0 10 rfl rfl)
theorem dJ11_copyOf_2_13 : decode cJ11_copyOf_2 13 = .ok (.aload_n 2, 1) := dk_44 (dk_at dksJ11_copyOf_2_0 13 rfl rfl)
theorem dJ11_copyOf_2_14 : decode cJ11_copyOf_2 14 = .ok (.invokevirtual 90, 3) := dk_182 0 90 (dk_at dksJ11_copyOf_2_0 14 rfl rfl)
theorem dJ11_copyOf_2_17 : decode cJ11_copyOf_2 17 = .ok (.iload_n 1, 1) := dk_27 (dk_at dksJ11_copyOf_2_0 17 rfl rfl)
theorem dJ11_copyOf_2_18 : decode cJ11_copyOf_2 18 = .ok (.invokestatic 95, 3) := dk_184 0 95 (dk_at dksJ11_copyOf_2_0 18 rfl rfl)
theorem dJ11_copyOf_2_21 : decode cJ11_copyOf_2 21 = .ok (.checkcast 110, 3) := dk_192 0 110 (dk_at dksJ11_copyOf_2_0 21 rfl rfl)
theorem dJ11_copyOf_2_24 : decode cJ11_copyOf_2 24 = .ok (.astore_n 3, 1) := dk_78 (dk_at dksJ11_copyOf_2_1 0 rfl rfl)
theorem dJ11_copyOf_2_25 : decode cJ11_copyOf_2 25 = .ok (.aload_n 0, 1) := dk_42 (dk_at dksJ11_copyOf_2_1 1 rfl rfl)
theorem dJ11_copyOf_2_26 : decode cJ11_copyOf_2 26 = .ok (.iconst 0, 1) := dk_3 (dk_at dksJ11_copyOf_2_1 2 rfl rfl)
theorem dJ11_copyOf_2_27 : decode cJ11_copyOf_2 27 = .ok (.aload_n 3, 1) := dk_45 (dk_at dksJ11_copyOf_2_1 3 rfl rfl)
theorem dJ11_copyOf_2_28 : decode cJ11_copyOf_2 28 = .ok (.iconst 0, 1) := dk_3 (dk_at dksJ11_copyOf_2_1 4 rfl rfl)
theorem dJ11_copyOf_2_29 : decode cJ11_copyOf_2 29 = .ok (.aload_n 0, 1) := dk_42 (dk_at dksJ11_copyOf_2_1 5 rfl rfl)
theorem dJ11_copyOf_2_30 : decode cJ11_copyOf_2 30 = .ok (.arraylength, 1) := dk_190 (dk_at dksJ11_copyOf_2_1 6 rfl rfl)
theorem dJ11_copyOf_2_31 : decode cJ11_copyOf_2 31 = .ok (.iload_n 1, 1) := dk_27 (dk_at dksJ11_copyOf_2_1 7 rfl rfl)
theorem dJ11_copyOf_2_32 : decode cJ11_copyOf_2 32 = .ok (.invokestatic 304, 3) := dk_184 1 48 (dk_at dksJ11_copyOf_2_1 8 rfl rfl)
theorem dJ11_copyOf_2_35 : decode cJ11_copyOf_2 35 = .ok (.invokestatic 150, 3) := dk_184 0 150 (dk_at dksJ11_copyOf_2_1 11 rfl rfl)
theorem dJ11_copyOf_2_38 : decode cJ11_copyOf_2 38 = .ok (.aload_n 3, 1) := dk_45 (dk_at dksJ11_copyOf_2_1 14 rfl rfl)
theorem dJ11_copyOf_2_39 : decode cJ11_copyOf_2 39 = .ok (.areturn, 1) := dk_176 (dk_at dksJ11_copyOf_2_1 15 rfl rfl)
abbrev cJ11_copyOf_3 : ByteArray := prog_45_method_121_code
def yJ11_copyOf_3 : MethodName := ⟨RJ11, "copyOf", "([BI)[B"⟩
def dkwJ11_copyOf_3_1 : List UInt8 := [27, 184, 1, 48, 184, 0, 150, 44, 176]
abbrev dktJ11_copyOf_3_1 : List UInt8 := dkwJ11_copyOf_3_1 ++ []
def dkwJ11_copyOf_3_0 : List UInt8 := [27, 42, 190, 160, 0, 11, 42, 182, 1, 54, 192, 1, 55, 176, 27, 188, 8, 77, 42, 3, 44, 3, 42, 190]
abbrev dktJ11_copyOf_3_0 : List UInt8 := dkwJ11_copyOf_3_0 ++ dktJ11_copyOf_3_1
theorem dksJ11_copyOf_3_0 : cJ11_copyOf_3.data.toList.drop 0 = dktJ11_copyOf_3_0 := by decide +kernel
theorem dksJ11_copyOf_3_1 : cJ11_copyOf_3.data.toList.drop 24 = dktJ11_copyOf_3_1 := dk_seg dksJ11_copyOf_3_0 24 rfl rfl
theorem dJ11_copyOf_3_0 : decode cJ11_copyOf_3 0 = .ok (.iload_n 1, 1) := dk_27 (dk_at dksJ11_copyOf_3_0 0 rfl rfl)
theorem dJ11_copyOf_3_1 : decode cJ11_copyOf_3 1 = .ok (.aload_n 0, 1) := dk_42 (dk_at dksJ11_copyOf_3_0 1 rfl rfl)
theorem dJ11_copyOf_3_2 : decode cJ11_copyOf_3 2 = .ok (.arraylength, 1) := dk_190 (dk_at dksJ11_copyOf_3_0 2 rfl rfl)
theorem dJ11_copyOf_3_3 : decode cJ11_copyOf_3 3 = .ok (.if_icmp .ne 11, 3) := dk_160 0 11 (dk_at dksJ11_copyOf_3_0 3 rfl rfl)
theorem dJ11_copyOf_3_6 : decode cJ11_copyOf_3 6 = .ok (.aload_n 0, 1) := dk_42 (dk_at dksJ11_copyOf_3_0 6 rfl rfl)
theorem dJ11_copyOf_3_7 : decode cJ11_copyOf_3 7 = .ok (.invokevirtual 310, 3) := dk_182 1 54 (dk_at dksJ11_copyOf_3_0 7 rfl rfl)
theorem dJ11_copyOf_3_10 : decode cJ11_copyOf_3 10 = .ok (.checkcast 311, 3) := dk_192 1 55 (dk_at dksJ11_copyOf_3_0 10 rfl rfl)
theorem dJ11_copyOf_3_13 : decode cJ11_copyOf_3 13 = .ok (.areturn, 1) := dk_176 (dk_at dksJ11_copyOf_3_0 13 rfl rfl)
theorem dJ11_copyOf_3_14 : decode cJ11_copyOf_3 14 = .ok (.iload_n 1, 1) := dk_27 (dk_at dksJ11_copyOf_3_0 14 rfl rfl)
theorem dJ11_copyOf_3_15 : decode cJ11_copyOf_3 15 = .ok (.newarray .byte, 2) := dk_188_8 (dk_at dksJ11_copyOf_3_0 15 rfl rfl)
theorem dJ11_copyOf_3_17 : decode cJ11_copyOf_3 17 = .ok (.astore_n 2, 1) := dk_77 (dk_at dksJ11_copyOf_3_0 17 rfl rfl)
theorem dJ11_copyOf_3_18 : decode cJ11_copyOf_3 18 = .ok (.aload_n 0, 1) := dk_42 (dk_at dksJ11_copyOf_3_0 18 rfl rfl)
theorem dJ11_copyOf_3_19 : decode cJ11_copyOf_3 19 = .ok (.iconst 0, 1) := dk_3 (dk_at dksJ11_copyOf_3_0 19 rfl rfl)
theorem dJ11_copyOf_3_20 : decode cJ11_copyOf_3 20 = .ok (.aload_n 2, 1) := dk_44 (dk_at dksJ11_copyOf_3_0 20 rfl rfl)
theorem dJ11_copyOf_3_21 : decode cJ11_copyOf_3 21 = .ok (.iconst 0, 1) := dk_3 (dk_at dksJ11_copyOf_3_0 21 rfl rfl)
theorem dJ11_copyOf_3_22 : decode cJ11_copyOf_3 22 = .ok (.aload_n 0, 1) := dk_42 (dk_at dksJ11_copyOf_3_0 22 rfl rfl)
theorem dJ11_copyOf_3_23 : decode cJ11_copyOf_3 23 = .ok (.arraylength, 1) := dk_190 (dk_at dksJ11_copyOf_3_0 23 rfl rfl)
theorem dJ11_copyOf_3_24 : decode cJ11_copyOf_3 24 = .ok (.iload_n 1, 1) := dk_27 (dk_at dksJ11_copyOf_3_1 0 rfl rfl)
theorem dJ11_copyOf_3_25 : decode cJ11_copyOf_3 25 = .ok (.invokestatic 304, 3) := dk_184 1 48 (dk_at dksJ11_copyOf_3_1 1 rfl rfl)
theorem dJ11_copyOf_3_28 : decode cJ11_copyOf_3 28 = .ok (.invokestatic 150, 3) := dk_184 0 150 (dk_at dksJ11_copyOf_3_1 4 rfl rfl)
theorem dJ11_copyOf_3_31 : decode cJ11_copyOf_3 31 = .ok (.aload_n 2, 1) := dk_44 (dk_at dksJ11_copyOf_3_1 7 rfl rfl)
theorem dJ11_copyOf_3_32 : decode cJ11_copyOf_3 32 = .ok (.areturn, 1) := dk_176 (dk_at dksJ11_copyOf_3_1 8 rfl rfl)
abbrev cJ11_fill : ByteArray := prog_45_method_110_code
def yJ11_fill : MethodName := ⟨RJ11, "fill", "([BIIB)V"⟩
def dkwJ11_fill_1 : List UInt8 := [167, 255, 242, 177]
abbrev dktJ11_fill_1 : List UInt8 := dkwJ11_fill_1 ++ []
def dkwJ11_fill_0 : List UInt8 := [42, 190, 27, 28, 184, 0, 13, 27, 54, 4, 21, 4, 28, 162, 0, 14, 42, 21, 4, 29, 84, 132, 4, 1]
abbrev dktJ11_fill_0 : List UInt8 := dkwJ11_fill_0 ++ dktJ11_fill_1
theorem dksJ11_fill_0 : cJ11_fill.data.toList.drop 0 = dktJ11_fill_0 := by decide +kernel
theorem dksJ11_fill_1 : cJ11_fill.data.toList.drop 24 = dktJ11_fill_1 := dk_seg dksJ11_fill_0 24 rfl rfl
theorem dJ11_fill_0 : decode cJ11_fill 0 = .ok (.aload_n 0, 1) := dk_42 (dk_at dksJ11_fill_0 0 rfl rfl)
theorem dJ11_fill_1 : decode cJ11_fill 1 = .ok (.arraylength, 1) := dk_190 (dk_at dksJ11_fill_0 1 rfl rfl)
theorem dJ11_fill_2 : decode cJ11_fill 2 = .ok (.iload_n 1, 1) := dk_27 (dk_at dksJ11_fill_0 2 rfl rfl)
theorem dJ11_fill_3 : decode cJ11_fill 3 = .ok (.iload_n 2, 1) := dk_28 (dk_at dksJ11_fill_0 3 rfl rfl)
theorem dJ11_fill_4 : decode cJ11_fill 4 = .ok (.invokestatic 13, 3) := dk_184 0 13 (dk_at dksJ11_fill_0 4 rfl rfl)
theorem dJ11_fill_7 : decode cJ11_fill 7 = .ok (.iload_n 1, 1) := dk_27 (dk_at dksJ11_fill_0 7 rfl rfl)
theorem dJ11_fill_8 : decode cJ11_fill 8 = .ok (.istore 4, 2) := dk_54 4 (dk_at dksJ11_fill_0 8 rfl rfl)
theorem dJ11_fill_10 : decode cJ11_fill 10 = .ok (.iload 4, 2) := dk_21 4 (dk_at dksJ11_fill_0 10 rfl rfl)
theorem dJ11_fill_12 : decode cJ11_fill 12 = .ok (.iload_n 2, 1) := dk_28 (dk_at dksJ11_fill_0 12 rfl rfl)
theorem dJ11_fill_13 : decode cJ11_fill 13 = .ok (.if_icmp .ge 14, 3) := dk_162 0 14 (dk_at dksJ11_fill_0 13 rfl rfl)
theorem dJ11_fill_16 : decode cJ11_fill 16 = .ok (.aload_n 0, 1) := dk_42 (dk_at dksJ11_fill_0 16 rfl rfl)
theorem dJ11_fill_17 : decode cJ11_fill 17 = .ok (.iload 4, 2) := dk_21 4 (dk_at dksJ11_fill_0 17 rfl rfl)
theorem dJ11_fill_19 : decode cJ11_fill 19 = .ok (.iload_n 3, 1) := dk_29 (dk_at dksJ11_fill_0 19 rfl rfl)
theorem dJ11_fill_20 : decode cJ11_fill 20 = .ok (.bastore, 1) := dk_84 (dk_at dksJ11_fill_0 20 rfl rfl)
theorem dJ11_fill_21 : decode cJ11_fill 21 = .ok (.iinc 4 1, 3) := dk_132 4 1 (dk_at dksJ11_fill_0 21 rfl rfl)
theorem dJ11_fill_24 : decode cJ11_fill 24 = .ok (.goto (-14), 3) := dk_167 255 242 (dk_at dksJ11_fill_1 0 rfl rfl)
theorem dJ11_fill_27 : decode cJ11_fill 27 = .ok (.return_, 1) := dk_177 (dk_at dksJ11_fill_1 3 rfl rfl)
abbrev cJ11_rangeCheck : ByteArray := prog_45_method_30_code
def yJ11_rangeCheck : MethodName := ⟨RJ11, "rangeCheck", "(III)V"⟩
def dkwJ11_rangeCheck_3 : List UInt8 := [183, 0, 70, 191, 177]
abbrev dktJ11_rangeCheck_3 : List UInt8 := dkwJ11_rangeCheck_3 ++ []
def dkwJ11_rangeCheck_2 : List UInt8 := [27, 156, 0, 12, 187, 0, 68, 89, 27, 183, 0, 70, 191, 28, 26, 164, 0, 12, 187, 0, 68, 89, 28]
abbrev dktJ11_rangeCheck_2 : List UInt8 := dkwJ11_rangeCheck_2 ++ dktJ11_rangeCheck_3
def dkwJ11_rangeCheck_1 : List UInt8 := [182, 0, 54, 18, 57, 182, 0, 50, 28, 182, 0, 54, 18, 59, 182, 0, 50, 182, 0, 61, 183, 0, 65, 191]
abbrev dktJ11_rangeCheck_1 : List UInt8 := dkwJ11_rangeCheck_1 ++ dktJ11_rangeCheck_2
def dkwJ11_rangeCheck_0 : List UInt8 := [27, 28, 164, 0, 44, 187, 0, 43, 89, 187, 0, 45, 89, 183, 0, 47, 18, 48, 182, 0, 50, 27]
abbrev dktJ11_rangeCheck_0 : List UInt8 := dkwJ11_rangeCheck_0 ++ dktJ11_rangeCheck_1
theorem dksJ11_rangeCheck_0 : cJ11_rangeCheck.data.toList.drop 0 = dktJ11_rangeCheck_0 := by decide +kernel
theorem dksJ11_rangeCheck_1 : cJ11_rangeCheck.data.toList.drop 22 = dktJ11_rangeCheck_1 := dk_seg dksJ11_rangeCheck_0 22 rfl rfl
theorem dksJ11_rangeCheck_2 : cJ11_rangeCheck.data.toList.drop 46 = dktJ11_rangeCheck_2 := dk_seg dksJ11_rangeCheck_1 24 rfl rfl
theorem dksJ11_rangeCheck_3 : cJ11_rangeCheck.data.toList.drop 69 = dktJ11_rangeCheck_3 := dk_seg dksJ11_rangeCheck_2 23 rfl rfl
theorem dJ11_rangeCheck_0 : decode cJ11_rangeCheck 0 = .ok (.iload_n 1, 1) := dk_27 (dk_at dksJ11_rangeCheck_0 0 rfl rfl)
theorem dJ11_rangeCheck_1 : decode cJ11_rangeCheck 1 = .ok (.iload_n 2, 1) := dk_28 (dk_at dksJ11_rangeCheck_0 1 rfl rfl)
theorem dJ11_rangeCheck_2 : decode cJ11_rangeCheck 2 = .ok (.if_icmp .le 44, 3) := dk_164 0 44 (dk_at dksJ11_rangeCheck_0 2 rfl rfl)
theorem dJ11_rangeCheck_5 : decode cJ11_rangeCheck 5 = .ok (.new 43, 3) := dk_187 0 43 (dk_at dksJ11_rangeCheck_0 5 rfl rfl)
theorem dJ11_rangeCheck_8 : decode cJ11_rangeCheck 8 = .ok (.dup, 1) := dk_89 (dk_at dksJ11_rangeCheck_0 8 rfl rfl)
theorem dJ11_rangeCheck_9 : decode cJ11_rangeCheck 9 = .ok (.new 45, 3) := dk_187 0 45 (dk_at dksJ11_rangeCheck_0 9 rfl rfl)
theorem dJ11_rangeCheck_12 : decode cJ11_rangeCheck 12 = .ok (.dup, 1) := dk_89 (dk_at dksJ11_rangeCheck_0 12 rfl rfl)
theorem dJ11_rangeCheck_13 : decode cJ11_rangeCheck 13 = .ok (.invokespecial 47, 3) := dk_183 0 47 (dk_at dksJ11_rangeCheck_0 13 rfl rfl)
theorem dJ11_rangeCheck_16 : decode cJ11_rangeCheck 16 = .ok (.ldc 48, 2) := dk_18 48 (dk_at dksJ11_rangeCheck_0 16 rfl rfl)
theorem dJ11_rangeCheck_18 : decode cJ11_rangeCheck 18 = .ok (.invokevirtual 50, 3) := dk_182 0 50 (dk_at dksJ11_rangeCheck_0 18 rfl rfl)
theorem dJ11_rangeCheck_21 : decode cJ11_rangeCheck 21 = .ok (.iload_n 1, 1) := dk_27 (dk_at dksJ11_rangeCheck_0 21 rfl rfl)
theorem dJ11_rangeCheck_22 : decode cJ11_rangeCheck 22 = .ok (.invokevirtual 54, 3) := dk_182 0 54 (dk_at dksJ11_rangeCheck_1 0 rfl rfl)
theorem dJ11_rangeCheck_25 : decode cJ11_rangeCheck 25 = .ok (.ldc 57, 2) := dk_18 57 (dk_at dksJ11_rangeCheck_1 3 rfl rfl)
theorem dJ11_rangeCheck_27 : decode cJ11_rangeCheck 27 = .ok (.invokevirtual 50, 3) := dk_182 0 50 (dk_at dksJ11_rangeCheck_1 5 rfl rfl)
theorem dJ11_rangeCheck_30 : decode cJ11_rangeCheck 30 = .ok (.iload_n 2, 1) := dk_28 (dk_at dksJ11_rangeCheck_1 8 rfl rfl)
theorem dJ11_rangeCheck_31 : decode cJ11_rangeCheck 31 = .ok (.invokevirtual 54, 3) := dk_182 0 54 (dk_at dksJ11_rangeCheck_1 9 rfl rfl)
theorem dJ11_rangeCheck_34 : decode cJ11_rangeCheck 34 = .ok (.ldc 59, 2) := dk_18 59 (dk_at dksJ11_rangeCheck_1 12 rfl rfl)
theorem dJ11_rangeCheck_36 : decode cJ11_rangeCheck 36 = .ok (.invokevirtual 50, 3) := dk_182 0 50 (dk_at dksJ11_rangeCheck_1 14 rfl rfl)
theorem dJ11_rangeCheck_39 : decode cJ11_rangeCheck 39 = .ok (.invokevirtual 61, 3) := dk_182 0 61 (dk_at dksJ11_rangeCheck_1 17 rfl rfl)
theorem dJ11_rangeCheck_42 : decode cJ11_rangeCheck 42 = .ok (.invokespecial 65, 3) := dk_183 0 65 (dk_at dksJ11_rangeCheck_1 20 rfl rfl)
theorem dJ11_rangeCheck_45 : decode cJ11_rangeCheck 45 = .ok (.athrow, 1) := dk_191 (dk_at dksJ11_rangeCheck_1 23 rfl rfl)
theorem dJ11_rangeCheck_46 : decode cJ11_rangeCheck 46 = .ok (.iload_n 1, 1) := dk_27 (dk_at dksJ11_rangeCheck_2 0 rfl rfl)
theorem dJ11_rangeCheck_47 : decode cJ11_rangeCheck 47 = .ok (.ifCond .ge 12, 3) := dk_156 0 12 (dk_at dksJ11_rangeCheck_2 1 rfl rfl)
theorem dJ11_rangeCheck_50 : decode cJ11_rangeCheck 50 = .ok (.new 68, 3) := dk_187 0 68 (dk_at dksJ11_rangeCheck_2 4 rfl rfl)
theorem dJ11_rangeCheck_53 : decode cJ11_rangeCheck 53 = .ok (.dup, 1) := dk_89 (dk_at dksJ11_rangeCheck_2 7 rfl rfl)
theorem dJ11_rangeCheck_54 : decode cJ11_rangeCheck 54 = .ok (.iload_n 1, 1) := dk_27 (dk_at dksJ11_rangeCheck_2 8 rfl rfl)
theorem dJ11_rangeCheck_55 : decode cJ11_rangeCheck 55 = .ok (.invokespecial 70, 3) := dk_183 0 70 (dk_at dksJ11_rangeCheck_2 9 rfl rfl)
theorem dJ11_rangeCheck_58 : decode cJ11_rangeCheck 58 = .ok (.athrow, 1) := dk_191 (dk_at dksJ11_rangeCheck_2 12 rfl rfl)
theorem dJ11_rangeCheck_59 : decode cJ11_rangeCheck 59 = .ok (.iload_n 2, 1) := dk_28 (dk_at dksJ11_rangeCheck_2 13 rfl rfl)
theorem dJ11_rangeCheck_60 : decode cJ11_rangeCheck 60 = .ok (.iload_n 0, 1) := dk_26 (dk_at dksJ11_rangeCheck_2 14 rfl rfl)
theorem dJ11_rangeCheck_61 : decode cJ11_rangeCheck 61 = .ok (.if_icmp .le 12, 3) := dk_164 0 12 (dk_at dksJ11_rangeCheck_2 15 rfl rfl)
theorem dJ11_rangeCheck_64 : decode cJ11_rangeCheck 64 = .ok (.new 68, 3) := dk_187 0 68 (dk_at dksJ11_rangeCheck_2 18 rfl rfl)
theorem dJ11_rangeCheck_67 : decode cJ11_rangeCheck 67 = .ok (.dup, 1) := dk_89 (dk_at dksJ11_rangeCheck_2 21 rfl rfl)
theorem dJ11_rangeCheck_68 : decode cJ11_rangeCheck 68 = .ok (.iload_n 2, 1) := dk_28 (dk_at dksJ11_rangeCheck_2 22 rfl rfl)
theorem dJ11_rangeCheck_69 : decode cJ11_rangeCheck 69 = .ok (.invokespecial 70, 3) := dk_183 0 70 (dk_at dksJ11_rangeCheck_3 0 rfl rfl)
theorem dJ11_rangeCheck_72 : decode cJ11_rangeCheck 72 = .ok (.athrow, 1) := dk_191 (dk_at dksJ11_rangeCheck_3 3 rfl rfl)
theorem dJ11_rangeCheck_73 : decode cJ11_rangeCheck 73 = .ok (.return_, 1) := dk_177 (dk_at dksJ11_rangeCheck_3 4 rfl rfl)
abbrev cJ11_copyOfRange : ByteArray := prog_45_method_132_code
def yJ11_copyOfRange : MethodName := ⟨RJ11, "copyOfRange", "([BII)[B"⟩
def dkwJ11_copyOfRange_1 : List UInt8 := [176]
abbrev dktJ11_copyOfRange_1 : List UInt8 := dkwJ11_copyOfRange_1 ++ []
def dkwJ11_copyOfRange_0 : List UInt8 := [27, 154, 0, 9, 28, 42, 190, 159, 0, 10, 42, 27, 28, 184, 1, 83, 176, 42, 182, 1, 54, 192, 1, 55]
abbrev dktJ11_copyOfRange_0 : List UInt8 := dkwJ11_copyOfRange_0 ++ dktJ11_copyOfRange_1
theorem dksJ11_copyOfRange_0 : cJ11_copyOfRange.data.toList.drop 0 = dktJ11_copyOfRange_0 := by decide +kernel
theorem dksJ11_copyOfRange_1 : cJ11_copyOfRange.data.toList.drop 24 = dktJ11_copyOfRange_1 := dk_seg dksJ11_copyOfRange_0 24 rfl rfl
theorem dJ11_copyOfRange_0 : decode cJ11_copyOfRange 0 = .ok (.iload_n 1, 1) := dk_27 (dk_at dksJ11_copyOfRange_0 0 rfl rfl)
theorem dJ11_copyOfRange_1 : decode cJ11_copyOfRange 1 = .ok (.ifCond .ne 9, 3) := dk_154 0 9 (dk_at dksJ11_copyOfRange_0 1 rfl rfl)
theorem dJ11_copyOfRange_4 : decode cJ11_copyOfRange 4 = .ok (.iload_n 2, 1) := dk_28 (dk_at dksJ11_copyOfRange_0 4 rfl rfl)
theorem dJ11_copyOfRange_5 : decode cJ11_copyOfRange 5 = .ok (.aload_n 0, 1) := dk_42 (dk_at dksJ11_copyOfRange_0 5 rfl rfl)
theorem dJ11_copyOfRange_6 : decode cJ11_copyOfRange 6 = .ok (.arraylength, 1) := dk_190 (dk_at dksJ11_copyOfRange_0 6 rfl rfl)
theorem dJ11_copyOfRange_7 : decode cJ11_copyOfRange 7 = .ok (.if_icmp .eq 10, 3) := dk_159 0 10 (dk_at dksJ11_copyOfRange_0 7 rfl rfl)
theorem dJ11_copyOfRange_10 : decode cJ11_copyOfRange 10 = .ok (.aload_n 0, 1) := dk_42 (dk_at dksJ11_copyOfRange_0 10 rfl rfl)
theorem dJ11_copyOfRange_11 : decode cJ11_copyOfRange 11 = .ok (.iload_n 1, 1) := dk_27 (dk_at dksJ11_copyOfRange_0 11 rfl rfl)
theorem dJ11_copyOfRange_12 : decode cJ11_copyOfRange 12 = .ok (.iload_n 2, 1) := dk_28 (dk_at dksJ11_copyOfRange_0 12 rfl rfl)
theorem dJ11_copyOfRange_13 : decode cJ11_copyOfRange 13 = .ok (.invokestatic 339, 3) := dk_184 1 83 (dk_at dksJ11_copyOfRange_0 13 rfl rfl)
theorem dJ11_copyOfRange_16 : decode cJ11_copyOfRange 16 = .ok (.areturn, 1) := dk_176 (dk_at dksJ11_copyOfRange_0 16 rfl rfl)
theorem dJ11_copyOfRange_17 : decode cJ11_copyOfRange 17 = .ok (.aload_n 0, 1) := dk_42 (dk_at dksJ11_copyOfRange_0 17 rfl rfl)
theorem dJ11_copyOfRange_18 : decode cJ11_copyOfRange 18 = .ok (.invokevirtual 310, 3) := dk_182 1 54 (dk_at dksJ11_copyOfRange_0 18 rfl rfl)
theorem dJ11_copyOfRange_21 : decode cJ11_copyOfRange 21 = .ok (.checkcast 311, 3) := dk_192 1 55 (dk_at dksJ11_copyOfRange_0 21 rfl rfl)
theorem dJ11_copyOfRange_24 : decode cJ11_copyOfRange 24 = .ok (.areturn, 1) := dk_176 (dk_at dksJ11_copyOfRange_1 0 rfl rfl)
abbrev cJ11_copyOfRangeByte : ByteArray := prog_45_method_133_code
def yJ11_copyOfRangeByte : MethodName := ⟨RJ11, "copyOfRangeByte", "([BII)[B"⟩
def dkwJ11_copyOfRangeByte_1 : List UInt8 := [184, 1, 48, 184, 0, 150, 25, 4, 176]
abbrev dktJ11_copyOfRangeByte_1 : List UInt8 := dkwJ11_copyOfRangeByte_1 ++ []
def dkwJ11_copyOfRangeByte_0 : List UInt8 := [27, 28, 184, 1, 87, 28, 27, 100, 62, 29, 188, 8, 58, 4, 42, 27, 25, 4, 3, 42, 190, 27, 100, 29]
abbrev dktJ11_copyOfRangeByte_0 : List UInt8 := dkwJ11_copyOfRangeByte_0 ++ dktJ11_copyOfRangeByte_1
theorem dksJ11_copyOfRangeByte_0 : cJ11_copyOfRangeByte.data.toList.drop 0 = dktJ11_copyOfRangeByte_0 := by decide +kernel
theorem dksJ11_copyOfRangeByte_1 : cJ11_copyOfRangeByte.data.toList.drop 24 = dktJ11_copyOfRangeByte_1 := dk_seg dksJ11_copyOfRangeByte_0 24 rfl rfl
theorem dJ11_copyOfRangeByte_0 : decode cJ11_copyOfRangeByte 0 = .ok (.iload_n 1, 1) := dk_27 (dk_at dksJ11_copyOfRangeByte_0 0 rfl rfl)
theorem dJ11_copyOfRangeByte_1 : decode cJ11_copyOfRangeByte 1 = .ok (.iload_n 2, 1) := dk_28 (dk_at dksJ11_copyOfRangeByte_0 1 rfl rfl)
theorem dJ11_copyOfRangeByte_2 : decode cJ11_copyOfRangeByte 2 = .ok (.invokestatic 343, 3) := dk_184 1 87 (dk_at dksJ11_copyOfRangeByte_0 2 rfl rfl)
theorem dJ11_copyOfRangeByte_5 : decode cJ11_copyOfRangeByte 5 = .ok (.iload_n 2, 1) := dk_28 (dk_at dksJ11_copyOfRangeByte_0 5 rfl rfl)
theorem dJ11_copyOfRangeByte_6 : decode cJ11_copyOfRangeByte 6 = .ok (.iload_n 1, 1) := dk_27 (dk_at dksJ11_copyOfRangeByte_0 6 rfl rfl)
theorem dJ11_copyOfRangeByte_7 : decode cJ11_copyOfRangeByte 7 = .ok (.isub, 1) := dk_100 (dk_at dksJ11_copyOfRangeByte_0 7 rfl rfl)
theorem dJ11_copyOfRangeByte_8 : decode cJ11_copyOfRangeByte 8 = .ok (.istore_n 3, 1) := dk_62 (dk_at dksJ11_copyOfRangeByte_0 8 rfl rfl)
theorem dJ11_copyOfRangeByte_9 : decode cJ11_copyOfRangeByte 9 = .ok (.iload_n 3, 1) := dk_29 (dk_at dksJ11_copyOfRangeByte_0 9 rfl rfl)
theorem dJ11_copyOfRangeByte_10 : decode cJ11_copyOfRangeByte 10 = .ok (.newarray .byte, 2) := dk_188_8 (dk_at dksJ11_copyOfRangeByte_0 10 rfl rfl)
theorem dJ11_copyOfRangeByte_12 : decode cJ11_copyOfRangeByte 12 = .ok (.astore 4, 2) := dk_58 4 (dk_at dksJ11_copyOfRangeByte_0 12 rfl rfl)
theorem dJ11_copyOfRangeByte_14 : decode cJ11_copyOfRangeByte 14 = .ok (.aload_n 0, 1) := dk_42 (dk_at dksJ11_copyOfRangeByte_0 14 rfl rfl)
theorem dJ11_copyOfRangeByte_15 : decode cJ11_copyOfRangeByte 15 = .ok (.iload_n 1, 1) := dk_27 (dk_at dksJ11_copyOfRangeByte_0 15 rfl rfl)
theorem dJ11_copyOfRangeByte_16 : decode cJ11_copyOfRangeByte 16 = .ok (.aload 4, 2) := dk_25 4 (dk_at dksJ11_copyOfRangeByte_0 16 rfl rfl)
theorem dJ11_copyOfRangeByte_18 : decode cJ11_copyOfRangeByte 18 = .ok (.iconst 0, 1) := dk_3 (dk_at dksJ11_copyOfRangeByte_0 18 rfl rfl)
theorem dJ11_copyOfRangeByte_19 : decode cJ11_copyOfRangeByte 19 = .ok (.aload_n 0, 1) := dk_42 (dk_at dksJ11_copyOfRangeByte_0 19 rfl rfl)
theorem dJ11_copyOfRangeByte_20 : decode cJ11_copyOfRangeByte 20 = .ok (.arraylength, 1) := dk_190 (dk_at dksJ11_copyOfRangeByte_0 20 rfl rfl)
theorem dJ11_copyOfRangeByte_21 : decode cJ11_copyOfRangeByte 21 = .ok (.iload_n 1, 1) := dk_27 (dk_at dksJ11_copyOfRangeByte_0 21 rfl rfl)
theorem dJ11_copyOfRangeByte_22 : decode cJ11_copyOfRangeByte 22 = .ok (.isub, 1) := dk_100 (dk_at dksJ11_copyOfRangeByte_0 22 rfl rfl)
theorem dJ11_copyOfRangeByte_23 : decode cJ11_copyOfRangeByte 23 = .ok (.iload_n 3, 1) := dk_29 (dk_at dksJ11_copyOfRangeByte_0 23 rfl rfl)
theorem dJ11_copyOfRangeByte_24 : decode cJ11_copyOfRangeByte 24 = .ok (.invokestatic 304, 3) := dk_184 1 48 (dk_at dksJ11_copyOfRangeByte_1 0 rfl rfl)
theorem dJ11_copyOfRangeByte_27 : decode cJ11_copyOfRangeByte 27 = .ok (.invokestatic 150, 3) := dk_184 0 150 (dk_at dksJ11_copyOfRangeByte_1 3 rfl rfl)
theorem dJ11_copyOfRangeByte_30 : decode cJ11_copyOfRangeByte 30 = .ok (.aload 4, 2) := dk_25 4 (dk_at dksJ11_copyOfRangeByte_1 6 rfl rfl)
theorem dJ11_copyOfRangeByte_32 : decode cJ11_copyOfRangeByte 32 = .ok (.areturn, 1) := dk_176 (dk_at dksJ11_copyOfRangeByte_1 8 rfl rfl)
abbrev cJ11_checkLength : ByteArray := prog_45_method_131_code
def yJ11_checkLength : MethodName := ⟨RJ11, "checkLength", "(II)V"⟩
def dkwJ11_checkLength_1 : List UInt8 := [182, 0, 50, 27, 182, 0, 54, 182, 0, 61, 183, 0, 65, 191, 177]
abbrev dktJ11_checkLength_1 : List UInt8 := dkwJ11_checkLength_1 ++ []
def dkwJ11_checkLength_0 : List UInt8 := [27, 26, 162, 0, 35, 187, 0, 43, 89, 187, 0, 45, 89, 183, 0, 47, 26, 182, 0, 54, 19, 1, 81]
abbrev dktJ11_checkLength_0 : List UInt8 := dkwJ11_checkLength_0 ++ dktJ11_checkLength_1
theorem dksJ11_checkLength_0 : cJ11_checkLength.data.toList.drop 0 = dktJ11_checkLength_0 := by decide +kernel
theorem dksJ11_checkLength_1 : cJ11_checkLength.data.toList.drop 23 = dktJ11_checkLength_1 := dk_seg dksJ11_checkLength_0 23 rfl rfl
theorem dJ11_checkLength_0 : decode cJ11_checkLength 0 = .ok (.iload_n 1, 1) := dk_27 (dk_at dksJ11_checkLength_0 0 rfl rfl)
theorem dJ11_checkLength_1 : decode cJ11_checkLength 1 = .ok (.iload_n 0, 1) := dk_26 (dk_at dksJ11_checkLength_0 1 rfl rfl)
theorem dJ11_checkLength_2 : decode cJ11_checkLength 2 = .ok (.if_icmp .ge 35, 3) := dk_162 0 35 (dk_at dksJ11_checkLength_0 2 rfl rfl)
theorem dJ11_checkLength_5 : decode cJ11_checkLength 5 = .ok (.new 43, 3) := dk_187 0 43 (dk_at dksJ11_checkLength_0 5 rfl rfl)
theorem dJ11_checkLength_8 : decode cJ11_checkLength 8 = .ok (.dup, 1) := dk_89 (dk_at dksJ11_checkLength_0 8 rfl rfl)
theorem dJ11_checkLength_9 : decode cJ11_checkLength 9 = .ok (.new 45, 3) := dk_187 0 45 (dk_at dksJ11_checkLength_0 9 rfl rfl)
theorem dJ11_checkLength_12 : decode cJ11_checkLength 12 = .ok (.dup, 1) := dk_89 (dk_at dksJ11_checkLength_0 12 rfl rfl)
theorem dJ11_checkLength_13 : decode cJ11_checkLength 13 = .ok (.invokespecial 47, 3) := dk_183 0 47 (dk_at dksJ11_checkLength_0 13 rfl rfl)
theorem dJ11_checkLength_16 : decode cJ11_checkLength 16 = .ok (.iload_n 0, 1) := dk_26 (dk_at dksJ11_checkLength_0 16 rfl rfl)
theorem dJ11_checkLength_17 : decode cJ11_checkLength 17 = .ok (.invokevirtual 54, 3) := dk_182 0 54 (dk_at dksJ11_checkLength_0 17 rfl rfl)
theorem dJ11_checkLength_20 : decode cJ11_checkLength 20 = .ok (.ldc_w 337, 3) := dk_19 1 81 (dk_at dksJ11_checkLength_0 20 rfl rfl)
theorem dJ11_checkLength_23 : decode cJ11_checkLength 23 = .ok (.invokevirtual 50, 3) := dk_182 0 50 (dk_at dksJ11_checkLength_1 0 rfl rfl)
theorem dJ11_checkLength_26 : decode cJ11_checkLength 26 = .ok (.iload_n 1, 1) := dk_27 (dk_at dksJ11_checkLength_1 3 rfl rfl)
theorem dJ11_checkLength_27 : decode cJ11_checkLength 27 = .ok (.invokevirtual 54, 3) := dk_182 0 54 (dk_at dksJ11_checkLength_1 4 rfl rfl)
theorem dJ11_checkLength_30 : decode cJ11_checkLength 30 = .ok (.invokevirtual 61, 3) := dk_182 0 61 (dk_at dksJ11_checkLength_1 7 rfl rfl)
theorem dJ11_checkLength_33 : decode cJ11_checkLength 33 = .ok (.invokespecial 65, 3) := dk_183 0 65 (dk_at dksJ11_checkLength_1 10 rfl rfl)
theorem dJ11_checkLength_36 : decode cJ11_checkLength 36 = .ok (.athrow, 1) := dk_191 (dk_at dksJ11_checkLength_1 13 rfl rfl)
theorem dJ11_checkLength_37 : decode cJ11_checkLength 37 = .ok (.return_, 1) := dk_177 (dk_at dksJ11_checkLength_1 14 rfl rfl)
theorem q77 : (Jvm.Cond.initialized "java/util/Arrays") ∈ lw_all := lw_g (lw_at lw_m1 18 rfl) rfl
theorem q398 : (Jvm.Cond.static ({ cls := "java/util/Arrays", name := "copyOf", desc := "([Ljava/lang/Object;I)[Ljava/lang/Object;" } : Jvm.MethodName)) ∈ lw_all := lw_g (lw_at lw_m2 99 rfl) rfl
theorem q399 : (Jvm.Cond.code ({ cls := "java/util/Arrays", name := "copyOf", desc := "([Ljava/lang/Object;I)[Ljava/lang/Object;" } : Jvm.MethodName) prog_45_method_119_code (2 : Nat) (Option.some (Jvm.ClassFile.FieldType.array (Jvm.ClassFile.FieldType.object "java/lang/Object")))) ∈ lw_all := lw_g (lw_at lw_m2 100 rfl) rfl
theorem q400 : (Jvm.Cond.methodLink "java/util/Arrays" (86 : Nat) ({ cls := "java/lang/Object", name := "getClass", desc := "()Ljava/lang/Class;" } : Jvm.MethodName)) ∈ lw_all := lw_g (lw_at lw_m2 101 rfl) rfl
theorem q427 : (Jvm.Cond.methodLink "java/util/Arrays" (300 : Nat) ({ cls := "java/util/Arrays", name := "copyOf", desc := "([Ljava/lang/Object;ILjava/lang/Class;)[Ljava/lang/Object;" } : Jvm.MethodName)) ∈ lw_all := lw_g (lw_at lw_m2 128 rfl) rfl
theorem q428 : (Jvm.Cond.static ({ cls := "java/util/Arrays", name := "copyOf", desc := "([Ljava/lang/Object;ILjava/lang/Class;)[Ljava/lang/Object;" } : Jvm.MethodName)) ∈ lw_all := lw_g (lw_at lw_m2 129 rfl) rfl
theorem q429 : (Jvm.Cond.code ({ cls := "java/util/Arrays", name := "copyOf", desc := "([Ljava/lang/Object;ILjava/lang/Class;)[Ljava/lang/Object;" } : Jvm.MethodName) prog_45_method_120_code (4 : Nat) (Option.some (Jvm.ClassFile.FieldType.array (Jvm.ClassFile.FieldType.object "java/lang/Object")))) ∈ lw_all := lw_g (lw_at lw_m2 130 rfl) rfl
theorem q430 : (Jvm.Cond.classLink "java/util/Arrays" (110 : Nat) "[Ljava/lang/Object;") ∈ lw_all := lw_g (lw_at lw_m2 131 rfl) rfl
theorem q431 : (Jvm.Cond.classLink "java/util/Arrays" (2 : Nat) "java/lang/Object") ∈ lw_all := lw_g (lw_at lw_m2 132 rfl) rfl
theorem q432 : (Jvm.Cond.methodLink "java/util/Arrays" (304 : Nat) ({ cls := "java/lang/Math", name := "min", desc := "(II)I" } : Jvm.MethodName)) ∈ lw_all := lw_g (lw_at lw_m2 133 rfl) rfl
theorem q435 : (Jvm.Cond.methodLink "java/util/Arrays" (150 : Nat) ({ cls := "java/lang/System", name := "arraycopy", desc := "(Ljava/lang/Object;ILjava/lang/Object;II)V" } : Jvm.MethodName)) ∈ lw_all := lw_g (lw_at lw_m2 136 rfl) rfl
theorem q921 : (Jvm.Cond.static ({ cls := "java/util/Arrays", name := "copyOf", desc := "([BI)[B" } : Jvm.MethodName)) ∈ lw_all := lw_g (lw_at lw_m4 142 rfl) rfl
theorem q922 : (Jvm.Cond.code ({ cls := "java/util/Arrays", name := "copyOf", desc := "([BI)[B" } : Jvm.MethodName) prog_45_method_121_code (3 : Nat) (Option.some (Jvm.ClassFile.FieldType.array Jvm.ClassFile.FieldType.byte))) ∈ lw_all := lw_g (lw_at lw_m4 143 rfl) rfl
theorem q923 : (Jvm.Cond.methodLink "java/util/Arrays" (310 : Nat) ({ cls := "[B", name := "clone", desc := "()Ljava/lang/Object;" } : Jvm.MethodName)) ∈ lw_all := lw_g (lw_at lw_m4 144 rfl) rfl
theorem q929 : (Jvm.Cond.classLink "java/util/Arrays" (311 : Nat) "[B") ∈ lw_all := lw_g (lw_at lw_m4 150 rfl) rfl
theorem q996 : (Jvm.Cond.static ({ cls := "java/util/Arrays", name := "fill", desc := "([BIIB)V" } : Jvm.MethodName)) ∈ lw_all := lw_g (lw_at lw_m4 217 rfl) rfl
theorem q997 : (Jvm.Cond.code ({ cls := "java/util/Arrays", name := "fill", desc := "([BIIB)V" } : Jvm.MethodName) prog_45_method_110_code (5 : Nat) (Option.none : Option Jvm.ClassFile.FieldType)) ∈ lw_all := lw_g (lw_at lw_m4 218 rfl) rfl
theorem q998 : (Jvm.Cond.methodLink "java/util/Arrays" (13 : Nat) ({ cls := "java/util/Arrays", name := "rangeCheck", desc := "(III)V" } : Jvm.MethodName)) ∈ lw_all := lw_g (lw_at lw_m4 219 rfl) rfl
theorem q999 : (Jvm.Cond.static ({ cls := "java/util/Arrays", name := "rangeCheck", desc := "(III)V" } : Jvm.MethodName)) ∈ lw_all := lw_g (lw_at lw_m4 220 rfl) rfl
theorem q1000 : (Jvm.Cond.code ({ cls := "java/util/Arrays", name := "rangeCheck", desc := "(III)V" } : Jvm.MethodName) prog_45_method_30_code (3 : Nat) (Option.none : Option Jvm.ClassFile.FieldType)) ∈ lw_all := lw_g (lw_at lw_m4 221 rfl) rfl
theorem q1155 : (Jvm.Cond.static ({ cls := "java/util/Arrays", name := "copyOfRange", desc := "([BII)[B" } : Jvm.MethodName)) ∈ lw_all := lw_g (lw_at lw_m5 136 rfl) rfl
theorem q1156 : (Jvm.Cond.code ({ cls := "java/util/Arrays", name := "copyOfRange", desc := "([BII)[B" } : Jvm.MethodName) prog_45_method_132_code (3 : Nat) (Option.some (Jvm.ClassFile.FieldType.array Jvm.ClassFile.FieldType.byte))) ∈ lw_all := lw_g (lw_at lw_m5 137 rfl) rfl
theorem q1157 : (Jvm.Cond.methodLink "java/util/Arrays" (339 : Nat) ({ cls := "java/util/Arrays", name := "copyOfRangeByte", desc := "([BII)[B" } : Jvm.MethodName)) ∈ lw_all := lw_g (lw_at lw_m5 138 rfl) rfl
theorem q1158 : (Jvm.Cond.static ({ cls := "java/util/Arrays", name := "copyOfRangeByte", desc := "([BII)[B" } : Jvm.MethodName)) ∈ lw_all := lw_g (lw_at lw_m5 139 rfl) rfl
theorem q1159 : (Jvm.Cond.code ({ cls := "java/util/Arrays", name := "copyOfRangeByte", desc := "([BII)[B" } : Jvm.MethodName) prog_45_method_133_code (5 : Nat) (Option.some (Jvm.ClassFile.FieldType.array Jvm.ClassFile.FieldType.byte))) ∈ lw_all := lw_g (lw_at lw_m5 140 rfl) rfl
theorem q1160 : (Jvm.Cond.methodLink "java/util/Arrays" (343 : Nat) ({ cls := "java/util/Arrays", name := "checkLength", desc := "(II)V" } : Jvm.MethodName)) ∈ lw_all := lw_g (lw_at lw_m5 141 rfl) rfl
theorem q1161 : (Jvm.Cond.static ({ cls := "java/util/Arrays", name := "checkLength", desc := "(II)V" } : Jvm.MethodName)) ∈ lw_all := lw_g (lw_at lw_m5 142 rfl) rfl
theorem q1162 : (Jvm.Cond.code ({ cls := "java/util/Arrays", name := "checkLength", desc := "(II)V" } : Jvm.MethodName) prog_45_method_131_code (2 : Nat) (Option.none : Option Jvm.ClassFile.FieldType)) ∈ lw_all := lw_g (lw_at lw_m5 143 rfl) rfl

/-! java/util/Objects -/
set_option maxRecDepth 100000
def RJ12 : String := "java/util/Objects"
abbrev cJ12_checkIndex : ByteArray := prog_50_method_17_code
def yJ12_checkIndex : MethodName := ⟨RJ12, "checkIndex", "(II)I"⟩
def dkwJ12_checkIndex_0 : List UInt8 := [26, 27, 1, 184, 0, 105, 172]
abbrev dktJ12_checkIndex_0 : List UInt8 := dkwJ12_checkIndex_0 ++ []
theorem dksJ12_checkIndex_0 : cJ12_checkIndex.data.toList.drop 0 = dktJ12_checkIndex_0 := by decide +kernel
theorem dJ12_checkIndex_0 : decode cJ12_checkIndex 0 = .ok (.iload_n 0, 1) := dk_26 (dk_at dksJ12_checkIndex_0 0 rfl rfl)
theorem dJ12_checkIndex_1 : decode cJ12_checkIndex 1 = .ok (.iload_n 1, 1) := dk_27 (dk_at dksJ12_checkIndex_0 1 rfl rfl)
theorem dJ12_checkIndex_2 : decode cJ12_checkIndex 2 = .ok (.aconst_null, 1) := dk_1 (dk_at dksJ12_checkIndex_0 2 rfl rfl)
theorem dJ12_checkIndex_3 : decode cJ12_checkIndex 3 = .ok (.invokestatic 105, 3) := dk_184 0 105 (dk_at dksJ12_checkIndex_0 3 rfl rfl)
theorem dJ12_checkIndex_6 : decode cJ12_checkIndex 6 = .ok (.ireturn, 1) := dk_172 (dk_at dksJ12_checkIndex_0 6 rfl rfl)
theorem q79 : (Jvm.Cond.initialized "java/util/Objects") ∈ lw_all := lw_g (lw_at lw_m1 20 rfl) rfl
theorem q616 : (Jvm.Cond.static ({ cls := "java/util/Objects", name := "checkIndex", desc := "(II)I" } : Jvm.MethodName)) ∈ lw_all := lw_g (lw_at lw_m3 77 rfl) rfl
theorem q617 : (Jvm.Cond.code ({ cls := "java/util/Objects", name := "checkIndex", desc := "(II)I" } : Jvm.MethodName) prog_50_method_17_code (2 : Nat) (Option.some Jvm.ClassFile.FieldType.int)) ∈ lw_all := lw_g (lw_at lw_m3 78 rfl) rfl
theorem q618 : (Jvm.Cond.methodLink "java/util/Objects" (105 : Nat) ({ cls := "jdk/internal/util/Preconditions", name := "checkIndex", desc := "(IILjava/util/function/BiFunction;)I" } : Jvm.MethodName)) ∈ lw_all := lw_g (lw_at lw_m3 79 rfl) rfl

/-! jdk/internal/util/Preconditions -/
set_option maxRecDepth 100000
def RJ13 : String := "jdk/internal/util/Preconditions"
abbrev cJ13_checkIndex : ByteArray := prog_56_method_11_code
def yJ13_checkIndex : MethodName := ⟨RJ13, "checkIndex", "(IILjava/util/function/BiFunction;)I"⟩
def dkwJ13_checkIndex_0 : List UInt8 := [26, 155, 0, 8, 26, 27, 161, 0, 10, 44, 26, 27, 184, 0, 95, 191, 26, 172]
abbrev dktJ13_checkIndex_0 : List UInt8 := dkwJ13_checkIndex_0 ++ []
theorem dksJ13_checkIndex_0 : cJ13_checkIndex.data.toList.drop 0 = dktJ13_checkIndex_0 := by decide +kernel
theorem dJ13_checkIndex_0 : decode cJ13_checkIndex 0 = .ok (.iload_n 0, 1) := dk_26 (dk_at dksJ13_checkIndex_0 0 rfl rfl)
theorem dJ13_checkIndex_1 : decode cJ13_checkIndex 1 = .ok (.ifCond .lt 8, 3) := dk_155 0 8 (dk_at dksJ13_checkIndex_0 1 rfl rfl)
theorem dJ13_checkIndex_4 : decode cJ13_checkIndex 4 = .ok (.iload_n 0, 1) := dk_26 (dk_at dksJ13_checkIndex_0 4 rfl rfl)
theorem dJ13_checkIndex_5 : decode cJ13_checkIndex 5 = .ok (.iload_n 1, 1) := dk_27 (dk_at dksJ13_checkIndex_0 5 rfl rfl)
theorem dJ13_checkIndex_6 : decode cJ13_checkIndex 6 = .ok (.if_icmp .lt 10, 3) := dk_161 0 10 (dk_at dksJ13_checkIndex_0 6 rfl rfl)
theorem dJ13_checkIndex_9 : decode cJ13_checkIndex 9 = .ok (.aload_n 2, 1) := dk_44 (dk_at dksJ13_checkIndex_0 9 rfl rfl)
theorem dJ13_checkIndex_10 : decode cJ13_checkIndex 10 = .ok (.iload_n 0, 1) := dk_26 (dk_at dksJ13_checkIndex_0 10 rfl rfl)
theorem dJ13_checkIndex_11 : decode cJ13_checkIndex 11 = .ok (.iload_n 1, 1) := dk_27 (dk_at dksJ13_checkIndex_0 11 rfl rfl)
theorem dJ13_checkIndex_12 : decode cJ13_checkIndex 12 = .ok (.invokestatic 95, 3) := dk_184 0 95 (dk_at dksJ13_checkIndex_0 12 rfl rfl)
theorem dJ13_checkIndex_15 : decode cJ13_checkIndex 15 = .ok (.athrow, 1) := dk_191 (dk_at dksJ13_checkIndex_0 15 rfl rfl)
theorem dJ13_checkIndex_16 : decode cJ13_checkIndex 16 = .ok (.iload_n 0, 1) := dk_26 (dk_at dksJ13_checkIndex_0 16 rfl rfl)
theorem dJ13_checkIndex_17 : decode cJ13_checkIndex 17 = .ok (.ireturn, 1) := dk_172 (dk_at dksJ13_checkIndex_0 17 rfl rfl)
abbrev cJ13_checkFromIndexSize : ByteArray := prog_56_method_13_code
def yJ13_checkFromIndexSize : MethodName := ⟨RJ13, "checkFromIndexSize", "(IIILjava/util/function/BiFunction;)I"⟩
def dkwJ13_checkFromIndexSize_1 : List UInt8 := [172]
abbrev dktJ13_checkFromIndexSize_1 : List UInt8 := dkwJ13_checkFromIndexSize_1 ++ []
def dkwJ13_checkFromIndexSize_0 : List UInt8 := [28, 26, 128, 27, 128, 155, 0, 10, 27, 28, 26, 100, 164, 0, 11, 45, 26, 27, 28, 184, 0, 103, 191, 26]
abbrev dktJ13_checkFromIndexSize_0 : List UInt8 := dkwJ13_checkFromIndexSize_0 ++ dktJ13_checkFromIndexSize_1
theorem dksJ13_checkFromIndexSize_0 : cJ13_checkFromIndexSize.data.toList.drop 0 = dktJ13_checkFromIndexSize_0 := by decide +kernel
theorem dksJ13_checkFromIndexSize_1 : cJ13_checkFromIndexSize.data.toList.drop 24 = dktJ13_checkFromIndexSize_1 := dk_seg dksJ13_checkFromIndexSize_0 24 rfl rfl
theorem dJ13_checkFromIndexSize_0 : decode cJ13_checkFromIndexSize 0 = .ok (.iload_n 2, 1) := dk_28 (dk_at dksJ13_checkFromIndexSize_0 0 rfl rfl)
theorem dJ13_checkFromIndexSize_1 : decode cJ13_checkFromIndexSize 1 = .ok (.iload_n 0, 1) := dk_26 (dk_at dksJ13_checkFromIndexSize_0 1 rfl rfl)
theorem dJ13_checkFromIndexSize_2 : decode cJ13_checkFromIndexSize 2 = .ok (.ior, 1) := dk_128 (dk_at dksJ13_checkFromIndexSize_0 2 rfl rfl)
theorem dJ13_checkFromIndexSize_3 : decode cJ13_checkFromIndexSize 3 = .ok (.iload_n 1, 1) := dk_27 (dk_at dksJ13_checkFromIndexSize_0 3 rfl rfl)
theorem dJ13_checkFromIndexSize_4 : decode cJ13_checkFromIndexSize 4 = .ok (.ior, 1) := dk_128 (dk_at dksJ13_checkFromIndexSize_0 4 rfl rfl)
theorem dJ13_checkFromIndexSize_5 : decode cJ13_checkFromIndexSize 5 = .ok (.ifCond .lt 10, 3) := dk_155 0 10 (dk_at dksJ13_checkFromIndexSize_0 5 rfl rfl)
theorem dJ13_checkFromIndexSize_8 : decode cJ13_checkFromIndexSize 8 = .ok (.iload_n 1, 1) := dk_27 (dk_at dksJ13_checkFromIndexSize_0 8 rfl rfl)
theorem dJ13_checkFromIndexSize_9 : decode cJ13_checkFromIndexSize 9 = .ok (.iload_n 2, 1) := dk_28 (dk_at dksJ13_checkFromIndexSize_0 9 rfl rfl)
theorem dJ13_checkFromIndexSize_10 : decode cJ13_checkFromIndexSize 10 = .ok (.iload_n 0, 1) := dk_26 (dk_at dksJ13_checkFromIndexSize_0 10 rfl rfl)
theorem dJ13_checkFromIndexSize_11 : decode cJ13_checkFromIndexSize 11 = .ok (.isub, 1) := dk_100 (dk_at dksJ13_checkFromIndexSize_0 11 rfl rfl)
theorem dJ13_checkFromIndexSize_12 : decode cJ13_checkFromIndexSize 12 = .ok (.if_icmp .le 11, 3) := dk_164 0 11 (dk_at dksJ13_checkFromIndexSize_0 12 rfl rfl)
theorem dJ13_checkFromIndexSize_15 : decode cJ13_checkFromIndexSize 15 = .ok (.aload_n 3, 1) := dk_45 (dk_at dksJ13_checkFromIndexSize_0 15 rfl rfl)
theorem dJ13_checkFromIndexSize_16 : decode cJ13_checkFromIndexSize 16 = .ok (.iload_n 0, 1) := dk_26 (dk_at dksJ13_checkFromIndexSize_0 16 rfl rfl)
theorem dJ13_checkFromIndexSize_17 : decode cJ13_checkFromIndexSize 17 = .ok (.iload_n 1, 1) := dk_27 (dk_at dksJ13_checkFromIndexSize_0 17 rfl rfl)
theorem dJ13_checkFromIndexSize_18 : decode cJ13_checkFromIndexSize 18 = .ok (.iload_n 2, 1) := dk_28 (dk_at dksJ13_checkFromIndexSize_0 18 rfl rfl)
theorem dJ13_checkFromIndexSize_19 : decode cJ13_checkFromIndexSize 19 = .ok (.invokestatic 103, 3) := dk_184 0 103 (dk_at dksJ13_checkFromIndexSize_0 19 rfl rfl)
theorem dJ13_checkFromIndexSize_22 : decode cJ13_checkFromIndexSize 22 = .ok (.athrow, 1) := dk_191 (dk_at dksJ13_checkFromIndexSize_0 22 rfl rfl)
theorem dJ13_checkFromIndexSize_23 : decode cJ13_checkFromIndexSize 23 = .ok (.iload_n 0, 1) := dk_26 (dk_at dksJ13_checkFromIndexSize_0 23 rfl rfl)
theorem dJ13_checkFromIndexSize_24 : decode cJ13_checkFromIndexSize 24 = .ok (.ireturn, 1) := dk_172 (dk_at dksJ13_checkFromIndexSize_1 0 rfl rfl)
theorem q80 : (Jvm.Cond.initialized "jdk/internal/util/Preconditions") ∈ lw_all := lw_g (lw_at lw_m1 21 rfl) rfl
theorem q619 : (Jvm.Cond.static ({ cls := "jdk/internal/util/Preconditions", name := "checkIndex", desc := "(IILjava/util/function/BiFunction;)I" } : Jvm.MethodName)) ∈ lw_all := lw_g (lw_at lw_m3 80 rfl) rfl
theorem q620 : (Jvm.Cond.code ({ cls := "jdk/internal/util/Preconditions", name := "checkIndex", desc := "(IILjava/util/function/BiFunction;)I" } : Jvm.MethodName) prog_56_method_11_code (3 : Nat) (Option.some Jvm.ClassFile.FieldType.int)) ∈ lw_all := lw_g (lw_at lw_m3 81 rfl) rfl
theorem q958 : (Jvm.Cond.laysStatic "jdk/internal/util/Preconditions" "SIOOBE_FORMATTER" "Ljava/util/function/BiFunction;") ∈ lw_tbl := lw_at lw_m4 179 rfl
theorem q960 : (Jvm.Cond.static ({ cls := "jdk/internal/util/Preconditions", name := "checkFromIndexSize", desc := "(IIILjava/util/function/BiFunction;)I" } : Jvm.MethodName)) ∈ lw_all := lw_g (lw_at lw_m4 181 rfl) rfl
theorem q961 : (Jvm.Cond.code ({ cls := "jdk/internal/util/Preconditions", name := "checkFromIndexSize", desc := "(IIILjava/util/function/BiFunction;)I" } : Jvm.MethodName) prog_56_method_13_code (4 : Nat) (Option.some Jvm.ClassFile.FieldType.int)) ∈ lw_all := lw_g (lw_at lw_m4 182 rfl) rfl

/-! java/lang/StringLatin1 -/
set_option maxRecDepth 100000
def RJ14 : String := "java/lang/StringLatin1"
abbrev cJ14_canEncode : ByteArray := prog_33_method_3_code
def yJ14_canEncode : MethodName := ⟨RJ14, "canEncode", "(C)Z"⟩
def dkwJ14_canEncode_0 : List UInt8 := [26, 17, 0, 255, 163, 0, 7, 4, 167, 0, 4, 3, 172]
abbrev dktJ14_canEncode_0 : List UInt8 := dkwJ14_canEncode_0 ++ []
theorem dksJ14_canEncode_0 : cJ14_canEncode.data.toList.drop 0 = dktJ14_canEncode_0 := by decide +kernel
theorem dJ14_canEncode_0 : decode cJ14_canEncode 0 = .ok (.iload_n 0, 1) := dk_26 (dk_at dksJ14_canEncode_0 0 rfl rfl)
theorem dJ14_canEncode_1 : decode cJ14_canEncode 1 = .ok (.sipush 255, 3) := dk_17 0 255 (dk_at dksJ14_canEncode_0 1 rfl rfl)
theorem dJ14_canEncode_4 : decode cJ14_canEncode 4 = .ok (.if_icmp .gt 7, 3) := dk_163 0 7 (dk_at dksJ14_canEncode_0 4 rfl rfl)
theorem dJ14_canEncode_7 : decode cJ14_canEncode 7 = .ok (.iconst 1, 1) := dk_4 (dk_at dksJ14_canEncode_0 7 rfl rfl)
theorem dJ14_canEncode_8 : decode cJ14_canEncode 8 = .ok (.goto 4, 3) := dk_167 0 4 (dk_at dksJ14_canEncode_0 8 rfl rfl)
theorem dJ14_canEncode_11 : decode cJ14_canEncode 11 = .ok (.iconst 0, 1) := dk_3 (dk_at dksJ14_canEncode_0 11 rfl rfl)
theorem dJ14_canEncode_12 : decode cJ14_canEncode 12 = .ok (.ireturn, 1) := dk_172 (dk_at dksJ14_canEncode_0 12 rfl rfl)
abbrev cJ14_inflate : ByteArray := prog_33_method_50_code
def yJ14_inflate : MethodName := ⟨RJ14, "inflate", "([BI[BII)V"⟩
def dkwJ14_inflate_0 : List UInt8 := [42, 27, 44, 29, 21, 4, 184, 0, 240, 177]
abbrev dktJ14_inflate_0 : List UInt8 := dkwJ14_inflate_0 ++ []
theorem dksJ14_inflate_0 : cJ14_inflate.data.toList.drop 0 = dktJ14_inflate_0 := by decide +kernel
theorem dJ14_inflate_0 : decode cJ14_inflate 0 = .ok (.aload_n 0, 1) := dk_42 (dk_at dksJ14_inflate_0 0 rfl rfl)
theorem dJ14_inflate_1 : decode cJ14_inflate 1 = .ok (.iload_n 1, 1) := dk_27 (dk_at dksJ14_inflate_0 1 rfl rfl)
theorem dJ14_inflate_2 : decode cJ14_inflate 2 = .ok (.aload_n 2, 1) := dk_44 (dk_at dksJ14_inflate_0 2 rfl rfl)
theorem dJ14_inflate_3 : decode cJ14_inflate 3 = .ok (.iload_n 3, 1) := dk_29 (dk_at dksJ14_inflate_0 3 rfl rfl)
theorem dJ14_inflate_4 : decode cJ14_inflate 4 = .ok (.iload 4, 2) := dk_21 4 (dk_at dksJ14_inflate_0 4 rfl rfl)
theorem dJ14_inflate_6 : decode cJ14_inflate 6 = .ok (.invokestatic 240, 3) := dk_184 0 240 (dk_at dksJ14_inflate_0 6 rfl rfl)
theorem dJ14_inflate_9 : decode cJ14_inflate 9 = .ok (.return_, 1) := dk_177 (dk_at dksJ14_inflate_0 9 rfl rfl)
abbrev cJ14_fillNull : ByteArray := prog_33_method_48_code
def yJ14_fillNull : MethodName := ⟨RJ14, "fillNull", "([BII)V"⟩
def dkwJ14_fillNull_0 : List UInt8 := [42, 27, 28, 3, 184, 0, 236, 177]
abbrev dktJ14_fillNull_0 : List UInt8 := dkwJ14_fillNull_0 ++ []
theorem dksJ14_fillNull_0 : cJ14_fillNull.data.toList.drop 0 = dktJ14_fillNull_0 := by decide +kernel
theorem dJ14_fillNull_0 : decode cJ14_fillNull 0 = .ok (.aload_n 0, 1) := dk_42 (dk_at dksJ14_fillNull_0 0 rfl rfl)
theorem dJ14_fillNull_1 : decode cJ14_fillNull 1 = .ok (.iload_n 1, 1) := dk_27 (dk_at dksJ14_fillNull_0 1 rfl rfl)
theorem dJ14_fillNull_2 : decode cJ14_fillNull 2 = .ok (.iload_n 2, 1) := dk_28 (dk_at dksJ14_fillNull_0 2 rfl rfl)
theorem dJ14_fillNull_3 : decode cJ14_fillNull 3 = .ok (.iconst 0, 1) := dk_3 (dk_at dksJ14_fillNull_0 3 rfl rfl)
theorem dJ14_fillNull_4 : decode cJ14_fillNull 4 = .ok (.invokestatic 236, 3) := dk_184 0 236 (dk_at dksJ14_fillNull_0 4 rfl rfl)
theorem dJ14_fillNull_7 : decode cJ14_fillNull 7 = .ok (.return_, 1) := dk_177 (dk_at dksJ14_fillNull_0 7 rfl rfl)
abbrev cJ14_charAt : ByteArray := prog_33_method_2_code
def yJ14_charAt : MethodName := ⟨RJ14, "charAt", "([BI)C"⟩
def dkwJ14_charAt_0 : List UInt8 := [27, 42, 190, 184, 0, 9, 42, 27, 51, 17, 0, 255, 126, 146, 172]
abbrev dktJ14_charAt_0 : List UInt8 := dkwJ14_charAt_0 ++ []
theorem dksJ14_charAt_0 : cJ14_charAt.data.toList.drop 0 = dktJ14_charAt_0 := by decide +kernel
theorem dJ14_charAt_0 : decode cJ14_charAt 0 = .ok (.iload_n 1, 1) := dk_27 (dk_at dksJ14_charAt_0 0 rfl rfl)
theorem dJ14_charAt_1 : decode cJ14_charAt 1 = .ok (.aload_n 0, 1) := dk_42 (dk_at dksJ14_charAt_0 1 rfl rfl)
theorem dJ14_charAt_2 : decode cJ14_charAt 2 = .ok (.arraylength, 1) := dk_190 (dk_at dksJ14_charAt_0 2 rfl rfl)
theorem dJ14_charAt_3 : decode cJ14_charAt 3 = .ok (.invokestatic 9, 3) := dk_184 0 9 (dk_at dksJ14_charAt_0 3 rfl rfl)
theorem dJ14_charAt_6 : decode cJ14_charAt 6 = .ok (.aload_n 0, 1) := dk_42 (dk_at dksJ14_charAt_0 6 rfl rfl)
theorem dJ14_charAt_7 : decode cJ14_charAt 7 = .ok (.iload_n 1, 1) := dk_27 (dk_at dksJ14_charAt_0 7 rfl rfl)
theorem dJ14_charAt_8 : decode cJ14_charAt 8 = .ok (.baload, 1) := dk_51 (dk_at dksJ14_charAt_0 8 rfl rfl)
theorem dJ14_charAt_9 : decode cJ14_charAt 9 = .ok (.sipush 255, 3) := dk_17 0 255 (dk_at dksJ14_charAt_0 9 rfl rfl)
theorem dJ14_charAt_12 : decode cJ14_charAt 12 = .ok (.iand, 1) := dk_126 (dk_at dksJ14_charAt_0 12 rfl rfl)
theorem dJ14_charAt_13 : decode cJ14_charAt 13 = .ok (.i2c, 1) := dk_146 (dk_at dksJ14_charAt_0 13 rfl rfl)
theorem dJ14_charAt_14 : decode cJ14_charAt 14 = .ok (.ireturn, 1) := dk_172 (dk_at dksJ14_charAt_0 14 rfl rfl)
abbrev cJ14_hashCode : ByteArray := prog_33_method_21_code
def yJ14_hashCode : MethodName := ⟨RJ14, "hashCode", "([B)I"⟩
def dkwJ14_hashCode_2 : List UInt8 := [3, 167, 0, 22, 42, 3, 51, 17, 0, 255, 126, 167, 0, 12, 42, 3, 42, 190, 3, 7, 184, 0, 84, 172]
abbrev dktJ14_hashCode_2 : List UInt8 := dkwJ14_hashCode_2 ++ []
def dkwJ14_hashCode_1 : List UInt8 := [171, 0, 0, 0, 0, 40, 0, 0, 0, 2, 0, 0, 0, 0, 0, 0, 0, 26, 0, 0, 0, 1, 0, 0, 0, 30]
abbrev dktJ14_hashCode_1 : List UInt8 := dkwJ14_hashCode_1 ++ dktJ14_hashCode_2
def dkwJ14_hashCode_0 : List UInt8 := [42, 190]
abbrev dktJ14_hashCode_0 : List UInt8 := dkwJ14_hashCode_0 ++ dktJ14_hashCode_1
theorem dksJ14_hashCode_0 : cJ14_hashCode.data.toList.drop 0 = dktJ14_hashCode_0 := by decide +kernel
theorem dksJ14_hashCode_1 : cJ14_hashCode.data.toList.drop 2 = dktJ14_hashCode_1 := dk_seg dksJ14_hashCode_0 2 rfl rfl
theorem dksJ14_hashCode_2 : cJ14_hashCode.data.toList.drop 28 = dktJ14_hashCode_2 := dk_seg dksJ14_hashCode_1 26 rfl rfl
theorem dJ14_hashCode_0 : decode cJ14_hashCode 0 = .ok (.aload_n 0, 1) := dk_42 (dk_at dksJ14_hashCode_0 0 rfl rfl)
theorem dJ14_hashCode_1 : decode cJ14_hashCode 1 = .ok (.arraylength, 1) := dk_190 (dk_at dksJ14_hashCode_0 1 rfl rfl)
theorem dJ14_hashCode_2 : decode cJ14_hashCode 2 = .ok (.lookupswitch 40 #[(0, 26), (1, 30)], 26) := by decide +kernel
theorem dJ14_hashCode_28 : decode cJ14_hashCode 28 = .ok (.iconst 0, 1) := dk_3 (dk_at dksJ14_hashCode_2 0 rfl rfl)
theorem dJ14_hashCode_29 : decode cJ14_hashCode 29 = .ok (.goto 22, 3) := dk_167 0 22 (dk_at dksJ14_hashCode_2 1 rfl rfl)
theorem dJ14_hashCode_32 : decode cJ14_hashCode 32 = .ok (.aload_n 0, 1) := dk_42 (dk_at dksJ14_hashCode_2 4 rfl rfl)
theorem dJ14_hashCode_33 : decode cJ14_hashCode 33 = .ok (.iconst 0, 1) := dk_3 (dk_at dksJ14_hashCode_2 5 rfl rfl)
theorem dJ14_hashCode_34 : decode cJ14_hashCode 34 = .ok (.baload, 1) := dk_51 (dk_at dksJ14_hashCode_2 6 rfl rfl)
theorem dJ14_hashCode_35 : decode cJ14_hashCode 35 = .ok (.sipush 255, 3) := dk_17 0 255 (dk_at dksJ14_hashCode_2 7 rfl rfl)
theorem dJ14_hashCode_38 : decode cJ14_hashCode 38 = .ok (.iand, 1) := dk_126 (dk_at dksJ14_hashCode_2 10 rfl rfl)
theorem dJ14_hashCode_39 : decode cJ14_hashCode 39 = .ok (.goto 12, 3) := dk_167 0 12 (dk_at dksJ14_hashCode_2 11 rfl rfl)
theorem dJ14_hashCode_42 : decode cJ14_hashCode 42 = .ok (.aload_n 0, 1) := dk_42 (dk_at dksJ14_hashCode_2 14 rfl rfl)
theorem dJ14_hashCode_43 : decode cJ14_hashCode 43 = .ok (.iconst 0, 1) := dk_3 (dk_at dksJ14_hashCode_2 15 rfl rfl)
theorem dJ14_hashCode_44 : decode cJ14_hashCode 44 = .ok (.aload_n 0, 1) := dk_42 (dk_at dksJ14_hashCode_2 16 rfl rfl)
theorem dJ14_hashCode_45 : decode cJ14_hashCode 45 = .ok (.arraylength, 1) := dk_190 (dk_at dksJ14_hashCode_2 17 rfl rfl)
theorem dJ14_hashCode_46 : decode cJ14_hashCode 46 = .ok (.iconst 0, 1) := dk_3 (dk_at dksJ14_hashCode_2 18 rfl rfl)
theorem dJ14_hashCode_47 : decode cJ14_hashCode 47 = .ok (.iconst 4, 1) := dk_7 (dk_at dksJ14_hashCode_2 19 rfl rfl)
theorem dJ14_hashCode_48 : decode cJ14_hashCode 48 = .ok (.invokestatic 84, 3) := dk_184 0 84 (dk_at dksJ14_hashCode_2 20 rfl rfl)
theorem dJ14_hashCode_51 : decode cJ14_hashCode 51 = .ok (.ireturn, 1) := dk_172 (dk_at dksJ14_hashCode_2 23 rfl rfl)
abbrev cJ14_equals : ByteArray := prog_33_method_13_code
def yJ14_equals : MethodName := ⟨RJ14, "equals", "([B[B)Z"⟩
def dkwJ14_equals_1 : List UInt8 := [3, 172, 132, 2, 1, 167, 255, 236, 4, 172, 3, 172]
abbrev dktJ14_equals_1 : List UInt8 := dkwJ14_equals_1 ++ []
def dkwJ14_equals_0 : List UInt8 := [42, 190, 43, 190, 160, 0, 30, 3, 61, 28, 42, 190, 162, 0, 20, 42, 28, 51, 43, 28, 51, 159, 0, 5]
abbrev dktJ14_equals_0 : List UInt8 := dkwJ14_equals_0 ++ dktJ14_equals_1
theorem dksJ14_equals_0 : cJ14_equals.data.toList.drop 0 = dktJ14_equals_0 := by decide +kernel
theorem dksJ14_equals_1 : cJ14_equals.data.toList.drop 24 = dktJ14_equals_1 := dk_seg dksJ14_equals_0 24 rfl rfl
theorem dJ14_equals_0 : decode cJ14_equals 0 = .ok (.aload_n 0, 1) := dk_42 (dk_at dksJ14_equals_0 0 rfl rfl)
theorem dJ14_equals_1 : decode cJ14_equals 1 = .ok (.arraylength, 1) := dk_190 (dk_at dksJ14_equals_0 1 rfl rfl)
theorem dJ14_equals_2 : decode cJ14_equals 2 = .ok (.aload_n 1, 1) := dk_43 (dk_at dksJ14_equals_0 2 rfl rfl)
theorem dJ14_equals_3 : decode cJ14_equals 3 = .ok (.arraylength, 1) := dk_190 (dk_at dksJ14_equals_0 3 rfl rfl)
theorem dJ14_equals_4 : decode cJ14_equals 4 = .ok (.if_icmp .ne 30, 3) := dk_160 0 30 (dk_at dksJ14_equals_0 4 rfl rfl)
theorem dJ14_equals_7 : decode cJ14_equals 7 = .ok (.iconst 0, 1) := dk_3 (dk_at dksJ14_equals_0 7 rfl rfl)
theorem dJ14_equals_8 : decode cJ14_equals 8 = .ok (.istore_n 2, 1) := dk_61 (dk_at dksJ14_equals_0 8 rfl rfl)
theorem dJ14_equals_9 : decode cJ14_equals 9 = .ok (.iload_n 2, 1) := dk_28 (dk_at dksJ14_equals_0 9 rfl rfl)
theorem dJ14_equals_10 : decode cJ14_equals 10 = .ok (.aload_n 0, 1) := dk_42 (dk_at dksJ14_equals_0 10 rfl rfl)
theorem dJ14_equals_11 : decode cJ14_equals 11 = .ok (.arraylength, 1) := dk_190 (dk_at dksJ14_equals_0 11 rfl rfl)
theorem dJ14_equals_12 : decode cJ14_equals 12 = .ok (.if_icmp .ge 20, 3) := dk_162 0 20 (dk_at dksJ14_equals_0 12 rfl rfl)
theorem dJ14_equals_15 : decode cJ14_equals 15 = .ok (.aload_n 0, 1) := dk_42 (dk_at dksJ14_equals_0 15 rfl rfl)
theorem dJ14_equals_16 : decode cJ14_equals 16 = .ok (.iload_n 2, 1) := dk_28 (dk_at dksJ14_equals_0 16 rfl rfl)
theorem dJ14_equals_17 : decode cJ14_equals 17 = .ok (.baload, 1) := dk_51 (dk_at dksJ14_equals_0 17 rfl rfl)
theorem dJ14_equals_18 : decode cJ14_equals 18 = .ok (.aload_n 1, 1) := dk_43 (dk_at dksJ14_equals_0 18 rfl rfl)
theorem dJ14_equals_19 : decode cJ14_equals 19 = .ok (.iload_n 2, 1) := dk_28 (dk_at dksJ14_equals_0 19 rfl rfl)
theorem dJ14_equals_20 : decode cJ14_equals 20 = .ok (.baload, 1) := dk_51 (dk_at dksJ14_equals_0 20 rfl rfl)
theorem dJ14_equals_21 : decode cJ14_equals 21 = .ok (.if_icmp .eq 5, 3) := dk_159 0 5 (dk_at dksJ14_equals_0 21 rfl rfl)
theorem dJ14_equals_24 : decode cJ14_equals 24 = .ok (.iconst 0, 1) := dk_3 (dk_at dksJ14_equals_1 0 rfl rfl)
theorem dJ14_equals_25 : decode cJ14_equals 25 = .ok (.ireturn, 1) := dk_172 (dk_at dksJ14_equals_1 1 rfl rfl)
theorem dJ14_equals_26 : decode cJ14_equals 26 = .ok (.iinc 2 1, 3) := dk_132 2 1 (dk_at dksJ14_equals_1 2 rfl rfl)
theorem dJ14_equals_29 : decode cJ14_equals 29 = .ok (.goto (-20), 3) := dk_167 255 236 (dk_at dksJ14_equals_1 5 rfl rfl)
theorem dJ14_equals_32 : decode cJ14_equals 32 = .ok (.iconst 1, 1) := dk_4 (dk_at dksJ14_equals_1 8 rfl rfl)
theorem dJ14_equals_33 : decode cJ14_equals 33 = .ok (.ireturn, 1) := dk_172 (dk_at dksJ14_equals_1 9 rfl rfl)
theorem dJ14_equals_34 : decode cJ14_equals 34 = .ok (.iconst 0, 1) := dk_3 (dk_at dksJ14_equals_1 10 rfl rfl)
theorem dJ14_equals_35 : decode cJ14_equals 35 = .ok (.ireturn, 1) := dk_172 (dk_at dksJ14_equals_1 11 rfl rfl)
theorem q83 : (Jvm.Cond.initialized "java/lang/StringLatin1") ∈ lw_all := lw_g (lw_at lw_m1 24 rfl) rfl
theorem q936 : (Jvm.Cond.static ({ cls := "java/lang/StringLatin1", name := "canEncode", desc := "(C)Z" } : Jvm.MethodName)) ∈ lw_all := lw_g (lw_at lw_m4 157 rfl) rfl
theorem q937 : (Jvm.Cond.code ({ cls := "java/lang/StringLatin1", name := "canEncode", desc := "(C)Z" } : Jvm.MethodName) prog_33_method_3_code (1 : Nat) (Option.some Jvm.ClassFile.FieldType.boolean)) ∈ lw_all := lw_g (lw_at lw_m4 158 rfl) rfl
theorem q943 : (Jvm.Cond.static ({ cls := "java/lang/StringLatin1", name := "inflate", desc := "([BI[BII)V" } : Jvm.MethodName)) ∈ lw_all := lw_g (lw_at lw_m4 164 rfl) rfl
theorem q944 : (Jvm.Cond.code ({ cls := "java/lang/StringLatin1", name := "inflate", desc := "([BI[BII)V" } : Jvm.MethodName) prog_33_method_50_code (5 : Nat) (Option.none : Option Jvm.ClassFile.FieldType)) ∈ lw_all := lw_g (lw_at lw_m4 165 rfl) rfl
theorem q945 : (Jvm.Cond.methodLink "java/lang/StringLatin1" (240 : Nat) ({ cls := "java/lang/StringUTF16", name := "inflate", desc := "([BI[BII)V" } : Jvm.MethodName)) ∈ lw_all := lw_g (lw_at lw_m4 166 rfl) rfl
theorem q993 : (Jvm.Cond.static ({ cls := "java/lang/StringLatin1", name := "fillNull", desc := "([BII)V" } : Jvm.MethodName)) ∈ lw_all := lw_g (lw_at lw_m4 214 rfl) rfl
theorem q994 : (Jvm.Cond.code ({ cls := "java/lang/StringLatin1", name := "fillNull", desc := "([BII)V" } : Jvm.MethodName) prog_33_method_48_code (3 : Nat) (Option.none : Option Jvm.ClassFile.FieldType)) ∈ lw_all := lw_g (lw_at lw_m4 215 rfl) rfl
theorem q995 : (Jvm.Cond.methodLink "java/lang/StringLatin1" (236 : Nat) ({ cls := "java/util/Arrays", name := "fill", desc := "([BIIB)V" } : Jvm.MethodName)) ∈ lw_all := lw_g (lw_at lw_m4 216 rfl) rfl
theorem q1122 : (Jvm.Cond.static ({ cls := "java/lang/StringLatin1", name := "charAt", desc := "([BI)C" } : Jvm.MethodName)) ∈ lw_all := lw_g (lw_at lw_m5 103 rfl) rfl
theorem q1123 : (Jvm.Cond.code ({ cls := "java/lang/StringLatin1", name := "charAt", desc := "([BI)C" } : Jvm.MethodName) prog_33_method_2_code (2 : Nat) (Option.some Jvm.ClassFile.FieldType.char)) ∈ lw_all := lw_g (lw_at lw_m5 104 rfl) rfl
theorem q1124 : (Jvm.Cond.methodLink "java/lang/StringLatin1" (9 : Nat) ({ cls := "java/lang/String", name := "checkIndex", desc := "(II)V" } : Jvm.MethodName)) ∈ lw_all := lw_g (lw_at lw_m5 105 rfl) rfl
theorem q1194 : (Jvm.Cond.static ({ cls := "java/lang/StringLatin1", name := "hashCode", desc := "([B)I" } : Jvm.MethodName)) ∈ lw_all := lw_g (lw_at lw_m5 175 rfl) rfl
theorem q1195 : (Jvm.Cond.code ({ cls := "java/lang/StringLatin1", name := "hashCode", desc := "([B)I" } : Jvm.MethodName) prog_33_method_21_code (1 : Nat) (Option.some Jvm.ClassFile.FieldType.int)) ∈ lw_all := lw_g (lw_at lw_m5 176 rfl) rfl
theorem q1196 : (Jvm.Cond.methodLink "java/lang/StringLatin1" (84 : Nat) ({ cls := "jdk/internal/util/ArraysSupport", name := "vectorizedHashCode", desc := "(Ljava/lang/Object;IIII)I" } : Jvm.MethodName)) ∈ lw_all := lw_g (lw_at lw_m5 177 rfl) rfl
theorem q1245 : (Jvm.Cond.static ({ cls := "java/lang/StringLatin1", name := "equals", desc := "([B[B)Z" } : Jvm.MethodName)) ∈ lw_all := lw_g (lw_at lw_m5 226 rfl) rfl
theorem q1246 : (Jvm.Cond.code ({ cls := "java/lang/StringLatin1", name := "equals", desc := "([B[B)Z" } : Jvm.MethodName) prog_33_method_13_code (3 : Nat) (Option.some Jvm.ClassFile.FieldType.boolean)) ∈ lw_all := lw_g (lw_at lw_m5 227 rfl) rfl

/-! java/lang/Throwable -/
set_option maxRecDepth 100000
def RJ15 : String := "java/lang/Throwable"
def TJ15 : u_T := fun k => match k with
  | 0 => ("java/lang/Throwable", "cause", "Ljava/lang/Throwable;", false)
  | 1 => ("java/lang/Throwable", "stackTrace", "[Ljava/lang/StackTraceElement;", false)
  | 2 => ("java/lang/Throwable", "suppressedExceptions", "Ljava/util/List;", false)
  | 3 => ("java/lang/Throwable", "detailMessage", "Ljava/lang/String;", false)
  | _ => ("java/lang/Throwable", "backtrace", "Ljava/lang/Object;", false)
def tyJ15 : Nat → FieldType := fun k => match k with
  | 0 => .object "java/lang/Throwable"
  | 1 => .array (.object "java/lang/StackTraceElement")
  | 2 => .object "java/util/List"
  | 3 => .object "java/lang/String"
  | _ => .object "java/lang/Object"
abbrev wsJ150 : List Cond := u_ws RJ15 TJ15 5
theorem nmJ15 : ∀ a, a < 5 → ∀ b, b < 5 → a ≠ b → (TJ15 a).2.1 ≠ (TJ15 b).2.1 := by decide +kernel
theorem tyJ15_ok : ∀ k, k < 5 → parseFieldDescriptor (TJ15 k).2.2.1 = some (tyJ15 k) := by decide +kernel
abbrev cJ15_init : ByteArray := prog_37_method_1_code
def yJ15_init : MethodName := ⟨RJ15, "<init>", "()V"⟩
def dkwJ15_init_1 : List UInt8 := [182, 0, 27, 87, 177]
abbrev dktJ15_init_1 : List UInt8 := dkwJ15_init_1 ++ []
def dkwJ15_init_0 : List UInt8 := [42, 183, 0, 1, 42, 42, 181, 0, 7, 42, 178, 0, 13, 181, 0, 17, 42, 178, 0, 20, 181, 0, 24, 42]
abbrev dktJ15_init_0 : List UInt8 := dkwJ15_init_0 ++ dktJ15_init_1
theorem dksJ15_init_0 : cJ15_init.data.toList.drop 0 = dktJ15_init_0 := by decide +kernel
theorem dksJ15_init_1 : cJ15_init.data.toList.drop 24 = dktJ15_init_1 := dk_seg dksJ15_init_0 24 rfl rfl
theorem dJ15_init_0 : decode cJ15_init 0 = .ok (.aload_n 0, 1) := dk_42 (dk_at dksJ15_init_0 0 rfl rfl)
theorem dJ15_init_1 : decode cJ15_init 1 = .ok (.invokespecial 1, 3) := dk_183 0 1 (dk_at dksJ15_init_0 1 rfl rfl)
theorem dJ15_init_4 : decode cJ15_init 4 = .ok (.aload_n 0, 1) := dk_42 (dk_at dksJ15_init_0 4 rfl rfl)
theorem dJ15_init_5 : decode cJ15_init 5 = .ok (.aload_n 0, 1) := dk_42 (dk_at dksJ15_init_0 5 rfl rfl)
theorem dJ15_init_6 : decode cJ15_init 6 = .ok (.putfield 7, 3) := dk_181 0 7 (dk_at dksJ15_init_0 6 rfl rfl)
theorem dJ15_init_9 : decode cJ15_init 9 = .ok (.aload_n 0, 1) := dk_42 (dk_at dksJ15_init_0 9 rfl rfl)
theorem dJ15_init_10 : decode cJ15_init 10 = .ok (.getstatic 13, 3) := dk_178 0 13 (dk_at dksJ15_init_0 10 rfl rfl)
theorem dJ15_init_13 : decode cJ15_init 13 = .ok (.putfield 17, 3) := dk_181 0 17 (dk_at dksJ15_init_0 13 rfl rfl)
theorem dJ15_init_16 : decode cJ15_init 16 = .ok (.aload_n 0, 1) := dk_42 (dk_at dksJ15_init_0 16 rfl rfl)
theorem dJ15_init_17 : decode cJ15_init 17 = .ok (.getstatic 20, 3) := dk_178 0 20 (dk_at dksJ15_init_0 17 rfl rfl)
theorem dJ15_init_20 : decode cJ15_init 20 = .ok (.putfield 24, 3) := dk_181 0 24 (dk_at dksJ15_init_0 20 rfl rfl)
theorem dJ15_init_23 : decode cJ15_init 23 = .ok (.aload_n 0, 1) := dk_42 (dk_at dksJ15_init_0 23 rfl rfl)
theorem dJ15_init_24 : decode cJ15_init 24 = .ok (.invokevirtual 27, 3) := dk_182 0 27 (dk_at dksJ15_init_1 0 rfl rfl)
theorem dJ15_init_27 : decode cJ15_init 27 = .ok (.pop, 1) := dk_87 (dk_at dksJ15_init_1 3 rfl rfl)
theorem dJ15_init_28 : decode cJ15_init 28 = .ok (.return_, 1) := dk_177 (dk_at dksJ15_init_1 4 rfl rfl)
abbrev cJ15_init_2 : ByteArray := prog_37_method_3_code
def yJ15_init_2 : MethodName := ⟨RJ15, "<init>", "(Ljava/lang/String;Ljava/lang/Throwable;)V"⟩
def dkwJ15_init_2_1 : List UInt8 := [182, 0, 27, 87, 42, 43, 181, 0, 31, 42, 44, 181, 0, 7, 177]
abbrev dktJ15_init_2_1 : List UInt8 := dkwJ15_init_2_1 ++ []
def dkwJ15_init_2_0 : List UInt8 := [42, 183, 0, 1, 42, 42, 181, 0, 7, 42, 178, 0, 13, 181, 0, 17, 42, 178, 0, 20, 181, 0, 24, 42]
abbrev dktJ15_init_2_0 : List UInt8 := dkwJ15_init_2_0 ++ dktJ15_init_2_1
theorem dksJ15_init_2_0 : cJ15_init_2.data.toList.drop 0 = dktJ15_init_2_0 := by decide +kernel
theorem dksJ15_init_2_1 : cJ15_init_2.data.toList.drop 24 = dktJ15_init_2_1 := dk_seg dksJ15_init_2_0 24 rfl rfl
theorem dJ15_init_2_0 : decode cJ15_init_2 0 = .ok (.aload_n 0, 1) := dk_42 (dk_at dksJ15_init_2_0 0 rfl rfl)
theorem dJ15_init_2_1 : decode cJ15_init_2 1 = .ok (.invokespecial 1, 3) := dk_183 0 1 (dk_at dksJ15_init_2_0 1 rfl rfl)
theorem dJ15_init_2_4 : decode cJ15_init_2 4 = .ok (.aload_n 0, 1) := dk_42 (dk_at dksJ15_init_2_0 4 rfl rfl)
theorem dJ15_init_2_5 : decode cJ15_init_2 5 = .ok (.aload_n 0, 1) := dk_42 (dk_at dksJ15_init_2_0 5 rfl rfl)
theorem dJ15_init_2_6 : decode cJ15_init_2 6 = .ok (.putfield 7, 3) := dk_181 0 7 (dk_at dksJ15_init_2_0 6 rfl rfl)
theorem dJ15_init_2_9 : decode cJ15_init_2 9 = .ok (.aload_n 0, 1) := dk_42 (dk_at dksJ15_init_2_0 9 rfl rfl)
theorem dJ15_init_2_10 : decode cJ15_init_2 10 = .ok (.getstatic 13, 3) := dk_178 0 13 (dk_at dksJ15_init_2_0 10 rfl rfl)
theorem dJ15_init_2_13 : decode cJ15_init_2 13 = .ok (.putfield 17, 3) := dk_181 0 17 (dk_at dksJ15_init_2_0 13 rfl rfl)
theorem dJ15_init_2_16 : decode cJ15_init_2 16 = .ok (.aload_n 0, 1) := dk_42 (dk_at dksJ15_init_2_0 16 rfl rfl)
theorem dJ15_init_2_17 : decode cJ15_init_2 17 = .ok (.getstatic 20, 3) := dk_178 0 20 (dk_at dksJ15_init_2_0 17 rfl rfl)
theorem dJ15_init_2_20 : decode cJ15_init_2 20 = .ok (.putfield 24, 3) := dk_181 0 24 (dk_at dksJ15_init_2_0 20 rfl rfl)
theorem dJ15_init_2_23 : decode cJ15_init_2 23 = .ok (.aload_n 0, 1) := dk_42 (dk_at dksJ15_init_2_0 23 rfl rfl)
theorem dJ15_init_2_24 : decode cJ15_init_2 24 = .ok (.invokevirtual 27, 3) := dk_182 0 27 (dk_at dksJ15_init_2_1 0 rfl rfl)
theorem dJ15_init_2_27 : decode cJ15_init_2 27 = .ok (.pop, 1) := dk_87 (dk_at dksJ15_init_2_1 3 rfl rfl)
theorem dJ15_init_2_28 : decode cJ15_init_2 28 = .ok (.aload_n 0, 1) := dk_42 (dk_at dksJ15_init_2_1 4 rfl rfl)
theorem dJ15_init_2_29 : decode cJ15_init_2 29 = .ok (.aload_n 1, 1) := dk_43 (dk_at dksJ15_init_2_1 5 rfl rfl)
theorem dJ15_init_2_30 : decode cJ15_init_2 30 = .ok (.putfield 31, 3) := dk_181 0 31 (dk_at dksJ15_init_2_1 6 rfl rfl)
theorem dJ15_init_2_33 : decode cJ15_init_2 33 = .ok (.aload_n 0, 1) := dk_42 (dk_at dksJ15_init_2_1 9 rfl rfl)
theorem dJ15_init_2_34 : decode cJ15_init_2 34 = .ok (.aload_n 2, 1) := dk_44 (dk_at dksJ15_init_2_1 10 rfl rfl)
theorem dJ15_init_2_35 : decode cJ15_init_2 35 = .ok (.putfield 7, 3) := dk_181 0 7 (dk_at dksJ15_init_2_1 11 rfl rfl)
theorem dJ15_init_2_38 : decode cJ15_init_2 38 = .ok (.return_, 1) := dk_177 (dk_at dksJ15_init_2_1 14 rfl rfl)
abbrev cJ15_init_3 : ByteArray := prog_37_method_2_code
def yJ15_init_3 : MethodName := ⟨RJ15, "<init>", "(Ljava/lang/String;)V"⟩
def dkwJ15_init_3_1 : List UInt8 := [182, 0, 27, 87, 42, 43, 181, 0, 31, 177]
abbrev dktJ15_init_3_1 : List UInt8 := dkwJ15_init_3_1 ++ []
def dkwJ15_init_3_0 : List UInt8 := [42, 183, 0, 1, 42, 42, 181, 0, 7, 42, 178, 0, 13, 181, 0, 17, 42, 178, 0, 20, 181, 0, 24, 42]
abbrev dktJ15_init_3_0 : List UInt8 := dkwJ15_init_3_0 ++ dktJ15_init_3_1
theorem dksJ15_init_3_0 : cJ15_init_3.data.toList.drop 0 = dktJ15_init_3_0 := by decide +kernel
theorem dksJ15_init_3_1 : cJ15_init_3.data.toList.drop 24 = dktJ15_init_3_1 := dk_seg dksJ15_init_3_0 24 rfl rfl
theorem dJ15_init_3_0 : decode cJ15_init_3 0 = .ok (.aload_n 0, 1) := dk_42 (dk_at dksJ15_init_3_0 0 rfl rfl)
theorem dJ15_init_3_1 : decode cJ15_init_3 1 = .ok (.invokespecial 1, 3) := dk_183 0 1 (dk_at dksJ15_init_3_0 1 rfl rfl)
theorem dJ15_init_3_4 : decode cJ15_init_3 4 = .ok (.aload_n 0, 1) := dk_42 (dk_at dksJ15_init_3_0 4 rfl rfl)
theorem dJ15_init_3_5 : decode cJ15_init_3 5 = .ok (.aload_n 0, 1) := dk_42 (dk_at dksJ15_init_3_0 5 rfl rfl)
theorem dJ15_init_3_6 : decode cJ15_init_3 6 = .ok (.putfield 7, 3) := dk_181 0 7 (dk_at dksJ15_init_3_0 6 rfl rfl)
theorem dJ15_init_3_9 : decode cJ15_init_3 9 = .ok (.aload_n 0, 1) := dk_42 (dk_at dksJ15_init_3_0 9 rfl rfl)
theorem dJ15_init_3_10 : decode cJ15_init_3 10 = .ok (.getstatic 13, 3) := dk_178 0 13 (dk_at dksJ15_init_3_0 10 rfl rfl)
theorem dJ15_init_3_13 : decode cJ15_init_3 13 = .ok (.putfield 17, 3) := dk_181 0 17 (dk_at dksJ15_init_3_0 13 rfl rfl)
theorem dJ15_init_3_16 : decode cJ15_init_3 16 = .ok (.aload_n 0, 1) := dk_42 (dk_at dksJ15_init_3_0 16 rfl rfl)
theorem dJ15_init_3_17 : decode cJ15_init_3 17 = .ok (.getstatic 20, 3) := dk_178 0 20 (dk_at dksJ15_init_3_0 17 rfl rfl)
theorem dJ15_init_3_20 : decode cJ15_init_3 20 = .ok (.putfield 24, 3) := dk_181 0 24 (dk_at dksJ15_init_3_0 20 rfl rfl)
theorem dJ15_init_3_23 : decode cJ15_init_3 23 = .ok (.aload_n 0, 1) := dk_42 (dk_at dksJ15_init_3_0 23 rfl rfl)
theorem dJ15_init_3_24 : decode cJ15_init_3 24 = .ok (.invokevirtual 27, 3) := dk_182 0 27 (dk_at dksJ15_init_3_1 0 rfl rfl)
theorem dJ15_init_3_27 : decode cJ15_init_3 27 = .ok (.pop, 1) := dk_87 (dk_at dksJ15_init_3_1 3 rfl rfl)
theorem dJ15_init_3_28 : decode cJ15_init_3 28 = .ok (.aload_n 0, 1) := dk_42 (dk_at dksJ15_init_3_1 4 rfl rfl)
theorem dJ15_init_3_29 : decode cJ15_init_3 29 = .ok (.aload_n 1, 1) := dk_43 (dk_at dksJ15_init_3_1 5 rfl rfl)
theorem dJ15_init_3_30 : decode cJ15_init_3 30 = .ok (.putfield 31, 3) := dk_181 0 31 (dk_at dksJ15_init_3_1 6 rfl rfl)
theorem dJ15_init_3_33 : decode cJ15_init_3 33 = .ok (.return_, 1) := dk_177 (dk_at dksJ15_init_3_1 9 rfl rfl)
theorem q86 : (Jvm.Cond.initialized "java/lang/Throwable") ∈ lw_all := lw_g (lw_at lw_m1 27 rfl) rfl
theorem q1262 : (Jvm.Cond.declares ({ cls := "java/lang/Throwable", name := "<init>", desc := "()V" } : Jvm.MethodName)) ∈ lw_tbl := lw_at lw_m6 3 rfl
theorem q1263 : (Jvm.Cond.declares ({ cls := "java/lang/Throwable", name := "<init>", desc := "(Ljava/lang/String;)V" } : Jvm.MethodName)) ∈ lw_tbl := lw_at lw_m6 4 rfl
theorem q1267 : (Jvm.Cond.lays "java/lang/Throwable" "java/lang/Throwable" "cause" "Ljava/lang/Throwable;") ∈ lw_all := lw_g (lw_at lw_m6 8 rfl) rfl
theorem q1269 : (Jvm.Cond.lays "java/lang/Throwable" "java/lang/Throwable" "stackTrace" "[Ljava/lang/StackTraceElement;") ∈ lw_all := lw_g (lw_at lw_m6 10 rfl) rfl
theorem q1271 : (Jvm.Cond.lays "java/lang/Throwable" "java/lang/Throwable" "suppressedExceptions" "Ljava/util/List;") ∈ lw_all := lw_g (lw_at lw_m6 12 rfl) rfl
theorem q1273 : (Jvm.Cond.lays "java/lang/Throwable" "java/lang/Throwable" "detailMessage" "Ljava/lang/String;") ∈ lw_all := lw_g (lw_at lw_m6 14 rfl) rfl
theorem q1275 : (Jvm.Cond.lays "java/lang/Throwable" "java/lang/Throwable" "backtrace" "Ljava/lang/Object;") ∈ lw_all := lw_g (lw_at lw_m6 16 rfl) rfl
theorem q1276 : (Jvm.Cond.fieldLink "java/lang/Throwable" (198 : Nat) "java/lang/Throwable" "backtrace" "Ljava/lang/Object;") ∈ lw_all := lw_g (lw_at lw_m6 17 rfl) rfl
theorem q1277 : (Jvm.Cond.superclass "java/lang/Throwable" "java/lang/Object") ∈ lw_all := lw_g (lw_at lw_m6 18 rfl) rfl
theorem q1278 : (Jvm.Cond.instanceMethod ({ cls := "java/lang/Throwable", name := "<init>", desc := "()V" } : Jvm.MethodName)) ∈ lw_all := lw_g (lw_at lw_m6 19 rfl) rfl
theorem q1279 : (Jvm.Cond.code ({ cls := "java/lang/Throwable", name := "<init>", desc := "()V" } : Jvm.MethodName) prog_37_method_1_code (1 : Nat) (Option.none : Option Jvm.ClassFile.FieldType)) ∈ lw_all := lw_g (lw_at lw_m6 20 rfl) rfl
theorem q1280 : (Jvm.Cond.methodLink "java/lang/Throwable" (1 : Nat) ({ cls := "java/lang/Object", name := "<init>", desc := "()V" } : Jvm.MethodName)) ∈ lw_all := lw_g (lw_at lw_m6 21 rfl) rfl
theorem q1281 : (Jvm.Cond.fieldLink "java/lang/Throwable" (13 : Nat) "java/lang/Throwable" "UNASSIGNED_STACK" "[Ljava/lang/StackTraceElement;") ∈ lw_all := lw_g (lw_at lw_m6 22 rfl) rfl
theorem q1282 : (Jvm.Cond.laysStatic "java/lang/Throwable" "UNASSIGNED_STACK" "[Ljava/lang/StackTraceElement;") ∈ lw_tbl := lw_at lw_m6 23 rfl
theorem q1283 : (Jvm.Cond.fieldLink "java/lang/Throwable" (20 : Nat) "java/lang/Throwable" "SUPPRESSED_SENTINEL" "Ljava/util/List;") ∈ lw_all := lw_g (lw_at lw_m6 24 rfl) rfl
theorem q1284 : (Jvm.Cond.laysStatic "java/lang/Throwable" "SUPPRESSED_SENTINEL" "Ljava/util/List;") ∈ lw_tbl := lw_at lw_m6 25 rfl
theorem q1285 : (Jvm.Cond.methodLink "java/lang/Throwable" (27 : Nat) ({ cls := "java/lang/Throwable", name := "fillInStackTrace", desc := "()Ljava/lang/Throwable;" } : Jvm.MethodName)) ∈ lw_all := lw_g (lw_at lw_m6 26 rfl) rfl
theorem q1286 : (Jvm.Cond.instanceMethod ({ cls := "java/lang/Throwable", name := "fillInStackTrace", desc := "()Ljava/lang/Throwable;" } : Jvm.MethodName)) ∈ lw_all := lw_g (lw_at lw_m6 27 rfl) rfl
theorem q1287 : (Jvm.Cond.sameMethod "java/lang/Throwable" "java/lang/Throwable" "fillInStackTrace" "()Ljava/lang/Throwable;") ∈ lw_all := lw_g (lw_at lw_m6 28 rfl) rfl
theorem q1290 : (Jvm.Cond.codeSync ({ cls := "java/lang/Throwable", name := "fillInStackTrace", desc := "()Ljava/lang/Throwable;" } : Jvm.MethodName) prog_37_method_18_code (1 : Nat) (Option.some (Jvm.ClassFile.FieldType.object "java/lang/Throwable"))) ∈ lw_all := lw_g (lw_at lw_m6 31 rfl) rfl
theorem q1291 : (Jvm.Cond.methodLink "java/lang/Throwable" (202 : Nat) ({ cls := "java/lang/Throwable", name := "fillInStackTrace", desc := "(I)Ljava/lang/Throwable;" } : Jvm.MethodName)) ∈ lw_all := lw_g (lw_at lw_m6 32 rfl) rfl
theorem q1292 : (Jvm.Cond.privateMethod ({ cls := "java/lang/Throwable", name := "fillInStackTrace", desc := "(I)Ljava/lang/Throwable;" } : Jvm.MethodName)) ∈ lw_tbl := lw_at lw_m6 33 rfl
theorem q1293 : (Jvm.Cond.instanceMethod ({ cls := "java/lang/Throwable", name := "fillInStackTrace", desc := "(I)Ljava/lang/Throwable;" } : Jvm.MethodName)) ∈ lw_all := lw_g (lw_at lw_m6 34 rfl) rfl
theorem q1294 : (Jvm.Cond.instantiable "java/lang/Throwable" (6 : Nat)) ∈ lw_all := lw_g (lw_at lw_m6 35 rfl) rfl
theorem q1295 : (Jvm.Cond.native ({ cls := "java/lang/Throwable", name := "fillInStackTrace", desc := "(I)Ljava/lang/Throwable;" } : Jvm.MethodName)) ∈ lw_all := lw_g (lw_at lw_m6 36 rfl) rfl
theorem q1303 : (Jvm.Cond.instanceMethod ({ cls := "java/lang/Throwable", name := "<init>", desc := "(Ljava/lang/String;Ljava/lang/Throwable;)V" } : Jvm.MethodName)) ∈ lw_all := lw_g (lw_at lw_m6 44 rfl) rfl
theorem q1304 : (Jvm.Cond.code ({ cls := "java/lang/Throwable", name := "<init>", desc := "(Ljava/lang/String;Ljava/lang/Throwable;)V" } : Jvm.MethodName) prog_37_method_3_code (3 : Nat) (Option.none : Option Jvm.ClassFile.FieldType)) ∈ lw_all := lw_g (lw_at lw_m6 45 rfl) rfl
theorem q1308 : (Jvm.Cond.fieldLink "java/lang/Throwable" (198 : Nat) "java/lang/Throwable" "backtrace" "Ljava/lang/Object;") ∈ lw_all := lw_g (lw_at lw_m6 49 rfl) rfl
theorem q1309 : (Jvm.Cond.fieldLink "java/lang/Throwable" (31 : Nat) "java/lang/Throwable" "detailMessage" "Ljava/lang/String;") ∈ lw_all := lw_g (lw_at lw_m6 50 rfl) rfl
theorem q1310 : (Jvm.Cond.fieldLink "java/lang/Throwable" (7 : Nat) "java/lang/Throwable" "cause" "Ljava/lang/Throwable;") ∈ lw_all := lw_g (lw_at lw_m6 51 rfl) rfl
theorem q1311 : (Jvm.Cond.fieldLink "java/lang/Throwable" (17 : Nat) "java/lang/Throwable" "stackTrace" "[Ljava/lang/StackTraceElement;") ∈ lw_all := lw_g (lw_at lw_m6 52 rfl) rfl
theorem q1312 : (Jvm.Cond.fieldLink "java/lang/Throwable" (24 : Nat) "java/lang/Throwable" "suppressedExceptions" "Ljava/util/List;") ∈ lw_all := lw_g (lw_at lw_m6 53 rfl) rfl
theorem q1315 : (Jvm.Cond.soleField "java/lang/Throwable" "backtrace") ∈ lw_all := lw_g (lw_at lw_m6 56 rfl) rfl
theorem q1316 : (Jvm.Cond.soleField "java/lang/Throwable" "detailMessage") ∈ lw_all := lw_g (lw_at lw_m6 57 rfl) rfl
theorem q1317 : (Jvm.Cond.soleField "java/lang/Throwable" "cause") ∈ lw_all := lw_g (lw_at lw_m6 58 rfl) rfl
theorem q1318 : (Jvm.Cond.soleField "java/lang/Throwable" "stackTrace") ∈ lw_all := lw_g (lw_at lw_m6 59 rfl) rfl
theorem q1320 : (Jvm.Cond.soleField "java/lang/Throwable" "depth") ∈ lw_all := lw_g (lw_at lw_m6 61 rfl) rfl
theorem q1321 : (Jvm.Cond.soleField "java/lang/Throwable" "suppressedExceptions") ∈ lw_all := lw_g (lw_at lw_m6 62 rfl) rfl
theorem q1370 : (Jvm.Cond.instanceMethod ({ cls := "java/lang/Throwable", name := "<init>", desc := "(Ljava/lang/String;)V" } : Jvm.MethodName)) ∈ lw_all := lw_g (lw_at lw_m6 111 rfl) rfl
theorem q1371 : (Jvm.Cond.code ({ cls := "java/lang/Throwable", name := "<init>", desc := "(Ljava/lang/String;)V" } : Jvm.MethodName) prog_37_method_2_code (2 : Nat) (Option.none : Option Jvm.ClassFile.FieldType)) ∈ lw_all := lw_g (lw_at lw_m6 112 rfl) rfl
theorem q1400 : (Jvm.Cond.declares ({ cls := "java/lang/Throwable", name := "getCause", desc := "()Ljava/lang/Throwable;" } : Jvm.MethodName)) ∈ lw_tbl := lw_at lw_m6 141 rfl
theorem q1402 : (Jvm.Cond.instanceMethod ({ cls := "java/lang/Throwable", name := "getCause", desc := "()Ljava/lang/Throwable;" } : Jvm.MethodName)) ∈ lw_all := lw_g (lw_at lw_m6 143 rfl) rfl
theorem q1403 : (Jvm.Cond.codeSync ({ cls := "java/lang/Throwable", name := "getCause", desc := "()Ljava/lang/Throwable;" } : Jvm.MethodName) prog_37_method_8_code (1 : Nat) (Option.some (Jvm.ClassFile.FieldType.object "java/lang/Throwable"))) ∈ lw_all := lw_g (lw_at lw_m6 144 rfl) rfl
theorem q1928 : (Jvm.Cond.sameMethod "java/lang/Throwable" "java/lang/Throwable" "fillInStackTrace" "(I)Ljava/lang/Throwable;") ∈ lw_all := lw_g (lw_at lw_m8 189 rfl) rfl
theorem q1929 : (Jvm.Cond.sameMethod "java/lang/Throwable" "java/lang/Throwable" "getCause" "()Ljava/lang/Throwable;") ∈ lw_all := lw_g (lw_at lw_m8 190 rfl) rfl
theorem q1965 : (Jvm.Cond.castable "java/lang/Throwable" "java/lang/Object") ∈ lw_tbl := lw_at lw_m8 226 rfl
theorem in_J15 : ∀ w ∈ wsJ150, w ∈ lw_all := lw_in wsJ150 [1267, 1269, 1271, 1273, 1275] (by decide +kernel) (by decide +kernel)

/-! java/lang/Exception -/
set_option maxRecDepth 100000
def RJ16 : String := "java/lang/Exception"
abbrev cJ16_init : ByteArray := prog_28_method_3_code
def yJ16_init : MethodName := ⟨RJ16, "<init>", "(Ljava/lang/String;Ljava/lang/Throwable;)V"⟩
def dkwJ16_init_0 : List UInt8 := [42, 43, 44, 183, 0, 10, 177]
abbrev dktJ16_init_0 : List UInt8 := dkwJ16_init_0 ++ []
theorem dksJ16_init_0 : cJ16_init.data.toList.drop 0 = dktJ16_init_0 := by decide +kernel
theorem dJ16_init_0 : decode cJ16_init 0 = .ok (.aload_n 0, 1) := dk_42 (dk_at dksJ16_init_0 0 rfl rfl)
theorem dJ16_init_1 : decode cJ16_init 1 = .ok (.aload_n 1, 1) := dk_43 (dk_at dksJ16_init_0 1 rfl rfl)
theorem dJ16_init_2 : decode cJ16_init 2 = .ok (.aload_n 2, 1) := dk_44 (dk_at dksJ16_init_0 2 rfl rfl)
theorem dJ16_init_3 : decode cJ16_init 3 = .ok (.invokespecial 10, 3) := dk_183 0 10 (dk_at dksJ16_init_0 3 rfl rfl)
theorem dJ16_init_6 : decode cJ16_init 6 = .ok (.return_, 1) := dk_177 (dk_at dksJ16_init_0 6 rfl rfl)
abbrev cJ16_init_2 : ByteArray := prog_28_method_2_code
def yJ16_init_2 : MethodName := ⟨RJ16, "<init>", "(Ljava/lang/String;)V"⟩
def dkwJ16_init_2_0 : List UInt8 := [42, 43, 183, 0, 7, 177]
abbrev dktJ16_init_2_0 : List UInt8 := dkwJ16_init_2_0 ++ []
theorem dksJ16_init_2_0 : cJ16_init_2.data.toList.drop 0 = dktJ16_init_2_0 := by decide +kernel
theorem dJ16_init_2_0 : decode cJ16_init_2 0 = .ok (.aload_n 0, 1) := dk_42 (dk_at dksJ16_init_2_0 0 rfl rfl)
theorem dJ16_init_2_1 : decode cJ16_init_2 1 = .ok (.aload_n 1, 1) := dk_43 (dk_at dksJ16_init_2_0 1 rfl rfl)
theorem dJ16_init_2_2 : decode cJ16_init_2 2 = .ok (.invokespecial 7, 3) := dk_183 0 7 (dk_at dksJ16_init_2_0 2 rfl rfl)
theorem dJ16_init_2_5 : decode cJ16_init_2 5 = .ok (.return_, 1) := dk_177 (dk_at dksJ16_init_2_0 5 rfl rfl)
theorem q87 : (Jvm.Cond.initialized "java/lang/Exception") ∈ lw_all := lw_g (lw_at lw_m1 28 rfl) rfl
theorem q1260 : (Jvm.Cond.declares ({ cls := "java/lang/Exception", name := "<init>", desc := "()V" } : Jvm.MethodName)) ∈ lw_tbl := lw_at lw_m6 1 rfl
theorem q1261 : (Jvm.Cond.declares ({ cls := "java/lang/Exception", name := "<init>", desc := "(Ljava/lang/String;)V" } : Jvm.MethodName)) ∈ lw_tbl := lw_at lw_m6 2 rfl
theorem q1300 : (Jvm.Cond.instanceMethod ({ cls := "java/lang/Exception", name := "<init>", desc := "(Ljava/lang/String;Ljava/lang/Throwable;)V" } : Jvm.MethodName)) ∈ lw_all := lw_g (lw_at lw_m6 41 rfl) rfl
theorem q1301 : (Jvm.Cond.code ({ cls := "java/lang/Exception", name := "<init>", desc := "(Ljava/lang/String;Ljava/lang/Throwable;)V" } : Jvm.MethodName) prog_28_method_3_code (3 : Nat) (Option.none : Option Jvm.ClassFile.FieldType)) ∈ lw_all := lw_g (lw_at lw_m6 42 rfl) rfl
theorem q1302 : (Jvm.Cond.methodLink "java/lang/Exception" (10 : Nat) ({ cls := "java/lang/Throwable", name := "<init>", desc := "(Ljava/lang/String;Ljava/lang/Throwable;)V" } : Jvm.MethodName)) ∈ lw_all := lw_g (lw_at lw_m6 43 rfl) rfl
theorem q1367 : (Jvm.Cond.instanceMethod ({ cls := "java/lang/Exception", name := "<init>", desc := "(Ljava/lang/String;)V" } : Jvm.MethodName)) ∈ lw_all := lw_g (lw_at lw_m6 108 rfl) rfl
theorem q1368 : (Jvm.Cond.code ({ cls := "java/lang/Exception", name := "<init>", desc := "(Ljava/lang/String;)V" } : Jvm.MethodName) prog_28_method_2_code (2 : Nat) (Option.none : Option Jvm.ClassFile.FieldType)) ∈ lw_all := lw_g (lw_at lw_m6 109 rfl) rfl
theorem q1369 : (Jvm.Cond.methodLink "java/lang/Exception" (7 : Nat) ({ cls := "java/lang/Throwable", name := "<init>", desc := "(Ljava/lang/String;)V" } : Jvm.MethodName)) ∈ lw_all := lw_g (lw_at lw_m6 110 rfl) rfl

/-! java/lang/Object -/
set_option maxRecDepth 100000
def RJ17 : String := "java/lang/Object"
abbrev cJ17_init : ByteArray := object_method_1_code
def yJ17_init : MethodName := ⟨RJ17, "<init>", "()V"⟩
theorem dJ17_init_0 : decode cJ17_init 0 = .ok (.return_, 1) := by decide +kernel
theorem q98 : (Jvm.Cond.instanceMethod ({ cls := "java/lang/Object", name := "<init>", desc := "()V" } : Jvm.MethodName)) ∈ lw_all := lw_g (lw_at lw_m1 39 rfl) rfl
theorem q99 : (Jvm.Cond.code ({ cls := "java/lang/Object", name := "<init>", desc := "()V" } : Jvm.MethodName) object_method_1_code (1 : Nat) (Option.none : Option Jvm.ClassFile.FieldType)) ∈ lw_all := lw_g (lw_at lw_m1 40 rfl) rfl
theorem q401 : (Jvm.Cond.instanceMethod ({ cls := "java/lang/Object", name := "getClass", desc := "()Ljava/lang/Class;" } : Jvm.MethodName)) ∈ lw_all := lw_g (lw_at lw_m2 102 rfl) rfl
theorem q402 : (Jvm.Cond.sameMethod "java/lang/Object" "java/lang/Object" "getClass" "()Ljava/lang/Class;") ∈ lw_all := lw_g (lw_at lw_m2 103 rfl) rfl
theorem q426 : (Jvm.Cond.native ({ cls := "java/lang/Object", name := "getClass", desc := "()Ljava/lang/Class;" } : Jvm.MethodName)) ∈ lw_all := lw_g (lw_at lw_m2 127 rfl) rfl
theorem q925 : (Jvm.Cond.native ({ cls := "java/lang/Object", name := "clone", desc := "()Ljava/lang/Object;" } : Jvm.MethodName)) ∈ lw_all := lw_g (lw_at lw_m4 146 rfl) rfl
theorem q926 : (Jvm.Cond.instanceMethod ({ cls := "java/lang/Object", name := "clone", desc := "()Ljava/lang/Object;" } : Jvm.MethodName)) ∈ lw_all := lw_g (lw_at lw_m4 147 rfl) rfl
theorem q1933 : (Jvm.Cond.initialized "java/lang/Object") ∈ lw_all := lw_g (lw_at lw_m8 194 rfl) rfl
theorem q1968 : (Jvm.Cond.declares ({ cls := "java/lang/Object", name := "getClass", desc := "()Ljava/lang/Class;" } : Jvm.MethodName)) ∈ lw_tbl := lw_at lw_m8 229 rfl
theorem q1976 : (Jvm.Cond.instantiable "java/lang/Object" (0 : Nat)) ∈ lw_all := lw_g (lw_at lw_m8 237 rfl) rfl

/-! java/lang/System$2 -/
set_option maxRecDepth 100000
def RJ18 : String := "java/lang/System$2"
abbrev cJ18_getUTF16Char : ByteArray := prog_36_method_45_code
def yJ18_getUTF16Char : MethodName := ⟨RJ18, "getUTF16Char", "([BI)C"⟩
def dkwJ18_getUTF16Char_0 : List UInt8 := [43, 28, 184, 0, 185, 172]
abbrev dktJ18_getUTF16Char_0 : List UInt8 := dkwJ18_getUTF16Char_0 ++ []
theorem dksJ18_getUTF16Char_0 : cJ18_getUTF16Char.data.toList.drop 0 = dktJ18_getUTF16Char_0 := by decide +kernel
theorem dJ18_getUTF16Char_0 : decode cJ18_getUTF16Char 0 = .ok (.aload_n 1, 1) := dk_43 (dk_at dksJ18_getUTF16Char_0 0 rfl rfl)
theorem dJ18_getUTF16Char_1 : decode cJ18_getUTF16Char 1 = .ok (.iload_n 2, 1) := dk_28 (dk_at dksJ18_getUTF16Char_0 1 rfl rfl)
theorem dJ18_getUTF16Char_2 : decode cJ18_getUTF16Char 2 = .ok (.invokestatic 185, 3) := dk_184 0 185 (dk_at dksJ18_getUTF16Char_0 2 rfl rfl)
theorem dJ18_getUTF16Char_5 : decode cJ18_getUTF16Char 5 = .ok (.ireturn, 1) := dk_172 (dk_at dksJ18_getUTF16Char_0 5 rfl rfl)
theorem q422 : (Jvm.Cond.selects "java/lang/System$2" ({ cls := "java/lang/Object", name := "getClass", desc := "()Ljava/lang/Class;" } : Jvm.MethodName) ({ cls := "java/lang/Object", name := "getClass", desc := "()Ljava/lang/Class;" } : Jvm.MethodName)) ∈ lw_all := lw_g (lw_at lw_m2 123 rfl) rfl
theorem q1212 : (Jvm.Cond.castable "java/lang/System$2" "jdk/internal/access/JavaLangAccess") ∈ lw_tbl := lw_at lw_m5 193 rfl
theorem q1213 : (Jvm.Cond.selects "java/lang/System$2" ({ cls := "jdk/internal/access/JavaLangAccess", name := "getUTF16Char", desc := "([BI)C" } : Jvm.MethodName) ({ cls := "java/lang/System$2", name := "getUTF16Char", desc := "([BI)C" } : Jvm.MethodName)) ∈ lw_all := lw_g (lw_at lw_m5 194 rfl) rfl
theorem q1214 : (Jvm.Cond.unhidden "java/lang/System$2" "getUTF16Char" "([BI)C") ∈ lw_tbl := lw_at lw_m5 195 rfl
theorem q1215 : (Jvm.Cond.instanceMethod ({ cls := "java/lang/System$2", name := "getUTF16Char", desc := "([BI)C" } : Jvm.MethodName)) ∈ lw_all := lw_g (lw_at lw_m5 196 rfl) rfl
theorem q1216 : (Jvm.Cond.publicMethod ({ cls := "java/lang/System$2", name := "getUTF16Char", desc := "([BI)C" } : Jvm.MethodName)) ∈ lw_tbl := lw_at lw_m5 197 rfl
theorem q1217 : (Jvm.Cond.code ({ cls := "java/lang/System$2", name := "getUTF16Char", desc := "([BI)C" } : Jvm.MethodName) prog_36_method_45_code (3 : Nat) (Option.some Jvm.ClassFile.FieldType.char)) ∈ lw_all := lw_g (lw_at lw_m5 198 rfl) rfl
theorem q1218 : (Jvm.Cond.methodLink "java/lang/System$2" (185 : Nat) ({ cls := "java/lang/StringUTF16", name := "getChar", desc := "([BI)C" } : Jvm.MethodName)) ∈ lw_all := lw_g (lw_at lw_m5 199 rfl) rfl
theorem q1961 : (Jvm.Cond.castable "java/lang/System$2" "java/lang/Object") ∈ lw_tbl := lw_at lw_m8 222 rfl
