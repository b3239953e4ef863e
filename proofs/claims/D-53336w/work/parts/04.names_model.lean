/-! TicketScalesModel -/
set_option maxRecDepth 100000
def RX3 : String := "TicketScalesModel"
def TX3 : u_T := fun k => match k with
  | 0 => ("TicketScalesModel", "d", "[I", true)
  | 1 => ("TicketScalesModel", "aside", "[I", true)
  | 2 => ("TicketScalesModel", "begun", "[I", true)
  | 3 => ("TicketScalesModel", "was", "[I", true)
  | 4 => ("TicketScalesModel", "states", "I", false)
  | 5 => ("TicketScalesModel", "text", "[C", true)
  | 6 => ("TicketScalesModel", "length", "I", false)
  | 7 => ("TicketScalesModel", "failed", "[I", true)
  | 8 => ("TicketScalesModel", "hasFailed", "Z", false)
  | 9 => ("TicketScalesModel", "from", "I", false)
  | 10 => ("TicketScalesModel", "at", "I", false)
  | 11 => ("TicketScalesModel", "sort", "I", false)
  | 12 => ("TicketScalesModel", "got", "[I", true)
  | 13 => ("TicketScalesModel", "least", "I", false)
  | _ => ("TicketScalesModel", "greatest", "I", false)
def tyX3 : Nat → FieldType := fun k => match k with
  | 0 => .array .int
  | 1 => .array .int
  | 2 => .array .int
  | 3 => .array .int
  | 4 => .int
  | 5 => .array .char
  | 6 => .int
  | 7 => .array .int
  | 8 => .boolean
  | 9 => .int
  | 10 => .int
  | 11 => .int
  | 12 => .array .int
  | 13 => .int
  | _ => .int
abbrev wsX30 : List Cond := u_ws RX3 TX3 15
set_option maxRecDepth 100000 in
theorem nmX3 : ∀ a, a < 15 → ∀ b, b < 15 → a ≠ b → (TX3 a).2.1 ≠ (TX3 b).2.1 := by decide +kernel
set_option maxRecDepth 100000 in
theorem tyX3_ok : ∀ k, k < 15 → parseFieldDescriptor (TX3 k).2.2.1 = some (tyX3 k) := by decide +kernel
abbrev cX3_init : ByteArray := prog_21_method_1_code
def yX3_init : MethodName := ⟨RX3, "<init>", "()V"⟩
def dkwX3_init_5 : List UInt8 := [180, 0, 7, 16, 12, 8, 79, 177]
abbrev dktX3_init_5 : List UInt8 := dkwX3_init_5 ++ []
def dkwX3_init_4 : List UInt8 := [167, 255, 229, 42, 180, 0, 7, 16, 8, 16, 100, 79, 42, 180, 0, 7, 16, 9, 16, 50, 79, 42]
abbrev dktX3_init_4 : List UInt8 := dkwX3_init_4 ++ dktX3_init_5
def dkwX3_init_3 : List UInt8 := [42, 180, 0, 7, 27, 17, 3, 232, 79, 42, 180, 0, 7, 7, 27, 96, 16, 10, 79, 132, 1, 1]
abbrev dktX3_init_3 : List UInt8 := dkwX3_init_3 ++ dktX3_init_4
def dkwX3_init_2 : List UInt8 := [181, 0, 22, 42, 8, 188, 10, 181, 0, 26, 42, 8, 188, 10, 181, 0, 29, 3, 60, 27, 7, 162, 0, 28]
abbrev dktX3_init_2 : List UInt8 := dkwX3_init_2 ++ dktX3_init_3
def dkwX3_init_1 : List UInt8 := [17, 1, 28, 188, 10, 181, 0, 16, 42, 17, 5, 140, 188, 10, 181, 0, 19, 42, 17, 0, 140, 188, 5]
abbrev dktX3_init_1 : List UInt8 := dkwX3_init_1 ++ dktX3_init_2
def dkwX3_init_0 : List UInt8 := [42, 183, 0, 1, 42, 17, 1, 28, 188, 10, 181, 0, 7, 42, 17, 1, 28, 188, 10, 181, 0, 13, 42]
abbrev dktX3_init_0 : List UInt8 := dkwX3_init_0 ++ dktX3_init_1
theorem dksX3_init_0 : cX3_init.data.toList.drop 0 = dktX3_init_0 := by decide +kernel
theorem dksX3_init_1 : cX3_init.data.toList.drop 23 = dktX3_init_1 := dk_seg dksX3_init_0 23 rfl rfl
theorem dksX3_init_2 : cX3_init.data.toList.drop 46 = dktX3_init_2 := dk_seg dksX3_init_1 23 rfl rfl
theorem dksX3_init_3 : cX3_init.data.toList.drop 70 = dktX3_init_3 := dk_seg dksX3_init_2 24 rfl rfl
theorem dksX3_init_4 : cX3_init.data.toList.drop 92 = dktX3_init_4 := dk_seg dksX3_init_3 22 rfl rfl
theorem dksX3_init_5 : cX3_init.data.toList.drop 114 = dktX3_init_5 := dk_seg dksX3_init_4 22 rfl rfl
theorem dX3_init_0 : decode cX3_init 0 = .ok (.aload_n 0, 1) := dk_42 (dk_at dksX3_init_0 0 rfl rfl)
theorem dX3_init_1 : decode cX3_init 1 = .ok (.invokespecial 1, 3) := dk_183 0 1 (dk_at dksX3_init_0 1 rfl rfl)
theorem dX3_init_4 : decode cX3_init 4 = .ok (.aload_n 0, 1) := dk_42 (dk_at dksX3_init_0 4 rfl rfl)
theorem dX3_init_5 : decode cX3_init 5 = .ok (.sipush 284, 3) := dk_17 1 28 (dk_at dksX3_init_0 5 rfl rfl)
theorem dX3_init_8 : decode cX3_init 8 = .ok (.newarray .int, 2) := dk_188_10 (dk_at dksX3_init_0 8 rfl rfl)
theorem dX3_init_10 : decode cX3_init 10 = .ok (.putfield 7, 3) := dk_181 0 7 (dk_at dksX3_init_0 10 rfl rfl)
theorem dX3_init_13 : decode cX3_init 13 = .ok (.aload_n 0, 1) := dk_42 (dk_at dksX3_init_0 13 rfl rfl)
theorem dX3_init_14 : decode cX3_init 14 = .ok (.sipush 284, 3) := dk_17 1 28 (dk_at dksX3_init_0 14 rfl rfl)
theorem dX3_init_17 : decode cX3_init 17 = .ok (.newarray .int, 2) := dk_188_10 (dk_at dksX3_init_0 17 rfl rfl)
theorem dX3_init_19 : decode cX3_init 19 = .ok (.putfield 13, 3) := dk_181 0 13 (dk_at dksX3_init_0 19 rfl rfl)
theorem dX3_init_22 : decode cX3_init 22 = .ok (.aload_n 0, 1) := dk_42 (dk_at dksX3_init_0 22 rfl rfl)
theorem dX3_init_23 : decode cX3_init 23 = .ok (.sipush 284, 3) := dk_17 1 28 (dk_at dksX3_init_1 0 rfl rfl)
theorem dX3_init_26 : decode cX3_init 26 = .ok (.newarray .int, 2) := dk_188_10 (dk_at dksX3_init_1 3 rfl rfl)
theorem dX3_init_28 : decode cX3_init 28 = .ok (.putfield 16, 3) := dk_181 0 16 (dk_at dksX3_init_1 5 rfl rfl)
theorem dX3_init_31 : decode cX3_init 31 = .ok (.aload_n 0, 1) := dk_42 (dk_at dksX3_init_1 8 rfl rfl)
theorem dX3_init_32 : decode cX3_init 32 = .ok (.sipush 1420, 3) := dk_17 5 140 (dk_at dksX3_init_1 9 rfl rfl)
theorem dX3_init_35 : decode cX3_init 35 = .ok (.newarray .int, 2) := dk_188_10 (dk_at dksX3_init_1 12 rfl rfl)
theorem dX3_init_37 : decode cX3_init 37 = .ok (.putfield 19, 3) := dk_181 0 19 (dk_at dksX3_init_1 14 rfl rfl)
theorem dX3_init_40 : decode cX3_init 40 = .ok (.aload_n 0, 1) := dk_42 (dk_at dksX3_init_1 17 rfl rfl)
theorem dX3_init_41 : decode cX3_init 41 = .ok (.sipush 140, 3) := dk_17 0 140 (dk_at dksX3_init_1 18 rfl rfl)
theorem dX3_init_44 : decode cX3_init 44 = .ok (.newarray .char, 2) := dk_188_5 (dk_at dksX3_init_1 21 rfl rfl)
theorem dX3_init_46 : decode cX3_init 46 = .ok (.putfield 22, 3) := dk_181 0 22 (dk_at dksX3_init_2 0 rfl rfl)
theorem dX3_init_49 : decode cX3_init 49 = .ok (.aload_n 0, 1) := dk_42 (dk_at dksX3_init_2 3 rfl rfl)
theorem dX3_init_50 : decode cX3_init 50 = .ok (.iconst 5, 1) := dk_8 (dk_at dksX3_init_2 4 rfl rfl)
theorem dX3_init_51 : decode cX3_init 51 = .ok (.newarray .int, 2) := dk_188_10 (dk_at dksX3_init_2 5 rfl rfl)
theorem dX3_init_53 : decode cX3_init 53 = .ok (.putfield 26, 3) := dk_181 0 26 (dk_at dksX3_init_2 7 rfl rfl)
theorem dX3_init_56 : decode cX3_init 56 = .ok (.aload_n 0, 1) := dk_42 (dk_at dksX3_init_2 10 rfl rfl)
theorem dX3_init_57 : decode cX3_init 57 = .ok (.iconst 5, 1) := dk_8 (dk_at dksX3_init_2 11 rfl rfl)
theorem dX3_init_58 : decode cX3_init 58 = .ok (.newarray .int, 2) := dk_188_10 (dk_at dksX3_init_2 12 rfl rfl)
theorem dX3_init_60 : decode cX3_init 60 = .ok (.putfield 29, 3) := dk_181 0 29 (dk_at dksX3_init_2 14 rfl rfl)
theorem dX3_init_63 : decode cX3_init 63 = .ok (.iconst 0, 1) := dk_3 (dk_at dksX3_init_2 17 rfl rfl)
theorem dX3_init_64 : decode cX3_init 64 = .ok (.istore_n 1, 1) := dk_60 (dk_at dksX3_init_2 18 rfl rfl)
theorem dX3_init_65 : decode cX3_init 65 = .ok (.iload_n 1, 1) := dk_27 (dk_at dksX3_init_2 19 rfl rfl)
theorem dX3_init_66 : decode cX3_init 66 = .ok (.iconst 4, 1) := dk_7 (dk_at dksX3_init_2 20 rfl rfl)
theorem dX3_init_67 : decode cX3_init 67 = .ok (.if_icmp .ge 28, 3) := dk_162 0 28 (dk_at dksX3_init_2 21 rfl rfl)
theorem dX3_init_70 : decode cX3_init 70 = .ok (.aload_n 0, 1) := dk_42 (dk_at dksX3_init_3 0 rfl rfl)
theorem dX3_init_71 : decode cX3_init 71 = .ok (.getfield 7, 3) := dk_180 0 7 (dk_at dksX3_init_3 1 rfl rfl)
theorem dX3_init_74 : decode cX3_init 74 = .ok (.iload_n 1, 1) := dk_27 (dk_at dksX3_init_3 4 rfl rfl)
theorem dX3_init_75 : decode cX3_init 75 = .ok (.sipush 1000, 3) := dk_17 3 232 (dk_at dksX3_init_3 5 rfl rfl)
theorem dX3_init_78 : decode cX3_init 78 = .ok (.iastore, 1) := dk_79 (dk_at dksX3_init_3 8 rfl rfl)
theorem dX3_init_79 : decode cX3_init 79 = .ok (.aload_n 0, 1) := dk_42 (dk_at dksX3_init_3 9 rfl rfl)
theorem dX3_init_80 : decode cX3_init 80 = .ok (.getfield 7, 3) := dk_180 0 7 (dk_at dksX3_init_3 10 rfl rfl)
theorem dX3_init_83 : decode cX3_init 83 = .ok (.iconst 4, 1) := dk_7 (dk_at dksX3_init_3 13 rfl rfl)
theorem dX3_init_84 : decode cX3_init 84 = .ok (.iload_n 1, 1) := dk_27 (dk_at dksX3_init_3 14 rfl rfl)
theorem dX3_init_85 : decode cX3_init 85 = .ok (.iadd, 1) := dk_96 (dk_at dksX3_init_3 15 rfl rfl)
theorem dX3_init_86 : decode cX3_init 86 = .ok (.bipush 10, 2) := dk_16 10 (dk_at dksX3_init_3 16 rfl rfl)
theorem dX3_init_88 : decode cX3_init 88 = .ok (.iastore, 1) := dk_79 (dk_at dksX3_init_3 18 rfl rfl)
theorem dX3_init_89 : decode cX3_init 89 = .ok (.iinc 1 1, 3) := dk_132 1 1 (dk_at dksX3_init_3 19 rfl rfl)
theorem dX3_init_92 : decode cX3_init 92 = .ok (.goto (-27), 3) := dk_167 255 229 (dk_at dksX3_init_4 0 rfl rfl)
theorem dX3_init_95 : decode cX3_init 95 = .ok (.aload_n 0, 1) := dk_42 (dk_at dksX3_init_4 3 rfl rfl)
theorem dX3_init_96 : decode cX3_init 96 = .ok (.getfield 7, 3) := dk_180 0 7 (dk_at dksX3_init_4 4 rfl rfl)
theorem dX3_init_99 : decode cX3_init 99 = .ok (.bipush 8, 2) := dk_16 8 (dk_at dksX3_init_4 7 rfl rfl)
theorem dX3_init_101 : decode cX3_init 101 = .ok (.bipush 100, 2) := dk_16 100 (dk_at dksX3_init_4 9 rfl rfl)
theorem dX3_init_103 : decode cX3_init 103 = .ok (.iastore, 1) := dk_79 (dk_at dksX3_init_4 11 rfl rfl)
theorem dX3_init_104 : decode cX3_init 104 = .ok (.aload_n 0, 1) := dk_42 (dk_at dksX3_init_4 12 rfl rfl)
theorem dX3_init_105 : decode cX3_init 105 = .ok (.getfield 7, 3) := dk_180 0 7 (dk_at dksX3_init_4 13 rfl rfl)
theorem dX3_init_108 : decode cX3_init 108 = .ok (.bipush 9, 2) := dk_16 9 (dk_at dksX3_init_4 16 rfl rfl)
theorem dX3_init_110 : decode cX3_init 110 = .ok (.bipush 50, 2) := dk_16 50 (dk_at dksX3_init_4 18 rfl rfl)
theorem dX3_init_112 : decode cX3_init 112 = .ok (.iastore, 1) := dk_79 (dk_at dksX3_init_4 20 rfl rfl)
theorem dX3_init_113 : decode cX3_init 113 = .ok (.aload_n 0, 1) := dk_42 (dk_at dksX3_init_4 21 rfl rfl)
theorem dX3_init_114 : decode cX3_init 114 = .ok (.getfield 7, 3) := dk_180 0 7 (dk_at dksX3_init_5 0 rfl rfl)
theorem dX3_init_117 : decode cX3_init 117 = .ok (.bipush 12, 2) := dk_16 12 (dk_at dksX3_init_5 3 rfl rfl)
theorem dX3_init_119 : decode cX3_init 119 = .ok (.iconst 5, 1) := dk_8 (dk_at dksX3_init_5 5 rfl rfl)
theorem dX3_init_120 : decode cX3_init 120 = .ok (.iastore, 1) := dk_79 (dk_at dksX3_init_5 6 rfl rfl)
theorem dX3_init_121 : decode cX3_init 121 = .ok (.return_, 1) := dk_177 (dk_at dksX3_init_5 7 rfl rfl)
abbrev cX3_setKind : ByteArray := prog_21_method_18_code
def yX3_setKind : MethodName := ⟨RX3, "setKind", "(III)I"⟩
def dkwX3_setKind_0 : List UInt8 := [42, 182, 0, 72, 42, 42, 27, 28, 29, 182, 0, 75, 182, 0, 79, 172]
abbrev dktX3_setKind_0 : List UInt8 := dkwX3_setKind_0 ++ []
theorem dksX3_setKind_0 : cX3_setKind.data.toList.drop 0 = dktX3_setKind_0 := by decide +kernel
theorem dX3_setKind_0 : decode cX3_setKind 0 = .ok (.aload_n 0, 1) := dk_42 (dk_at dksX3_setKind_0 0 rfl rfl)
theorem dX3_setKind_1 : decode cX3_setKind 1 = .ok (.invokevirtual 72, 3) := dk_182 0 72 (dk_at dksX3_setKind_0 1 rfl rfl)
theorem dX3_setKind_4 : decode cX3_setKind 4 = .ok (.aload_n 0, 1) := dk_42 (dk_at dksX3_setKind_0 4 rfl rfl)
theorem dX3_setKind_5 : decode cX3_setKind 5 = .ok (.aload_n 0, 1) := dk_42 (dk_at dksX3_setKind_0 5 rfl rfl)
theorem dX3_setKind_6 : decode cX3_setKind 6 = .ok (.iload_n 1, 1) := dk_27 (dk_at dksX3_setKind_0 6 rfl rfl)
theorem dX3_setKind_7 : decode cX3_setKind 7 = .ok (.iload_n 2, 1) := dk_28 (dk_at dksX3_setKind_0 7 rfl rfl)
theorem dX3_setKind_8 : decode cX3_setKind 8 = .ok (.iload_n 3, 1) := dk_29 (dk_at dksX3_setKind_0 8 rfl rfl)
theorem dX3_setKind_9 : decode cX3_setKind 9 = .ok (.invokevirtual 75, 3) := dk_182 0 75 (dk_at dksX3_setKind_0 9 rfl rfl)
theorem dX3_setKind_12 : decode cX3_setKind 12 = .ok (.invokevirtual 79, 3) := dk_182 0 79 (dk_at dksX3_setKind_0 12 rfl rfl)
theorem dX3_setKind_15 : decode cX3_setKind 15 = .ok (.ireturn, 1) := dk_172 (dk_at dksX3_setKind_0 15 rfl rfl)
abbrev cX3_keeps : ByteArray := prog_21_method_9_code
def yX3_keeps : MethodName := ⟨RX3, "keeps", "()V"⟩
def dkwX3_keeps_1 : List UInt8 := [167, 255, 234, 177]
abbrev dktX3_keeps_1 : List UInt8 := dkwX3_keeps_1 ++ []
def dkwX3_keeps_0 : List UInt8 := [3, 60, 27, 17, 1, 28, 162, 0, 21, 42, 180, 0, 13, 27, 42, 180, 0, 7, 27, 46, 79, 132, 1, 1]
abbrev dktX3_keeps_0 : List UInt8 := dkwX3_keeps_0 ++ dktX3_keeps_1
theorem dksX3_keeps_0 : cX3_keeps.data.toList.drop 0 = dktX3_keeps_0 := by decide +kernel
theorem dksX3_keeps_1 : cX3_keeps.data.toList.drop 24 = dktX3_keeps_1 := dk_seg dksX3_keeps_0 24 rfl rfl
theorem dX3_keeps_0 : decode cX3_keeps 0 = .ok (.iconst 0, 1) := dk_3 (dk_at dksX3_keeps_0 0 rfl rfl)
theorem dX3_keeps_1 : decode cX3_keeps 1 = .ok (.istore_n 1, 1) := dk_60 (dk_at dksX3_keeps_0 1 rfl rfl)
theorem dX3_keeps_2 : decode cX3_keeps 2 = .ok (.iload_n 1, 1) := dk_27 (dk_at dksX3_keeps_0 2 rfl rfl)
theorem dX3_keeps_3 : decode cX3_keeps 3 = .ok (.sipush 284, 3) := dk_17 1 28 (dk_at dksX3_keeps_0 3 rfl rfl)
theorem dX3_keeps_6 : decode cX3_keeps 6 = .ok (.if_icmp .ge 21, 3) := dk_162 0 21 (dk_at dksX3_keeps_0 6 rfl rfl)
theorem dX3_keeps_9 : decode cX3_keeps 9 = .ok (.aload_n 0, 1) := dk_42 (dk_at dksX3_keeps_0 9 rfl rfl)
theorem dX3_keeps_10 : decode cX3_keeps 10 = .ok (.getfield 13, 3) := dk_180 0 13 (dk_at dksX3_keeps_0 10 rfl rfl)
theorem dX3_keeps_13 : decode cX3_keeps 13 = .ok (.iload_n 1, 1) := dk_27 (dk_at dksX3_keeps_0 13 rfl rfl)
theorem dX3_keeps_14 : decode cX3_keeps 14 = .ok (.aload_n 0, 1) := dk_42 (dk_at dksX3_keeps_0 14 rfl rfl)
theorem dX3_keeps_15 : decode cX3_keeps 15 = .ok (.getfield 7, 3) := dk_180 0 7 (dk_at dksX3_keeps_0 15 rfl rfl)
theorem dX3_keeps_18 : decode cX3_keeps 18 = .ok (.iload_n 1, 1) := dk_27 (dk_at dksX3_keeps_0 18 rfl rfl)
theorem dX3_keeps_19 : decode cX3_keeps 19 = .ok (.iaload, 1) := dk_46 (dk_at dksX3_keeps_0 19 rfl rfl)
theorem dX3_keeps_20 : decode cX3_keeps 20 = .ok (.iastore, 1) := dk_79 (dk_at dksX3_keeps_0 20 rfl rfl)
theorem dX3_keeps_21 : decode cX3_keeps 21 = .ok (.iinc 1 1, 3) := dk_132 1 1 (dk_at dksX3_keeps_0 21 rfl rfl)
theorem dX3_keeps_24 : decode cX3_keeps 24 = .ok (.goto (-22), 3) := dk_167 255 234 (dk_at dksX3_keeps_1 0 rfl rfl)
theorem dX3_keeps_27 : decode cX3_keeps 27 = .ok (.return_, 1) := dk_177 (dk_at dksX3_keeps_1 3 rfl rfl)
abbrev cX3_kinds : ByteArray := prog_21_method_17_code
def yX3_kinds : MethodName := ⟨RX3, "kinds", "(III)I"⟩
def dkwX3_kinds_2 : List UInt8 := [42, 180, 0, 7, 7, 27, 96, 29, 79, 21, 4, 172]
abbrev dktX3_kinds_2 : List UInt8 := dkwX3_kinds_2 ++ []
def dkwX3_kinds_1 : List UInt8 := [184, 0, 32, 154, 0, 6, 18, 40, 172, 42, 180, 0, 7, 27, 46, 54, 4, 42, 180, 0, 7, 27, 28, 79]
abbrev dktX3_kinds_1 : List UInt8 := dkwX3_kinds_1 ++ dktX3_kinds_2
def dkwX3_kinds_0 : List UInt8 := [27, 184, 0, 68, 153, 0, 25, 28, 16, 100, 17, 19, 136, 184, 0, 32, 153, 0, 13, 29, 3, 16, 50]
abbrev dktX3_kinds_0 : List UInt8 := dkwX3_kinds_0 ++ dktX3_kinds_1
theorem dksX3_kinds_0 : cX3_kinds.data.toList.drop 0 = dktX3_kinds_0 := by decide +kernel
theorem dksX3_kinds_1 : cX3_kinds.data.toList.drop 23 = dktX3_kinds_1 := dk_seg dksX3_kinds_0 23 rfl rfl
theorem dksX3_kinds_2 : cX3_kinds.data.toList.drop 47 = dktX3_kinds_2 := dk_seg dksX3_kinds_1 24 rfl rfl
theorem dX3_kinds_0 : decode cX3_kinds 0 = .ok (.iload_n 1, 1) := dk_27 (dk_at dksX3_kinds_0 0 rfl rfl)
theorem dX3_kinds_1 : decode cX3_kinds 1 = .ok (.invokestatic 68, 3) := dk_184 0 68 (dk_at dksX3_kinds_0 1 rfl rfl)
theorem dX3_kinds_4 : decode cX3_kinds 4 = .ok (.ifCond .eq 25, 3) := dk_153 0 25 (dk_at dksX3_kinds_0 4 rfl rfl)
theorem dX3_kinds_7 : decode cX3_kinds 7 = .ok (.iload_n 2, 1) := dk_28 (dk_at dksX3_kinds_0 7 rfl rfl)
theorem dX3_kinds_8 : decode cX3_kinds 8 = .ok (.bipush 100, 2) := dk_16 100 (dk_at dksX3_kinds_0 8 rfl rfl)
theorem dX3_kinds_10 : decode cX3_kinds 10 = .ok (.sipush 5000, 3) := dk_17 19 136 (dk_at dksX3_kinds_0 10 rfl rfl)
theorem dX3_kinds_13 : decode cX3_kinds 13 = .ok (.invokestatic 32, 3) := dk_184 0 32 (dk_at dksX3_kinds_0 13 rfl rfl)
theorem dX3_kinds_16 : decode cX3_kinds 16 = .ok (.ifCond .eq 13, 3) := dk_153 0 13 (dk_at dksX3_kinds_0 16 rfl rfl)
theorem dX3_kinds_19 : decode cX3_kinds 19 = .ok (.iload_n 3, 1) := dk_29 (dk_at dksX3_kinds_0 19 rfl rfl)
theorem dX3_kinds_20 : decode cX3_kinds 20 = .ok (.iconst 0, 1) := dk_3 (dk_at dksX3_kinds_0 20 rfl rfl)
theorem dX3_kinds_21 : decode cX3_kinds 21 = .ok (.bipush 50, 2) := dk_16 50 (dk_at dksX3_kinds_0 21 rfl rfl)
theorem dX3_kinds_23 : decode cX3_kinds 23 = .ok (.invokestatic 32, 3) := dk_184 0 32 (dk_at dksX3_kinds_1 0 rfl rfl)
theorem dX3_kinds_26 : decode cX3_kinds 26 = .ok (.ifCond .ne 6, 3) := dk_154 0 6 (dk_at dksX3_kinds_1 3 rfl rfl)
theorem dX3_kinds_29 : decode cX3_kinds 29 = .ok (.ldc 40, 2) := dk_18 40 (dk_at dksX3_kinds_1 6 rfl rfl)
theorem dX3_kinds_31 : decode cX3_kinds 31 = .ok (.ireturn, 1) := dk_172 (dk_at dksX3_kinds_1 8 rfl rfl)
theorem dX3_kinds_32 : decode cX3_kinds 32 = .ok (.aload_n 0, 1) := dk_42 (dk_at dksX3_kinds_1 9 rfl rfl)
theorem dX3_kinds_33 : decode cX3_kinds 33 = .ok (.getfield 7, 3) := dk_180 0 7 (dk_at dksX3_kinds_1 10 rfl rfl)
theorem dX3_kinds_36 : decode cX3_kinds 36 = .ok (.iload_n 1, 1) := dk_27 (dk_at dksX3_kinds_1 13 rfl rfl)
theorem dX3_kinds_37 : decode cX3_kinds 37 = .ok (.iaload, 1) := dk_46 (dk_at dksX3_kinds_1 14 rfl rfl)
theorem dX3_kinds_38 : decode cX3_kinds 38 = .ok (.istore 4, 2) := dk_54 4 (dk_at dksX3_kinds_1 15 rfl rfl)
theorem dX3_kinds_40 : decode cX3_kinds 40 = .ok (.aload_n 0, 1) := dk_42 (dk_at dksX3_kinds_1 17 rfl rfl)
theorem dX3_kinds_41 : decode cX3_kinds 41 = .ok (.getfield 7, 3) := dk_180 0 7 (dk_at dksX3_kinds_1 18 rfl rfl)
theorem dX3_kinds_44 : decode cX3_kinds 44 = .ok (.iload_n 1, 1) := dk_27 (dk_at dksX3_kinds_1 21 rfl rfl)
theorem dX3_kinds_45 : decode cX3_kinds 45 = .ok (.iload_n 2, 1) := dk_28 (dk_at dksX3_kinds_1 22 rfl rfl)
theorem dX3_kinds_46 : decode cX3_kinds 46 = .ok (.iastore, 1) := dk_79 (dk_at dksX3_kinds_1 23 rfl rfl)
theorem dX3_kinds_47 : decode cX3_kinds 47 = .ok (.aload_n 0, 1) := dk_42 (dk_at dksX3_kinds_2 0 rfl rfl)
theorem dX3_kinds_48 : decode cX3_kinds 48 = .ok (.getfield 7, 3) := dk_180 0 7 (dk_at dksX3_kinds_2 1 rfl rfl)
theorem dX3_kinds_51 : decode cX3_kinds 51 = .ok (.iconst 4, 1) := dk_7 (dk_at dksX3_kinds_2 4 rfl rfl)
theorem dX3_kinds_52 : decode cX3_kinds 52 = .ok (.iload_n 1, 1) := dk_27 (dk_at dksX3_kinds_2 5 rfl rfl)
theorem dX3_kinds_53 : decode cX3_kinds 53 = .ok (.iadd, 1) := dk_96 (dk_at dksX3_kinds_2 6 rfl rfl)
theorem dX3_kinds_54 : decode cX3_kinds 54 = .ok (.iload_n 3, 1) := dk_29 (dk_at dksX3_kinds_2 7 rfl rfl)
theorem dX3_kinds_55 : decode cX3_kinds 55 = .ok (.iastore, 1) := dk_79 (dk_at dksX3_kinds_2 8 rfl rfl)
theorem dX3_kinds_56 : decode cX3_kinds 56 = .ok (.iload 4, 2) := dk_21 4 (dk_at dksX3_kinds_2 9 rfl rfl)
theorem dX3_kinds_58 : decode cX3_kinds 58 = .ok (.ireturn, 1) := dk_172 (dk_at dksX3_kinds_2 11 rfl rfl)
abbrev cX3_isKind : ByteArray := prog_21_method_5_code
def yX3_isKind : MethodName := ⟨RX3, "isKind", "(I)Z"⟩
def dkwX3_isKind_0 : List UInt8 := [26, 3, 6, 184, 0, 32, 172]
abbrev dktX3_isKind_0 : List UInt8 := dkwX3_isKind_0 ++ []
theorem dksX3_isKind_0 : cX3_isKind.data.toList.drop 0 = dktX3_isKind_0 := by decide +kernel
theorem dX3_isKind_0 : decode cX3_isKind 0 = .ok (.iload_n 0, 1) := dk_26 (dk_at dksX3_isKind_0 0 rfl rfl)
theorem dX3_isKind_1 : decode cX3_isKind 1 = .ok (.iconst 0, 1) := dk_3 (dk_at dksX3_isKind_0 1 rfl rfl)
theorem dX3_isKind_2 : decode cX3_isKind 2 = .ok (.iconst 3, 1) := dk_6 (dk_at dksX3_isKind_0 2 rfl rfl)
theorem dX3_isKind_3 : decode cX3_isKind 3 = .ok (.invokestatic 32, 3) := dk_184 0 32 (dk_at dksX3_isKind_0 3 rfl rfl)
theorem dX3_isKind_6 : decode cX3_isKind 6 = .ok (.ireturn, 1) := dk_172 (dk_at dksX3_isKind_0 6 rfl rfl)
abbrev cX3_in : ByteArray := prog_21_method_2_code
def yX3_in : MethodName := ⟨RX3, "in", "(III)Z"⟩
def dkwX3_in_0 : List UInt8 := [26, 27, 161, 0, 12, 26, 28, 163, 0, 7, 4, 167, 0, 4, 3, 172]
abbrev dktX3_in_0 : List UInt8 := dkwX3_in_0 ++ []
theorem dksX3_in_0 : cX3_in.data.toList.drop 0 = dktX3_in_0 := by decide +kernel
theorem dX3_in_0 : decode cX3_in 0 = .ok (.iload_n 0, 1) := dk_26 (dk_at dksX3_in_0 0 rfl rfl)
theorem dX3_in_1 : decode cX3_in 1 = .ok (.iload_n 1, 1) := dk_27 (dk_at dksX3_in_0 1 rfl rfl)
theorem dX3_in_2 : decode cX3_in 2 = .ok (.if_icmp .lt 12, 3) := dk_161 0 12 (dk_at dksX3_in_0 2 rfl rfl)
theorem dX3_in_5 : decode cX3_in 5 = .ok (.iload_n 0, 1) := dk_26 (dk_at dksX3_in_0 5 rfl rfl)
theorem dX3_in_6 : decode cX3_in 6 = .ok (.iload_n 2, 1) := dk_28 (dk_at dksX3_in_0 6 rfl rfl)
theorem dX3_in_7 : decode cX3_in 7 = .ok (.if_icmp .gt 7, 3) := dk_163 0 7 (dk_at dksX3_in_0 7 rfl rfl)
theorem dX3_in_10 : decode cX3_in 10 = .ok (.iconst 1, 1) := dk_4 (dk_at dksX3_in_0 10 rfl rfl)
theorem dX3_in_11 : decode cX3_in 11 = .ok (.goto 4, 3) := dk_167 0 4 (dk_at dksX3_in_0 11 rfl rfl)
theorem dX3_in_14 : decode cX3_in 14 = .ok (.iconst 0, 1) := dk_3 (dk_at dksX3_in_0 14 rfl rfl)
theorem dX3_in_15 : decode cX3_in 15 = .ok (.ireturn, 1) := dk_172 (dk_at dksX3_in_0 15 rfl rfl)
abbrev cX3_acted : ByteArray := prog_21_method_10_code
def yX3_acted : MethodName := ⟨RX3, "acted", "(I)I"⟩
def dkwX3_acted_0 : List UInt8 := [27, 18, 40, 164, 0, 11, 42, 42, 180, 0, 13, 182, 0, 41, 27, 172]
abbrev dktX3_acted_0 : List UInt8 := dkwX3_acted_0 ++ []
theorem dksX3_acted_0 : cX3_acted.data.toList.drop 0 = dktX3_acted_0 := by decide +kernel
theorem dX3_acted_0 : decode cX3_acted 0 = .ok (.iload_n 1, 1) := dk_27 (dk_at dksX3_acted_0 0 rfl rfl)
theorem dX3_acted_1 : decode cX3_acted 1 = .ok (.ldc 40, 2) := dk_18 40 (dk_at dksX3_acted_0 1 rfl rfl)
theorem dX3_acted_3 : decode cX3_acted 3 = .ok (.if_icmp .le 11, 3) := dk_164 0 11 (dk_at dksX3_acted_0 3 rfl rfl)
theorem dX3_acted_6 : decode cX3_acted 6 = .ok (.aload_n 0, 1) := dk_42 (dk_at dksX3_acted_0 6 rfl rfl)
theorem dX3_acted_7 : decode cX3_acted 7 = .ok (.aload_n 0, 1) := dk_42 (dk_at dksX3_acted_0 7 rfl rfl)
theorem dX3_acted_8 : decode cX3_acted 8 = .ok (.getfield 13, 3) := dk_180 0 13 (dk_at dksX3_acted_0 8 rfl rfl)
theorem dX3_acted_11 : decode cX3_acted 11 = .ok (.invokevirtual 41, 3) := dk_182 0 41 (dk_at dksX3_acted_0 11 rfl rfl)
theorem dX3_acted_14 : decode cX3_acted 14 = .ok (.iload_n 1, 1) := dk_27 (dk_at dksX3_acted_0 14 rfl rfl)
theorem dX3_acted_15 : decode cX3_acted 15 = .ok (.ireturn, 1) := dk_172 (dk_at dksX3_acted_0 15 rfl rfl)
abbrev cX3_pushes : ByteArray := prog_21_method_8_code
def yX3_pushes : MethodName := ⟨RX3, "pushes", "([I)V"⟩
def dkwX3_pushes_3 : List UInt8 := [28, 96, 43, 28, 46, 79, 132, 2, 1, 167, 255, 228, 42, 89, 180, 0, 36, 4, 96, 181, 0, 36, 177]
abbrev dktX3_pushes_3 : List UInt8 := dkwX3_pushes_3 ++ []
def dkwX3_pushes_2 : List UInt8 := [181, 0, 36, 3, 61, 28, 17, 1, 28, 162, 0, 27, 42, 180, 0, 19, 17, 1, 28, 42, 180, 0, 36, 104]
abbrev dktX3_pushes_2 : List UInt8 := dkwX3_pushes_2 ++ dktX3_pushes_3
def dkwX3_pushes_1 : List UInt8 := [180, 0, 19, 28, 17, 1, 28, 96, 46, 79, 132, 2, 1, 167, 255, 230, 42, 89, 180, 0, 36, 4, 100]
abbrev dktX3_pushes_1 : List UInt8 := dkwX3_pushes_1 ++ dktX3_pushes_2
def dkwX3_pushes_0 : List UInt8 := [42, 180, 0, 36, 8, 160, 0, 44, 3, 61, 28, 17, 4, 112, 162, 0, 25, 42, 180, 0, 19, 28, 42]
abbrev dktX3_pushes_0 : List UInt8 := dkwX3_pushes_0 ++ dktX3_pushes_1
theorem dksX3_pushes_0 : cX3_pushes.data.toList.drop 0 = dktX3_pushes_0 := by decide +kernel
theorem dksX3_pushes_1 : cX3_pushes.data.toList.drop 23 = dktX3_pushes_1 := dk_seg dksX3_pushes_0 23 rfl rfl
theorem dksX3_pushes_2 : cX3_pushes.data.toList.drop 46 = dktX3_pushes_2 := dk_seg dksX3_pushes_1 23 rfl rfl
theorem dksX3_pushes_3 : cX3_pushes.data.toList.drop 70 = dktX3_pushes_3 := dk_seg dksX3_pushes_2 24 rfl rfl
theorem dX3_pushes_0 : decode cX3_pushes 0 = .ok (.aload_n 0, 1) := dk_42 (dk_at dksX3_pushes_0 0 rfl rfl)
theorem dX3_pushes_1 : decode cX3_pushes 1 = .ok (.getfield 36, 3) := dk_180 0 36 (dk_at dksX3_pushes_0 1 rfl rfl)
theorem dX3_pushes_4 : decode cX3_pushes 4 = .ok (.iconst 5, 1) := dk_8 (dk_at dksX3_pushes_0 4 rfl rfl)
theorem dX3_pushes_5 : decode cX3_pushes 5 = .ok (.if_icmp .ne 44, 3) := dk_160 0 44 (dk_at dksX3_pushes_0 5 rfl rfl)
theorem dX3_pushes_8 : decode cX3_pushes 8 = .ok (.iconst 0, 1) := dk_3 (dk_at dksX3_pushes_0 8 rfl rfl)
theorem dX3_pushes_9 : decode cX3_pushes 9 = .ok (.istore_n 2, 1) := dk_61 (dk_at dksX3_pushes_0 9 rfl rfl)
theorem dX3_pushes_10 : decode cX3_pushes 10 = .ok (.iload_n 2, 1) := dk_28 (dk_at dksX3_pushes_0 10 rfl rfl)
theorem dX3_pushes_11 : decode cX3_pushes 11 = .ok (.sipush 1136, 3) := dk_17 4 112 (dk_at dksX3_pushes_0 11 rfl rfl)
theorem dX3_pushes_14 : decode cX3_pushes 14 = .ok (.if_icmp .ge 25, 3) := dk_162 0 25 (dk_at dksX3_pushes_0 14 rfl rfl)
theorem dX3_pushes_17 : decode cX3_pushes 17 = .ok (.aload_n 0, 1) := dk_42 (dk_at dksX3_pushes_0 17 rfl rfl)
theorem dX3_pushes_18 : decode cX3_pushes 18 = .ok (.getfield 19, 3) := dk_180 0 19 (dk_at dksX3_pushes_0 18 rfl rfl)
theorem dX3_pushes_21 : decode cX3_pushes 21 = .ok (.iload_n 2, 1) := dk_28 (dk_at dksX3_pushes_0 21 rfl rfl)
theorem dX3_pushes_22 : decode cX3_pushes 22 = .ok (.aload_n 0, 1) := dk_42 (dk_at dksX3_pushes_0 22 rfl rfl)
theorem dX3_pushes_23 : decode cX3_pushes 23 = .ok (.getfield 19, 3) := dk_180 0 19 (dk_at dksX3_pushes_1 0 rfl rfl)
theorem dX3_pushes_26 : decode cX3_pushes 26 = .ok (.iload_n 2, 1) := dk_28 (dk_at dksX3_pushes_1 3 rfl rfl)
theorem dX3_pushes_27 : decode cX3_pushes 27 = .ok (.sipush 284, 3) := dk_17 1 28 (dk_at dksX3_pushes_1 4 rfl rfl)
theorem dX3_pushes_30 : decode cX3_pushes 30 = .ok (.iadd, 1) := dk_96 (dk_at dksX3_pushes_1 7 rfl rfl)
theorem dX3_pushes_31 : decode cX3_pushes 31 = .ok (.iaload, 1) := dk_46 (dk_at dksX3_pushes_1 8 rfl rfl)
theorem dX3_pushes_32 : decode cX3_pushes 32 = .ok (.iastore, 1) := dk_79 (dk_at dksX3_pushes_1 9 rfl rfl)
theorem dX3_pushes_33 : decode cX3_pushes 33 = .ok (.iinc 2 1, 3) := dk_132 2 1 (dk_at dksX3_pushes_1 10 rfl rfl)
theorem dX3_pushes_36 : decode cX3_pushes 36 = .ok (.goto (-26), 3) := dk_167 255 230 (dk_at dksX3_pushes_1 13 rfl rfl)
theorem dX3_pushes_39 : decode cX3_pushes 39 = .ok (.aload_n 0, 1) := dk_42 (dk_at dksX3_pushes_1 16 rfl rfl)
theorem dX3_pushes_40 : decode cX3_pushes 40 = .ok (.dup, 1) := dk_89 (dk_at dksX3_pushes_1 17 rfl rfl)
theorem dX3_pushes_41 : decode cX3_pushes 41 = .ok (.getfield 36, 3) := dk_180 0 36 (dk_at dksX3_pushes_1 18 rfl rfl)
theorem dX3_pushes_44 : decode cX3_pushes 44 = .ok (.iconst 1, 1) := dk_4 (dk_at dksX3_pushes_1 21 rfl rfl)
theorem dX3_pushes_45 : decode cX3_pushes 45 = .ok (.isub, 1) := dk_100 (dk_at dksX3_pushes_1 22 rfl rfl)
theorem dX3_pushes_46 : decode cX3_pushes 46 = .ok (.putfield 36, 3) := dk_181 0 36 (dk_at dksX3_pushes_2 0 rfl rfl)
theorem dX3_pushes_49 : decode cX3_pushes 49 = .ok (.iconst 0, 1) := dk_3 (dk_at dksX3_pushes_2 3 rfl rfl)
theorem dX3_pushes_50 : decode cX3_pushes 50 = .ok (.istore_n 2, 1) := dk_61 (dk_at dksX3_pushes_2 4 rfl rfl)
theorem dX3_pushes_51 : decode cX3_pushes 51 = .ok (.iload_n 2, 1) := dk_28 (dk_at dksX3_pushes_2 5 rfl rfl)
theorem dX3_pushes_52 : decode cX3_pushes 52 = .ok (.sipush 284, 3) := dk_17 1 28 (dk_at dksX3_pushes_2 6 rfl rfl)
theorem dX3_pushes_55 : decode cX3_pushes 55 = .ok (.if_icmp .ge 27, 3) := dk_162 0 27 (dk_at dksX3_pushes_2 9 rfl rfl)
theorem dX3_pushes_58 : decode cX3_pushes 58 = .ok (.aload_n 0, 1) := dk_42 (dk_at dksX3_pushes_2 12 rfl rfl)
theorem dX3_pushes_59 : decode cX3_pushes 59 = .ok (.getfield 19, 3) := dk_180 0 19 (dk_at dksX3_pushes_2 13 rfl rfl)
theorem dX3_pushes_62 : decode cX3_pushes 62 = .ok (.sipush 284, 3) := dk_17 1 28 (dk_at dksX3_pushes_2 16 rfl rfl)
theorem dX3_pushes_65 : decode cX3_pushes 65 = .ok (.aload_n 0, 1) := dk_42 (dk_at dksX3_pushes_2 19 rfl rfl)
theorem dX3_pushes_66 : decode cX3_pushes 66 = .ok (.getfield 36, 3) := dk_180 0 36 (dk_at dksX3_pushes_2 20 rfl rfl)
theorem dX3_pushes_69 : decode cX3_pushes 69 = .ok (.imul, 1) := dk_104 (dk_at dksX3_pushes_2 23 rfl rfl)
theorem dX3_pushes_70 : decode cX3_pushes 70 = .ok (.iload_n 2, 1) := dk_28 (dk_at dksX3_pushes_3 0 rfl rfl)
theorem dX3_pushes_71 : decode cX3_pushes 71 = .ok (.iadd, 1) := dk_96 (dk_at dksX3_pushes_3 1 rfl rfl)
theorem dX3_pushes_72 : decode cX3_pushes 72 = .ok (.aload_n 1, 1) := dk_43 (dk_at dksX3_pushes_3 2 rfl rfl)
theorem dX3_pushes_73 : decode cX3_pushes 73 = .ok (.iload_n 2, 1) := dk_28 (dk_at dksX3_pushes_3 3 rfl rfl)
theorem dX3_pushes_74 : decode cX3_pushes 74 = .ok (.iaload, 1) := dk_46 (dk_at dksX3_pushes_3 4 rfl rfl)
theorem dX3_pushes_75 : decode cX3_pushes 75 = .ok (.iastore, 1) := dk_79 (dk_at dksX3_pushes_3 5 rfl rfl)
theorem dX3_pushes_76 : decode cX3_pushes 76 = .ok (.iinc 2 1, 3) := dk_132 2 1 (dk_at dksX3_pushes_3 6 rfl rfl)
theorem dX3_pushes_79 : decode cX3_pushes 79 = .ok (.goto (-28), 3) := dk_167 255 228 (dk_at dksX3_pushes_3 9 rfl rfl)
theorem dX3_pushes_82 : decode cX3_pushes 82 = .ok (.aload_n 0, 1) := dk_42 (dk_at dksX3_pushes_3 12 rfl rfl)
theorem dX3_pushes_83 : decode cX3_pushes 83 = .ok (.dup, 1) := dk_89 (dk_at dksX3_pushes_3 13 rfl rfl)
theorem dX3_pushes_84 : decode cX3_pushes 84 = .ok (.getfield 36, 3) := dk_180 0 36 (dk_at dksX3_pushes_3 14 rfl rfl)
theorem dX3_pushes_87 : decode cX3_pushes 87 = .ok (.iconst 1, 1) := dk_4 (dk_at dksX3_pushes_3 17 rfl rfl)
theorem dX3_pushes_88 : decode cX3_pushes 88 = .ok (.iadd, 1) := dk_96 (dk_at dksX3_pushes_3 18 rfl rfl)
theorem dX3_pushes_89 : decode cX3_pushes 89 = .ok (.putfield 36, 3) := dk_181 0 36 (dk_at dksX3_pushes_3 19 rfl rfl)
theorem dX3_pushes_92 : decode cX3_pushes 92 = .ok (.return_, 1) := dk_177 (dk_at dksX3_pushes_3 22 rfl rfl)
abbrev cX3_setScale : ByteArray := prog_21_method_20_code
def yX3_setScale : MethodName := ⟨RX3, "setScale", "(II)I"⟩
def dkwX3_setScale_0 : List UInt8 := [42, 182, 0, 72, 42, 42, 27, 28, 182, 0, 82, 182, 0, 79, 172]
abbrev dktX3_setScale_0 : List UInt8 := dkwX3_setScale_0 ++ []
theorem dksX3_setScale_0 : cX3_setScale.data.toList.drop 0 = dktX3_setScale_0 := by decide +kernel
theorem dX3_setScale_0 : decode cX3_setScale 0 = .ok (.aload_n 0, 1) := dk_42 (dk_at dksX3_setScale_0 0 rfl rfl)
theorem dX3_setScale_1 : decode cX3_setScale 1 = .ok (.invokevirtual 72, 3) := dk_182 0 72 (dk_at dksX3_setScale_0 1 rfl rfl)
theorem dX3_setScale_4 : decode cX3_setScale 4 = .ok (.aload_n 0, 1) := dk_42 (dk_at dksX3_setScale_0 4 rfl rfl)
theorem dX3_setScale_5 : decode cX3_setScale 5 = .ok (.aload_n 0, 1) := dk_42 (dk_at dksX3_setScale_0 5 rfl rfl)
theorem dX3_setScale_6 : decode cX3_setScale 6 = .ok (.iload_n 1, 1) := dk_27 (dk_at dksX3_setScale_0 6 rfl rfl)
theorem dX3_setScale_7 : decode cX3_setScale 7 = .ok (.iload_n 2, 1) := dk_28 (dk_at dksX3_setScale_0 7 rfl rfl)
theorem dX3_setScale_8 : decode cX3_setScale 8 = .ok (.invokevirtual 82, 3) := dk_182 0 82 (dk_at dksX3_setScale_0 8 rfl rfl)
theorem dX3_setScale_11 : decode cX3_setScale 11 = .ok (.invokevirtual 79, 3) := dk_182 0 79 (dk_at dksX3_setScale_0 11 rfl rfl)
theorem dX3_setScale_14 : decode cX3_setScale 14 = .ok (.ireturn, 1) := dk_172 (dk_at dksX3_setScale_0 14 rfl rfl)
abbrev cX3_scales : ByteArray := prog_21_method_19_code
def yX3_scales : MethodName := ⟨RX3, "scales", "(II)I"⟩
def dkwX3_scales_3 : List UInt8 := [162, 0, 8, 28, 116, 167, 0, 10, 42, 180, 0, 7, 16, 10, 46, 79, 42, 180, 0, 7, 16, 10, 46, 172]
abbrev dktX3_scales_3 : List UInt8 := dkwX3_scales_3 ++ []
def dkwX3_scales_2 : List UInt8 := [180, 0, 7, 16, 10, 46, 28, 164, 0, 7, 28, 167, 0, 27, 42, 180, 0, 7, 16, 10, 46, 28, 116]
abbrev dktX3_scales_2 : List UInt8 := dkwX3_scales_2 ++ dktX3_scales_3
def dkwX3_scales_1 : List UInt8 := [172, 42, 180, 0, 7, 16, 8, 27, 79, 42, 180, 0, 7, 16, 9, 28, 79, 42, 180, 0, 7, 16, 10, 42]
abbrev dktX3_scales_1 : List UInt8 := dkwX3_scales_1 ++ dktX3_scales_2
def dkwX3_scales_0 : List UInt8 := [27, 4, 17, 3, 232, 184, 0, 32, 153, 0, 14, 28, 3, 17, 7, 208, 184, 0, 32, 154, 0, 6, 18, 40]
abbrev dktX3_scales_0 : List UInt8 := dkwX3_scales_0 ++ dktX3_scales_1
theorem dksX3_scales_0 : cX3_scales.data.toList.drop 0 = dktX3_scales_0 := by decide +kernel
theorem dksX3_scales_1 : cX3_scales.data.toList.drop 24 = dktX3_scales_1 := dk_seg dksX3_scales_0 24 rfl rfl
theorem dksX3_scales_2 : cX3_scales.data.toList.drop 48 = dktX3_scales_2 := dk_seg dksX3_scales_1 24 rfl rfl
theorem dksX3_scales_3 : cX3_scales.data.toList.drop 71 = dktX3_scales_3 := dk_seg dksX3_scales_2 23 rfl rfl
theorem dX3_scales_0 : decode cX3_scales 0 = .ok (.iload_n 1, 1) := dk_27 (dk_at dksX3_scales_0 0 rfl rfl)
theorem dX3_scales_1 : decode cX3_scales 1 = .ok (.iconst 1, 1) := dk_4 (dk_at dksX3_scales_0 1 rfl rfl)
theorem dX3_scales_2 : decode cX3_scales 2 = .ok (.sipush 1000, 3) := dk_17 3 232 (dk_at dksX3_scales_0 2 rfl rfl)
theorem dX3_scales_5 : decode cX3_scales 5 = .ok (.invokestatic 32, 3) := dk_184 0 32 (dk_at dksX3_scales_0 5 rfl rfl)
theorem dX3_scales_8 : decode cX3_scales 8 = .ok (.ifCond .eq 14, 3) := dk_153 0 14 (dk_at dksX3_scales_0 8 rfl rfl)
theorem dX3_scales_11 : decode cX3_scales 11 = .ok (.iload_n 2, 1) := dk_28 (dk_at dksX3_scales_0 11 rfl rfl)
theorem dX3_scales_12 : decode cX3_scales 12 = .ok (.iconst 0, 1) := dk_3 (dk_at dksX3_scales_0 12 rfl rfl)
theorem dX3_scales_13 : decode cX3_scales 13 = .ok (.sipush 2000, 3) := dk_17 7 208 (dk_at dksX3_scales_0 13 rfl rfl)
theorem dX3_scales_16 : decode cX3_scales 16 = .ok (.invokestatic 32, 3) := dk_184 0 32 (dk_at dksX3_scales_0 16 rfl rfl)
theorem dX3_scales_19 : decode cX3_scales 19 = .ok (.ifCond .ne 6, 3) := dk_154 0 6 (dk_at dksX3_scales_0 19 rfl rfl)
theorem dX3_scales_22 : decode cX3_scales 22 = .ok (.ldc 40, 2) := dk_18 40 (dk_at dksX3_scales_0 22 rfl rfl)
theorem dX3_scales_24 : decode cX3_scales 24 = .ok (.ireturn, 1) := dk_172 (dk_at dksX3_scales_1 0 rfl rfl)
theorem dX3_scales_25 : decode cX3_scales 25 = .ok (.aload_n 0, 1) := dk_42 (dk_at dksX3_scales_1 1 rfl rfl)
theorem dX3_scales_26 : decode cX3_scales 26 = .ok (.getfield 7, 3) := dk_180 0 7 (dk_at dksX3_scales_1 2 rfl rfl)
theorem dX3_scales_29 : decode cX3_scales 29 = .ok (.bipush 8, 2) := dk_16 8 (dk_at dksX3_scales_1 5 rfl rfl)
theorem dX3_scales_31 : decode cX3_scales 31 = .ok (.iload_n 1, 1) := dk_27 (dk_at dksX3_scales_1 7 rfl rfl)
theorem dX3_scales_32 : decode cX3_scales 32 = .ok (.iastore, 1) := dk_79 (dk_at dksX3_scales_1 8 rfl rfl)
theorem dX3_scales_33 : decode cX3_scales 33 = .ok (.aload_n 0, 1) := dk_42 (dk_at dksX3_scales_1 9 rfl rfl)
theorem dX3_scales_34 : decode cX3_scales 34 = .ok (.getfield 7, 3) := dk_180 0 7 (dk_at dksX3_scales_1 10 rfl rfl)
theorem dX3_scales_37 : decode cX3_scales 37 = .ok (.bipush 9, 2) := dk_16 9 (dk_at dksX3_scales_1 13 rfl rfl)
theorem dX3_scales_39 : decode cX3_scales 39 = .ok (.iload_n 2, 1) := dk_28 (dk_at dksX3_scales_1 15 rfl rfl)
theorem dX3_scales_40 : decode cX3_scales 40 = .ok (.iastore, 1) := dk_79 (dk_at dksX3_scales_1 16 rfl rfl)
theorem dX3_scales_41 : decode cX3_scales 41 = .ok (.aload_n 0, 1) := dk_42 (dk_at dksX3_scales_1 17 rfl rfl)
theorem dX3_scales_42 : decode cX3_scales 42 = .ok (.getfield 7, 3) := dk_180 0 7 (dk_at dksX3_scales_1 18 rfl rfl)
theorem dX3_scales_45 : decode cX3_scales 45 = .ok (.bipush 10, 2) := dk_16 10 (dk_at dksX3_scales_1 21 rfl rfl)
theorem dX3_scales_47 : decode cX3_scales 47 = .ok (.aload_n 0, 1) := dk_42 (dk_at dksX3_scales_1 23 rfl rfl)
theorem dX3_scales_48 : decode cX3_scales 48 = .ok (.getfield 7, 3) := dk_180 0 7 (dk_at dksX3_scales_2 0 rfl rfl)
theorem dX3_scales_51 : decode cX3_scales 51 = .ok (.bipush 10, 2) := dk_16 10 (dk_at dksX3_scales_2 3 rfl rfl)
theorem dX3_scales_53 : decode cX3_scales 53 = .ok (.iaload, 1) := dk_46 (dk_at dksX3_scales_2 5 rfl rfl)
theorem dX3_scales_54 : decode cX3_scales 54 = .ok (.iload_n 2, 1) := dk_28 (dk_at dksX3_scales_2 6 rfl rfl)
theorem dX3_scales_55 : decode cX3_scales 55 = .ok (.if_icmp .le 7, 3) := dk_164 0 7 (dk_at dksX3_scales_2 7 rfl rfl)
theorem dX3_scales_58 : decode cX3_scales 58 = .ok (.iload_n 2, 1) := dk_28 (dk_at dksX3_scales_2 10 rfl rfl)
theorem dX3_scales_59 : decode cX3_scales 59 = .ok (.goto 27, 3) := dk_167 0 27 (dk_at dksX3_scales_2 11 rfl rfl)
theorem dX3_scales_62 : decode cX3_scales 62 = .ok (.aload_n 0, 1) := dk_42 (dk_at dksX3_scales_2 14 rfl rfl)
theorem dX3_scales_63 : decode cX3_scales 63 = .ok (.getfield 7, 3) := dk_180 0 7 (dk_at dksX3_scales_2 15 rfl rfl)
theorem dX3_scales_66 : decode cX3_scales 66 = .ok (.bipush 10, 2) := dk_16 10 (dk_at dksX3_scales_2 18 rfl rfl)
theorem dX3_scales_68 : decode cX3_scales 68 = .ok (.iaload, 1) := dk_46 (dk_at dksX3_scales_2 20 rfl rfl)
theorem dX3_scales_69 : decode cX3_scales 69 = .ok (.iload_n 2, 1) := dk_28 (dk_at dksX3_scales_2 21 rfl rfl)
theorem dX3_scales_70 : decode cX3_scales 70 = .ok (.ineg, 1) := dk_116 (dk_at dksX3_scales_2 22 rfl rfl)
theorem dX3_scales_71 : decode cX3_scales 71 = .ok (.if_icmp .ge 8, 3) := dk_162 0 8 (dk_at dksX3_scales_3 0 rfl rfl)
theorem dX3_scales_74 : decode cX3_scales 74 = .ok (.iload_n 2, 1) := dk_28 (dk_at dksX3_scales_3 3 rfl rfl)
theorem dX3_scales_75 : decode cX3_scales 75 = .ok (.ineg, 1) := dk_116 (dk_at dksX3_scales_3 4 rfl rfl)
theorem dX3_scales_76 : decode cX3_scales 76 = .ok (.goto 10, 3) := dk_167 0 10 (dk_at dksX3_scales_3 5 rfl rfl)
theorem dX3_scales_79 : decode cX3_scales 79 = .ok (.aload_n 0, 1) := dk_42 (dk_at dksX3_scales_3 8 rfl rfl)
theorem dX3_scales_80 : decode cX3_scales 80 = .ok (.getfield 7, 3) := dk_180 0 7 (dk_at dksX3_scales_3 9 rfl rfl)
theorem dX3_scales_83 : decode cX3_scales 83 = .ok (.bipush 10, 2) := dk_16 10 (dk_at dksX3_scales_3 12 rfl rfl)
theorem dX3_scales_85 : decode cX3_scales 85 = .ok (.iaload, 1) := dk_46 (dk_at dksX3_scales_3 14 rfl rfl)
theorem dX3_scales_86 : decode cX3_scales 86 = .ok (.iastore, 1) := dk_79 (dk_at dksX3_scales_3 15 rfl rfl)
theorem dX3_scales_87 : decode cX3_scales 87 = .ok (.aload_n 0, 1) := dk_42 (dk_at dksX3_scales_3 16 rfl rfl)
theorem dX3_scales_88 : decode cX3_scales 88 = .ok (.getfield 7, 3) := dk_180 0 7 (dk_at dksX3_scales_3 17 rfl rfl)
theorem dX3_scales_91 : decode cX3_scales 91 = .ok (.bipush 10, 2) := dk_16 10 (dk_at dksX3_scales_3 20 rfl rfl)
theorem dX3_scales_93 : decode cX3_scales 93 = .ok (.iaload, 1) := dk_46 (dk_at dksX3_scales_3 22 rfl rfl)
theorem dX3_scales_94 : decode cX3_scales 94 = .ok (.ireturn, 1) := dk_172 (dk_at dksX3_scales_3 23 rfl rfl)
abbrev cX3_setBias : ByteArray := prog_21_method_22_code
def yX3_setBias : MethodName := ⟨RX3, "setBias", "(I)I"⟩
def dkwX3_setBias_1 : List UInt8 := [182, 0, 85, 182, 0, 79, 172]
abbrev dktX3_setBias_1 : List UInt8 := dkwX3_setBias_1 ++ []
def dkwX3_setBias_0 : List UInt8 := [42, 182, 0, 72, 42, 42, 16, 10, 27, 42, 180, 0, 7, 16, 9, 46, 116, 42, 180, 0, 7, 16, 9, 46]
abbrev dktX3_setBias_0 : List UInt8 := dkwX3_setBias_0 ++ dktX3_setBias_1
theorem dksX3_setBias_0 : cX3_setBias.data.toList.drop 0 = dktX3_setBias_0 := by decide +kernel
theorem dksX3_setBias_1 : cX3_setBias.data.toList.drop 24 = dktX3_setBias_1 := dk_seg dksX3_setBias_0 24 rfl rfl
theorem dX3_setBias_0 : decode cX3_setBias 0 = .ok (.aload_n 0, 1) := dk_42 (dk_at dksX3_setBias_0 0 rfl rfl)
theorem dX3_setBias_1 : decode cX3_setBias 1 = .ok (.invokevirtual 72, 3) := dk_182 0 72 (dk_at dksX3_setBias_0 1 rfl rfl)
theorem dX3_setBias_4 : decode cX3_setBias 4 = .ok (.aload_n 0, 1) := dk_42 (dk_at dksX3_setBias_0 4 rfl rfl)
theorem dX3_setBias_5 : decode cX3_setBias 5 = .ok (.aload_n 0, 1) := dk_42 (dk_at dksX3_setBias_0 5 rfl rfl)
theorem dX3_setBias_6 : decode cX3_setBias 6 = .ok (.bipush 10, 2) := dk_16 10 (dk_at dksX3_setBias_0 6 rfl rfl)
theorem dX3_setBias_8 : decode cX3_setBias 8 = .ok (.iload_n 1, 1) := dk_27 (dk_at dksX3_setBias_0 8 rfl rfl)
theorem dX3_setBias_9 : decode cX3_setBias 9 = .ok (.aload_n 0, 1) := dk_42 (dk_at dksX3_setBias_0 9 rfl rfl)
theorem dX3_setBias_10 : decode cX3_setBias 10 = .ok (.getfield 7, 3) := dk_180 0 7 (dk_at dksX3_setBias_0 10 rfl rfl)
theorem dX3_setBias_13 : decode cX3_setBias 13 = .ok (.bipush 9, 2) := dk_16 9 (dk_at dksX3_setBias_0 13 rfl rfl)
theorem dX3_setBias_15 : decode cX3_setBias 15 = .ok (.iaload, 1) := dk_46 (dk_at dksX3_setBias_0 15 rfl rfl)
theorem dX3_setBias_16 : decode cX3_setBias 16 = .ok (.ineg, 1) := dk_116 (dk_at dksX3_setBias_0 16 rfl rfl)
theorem dX3_setBias_17 : decode cX3_setBias 17 = .ok (.aload_n 0, 1) := dk_42 (dk_at dksX3_setBias_0 17 rfl rfl)
theorem dX3_setBias_18 : decode cX3_setBias 18 = .ok (.getfield 7, 3) := dk_180 0 7 (dk_at dksX3_setBias_0 18 rfl rfl)
theorem dX3_setBias_21 : decode cX3_setBias 21 = .ok (.bipush 9, 2) := dk_16 9 (dk_at dksX3_setBias_0 21 rfl rfl)
theorem dX3_setBias_23 : decode cX3_setBias 23 = .ok (.iaload, 1) := dk_46 (dk_at dksX3_setBias_0 23 rfl rfl)
theorem dX3_setBias_24 : decode cX3_setBias 24 = .ok (.invokevirtual 85, 3) := dk_182 0 85 (dk_at dksX3_setBias_1 0 rfl rfl)
theorem dX3_setBias_27 : decode cX3_setBias 27 = .ok (.invokevirtual 79, 3) := dk_182 0 79 (dk_at dksX3_setBias_1 3 rfl rfl)
theorem dX3_setBias_30 : decode cX3_setBias 30 = .ok (.ireturn, 1) := dk_172 (dk_at dksX3_setBias_1 6 rfl rfl)
abbrev cX3_sets : ByteArray := prog_21_method_21_code
def yX3_sets : MethodName := ⟨RX3, "sets", "(IIII)I"⟩
def dkwX3_sets_1 : List UInt8 := [180, 0, 7, 27, 28, 79, 21, 5, 172]
abbrev dktX3_sets_1 : List UInt8 := dkwX3_sets_1 ++ []
def dkwX3_sets_0 : List UInt8 := [28, 29, 21, 4, 184, 0, 32, 154, 0, 6, 18, 40, 172, 42, 180, 0, 7, 27, 46, 54, 5, 42]
abbrev dktX3_sets_0 : List UInt8 := dkwX3_sets_0 ++ dktX3_sets_1
theorem dksX3_sets_0 : cX3_sets.data.toList.drop 0 = dktX3_sets_0 := by decide +kernel
theorem dksX3_sets_1 : cX3_sets.data.toList.drop 22 = dktX3_sets_1 := dk_seg dksX3_sets_0 22 rfl rfl
theorem dX3_sets_0 : decode cX3_sets 0 = .ok (.iload_n 2, 1) := dk_28 (dk_at dksX3_sets_0 0 rfl rfl)
theorem dX3_sets_1 : decode cX3_sets 1 = .ok (.iload_n 3, 1) := dk_29 (dk_at dksX3_sets_0 1 rfl rfl)
theorem dX3_sets_2 : decode cX3_sets 2 = .ok (.iload 4, 2) := dk_21 4 (dk_at dksX3_sets_0 2 rfl rfl)
theorem dX3_sets_4 : decode cX3_sets 4 = .ok (.invokestatic 32, 3) := dk_184 0 32 (dk_at dksX3_sets_0 4 rfl rfl)
theorem dX3_sets_7 : decode cX3_sets 7 = .ok (.ifCond .ne 6, 3) := dk_154 0 6 (dk_at dksX3_sets_0 7 rfl rfl)
theorem dX3_sets_10 : decode cX3_sets 10 = .ok (.ldc 40, 2) := dk_18 40 (dk_at dksX3_sets_0 10 rfl rfl)
theorem dX3_sets_12 : decode cX3_sets 12 = .ok (.ireturn, 1) := dk_172 (dk_at dksX3_sets_0 12 rfl rfl)
theorem dX3_sets_13 : decode cX3_sets 13 = .ok (.aload_n 0, 1) := dk_42 (dk_at dksX3_sets_0 13 rfl rfl)
theorem dX3_sets_14 : decode cX3_sets 14 = .ok (.getfield 7, 3) := dk_180 0 7 (dk_at dksX3_sets_0 14 rfl rfl)
theorem dX3_sets_17 : decode cX3_sets 17 = .ok (.iload_n 1, 1) := dk_27 (dk_at dksX3_sets_0 17 rfl rfl)
theorem dX3_sets_18 : decode cX3_sets 18 = .ok (.iaload, 1) := dk_46 (dk_at dksX3_sets_0 18 rfl rfl)
theorem dX3_sets_19 : decode cX3_sets 19 = .ok (.istore 5, 2) := dk_54 5 (dk_at dksX3_sets_0 19 rfl rfl)
theorem dX3_sets_21 : decode cX3_sets 21 = .ok (.aload_n 0, 1) := dk_42 (dk_at dksX3_sets_0 21 rfl rfl)
theorem dX3_sets_22 : decode cX3_sets 22 = .ok (.getfield 7, 3) := dk_180 0 7 (dk_at dksX3_sets_1 0 rfl rfl)
theorem dX3_sets_25 : decode cX3_sets 25 = .ok (.iload_n 1, 1) := dk_27 (dk_at dksX3_sets_1 3 rfl rfl)
theorem dX3_sets_26 : decode cX3_sets 26 = .ok (.iload_n 2, 1) := dk_28 (dk_at dksX3_sets_1 4 rfl rfl)
theorem dX3_sets_27 : decode cX3_sets 27 = .ok (.iastore, 1) := dk_79 (dk_at dksX3_sets_1 5 rfl rfl)
theorem dX3_sets_28 : decode cX3_sets 28 = .ok (.iload 5, 2) := dk_21 5 (dk_at dksX3_sets_1 6 rfl rfl)
theorem dX3_sets_30 : decode cX3_sets 30 = .ok (.ireturn, 1) := dk_172 (dk_at dksX3_sets_1 8 rfl rfl)
abbrev cX3_setRule : ByteArray := prog_21_method_23_code
def yX3_setRule : MethodName := ⟨RX3, "setRule", "(I)I"⟩
def dkwX3_setRule_0 : List UInt8 := [42, 182, 0, 72, 42, 42, 16, 11, 27, 3, 6, 182, 0, 85, 182, 0, 79, 172]
abbrev dktX3_setRule_0 : List UInt8 := dkwX3_setRule_0 ++ []
theorem dksX3_setRule_0 : cX3_setRule.data.toList.drop 0 = dktX3_setRule_0 := by decide +kernel
theorem dX3_setRule_0 : decode cX3_setRule 0 = .ok (.aload_n 0, 1) := dk_42 (dk_at dksX3_setRule_0 0 rfl rfl)
theorem dX3_setRule_1 : decode cX3_setRule 1 = .ok (.invokevirtual 72, 3) := dk_182 0 72 (dk_at dksX3_setRule_0 1 rfl rfl)
theorem dX3_setRule_4 : decode cX3_setRule 4 = .ok (.aload_n 0, 1) := dk_42 (dk_at dksX3_setRule_0 4 rfl rfl)
theorem dX3_setRule_5 : decode cX3_setRule 5 = .ok (.aload_n 0, 1) := dk_42 (dk_at dksX3_setRule_0 5 rfl rfl)
theorem dX3_setRule_6 : decode cX3_setRule 6 = .ok (.bipush 11, 2) := dk_16 11 (dk_at dksX3_setRule_0 6 rfl rfl)
theorem dX3_setRule_8 : decode cX3_setRule 8 = .ok (.iload_n 1, 1) := dk_27 (dk_at dksX3_setRule_0 8 rfl rfl)
theorem dX3_setRule_9 : decode cX3_setRule 9 = .ok (.iconst 0, 1) := dk_3 (dk_at dksX3_setRule_0 9 rfl rfl)
theorem dX3_setRule_10 : decode cX3_setRule 10 = .ok (.iconst 3, 1) := dk_6 (dk_at dksX3_setRule_0 10 rfl rfl)
theorem dX3_setRule_11 : decode cX3_setRule 11 = .ok (.invokevirtual 85, 3) := dk_182 0 85 (dk_at dksX3_setRule_0 11 rfl rfl)
theorem dX3_setRule_14 : decode cX3_setRule 14 = .ok (.invokevirtual 79, 3) := dk_182 0 79 (dk_at dksX3_setRule_0 14 rfl rfl)
theorem dX3_setRule_17 : decode cX3_setRule 17 = .ok (.ireturn, 1) := dk_172 (dk_at dksX3_setRule_0 17 rfl rfl)
abbrev cX3_setFee : ByteArray := prog_21_method_24_code
def yX3_setFee : MethodName := ⟨RX3, "setFee", "(I)I"⟩
def dkwX3_setFee_0 : List UInt8 := [42, 182, 0, 72, 42, 42, 16, 12, 27, 3, 16, 100, 182, 0, 85, 182, 0, 79, 172]
abbrev dktX3_setFee_0 : List UInt8 := dkwX3_setFee_0 ++ []
theorem dksX3_setFee_0 : cX3_setFee.data.toList.drop 0 = dktX3_setFee_0 := by decide +kernel
theorem dX3_setFee_0 : decode cX3_setFee 0 = .ok (.aload_n 0, 1) := dk_42 (dk_at dksX3_setFee_0 0 rfl rfl)
theorem dX3_setFee_1 : decode cX3_setFee 1 = .ok (.invokevirtual 72, 3) := dk_182 0 72 (dk_at dksX3_setFee_0 1 rfl rfl)
theorem dX3_setFee_4 : decode cX3_setFee 4 = .ok (.aload_n 0, 1) := dk_42 (dk_at dksX3_setFee_0 4 rfl rfl)
theorem dX3_setFee_5 : decode cX3_setFee 5 = .ok (.aload_n 0, 1) := dk_42 (dk_at dksX3_setFee_0 5 rfl rfl)
theorem dX3_setFee_6 : decode cX3_setFee 6 = .ok (.bipush 12, 2) := dk_16 12 (dk_at dksX3_setFee_0 6 rfl rfl)
theorem dX3_setFee_8 : decode cX3_setFee 8 = .ok (.iload_n 1, 1) := dk_27 (dk_at dksX3_setFee_0 8 rfl rfl)
theorem dX3_setFee_9 : decode cX3_setFee 9 = .ok (.iconst 0, 1) := dk_3 (dk_at dksX3_setFee_0 9 rfl rfl)
theorem dX3_setFee_10 : decode cX3_setFee 10 = .ok (.bipush 100, 2) := dk_16 100 (dk_at dksX3_setFee_0 10 rfl rfl)
theorem dX3_setFee_12 : decode cX3_setFee 12 = .ok (.invokevirtual 85, 3) := dk_182 0 85 (dk_at dksX3_setFee_0 12 rfl rfl)
theorem dX3_setFee_15 : decode cX3_setFee 15 = .ok (.invokevirtual 79, 3) := dk_182 0 79 (dk_at dksX3_setFee_0 15 rfl rfl)
theorem dX3_setFee_18 : decode cX3_setFee 18 = .ok (.ireturn, 1) := dk_172 (dk_at dksX3_setFee_0 18 rfl rfl)
abbrev cX3_come : ByteArray := prog_21_method_26_code
def yX3_come : MethodName := ⟨RX3, "come", "(I)I"⟩
def dkwX3_come_0 : List UInt8 := [42, 182, 0, 72, 42, 42, 27, 182, 0, 90, 182, 0, 79, 172]
abbrev dktX3_come_0 : List UInt8 := dkwX3_come_0 ++ []
theorem dksX3_come_0 : cX3_come.data.toList.drop 0 = dktX3_come_0 := by decide +kernel
theorem dX3_come_0 : decode cX3_come 0 = .ok (.aload_n 0, 1) := dk_42 (dk_at dksX3_come_0 0 rfl rfl)
theorem dX3_come_1 : decode cX3_come 1 = .ok (.invokevirtual 72, 3) := dk_182 0 72 (dk_at dksX3_come_0 1 rfl rfl)
theorem dX3_come_4 : decode cX3_come 4 = .ok (.aload_n 0, 1) := dk_42 (dk_at dksX3_come_0 4 rfl rfl)
theorem dX3_come_5 : decode cX3_come 5 = .ok (.aload_n 0, 1) := dk_42 (dk_at dksX3_come_0 5 rfl rfl)
theorem dX3_come_6 : decode cX3_come 6 = .ok (.iload_n 1, 1) := dk_27 (dk_at dksX3_come_0 6 rfl rfl)
theorem dX3_come_7 : decode cX3_come 7 = .ok (.invokevirtual 90, 3) := dk_182 0 90 (dk_at dksX3_come_0 7 rfl rfl)
theorem dX3_come_10 : decode cX3_come 10 = .ok (.invokevirtual 79, 3) := dk_182 0 79 (dk_at dksX3_come_0 10 rfl rfl)
theorem dX3_come_13 : decode cX3_come 13 = .ok (.ireturn, 1) := dk_172 (dk_at dksX3_come_0 13 rfl rfl)
abbrev cX3_comes : ByteArray := prog_21_method_25_code
def yX3_comes : MethodName := ⟨RX3, "comes", "(I)I"⟩
def dkwX3_comes_3 : List UInt8 := [180, 0, 7, 16, 14, 46, 4, 100, 172]
abbrev dktX3_comes_3 : List UInt8 := dkwX3_comes_3 ++ []
def dkwX3_comes_2 : List UInt8 := [28, 27, 79, 42, 180, 0, 7, 28, 4, 96, 3, 79, 42, 180, 0, 7, 16, 14, 92, 46, 4, 96, 79, 42]
abbrev dktX3_comes_2 : List UInt8 := dkwX3_comes_2 ++ dktX3_comes_3
def dkwX3_comes_1 : List UInt8 := [160, 0, 6, 18, 89, 172, 16, 16, 16, 6, 42, 180, 0, 7, 16, 14, 46, 104, 96, 61, 42, 180, 0, 7]
abbrev dktX3_comes_1 : List UInt8 := dkwX3_comes_1 ++ dktX3_comes_2
def dkwX3_comes_0 : List UInt8 := [27, 3, 17, 39, 15, 184, 0, 32, 154, 0, 6, 18, 40, 172, 42, 180, 0, 7, 16, 14, 46, 16, 6]
abbrev dktX3_comes_0 : List UInt8 := dkwX3_comes_0 ++ dktX3_comes_1
theorem dksX3_comes_0 : cX3_comes.data.toList.drop 0 = dktX3_comes_0 := by decide +kernel
theorem dksX3_comes_1 : cX3_comes.data.toList.drop 23 = dktX3_comes_1 := dk_seg dksX3_comes_0 23 rfl rfl
theorem dksX3_comes_2 : cX3_comes.data.toList.drop 47 = dktX3_comes_2 := dk_seg dksX3_comes_1 24 rfl rfl
theorem dksX3_comes_3 : cX3_comes.data.toList.drop 71 = dktX3_comes_3 := dk_seg dksX3_comes_2 24 rfl rfl
theorem dX3_comes_0 : decode cX3_comes 0 = .ok (.iload_n 1, 1) := dk_27 (dk_at dksX3_comes_0 0 rfl rfl)
theorem dX3_comes_1 : decode cX3_comes 1 = .ok (.iconst 0, 1) := dk_3 (dk_at dksX3_comes_0 1 rfl rfl)
theorem dX3_comes_2 : decode cX3_comes 2 = .ok (.sipush 9999, 3) := dk_17 39 15 (dk_at dksX3_comes_0 2 rfl rfl)
theorem dX3_comes_5 : decode cX3_comes 5 = .ok (.invokestatic 32, 3) := dk_184 0 32 (dk_at dksX3_comes_0 5 rfl rfl)
theorem dX3_comes_8 : decode cX3_comes 8 = .ok (.ifCond .ne 6, 3) := dk_154 0 6 (dk_at dksX3_comes_0 8 rfl rfl)
theorem dX3_comes_11 : decode cX3_comes 11 = .ok (.ldc 40, 2) := dk_18 40 (dk_at dksX3_comes_0 11 rfl rfl)
theorem dX3_comes_13 : decode cX3_comes 13 = .ok (.ireturn, 1) := dk_172 (dk_at dksX3_comes_0 13 rfl rfl)
theorem dX3_comes_14 : decode cX3_comes 14 = .ok (.aload_n 0, 1) := dk_42 (dk_at dksX3_comes_0 14 rfl rfl)
theorem dX3_comes_15 : decode cX3_comes 15 = .ok (.getfield 7, 3) := dk_180 0 7 (dk_at dksX3_comes_0 15 rfl rfl)
theorem dX3_comes_18 : decode cX3_comes 18 = .ok (.bipush 14, 2) := dk_16 14 (dk_at dksX3_comes_0 18 rfl rfl)
theorem dX3_comes_20 : decode cX3_comes 20 = .ok (.iaload, 1) := dk_46 (dk_at dksX3_comes_0 20 rfl rfl)
theorem dX3_comes_21 : decode cX3_comes 21 = .ok (.bipush 6, 2) := dk_16 6 (dk_at dksX3_comes_0 21 rfl rfl)
theorem dX3_comes_23 : decode cX3_comes 23 = .ok (.if_icmp .ne 6, 3) := dk_160 0 6 (dk_at dksX3_comes_1 0 rfl rfl)
theorem dX3_comes_26 : decode cX3_comes 26 = .ok (.ldc 89, 2) := dk_18 89 (dk_at dksX3_comes_1 3 rfl rfl)
theorem dX3_comes_28 : decode cX3_comes 28 = .ok (.ireturn, 1) := dk_172 (dk_at dksX3_comes_1 5 rfl rfl)
theorem dX3_comes_29 : decode cX3_comes 29 = .ok (.bipush 16, 2) := dk_16 16 (dk_at dksX3_comes_1 6 rfl rfl)
theorem dX3_comes_31 : decode cX3_comes 31 = .ok (.bipush 6, 2) := dk_16 6 (dk_at dksX3_comes_1 8 rfl rfl)
theorem dX3_comes_33 : decode cX3_comes 33 = .ok (.aload_n 0, 1) := dk_42 (dk_at dksX3_comes_1 10 rfl rfl)
theorem dX3_comes_34 : decode cX3_comes 34 = .ok (.getfield 7, 3) := dk_180 0 7 (dk_at dksX3_comes_1 11 rfl rfl)
theorem dX3_comes_37 : decode cX3_comes 37 = .ok (.bipush 14, 2) := dk_16 14 (dk_at dksX3_comes_1 14 rfl rfl)
theorem dX3_comes_39 : decode cX3_comes 39 = .ok (.iaload, 1) := dk_46 (dk_at dksX3_comes_1 16 rfl rfl)
theorem dX3_comes_40 : decode cX3_comes 40 = .ok (.imul, 1) := dk_104 (dk_at dksX3_comes_1 17 rfl rfl)
theorem dX3_comes_41 : decode cX3_comes 41 = .ok (.iadd, 1) := dk_96 (dk_at dksX3_comes_1 18 rfl rfl)
theorem dX3_comes_42 : decode cX3_comes 42 = .ok (.istore_n 2, 1) := dk_61 (dk_at dksX3_comes_1 19 rfl rfl)
theorem dX3_comes_43 : decode cX3_comes 43 = .ok (.aload_n 0, 1) := dk_42 (dk_at dksX3_comes_1 20 rfl rfl)
theorem dX3_comes_44 : decode cX3_comes 44 = .ok (.getfield 7, 3) := dk_180 0 7 (dk_at dksX3_comes_1 21 rfl rfl)
theorem dX3_comes_47 : decode cX3_comes 47 = .ok (.iload_n 2, 1) := dk_28 (dk_at dksX3_comes_2 0 rfl rfl)
theorem dX3_comes_48 : decode cX3_comes 48 = .ok (.iload_n 1, 1) := dk_27 (dk_at dksX3_comes_2 1 rfl rfl)
theorem dX3_comes_49 : decode cX3_comes 49 = .ok (.iastore, 1) := dk_79 (dk_at dksX3_comes_2 2 rfl rfl)
theorem dX3_comes_50 : decode cX3_comes 50 = .ok (.aload_n 0, 1) := dk_42 (dk_at dksX3_comes_2 3 rfl rfl)
theorem dX3_comes_51 : decode cX3_comes 51 = .ok (.getfield 7, 3) := dk_180 0 7 (dk_at dksX3_comes_2 4 rfl rfl)
theorem dX3_comes_54 : decode cX3_comes 54 = .ok (.iload_n 2, 1) := dk_28 (dk_at dksX3_comes_2 7 rfl rfl)
theorem dX3_comes_55 : decode cX3_comes 55 = .ok (.iconst 1, 1) := dk_4 (dk_at dksX3_comes_2 8 rfl rfl)
theorem dX3_comes_56 : decode cX3_comes 56 = .ok (.iadd, 1) := dk_96 (dk_at dksX3_comes_2 9 rfl rfl)
theorem dX3_comes_57 : decode cX3_comes 57 = .ok (.iconst 0, 1) := dk_3 (dk_at dksX3_comes_2 10 rfl rfl)
theorem dX3_comes_58 : decode cX3_comes 58 = .ok (.iastore, 1) := dk_79 (dk_at dksX3_comes_2 11 rfl rfl)
theorem dX3_comes_59 : decode cX3_comes 59 = .ok (.aload_n 0, 1) := dk_42 (dk_at dksX3_comes_2 12 rfl rfl)
theorem dX3_comes_60 : decode cX3_comes 60 = .ok (.getfield 7, 3) := dk_180 0 7 (dk_at dksX3_comes_2 13 rfl rfl)
theorem dX3_comes_63 : decode cX3_comes 63 = .ok (.bipush 14, 2) := dk_16 14 (dk_at dksX3_comes_2 16 rfl rfl)
theorem dX3_comes_65 : decode cX3_comes 65 = .ok (.dup2, 1) := dk_92 (dk_at dksX3_comes_2 18 rfl rfl)
theorem dX3_comes_66 : decode cX3_comes 66 = .ok (.iaload, 1) := dk_46 (dk_at dksX3_comes_2 19 rfl rfl)
theorem dX3_comes_67 : decode cX3_comes 67 = .ok (.iconst 1, 1) := dk_4 (dk_at dksX3_comes_2 20 rfl rfl)
theorem dX3_comes_68 : decode cX3_comes 68 = .ok (.iadd, 1) := dk_96 (dk_at dksX3_comes_2 21 rfl rfl)
theorem dX3_comes_69 : decode cX3_comes 69 = .ok (.iastore, 1) := dk_79 (dk_at dksX3_comes_2 22 rfl rfl)
theorem dX3_comes_70 : decode cX3_comes 70 = .ok (.aload_n 0, 1) := dk_42 (dk_at dksX3_comes_2 23 rfl rfl)
theorem dX3_comes_71 : decode cX3_comes 71 = .ok (.getfield 7, 3) := dk_180 0 7 (dk_at dksX3_comes_3 0 rfl rfl)
theorem dX3_comes_74 : decode cX3_comes 74 = .ok (.bipush 14, 2) := dk_16 14 (dk_at dksX3_comes_3 3 rfl rfl)
theorem dX3_comes_76 : decode cX3_comes 76 = .ok (.iaload, 1) := dk_46 (dk_at dksX3_comes_3 5 rfl rfl)
theorem dX3_comes_77 : decode cX3_comes 77 = .ok (.iconst 1, 1) := dk_4 (dk_at dksX3_comes_3 6 rfl rfl)
theorem dX3_comes_78 : decode cX3_comes 78 = .ok (.isub, 1) := dk_100 (dk_at dksX3_comes_3 7 rfl rfl)
theorem dX3_comes_79 : decode cX3_comes 79 = .ok (.ireturn, 1) := dk_172 (dk_at dksX3_comes_3 8 rfl rfl)
abbrev cX3_leave : ByteArray := prog_21_method_27_code
def yX3_leave : MethodName := ⟨RX3, "leave", "(I)I"⟩
def dkwX3_leave_3 : List UInt8 := [46, 79, 132, 3, 1, 167, 255, 218, 42, 28, 182, 0, 79, 172]
abbrev dktX3_leave_3 : List UInt8 := dkwX3_leave_3 ++ []
def dkwX3_leave_2 : List UInt8 := [46, 104, 162, 0, 30, 42, 180, 0, 7, 16, 16, 29, 96, 42, 180, 0, 7, 16, 16, 29, 96, 16, 6, 96]
abbrev dktX3_leave_2 : List UInt8 := dkwX3_leave_2 ++ dktX3_leave_3
def dkwX3_leave_1 : List UInt8 := [180, 0, 7, 16, 14, 92, 46, 4, 100, 79, 16, 6, 27, 104, 62, 29, 16, 6, 42, 180, 0, 7, 16, 14]
abbrev dktX3_leave_1 : List UInt8 := dkwX3_leave_1 ++ dktX3_leave_2
def dkwX3_leave_0 : List UInt8 := [42, 27, 182, 0, 93, 154, 0, 6, 18, 40, 172, 42, 182, 0, 72, 42, 27, 3, 182, 0, 96, 61, 42]
abbrev dktX3_leave_0 : List UInt8 := dkwX3_leave_0 ++ dktX3_leave_1
theorem dksX3_leave_0 : cX3_leave.data.toList.drop 0 = dktX3_leave_0 := by decide +kernel
theorem dksX3_leave_1 : cX3_leave.data.toList.drop 23 = dktX3_leave_1 := dk_seg dksX3_leave_0 23 rfl rfl
theorem dksX3_leave_2 : cX3_leave.data.toList.drop 47 = dktX3_leave_2 := dk_seg dksX3_leave_1 24 rfl rfl
theorem dksX3_leave_3 : cX3_leave.data.toList.drop 71 = dktX3_leave_3 := dk_seg dksX3_leave_2 24 rfl rfl
theorem dX3_leave_0 : decode cX3_leave 0 = .ok (.aload_n 0, 1) := dk_42 (dk_at dksX3_leave_0 0 rfl rfl)
theorem dX3_leave_1 : decode cX3_leave 1 = .ok (.iload_n 1, 1) := dk_27 (dk_at dksX3_leave_0 1 rfl rfl)
theorem dX3_leave_2 : decode cX3_leave 2 = .ok (.invokevirtual 93, 3) := dk_182 0 93 (dk_at dksX3_leave_0 2 rfl rfl)
theorem dX3_leave_5 : decode cX3_leave 5 = .ok (.ifCond .ne 6, 3) := dk_154 0 6 (dk_at dksX3_leave_0 5 rfl rfl)
theorem dX3_leave_8 : decode cX3_leave 8 = .ok (.ldc 40, 2) := dk_18 40 (dk_at dksX3_leave_0 8 rfl rfl)
theorem dX3_leave_10 : decode cX3_leave 10 = .ok (.ireturn, 1) := dk_172 (dk_at dksX3_leave_0 10 rfl rfl)
theorem dX3_leave_11 : decode cX3_leave 11 = .ok (.aload_n 0, 1) := dk_42 (dk_at dksX3_leave_0 11 rfl rfl)
theorem dX3_leave_12 : decode cX3_leave 12 = .ok (.invokevirtual 72, 3) := dk_182 0 72 (dk_at dksX3_leave_0 12 rfl rfl)
theorem dX3_leave_15 : decode cX3_leave 15 = .ok (.aload_n 0, 1) := dk_42 (dk_at dksX3_leave_0 15 rfl rfl)
theorem dX3_leave_16 : decode cX3_leave 16 = .ok (.iload_n 1, 1) := dk_27 (dk_at dksX3_leave_0 16 rfl rfl)
theorem dX3_leave_17 : decode cX3_leave 17 = .ok (.iconst 0, 1) := dk_3 (dk_at dksX3_leave_0 17 rfl rfl)
theorem dX3_leave_18 : decode cX3_leave 18 = .ok (.invokevirtual 96, 3) := dk_182 0 96 (dk_at dksX3_leave_0 18 rfl rfl)
theorem dX3_leave_21 : decode cX3_leave 21 = .ok (.istore_n 2, 1) := dk_61 (dk_at dksX3_leave_0 21 rfl rfl)
theorem dX3_leave_22 : decode cX3_leave 22 = .ok (.aload_n 0, 1) := dk_42 (dk_at dksX3_leave_0 22 rfl rfl)
theorem dX3_leave_23 : decode cX3_leave 23 = .ok (.getfield 7, 3) := dk_180 0 7 (dk_at dksX3_leave_1 0 rfl rfl)
theorem dX3_leave_26 : decode cX3_leave 26 = .ok (.bipush 14, 2) := dk_16 14 (dk_at dksX3_leave_1 3 rfl rfl)
theorem dX3_leave_28 : decode cX3_leave 28 = .ok (.dup2, 1) := dk_92 (dk_at dksX3_leave_1 5 rfl rfl)
theorem dX3_leave_29 : decode cX3_leave 29 = .ok (.iaload, 1) := dk_46 (dk_at dksX3_leave_1 6 rfl rfl)
theorem dX3_leave_30 : decode cX3_leave 30 = .ok (.iconst 1, 1) := dk_4 (dk_at dksX3_leave_1 7 rfl rfl)
theorem dX3_leave_31 : decode cX3_leave 31 = .ok (.isub, 1) := dk_100 (dk_at dksX3_leave_1 8 rfl rfl)
theorem dX3_leave_32 : decode cX3_leave 32 = .ok (.iastore, 1) := dk_79 (dk_at dksX3_leave_1 9 rfl rfl)
theorem dX3_leave_33 : decode cX3_leave 33 = .ok (.bipush 6, 2) := dk_16 6 (dk_at dksX3_leave_1 10 rfl rfl)
theorem dX3_leave_35 : decode cX3_leave 35 = .ok (.iload_n 1, 1) := dk_27 (dk_at dksX3_leave_1 12 rfl rfl)
theorem dX3_leave_36 : decode cX3_leave 36 = .ok (.imul, 1) := dk_104 (dk_at dksX3_leave_1 13 rfl rfl)
theorem dX3_leave_37 : decode cX3_leave 37 = .ok (.istore_n 3, 1) := dk_62 (dk_at dksX3_leave_1 14 rfl rfl)
theorem dX3_leave_38 : decode cX3_leave 38 = .ok (.iload_n 3, 1) := dk_29 (dk_at dksX3_leave_1 15 rfl rfl)
theorem dX3_leave_39 : decode cX3_leave 39 = .ok (.bipush 6, 2) := dk_16 6 (dk_at dksX3_leave_1 16 rfl rfl)
theorem dX3_leave_41 : decode cX3_leave 41 = .ok (.aload_n 0, 1) := dk_42 (dk_at dksX3_leave_1 18 rfl rfl)
theorem dX3_leave_42 : decode cX3_leave 42 = .ok (.getfield 7, 3) := dk_180 0 7 (dk_at dksX3_leave_1 19 rfl rfl)
theorem dX3_leave_45 : decode cX3_leave 45 = .ok (.bipush 14, 2) := dk_16 14 (dk_at dksX3_leave_1 22 rfl rfl)
theorem dX3_leave_47 : decode cX3_leave 47 = .ok (.iaload, 1) := dk_46 (dk_at dksX3_leave_2 0 rfl rfl)
theorem dX3_leave_48 : decode cX3_leave 48 = .ok (.imul, 1) := dk_104 (dk_at dksX3_leave_2 1 rfl rfl)
theorem dX3_leave_49 : decode cX3_leave 49 = .ok (.if_icmp .ge 30, 3) := dk_162 0 30 (dk_at dksX3_leave_2 2 rfl rfl)
theorem dX3_leave_52 : decode cX3_leave 52 = .ok (.aload_n 0, 1) := dk_42 (dk_at dksX3_leave_2 5 rfl rfl)
theorem dX3_leave_53 : decode cX3_leave 53 = .ok (.getfield 7, 3) := dk_180 0 7 (dk_at dksX3_leave_2 6 rfl rfl)
theorem dX3_leave_56 : decode cX3_leave 56 = .ok (.bipush 16, 2) := dk_16 16 (dk_at dksX3_leave_2 9 rfl rfl)
theorem dX3_leave_58 : decode cX3_leave 58 = .ok (.iload_n 3, 1) := dk_29 (dk_at dksX3_leave_2 11 rfl rfl)
theorem dX3_leave_59 : decode cX3_leave 59 = .ok (.iadd, 1) := dk_96 (dk_at dksX3_leave_2 12 rfl rfl)
theorem dX3_leave_60 : decode cX3_leave 60 = .ok (.aload_n 0, 1) := dk_42 (dk_at dksX3_leave_2 13 rfl rfl)
theorem dX3_leave_61 : decode cX3_leave 61 = .ok (.getfield 7, 3) := dk_180 0 7 (dk_at dksX3_leave_2 14 rfl rfl)
theorem dX3_leave_64 : decode cX3_leave 64 = .ok (.bipush 16, 2) := dk_16 16 (dk_at dksX3_leave_2 17 rfl rfl)
theorem dX3_leave_66 : decode cX3_leave 66 = .ok (.iload_n 3, 1) := dk_29 (dk_at dksX3_leave_2 19 rfl rfl)
theorem dX3_leave_67 : decode cX3_leave 67 = .ok (.iadd, 1) := dk_96 (dk_at dksX3_leave_2 20 rfl rfl)
theorem dX3_leave_68 : decode cX3_leave 68 = .ok (.bipush 6, 2) := dk_16 6 (dk_at dksX3_leave_2 21 rfl rfl)
theorem dX3_leave_70 : decode cX3_leave 70 = .ok (.iadd, 1) := dk_96 (dk_at dksX3_leave_2 23 rfl rfl)
theorem dX3_leave_71 : decode cX3_leave 71 = .ok (.iaload, 1) := dk_46 (dk_at dksX3_leave_3 0 rfl rfl)
theorem dX3_leave_72 : decode cX3_leave 72 = .ok (.iastore, 1) := dk_79 (dk_at dksX3_leave_3 1 rfl rfl)
theorem dX3_leave_73 : decode cX3_leave 73 = .ok (.iinc 3 1, 3) := dk_132 3 1 (dk_at dksX3_leave_3 2 rfl rfl)
theorem dX3_leave_76 : decode cX3_leave 76 = .ok (.goto (-38), 3) := dk_167 255 218 (dk_at dksX3_leave_3 5 rfl rfl)
theorem dX3_leave_79 : decode cX3_leave 79 = .ok (.aload_n 0, 1) := dk_42 (dk_at dksX3_leave_3 8 rfl rfl)
theorem dX3_leave_80 : decode cX3_leave 80 = .ok (.iload_n 2, 1) := dk_28 (dk_at dksX3_leave_3 9 rfl rfl)
theorem dX3_leave_81 : decode cX3_leave 81 = .ok (.invokevirtual 79, 3) := dk_182 0 79 (dk_at dksX3_leave_3 10 rfl rfl)
theorem dX3_leave_84 : decode cX3_leave 84 = .ok (.ireturn, 1) := dk_172 (dk_at dksX3_leave_3 13 rfl rfl)
abbrev cX3_isCustomer : ByteArray := prog_21_method_3_code
def yX3_isCustomer : MethodName := ⟨RX3, "isCustomer", "(I)Z"⟩
def dkwX3_isCustomer_0 : List UInt8 := [27, 3, 42, 180, 0, 7, 16, 14, 46, 4, 100, 184, 0, 32, 172]
abbrev dktX3_isCustomer_0 : List UInt8 := dkwX3_isCustomer_0 ++ []
theorem dksX3_isCustomer_0 : cX3_isCustomer.data.toList.drop 0 = dktX3_isCustomer_0 := by decide +kernel
theorem dX3_isCustomer_0 : decode cX3_isCustomer 0 = .ok (.iload_n 1, 1) := dk_27 (dk_at dksX3_isCustomer_0 0 rfl rfl)
theorem dX3_isCustomer_1 : decode cX3_isCustomer 1 = .ok (.iconst 0, 1) := dk_3 (dk_at dksX3_isCustomer_0 1 rfl rfl)
theorem dX3_isCustomer_2 : decode cX3_isCustomer 2 = .ok (.aload_n 0, 1) := dk_42 (dk_at dksX3_isCustomer_0 2 rfl rfl)
theorem dX3_isCustomer_3 : decode cX3_isCustomer 3 = .ok (.getfield 7, 3) := dk_180 0 7 (dk_at dksX3_isCustomer_0 3 rfl rfl)
theorem dX3_isCustomer_6 : decode cX3_isCustomer 6 = .ok (.bipush 14, 2) := dk_16 14 (dk_at dksX3_isCustomer_0 6 rfl rfl)
theorem dX3_isCustomer_8 : decode cX3_isCustomer 8 = .ok (.iaload, 1) := dk_46 (dk_at dksX3_isCustomer_0 8 rfl rfl)
theorem dX3_isCustomer_9 : decode cX3_isCustomer 9 = .ok (.iconst 1, 1) := dk_4 (dk_at dksX3_isCustomer_0 9 rfl rfl)
theorem dX3_isCustomer_10 : decode cX3_isCustomer 10 = .ok (.isub, 1) := dk_100 (dk_at dksX3_isCustomer_0 10 rfl rfl)
theorem dX3_isCustomer_11 : decode cX3_isCustomer 11 = .ok (.invokestatic 32, 3) := dk_184 0 32 (dk_at dksX3_isCustomer_0 11 rfl rfl)
theorem dX3_isCustomer_14 : decode cX3_isCustomer 14 = .ok (.ireturn, 1) := dk_172 (dk_at dksX3_isCustomer_0 14 rfl rfl)
abbrev cX3_of : ByteArray := prog_21_method_6_code
def yX3_of : MethodName := ⟨RX3, "of", "(II)I"⟩
def dkwX3_of_0 : List UInt8 := [42, 180, 0, 7, 16, 16, 16, 6, 27, 104, 96, 28, 96, 46, 172]
abbrev dktX3_of_0 : List UInt8 := dkwX3_of_0 ++ []
theorem dksX3_of_0 : cX3_of.data.toList.drop 0 = dktX3_of_0 := by decide +kernel
theorem dX3_of_0 : decode cX3_of 0 = .ok (.aload_n 0, 1) := dk_42 (dk_at dksX3_of_0 0 rfl rfl)
theorem dX3_of_1 : decode cX3_of 1 = .ok (.getfield 7, 3) := dk_180 0 7 (dk_at dksX3_of_0 1 rfl rfl)
theorem dX3_of_4 : decode cX3_of 4 = .ok (.bipush 16, 2) := dk_16 16 (dk_at dksX3_of_0 4 rfl rfl)
theorem dX3_of_6 : decode cX3_of 6 = .ok (.bipush 6, 2) := dk_16 6 (dk_at dksX3_of_0 6 rfl rfl)
theorem dX3_of_8 : decode cX3_of 8 = .ok (.iload_n 1, 1) := dk_27 (dk_at dksX3_of_0 8 rfl rfl)
theorem dX3_of_9 : decode cX3_of 9 = .ok (.imul, 1) := dk_104 (dk_at dksX3_of_0 9 rfl rfl)
theorem dX3_of_10 : decode cX3_of 10 = .ok (.iadd, 1) := dk_96 (dk_at dksX3_of_0 10 rfl rfl)
theorem dX3_of_11 : decode cX3_of 11 = .ok (.iload_n 2, 1) := dk_28 (dk_at dksX3_of_0 11 rfl rfl)
theorem dX3_of_12 : decode cX3_of 12 = .ok (.iadd, 1) := dk_96 (dk_at dksX3_of_0 12 rfl rfl)
theorem dX3_of_13 : decode cX3_of 13 = .ok (.iaload, 1) := dk_46 (dk_at dksX3_of_0 13 rfl rfl)
theorem dX3_of_14 : decode cX3_of 14 = .ok (.ireturn, 1) := dk_172 (dk_at dksX3_of_0 14 rfl rfl)
abbrev cX3_weigh : ByteArray := prog_21_method_29_code
def yX3_weigh : MethodName := ⟨RX3, "weigh", "(IIII)I"⟩
def dkwX3_weigh_0 : List UInt8 := [42, 182, 0, 72, 42, 42, 27, 28, 29, 21, 4, 182, 0, 105, 182, 0, 79, 172]
abbrev dktX3_weigh_0 : List UInt8 := dkwX3_weigh_0 ++ []
theorem dksX3_weigh_0 : cX3_weigh.data.toList.drop 0 = dktX3_weigh_0 := by decide +kernel
theorem dX3_weigh_0 : decode cX3_weigh 0 = .ok (.aload_n 0, 1) := dk_42 (dk_at dksX3_weigh_0 0 rfl rfl)
theorem dX3_weigh_1 : decode cX3_weigh 1 = .ok (.invokevirtual 72, 3) := dk_182 0 72 (dk_at dksX3_weigh_0 1 rfl rfl)
theorem dX3_weigh_4 : decode cX3_weigh 4 = .ok (.aload_n 0, 1) := dk_42 (dk_at dksX3_weigh_0 4 rfl rfl)
theorem dX3_weigh_5 : decode cX3_weigh 5 = .ok (.aload_n 0, 1) := dk_42 (dk_at dksX3_weigh_0 5 rfl rfl)
theorem dX3_weigh_6 : decode cX3_weigh 6 = .ok (.iload_n 1, 1) := dk_27 (dk_at dksX3_weigh_0 6 rfl rfl)
theorem dX3_weigh_7 : decode cX3_weigh 7 = .ok (.iload_n 2, 1) := dk_28 (dk_at dksX3_weigh_0 7 rfl rfl)
theorem dX3_weigh_8 : decode cX3_weigh 8 = .ok (.iload_n 3, 1) := dk_29 (dk_at dksX3_weigh_0 8 rfl rfl)
theorem dX3_weigh_9 : decode cX3_weigh 9 = .ok (.iload 4, 2) := dk_21 4 (dk_at dksX3_weigh_0 9 rfl rfl)
theorem dX3_weigh_11 : decode cX3_weigh 11 = .ok (.invokevirtual 105, 3) := dk_182 0 105 (dk_at dksX3_weigh_0 11 rfl rfl)
theorem dX3_weigh_14 : decode cX3_weigh 14 = .ok (.invokevirtual 79, 3) := dk_182 0 79 (dk_at dksX3_weigh_0 14 rfl rfl)
theorem dX3_weigh_17 : decode cX3_weigh 17 = .ok (.ireturn, 1) := dk_172 (dk_at dksX3_weigh_0 17 rfl rfl)
abbrev cX3_weighs : ByteArray := prog_21_method_28_code
def yX3_weighs : MethodName := ⟨RX3, "weighs", "(IIII)I"⟩
def dkwX3_weighs_8 : List UInt8 := [96, 79, 21, 6, 172]
abbrev dktX3_weighs_8 : List UInt8 := dkwX3_weighs_8 ++ []
def dkwX3_weighs_7 : List UInt8 := [79, 42, 180, 0, 7, 21, 7, 8, 96, 21, 6, 79, 42, 180, 0, 7, 16, 13, 92, 46, 21, 6, 29, 100]
abbrev dktX3_weighs_7 : List UInt8 := dkwX3_weighs_7 ++ dktX3_weighs_8
def dkwX3_weighs_6 : List UInt8 := [5, 96, 28, 79, 42, 180, 0, 7, 21, 7, 6, 96, 29, 79, 42, 180, 0, 7, 21, 7, 7, 96, 21, 5]
abbrev dktX3_weighs_6 : List UInt8 := dkwX3_weighs_6 ++ dktX3_weighs_7
def dkwX3_weighs_5 : List UInt8 := [21, 7, 92, 46, 21, 6, 96, 79, 42, 180, 0, 7, 21, 7, 4, 96, 4, 79, 42, 180, 0, 7, 21, 7]
abbrev dktX3_weighs_5 : List UInt8 := dkwX3_weighs_5 ++ dktX3_weighs_6
def dkwX3_weighs_4 : List UInt8 := [180, 0, 7, 16, 11, 46, 182, 0, 102, 54, 6, 16, 16, 16, 6, 27, 104, 96, 54, 7, 42, 180, 0, 7]
abbrev dktX3_weighs_4 : List UInt8 := dkwX3_weighs_4 ++ dktX3_weighs_5
def dkwX3_weighs_3 : List UInt8 := [180, 0, 7, 16, 10, 46, 96, 42, 180, 0, 7, 16, 8, 46, 182, 0, 99, 54, 5, 42, 21, 5, 28, 42]
abbrev dktX3_weighs_3 : List UInt8 := dkwX3_weighs_3 ++ dktX3_weighs_4
def dkwX3_weighs_2 : List UInt8 := [46, 104, 184, 0, 32, 154, 0, 6, 18, 40, 172, 42, 29, 42, 180, 0, 7, 28, 46, 104, 21, 4, 96, 42]
abbrev dktX3_weighs_2 : List UInt8 := dkwX3_weighs_2 ++ dktX3_weighs_3
def dkwX3_weighs_1 : List UInt8 := [153, 0, 32, 21, 4, 29, 116, 42, 180, 0, 7, 7, 28, 96, 46, 104, 29, 42, 180, 0, 7, 7, 28, 96]
abbrev dktX3_weighs_1 : List UInt8 := dkwX3_weighs_1 ++ dktX3_weighs_2
def dkwX3_weighs_0 : List UInt8 := [42, 27, 182, 0, 93, 153, 0, 50, 28, 184, 0, 68, 153, 0, 43, 29, 4, 17, 1, 244, 184, 0, 32]
abbrev dktX3_weighs_0 : List UInt8 := dkwX3_weighs_0 ++ dktX3_weighs_1
theorem dksX3_weighs_0 : cX3_weighs.data.toList.drop 0 = dktX3_weighs_0 := by decide +kernel
theorem dksX3_weighs_1 : cX3_weighs.data.toList.drop 23 = dktX3_weighs_1 := dk_seg dksX3_weighs_0 23 rfl rfl
theorem dksX3_weighs_2 : cX3_weighs.data.toList.drop 47 = dktX3_weighs_2 := dk_seg dksX3_weighs_1 24 rfl rfl
theorem dksX3_weighs_3 : cX3_weighs.data.toList.drop 71 = dktX3_weighs_3 := dk_seg dksX3_weighs_2 24 rfl rfl
theorem dksX3_weighs_4 : cX3_weighs.data.toList.drop 95 = dktX3_weighs_4 := dk_seg dksX3_weighs_3 24 rfl rfl
theorem dksX3_weighs_5 : cX3_weighs.data.toList.drop 119 = dktX3_weighs_5 := dk_seg dksX3_weighs_4 24 rfl rfl
theorem dksX3_weighs_6 : cX3_weighs.data.toList.drop 143 = dktX3_weighs_6 := dk_seg dksX3_weighs_5 24 rfl rfl
theorem dksX3_weighs_7 : cX3_weighs.data.toList.drop 167 = dktX3_weighs_7 := dk_seg dksX3_weighs_6 24 rfl rfl
theorem dksX3_weighs_8 : cX3_weighs.data.toList.drop 191 = dktX3_weighs_8 := dk_seg dksX3_weighs_7 24 rfl rfl
theorem dX3_weighs_0 : decode cX3_weighs 0 = .ok (.aload_n 0, 1) := dk_42 (dk_at dksX3_weighs_0 0 rfl rfl)
theorem dX3_weighs_1 : decode cX3_weighs 1 = .ok (.iload_n 1, 1) := dk_27 (dk_at dksX3_weighs_0 1 rfl rfl)
theorem dX3_weighs_2 : decode cX3_weighs 2 = .ok (.invokevirtual 93, 3) := dk_182 0 93 (dk_at dksX3_weighs_0 2 rfl rfl)
theorem dX3_weighs_5 : decode cX3_weighs 5 = .ok (.ifCond .eq 50, 3) := dk_153 0 50 (dk_at dksX3_weighs_0 5 rfl rfl)
theorem dX3_weighs_8 : decode cX3_weighs 8 = .ok (.iload_n 2, 1) := dk_28 (dk_at dksX3_weighs_0 8 rfl rfl)
theorem dX3_weighs_9 : decode cX3_weighs 9 = .ok (.invokestatic 68, 3) := dk_184 0 68 (dk_at dksX3_weighs_0 9 rfl rfl)
theorem dX3_weighs_12 : decode cX3_weighs 12 = .ok (.ifCond .eq 43, 3) := dk_153 0 43 (dk_at dksX3_weighs_0 12 rfl rfl)
theorem dX3_weighs_15 : decode cX3_weighs 15 = .ok (.iload_n 3, 1) := dk_29 (dk_at dksX3_weighs_0 15 rfl rfl)
theorem dX3_weighs_16 : decode cX3_weighs 16 = .ok (.iconst 1, 1) := dk_4 (dk_at dksX3_weighs_0 16 rfl rfl)
theorem dX3_weighs_17 : decode cX3_weighs 17 = .ok (.sipush 500, 3) := dk_17 1 244 (dk_at dksX3_weighs_0 17 rfl rfl)
theorem dX3_weighs_20 : decode cX3_weighs 20 = .ok (.invokestatic 32, 3) := dk_184 0 32 (dk_at dksX3_weighs_0 20 rfl rfl)
theorem dX3_weighs_23 : decode cX3_weighs 23 = .ok (.ifCond .eq 32, 3) := dk_153 0 32 (dk_at dksX3_weighs_1 0 rfl rfl)
theorem dX3_weighs_26 : decode cX3_weighs 26 = .ok (.iload 4, 2) := dk_21 4 (dk_at dksX3_weighs_1 3 rfl rfl)
theorem dX3_weighs_28 : decode cX3_weighs 28 = .ok (.iload_n 3, 1) := dk_29 (dk_at dksX3_weighs_1 5 rfl rfl)
theorem dX3_weighs_29 : decode cX3_weighs 29 = .ok (.ineg, 1) := dk_116 (dk_at dksX3_weighs_1 6 rfl rfl)
theorem dX3_weighs_30 : decode cX3_weighs 30 = .ok (.aload_n 0, 1) := dk_42 (dk_at dksX3_weighs_1 7 rfl rfl)
theorem dX3_weighs_31 : decode cX3_weighs 31 = .ok (.getfield 7, 3) := dk_180 0 7 (dk_at dksX3_weighs_1 8 rfl rfl)
theorem dX3_weighs_34 : decode cX3_weighs 34 = .ok (.iconst 4, 1) := dk_7 (dk_at dksX3_weighs_1 11 rfl rfl)
theorem dX3_weighs_35 : decode cX3_weighs 35 = .ok (.iload_n 2, 1) := dk_28 (dk_at dksX3_weighs_1 12 rfl rfl)
theorem dX3_weighs_36 : decode cX3_weighs 36 = .ok (.iadd, 1) := dk_96 (dk_at dksX3_weighs_1 13 rfl rfl)
theorem dX3_weighs_37 : decode cX3_weighs 37 = .ok (.iaload, 1) := dk_46 (dk_at dksX3_weighs_1 14 rfl rfl)
theorem dX3_weighs_38 : decode cX3_weighs 38 = .ok (.imul, 1) := dk_104 (dk_at dksX3_weighs_1 15 rfl rfl)
theorem dX3_weighs_39 : decode cX3_weighs 39 = .ok (.iload_n 3, 1) := dk_29 (dk_at dksX3_weighs_1 16 rfl rfl)
theorem dX3_weighs_40 : decode cX3_weighs 40 = .ok (.aload_n 0, 1) := dk_42 (dk_at dksX3_weighs_1 17 rfl rfl)
theorem dX3_weighs_41 : decode cX3_weighs 41 = .ok (.getfield 7, 3) := dk_180 0 7 (dk_at dksX3_weighs_1 18 rfl rfl)
theorem dX3_weighs_44 : decode cX3_weighs 44 = .ok (.iconst 4, 1) := dk_7 (dk_at dksX3_weighs_1 21 rfl rfl)
theorem dX3_weighs_45 : decode cX3_weighs 45 = .ok (.iload_n 2, 1) := dk_28 (dk_at dksX3_weighs_1 22 rfl rfl)
theorem dX3_weighs_46 : decode cX3_weighs 46 = .ok (.iadd, 1) := dk_96 (dk_at dksX3_weighs_1 23 rfl rfl)
theorem dX3_weighs_47 : decode cX3_weighs 47 = .ok (.iaload, 1) := dk_46 (dk_at dksX3_weighs_2 0 rfl rfl)
theorem dX3_weighs_48 : decode cX3_weighs 48 = .ok (.imul, 1) := dk_104 (dk_at dksX3_weighs_2 1 rfl rfl)
theorem dX3_weighs_49 : decode cX3_weighs 49 = .ok (.invokestatic 32, 3) := dk_184 0 32 (dk_at dksX3_weighs_2 2 rfl rfl)
theorem dX3_weighs_52 : decode cX3_weighs 52 = .ok (.ifCond .ne 6, 3) := dk_154 0 6 (dk_at dksX3_weighs_2 5 rfl rfl)
theorem dX3_weighs_55 : decode cX3_weighs 55 = .ok (.ldc 40, 2) := dk_18 40 (dk_at dksX3_weighs_2 8 rfl rfl)
theorem dX3_weighs_57 : decode cX3_weighs 57 = .ok (.ireturn, 1) := dk_172 (dk_at dksX3_weighs_2 10 rfl rfl)
theorem dX3_weighs_58 : decode cX3_weighs 58 = .ok (.aload_n 0, 1) := dk_42 (dk_at dksX3_weighs_2 11 rfl rfl)
theorem dX3_weighs_59 : decode cX3_weighs 59 = .ok (.iload_n 3, 1) := dk_29 (dk_at dksX3_weighs_2 12 rfl rfl)
theorem dX3_weighs_60 : decode cX3_weighs 60 = .ok (.aload_n 0, 1) := dk_42 (dk_at dksX3_weighs_2 13 rfl rfl)
theorem dX3_weighs_61 : decode cX3_weighs 61 = .ok (.getfield 7, 3) := dk_180 0 7 (dk_at dksX3_weighs_2 14 rfl rfl)
theorem dX3_weighs_64 : decode cX3_weighs 64 = .ok (.iload_n 2, 1) := dk_28 (dk_at dksX3_weighs_2 17 rfl rfl)
theorem dX3_weighs_65 : decode cX3_weighs 65 = .ok (.iaload, 1) := dk_46 (dk_at dksX3_weighs_2 18 rfl rfl)
theorem dX3_weighs_66 : decode cX3_weighs 66 = .ok (.imul, 1) := dk_104 (dk_at dksX3_weighs_2 19 rfl rfl)
theorem dX3_weighs_67 : decode cX3_weighs 67 = .ok (.iload 4, 2) := dk_21 4 (dk_at dksX3_weighs_2 20 rfl rfl)
theorem dX3_weighs_69 : decode cX3_weighs 69 = .ok (.iadd, 1) := dk_96 (dk_at dksX3_weighs_2 22 rfl rfl)
theorem dX3_weighs_70 : decode cX3_weighs 70 = .ok (.aload_n 0, 1) := dk_42 (dk_at dksX3_weighs_2 23 rfl rfl)
theorem dX3_weighs_71 : decode cX3_weighs 71 = .ok (.getfield 7, 3) := dk_180 0 7 (dk_at dksX3_weighs_3 0 rfl rfl)
theorem dX3_weighs_74 : decode cX3_weighs 74 = .ok (.bipush 10, 2) := dk_16 10 (dk_at dksX3_weighs_3 3 rfl rfl)
theorem dX3_weighs_76 : decode cX3_weighs 76 = .ok (.iaload, 1) := dk_46 (dk_at dksX3_weighs_3 5 rfl rfl)
theorem dX3_weighs_77 : decode cX3_weighs 77 = .ok (.iadd, 1) := dk_96 (dk_at dksX3_weighs_3 6 rfl rfl)
theorem dX3_weighs_78 : decode cX3_weighs 78 = .ok (.aload_n 0, 1) := dk_42 (dk_at dksX3_weighs_3 7 rfl rfl)
theorem dX3_weighs_79 : decode cX3_weighs 79 = .ok (.getfield 7, 3) := dk_180 0 7 (dk_at dksX3_weighs_3 8 rfl rfl)
theorem dX3_weighs_82 : decode cX3_weighs 82 = .ok (.bipush 8, 2) := dk_16 8 (dk_at dksX3_weighs_3 11 rfl rfl)
theorem dX3_weighs_84 : decode cX3_weighs 84 = .ok (.iaload, 1) := dk_46 (dk_at dksX3_weighs_3 13 rfl rfl)
theorem dX3_weighs_85 : decode cX3_weighs 85 = .ok (.invokevirtual 99, 3) := dk_182 0 99 (dk_at dksX3_weighs_3 14 rfl rfl)
theorem dX3_weighs_88 : decode cX3_weighs 88 = .ok (.istore 5, 2) := dk_54 5 (dk_at dksX3_weighs_3 17 rfl rfl)
theorem dX3_weighs_90 : decode cX3_weighs 90 = .ok (.aload_n 0, 1) := dk_42 (dk_at dksX3_weighs_3 19 rfl rfl)
theorem dX3_weighs_91 : decode cX3_weighs 91 = .ok (.iload 5, 2) := dk_21 5 (dk_at dksX3_weighs_3 20 rfl rfl)
theorem dX3_weighs_93 : decode cX3_weighs 93 = .ok (.iload_n 2, 1) := dk_28 (dk_at dksX3_weighs_3 22 rfl rfl)
theorem dX3_weighs_94 : decode cX3_weighs 94 = .ok (.aload_n 0, 1) := dk_42 (dk_at dksX3_weighs_3 23 rfl rfl)
theorem dX3_weighs_95 : decode cX3_weighs 95 = .ok (.getfield 7, 3) := dk_180 0 7 (dk_at dksX3_weighs_4 0 rfl rfl)
theorem dX3_weighs_98 : decode cX3_weighs 98 = .ok (.bipush 11, 2) := dk_16 11 (dk_at dksX3_weighs_4 3 rfl rfl)
theorem dX3_weighs_100 : decode cX3_weighs 100 = .ok (.iaload, 1) := dk_46 (dk_at dksX3_weighs_4 5 rfl rfl)
theorem dX3_weighs_101 : decode cX3_weighs 101 = .ok (.invokevirtual 102, 3) := dk_182 0 102 (dk_at dksX3_weighs_4 6 rfl rfl)
theorem dX3_weighs_104 : decode cX3_weighs 104 = .ok (.istore 6, 2) := dk_54 6 (dk_at dksX3_weighs_4 9 rfl rfl)
theorem dX3_weighs_106 : decode cX3_weighs 106 = .ok (.bipush 16, 2) := dk_16 16 (dk_at dksX3_weighs_4 11 rfl rfl)
theorem dX3_weighs_108 : decode cX3_weighs 108 = .ok (.bipush 6, 2) := dk_16 6 (dk_at dksX3_weighs_4 13 rfl rfl)
theorem dX3_weighs_110 : decode cX3_weighs 110 = .ok (.iload_n 1, 1) := dk_27 (dk_at dksX3_weighs_4 15 rfl rfl)
theorem dX3_weighs_111 : decode cX3_weighs 111 = .ok (.imul, 1) := dk_104 (dk_at dksX3_weighs_4 16 rfl rfl)
theorem dX3_weighs_112 : decode cX3_weighs 112 = .ok (.iadd, 1) := dk_96 (dk_at dksX3_weighs_4 17 rfl rfl)
theorem dX3_weighs_113 : decode cX3_weighs 113 = .ok (.istore 7, 2) := dk_54 7 (dk_at dksX3_weighs_4 18 rfl rfl)
theorem dX3_weighs_115 : decode cX3_weighs 115 = .ok (.aload_n 0, 1) := dk_42 (dk_at dksX3_weighs_4 20 rfl rfl)
theorem dX3_weighs_116 : decode cX3_weighs 116 = .ok (.getfield 7, 3) := dk_180 0 7 (dk_at dksX3_weighs_4 21 rfl rfl)
theorem dX3_weighs_119 : decode cX3_weighs 119 = .ok (.iload 7, 2) := dk_21 7 (dk_at dksX3_weighs_5 0 rfl rfl)
theorem dX3_weighs_121 : decode cX3_weighs 121 = .ok (.dup2, 1) := dk_92 (dk_at dksX3_weighs_5 2 rfl rfl)
theorem dX3_weighs_122 : decode cX3_weighs 122 = .ok (.iaload, 1) := dk_46 (dk_at dksX3_weighs_5 3 rfl rfl)
theorem dX3_weighs_123 : decode cX3_weighs 123 = .ok (.iload 6, 2) := dk_21 6 (dk_at dksX3_weighs_5 4 rfl rfl)
theorem dX3_weighs_125 : decode cX3_weighs 125 = .ok (.iadd, 1) := dk_96 (dk_at dksX3_weighs_5 6 rfl rfl)
theorem dX3_weighs_126 : decode cX3_weighs 126 = .ok (.iastore, 1) := dk_79 (dk_at dksX3_weighs_5 7 rfl rfl)
theorem dX3_weighs_127 : decode cX3_weighs 127 = .ok (.aload_n 0, 1) := dk_42 (dk_at dksX3_weighs_5 8 rfl rfl)
theorem dX3_weighs_128 : decode cX3_weighs 128 = .ok (.getfield 7, 3) := dk_180 0 7 (dk_at dksX3_weighs_5 9 rfl rfl)
theorem dX3_weighs_131 : decode cX3_weighs 131 = .ok (.iload 7, 2) := dk_21 7 (dk_at dksX3_weighs_5 12 rfl rfl)
theorem dX3_weighs_133 : decode cX3_weighs 133 = .ok (.iconst 1, 1) := dk_4 (dk_at dksX3_weighs_5 14 rfl rfl)
theorem dX3_weighs_134 : decode cX3_weighs 134 = .ok (.iadd, 1) := dk_96 (dk_at dksX3_weighs_5 15 rfl rfl)
theorem dX3_weighs_135 : decode cX3_weighs 135 = .ok (.iconst 1, 1) := dk_4 (dk_at dksX3_weighs_5 16 rfl rfl)
theorem dX3_weighs_136 : decode cX3_weighs 136 = .ok (.iastore, 1) := dk_79 (dk_at dksX3_weighs_5 17 rfl rfl)
theorem dX3_weighs_137 : decode cX3_weighs 137 = .ok (.aload_n 0, 1) := dk_42 (dk_at dksX3_weighs_5 18 rfl rfl)
theorem dX3_weighs_138 : decode cX3_weighs 138 = .ok (.getfield 7, 3) := dk_180 0 7 (dk_at dksX3_weighs_5 19 rfl rfl)
theorem dX3_weighs_141 : decode cX3_weighs 141 = .ok (.iload 7, 2) := dk_21 7 (dk_at dksX3_weighs_5 22 rfl rfl)
theorem dX3_weighs_143 : decode cX3_weighs 143 = .ok (.iconst 2, 1) := dk_5 (dk_at dksX3_weighs_6 0 rfl rfl)
theorem dX3_weighs_144 : decode cX3_weighs 144 = .ok (.iadd, 1) := dk_96 (dk_at dksX3_weighs_6 1 rfl rfl)
theorem dX3_weighs_145 : decode cX3_weighs 145 = .ok (.iload_n 2, 1) := dk_28 (dk_at dksX3_weighs_6 2 rfl rfl)
theorem dX3_weighs_146 : decode cX3_weighs 146 = .ok (.iastore, 1) := dk_79 (dk_at dksX3_weighs_6 3 rfl rfl)
theorem dX3_weighs_147 : decode cX3_weighs 147 = .ok (.aload_n 0, 1) := dk_42 (dk_at dksX3_weighs_6 4 rfl rfl)
theorem dX3_weighs_148 : decode cX3_weighs 148 = .ok (.getfield 7, 3) := dk_180 0 7 (dk_at dksX3_weighs_6 5 rfl rfl)
theorem dX3_weighs_151 : decode cX3_weighs 151 = .ok (.iload 7, 2) := dk_21 7 (dk_at dksX3_weighs_6 8 rfl rfl)
theorem dX3_weighs_153 : decode cX3_weighs 153 = .ok (.iconst 3, 1) := dk_6 (dk_at dksX3_weighs_6 10 rfl rfl)
theorem dX3_weighs_154 : decode cX3_weighs 154 = .ok (.iadd, 1) := dk_96 (dk_at dksX3_weighs_6 11 rfl rfl)
theorem dX3_weighs_155 : decode cX3_weighs 155 = .ok (.iload_n 3, 1) := dk_29 (dk_at dksX3_weighs_6 12 rfl rfl)
theorem dX3_weighs_156 : decode cX3_weighs 156 = .ok (.iastore, 1) := dk_79 (dk_at dksX3_weighs_6 13 rfl rfl)
theorem dX3_weighs_157 : decode cX3_weighs 157 = .ok (.aload_n 0, 1) := dk_42 (dk_at dksX3_weighs_6 14 rfl rfl)
theorem dX3_weighs_158 : decode cX3_weighs 158 = .ok (.getfield 7, 3) := dk_180 0 7 (dk_at dksX3_weighs_6 15 rfl rfl)
theorem dX3_weighs_161 : decode cX3_weighs 161 = .ok (.iload 7, 2) := dk_21 7 (dk_at dksX3_weighs_6 18 rfl rfl)
theorem dX3_weighs_163 : decode cX3_weighs 163 = .ok (.iconst 4, 1) := dk_7 (dk_at dksX3_weighs_6 20 rfl rfl)
theorem dX3_weighs_164 : decode cX3_weighs 164 = .ok (.iadd, 1) := dk_96 (dk_at dksX3_weighs_6 21 rfl rfl)
theorem dX3_weighs_165 : decode cX3_weighs 165 = .ok (.iload 5, 2) := dk_21 5 (dk_at dksX3_weighs_6 22 rfl rfl)
theorem dX3_weighs_167 : decode cX3_weighs 167 = .ok (.iastore, 1) := dk_79 (dk_at dksX3_weighs_7 0 rfl rfl)
theorem dX3_weighs_168 : decode cX3_weighs 168 = .ok (.aload_n 0, 1) := dk_42 (dk_at dksX3_weighs_7 1 rfl rfl)
theorem dX3_weighs_169 : decode cX3_weighs 169 = .ok (.getfield 7, 3) := dk_180 0 7 (dk_at dksX3_weighs_7 2 rfl rfl)
theorem dX3_weighs_172 : decode cX3_weighs 172 = .ok (.iload 7, 2) := dk_21 7 (dk_at dksX3_weighs_7 5 rfl rfl)
theorem dX3_weighs_174 : decode cX3_weighs 174 = .ok (.iconst 5, 1) := dk_8 (dk_at dksX3_weighs_7 7 rfl rfl)
theorem dX3_weighs_175 : decode cX3_weighs 175 = .ok (.iadd, 1) := dk_96 (dk_at dksX3_weighs_7 8 rfl rfl)
theorem dX3_weighs_176 : decode cX3_weighs 176 = .ok (.iload 6, 2) := dk_21 6 (dk_at dksX3_weighs_7 9 rfl rfl)
theorem dX3_weighs_178 : decode cX3_weighs 178 = .ok (.iastore, 1) := dk_79 (dk_at dksX3_weighs_7 11 rfl rfl)
theorem dX3_weighs_179 : decode cX3_weighs 179 = .ok (.aload_n 0, 1) := dk_42 (dk_at dksX3_weighs_7 12 rfl rfl)
theorem dX3_weighs_180 : decode cX3_weighs 180 = .ok (.getfield 7, 3) := dk_180 0 7 (dk_at dksX3_weighs_7 13 rfl rfl)
theorem dX3_weighs_183 : decode cX3_weighs 183 = .ok (.bipush 13, 2) := dk_16 13 (dk_at dksX3_weighs_7 16 rfl rfl)
theorem dX3_weighs_185 : decode cX3_weighs 185 = .ok (.dup2, 1) := dk_92 (dk_at dksX3_weighs_7 18 rfl rfl)
theorem dX3_weighs_186 : decode cX3_weighs 186 = .ok (.iaload, 1) := dk_46 (dk_at dksX3_weighs_7 19 rfl rfl)
theorem dX3_weighs_187 : decode cX3_weighs 187 = .ok (.iload 6, 2) := dk_21 6 (dk_at dksX3_weighs_7 20 rfl rfl)
theorem dX3_weighs_189 : decode cX3_weighs 189 = .ok (.iload_n 3, 1) := dk_29 (dk_at dksX3_weighs_7 22 rfl rfl)
theorem dX3_weighs_190 : decode cX3_weighs 190 = .ok (.isub, 1) := dk_100 (dk_at dksX3_weighs_7 23 rfl rfl)
theorem dX3_weighs_191 : decode cX3_weighs 191 = .ok (.iadd, 1) := dk_96 (dk_at dksX3_weighs_8 0 rfl rfl)
theorem dX3_weighs_192 : decode cX3_weighs 192 = .ok (.iastore, 1) := dk_79 (dk_at dksX3_weighs_8 1 rfl rfl)
theorem dX3_weighs_193 : decode cX3_weighs 193 = .ok (.iload 6, 2) := dk_21 6 (dk_at dksX3_weighs_8 2 rfl rfl)
theorem dX3_weighs_195 : decode cX3_weighs 195 = .ok (.ireturn, 1) := dk_172 (dk_at dksX3_weighs_8 4 rfl rfl)
abbrev cX3_readsBy : ByteArray := prog_21_method_12_code
def yX3_readsBy : MethodName := ⟨RX3, "readsBy", "(II)I"⟩
def dkwX3_readsBy_0 : List UInt8 := [5, 27, 104, 28, 96, 5, 28, 104, 184, 0, 45, 62, 29, 156, 0, 7, 3, 167, 0, 6, 29, 28, 104, 172]
abbrev dktX3_readsBy_0 : List UInt8 := dkwX3_readsBy_0 ++ []
theorem dksX3_readsBy_0 : cX3_readsBy.data.toList.drop 0 = dktX3_readsBy_0 := by decide +kernel
theorem dX3_readsBy_0 : decode cX3_readsBy 0 = .ok (.iconst 2, 1) := dk_5 (dk_at dksX3_readsBy_0 0 rfl rfl)
theorem dX3_readsBy_1 : decode cX3_readsBy 1 = .ok (.iload_n 1, 1) := dk_27 (dk_at dksX3_readsBy_0 1 rfl rfl)
theorem dX3_readsBy_2 : decode cX3_readsBy 2 = .ok (.imul, 1) := dk_104 (dk_at dksX3_readsBy_0 2 rfl rfl)
theorem dX3_readsBy_3 : decode cX3_readsBy 3 = .ok (.iload_n 2, 1) := dk_28 (dk_at dksX3_readsBy_0 3 rfl rfl)
theorem dX3_readsBy_4 : decode cX3_readsBy 4 = .ok (.iadd, 1) := dk_96 (dk_at dksX3_readsBy_0 4 rfl rfl)
theorem dX3_readsBy_5 : decode cX3_readsBy 5 = .ok (.iconst 2, 1) := dk_5 (dk_at dksX3_readsBy_0 5 rfl rfl)
theorem dX3_readsBy_6 : decode cX3_readsBy 6 = .ok (.iload_n 2, 1) := dk_28 (dk_at dksX3_readsBy_0 6 rfl rfl)
theorem dX3_readsBy_7 : decode cX3_readsBy 7 = .ok (.imul, 1) := dk_104 (dk_at dksX3_readsBy_0 7 rfl rfl)
theorem dX3_readsBy_8 : decode cX3_readsBy 8 = .ok (.invokestatic 45, 3) := dk_184 0 45 (dk_at dksX3_readsBy_0 8 rfl rfl)
theorem dX3_readsBy_11 : decode cX3_readsBy 11 = .ok (.istore_n 3, 1) := dk_62 (dk_at dksX3_readsBy_0 11 rfl rfl)
theorem dX3_readsBy_12 : decode cX3_readsBy 12 = .ok (.iload_n 3, 1) := dk_29 (dk_at dksX3_readsBy_0 12 rfl rfl)
theorem dX3_readsBy_13 : decode cX3_readsBy 13 = .ok (.ifCond .ge 7, 3) := dk_156 0 7 (dk_at dksX3_readsBy_0 13 rfl rfl)
theorem dX3_readsBy_16 : decode cX3_readsBy 16 = .ok (.iconst 0, 1) := dk_3 (dk_at dksX3_readsBy_0 16 rfl rfl)
theorem dX3_readsBy_17 : decode cX3_readsBy 17 = .ok (.goto 6, 3) := dk_167 0 6 (dk_at dksX3_readsBy_0 17 rfl rfl)
theorem dX3_readsBy_20 : decode cX3_readsBy 20 = .ok (.iload_n 3, 1) := dk_29 (dk_at dksX3_readsBy_0 20 rfl rfl)
theorem dX3_readsBy_21 : decode cX3_readsBy 21 = .ok (.iload_n 2, 1) := dk_28 (dk_at dksX3_readsBy_0 21 rfl rfl)
theorem dX3_readsBy_22 : decode cX3_readsBy 22 = .ok (.imul, 1) := dk_104 (dk_at dksX3_readsBy_0 22 rfl rfl)
theorem dX3_readsBy_23 : decode cX3_readsBy 23 = .ok (.ireturn, 1) := dk_172 (dk_at dksX3_readsBy_0 23 rfl rfl)
abbrev cX3_floors : ByteArray := prog_21_method_11_code
def yX3_floors : MethodName := ⟨RX3, "floors", "(II)I"⟩
def dkwX3_floors_0 : List UInt8 := [26, 27, 108, 61, 26, 27, 112, 156, 0, 9, 28, 4, 100, 167, 0, 4, 28, 172]
abbrev dktX3_floors_0 : List UInt8 := dkwX3_floors_0 ++ []
theorem dksX3_floors_0 : cX3_floors.data.toList.drop 0 = dktX3_floors_0 := by decide +kernel
theorem dX3_floors_0 : decode cX3_floors 0 = .ok (.iload_n 0, 1) := dk_26 (dk_at dksX3_floors_0 0 rfl rfl)
theorem dX3_floors_1 : decode cX3_floors 1 = .ok (.iload_n 1, 1) := dk_27 (dk_at dksX3_floors_0 1 rfl rfl)
theorem dX3_floors_2 : decode cX3_floors 2 = .ok (.idiv, 1) := dk_108 (dk_at dksX3_floors_0 2 rfl rfl)
theorem dX3_floors_3 : decode cX3_floors 3 = .ok (.istore_n 2, 1) := dk_61 (dk_at dksX3_floors_0 3 rfl rfl)
theorem dX3_floors_4 : decode cX3_floors 4 = .ok (.iload_n 0, 1) := dk_26 (dk_at dksX3_floors_0 4 rfl rfl)
theorem dX3_floors_5 : decode cX3_floors 5 = .ok (.iload_n 1, 1) := dk_27 (dk_at dksX3_floors_0 5 rfl rfl)
theorem dX3_floors_6 : decode cX3_floors 6 = .ok (.irem, 1) := dk_112 (dk_at dksX3_floors_0 6 rfl rfl)
theorem dX3_floors_7 : decode cX3_floors 7 = .ok (.ifCond .ge 9, 3) := dk_156 0 9 (dk_at dksX3_floors_0 7 rfl rfl)
theorem dX3_floors_10 : decode cX3_floors 10 = .ok (.iload_n 2, 1) := dk_28 (dk_at dksX3_floors_0 10 rfl rfl)
theorem dX3_floors_11 : decode cX3_floors 11 = .ok (.iconst 1, 1) := dk_4 (dk_at dksX3_floors_0 11 rfl rfl)
theorem dX3_floors_12 : decode cX3_floors 12 = .ok (.isub, 1) := dk_100 (dk_at dksX3_floors_0 12 rfl rfl)
theorem dX3_floors_13 : decode cX3_floors 13 = .ok (.goto 4, 3) := dk_167 0 4 (dk_at dksX3_floors_0 13 rfl rfl)
theorem dX3_floors_16 : decode cX3_floors 16 = .ok (.iload_n 2, 1) := dk_28 (dk_at dksX3_floors_0 16 rfl rfl)
theorem dX3_floors_17 : decode cX3_floors 17 = .ok (.ireturn, 1) := dk_172 (dk_at dksX3_floors_0 17 rfl rfl)
abbrev cX3_guesses : ByteArray := prog_21_method_16_code
def yX3_guesses : MethodName := ⟨RX3, "guesses", "(III)I"⟩
def dkwX3_guesses_5 : List UInt8 := [164, 0, 10, 42, 180, 0, 60, 167, 0, 5, 21, 5, 172]
abbrev dktX3_guesses_5 : List UInt8 := dkwX3_guesses_5 ++ []
def dkwX3_guesses_4 : List UInt8 := [21, 5, 42, 180, 0, 54, 162, 0, 10, 42, 180, 0, 54, 167, 0, 21, 21, 5, 42, 180, 0, 60]
abbrev dktX3_guesses_4 : List UInt8 := dkwX3_guesses_4 ++ dktX3_guesses_5
def dkwX3_guesses_3 : List UInt8 := [21, 5, 21, 4, 104, 100, 104, 21, 4, 164, 0, 10, 21, 5, 4, 96, 167, 0, 5, 21, 5, 54, 5]
abbrev dktX3_guesses_3 : List UInt8 := dkwX3_guesses_3 ++ dktX3_guesses_4
def dkwX3_guesses_2 : List UInt8 := [42, 180, 0, 60, 96, 5, 108, 172, 42, 180, 0, 7, 28, 46, 54, 4, 27, 21, 4, 108, 54, 5, 5, 27]
abbrev dktX3_guesses_2 : List UInt8 := dkwX3_guesses_2 ++ dktX3_guesses_3
def dkwX3_guesses_1 : List UInt8 := [160, 0, 10, 42, 180, 0, 54, 167, 0, 7, 42, 180, 0, 60, 172, 29, 6, 160, 0, 15, 42, 180, 0, 54]
abbrev dktX3_guesses_1 : List UInt8 := dkwX3_guesses_1 ++ dktX3_guesses_2
def dkwX3_guesses_0 : List UInt8 := [42, 27, 28, 182, 0, 63, 154, 0, 6, 18, 67, 172, 29, 4, 159, 0, 8, 29, 5, 160, 0, 20, 29, 4]
abbrev dktX3_guesses_0 : List UInt8 := dkwX3_guesses_0 ++ dktX3_guesses_1
theorem dksX3_guesses_0 : cX3_guesses.data.toList.drop 0 = dktX3_guesses_0 := by decide +kernel
theorem dksX3_guesses_1 : cX3_guesses.data.toList.drop 24 = dktX3_guesses_1 := dk_seg dksX3_guesses_0 24 rfl rfl
theorem dksX3_guesses_2 : cX3_guesses.data.toList.drop 48 = dktX3_guesses_2 := dk_seg dksX3_guesses_1 24 rfl rfl
theorem dksX3_guesses_3 : cX3_guesses.data.toList.drop 72 = dktX3_guesses_3 := dk_seg dksX3_guesses_2 24 rfl rfl
theorem dksX3_guesses_4 : cX3_guesses.data.toList.drop 95 = dktX3_guesses_4 := dk_seg dksX3_guesses_3 23 rfl rfl
theorem dksX3_guesses_5 : cX3_guesses.data.toList.drop 117 = dktX3_guesses_5 := dk_seg dksX3_guesses_4 22 rfl rfl
theorem dX3_guesses_0 : decode cX3_guesses 0 = .ok (.aload_n 0, 1) := dk_42 (dk_at dksX3_guesses_0 0 rfl rfl)
theorem dX3_guesses_1 : decode cX3_guesses 1 = .ok (.iload_n 1, 1) := dk_27 (dk_at dksX3_guesses_0 1 rfl rfl)
theorem dX3_guesses_2 : decode cX3_guesses 2 = .ok (.iload_n 2, 1) := dk_28 (dk_at dksX3_guesses_0 2 rfl rfl)
theorem dX3_guesses_3 : decode cX3_guesses 3 = .ok (.invokevirtual 63, 3) := dk_182 0 63 (dk_at dksX3_guesses_0 3 rfl rfl)
theorem dX3_guesses_6 : decode cX3_guesses 6 = .ok (.ifCond .ne 6, 3) := dk_154 0 6 (dk_at dksX3_guesses_0 6 rfl rfl)
theorem dX3_guesses_9 : decode cX3_guesses 9 = .ok (.ldc 67, 2) := dk_18 67 (dk_at dksX3_guesses_0 9 rfl rfl)
theorem dX3_guesses_11 : decode cX3_guesses 11 = .ok (.ireturn, 1) := dk_172 (dk_at dksX3_guesses_0 11 rfl rfl)
theorem dX3_guesses_12 : decode cX3_guesses 12 = .ok (.iload_n 3, 1) := dk_29 (dk_at dksX3_guesses_0 12 rfl rfl)
theorem dX3_guesses_13 : decode cX3_guesses 13 = .ok (.iconst 1, 1) := dk_4 (dk_at dksX3_guesses_0 13 rfl rfl)
theorem dX3_guesses_14 : decode cX3_guesses 14 = .ok (.if_icmp .eq 8, 3) := dk_159 0 8 (dk_at dksX3_guesses_0 14 rfl rfl)
theorem dX3_guesses_17 : decode cX3_guesses 17 = .ok (.iload_n 3, 1) := dk_29 (dk_at dksX3_guesses_0 17 rfl rfl)
theorem dX3_guesses_18 : decode cX3_guesses 18 = .ok (.iconst 2, 1) := dk_5 (dk_at dksX3_guesses_0 18 rfl rfl)
theorem dX3_guesses_19 : decode cX3_guesses 19 = .ok (.if_icmp .ne 20, 3) := dk_160 0 20 (dk_at dksX3_guesses_0 19 rfl rfl)
theorem dX3_guesses_22 : decode cX3_guesses 22 = .ok (.iload_n 3, 1) := dk_29 (dk_at dksX3_guesses_0 22 rfl rfl)
theorem dX3_guesses_23 : decode cX3_guesses 23 = .ok (.iconst 1, 1) := dk_4 (dk_at dksX3_guesses_0 23 rfl rfl)
theorem dX3_guesses_24 : decode cX3_guesses 24 = .ok (.if_icmp .ne 10, 3) := dk_160 0 10 (dk_at dksX3_guesses_1 0 rfl rfl)
theorem dX3_guesses_27 : decode cX3_guesses 27 = .ok (.aload_n 0, 1) := dk_42 (dk_at dksX3_guesses_1 3 rfl rfl)
theorem dX3_guesses_28 : decode cX3_guesses 28 = .ok (.getfield 54, 3) := dk_180 0 54 (dk_at dksX3_guesses_1 4 rfl rfl)
theorem dX3_guesses_31 : decode cX3_guesses 31 = .ok (.goto 7, 3) := dk_167 0 7 (dk_at dksX3_guesses_1 7 rfl rfl)
theorem dX3_guesses_34 : decode cX3_guesses 34 = .ok (.aload_n 0, 1) := dk_42 (dk_at dksX3_guesses_1 10 rfl rfl)
theorem dX3_guesses_35 : decode cX3_guesses 35 = .ok (.getfield 60, 3) := dk_180 0 60 (dk_at dksX3_guesses_1 11 rfl rfl)
theorem dX3_guesses_38 : decode cX3_guesses 38 = .ok (.ireturn, 1) := dk_172 (dk_at dksX3_guesses_1 14 rfl rfl)
theorem dX3_guesses_39 : decode cX3_guesses 39 = .ok (.iload_n 3, 1) := dk_29 (dk_at dksX3_guesses_1 15 rfl rfl)
theorem dX3_guesses_40 : decode cX3_guesses 40 = .ok (.iconst 3, 1) := dk_6 (dk_at dksX3_guesses_1 16 rfl rfl)
theorem dX3_guesses_41 : decode cX3_guesses 41 = .ok (.if_icmp .ne 15, 3) := dk_160 0 15 (dk_at dksX3_guesses_1 17 rfl rfl)
theorem dX3_guesses_44 : decode cX3_guesses 44 = .ok (.aload_n 0, 1) := dk_42 (dk_at dksX3_guesses_1 20 rfl rfl)
theorem dX3_guesses_45 : decode cX3_guesses 45 = .ok (.getfield 54, 3) := dk_180 0 54 (dk_at dksX3_guesses_1 21 rfl rfl)
theorem dX3_guesses_48 : decode cX3_guesses 48 = .ok (.aload_n 0, 1) := dk_42 (dk_at dksX3_guesses_2 0 rfl rfl)
theorem dX3_guesses_49 : decode cX3_guesses 49 = .ok (.getfield 60, 3) := dk_180 0 60 (dk_at dksX3_guesses_2 1 rfl rfl)
theorem dX3_guesses_52 : decode cX3_guesses 52 = .ok (.iadd, 1) := dk_96 (dk_at dksX3_guesses_2 4 rfl rfl)
theorem dX3_guesses_53 : decode cX3_guesses 53 = .ok (.iconst 2, 1) := dk_5 (dk_at dksX3_guesses_2 5 rfl rfl)
theorem dX3_guesses_54 : decode cX3_guesses 54 = .ok (.idiv, 1) := dk_108 (dk_at dksX3_guesses_2 6 rfl rfl)
theorem dX3_guesses_55 : decode cX3_guesses 55 = .ok (.ireturn, 1) := dk_172 (dk_at dksX3_guesses_2 7 rfl rfl)
theorem dX3_guesses_56 : decode cX3_guesses 56 = .ok (.aload_n 0, 1) := dk_42 (dk_at dksX3_guesses_2 8 rfl rfl)
theorem dX3_guesses_57 : decode cX3_guesses 57 = .ok (.getfield 7, 3) := dk_180 0 7 (dk_at dksX3_guesses_2 9 rfl rfl)
theorem dX3_guesses_60 : decode cX3_guesses 60 = .ok (.iload_n 2, 1) := dk_28 (dk_at dksX3_guesses_2 12 rfl rfl)
theorem dX3_guesses_61 : decode cX3_guesses 61 = .ok (.iaload, 1) := dk_46 (dk_at dksX3_guesses_2 13 rfl rfl)
theorem dX3_guesses_62 : decode cX3_guesses 62 = .ok (.istore 4, 2) := dk_54 4 (dk_at dksX3_guesses_2 14 rfl rfl)
theorem dX3_guesses_64 : decode cX3_guesses 64 = .ok (.iload_n 1, 1) := dk_27 (dk_at dksX3_guesses_2 16 rfl rfl)
theorem dX3_guesses_65 : decode cX3_guesses 65 = .ok (.iload 4, 2) := dk_21 4 (dk_at dksX3_guesses_2 17 rfl rfl)
theorem dX3_guesses_67 : decode cX3_guesses 67 = .ok (.idiv, 1) := dk_108 (dk_at dksX3_guesses_2 19 rfl rfl)
theorem dX3_guesses_68 : decode cX3_guesses 68 = .ok (.istore 5, 2) := dk_54 5 (dk_at dksX3_guesses_2 20 rfl rfl)
theorem dX3_guesses_70 : decode cX3_guesses 70 = .ok (.iconst 2, 1) := dk_5 (dk_at dksX3_guesses_2 22 rfl rfl)
theorem dX3_guesses_71 : decode cX3_guesses 71 = .ok (.iload_n 1, 1) := dk_27 (dk_at dksX3_guesses_2 23 rfl rfl)
theorem dX3_guesses_72 : decode cX3_guesses 72 = .ok (.iload 5, 2) := dk_21 5 (dk_at dksX3_guesses_3 0 rfl rfl)
theorem dX3_guesses_74 : decode cX3_guesses 74 = .ok (.iload 4, 2) := dk_21 4 (dk_at dksX3_guesses_3 2 rfl rfl)
theorem dX3_guesses_76 : decode cX3_guesses 76 = .ok (.imul, 1) := dk_104 (dk_at dksX3_guesses_3 4 rfl rfl)
theorem dX3_guesses_77 : decode cX3_guesses 77 = .ok (.isub, 1) := dk_100 (dk_at dksX3_guesses_3 5 rfl rfl)
theorem dX3_guesses_78 : decode cX3_guesses 78 = .ok (.imul, 1) := dk_104 (dk_at dksX3_guesses_3 6 rfl rfl)
theorem dX3_guesses_79 : decode cX3_guesses 79 = .ok (.iload 4, 2) := dk_21 4 (dk_at dksX3_guesses_3 7 rfl rfl)
theorem dX3_guesses_81 : decode cX3_guesses 81 = .ok (.if_icmp .le 10, 3) := dk_164 0 10 (dk_at dksX3_guesses_3 9 rfl rfl)
theorem dX3_guesses_84 : decode cX3_guesses 84 = .ok (.iload 5, 2) := dk_21 5 (dk_at dksX3_guesses_3 12 rfl rfl)
theorem dX3_guesses_86 : decode cX3_guesses 86 = .ok (.iconst 1, 1) := dk_4 (dk_at dksX3_guesses_3 14 rfl rfl)
theorem dX3_guesses_87 : decode cX3_guesses 87 = .ok (.iadd, 1) := dk_96 (dk_at dksX3_guesses_3 15 rfl rfl)
theorem dX3_guesses_88 : decode cX3_guesses 88 = .ok (.goto 5, 3) := dk_167 0 5 (dk_at dksX3_guesses_3 16 rfl rfl)
theorem dX3_guesses_91 : decode cX3_guesses 91 = .ok (.iload 5, 2) := dk_21 5 (dk_at dksX3_guesses_3 19 rfl rfl)
theorem dX3_guesses_93 : decode cX3_guesses 93 = .ok (.istore 5, 2) := dk_54 5 (dk_at dksX3_guesses_3 21 rfl rfl)
theorem dX3_guesses_95 : decode cX3_guesses 95 = .ok (.iload 5, 2) := dk_21 5 (dk_at dksX3_guesses_4 0 rfl rfl)
theorem dX3_guesses_97 : decode cX3_guesses 97 = .ok (.aload_n 0, 1) := dk_42 (dk_at dksX3_guesses_4 2 rfl rfl)
theorem dX3_guesses_98 : decode cX3_guesses 98 = .ok (.getfield 54, 3) := dk_180 0 54 (dk_at dksX3_guesses_4 3 rfl rfl)
theorem dX3_guesses_101 : decode cX3_guesses 101 = .ok (.if_icmp .ge 10, 3) := dk_162 0 10 (dk_at dksX3_guesses_4 6 rfl rfl)
theorem dX3_guesses_104 : decode cX3_guesses 104 = .ok (.aload_n 0, 1) := dk_42 (dk_at dksX3_guesses_4 9 rfl rfl)
theorem dX3_guesses_105 : decode cX3_guesses 105 = .ok (.getfield 54, 3) := dk_180 0 54 (dk_at dksX3_guesses_4 10 rfl rfl)
theorem dX3_guesses_108 : decode cX3_guesses 108 = .ok (.goto 21, 3) := dk_167 0 21 (dk_at dksX3_guesses_4 13 rfl rfl)
theorem dX3_guesses_111 : decode cX3_guesses 111 = .ok (.iload 5, 2) := dk_21 5 (dk_at dksX3_guesses_4 16 rfl rfl)
theorem dX3_guesses_113 : decode cX3_guesses 113 = .ok (.aload_n 0, 1) := dk_42 (dk_at dksX3_guesses_4 18 rfl rfl)
theorem dX3_guesses_114 : decode cX3_guesses 114 = .ok (.getfield 60, 3) := dk_180 0 60 (dk_at dksX3_guesses_4 19 rfl rfl)
theorem dX3_guesses_117 : decode cX3_guesses 117 = .ok (.if_icmp .le 10, 3) := dk_164 0 10 (dk_at dksX3_guesses_5 0 rfl rfl)
theorem dX3_guesses_120 : decode cX3_guesses 120 = .ok (.aload_n 0, 1) := dk_42 (dk_at dksX3_guesses_5 3 rfl rfl)
theorem dX3_guesses_121 : decode cX3_guesses 121 = .ok (.getfield 60, 3) := dk_180 0 60 (dk_at dksX3_guesses_5 4 rfl rfl)
theorem dX3_guesses_124 : decode cX3_guesses 124 = .ok (.goto 5, 3) := dk_167 0 5 (dk_at dksX3_guesses_5 7 rfl rfl)
theorem dX3_guesses_127 : decode cX3_guesses 127 = .ok (.iload 5, 2) := dk_21 5 (dk_at dksX3_guesses_5 10 rfl rfl)
theorem dX3_guesses_129 : decode cX3_guesses 129 = .ok (.ireturn, 1) := dk_172 (dk_at dksX3_guesses_5 12 rfl rfl)
abbrev cX3_allows : ByteArray := prog_21_method_15_code
def yX3_allows : MethodName := ⟨RX3, "allows", "(II)Z"⟩
def dkwX3_allows_5 : List UInt8 := [3, 172]
abbrev dktX3_allows_5 : List UInt8 := dkwX3_allows_5 ++ []
def dkwX3_allows_4 : List UInt8 := [16, 9, 46, 96, 29, 108, 181, 0, 60, 42, 180, 0, 54, 42, 180, 0, 60, 163, 0, 7, 4, 167, 0, 4]
abbrev dktX3_allows_4 : List UInt8 := dkwX3_allows_4 ++ dktX3_allows_5
def dkwX3_allows_3 : List UInt8 := [21, 5, 21, 4, 96, 4, 100, 21, 4, 108, 181, 0, 54, 42, 42, 27, 182, 0, 57, 42, 180, 0, 7]
abbrev dktX3_allows_3 : List UInt8 := dkwX3_allows_3 ++ dktX3_allows_4
def dkwX3_allows_2 : List UInt8 := [27, 182, 0, 50, 42, 180, 0, 7, 16, 9, 46, 100, 54, 5, 42, 21, 5, 157, 0, 7, 3, 167, 0, 13]
abbrev dktX3_allows_2 : List UInt8 := dkwX3_allows_2 ++ dktX3_allows_3
def dkwX3_allows_1 : List UInt8 := [7, 28, 96, 46, 100, 62, 42, 180, 0, 7, 28, 46, 42, 180, 0, 7, 7, 28, 96, 46, 96, 54, 4, 42]
abbrev dktX3_allows_1 : List UInt8 := dkwX3_allows_1 ++ dktX3_allows_2
def dkwX3_allows_0 : List UInt8 := [27, 42, 180, 0, 7, 16, 8, 46, 112, 153, 0, 5, 3, 172, 42, 180, 0, 7, 28, 46, 42, 180, 0, 7]
abbrev dktX3_allows_0 : List UInt8 := dkwX3_allows_0 ++ dktX3_allows_1
theorem dksX3_allows_0 : cX3_allows.data.toList.drop 0 = dktX3_allows_0 := by decide +kernel
theorem dksX3_allows_1 : cX3_allows.data.toList.drop 24 = dktX3_allows_1 := dk_seg dksX3_allows_0 24 rfl rfl
theorem dksX3_allows_2 : cX3_allows.data.toList.drop 48 = dktX3_allows_2 := dk_seg dksX3_allows_1 24 rfl rfl
theorem dksX3_allows_3 : cX3_allows.data.toList.drop 72 = dktX3_allows_3 := dk_seg dksX3_allows_2 24 rfl rfl
theorem dksX3_allows_4 : cX3_allows.data.toList.drop 95 = dktX3_allows_4 := dk_seg dksX3_allows_3 23 rfl rfl
theorem dksX3_allows_5 : cX3_allows.data.toList.drop 119 = dktX3_allows_5 := dk_seg dksX3_allows_4 24 rfl rfl
theorem dX3_allows_0 : decode cX3_allows 0 = .ok (.iload_n 1, 1) := dk_27 (dk_at dksX3_allows_0 0 rfl rfl)
theorem dX3_allows_1 : decode cX3_allows 1 = .ok (.aload_n 0, 1) := dk_42 (dk_at dksX3_allows_0 1 rfl rfl)
theorem dX3_allows_2 : decode cX3_allows 2 = .ok (.getfield 7, 3) := dk_180 0 7 (dk_at dksX3_allows_0 2 rfl rfl)
theorem dX3_allows_5 : decode cX3_allows 5 = .ok (.bipush 8, 2) := dk_16 8 (dk_at dksX3_allows_0 5 rfl rfl)
theorem dX3_allows_7 : decode cX3_allows 7 = .ok (.iaload, 1) := dk_46 (dk_at dksX3_allows_0 7 rfl rfl)
theorem dX3_allows_8 : decode cX3_allows 8 = .ok (.irem, 1) := dk_112 (dk_at dksX3_allows_0 8 rfl rfl)
theorem dX3_allows_9 : decode cX3_allows 9 = .ok (.ifCond .eq 5, 3) := dk_153 0 5 (dk_at dksX3_allows_0 9 rfl rfl)
theorem dX3_allows_12 : decode cX3_allows 12 = .ok (.iconst 0, 1) := dk_3 (dk_at dksX3_allows_0 12 rfl rfl)
theorem dX3_allows_13 : decode cX3_allows 13 = .ok (.ireturn, 1) := dk_172 (dk_at dksX3_allows_0 13 rfl rfl)
theorem dX3_allows_14 : decode cX3_allows 14 = .ok (.aload_n 0, 1) := dk_42 (dk_at dksX3_allows_0 14 rfl rfl)
theorem dX3_allows_15 : decode cX3_allows 15 = .ok (.getfield 7, 3) := dk_180 0 7 (dk_at dksX3_allows_0 15 rfl rfl)
theorem dX3_allows_18 : decode cX3_allows 18 = .ok (.iload_n 2, 1) := dk_28 (dk_at dksX3_allows_0 18 rfl rfl)
theorem dX3_allows_19 : decode cX3_allows 19 = .ok (.iaload, 1) := dk_46 (dk_at dksX3_allows_0 19 rfl rfl)
theorem dX3_allows_20 : decode cX3_allows 20 = .ok (.aload_n 0, 1) := dk_42 (dk_at dksX3_allows_0 20 rfl rfl)
theorem dX3_allows_21 : decode cX3_allows 21 = .ok (.getfield 7, 3) := dk_180 0 7 (dk_at dksX3_allows_0 21 rfl rfl)
theorem dX3_allows_24 : decode cX3_allows 24 = .ok (.iconst 4, 1) := dk_7 (dk_at dksX3_allows_1 0 rfl rfl)
theorem dX3_allows_25 : decode cX3_allows 25 = .ok (.iload_n 2, 1) := dk_28 (dk_at dksX3_allows_1 1 rfl rfl)
theorem dX3_allows_26 : decode cX3_allows 26 = .ok (.iadd, 1) := dk_96 (dk_at dksX3_allows_1 2 rfl rfl)
theorem dX3_allows_27 : decode cX3_allows 27 = .ok (.iaload, 1) := dk_46 (dk_at dksX3_allows_1 3 rfl rfl)
theorem dX3_allows_28 : decode cX3_allows 28 = .ok (.isub, 1) := dk_100 (dk_at dksX3_allows_1 4 rfl rfl)
theorem dX3_allows_29 : decode cX3_allows 29 = .ok (.istore_n 3, 1) := dk_62 (dk_at dksX3_allows_1 5 rfl rfl)
theorem dX3_allows_30 : decode cX3_allows 30 = .ok (.aload_n 0, 1) := dk_42 (dk_at dksX3_allows_1 6 rfl rfl)
theorem dX3_allows_31 : decode cX3_allows 31 = .ok (.getfield 7, 3) := dk_180 0 7 (dk_at dksX3_allows_1 7 rfl rfl)
theorem dX3_allows_34 : decode cX3_allows 34 = .ok (.iload_n 2, 1) := dk_28 (dk_at dksX3_allows_1 10 rfl rfl)
theorem dX3_allows_35 : decode cX3_allows 35 = .ok (.iaload, 1) := dk_46 (dk_at dksX3_allows_1 11 rfl rfl)
theorem dX3_allows_36 : decode cX3_allows 36 = .ok (.aload_n 0, 1) := dk_42 (dk_at dksX3_allows_1 12 rfl rfl)
theorem dX3_allows_37 : decode cX3_allows 37 = .ok (.getfield 7, 3) := dk_180 0 7 (dk_at dksX3_allows_1 13 rfl rfl)
theorem dX3_allows_40 : decode cX3_allows 40 = .ok (.iconst 4, 1) := dk_7 (dk_at dksX3_allows_1 16 rfl rfl)
theorem dX3_allows_41 : decode cX3_allows 41 = .ok (.iload_n 2, 1) := dk_28 (dk_at dksX3_allows_1 17 rfl rfl)
theorem dX3_allows_42 : decode cX3_allows 42 = .ok (.iadd, 1) := dk_96 (dk_at dksX3_allows_1 18 rfl rfl)
theorem dX3_allows_43 : decode cX3_allows 43 = .ok (.iaload, 1) := dk_46 (dk_at dksX3_allows_1 19 rfl rfl)
theorem dX3_allows_44 : decode cX3_allows 44 = .ok (.iadd, 1) := dk_96 (dk_at dksX3_allows_1 20 rfl rfl)
theorem dX3_allows_45 : decode cX3_allows 45 = .ok (.istore 4, 2) := dk_54 4 (dk_at dksX3_allows_1 21 rfl rfl)
theorem dX3_allows_47 : decode cX3_allows 47 = .ok (.aload_n 0, 1) := dk_42 (dk_at dksX3_allows_1 23 rfl rfl)
theorem dX3_allows_48 : decode cX3_allows 48 = .ok (.iload_n 1, 1) := dk_27 (dk_at dksX3_allows_2 0 rfl rfl)
theorem dX3_allows_49 : decode cX3_allows 49 = .ok (.invokevirtual 50, 3) := dk_182 0 50 (dk_at dksX3_allows_2 1 rfl rfl)
theorem dX3_allows_52 : decode cX3_allows 52 = .ok (.aload_n 0, 1) := dk_42 (dk_at dksX3_allows_2 4 rfl rfl)
theorem dX3_allows_53 : decode cX3_allows 53 = .ok (.getfield 7, 3) := dk_180 0 7 (dk_at dksX3_allows_2 5 rfl rfl)
theorem dX3_allows_56 : decode cX3_allows 56 = .ok (.bipush 9, 2) := dk_16 9 (dk_at dksX3_allows_2 8 rfl rfl)
theorem dX3_allows_58 : decode cX3_allows 58 = .ok (.iaload, 1) := dk_46 (dk_at dksX3_allows_2 10 rfl rfl)
theorem dX3_allows_59 : decode cX3_allows 59 = .ok (.isub, 1) := dk_100 (dk_at dksX3_allows_2 11 rfl rfl)
theorem dX3_allows_60 : decode cX3_allows 60 = .ok (.istore 5, 2) := dk_54 5 (dk_at dksX3_allows_2 12 rfl rfl)
theorem dX3_allows_62 : decode cX3_allows 62 = .ok (.aload_n 0, 1) := dk_42 (dk_at dksX3_allows_2 14 rfl rfl)
theorem dX3_allows_63 : decode cX3_allows 63 = .ok (.iload 5, 2) := dk_21 5 (dk_at dksX3_allows_2 15 rfl rfl)
theorem dX3_allows_65 : decode cX3_allows 65 = .ok (.ifCond .gt 7, 3) := dk_157 0 7 (dk_at dksX3_allows_2 17 rfl rfl)
theorem dX3_allows_68 : decode cX3_allows 68 = .ok (.iconst 0, 1) := dk_3 (dk_at dksX3_allows_2 20 rfl rfl)
theorem dX3_allows_69 : decode cX3_allows 69 = .ok (.goto 13, 3) := dk_167 0 13 (dk_at dksX3_allows_2 21 rfl rfl)
theorem dX3_allows_72 : decode cX3_allows 72 = .ok (.iload 5, 2) := dk_21 5 (dk_at dksX3_allows_3 0 rfl rfl)
theorem dX3_allows_74 : decode cX3_allows 74 = .ok (.iload 4, 2) := dk_21 4 (dk_at dksX3_allows_3 2 rfl rfl)
theorem dX3_allows_76 : decode cX3_allows 76 = .ok (.iadd, 1) := dk_96 (dk_at dksX3_allows_3 4 rfl rfl)
theorem dX3_allows_77 : decode cX3_allows 77 = .ok (.iconst 1, 1) := dk_4 (dk_at dksX3_allows_3 5 rfl rfl)
theorem dX3_allows_78 : decode cX3_allows 78 = .ok (.isub, 1) := dk_100 (dk_at dksX3_allows_3 6 rfl rfl)
theorem dX3_allows_79 : decode cX3_allows 79 = .ok (.iload 4, 2) := dk_21 4 (dk_at dksX3_allows_3 7 rfl rfl)
theorem dX3_allows_81 : decode cX3_allows 81 = .ok (.idiv, 1) := dk_108 (dk_at dksX3_allows_3 9 rfl rfl)
theorem dX3_allows_82 : decode cX3_allows 82 = .ok (.putfield 54, 3) := dk_181 0 54 (dk_at dksX3_allows_3 10 rfl rfl)
theorem dX3_allows_85 : decode cX3_allows 85 = .ok (.aload_n 0, 1) := dk_42 (dk_at dksX3_allows_3 13 rfl rfl)
theorem dX3_allows_86 : decode cX3_allows 86 = .ok (.aload_n 0, 1) := dk_42 (dk_at dksX3_allows_3 14 rfl rfl)
theorem dX3_allows_87 : decode cX3_allows 87 = .ok (.iload_n 1, 1) := dk_27 (dk_at dksX3_allows_3 15 rfl rfl)
theorem dX3_allows_88 : decode cX3_allows 88 = .ok (.invokevirtual 57, 3) := dk_182 0 57 (dk_at dksX3_allows_3 16 rfl rfl)
theorem dX3_allows_91 : decode cX3_allows 91 = .ok (.aload_n 0, 1) := dk_42 (dk_at dksX3_allows_3 19 rfl rfl)
theorem dX3_allows_92 : decode cX3_allows 92 = .ok (.getfield 7, 3) := dk_180 0 7 (dk_at dksX3_allows_3 20 rfl rfl)
theorem dX3_allows_95 : decode cX3_allows 95 = .ok (.bipush 9, 2) := dk_16 9 (dk_at dksX3_allows_4 0 rfl rfl)
theorem dX3_allows_97 : decode cX3_allows 97 = .ok (.iaload, 1) := dk_46 (dk_at dksX3_allows_4 2 rfl rfl)
theorem dX3_allows_98 : decode cX3_allows 98 = .ok (.iadd, 1) := dk_96 (dk_at dksX3_allows_4 3 rfl rfl)
theorem dX3_allows_99 : decode cX3_allows 99 = .ok (.iload_n 3, 1) := dk_29 (dk_at dksX3_allows_4 4 rfl rfl)
theorem dX3_allows_100 : decode cX3_allows 100 = .ok (.idiv, 1) := dk_108 (dk_at dksX3_allows_4 5 rfl rfl)
theorem dX3_allows_101 : decode cX3_allows 101 = .ok (.putfield 60, 3) := dk_181 0 60 (dk_at dksX3_allows_4 6 rfl rfl)
theorem dX3_allows_104 : decode cX3_allows 104 = .ok (.aload_n 0, 1) := dk_42 (dk_at dksX3_allows_4 9 rfl rfl)
theorem dX3_allows_105 : decode cX3_allows 105 = .ok (.getfield 54, 3) := dk_180 0 54 (dk_at dksX3_allows_4 10 rfl rfl)
theorem dX3_allows_108 : decode cX3_allows 108 = .ok (.aload_n 0, 1) := dk_42 (dk_at dksX3_allows_4 13 rfl rfl)
theorem dX3_allows_109 : decode cX3_allows 109 = .ok (.getfield 60, 3) := dk_180 0 60 (dk_at dksX3_allows_4 14 rfl rfl)
theorem dX3_allows_112 : decode cX3_allows 112 = .ok (.if_icmp .gt 7, 3) := dk_163 0 7 (dk_at dksX3_allows_4 17 rfl rfl)
theorem dX3_allows_115 : decode cX3_allows 115 = .ok (.iconst 1, 1) := dk_4 (dk_at dksX3_allows_4 20 rfl rfl)
theorem dX3_allows_116 : decode cX3_allows 116 = .ok (.goto 4, 3) := dk_167 0 4 (dk_at dksX3_allows_4 21 rfl rfl)
theorem dX3_allows_119 : decode cX3_allows 119 = .ok (.iconst 0, 1) := dk_3 (dk_at dksX3_allows_5 0 rfl rfl)
theorem dX3_allows_120 : decode cX3_allows 120 = .ok (.ireturn, 1) := dk_172 (dk_at dksX3_allows_5 1 rfl rfl)
abbrev cX3_lowest : ByteArray := prog_21_method_14_code
def yX3_lowest : MethodName := ⟨RX3, "lowest", "(I)I"⟩
def dkwX3_lowest_1 : List UInt8 := [184, 0, 45, 172]
abbrev dktX3_lowest_1 : List UInt8 := dkwX3_lowest_1 ++ []
def dkwX3_lowest_0 : List UInt8 := [27, 154, 0, 8, 18, 49, 167, 0, 20, 5, 27, 104, 42, 180, 0, 7, 16, 8, 46, 100, 4, 96, 5]
abbrev dktX3_lowest_0 : List UInt8 := dkwX3_lowest_0 ++ dktX3_lowest_1
theorem dksX3_lowest_0 : cX3_lowest.data.toList.drop 0 = dktX3_lowest_0 := by decide +kernel
theorem dksX3_lowest_1 : cX3_lowest.data.toList.drop 23 = dktX3_lowest_1 := dk_seg dksX3_lowest_0 23 rfl rfl
theorem dX3_lowest_0 : decode cX3_lowest 0 = .ok (.iload_n 1, 1) := dk_27 (dk_at dksX3_lowest_0 0 rfl rfl)
theorem dX3_lowest_1 : decode cX3_lowest 1 = .ok (.ifCond .ne 8, 3) := dk_154 0 8 (dk_at dksX3_lowest_0 1 rfl rfl)
theorem dX3_lowest_4 : decode cX3_lowest 4 = .ok (.ldc 49, 2) := dk_18 49 (dk_at dksX3_lowest_0 4 rfl rfl)
theorem dX3_lowest_6 : decode cX3_lowest 6 = .ok (.goto 20, 3) := dk_167 0 20 (dk_at dksX3_lowest_0 6 rfl rfl)
theorem dX3_lowest_9 : decode cX3_lowest 9 = .ok (.iconst 2, 1) := dk_5 (dk_at dksX3_lowest_0 9 rfl rfl)
theorem dX3_lowest_10 : decode cX3_lowest 10 = .ok (.iload_n 1, 1) := dk_27 (dk_at dksX3_lowest_0 10 rfl rfl)
theorem dX3_lowest_11 : decode cX3_lowest 11 = .ok (.imul, 1) := dk_104 (dk_at dksX3_lowest_0 11 rfl rfl)
theorem dX3_lowest_12 : decode cX3_lowest 12 = .ok (.aload_n 0, 1) := dk_42 (dk_at dksX3_lowest_0 12 rfl rfl)
theorem dX3_lowest_13 : decode cX3_lowest 13 = .ok (.getfield 7, 3) := dk_180 0 7 (dk_at dksX3_lowest_0 13 rfl rfl)
theorem dX3_lowest_16 : decode cX3_lowest 16 = .ok (.bipush 8, 2) := dk_16 8 (dk_at dksX3_lowest_0 16 rfl rfl)
theorem dX3_lowest_18 : decode cX3_lowest 18 = .ok (.iaload, 1) := dk_46 (dk_at dksX3_lowest_0 18 rfl rfl)
theorem dX3_lowest_19 : decode cX3_lowest 19 = .ok (.isub, 1) := dk_100 (dk_at dksX3_lowest_0 19 rfl rfl)
theorem dX3_lowest_20 : decode cX3_lowest 20 = .ok (.iconst 1, 1) := dk_4 (dk_at dksX3_lowest_0 20 rfl rfl)
theorem dX3_lowest_21 : decode cX3_lowest 21 = .ok (.iadd, 1) := dk_96 (dk_at dksX3_lowest_0 21 rfl rfl)
theorem dX3_lowest_22 : decode cX3_lowest 22 = .ok (.iconst 2, 1) := dk_5 (dk_at dksX3_lowest_0 22 rfl rfl)
theorem dX3_lowest_23 : decode cX3_lowest 23 = .ok (.invokestatic 45, 3) := dk_184 0 45 (dk_at dksX3_lowest_1 0 rfl rfl)
theorem dX3_lowest_26 : decode cX3_lowest 26 = .ok (.ireturn, 1) := dk_172 (dk_at dksX3_lowest_1 3 rfl rfl)
abbrev cX3_highest : ByteArray := prog_21_method_13_code
def yX3_highest : MethodName := ⟨RX3, "highest", "(I)I"⟩
def dkwX3_highest_0 : List UInt8 := [5, 27, 104, 42, 180, 0, 7, 16, 8, 46, 96, 4, 100, 5, 184, 0, 45, 172]
abbrev dktX3_highest_0 : List UInt8 := dkwX3_highest_0 ++ []
theorem dksX3_highest_0 : cX3_highest.data.toList.drop 0 = dktX3_highest_0 := by decide +kernel
theorem dX3_highest_0 : decode cX3_highest 0 = .ok (.iconst 2, 1) := dk_5 (dk_at dksX3_highest_0 0 rfl rfl)
theorem dX3_highest_1 : decode cX3_highest 1 = .ok (.iload_n 1, 1) := dk_27 (dk_at dksX3_highest_0 1 rfl rfl)
theorem dX3_highest_2 : decode cX3_highest 2 = .ok (.imul, 1) := dk_104 (dk_at dksX3_highest_0 2 rfl rfl)
theorem dX3_highest_3 : decode cX3_highest 3 = .ok (.aload_n 0, 1) := dk_42 (dk_at dksX3_highest_0 3 rfl rfl)
theorem dX3_highest_4 : decode cX3_highest 4 = .ok (.getfield 7, 3) := dk_180 0 7 (dk_at dksX3_highest_0 4 rfl rfl)
theorem dX3_highest_7 : decode cX3_highest 7 = .ok (.bipush 8, 2) := dk_16 8 (dk_at dksX3_highest_0 7 rfl rfl)
theorem dX3_highest_9 : decode cX3_highest 9 = .ok (.iaload, 1) := dk_46 (dk_at dksX3_highest_0 9 rfl rfl)
theorem dX3_highest_10 : decode cX3_highest 10 = .ok (.iadd, 1) := dk_96 (dk_at dksX3_highest_0 10 rfl rfl)
theorem dX3_highest_11 : decode cX3_highest 11 = .ok (.iconst 1, 1) := dk_4 (dk_at dksX3_highest_0 11 rfl rfl)
theorem dX3_highest_12 : decode cX3_highest 12 = .ok (.isub, 1) := dk_100 (dk_at dksX3_highest_0 12 rfl rfl)
theorem dX3_highest_13 : decode cX3_highest 13 = .ok (.iconst 2, 1) := dk_5 (dk_at dksX3_highest_0 13 rfl rfl)
theorem dX3_highest_14 : decode cX3_highest 14 = .ok (.invokestatic 45, 3) := dk_184 0 45 (dk_at dksX3_highest_0 14 rfl rfl)
theorem dX3_highest_17 : decode cX3_highest 17 = .ok (.ireturn, 1) := dk_172 (dk_at dksX3_highest_0 17 rfl rfl)
abbrev cX3_claim : ByteArray := prog_21_method_32_code
def yX3_claim : MethodName := ⟨RX3, "claim", "(II)I"⟩
def dkwX3_claim_0 : List UInt8 := [42, 182, 0, 72, 42, 42, 27, 28, 182, 0, 112, 182, 0, 79, 172]
abbrev dktX3_claim_0 : List UInt8 := dkwX3_claim_0 ++ []
theorem dksX3_claim_0 : cX3_claim.data.toList.drop 0 = dktX3_claim_0 := by decide +kernel
theorem dX3_claim_0 : decode cX3_claim 0 = .ok (.aload_n 0, 1) := dk_42 (dk_at dksX3_claim_0 0 rfl rfl)
theorem dX3_claim_1 : decode cX3_claim 1 = .ok (.invokevirtual 72, 3) := dk_182 0 72 (dk_at dksX3_claim_0 1 rfl rfl)
theorem dX3_claim_4 : decode cX3_claim 4 = .ok (.aload_n 0, 1) := dk_42 (dk_at dksX3_claim_0 4 rfl rfl)
theorem dX3_claim_5 : decode cX3_claim 5 = .ok (.aload_n 0, 1) := dk_42 (dk_at dksX3_claim_0 5 rfl rfl)
theorem dX3_claim_6 : decode cX3_claim 6 = .ok (.iload_n 1, 1) := dk_27 (dk_at dksX3_claim_0 6 rfl rfl)
theorem dX3_claim_7 : decode cX3_claim 7 = .ok (.iload_n 2, 1) := dk_28 (dk_at dksX3_claim_0 7 rfl rfl)
theorem dX3_claim_8 : decode cX3_claim 8 = .ok (.invokevirtual 112, 3) := dk_182 0 112 (dk_at dksX3_claim_0 8 rfl rfl)
theorem dX3_claim_11 : decode cX3_claim 11 = .ok (.invokevirtual 79, 3) := dk_182 0 79 (dk_at dksX3_claim_0 11 rfl rfl)
theorem dX3_claim_14 : decode cX3_claim 14 = .ok (.ireturn, 1) := dk_172 (dk_at dksX3_claim_0 14 rfl rfl)
abbrev cX3_claims : ByteArray := prog_21_method_31_code
def yX3_claims : MethodName := ⟨RX3, "claims", "(II)I"⟩
def dkwX3_claims_9 : List UInt8 := [42, 180, 0, 7, 16, 12, 46, 100, 79, 5, 172]
abbrev dktX3_claims_9 : List UInt8 := dkwX3_claims_9 ++ []
def dkwX3_claims_8 : List UInt8 := [21, 5, 46, 42, 180, 0, 7, 16, 12, 46, 162, 0, 7, 3, 167, 0, 18, 42, 180, 0, 7, 21, 5, 46]
abbrev dktX3_claims_8 : List UInt8 := dkwX3_claims_8 ++ dktX3_claims_9
def dkwX3_claims_7 : List UInt8 := [184, 0, 109, 21, 4, 29, 184, 0, 109, 162, 0, 5, 4, 172, 42, 180, 0, 7, 21, 5, 42, 180, 0, 7]
abbrev dktX3_claims_7 : List UInt8 := dkwX3_claims_7 ++ dktX3_claims_8
def dkwX3_claims_6 : List UInt8 := [156, 0, 7, 3, 167, 0, 15, 42, 180, 0, 7, 21, 5, 46, 29, 96, 21, 4, 100, 79, 28, 29]
abbrev dktX3_claims_6 : List UInt8 := dkwX3_claims_6 ++ dktX3_claims_7
def dkwX3_claims_5 : List UInt8 := [21, 4, 100, 96, 79, 42, 180, 0, 7, 21, 5, 42, 180, 0, 7, 21, 5, 46, 29, 96, 21, 4, 100]
abbrev dktX3_claims_5 : List UInt8 := dkwX3_claims_5 ++ dktX3_claims_6
def dkwX3_claims_4 : List UInt8 := [180, 0, 54, 42, 180, 0, 60, 184, 0, 32, 154, 0, 5, 3, 172, 42, 180, 0, 7, 16, 13, 92, 46, 29]
abbrev dktX3_claims_4 : List UInt8 := dkwX3_claims_4 ++ dktX3_claims_5
def dkwX3_claims_3 : List UInt8 := [96, 3, 79, 42, 42, 27, 7, 182, 0, 96, 42, 27, 5, 182, 0, 96, 182, 0, 63, 153, 0, 18, 28, 42]
abbrev dktX3_claims_3 : List UInt8 := dkwX3_claims_3 ++ dktX3_claims_4
def dkwX3_claims_2 : List UInt8 := [21, 4, 160, 0, 6, 18, 108, 172, 16, 16, 16, 6, 27, 104, 96, 54, 5, 42, 180, 0, 7, 21, 5, 4]
abbrev dktX3_claims_2 : List UInt8 := dkwX3_claims_2 ++ dktX3_claims_3
def dkwX3_claims_1 : List UInt8 := [6, 182, 0, 96, 62, 42, 27, 8, 182, 0, 96, 54, 4, 42, 27, 4, 182, 0, 96, 153, 0, 9, 28]
abbrev dktX3_claims_1 : List UInt8 := dkwX3_claims_1 ++ dktX3_claims_2
def dkwX3_claims_0 : List UInt8 := [42, 27, 182, 0, 93, 153, 0, 14, 28, 3, 17, 39, 15, 184, 0, 32, 154, 0, 6, 18, 40, 172, 42, 27]
abbrev dktX3_claims_0 : List UInt8 := dkwX3_claims_0 ++ dktX3_claims_1
theorem dksX3_claims_0 : cX3_claims.data.toList.drop 0 = dktX3_claims_0 := by decide +kernel
theorem dksX3_claims_1 : cX3_claims.data.toList.drop 24 = dktX3_claims_1 := dk_seg dksX3_claims_0 24 rfl rfl
theorem dksX3_claims_2 : cX3_claims.data.toList.drop 47 = dktX3_claims_2 := dk_seg dksX3_claims_1 23 rfl rfl
theorem dksX3_claims_3 : cX3_claims.data.toList.drop 71 = dktX3_claims_3 := dk_seg dksX3_claims_2 24 rfl rfl
theorem dksX3_claims_4 : cX3_claims.data.toList.drop 95 = dktX3_claims_4 := dk_seg dksX3_claims_3 24 rfl rfl
theorem dksX3_claims_5 : cX3_claims.data.toList.drop 119 = dktX3_claims_5 := dk_seg dksX3_claims_4 24 rfl rfl
theorem dksX3_claims_6 : cX3_claims.data.toList.drop 142 = dktX3_claims_6 := dk_seg dksX3_claims_5 23 rfl rfl
theorem dksX3_claims_7 : cX3_claims.data.toList.drop 164 = dktX3_claims_7 := dk_seg dksX3_claims_6 22 rfl rfl
theorem dksX3_claims_8 : cX3_claims.data.toList.drop 188 = dktX3_claims_8 := dk_seg dksX3_claims_7 24 rfl rfl
theorem dksX3_claims_9 : cX3_claims.data.toList.drop 212 = dktX3_claims_9 := dk_seg dksX3_claims_8 24 rfl rfl
theorem dX3_claims_0 : decode cX3_claims 0 = .ok (.aload_n 0, 1) := dk_42 (dk_at dksX3_claims_0 0 rfl rfl)
theorem dX3_claims_1 : decode cX3_claims 1 = .ok (.iload_n 1, 1) := dk_27 (dk_at dksX3_claims_0 1 rfl rfl)
theorem dX3_claims_2 : decode cX3_claims 2 = .ok (.invokevirtual 93, 3) := dk_182 0 93 (dk_at dksX3_claims_0 2 rfl rfl)
theorem dX3_claims_5 : decode cX3_claims 5 = .ok (.ifCond .eq 14, 3) := dk_153 0 14 (dk_at dksX3_claims_0 5 rfl rfl)
theorem dX3_claims_8 : decode cX3_claims 8 = .ok (.iload_n 2, 1) := dk_28 (dk_at dksX3_claims_0 8 rfl rfl)
theorem dX3_claims_9 : decode cX3_claims 9 = .ok (.iconst 0, 1) := dk_3 (dk_at dksX3_claims_0 9 rfl rfl)
theorem dX3_claims_10 : decode cX3_claims 10 = .ok (.sipush 9999, 3) := dk_17 39 15 (dk_at dksX3_claims_0 10 rfl rfl)
theorem dX3_claims_13 : decode cX3_claims 13 = .ok (.invokestatic 32, 3) := dk_184 0 32 (dk_at dksX3_claims_0 13 rfl rfl)
theorem dX3_claims_16 : decode cX3_claims 16 = .ok (.ifCond .ne 6, 3) := dk_154 0 6 (dk_at dksX3_claims_0 16 rfl rfl)
theorem dX3_claims_19 : decode cX3_claims 19 = .ok (.ldc 40, 2) := dk_18 40 (dk_at dksX3_claims_0 19 rfl rfl)
theorem dX3_claims_21 : decode cX3_claims 21 = .ok (.ireturn, 1) := dk_172 (dk_at dksX3_claims_0 21 rfl rfl)
theorem dX3_claims_22 : decode cX3_claims 22 = .ok (.aload_n 0, 1) := dk_42 (dk_at dksX3_claims_0 22 rfl rfl)
theorem dX3_claims_23 : decode cX3_claims 23 = .ok (.iload_n 1, 1) := dk_27 (dk_at dksX3_claims_0 23 rfl rfl)
theorem dX3_claims_24 : decode cX3_claims 24 = .ok (.iconst 3, 1) := dk_6 (dk_at dksX3_claims_1 0 rfl rfl)
theorem dX3_claims_25 : decode cX3_claims 25 = .ok (.invokevirtual 96, 3) := dk_182 0 96 (dk_at dksX3_claims_1 1 rfl rfl)
theorem dX3_claims_28 : decode cX3_claims 28 = .ok (.istore_n 3, 1) := dk_62 (dk_at dksX3_claims_1 4 rfl rfl)
theorem dX3_claims_29 : decode cX3_claims 29 = .ok (.aload_n 0, 1) := dk_42 (dk_at dksX3_claims_1 5 rfl rfl)
theorem dX3_claims_30 : decode cX3_claims 30 = .ok (.iload_n 1, 1) := dk_27 (dk_at dksX3_claims_1 6 rfl rfl)
theorem dX3_claims_31 : decode cX3_claims 31 = .ok (.iconst 5, 1) := dk_8 (dk_at dksX3_claims_1 7 rfl rfl)
theorem dX3_claims_32 : decode cX3_claims 32 = .ok (.invokevirtual 96, 3) := dk_182 0 96 (dk_at dksX3_claims_1 8 rfl rfl)
theorem dX3_claims_35 : decode cX3_claims 35 = .ok (.istore 4, 2) := dk_54 4 (dk_at dksX3_claims_1 11 rfl rfl)
theorem dX3_claims_37 : decode cX3_claims 37 = .ok (.aload_n 0, 1) := dk_42 (dk_at dksX3_claims_1 13 rfl rfl)
theorem dX3_claims_38 : decode cX3_claims 38 = .ok (.iload_n 1, 1) := dk_27 (dk_at dksX3_claims_1 14 rfl rfl)
theorem dX3_claims_39 : decode cX3_claims 39 = .ok (.iconst 1, 1) := dk_4 (dk_at dksX3_claims_1 15 rfl rfl)
theorem dX3_claims_40 : decode cX3_claims 40 = .ok (.invokevirtual 96, 3) := dk_182 0 96 (dk_at dksX3_claims_1 16 rfl rfl)
theorem dX3_claims_43 : decode cX3_claims 43 = .ok (.ifCond .eq 9, 3) := dk_153 0 9 (dk_at dksX3_claims_1 19 rfl rfl)
theorem dX3_claims_46 : decode cX3_claims 46 = .ok (.iload_n 2, 1) := dk_28 (dk_at dksX3_claims_1 22 rfl rfl)
theorem dX3_claims_47 : decode cX3_claims 47 = .ok (.iload 4, 2) := dk_21 4 (dk_at dksX3_claims_2 0 rfl rfl)
theorem dX3_claims_49 : decode cX3_claims 49 = .ok (.if_icmp .ne 6, 3) := dk_160 0 6 (dk_at dksX3_claims_2 2 rfl rfl)
theorem dX3_claims_52 : decode cX3_claims 52 = .ok (.ldc 108, 2) := dk_18 108 (dk_at dksX3_claims_2 5 rfl rfl)
theorem dX3_claims_54 : decode cX3_claims 54 = .ok (.ireturn, 1) := dk_172 (dk_at dksX3_claims_2 7 rfl rfl)
theorem dX3_claims_55 : decode cX3_claims 55 = .ok (.bipush 16, 2) := dk_16 16 (dk_at dksX3_claims_2 8 rfl rfl)
theorem dX3_claims_57 : decode cX3_claims 57 = .ok (.bipush 6, 2) := dk_16 6 (dk_at dksX3_claims_2 10 rfl rfl)
theorem dX3_claims_59 : decode cX3_claims 59 = .ok (.iload_n 1, 1) := dk_27 (dk_at dksX3_claims_2 12 rfl rfl)
theorem dX3_claims_60 : decode cX3_claims 60 = .ok (.imul, 1) := dk_104 (dk_at dksX3_claims_2 13 rfl rfl)
theorem dX3_claims_61 : decode cX3_claims 61 = .ok (.iadd, 1) := dk_96 (dk_at dksX3_claims_2 14 rfl rfl)
theorem dX3_claims_62 : decode cX3_claims 62 = .ok (.istore 5, 2) := dk_54 5 (dk_at dksX3_claims_2 15 rfl rfl)
theorem dX3_claims_64 : decode cX3_claims 64 = .ok (.aload_n 0, 1) := dk_42 (dk_at dksX3_claims_2 17 rfl rfl)
theorem dX3_claims_65 : decode cX3_claims 65 = .ok (.getfield 7, 3) := dk_180 0 7 (dk_at dksX3_claims_2 18 rfl rfl)
theorem dX3_claims_68 : decode cX3_claims 68 = .ok (.iload 5, 2) := dk_21 5 (dk_at dksX3_claims_2 21 rfl rfl)
theorem dX3_claims_70 : decode cX3_claims 70 = .ok (.iconst 1, 1) := dk_4 (dk_at dksX3_claims_2 23 rfl rfl)
theorem dX3_claims_71 : decode cX3_claims 71 = .ok (.iadd, 1) := dk_96 (dk_at dksX3_claims_3 0 rfl rfl)
theorem dX3_claims_72 : decode cX3_claims 72 = .ok (.iconst 0, 1) := dk_3 (dk_at dksX3_claims_3 1 rfl rfl)
theorem dX3_claims_73 : decode cX3_claims 73 = .ok (.iastore, 1) := dk_79 (dk_at dksX3_claims_3 2 rfl rfl)
theorem dX3_claims_74 : decode cX3_claims 74 = .ok (.aload_n 0, 1) := dk_42 (dk_at dksX3_claims_3 3 rfl rfl)
theorem dX3_claims_75 : decode cX3_claims 75 = .ok (.aload_n 0, 1) := dk_42 (dk_at dksX3_claims_3 4 rfl rfl)
theorem dX3_claims_76 : decode cX3_claims 76 = .ok (.iload_n 1, 1) := dk_27 (dk_at dksX3_claims_3 5 rfl rfl)
theorem dX3_claims_77 : decode cX3_claims 77 = .ok (.iconst 4, 1) := dk_7 (dk_at dksX3_claims_3 6 rfl rfl)
theorem dX3_claims_78 : decode cX3_claims 78 = .ok (.invokevirtual 96, 3) := dk_182 0 96 (dk_at dksX3_claims_3 7 rfl rfl)
theorem dX3_claims_81 : decode cX3_claims 81 = .ok (.aload_n 0, 1) := dk_42 (dk_at dksX3_claims_3 10 rfl rfl)
theorem dX3_claims_82 : decode cX3_claims 82 = .ok (.iload_n 1, 1) := dk_27 (dk_at dksX3_claims_3 11 rfl rfl)
theorem dX3_claims_83 : decode cX3_claims 83 = .ok (.iconst 2, 1) := dk_5 (dk_at dksX3_claims_3 12 rfl rfl)
theorem dX3_claims_84 : decode cX3_claims 84 = .ok (.invokevirtual 96, 3) := dk_182 0 96 (dk_at dksX3_claims_3 13 rfl rfl)
theorem dX3_claims_87 : decode cX3_claims 87 = .ok (.invokevirtual 63, 3) := dk_182 0 63 (dk_at dksX3_claims_3 16 rfl rfl)
theorem dX3_claims_90 : decode cX3_claims 90 = .ok (.ifCond .eq 18, 3) := dk_153 0 18 (dk_at dksX3_claims_3 19 rfl rfl)
theorem dX3_claims_93 : decode cX3_claims 93 = .ok (.iload_n 2, 1) := dk_28 (dk_at dksX3_claims_3 22 rfl rfl)
theorem dX3_claims_94 : decode cX3_claims 94 = .ok (.aload_n 0, 1) := dk_42 (dk_at dksX3_claims_3 23 rfl rfl)
theorem dX3_claims_95 : decode cX3_claims 95 = .ok (.getfield 54, 3) := dk_180 0 54 (dk_at dksX3_claims_4 0 rfl rfl)
theorem dX3_claims_98 : decode cX3_claims 98 = .ok (.aload_n 0, 1) := dk_42 (dk_at dksX3_claims_4 3 rfl rfl)
theorem dX3_claims_99 : decode cX3_claims 99 = .ok (.getfield 60, 3) := dk_180 0 60 (dk_at dksX3_claims_4 4 rfl rfl)
theorem dX3_claims_102 : decode cX3_claims 102 = .ok (.invokestatic 32, 3) := dk_184 0 32 (dk_at dksX3_claims_4 7 rfl rfl)
theorem dX3_claims_105 : decode cX3_claims 105 = .ok (.ifCond .ne 5, 3) := dk_154 0 5 (dk_at dksX3_claims_4 10 rfl rfl)
theorem dX3_claims_108 : decode cX3_claims 108 = .ok (.iconst 0, 1) := dk_3 (dk_at dksX3_claims_4 13 rfl rfl)
theorem dX3_claims_109 : decode cX3_claims 109 = .ok (.ireturn, 1) := dk_172 (dk_at dksX3_claims_4 14 rfl rfl)
theorem dX3_claims_110 : decode cX3_claims 110 = .ok (.aload_n 0, 1) := dk_42 (dk_at dksX3_claims_4 15 rfl rfl)
theorem dX3_claims_111 : decode cX3_claims 111 = .ok (.getfield 7, 3) := dk_180 0 7 (dk_at dksX3_claims_4 16 rfl rfl)
theorem dX3_claims_114 : decode cX3_claims 114 = .ok (.bipush 13, 2) := dk_16 13 (dk_at dksX3_claims_4 19 rfl rfl)
theorem dX3_claims_116 : decode cX3_claims 116 = .ok (.dup2, 1) := dk_92 (dk_at dksX3_claims_4 21 rfl rfl)
theorem dX3_claims_117 : decode cX3_claims 117 = .ok (.iaload, 1) := dk_46 (dk_at dksX3_claims_4 22 rfl rfl)
theorem dX3_claims_118 : decode cX3_claims 118 = .ok (.iload_n 3, 1) := dk_29 (dk_at dksX3_claims_4 23 rfl rfl)
theorem dX3_claims_119 : decode cX3_claims 119 = .ok (.iload 4, 2) := dk_21 4 (dk_at dksX3_claims_5 0 rfl rfl)
theorem dX3_claims_121 : decode cX3_claims 121 = .ok (.isub, 1) := dk_100 (dk_at dksX3_claims_5 2 rfl rfl)
theorem dX3_claims_122 : decode cX3_claims 122 = .ok (.iadd, 1) := dk_96 (dk_at dksX3_claims_5 3 rfl rfl)
theorem dX3_claims_123 : decode cX3_claims 123 = .ok (.iastore, 1) := dk_79 (dk_at dksX3_claims_5 4 rfl rfl)
theorem dX3_claims_124 : decode cX3_claims 124 = .ok (.aload_n 0, 1) := dk_42 (dk_at dksX3_claims_5 5 rfl rfl)
theorem dX3_claims_125 : decode cX3_claims 125 = .ok (.getfield 7, 3) := dk_180 0 7 (dk_at dksX3_claims_5 6 rfl rfl)
theorem dX3_claims_128 : decode cX3_claims 128 = .ok (.iload 5, 2) := dk_21 5 (dk_at dksX3_claims_5 9 rfl rfl)
theorem dX3_claims_130 : decode cX3_claims 130 = .ok (.aload_n 0, 1) := dk_42 (dk_at dksX3_claims_5 11 rfl rfl)
theorem dX3_claims_131 : decode cX3_claims 131 = .ok (.getfield 7, 3) := dk_180 0 7 (dk_at dksX3_claims_5 12 rfl rfl)
theorem dX3_claims_134 : decode cX3_claims 134 = .ok (.iload 5, 2) := dk_21 5 (dk_at dksX3_claims_5 15 rfl rfl)
theorem dX3_claims_136 : decode cX3_claims 136 = .ok (.iaload, 1) := dk_46 (dk_at dksX3_claims_5 17 rfl rfl)
theorem dX3_claims_137 : decode cX3_claims 137 = .ok (.iload_n 3, 1) := dk_29 (dk_at dksX3_claims_5 18 rfl rfl)
theorem dX3_claims_138 : decode cX3_claims 138 = .ok (.iadd, 1) := dk_96 (dk_at dksX3_claims_5 19 rfl rfl)
theorem dX3_claims_139 : decode cX3_claims 139 = .ok (.iload 4, 2) := dk_21 4 (dk_at dksX3_claims_5 20 rfl rfl)
theorem dX3_claims_141 : decode cX3_claims 141 = .ok (.isub, 1) := dk_100 (dk_at dksX3_claims_5 22 rfl rfl)
theorem dX3_claims_142 : decode cX3_claims 142 = .ok (.ifCond .ge 7, 3) := dk_156 0 7 (dk_at dksX3_claims_6 0 rfl rfl)
theorem dX3_claims_145 : decode cX3_claims 145 = .ok (.iconst 0, 1) := dk_3 (dk_at dksX3_claims_6 3 rfl rfl)
theorem dX3_claims_146 : decode cX3_claims 146 = .ok (.goto 15, 3) := dk_167 0 15 (dk_at dksX3_claims_6 4 rfl rfl)
theorem dX3_claims_149 : decode cX3_claims 149 = .ok (.aload_n 0, 1) := dk_42 (dk_at dksX3_claims_6 7 rfl rfl)
theorem dX3_claims_150 : decode cX3_claims 150 = .ok (.getfield 7, 3) := dk_180 0 7 (dk_at dksX3_claims_6 8 rfl rfl)
theorem dX3_claims_153 : decode cX3_claims 153 = .ok (.iload 5, 2) := dk_21 5 (dk_at dksX3_claims_6 11 rfl rfl)
theorem dX3_claims_155 : decode cX3_claims 155 = .ok (.iaload, 1) := dk_46 (dk_at dksX3_claims_6 13 rfl rfl)
theorem dX3_claims_156 : decode cX3_claims 156 = .ok (.iload_n 3, 1) := dk_29 (dk_at dksX3_claims_6 14 rfl rfl)
theorem dX3_claims_157 : decode cX3_claims 157 = .ok (.iadd, 1) := dk_96 (dk_at dksX3_claims_6 15 rfl rfl)
theorem dX3_claims_158 : decode cX3_claims 158 = .ok (.iload 4, 2) := dk_21 4 (dk_at dksX3_claims_6 16 rfl rfl)
theorem dX3_claims_160 : decode cX3_claims 160 = .ok (.isub, 1) := dk_100 (dk_at dksX3_claims_6 18 rfl rfl)
theorem dX3_claims_161 : decode cX3_claims 161 = .ok (.iastore, 1) := dk_79 (dk_at dksX3_claims_6 19 rfl rfl)
theorem dX3_claims_162 : decode cX3_claims 162 = .ok (.iload_n 2, 1) := dk_28 (dk_at dksX3_claims_6 20 rfl rfl)
theorem dX3_claims_163 : decode cX3_claims 163 = .ok (.iload_n 3, 1) := dk_29 (dk_at dksX3_claims_6 21 rfl rfl)
theorem dX3_claims_164 : decode cX3_claims 164 = .ok (.invokestatic 109, 3) := dk_184 0 109 (dk_at dksX3_claims_7 0 rfl rfl)
theorem dX3_claims_167 : decode cX3_claims 167 = .ok (.iload 4, 2) := dk_21 4 (dk_at dksX3_claims_7 3 rfl rfl)
theorem dX3_claims_169 : decode cX3_claims 169 = .ok (.iload_n 3, 1) := dk_29 (dk_at dksX3_claims_7 5 rfl rfl)
theorem dX3_claims_170 : decode cX3_claims 170 = .ok (.invokestatic 109, 3) := dk_184 0 109 (dk_at dksX3_claims_7 6 rfl rfl)
theorem dX3_claims_173 : decode cX3_claims 173 = .ok (.if_icmp .ge 5, 3) := dk_162 0 5 (dk_at dksX3_claims_7 9 rfl rfl)
theorem dX3_claims_176 : decode cX3_claims 176 = .ok (.iconst 1, 1) := dk_4 (dk_at dksX3_claims_7 12 rfl rfl)
theorem dX3_claims_177 : decode cX3_claims 177 = .ok (.ireturn, 1) := dk_172 (dk_at dksX3_claims_7 13 rfl rfl)
theorem dX3_claims_178 : decode cX3_claims 178 = .ok (.aload_n 0, 1) := dk_42 (dk_at dksX3_claims_7 14 rfl rfl)
theorem dX3_claims_179 : decode cX3_claims 179 = .ok (.getfield 7, 3) := dk_180 0 7 (dk_at dksX3_claims_7 15 rfl rfl)
theorem dX3_claims_182 : decode cX3_claims 182 = .ok (.iload 5, 2) := dk_21 5 (dk_at dksX3_claims_7 18 rfl rfl)
theorem dX3_claims_184 : decode cX3_claims 184 = .ok (.aload_n 0, 1) := dk_42 (dk_at dksX3_claims_7 20 rfl rfl)
theorem dX3_claims_185 : decode cX3_claims 185 = .ok (.getfield 7, 3) := dk_180 0 7 (dk_at dksX3_claims_7 21 rfl rfl)
theorem dX3_claims_188 : decode cX3_claims 188 = .ok (.iload 5, 2) := dk_21 5 (dk_at dksX3_claims_8 0 rfl rfl)
theorem dX3_claims_190 : decode cX3_claims 190 = .ok (.iaload, 1) := dk_46 (dk_at dksX3_claims_8 2 rfl rfl)
theorem dX3_claims_191 : decode cX3_claims 191 = .ok (.aload_n 0, 1) := dk_42 (dk_at dksX3_claims_8 3 rfl rfl)
theorem dX3_claims_192 : decode cX3_claims 192 = .ok (.getfield 7, 3) := dk_180 0 7 (dk_at dksX3_claims_8 4 rfl rfl)
theorem dX3_claims_195 : decode cX3_claims 195 = .ok (.bipush 12, 2) := dk_16 12 (dk_at dksX3_claims_8 7 rfl rfl)
theorem dX3_claims_197 : decode cX3_claims 197 = .ok (.iaload, 1) := dk_46 (dk_at dksX3_claims_8 9 rfl rfl)
theorem dX3_claims_198 : decode cX3_claims 198 = .ok (.if_icmp .ge 7, 3) := dk_162 0 7 (dk_at dksX3_claims_8 10 rfl rfl)
theorem dX3_claims_201 : decode cX3_claims 201 = .ok (.iconst 0, 1) := dk_3 (dk_at dksX3_claims_8 13 rfl rfl)
theorem dX3_claims_202 : decode cX3_claims 202 = .ok (.goto 18, 3) := dk_167 0 18 (dk_at dksX3_claims_8 14 rfl rfl)
theorem dX3_claims_205 : decode cX3_claims 205 = .ok (.aload_n 0, 1) := dk_42 (dk_at dksX3_claims_8 17 rfl rfl)
theorem dX3_claims_206 : decode cX3_claims 206 = .ok (.getfield 7, 3) := dk_180 0 7 (dk_at dksX3_claims_8 18 rfl rfl)
theorem dX3_claims_209 : decode cX3_claims 209 = .ok (.iload 5, 2) := dk_21 5 (dk_at dksX3_claims_8 21 rfl rfl)
theorem dX3_claims_211 : decode cX3_claims 211 = .ok (.iaload, 1) := dk_46 (dk_at dksX3_claims_8 23 rfl rfl)
theorem dX3_claims_212 : decode cX3_claims 212 = .ok (.aload_n 0, 1) := dk_42 (dk_at dksX3_claims_9 0 rfl rfl)
theorem dX3_claims_213 : decode cX3_claims 213 = .ok (.getfield 7, 3) := dk_180 0 7 (dk_at dksX3_claims_9 1 rfl rfl)
theorem dX3_claims_216 : decode cX3_claims 216 = .ok (.bipush 12, 2) := dk_16 12 (dk_at dksX3_claims_9 4 rfl rfl)
theorem dX3_claims_218 : decode cX3_claims 218 = .ok (.iaload, 1) := dk_46 (dk_at dksX3_claims_9 6 rfl rfl)
theorem dX3_claims_219 : decode cX3_claims 219 = .ok (.isub, 1) := dk_100 (dk_at dksX3_claims_9 7 rfl rfl)
theorem dX3_claims_220 : decode cX3_claims 220 = .ok (.iastore, 1) := dk_79 (dk_at dksX3_claims_9 8 rfl rfl)
theorem dX3_claims_221 : decode cX3_claims 221 = .ok (.iconst 2, 1) := dk_5 (dk_at dksX3_claims_9 9 rfl rfl)
theorem dX3_claims_222 : decode cX3_claims 222 = .ok (.ireturn, 1) := dk_172 (dk_at dksX3_claims_9 10 rfl rfl)
abbrev cX3_far : ByteArray := prog_21_method_30_code
def yX3_far : MethodName := ⟨RX3, "far", "(II)I"⟩
def dkwX3_far_0 : List UInt8 := [26, 27, 162, 0, 9, 27, 26, 100, 167, 0, 6, 26, 27, 100, 172]
abbrev dktX3_far_0 : List UInt8 := dkwX3_far_0 ++ []
theorem dksX3_far_0 : cX3_far.data.toList.drop 0 = dktX3_far_0 := by decide +kernel
theorem dX3_far_0 : decode cX3_far 0 = .ok (.iload_n 0, 1) := dk_26 (dk_at dksX3_far_0 0 rfl rfl)
theorem dX3_far_1 : decode cX3_far 1 = .ok (.iload_n 1, 1) := dk_27 (dk_at dksX3_far_0 1 rfl rfl)
theorem dX3_far_2 : decode cX3_far 2 = .ok (.if_icmp .ge 9, 3) := dk_162 0 9 (dk_at dksX3_far_0 2 rfl rfl)
theorem dX3_far_5 : decode cX3_far 5 = .ok (.iload_n 1, 1) := dk_27 (dk_at dksX3_far_0 5 rfl rfl)
theorem dX3_far_6 : decode cX3_far 6 = .ok (.iload_n 0, 1) := dk_26 (dk_at dksX3_far_0 6 rfl rfl)
theorem dX3_far_7 : decode cX3_far 7 = .ok (.isub, 1) := dk_100 (dk_at dksX3_far_0 7 rfl rfl)
theorem dX3_far_8 : decode cX3_far 8 = .ok (.goto 6, 3) := dk_167 0 6 (dk_at dksX3_far_0 8 rfl rfl)
theorem dX3_far_11 : decode cX3_far 11 = .ok (.iload_n 0, 1) := dk_26 (dk_at dksX3_far_0 11 rfl rfl)
theorem dX3_far_12 : decode cX3_far 12 = .ok (.iload_n 1, 1) := dk_27 (dk_at dksX3_far_0 12 rfl rfl)
theorem dX3_far_13 : decode cX3_far 13 = .ok (.isub, 1) := dk_100 (dk_at dksX3_far_0 13 rfl rfl)
theorem dX3_far_14 : decode cX3_far 14 = .ok (.ireturn, 1) := dk_172 (dk_at dksX3_far_0 14 rfl rfl)
abbrev cX3_addPrize : ByteArray := prog_21_method_34_code
def yX3_addPrize : MethodName := ⟨RX3, "addPrize", "(IIIII)I"⟩
def dkwX3_addPrize_0 : List UInt8 := [42, 182, 0, 72, 42, 42, 27, 28, 29, 21, 4, 21, 5, 182, 0, 116, 182, 0, 79, 172]
abbrev dktX3_addPrize_0 : List UInt8 := dkwX3_addPrize_0 ++ []
theorem dksX3_addPrize_0 : cX3_addPrize.data.toList.drop 0 = dktX3_addPrize_0 := by decide +kernel
theorem dX3_addPrize_0 : decode cX3_addPrize 0 = .ok (.aload_n 0, 1) := dk_42 (dk_at dksX3_addPrize_0 0 rfl rfl)
theorem dX3_addPrize_1 : decode cX3_addPrize 1 = .ok (.invokevirtual 72, 3) := dk_182 0 72 (dk_at dksX3_addPrize_0 1 rfl rfl)
theorem dX3_addPrize_4 : decode cX3_addPrize 4 = .ok (.aload_n 0, 1) := dk_42 (dk_at dksX3_addPrize_0 4 rfl rfl)
theorem dX3_addPrize_5 : decode cX3_addPrize 5 = .ok (.aload_n 0, 1) := dk_42 (dk_at dksX3_addPrize_0 5 rfl rfl)
theorem dX3_addPrize_6 : decode cX3_addPrize 6 = .ok (.iload_n 1, 1) := dk_27 (dk_at dksX3_addPrize_0 6 rfl rfl)
theorem dX3_addPrize_7 : decode cX3_addPrize 7 = .ok (.iload_n 2, 1) := dk_28 (dk_at dksX3_addPrize_0 7 rfl rfl)
theorem dX3_addPrize_8 : decode cX3_addPrize 8 = .ok (.iload_n 3, 1) := dk_29 (dk_at dksX3_addPrize_0 8 rfl rfl)
theorem dX3_addPrize_9 : decode cX3_addPrize 9 = .ok (.iload 4, 2) := dk_21 4 (dk_at dksX3_addPrize_0 9 rfl rfl)
theorem dX3_addPrize_11 : decode cX3_addPrize 11 = .ok (.iload 5, 2) := dk_21 5 (dk_at dksX3_addPrize_0 11 rfl rfl)
theorem dX3_addPrize_13 : decode cX3_addPrize 13 = .ok (.invokevirtual 116, 3) := dk_182 0 116 (dk_at dksX3_addPrize_0 13 rfl rfl)
theorem dX3_addPrize_16 : decode cX3_addPrize 16 = .ok (.invokevirtual 79, 3) := dk_182 0 79 (dk_at dksX3_addPrize_0 16 rfl rfl)
theorem dX3_addPrize_19 : decode cX3_addPrize 19 = .ok (.ireturn, 1) := dk_172 (dk_at dksX3_addPrize_0 19 rfl rfl)
abbrev cX3_adds : ByteArray := prog_21_method_33_code
def yX3_adds : MethodName := ⟨RX3, "adds", "(IIIII)I"⟩
def dkwX3_adds_7 : List UInt8 := [96, 79, 42, 180, 0, 7, 16, 15, 46, 4, 100, 172]
abbrev dktX3_adds_7 : List UInt8 := dkwX3_adds_7 ++ []
def dkwX3_adds_6 : List UInt8 := [8, 96, 3, 79, 42, 180, 0, 7, 21, 6, 16, 6, 96, 3, 79, 42, 180, 0, 7, 16, 15, 92, 46, 4]
abbrev dktX3_adds_6 : List UInt8 := dkwX3_adds_6 ++ dktX3_adds_7
def dkwX3_adds_5 : List UInt8 := [21, 6, 6, 96, 21, 4, 79, 42, 180, 0, 7, 21, 6, 7, 96, 21, 5, 79, 42, 180, 0, 7, 21, 6]
abbrev dktX3_adds_5 : List UInt8 := dkwX3_adds_5 ++ dktX3_adds_6
def dkwX3_adds_4 : List UInt8 := [180, 0, 7, 21, 6, 4, 96, 28, 79, 42, 180, 0, 7, 21, 6, 5, 96, 29, 79, 42, 180, 0, 7]
abbrev dktX3_adds_4 : List UInt8 := dkwX3_adds_4 ++ dktX3_adds_5
def dkwX3_adds_3 : List UInt8 := [16, 52, 16, 7, 42, 180, 0, 7, 16, 15, 46, 104, 96, 54, 6, 42, 180, 0, 7, 21, 6, 27, 79, 42]
abbrev dktX3_adds_3 : List UInt8 := dkwX3_adds_3 ++ dktX3_adds_4
def dkwX3_adds_2 : List UInt8 := [184, 0, 32, 154, 0, 6, 18, 40, 172, 42, 180, 0, 7, 16, 15, 46, 16, 6, 160, 0, 6, 18, 89, 172]
abbrev dktX3_adds_2 : List UInt8 := dkwX3_adds_2 ++ dktX3_adds_3
def dkwX3_adds_1 : List UInt8 := [16, 99, 184, 0, 32, 153, 0, 25, 21, 4, 4, 18, 115, 184, 0, 32, 153, 0, 14, 21, 5, 4, 18, 115]
abbrev dktX3_adds_1 : List UInt8 := dkwX3_adds_1 ++ dktX3_adds_2
def dkwX3_adds_0 : List UInt8 := [27, 4, 17, 19, 136, 184, 0, 32, 153, 0, 46, 28, 4, 17, 78, 32, 184, 0, 32, 153, 0, 35, 29, 3]
abbrev dktX3_adds_0 : List UInt8 := dkwX3_adds_0 ++ dktX3_adds_1
theorem dksX3_adds_0 : cX3_adds.data.toList.drop 0 = dktX3_adds_0 := by decide +kernel
theorem dksX3_adds_1 : cX3_adds.data.toList.drop 24 = dktX3_adds_1 := dk_seg dksX3_adds_0 24 rfl rfl
theorem dksX3_adds_2 : cX3_adds.data.toList.drop 48 = dktX3_adds_2 := dk_seg dksX3_adds_1 24 rfl rfl
theorem dksX3_adds_3 : cX3_adds.data.toList.drop 72 = dktX3_adds_3 := dk_seg dksX3_adds_2 24 rfl rfl
theorem dksX3_adds_4 : cX3_adds.data.toList.drop 96 = dktX3_adds_4 := dk_seg dksX3_adds_3 24 rfl rfl
theorem dksX3_adds_5 : cX3_adds.data.toList.drop 119 = dktX3_adds_5 := dk_seg dksX3_adds_4 23 rfl rfl
theorem dksX3_adds_6 : cX3_adds.data.toList.drop 143 = dktX3_adds_6 := dk_seg dksX3_adds_5 24 rfl rfl
theorem dksX3_adds_7 : cX3_adds.data.toList.drop 167 = dktX3_adds_7 := dk_seg dksX3_adds_6 24 rfl rfl
theorem dX3_adds_0 : decode cX3_adds 0 = .ok (.iload_n 1, 1) := dk_27 (dk_at dksX3_adds_0 0 rfl rfl)
theorem dX3_adds_1 : decode cX3_adds 1 = .ok (.iconst 1, 1) := dk_4 (dk_at dksX3_adds_0 1 rfl rfl)
theorem dX3_adds_2 : decode cX3_adds 2 = .ok (.sipush 5000, 3) := dk_17 19 136 (dk_at dksX3_adds_0 2 rfl rfl)
theorem dX3_adds_5 : decode cX3_adds 5 = .ok (.invokestatic 32, 3) := dk_184 0 32 (dk_at dksX3_adds_0 5 rfl rfl)
theorem dX3_adds_8 : decode cX3_adds 8 = .ok (.ifCond .eq 46, 3) := dk_153 0 46 (dk_at dksX3_adds_0 8 rfl rfl)
theorem dX3_adds_11 : decode cX3_adds 11 = .ok (.iload_n 2, 1) := dk_28 (dk_at dksX3_adds_0 11 rfl rfl)
theorem dX3_adds_12 : decode cX3_adds 12 = .ok (.iconst 1, 1) := dk_4 (dk_at dksX3_adds_0 12 rfl rfl)
theorem dX3_adds_13 : decode cX3_adds 13 = .ok (.sipush 20000, 3) := dk_17 78 32 (dk_at dksX3_adds_0 13 rfl rfl)
theorem dX3_adds_16 : decode cX3_adds 16 = .ok (.invokestatic 32, 3) := dk_184 0 32 (dk_at dksX3_adds_0 16 rfl rfl)
theorem dX3_adds_19 : decode cX3_adds 19 = .ok (.ifCond .eq 35, 3) := dk_153 0 35 (dk_at dksX3_adds_0 19 rfl rfl)
theorem dX3_adds_22 : decode cX3_adds 22 = .ok (.iload_n 3, 1) := dk_29 (dk_at dksX3_adds_0 22 rfl rfl)
theorem dX3_adds_23 : decode cX3_adds 23 = .ok (.iconst 0, 1) := dk_3 (dk_at dksX3_adds_0 23 rfl rfl)
theorem dX3_adds_24 : decode cX3_adds 24 = .ok (.bipush 99, 2) := dk_16 99 (dk_at dksX3_adds_1 0 rfl rfl)
theorem dX3_adds_26 : decode cX3_adds 26 = .ok (.invokestatic 32, 3) := dk_184 0 32 (dk_at dksX3_adds_1 2 rfl rfl)
theorem dX3_adds_29 : decode cX3_adds 29 = .ok (.ifCond .eq 25, 3) := dk_153 0 25 (dk_at dksX3_adds_1 5 rfl rfl)
theorem dX3_adds_32 : decode cX3_adds 32 = .ok (.iload 4, 2) := dk_21 4 (dk_at dksX3_adds_1 8 rfl rfl)
theorem dX3_adds_34 : decode cX3_adds 34 = .ok (.iconst 1, 1) := dk_4 (dk_at dksX3_adds_1 10 rfl rfl)
theorem dX3_adds_35 : decode cX3_adds 35 = .ok (.ldc 115, 2) := dk_18 115 (dk_at dksX3_adds_1 11 rfl rfl)
theorem dX3_adds_37 : decode cX3_adds 37 = .ok (.invokestatic 32, 3) := dk_184 0 32 (dk_at dksX3_adds_1 13 rfl rfl)
theorem dX3_adds_40 : decode cX3_adds 40 = .ok (.ifCond .eq 14, 3) := dk_153 0 14 (dk_at dksX3_adds_1 16 rfl rfl)
theorem dX3_adds_43 : decode cX3_adds 43 = .ok (.iload 5, 2) := dk_21 5 (dk_at dksX3_adds_1 19 rfl rfl)
theorem dX3_adds_45 : decode cX3_adds 45 = .ok (.iconst 1, 1) := dk_4 (dk_at dksX3_adds_1 21 rfl rfl)
theorem dX3_adds_46 : decode cX3_adds 46 = .ok (.ldc 115, 2) := dk_18 115 (dk_at dksX3_adds_1 22 rfl rfl)
theorem dX3_adds_48 : decode cX3_adds 48 = .ok (.invokestatic 32, 3) := dk_184 0 32 (dk_at dksX3_adds_2 0 rfl rfl)
theorem dX3_adds_51 : decode cX3_adds 51 = .ok (.ifCond .ne 6, 3) := dk_154 0 6 (dk_at dksX3_adds_2 3 rfl rfl)
theorem dX3_adds_54 : decode cX3_adds 54 = .ok (.ldc 40, 2) := dk_18 40 (dk_at dksX3_adds_2 6 rfl rfl)
theorem dX3_adds_56 : decode cX3_adds 56 = .ok (.ireturn, 1) := dk_172 (dk_at dksX3_adds_2 8 rfl rfl)
theorem dX3_adds_57 : decode cX3_adds 57 = .ok (.aload_n 0, 1) := dk_42 (dk_at dksX3_adds_2 9 rfl rfl)
theorem dX3_adds_58 : decode cX3_adds 58 = .ok (.getfield 7, 3) := dk_180 0 7 (dk_at dksX3_adds_2 10 rfl rfl)
theorem dX3_adds_61 : decode cX3_adds 61 = .ok (.bipush 15, 2) := dk_16 15 (dk_at dksX3_adds_2 13 rfl rfl)
theorem dX3_adds_63 : decode cX3_adds 63 = .ok (.iaload, 1) := dk_46 (dk_at dksX3_adds_2 15 rfl rfl)
theorem dX3_adds_64 : decode cX3_adds 64 = .ok (.bipush 6, 2) := dk_16 6 (dk_at dksX3_adds_2 16 rfl rfl)
theorem dX3_adds_66 : decode cX3_adds 66 = .ok (.if_icmp .ne 6, 3) := dk_160 0 6 (dk_at dksX3_adds_2 18 rfl rfl)
theorem dX3_adds_69 : decode cX3_adds 69 = .ok (.ldc 89, 2) := dk_18 89 (dk_at dksX3_adds_2 21 rfl rfl)
theorem dX3_adds_71 : decode cX3_adds 71 = .ok (.ireturn, 1) := dk_172 (dk_at dksX3_adds_2 23 rfl rfl)
theorem dX3_adds_72 : decode cX3_adds 72 = .ok (.bipush 52, 2) := dk_16 52 (dk_at dksX3_adds_3 0 rfl rfl)
theorem dX3_adds_74 : decode cX3_adds 74 = .ok (.bipush 7, 2) := dk_16 7 (dk_at dksX3_adds_3 2 rfl rfl)
theorem dX3_adds_76 : decode cX3_adds 76 = .ok (.aload_n 0, 1) := dk_42 (dk_at dksX3_adds_3 4 rfl rfl)
theorem dX3_adds_77 : decode cX3_adds 77 = .ok (.getfield 7, 3) := dk_180 0 7 (dk_at dksX3_adds_3 5 rfl rfl)
theorem dX3_adds_80 : decode cX3_adds 80 = .ok (.bipush 15, 2) := dk_16 15 (dk_at dksX3_adds_3 8 rfl rfl)
theorem dX3_adds_82 : decode cX3_adds 82 = .ok (.iaload, 1) := dk_46 (dk_at dksX3_adds_3 10 rfl rfl)
theorem dX3_adds_83 : decode cX3_adds 83 = .ok (.imul, 1) := dk_104 (dk_at dksX3_adds_3 11 rfl rfl)
theorem dX3_adds_84 : decode cX3_adds 84 = .ok (.iadd, 1) := dk_96 (dk_at dksX3_adds_3 12 rfl rfl)
theorem dX3_adds_85 : decode cX3_adds 85 = .ok (.istore 6, 2) := dk_54 6 (dk_at dksX3_adds_3 13 rfl rfl)
theorem dX3_adds_87 : decode cX3_adds 87 = .ok (.aload_n 0, 1) := dk_42 (dk_at dksX3_adds_3 15 rfl rfl)
theorem dX3_adds_88 : decode cX3_adds 88 = .ok (.getfield 7, 3) := dk_180 0 7 (dk_at dksX3_adds_3 16 rfl rfl)
theorem dX3_adds_91 : decode cX3_adds 91 = .ok (.iload 6, 2) := dk_21 6 (dk_at dksX3_adds_3 19 rfl rfl)
theorem dX3_adds_93 : decode cX3_adds 93 = .ok (.iload_n 1, 1) := dk_27 (dk_at dksX3_adds_3 21 rfl rfl)
theorem dX3_adds_94 : decode cX3_adds 94 = .ok (.iastore, 1) := dk_79 (dk_at dksX3_adds_3 22 rfl rfl)
theorem dX3_adds_95 : decode cX3_adds 95 = .ok (.aload_n 0, 1) := dk_42 (dk_at dksX3_adds_3 23 rfl rfl)
theorem dX3_adds_96 : decode cX3_adds 96 = .ok (.getfield 7, 3) := dk_180 0 7 (dk_at dksX3_adds_4 0 rfl rfl)
theorem dX3_adds_99 : decode cX3_adds 99 = .ok (.iload 6, 2) := dk_21 6 (dk_at dksX3_adds_4 3 rfl rfl)
theorem dX3_adds_101 : decode cX3_adds 101 = .ok (.iconst 1, 1) := dk_4 (dk_at dksX3_adds_4 5 rfl rfl)
theorem dX3_adds_102 : decode cX3_adds 102 = .ok (.iadd, 1) := dk_96 (dk_at dksX3_adds_4 6 rfl rfl)
theorem dX3_adds_103 : decode cX3_adds 103 = .ok (.iload_n 2, 1) := dk_28 (dk_at dksX3_adds_4 7 rfl rfl)
theorem dX3_adds_104 : decode cX3_adds 104 = .ok (.iastore, 1) := dk_79 (dk_at dksX3_adds_4 8 rfl rfl)
theorem dX3_adds_105 : decode cX3_adds 105 = .ok (.aload_n 0, 1) := dk_42 (dk_at dksX3_adds_4 9 rfl rfl)
theorem dX3_adds_106 : decode cX3_adds 106 = .ok (.getfield 7, 3) := dk_180 0 7 (dk_at dksX3_adds_4 10 rfl rfl)
theorem dX3_adds_109 : decode cX3_adds 109 = .ok (.iload 6, 2) := dk_21 6 (dk_at dksX3_adds_4 13 rfl rfl)
theorem dX3_adds_111 : decode cX3_adds 111 = .ok (.iconst 2, 1) := dk_5 (dk_at dksX3_adds_4 15 rfl rfl)
theorem dX3_adds_112 : decode cX3_adds 112 = .ok (.iadd, 1) := dk_96 (dk_at dksX3_adds_4 16 rfl rfl)
theorem dX3_adds_113 : decode cX3_adds 113 = .ok (.iload_n 3, 1) := dk_29 (dk_at dksX3_adds_4 17 rfl rfl)
theorem dX3_adds_114 : decode cX3_adds 114 = .ok (.iastore, 1) := dk_79 (dk_at dksX3_adds_4 18 rfl rfl)
theorem dX3_adds_115 : decode cX3_adds 115 = .ok (.aload_n 0, 1) := dk_42 (dk_at dksX3_adds_4 19 rfl rfl)
theorem dX3_adds_116 : decode cX3_adds 116 = .ok (.getfield 7, 3) := dk_180 0 7 (dk_at dksX3_adds_4 20 rfl rfl)
theorem dX3_adds_119 : decode cX3_adds 119 = .ok (.iload 6, 2) := dk_21 6 (dk_at dksX3_adds_5 0 rfl rfl)
theorem dX3_adds_121 : decode cX3_adds 121 = .ok (.iconst 3, 1) := dk_6 (dk_at dksX3_adds_5 2 rfl rfl)
theorem dX3_adds_122 : decode cX3_adds 122 = .ok (.iadd, 1) := dk_96 (dk_at dksX3_adds_5 3 rfl rfl)
theorem dX3_adds_123 : decode cX3_adds 123 = .ok (.iload 4, 2) := dk_21 4 (dk_at dksX3_adds_5 4 rfl rfl)
theorem dX3_adds_125 : decode cX3_adds 125 = .ok (.iastore, 1) := dk_79 (dk_at dksX3_adds_5 6 rfl rfl)
theorem dX3_adds_126 : decode cX3_adds 126 = .ok (.aload_n 0, 1) := dk_42 (dk_at dksX3_adds_5 7 rfl rfl)
theorem dX3_adds_127 : decode cX3_adds 127 = .ok (.getfield 7, 3) := dk_180 0 7 (dk_at dksX3_adds_5 8 rfl rfl)
theorem dX3_adds_130 : decode cX3_adds 130 = .ok (.iload 6, 2) := dk_21 6 (dk_at dksX3_adds_5 11 rfl rfl)
theorem dX3_adds_132 : decode cX3_adds 132 = .ok (.iconst 4, 1) := dk_7 (dk_at dksX3_adds_5 13 rfl rfl)
theorem dX3_adds_133 : decode cX3_adds 133 = .ok (.iadd, 1) := dk_96 (dk_at dksX3_adds_5 14 rfl rfl)
theorem dX3_adds_134 : decode cX3_adds 134 = .ok (.iload 5, 2) := dk_21 5 (dk_at dksX3_adds_5 15 rfl rfl)
theorem dX3_adds_136 : decode cX3_adds 136 = .ok (.iastore, 1) := dk_79 (dk_at dksX3_adds_5 17 rfl rfl)
theorem dX3_adds_137 : decode cX3_adds 137 = .ok (.aload_n 0, 1) := dk_42 (dk_at dksX3_adds_5 18 rfl rfl)
theorem dX3_adds_138 : decode cX3_adds 138 = .ok (.getfield 7, 3) := dk_180 0 7 (dk_at dksX3_adds_5 19 rfl rfl)
theorem dX3_adds_141 : decode cX3_adds 141 = .ok (.iload 6, 2) := dk_21 6 (dk_at dksX3_adds_5 22 rfl rfl)
theorem dX3_adds_143 : decode cX3_adds 143 = .ok (.iconst 5, 1) := dk_8 (dk_at dksX3_adds_6 0 rfl rfl)
theorem dX3_adds_144 : decode cX3_adds 144 = .ok (.iadd, 1) := dk_96 (dk_at dksX3_adds_6 1 rfl rfl)
theorem dX3_adds_145 : decode cX3_adds 145 = .ok (.iconst 0, 1) := dk_3 (dk_at dksX3_adds_6 2 rfl rfl)
theorem dX3_adds_146 : decode cX3_adds 146 = .ok (.iastore, 1) := dk_79 (dk_at dksX3_adds_6 3 rfl rfl)
theorem dX3_adds_147 : decode cX3_adds 147 = .ok (.aload_n 0, 1) := dk_42 (dk_at dksX3_adds_6 4 rfl rfl)
theorem dX3_adds_148 : decode cX3_adds 148 = .ok (.getfield 7, 3) := dk_180 0 7 (dk_at dksX3_adds_6 5 rfl rfl)
theorem dX3_adds_151 : decode cX3_adds 151 = .ok (.iload 6, 2) := dk_21 6 (dk_at dksX3_adds_6 8 rfl rfl)
theorem dX3_adds_153 : decode cX3_adds 153 = .ok (.bipush 6, 2) := dk_16 6 (dk_at dksX3_adds_6 10 rfl rfl)
theorem dX3_adds_155 : decode cX3_adds 155 = .ok (.iadd, 1) := dk_96 (dk_at dksX3_adds_6 12 rfl rfl)
theorem dX3_adds_156 : decode cX3_adds 156 = .ok (.iconst 0, 1) := dk_3 (dk_at dksX3_adds_6 13 rfl rfl)
theorem dX3_adds_157 : decode cX3_adds 157 = .ok (.iastore, 1) := dk_79 (dk_at dksX3_adds_6 14 rfl rfl)
theorem dX3_adds_158 : decode cX3_adds 158 = .ok (.aload_n 0, 1) := dk_42 (dk_at dksX3_adds_6 15 rfl rfl)
theorem dX3_adds_159 : decode cX3_adds 159 = .ok (.getfield 7, 3) := dk_180 0 7 (dk_at dksX3_adds_6 16 rfl rfl)
theorem dX3_adds_162 : decode cX3_adds 162 = .ok (.bipush 15, 2) := dk_16 15 (dk_at dksX3_adds_6 19 rfl rfl)
theorem dX3_adds_164 : decode cX3_adds 164 = .ok (.dup2, 1) := dk_92 (dk_at dksX3_adds_6 21 rfl rfl)
theorem dX3_adds_165 : decode cX3_adds 165 = .ok (.iaload, 1) := dk_46 (dk_at dksX3_adds_6 22 rfl rfl)
theorem dX3_adds_166 : decode cX3_adds 166 = .ok (.iconst 1, 1) := dk_4 (dk_at dksX3_adds_6 23 rfl rfl)
theorem dX3_adds_167 : decode cX3_adds 167 = .ok (.iadd, 1) := dk_96 (dk_at dksX3_adds_7 0 rfl rfl)
theorem dX3_adds_168 : decode cX3_adds 168 = .ok (.iastore, 1) := dk_79 (dk_at dksX3_adds_7 1 rfl rfl)
theorem dX3_adds_169 : decode cX3_adds 169 = .ok (.aload_n 0, 1) := dk_42 (dk_at dksX3_adds_7 2 rfl rfl)
theorem dX3_adds_170 : decode cX3_adds 170 = .ok (.getfield 7, 3) := dk_180 0 7 (dk_at dksX3_adds_7 3 rfl rfl)
theorem dX3_adds_173 : decode cX3_adds 173 = .ok (.bipush 15, 2) := dk_16 15 (dk_at dksX3_adds_7 6 rfl rfl)
theorem dX3_adds_175 : decode cX3_adds 175 = .ok (.iaload, 1) := dk_46 (dk_at dksX3_adds_7 8 rfl rfl)
theorem dX3_adds_176 : decode cX3_adds 176 = .ok (.iconst 1, 1) := dk_4 (dk_at dksX3_adds_7 9 rfl rfl)
theorem dX3_adds_177 : decode cX3_adds 177 = .ok (.isub, 1) := dk_100 (dk_at dksX3_adds_7 10 rfl rfl)
theorem dX3_adds_178 : decode cX3_adds 178 = .ok (.ireturn, 1) := dk_172 (dk_at dksX3_adds_7 11 rfl rfl)
abbrev cX3_removePrize : ByteArray := prog_21_method_35_code
def yX3_removePrize : MethodName := ⟨RX3, "removePrize", "(I)I"⟩
def dkwX3_removePrize_3 : List UInt8 := [46, 79, 132, 3, 1, 167, 255, 218, 42, 28, 182, 0, 79, 172]
abbrev dktX3_removePrize_3 : List UInt8 := dkwX3_removePrize_3 ++ []
def dkwX3_removePrize_2 : List UInt8 := [46, 104, 162, 0, 30, 42, 180, 0, 7, 16, 52, 29, 96, 42, 180, 0, 7, 16, 52, 29, 96, 16, 7, 96]
abbrev dktX3_removePrize_2 : List UInt8 := dkwX3_removePrize_2 ++ dktX3_removePrize_3
def dkwX3_removePrize_1 : List UInt8 := [180, 0, 7, 16, 15, 92, 46, 4, 100, 79, 16, 7, 27, 104, 62, 29, 16, 7, 42, 180, 0, 7, 16, 15]
abbrev dktX3_removePrize_1 : List UInt8 := dkwX3_removePrize_1 ++ dktX3_removePrize_2
def dkwX3_removePrize_0 : List UInt8 := [42, 27, 182, 0, 120, 154, 0, 6, 18, 40, 172, 42, 182, 0, 72, 42, 27, 5, 182, 0, 123, 61, 42]
abbrev dktX3_removePrize_0 : List UInt8 := dkwX3_removePrize_0 ++ dktX3_removePrize_1
theorem dksX3_removePrize_0 : cX3_removePrize.data.toList.drop 0 = dktX3_removePrize_0 := by decide +kernel
theorem dksX3_removePrize_1 : cX3_removePrize.data.toList.drop 23 = dktX3_removePrize_1 := dk_seg dksX3_removePrize_0 23 rfl rfl
theorem dksX3_removePrize_2 : cX3_removePrize.data.toList.drop 47 = dktX3_removePrize_2 := dk_seg dksX3_removePrize_1 24 rfl rfl
theorem dksX3_removePrize_3 : cX3_removePrize.data.toList.drop 71 = dktX3_removePrize_3 := dk_seg dksX3_removePrize_2 24 rfl rfl
theorem dX3_removePrize_0 : decode cX3_removePrize 0 = .ok (.aload_n 0, 1) := dk_42 (dk_at dksX3_removePrize_0 0 rfl rfl)
theorem dX3_removePrize_1 : decode cX3_removePrize 1 = .ok (.iload_n 1, 1) := dk_27 (dk_at dksX3_removePrize_0 1 rfl rfl)
theorem dX3_removePrize_2 : decode cX3_removePrize 2 = .ok (.invokevirtual 120, 3) := dk_182 0 120 (dk_at dksX3_removePrize_0 2 rfl rfl)
theorem dX3_removePrize_5 : decode cX3_removePrize 5 = .ok (.ifCond .ne 6, 3) := dk_154 0 6 (dk_at dksX3_removePrize_0 5 rfl rfl)
theorem dX3_removePrize_8 : decode cX3_removePrize 8 = .ok (.ldc 40, 2) := dk_18 40 (dk_at dksX3_removePrize_0 8 rfl rfl)
theorem dX3_removePrize_10 : decode cX3_removePrize 10 = .ok (.ireturn, 1) := dk_172 (dk_at dksX3_removePrize_0 10 rfl rfl)
theorem dX3_removePrize_11 : decode cX3_removePrize 11 = .ok (.aload_n 0, 1) := dk_42 (dk_at dksX3_removePrize_0 11 rfl rfl)
theorem dX3_removePrize_12 : decode cX3_removePrize 12 = .ok (.invokevirtual 72, 3) := dk_182 0 72 (dk_at dksX3_removePrize_0 12 rfl rfl)
theorem dX3_removePrize_15 : decode cX3_removePrize 15 = .ok (.aload_n 0, 1) := dk_42 (dk_at dksX3_removePrize_0 15 rfl rfl)
theorem dX3_removePrize_16 : decode cX3_removePrize 16 = .ok (.iload_n 1, 1) := dk_27 (dk_at dksX3_removePrize_0 16 rfl rfl)
theorem dX3_removePrize_17 : decode cX3_removePrize 17 = .ok (.iconst 2, 1) := dk_5 (dk_at dksX3_removePrize_0 17 rfl rfl)
theorem dX3_removePrize_18 : decode cX3_removePrize 18 = .ok (.invokevirtual 123, 3) := dk_182 0 123 (dk_at dksX3_removePrize_0 18 rfl rfl)
theorem dX3_removePrize_21 : decode cX3_removePrize 21 = .ok (.istore_n 2, 1) := dk_61 (dk_at dksX3_removePrize_0 21 rfl rfl)
theorem dX3_removePrize_22 : decode cX3_removePrize 22 = .ok (.aload_n 0, 1) := dk_42 (dk_at dksX3_removePrize_0 22 rfl rfl)
theorem dX3_removePrize_23 : decode cX3_removePrize 23 = .ok (.getfield 7, 3) := dk_180 0 7 (dk_at dksX3_removePrize_1 0 rfl rfl)
theorem dX3_removePrize_26 : decode cX3_removePrize 26 = .ok (.bipush 15, 2) := dk_16 15 (dk_at dksX3_removePrize_1 3 rfl rfl)
theorem dX3_removePrize_28 : decode cX3_removePrize 28 = .ok (.dup2, 1) := dk_92 (dk_at dksX3_removePrize_1 5 rfl rfl)
theorem dX3_removePrize_29 : decode cX3_removePrize 29 = .ok (.iaload, 1) := dk_46 (dk_at dksX3_removePrize_1 6 rfl rfl)
theorem dX3_removePrize_30 : decode cX3_removePrize 30 = .ok (.iconst 1, 1) := dk_4 (dk_at dksX3_removePrize_1 7 rfl rfl)
theorem dX3_removePrize_31 : decode cX3_removePrize 31 = .ok (.isub, 1) := dk_100 (dk_at dksX3_removePrize_1 8 rfl rfl)
theorem dX3_removePrize_32 : decode cX3_removePrize 32 = .ok (.iastore, 1) := dk_79 (dk_at dksX3_removePrize_1 9 rfl rfl)
theorem dX3_removePrize_33 : decode cX3_removePrize 33 = .ok (.bipush 7, 2) := dk_16 7 (dk_at dksX3_removePrize_1 10 rfl rfl)
theorem dX3_removePrize_35 : decode cX3_removePrize 35 = .ok (.iload_n 1, 1) := dk_27 (dk_at dksX3_removePrize_1 12 rfl rfl)
theorem dX3_removePrize_36 : decode cX3_removePrize 36 = .ok (.imul, 1) := dk_104 (dk_at dksX3_removePrize_1 13 rfl rfl)
theorem dX3_removePrize_37 : decode cX3_removePrize 37 = .ok (.istore_n 3, 1) := dk_62 (dk_at dksX3_removePrize_1 14 rfl rfl)
theorem dX3_removePrize_38 : decode cX3_removePrize 38 = .ok (.iload_n 3, 1) := dk_29 (dk_at dksX3_removePrize_1 15 rfl rfl)
theorem dX3_removePrize_39 : decode cX3_removePrize 39 = .ok (.bipush 7, 2) := dk_16 7 (dk_at dksX3_removePrize_1 16 rfl rfl)
theorem dX3_removePrize_41 : decode cX3_removePrize 41 = .ok (.aload_n 0, 1) := dk_42 (dk_at dksX3_removePrize_1 18 rfl rfl)
theorem dX3_removePrize_42 : decode cX3_removePrize 42 = .ok (.getfield 7, 3) := dk_180 0 7 (dk_at dksX3_removePrize_1 19 rfl rfl)
theorem dX3_removePrize_45 : decode cX3_removePrize 45 = .ok (.bipush 15, 2) := dk_16 15 (dk_at dksX3_removePrize_1 22 rfl rfl)
theorem dX3_removePrize_47 : decode cX3_removePrize 47 = .ok (.iaload, 1) := dk_46 (dk_at dksX3_removePrize_2 0 rfl rfl)
theorem dX3_removePrize_48 : decode cX3_removePrize 48 = .ok (.imul, 1) := dk_104 (dk_at dksX3_removePrize_2 1 rfl rfl)
theorem dX3_removePrize_49 : decode cX3_removePrize 49 = .ok (.if_icmp .ge 30, 3) := dk_162 0 30 (dk_at dksX3_removePrize_2 2 rfl rfl)
theorem dX3_removePrize_52 : decode cX3_removePrize 52 = .ok (.aload_n 0, 1) := dk_42 (dk_at dksX3_removePrize_2 5 rfl rfl)
theorem dX3_removePrize_53 : decode cX3_removePrize 53 = .ok (.getfield 7, 3) := dk_180 0 7 (dk_at dksX3_removePrize_2 6 rfl rfl)
theorem dX3_removePrize_56 : decode cX3_removePrize 56 = .ok (.bipush 52, 2) := dk_16 52 (dk_at dksX3_removePrize_2 9 rfl rfl)
theorem dX3_removePrize_58 : decode cX3_removePrize 58 = .ok (.iload_n 3, 1) := dk_29 (dk_at dksX3_removePrize_2 11 rfl rfl)
theorem dX3_removePrize_59 : decode cX3_removePrize 59 = .ok (.iadd, 1) := dk_96 (dk_at dksX3_removePrize_2 12 rfl rfl)
theorem dX3_removePrize_60 : decode cX3_removePrize 60 = .ok (.aload_n 0, 1) := dk_42 (dk_at dksX3_removePrize_2 13 rfl rfl)
theorem dX3_removePrize_61 : decode cX3_removePrize 61 = .ok (.getfield 7, 3) := dk_180 0 7 (dk_at dksX3_removePrize_2 14 rfl rfl)
theorem dX3_removePrize_64 : decode cX3_removePrize 64 = .ok (.bipush 52, 2) := dk_16 52 (dk_at dksX3_removePrize_2 17 rfl rfl)
theorem dX3_removePrize_66 : decode cX3_removePrize 66 = .ok (.iload_n 3, 1) := dk_29 (dk_at dksX3_removePrize_2 19 rfl rfl)
theorem dX3_removePrize_67 : decode cX3_removePrize 67 = .ok (.iadd, 1) := dk_96 (dk_at dksX3_removePrize_2 20 rfl rfl)
theorem dX3_removePrize_68 : decode cX3_removePrize 68 = .ok (.bipush 7, 2) := dk_16 7 (dk_at dksX3_removePrize_2 21 rfl rfl)
theorem dX3_removePrize_70 : decode cX3_removePrize 70 = .ok (.iadd, 1) := dk_96 (dk_at dksX3_removePrize_2 23 rfl rfl)
theorem dX3_removePrize_71 : decode cX3_removePrize 71 = .ok (.iaload, 1) := dk_46 (dk_at dksX3_removePrize_3 0 rfl rfl)
theorem dX3_removePrize_72 : decode cX3_removePrize 72 = .ok (.iastore, 1) := dk_79 (dk_at dksX3_removePrize_3 1 rfl rfl)
theorem dX3_removePrize_73 : decode cX3_removePrize 73 = .ok (.iinc 3 1, 3) := dk_132 3 1 (dk_at dksX3_removePrize_3 2 rfl rfl)
theorem dX3_removePrize_76 : decode cX3_removePrize 76 = .ok (.goto (-38), 3) := dk_167 255 218 (dk_at dksX3_removePrize_3 5 rfl rfl)
theorem dX3_removePrize_79 : decode cX3_removePrize 79 = .ok (.aload_n 0, 1) := dk_42 (dk_at dksX3_removePrize_3 8 rfl rfl)
theorem dX3_removePrize_80 : decode cX3_removePrize 80 = .ok (.iload_n 2, 1) := dk_28 (dk_at dksX3_removePrize_3 9 rfl rfl)
theorem dX3_removePrize_81 : decode cX3_removePrize 81 = .ok (.invokevirtual 79, 3) := dk_182 0 79 (dk_at dksX3_removePrize_3 10 rfl rfl)
theorem dX3_removePrize_84 : decode cX3_removePrize 84 = .ok (.ireturn, 1) := dk_172 (dk_at dksX3_removePrize_3 13 rfl rfl)
abbrev cX3_isPrize : ByteArray := prog_21_method_4_code
def yX3_isPrize : MethodName := ⟨RX3, "isPrize", "(I)Z"⟩
def dkwX3_isPrize_0 : List UInt8 := [27, 3, 42, 180, 0, 7, 16, 15, 46, 4, 100, 184, 0, 32, 172]
abbrev dktX3_isPrize_0 : List UInt8 := dkwX3_isPrize_0 ++ []
theorem dksX3_isPrize_0 : cX3_isPrize.data.toList.drop 0 = dktX3_isPrize_0 := by decide +kernel
theorem dX3_isPrize_0 : decode cX3_isPrize 0 = .ok (.iload_n 1, 1) := dk_27 (dk_at dksX3_isPrize_0 0 rfl rfl)
theorem dX3_isPrize_1 : decode cX3_isPrize 1 = .ok (.iconst 0, 1) := dk_3 (dk_at dksX3_isPrize_0 1 rfl rfl)
theorem dX3_isPrize_2 : decode cX3_isPrize 2 = .ok (.aload_n 0, 1) := dk_42 (dk_at dksX3_isPrize_0 2 rfl rfl)
theorem dX3_isPrize_3 : decode cX3_isPrize 3 = .ok (.getfield 7, 3) := dk_180 0 7 (dk_at dksX3_isPrize_0 3 rfl rfl)
theorem dX3_isPrize_6 : decode cX3_isPrize 6 = .ok (.bipush 15, 2) := dk_16 15 (dk_at dksX3_isPrize_0 6 rfl rfl)
theorem dX3_isPrize_8 : decode cX3_isPrize 8 = .ok (.iaload, 1) := dk_46 (dk_at dksX3_isPrize_0 8 rfl rfl)
theorem dX3_isPrize_9 : decode cX3_isPrize 9 = .ok (.iconst 1, 1) := dk_4 (dk_at dksX3_isPrize_0 9 rfl rfl)
theorem dX3_isPrize_10 : decode cX3_isPrize 10 = .ok (.isub, 1) := dk_100 (dk_at dksX3_isPrize_0 10 rfl rfl)
theorem dX3_isPrize_11 : decode cX3_isPrize 11 = .ok (.invokestatic 32, 3) := dk_184 0 32 (dk_at dksX3_isPrize_0 11 rfl rfl)
theorem dX3_isPrize_14 : decode cX3_isPrize 14 = .ok (.ireturn, 1) := dk_172 (dk_at dksX3_isPrize_0 14 rfl rfl)
abbrev cX3_priced : ByteArray := prog_21_method_7_code
def yX3_priced : MethodName := ⟨RX3, "priced", "(II)I"⟩
def dkwX3_priced_0 : List UInt8 := [42, 180, 0, 7, 16, 52, 16, 7, 27, 104, 96, 28, 96, 46, 172]
abbrev dktX3_priced_0 : List UInt8 := dkwX3_priced_0 ++ []
theorem dksX3_priced_0 : cX3_priced.data.toList.drop 0 = dktX3_priced_0 := by decide +kernel
theorem dX3_priced_0 : decode cX3_priced 0 = .ok (.aload_n 0, 1) := dk_42 (dk_at dksX3_priced_0 0 rfl rfl)
theorem dX3_priced_1 : decode cX3_priced 1 = .ok (.getfield 7, 3) := dk_180 0 7 (dk_at dksX3_priced_0 1 rfl rfl)
theorem dX3_priced_4 : decode cX3_priced 4 = .ok (.bipush 52, 2) := dk_16 52 (dk_at dksX3_priced_0 4 rfl rfl)
theorem dX3_priced_6 : decode cX3_priced 6 = .ok (.bipush 7, 2) := dk_16 7 (dk_at dksX3_priced_0 6 rfl rfl)
theorem dX3_priced_8 : decode cX3_priced 8 = .ok (.iload_n 1, 1) := dk_27 (dk_at dksX3_priced_0 8 rfl rfl)
theorem dX3_priced_9 : decode cX3_priced 9 = .ok (.imul, 1) := dk_104 (dk_at dksX3_priced_0 9 rfl rfl)
theorem dX3_priced_10 : decode cX3_priced 10 = .ok (.iadd, 1) := dk_96 (dk_at dksX3_priced_0 10 rfl rfl)
theorem dX3_priced_11 : decode cX3_priced 11 = .ok (.iload_n 2, 1) := dk_28 (dk_at dksX3_priced_0 11 rfl rfl)
theorem dX3_priced_12 : decode cX3_priced 12 = .ok (.iadd, 1) := dk_96 (dk_at dksX3_priced_0 12 rfl rfl)
theorem dX3_priced_13 : decode cX3_priced 13 = .ok (.iaload, 1) := dk_46 (dk_at dksX3_priced_0 13 rfl rfl)
theorem dX3_priced_14 : decode cX3_priced 14 = .ok (.ireturn, 1) := dk_172 (dk_at dksX3_priced_0 14 rfl rfl)
abbrev cX3_setPrice : ByteArray := prog_21_method_36_code
def yX3_setPrice : MethodName := ⟨RX3, "setPrice", "(II)I"⟩
def dkwX3_setPrice_1 : List UInt8 := [28, 4, 17, 19, 136, 182, 0, 85, 182, 0, 79, 172]
abbrev dktX3_setPrice_1 : List UInt8 := dkwX3_setPrice_1 ++ []
def dkwX3_setPrice_0 : List UInt8 := [42, 27, 182, 0, 120, 154, 0, 6, 18, 40, 172, 42, 182, 0, 72, 42, 42, 16, 52, 16, 7, 27, 104, 96]
abbrev dktX3_setPrice_0 : List UInt8 := dkwX3_setPrice_0 ++ dktX3_setPrice_1
theorem dksX3_setPrice_0 : cX3_setPrice.data.toList.drop 0 = dktX3_setPrice_0 := by decide +kernel
theorem dksX3_setPrice_1 : cX3_setPrice.data.toList.drop 24 = dktX3_setPrice_1 := dk_seg dksX3_setPrice_0 24 rfl rfl
theorem dX3_setPrice_0 : decode cX3_setPrice 0 = .ok (.aload_n 0, 1) := dk_42 (dk_at dksX3_setPrice_0 0 rfl rfl)
theorem dX3_setPrice_1 : decode cX3_setPrice 1 = .ok (.iload_n 1, 1) := dk_27 (dk_at dksX3_setPrice_0 1 rfl rfl)
theorem dX3_setPrice_2 : decode cX3_setPrice 2 = .ok (.invokevirtual 120, 3) := dk_182 0 120 (dk_at dksX3_setPrice_0 2 rfl rfl)
theorem dX3_setPrice_5 : decode cX3_setPrice 5 = .ok (.ifCond .ne 6, 3) := dk_154 0 6 (dk_at dksX3_setPrice_0 5 rfl rfl)
theorem dX3_setPrice_8 : decode cX3_setPrice 8 = .ok (.ldc 40, 2) := dk_18 40 (dk_at dksX3_setPrice_0 8 rfl rfl)
theorem dX3_setPrice_10 : decode cX3_setPrice 10 = .ok (.ireturn, 1) := dk_172 (dk_at dksX3_setPrice_0 10 rfl rfl)
theorem dX3_setPrice_11 : decode cX3_setPrice 11 = .ok (.aload_n 0, 1) := dk_42 (dk_at dksX3_setPrice_0 11 rfl rfl)
theorem dX3_setPrice_12 : decode cX3_setPrice 12 = .ok (.invokevirtual 72, 3) := dk_182 0 72 (dk_at dksX3_setPrice_0 12 rfl rfl)
theorem dX3_setPrice_15 : decode cX3_setPrice 15 = .ok (.aload_n 0, 1) := dk_42 (dk_at dksX3_setPrice_0 15 rfl rfl)
theorem dX3_setPrice_16 : decode cX3_setPrice 16 = .ok (.aload_n 0, 1) := dk_42 (dk_at dksX3_setPrice_0 16 rfl rfl)
theorem dX3_setPrice_17 : decode cX3_setPrice 17 = .ok (.bipush 52, 2) := dk_16 52 (dk_at dksX3_setPrice_0 17 rfl rfl)
theorem dX3_setPrice_19 : decode cX3_setPrice 19 = .ok (.bipush 7, 2) := dk_16 7 (dk_at dksX3_setPrice_0 19 rfl rfl)
theorem dX3_setPrice_21 : decode cX3_setPrice 21 = .ok (.iload_n 1, 1) := dk_27 (dk_at dksX3_setPrice_0 21 rfl rfl)
theorem dX3_setPrice_22 : decode cX3_setPrice 22 = .ok (.imul, 1) := dk_104 (dk_at dksX3_setPrice_0 22 rfl rfl)
theorem dX3_setPrice_23 : decode cX3_setPrice 23 = .ok (.iadd, 1) := dk_96 (dk_at dksX3_setPrice_0 23 rfl rfl)
theorem dX3_setPrice_24 : decode cX3_setPrice 24 = .ok (.iload_n 2, 1) := dk_28 (dk_at dksX3_setPrice_1 0 rfl rfl)
theorem dX3_setPrice_25 : decode cX3_setPrice 25 = .ok (.iconst 1, 1) := dk_4 (dk_at dksX3_setPrice_1 1 rfl rfl)
theorem dX3_setPrice_26 : decode cX3_setPrice 26 = .ok (.sipush 5000, 3) := dk_17 19 136 (dk_at dksX3_setPrice_1 2 rfl rfl)
theorem dX3_setPrice_29 : decode cX3_setPrice 29 = .ok (.invokevirtual 85, 3) := dk_182 0 85 (dk_at dksX3_setPrice_1 5 rfl rfl)
theorem dX3_setPrice_32 : decode cX3_setPrice 32 = .ok (.invokevirtual 79, 3) := dk_182 0 79 (dk_at dksX3_setPrice_1 8 rfl rfl)
theorem dX3_setPrice_35 : decode cX3_setPrice 35 = .ok (.ireturn, 1) := dk_172 (dk_at dksX3_setPrice_1 11 rfl rfl)
abbrev cX3_buy : ByteArray := prog_21_method_39_code
def yX3_buy : MethodName := ⟨RX3, "buy", "(III)I"⟩
def dkwX3_buy_0 : List UInt8 := [42, 182, 0, 72, 42, 42, 27, 28, 29, 182, 0, 131, 182, 0, 79, 172]
abbrev dktX3_buy_0 : List UInt8 := dkwX3_buy_0 ++ []
theorem dksX3_buy_0 : cX3_buy.data.toList.drop 0 = dktX3_buy_0 := by decide +kernel
theorem dX3_buy_0 : decode cX3_buy 0 = .ok (.aload_n 0, 1) := dk_42 (dk_at dksX3_buy_0 0 rfl rfl)
theorem dX3_buy_1 : decode cX3_buy 1 = .ok (.invokevirtual 72, 3) := dk_182 0 72 (dk_at dksX3_buy_0 1 rfl rfl)
theorem dX3_buy_4 : decode cX3_buy 4 = .ok (.aload_n 0, 1) := dk_42 (dk_at dksX3_buy_0 4 rfl rfl)
theorem dX3_buy_5 : decode cX3_buy 5 = .ok (.aload_n 0, 1) := dk_42 (dk_at dksX3_buy_0 5 rfl rfl)
theorem dX3_buy_6 : decode cX3_buy 6 = .ok (.iload_n 1, 1) := dk_27 (dk_at dksX3_buy_0 6 rfl rfl)
theorem dX3_buy_7 : decode cX3_buy 7 = .ok (.iload_n 2, 1) := dk_28 (dk_at dksX3_buy_0 7 rfl rfl)
theorem dX3_buy_8 : decode cX3_buy 8 = .ok (.iload_n 3, 1) := dk_29 (dk_at dksX3_buy_0 8 rfl rfl)
theorem dX3_buy_9 : decode cX3_buy 9 = .ok (.invokevirtual 131, 3) := dk_182 0 131 (dk_at dksX3_buy_0 9 rfl rfl)
theorem dX3_buy_12 : decode cX3_buy 12 = .ok (.invokevirtual 79, 3) := dk_182 0 79 (dk_at dksX3_buy_0 12 rfl rfl)
theorem dX3_buy_15 : decode cX3_buy 15 = .ok (.ireturn, 1) := dk_172 (dk_at dksX3_buy_0 15 rfl rfl)
abbrev cX3_buys : ByteArray := prog_21_method_38_code
def yX3_buys : MethodName := ⟨RX3, "buys", "(III)I"⟩
def dkwX3_buys_9 : List UInt8 := [27, 3, 182, 0, 96, 172]
abbrev dktX3_buys_9 : List UInt8 := dkwX3_buys_9 ++ []
def dkwX3_buys_8 : List UInt8 := [4, 96, 46, 108, 184, 0, 128, 79, 42, 180, 0, 7, 21, 4, 16, 6, 96, 92, 46, 21, 6, 96, 79, 42]
abbrev dktX3_buys_8 : List UInt8 := dkwX3_buys_8 ++ dktX3_buys_9
def dkwX3_buys_7 : List UInt8 := [21, 4, 5, 96, 46, 29, 100, 21, 6, 42, 180, 0, 7, 21, 4, 7, 96, 46, 42, 180, 0, 7, 21, 4]
abbrev dktX3_buys_7 : List UInt8 := dkwX3_buys_7 ++ dktX3_buys_8
def dkwX3_buys_6 : List UInt8 := [42, 180, 0, 7, 21, 4, 6, 96, 46, 112, 79, 42, 180, 0, 7, 21, 4, 5, 96, 42, 180, 0, 7]
abbrev dktX3_buys_6 : List UInt8 := dkwX3_buys_6 ++ dktX3_buys_7
def dkwX3_buys_5 : List UInt8 := [21, 5, 42, 180, 0, 7, 21, 4, 6, 96, 46, 108, 54, 6, 42, 180, 0, 7, 21, 4, 8, 96, 21, 5]
abbrev dktX3_buys_5 : List UInt8 := dkwX3_buys_5 ++ dktX3_buys_6
def dkwX3_buys_4 : List UInt8 := [42, 180, 0, 7, 21, 4, 8, 96, 46, 29, 42, 180, 0, 7, 21, 4, 4, 96, 46, 104, 96, 54, 5]
abbrev dktX3_buys_4 : List UInt8 := dkwX3_buys_4 ++ dktX3_buys_5
def dkwX3_buys_3 : List UInt8 := [27, 104, 96, 92, 46, 29, 42, 28, 3, 182, 0, 123, 104, 100, 79, 16, 52, 16, 7, 28, 104, 96, 54, 4]
abbrev dktX3_buys_3 : List UInt8 := dkwX3_buys_3 ++ dktX3_buys_4
def dkwX3_buys_2 : List UInt8 := [18, 108, 172, 42, 28, 5, 182, 0, 123, 29, 162, 0, 6, 18, 89, 172, 42, 180, 0, 7, 16, 16, 16, 6]
abbrev dktX3_buys_2 : List UInt8 := dkwX3_buys_2 ++ dktX3_buys_3
def dkwX3_buys_1 : List UInt8 := [154, 0, 6, 18, 40, 172, 42, 27, 3, 182, 0, 96, 29, 42, 28, 3, 182, 0, 123, 104, 162, 0, 6]
abbrev dktX3_buys_1 : List UInt8 := dkwX3_buys_1 ++ dktX3_buys_2
def dkwX3_buys_0 : List UInt8 := [42, 27, 182, 0, 93, 153, 0, 21, 42, 28, 182, 0, 120, 153, 0, 13, 29, 4, 16, 99, 184, 0, 32]
abbrev dktX3_buys_0 : List UInt8 := dkwX3_buys_0 ++ dktX3_buys_1
theorem dksX3_buys_0 : cX3_buys.data.toList.drop 0 = dktX3_buys_0 := by decide +kernel
theorem dksX3_buys_1 : cX3_buys.data.toList.drop 23 = dktX3_buys_1 := dk_seg dksX3_buys_0 23 rfl rfl
theorem dksX3_buys_2 : cX3_buys.data.toList.drop 46 = dktX3_buys_2 := dk_seg dksX3_buys_1 23 rfl rfl
theorem dksX3_buys_3 : cX3_buys.data.toList.drop 70 = dktX3_buys_3 := dk_seg dksX3_buys_2 24 rfl rfl
theorem dksX3_buys_4 : cX3_buys.data.toList.drop 94 = dktX3_buys_4 := dk_seg dksX3_buys_3 24 rfl rfl
theorem dksX3_buys_5 : cX3_buys.data.toList.drop 117 = dktX3_buys_5 := dk_seg dksX3_buys_4 23 rfl rfl
theorem dksX3_buys_6 : cX3_buys.data.toList.drop 141 = dktX3_buys_6 := dk_seg dksX3_buys_5 24 rfl rfl
theorem dksX3_buys_7 : cX3_buys.data.toList.drop 164 = dktX3_buys_7 := dk_seg dksX3_buys_6 23 rfl rfl
theorem dksX3_buys_8 : cX3_buys.data.toList.drop 188 = dktX3_buys_8 := dk_seg dksX3_buys_7 24 rfl rfl
theorem dksX3_buys_9 : cX3_buys.data.toList.drop 212 = dktX3_buys_9 := dk_seg dksX3_buys_8 24 rfl rfl
theorem dX3_buys_0 : decode cX3_buys 0 = .ok (.aload_n 0, 1) := dk_42 (dk_at dksX3_buys_0 0 rfl rfl)
theorem dX3_buys_1 : decode cX3_buys 1 = .ok (.iload_n 1, 1) := dk_27 (dk_at dksX3_buys_0 1 rfl rfl)
theorem dX3_buys_2 : decode cX3_buys 2 = .ok (.invokevirtual 93, 3) := dk_182 0 93 (dk_at dksX3_buys_0 2 rfl rfl)
theorem dX3_buys_5 : decode cX3_buys 5 = .ok (.ifCond .eq 21, 3) := dk_153 0 21 (dk_at dksX3_buys_0 5 rfl rfl)
theorem dX3_buys_8 : decode cX3_buys 8 = .ok (.aload_n 0, 1) := dk_42 (dk_at dksX3_buys_0 8 rfl rfl)
theorem dX3_buys_9 : decode cX3_buys 9 = .ok (.iload_n 2, 1) := dk_28 (dk_at dksX3_buys_0 9 rfl rfl)
theorem dX3_buys_10 : decode cX3_buys 10 = .ok (.invokevirtual 120, 3) := dk_182 0 120 (dk_at dksX3_buys_0 10 rfl rfl)
theorem dX3_buys_13 : decode cX3_buys 13 = .ok (.ifCond .eq 13, 3) := dk_153 0 13 (dk_at dksX3_buys_0 13 rfl rfl)
theorem dX3_buys_16 : decode cX3_buys 16 = .ok (.iload_n 3, 1) := dk_29 (dk_at dksX3_buys_0 16 rfl rfl)
theorem dX3_buys_17 : decode cX3_buys 17 = .ok (.iconst 1, 1) := dk_4 (dk_at dksX3_buys_0 17 rfl rfl)
theorem dX3_buys_18 : decode cX3_buys 18 = .ok (.bipush 99, 2) := dk_16 99 (dk_at dksX3_buys_0 18 rfl rfl)
theorem dX3_buys_20 : decode cX3_buys 20 = .ok (.invokestatic 32, 3) := dk_184 0 32 (dk_at dksX3_buys_0 20 rfl rfl)
theorem dX3_buys_23 : decode cX3_buys 23 = .ok (.ifCond .ne 6, 3) := dk_154 0 6 (dk_at dksX3_buys_1 0 rfl rfl)
theorem dX3_buys_26 : decode cX3_buys 26 = .ok (.ldc 40, 2) := dk_18 40 (dk_at dksX3_buys_1 3 rfl rfl)
theorem dX3_buys_28 : decode cX3_buys 28 = .ok (.ireturn, 1) := dk_172 (dk_at dksX3_buys_1 5 rfl rfl)
theorem dX3_buys_29 : decode cX3_buys 29 = .ok (.aload_n 0, 1) := dk_42 (dk_at dksX3_buys_1 6 rfl rfl)
theorem dX3_buys_30 : decode cX3_buys 30 = .ok (.iload_n 1, 1) := dk_27 (dk_at dksX3_buys_1 7 rfl rfl)
theorem dX3_buys_31 : decode cX3_buys 31 = .ok (.iconst 0, 1) := dk_3 (dk_at dksX3_buys_1 8 rfl rfl)
theorem dX3_buys_32 : decode cX3_buys 32 = .ok (.invokevirtual 96, 3) := dk_182 0 96 (dk_at dksX3_buys_1 9 rfl rfl)
theorem dX3_buys_35 : decode cX3_buys 35 = .ok (.iload_n 3, 1) := dk_29 (dk_at dksX3_buys_1 12 rfl rfl)
theorem dX3_buys_36 : decode cX3_buys 36 = .ok (.aload_n 0, 1) := dk_42 (dk_at dksX3_buys_1 13 rfl rfl)
theorem dX3_buys_37 : decode cX3_buys 37 = .ok (.iload_n 2, 1) := dk_28 (dk_at dksX3_buys_1 14 rfl rfl)
theorem dX3_buys_38 : decode cX3_buys 38 = .ok (.iconst 0, 1) := dk_3 (dk_at dksX3_buys_1 15 rfl rfl)
theorem dX3_buys_39 : decode cX3_buys 39 = .ok (.invokevirtual 123, 3) := dk_182 0 123 (dk_at dksX3_buys_1 16 rfl rfl)
theorem dX3_buys_42 : decode cX3_buys 42 = .ok (.imul, 1) := dk_104 (dk_at dksX3_buys_1 19 rfl rfl)
theorem dX3_buys_43 : decode cX3_buys 43 = .ok (.if_icmp .ge 6, 3) := dk_162 0 6 (dk_at dksX3_buys_1 20 rfl rfl)
theorem dX3_buys_46 : decode cX3_buys 46 = .ok (.ldc 108, 2) := dk_18 108 (dk_at dksX3_buys_2 0 rfl rfl)
theorem dX3_buys_48 : decode cX3_buys 48 = .ok (.ireturn, 1) := dk_172 (dk_at dksX3_buys_2 2 rfl rfl)
theorem dX3_buys_49 : decode cX3_buys 49 = .ok (.aload_n 0, 1) := dk_42 (dk_at dksX3_buys_2 3 rfl rfl)
theorem dX3_buys_50 : decode cX3_buys 50 = .ok (.iload_n 2, 1) := dk_28 (dk_at dksX3_buys_2 4 rfl rfl)
theorem dX3_buys_51 : decode cX3_buys 51 = .ok (.iconst 2, 1) := dk_5 (dk_at dksX3_buys_2 5 rfl rfl)
theorem dX3_buys_52 : decode cX3_buys 52 = .ok (.invokevirtual 123, 3) := dk_182 0 123 (dk_at dksX3_buys_2 6 rfl rfl)
theorem dX3_buys_55 : decode cX3_buys 55 = .ok (.iload_n 3, 1) := dk_29 (dk_at dksX3_buys_2 9 rfl rfl)
theorem dX3_buys_56 : decode cX3_buys 56 = .ok (.if_icmp .ge 6, 3) := dk_162 0 6 (dk_at dksX3_buys_2 10 rfl rfl)
theorem dX3_buys_59 : decode cX3_buys 59 = .ok (.ldc 89, 2) := dk_18 89 (dk_at dksX3_buys_2 13 rfl rfl)
theorem dX3_buys_61 : decode cX3_buys 61 = .ok (.ireturn, 1) := dk_172 (dk_at dksX3_buys_2 15 rfl rfl)
theorem dX3_buys_62 : decode cX3_buys 62 = .ok (.aload_n 0, 1) := dk_42 (dk_at dksX3_buys_2 16 rfl rfl)
theorem dX3_buys_63 : decode cX3_buys 63 = .ok (.getfield 7, 3) := dk_180 0 7 (dk_at dksX3_buys_2 17 rfl rfl)
theorem dX3_buys_66 : decode cX3_buys 66 = .ok (.bipush 16, 2) := dk_16 16 (dk_at dksX3_buys_2 20 rfl rfl)
theorem dX3_buys_68 : decode cX3_buys 68 = .ok (.bipush 6, 2) := dk_16 6 (dk_at dksX3_buys_2 22 rfl rfl)
theorem dX3_buys_70 : decode cX3_buys 70 = .ok (.iload_n 1, 1) := dk_27 (dk_at dksX3_buys_3 0 rfl rfl)
theorem dX3_buys_71 : decode cX3_buys 71 = .ok (.imul, 1) := dk_104 (dk_at dksX3_buys_3 1 rfl rfl)
theorem dX3_buys_72 : decode cX3_buys 72 = .ok (.iadd, 1) := dk_96 (dk_at dksX3_buys_3 2 rfl rfl)
theorem dX3_buys_73 : decode cX3_buys 73 = .ok (.dup2, 1) := dk_92 (dk_at dksX3_buys_3 3 rfl rfl)
theorem dX3_buys_74 : decode cX3_buys 74 = .ok (.iaload, 1) := dk_46 (dk_at dksX3_buys_3 4 rfl rfl)
theorem dX3_buys_75 : decode cX3_buys 75 = .ok (.iload_n 3, 1) := dk_29 (dk_at dksX3_buys_3 5 rfl rfl)
theorem dX3_buys_76 : decode cX3_buys 76 = .ok (.aload_n 0, 1) := dk_42 (dk_at dksX3_buys_3 6 rfl rfl)
theorem dX3_buys_77 : decode cX3_buys 77 = .ok (.iload_n 2, 1) := dk_28 (dk_at dksX3_buys_3 7 rfl rfl)
theorem dX3_buys_78 : decode cX3_buys 78 = .ok (.iconst 0, 1) := dk_3 (dk_at dksX3_buys_3 8 rfl rfl)
theorem dX3_buys_79 : decode cX3_buys 79 = .ok (.invokevirtual 123, 3) := dk_182 0 123 (dk_at dksX3_buys_3 9 rfl rfl)
theorem dX3_buys_82 : decode cX3_buys 82 = .ok (.imul, 1) := dk_104 (dk_at dksX3_buys_3 12 rfl rfl)
theorem dX3_buys_83 : decode cX3_buys 83 = .ok (.isub, 1) := dk_100 (dk_at dksX3_buys_3 13 rfl rfl)
theorem dX3_buys_84 : decode cX3_buys 84 = .ok (.iastore, 1) := dk_79 (dk_at dksX3_buys_3 14 rfl rfl)
theorem dX3_buys_85 : decode cX3_buys 85 = .ok (.bipush 52, 2) := dk_16 52 (dk_at dksX3_buys_3 15 rfl rfl)
theorem dX3_buys_87 : decode cX3_buys 87 = .ok (.bipush 7, 2) := dk_16 7 (dk_at dksX3_buys_3 17 rfl rfl)
theorem dX3_buys_89 : decode cX3_buys 89 = .ok (.iload_n 2, 1) := dk_28 (dk_at dksX3_buys_3 19 rfl rfl)
theorem dX3_buys_90 : decode cX3_buys 90 = .ok (.imul, 1) := dk_104 (dk_at dksX3_buys_3 20 rfl rfl)
theorem dX3_buys_91 : decode cX3_buys 91 = .ok (.iadd, 1) := dk_96 (dk_at dksX3_buys_3 21 rfl rfl)
theorem dX3_buys_92 : decode cX3_buys 92 = .ok (.istore 4, 2) := dk_54 4 (dk_at dksX3_buys_3 22 rfl rfl)
theorem dX3_buys_94 : decode cX3_buys 94 = .ok (.aload_n 0, 1) := dk_42 (dk_at dksX3_buys_4 0 rfl rfl)
theorem dX3_buys_95 : decode cX3_buys 95 = .ok (.getfield 7, 3) := dk_180 0 7 (dk_at dksX3_buys_4 1 rfl rfl)
theorem dX3_buys_98 : decode cX3_buys 98 = .ok (.iload 4, 2) := dk_21 4 (dk_at dksX3_buys_4 4 rfl rfl)
theorem dX3_buys_100 : decode cX3_buys 100 = .ok (.iconst 5, 1) := dk_8 (dk_at dksX3_buys_4 6 rfl rfl)
theorem dX3_buys_101 : decode cX3_buys 101 = .ok (.iadd, 1) := dk_96 (dk_at dksX3_buys_4 7 rfl rfl)
theorem dX3_buys_102 : decode cX3_buys 102 = .ok (.iaload, 1) := dk_46 (dk_at dksX3_buys_4 8 rfl rfl)
theorem dX3_buys_103 : decode cX3_buys 103 = .ok (.iload_n 3, 1) := dk_29 (dk_at dksX3_buys_4 9 rfl rfl)
theorem dX3_buys_104 : decode cX3_buys 104 = .ok (.aload_n 0, 1) := dk_42 (dk_at dksX3_buys_4 10 rfl rfl)
theorem dX3_buys_105 : decode cX3_buys 105 = .ok (.getfield 7, 3) := dk_180 0 7 (dk_at dksX3_buys_4 11 rfl rfl)
theorem dX3_buys_108 : decode cX3_buys 108 = .ok (.iload 4, 2) := dk_21 4 (dk_at dksX3_buys_4 14 rfl rfl)
theorem dX3_buys_110 : decode cX3_buys 110 = .ok (.iconst 1, 1) := dk_4 (dk_at dksX3_buys_4 16 rfl rfl)
theorem dX3_buys_111 : decode cX3_buys 111 = .ok (.iadd, 1) := dk_96 (dk_at dksX3_buys_4 17 rfl rfl)
theorem dX3_buys_112 : decode cX3_buys 112 = .ok (.iaload, 1) := dk_46 (dk_at dksX3_buys_4 18 rfl rfl)
theorem dX3_buys_113 : decode cX3_buys 113 = .ok (.imul, 1) := dk_104 (dk_at dksX3_buys_4 19 rfl rfl)
theorem dX3_buys_114 : decode cX3_buys 114 = .ok (.iadd, 1) := dk_96 (dk_at dksX3_buys_4 20 rfl rfl)
theorem dX3_buys_115 : decode cX3_buys 115 = .ok (.istore 5, 2) := dk_54 5 (dk_at dksX3_buys_4 21 rfl rfl)
theorem dX3_buys_117 : decode cX3_buys 117 = .ok (.iload 5, 2) := dk_21 5 (dk_at dksX3_buys_5 0 rfl rfl)
theorem dX3_buys_119 : decode cX3_buys 119 = .ok (.aload_n 0, 1) := dk_42 (dk_at dksX3_buys_5 2 rfl rfl)
theorem dX3_buys_120 : decode cX3_buys 120 = .ok (.getfield 7, 3) := dk_180 0 7 (dk_at dksX3_buys_5 3 rfl rfl)
theorem dX3_buys_123 : decode cX3_buys 123 = .ok (.iload 4, 2) := dk_21 4 (dk_at dksX3_buys_5 6 rfl rfl)
theorem dX3_buys_125 : decode cX3_buys 125 = .ok (.iconst 3, 1) := dk_6 (dk_at dksX3_buys_5 8 rfl rfl)
theorem dX3_buys_126 : decode cX3_buys 126 = .ok (.iadd, 1) := dk_96 (dk_at dksX3_buys_5 9 rfl rfl)
theorem dX3_buys_127 : decode cX3_buys 127 = .ok (.iaload, 1) := dk_46 (dk_at dksX3_buys_5 10 rfl rfl)
theorem dX3_buys_128 : decode cX3_buys 128 = .ok (.idiv, 1) := dk_108 (dk_at dksX3_buys_5 11 rfl rfl)
theorem dX3_buys_129 : decode cX3_buys 129 = .ok (.istore 6, 2) := dk_54 6 (dk_at dksX3_buys_5 12 rfl rfl)
theorem dX3_buys_131 : decode cX3_buys 131 = .ok (.aload_n 0, 1) := dk_42 (dk_at dksX3_buys_5 14 rfl rfl)
theorem dX3_buys_132 : decode cX3_buys 132 = .ok (.getfield 7, 3) := dk_180 0 7 (dk_at dksX3_buys_5 15 rfl rfl)
theorem dX3_buys_135 : decode cX3_buys 135 = .ok (.iload 4, 2) := dk_21 4 (dk_at dksX3_buys_5 18 rfl rfl)
theorem dX3_buys_137 : decode cX3_buys 137 = .ok (.iconst 5, 1) := dk_8 (dk_at dksX3_buys_5 20 rfl rfl)
theorem dX3_buys_138 : decode cX3_buys 138 = .ok (.iadd, 1) := dk_96 (dk_at dksX3_buys_5 21 rfl rfl)
theorem dX3_buys_139 : decode cX3_buys 139 = .ok (.iload 5, 2) := dk_21 5 (dk_at dksX3_buys_5 22 rfl rfl)
theorem dX3_buys_141 : decode cX3_buys 141 = .ok (.aload_n 0, 1) := dk_42 (dk_at dksX3_buys_6 0 rfl rfl)
theorem dX3_buys_142 : decode cX3_buys 142 = .ok (.getfield 7, 3) := dk_180 0 7 (dk_at dksX3_buys_6 1 rfl rfl)
theorem dX3_buys_145 : decode cX3_buys 145 = .ok (.iload 4, 2) := dk_21 4 (dk_at dksX3_buys_6 4 rfl rfl)
theorem dX3_buys_147 : decode cX3_buys 147 = .ok (.iconst 3, 1) := dk_6 (dk_at dksX3_buys_6 6 rfl rfl)
theorem dX3_buys_148 : decode cX3_buys 148 = .ok (.iadd, 1) := dk_96 (dk_at dksX3_buys_6 7 rfl rfl)
theorem dX3_buys_149 : decode cX3_buys 149 = .ok (.iaload, 1) := dk_46 (dk_at dksX3_buys_6 8 rfl rfl)
theorem dX3_buys_150 : decode cX3_buys 150 = .ok (.irem, 1) := dk_112 (dk_at dksX3_buys_6 9 rfl rfl)
theorem dX3_buys_151 : decode cX3_buys 151 = .ok (.iastore, 1) := dk_79 (dk_at dksX3_buys_6 10 rfl rfl)
theorem dX3_buys_152 : decode cX3_buys 152 = .ok (.aload_n 0, 1) := dk_42 (dk_at dksX3_buys_6 11 rfl rfl)
theorem dX3_buys_153 : decode cX3_buys 153 = .ok (.getfield 7, 3) := dk_180 0 7 (dk_at dksX3_buys_6 12 rfl rfl)
theorem dX3_buys_156 : decode cX3_buys 156 = .ok (.iload 4, 2) := dk_21 4 (dk_at dksX3_buys_6 15 rfl rfl)
theorem dX3_buys_158 : decode cX3_buys 158 = .ok (.iconst 2, 1) := dk_5 (dk_at dksX3_buys_6 17 rfl rfl)
theorem dX3_buys_159 : decode cX3_buys 159 = .ok (.iadd, 1) := dk_96 (dk_at dksX3_buys_6 18 rfl rfl)
theorem dX3_buys_160 : decode cX3_buys 160 = .ok (.aload_n 0, 1) := dk_42 (dk_at dksX3_buys_6 19 rfl rfl)
theorem dX3_buys_161 : decode cX3_buys 161 = .ok (.getfield 7, 3) := dk_180 0 7 (dk_at dksX3_buys_6 20 rfl rfl)
theorem dX3_buys_164 : decode cX3_buys 164 = .ok (.iload 4, 2) := dk_21 4 (dk_at dksX3_buys_7 0 rfl rfl)
theorem dX3_buys_166 : decode cX3_buys 166 = .ok (.iconst 2, 1) := dk_5 (dk_at dksX3_buys_7 2 rfl rfl)
theorem dX3_buys_167 : decode cX3_buys 167 = .ok (.iadd, 1) := dk_96 (dk_at dksX3_buys_7 3 rfl rfl)
theorem dX3_buys_168 : decode cX3_buys 168 = .ok (.iaload, 1) := dk_46 (dk_at dksX3_buys_7 4 rfl rfl)
theorem dX3_buys_169 : decode cX3_buys 169 = .ok (.iload_n 3, 1) := dk_29 (dk_at dksX3_buys_7 5 rfl rfl)
theorem dX3_buys_170 : decode cX3_buys 170 = .ok (.isub, 1) := dk_100 (dk_at dksX3_buys_7 6 rfl rfl)
theorem dX3_buys_171 : decode cX3_buys 171 = .ok (.iload 6, 2) := dk_21 6 (dk_at dksX3_buys_7 7 rfl rfl)
theorem dX3_buys_173 : decode cX3_buys 173 = .ok (.aload_n 0, 1) := dk_42 (dk_at dksX3_buys_7 9 rfl rfl)
theorem dX3_buys_174 : decode cX3_buys 174 = .ok (.getfield 7, 3) := dk_180 0 7 (dk_at dksX3_buys_7 10 rfl rfl)
theorem dX3_buys_177 : decode cX3_buys 177 = .ok (.iload 4, 2) := dk_21 4 (dk_at dksX3_buys_7 13 rfl rfl)
theorem dX3_buys_179 : decode cX3_buys 179 = .ok (.iconst 4, 1) := dk_7 (dk_at dksX3_buys_7 15 rfl rfl)
theorem dX3_buys_180 : decode cX3_buys 180 = .ok (.iadd, 1) := dk_96 (dk_at dksX3_buys_7 16 rfl rfl)
theorem dX3_buys_181 : decode cX3_buys 181 = .ok (.iaload, 1) := dk_46 (dk_at dksX3_buys_7 17 rfl rfl)
theorem dX3_buys_182 : decode cX3_buys 182 = .ok (.aload_n 0, 1) := dk_42 (dk_at dksX3_buys_7 18 rfl rfl)
theorem dX3_buys_183 : decode cX3_buys 183 = .ok (.getfield 7, 3) := dk_180 0 7 (dk_at dksX3_buys_7 19 rfl rfl)
theorem dX3_buys_186 : decode cX3_buys 186 = .ok (.iload 4, 2) := dk_21 4 (dk_at dksX3_buys_7 22 rfl rfl)
theorem dX3_buys_188 : decode cX3_buys 188 = .ok (.iconst 1, 1) := dk_4 (dk_at dksX3_buys_8 0 rfl rfl)
theorem dX3_buys_189 : decode cX3_buys 189 = .ok (.iadd, 1) := dk_96 (dk_at dksX3_buys_8 1 rfl rfl)
theorem dX3_buys_190 : decode cX3_buys 190 = .ok (.iaload, 1) := dk_46 (dk_at dksX3_buys_8 2 rfl rfl)
theorem dX3_buys_191 : decode cX3_buys 191 = .ok (.idiv, 1) := dk_108 (dk_at dksX3_buys_8 3 rfl rfl)
theorem dX3_buys_192 : decode cX3_buys 192 = .ok (.invokestatic 128, 3) := dk_184 0 128 (dk_at dksX3_buys_8 4 rfl rfl)
theorem dX3_buys_195 : decode cX3_buys 195 = .ok (.iastore, 1) := dk_79 (dk_at dksX3_buys_8 7 rfl rfl)
theorem dX3_buys_196 : decode cX3_buys 196 = .ok (.aload_n 0, 1) := dk_42 (dk_at dksX3_buys_8 8 rfl rfl)
theorem dX3_buys_197 : decode cX3_buys 197 = .ok (.getfield 7, 3) := dk_180 0 7 (dk_at dksX3_buys_8 9 rfl rfl)
theorem dX3_buys_200 : decode cX3_buys 200 = .ok (.iload 4, 2) := dk_21 4 (dk_at dksX3_buys_8 12 rfl rfl)
theorem dX3_buys_202 : decode cX3_buys 202 = .ok (.bipush 6, 2) := dk_16 6 (dk_at dksX3_buys_8 14 rfl rfl)
theorem dX3_buys_204 : decode cX3_buys 204 = .ok (.iadd, 1) := dk_96 (dk_at dksX3_buys_8 16 rfl rfl)
theorem dX3_buys_205 : decode cX3_buys 205 = .ok (.dup2, 1) := dk_92 (dk_at dksX3_buys_8 17 rfl rfl)
theorem dX3_buys_206 : decode cX3_buys 206 = .ok (.iaload, 1) := dk_46 (dk_at dksX3_buys_8 18 rfl rfl)
theorem dX3_buys_207 : decode cX3_buys 207 = .ok (.iload 6, 2) := dk_21 6 (dk_at dksX3_buys_8 19 rfl rfl)
theorem dX3_buys_209 : decode cX3_buys 209 = .ok (.iadd, 1) := dk_96 (dk_at dksX3_buys_8 21 rfl rfl)
theorem dX3_buys_210 : decode cX3_buys 210 = .ok (.iastore, 1) := dk_79 (dk_at dksX3_buys_8 22 rfl rfl)
theorem dX3_buys_211 : decode cX3_buys 211 = .ok (.aload_n 0, 1) := dk_42 (dk_at dksX3_buys_8 23 rfl rfl)
theorem dX3_buys_212 : decode cX3_buys 212 = .ok (.iload_n 1, 1) := dk_27 (dk_at dksX3_buys_9 0 rfl rfl)
theorem dX3_buys_213 : decode cX3_buys 213 = .ok (.iconst 0, 1) := dk_3 (dk_at dksX3_buys_9 1 rfl rfl)
theorem dX3_buys_214 : decode cX3_buys 214 = .ok (.invokevirtual 96, 3) := dk_182 0 96 (dk_at dksX3_buys_9 2 rfl rfl)
theorem dX3_buys_217 : decode cX3_buys 217 = .ok (.ireturn, 1) := dk_172 (dk_at dksX3_buys_9 5 rfl rfl)
abbrev cX3_stocked : ByteArray := prog_21_method_37_code
def yX3_stocked : MethodName := ⟨RX3, "stocked", "(III)I"⟩
def dkwX3_stocked_1 : List UInt8 := [172]
abbrev dktX3_stocked_1 : List UInt8 := dkwX3_stocked_1 ++ []
def dkwX3_stocked_0 : List UInt8 := [26, 133, 27, 133, 28, 133, 105, 97, 66, 33, 20, 0, 126, 148, 158, 0, 8, 16, 99, 167, 0, 5, 33, 136]
abbrev dktX3_stocked_0 : List UInt8 := dkwX3_stocked_0 ++ dktX3_stocked_1
theorem dksX3_stocked_0 : cX3_stocked.data.toList.drop 0 = dktX3_stocked_0 := by decide +kernel
theorem dksX3_stocked_1 : cX3_stocked.data.toList.drop 24 = dktX3_stocked_1 := dk_seg dksX3_stocked_0 24 rfl rfl
theorem dX3_stocked_0 : decode cX3_stocked 0 = .ok (.iload_n 0, 1) := dk_26 (dk_at dksX3_stocked_0 0 rfl rfl)
theorem dX3_stocked_1 : decode cX3_stocked 1 = .ok (.i2l, 1) := dk_133 (dk_at dksX3_stocked_0 1 rfl rfl)
theorem dX3_stocked_2 : decode cX3_stocked 2 = .ok (.iload_n 1, 1) := dk_27 (dk_at dksX3_stocked_0 2 rfl rfl)
theorem dX3_stocked_3 : decode cX3_stocked 3 = .ok (.i2l, 1) := dk_133 (dk_at dksX3_stocked_0 3 rfl rfl)
theorem dX3_stocked_4 : decode cX3_stocked 4 = .ok (.iload_n 2, 1) := dk_28 (dk_at dksX3_stocked_0 4 rfl rfl)
theorem dX3_stocked_5 : decode cX3_stocked 5 = .ok (.i2l, 1) := dk_133 (dk_at dksX3_stocked_0 5 rfl rfl)
theorem dX3_stocked_6 : decode cX3_stocked 6 = .ok (.lmul, 1) := dk_105 (dk_at dksX3_stocked_0 6 rfl rfl)
theorem dX3_stocked_7 : decode cX3_stocked 7 = .ok (.ladd, 1) := dk_97 (dk_at dksX3_stocked_0 7 rfl rfl)
theorem dX3_stocked_8 : decode cX3_stocked 8 = .ok (.lstore_n 3, 1) := dk_66 (dk_at dksX3_stocked_0 8 rfl rfl)
theorem dX3_stocked_9 : decode cX3_stocked 9 = .ok (.lload_n 3, 1) := dk_33 (dk_at dksX3_stocked_0 9 rfl rfl)
theorem dX3_stocked_10 : decode cX3_stocked 10 = .ok (.ldc2_w 126, 3) := dk_20 0 126 (dk_at dksX3_stocked_0 10 rfl rfl)
theorem dX3_stocked_13 : decode cX3_stocked 13 = .ok (.lcmp, 1) := dk_148 (dk_at dksX3_stocked_0 13 rfl rfl)
theorem dX3_stocked_14 : decode cX3_stocked 14 = .ok (.ifCond .le 8, 3) := dk_158 0 8 (dk_at dksX3_stocked_0 14 rfl rfl)
theorem dX3_stocked_17 : decode cX3_stocked 17 = .ok (.bipush 99, 2) := dk_16 99 (dk_at dksX3_stocked_0 17 rfl rfl)
theorem dX3_stocked_19 : decode cX3_stocked 19 = .ok (.goto 5, 3) := dk_167 0 5 (dk_at dksX3_stocked_0 19 rfl rfl)
theorem dX3_stocked_22 : decode cX3_stocked 22 = .ok (.lload_n 3, 1) := dk_33 (dk_at dksX3_stocked_0 22 rfl rfl)
theorem dX3_stocked_23 : decode cX3_stocked 23 = .ok (.l2i, 1) := dk_136 (dk_at dksX3_stocked_0 23 rfl rfl)
theorem dX3_stocked_24 : decode cX3_stocked 24 = .ok (.ireturn, 1) := dk_172 (dk_at dksX3_stocked_1 0 rfl rfl)
abbrev cX3_take : ByteArray := prog_21_method_41_code
def yX3_take : MethodName := ⟨RX3, "take", "(I)I"⟩
def dkwX3_take_2 : List UInt8 := [42, 180, 0, 7, 29, 46, 79, 132, 3, 1, 167, 255, 231, 42, 42, 182, 0, 134, 182, 0, 79, 172]
abbrev dktX3_take_2 : List UInt8 := dkwX3_take_2 ++ []
def dkwX3_take_1 : List UInt8 := [42, 180, 0, 7, 28, 4, 79, 3, 62, 29, 16, 94, 162, 0, 25, 42, 180, 0, 7, 28, 4, 96, 29, 96]
abbrev dktX3_take_1 : List UInt8 := dkwX3_take_1 ++ dktX3_take_2
def dkwX3_take_0 : List UInt8 := [27, 3, 4, 184, 0, 32, 154, 0, 6, 18, 40, 172, 42, 182, 0, 72, 16, 94, 16, 95, 27, 104, 96, 61]
abbrev dktX3_take_0 : List UInt8 := dkwX3_take_0 ++ dktX3_take_1
theorem dksX3_take_0 : cX3_take.data.toList.drop 0 = dktX3_take_0 := by decide +kernel
theorem dksX3_take_1 : cX3_take.data.toList.drop 24 = dktX3_take_1 := dk_seg dksX3_take_0 24 rfl rfl
theorem dksX3_take_2 : cX3_take.data.toList.drop 48 = dktX3_take_2 := dk_seg dksX3_take_1 24 rfl rfl
theorem dX3_take_0 : decode cX3_take 0 = .ok (.iload_n 1, 1) := dk_27 (dk_at dksX3_take_0 0 rfl rfl)
theorem dX3_take_1 : decode cX3_take 1 = .ok (.iconst 0, 1) := dk_3 (dk_at dksX3_take_0 1 rfl rfl)
theorem dX3_take_2 : decode cX3_take 2 = .ok (.iconst 1, 1) := dk_4 (dk_at dksX3_take_0 2 rfl rfl)
theorem dX3_take_3 : decode cX3_take 3 = .ok (.invokestatic 32, 3) := dk_184 0 32 (dk_at dksX3_take_0 3 rfl rfl)
theorem dX3_take_6 : decode cX3_take 6 = .ok (.ifCond .ne 6, 3) := dk_154 0 6 (dk_at dksX3_take_0 6 rfl rfl)
theorem dX3_take_9 : decode cX3_take 9 = .ok (.ldc 40, 2) := dk_18 40 (dk_at dksX3_take_0 9 rfl rfl)
theorem dX3_take_11 : decode cX3_take 11 = .ok (.ireturn, 1) := dk_172 (dk_at dksX3_take_0 11 rfl rfl)
theorem dX3_take_12 : decode cX3_take 12 = .ok (.aload_n 0, 1) := dk_42 (dk_at dksX3_take_0 12 rfl rfl)
theorem dX3_take_13 : decode cX3_take 13 = .ok (.invokevirtual 72, 3) := dk_182 0 72 (dk_at dksX3_take_0 13 rfl rfl)
theorem dX3_take_16 : decode cX3_take 16 = .ok (.bipush 94, 2) := dk_16 94 (dk_at dksX3_take_0 16 rfl rfl)
theorem dX3_take_18 : decode cX3_take 18 = .ok (.bipush 95, 2) := dk_16 95 (dk_at dksX3_take_0 18 rfl rfl)
theorem dX3_take_20 : decode cX3_take 20 = .ok (.iload_n 1, 1) := dk_27 (dk_at dksX3_take_0 20 rfl rfl)
theorem dX3_take_21 : decode cX3_take 21 = .ok (.imul, 1) := dk_104 (dk_at dksX3_take_0 21 rfl rfl)
theorem dX3_take_22 : decode cX3_take 22 = .ok (.iadd, 1) := dk_96 (dk_at dksX3_take_0 22 rfl rfl)
theorem dX3_take_23 : decode cX3_take 23 = .ok (.istore_n 2, 1) := dk_61 (dk_at dksX3_take_0 23 rfl rfl)
theorem dX3_take_24 : decode cX3_take 24 = .ok (.aload_n 0, 1) := dk_42 (dk_at dksX3_take_1 0 rfl rfl)
theorem dX3_take_25 : decode cX3_take 25 = .ok (.getfield 7, 3) := dk_180 0 7 (dk_at dksX3_take_1 1 rfl rfl)
theorem dX3_take_28 : decode cX3_take 28 = .ok (.iload_n 2, 1) := dk_28 (dk_at dksX3_take_1 4 rfl rfl)
theorem dX3_take_29 : decode cX3_take 29 = .ok (.iconst 1, 1) := dk_4 (dk_at dksX3_take_1 5 rfl rfl)
theorem dX3_take_30 : decode cX3_take 30 = .ok (.iastore, 1) := dk_79 (dk_at dksX3_take_1 6 rfl rfl)
theorem dX3_take_31 : decode cX3_take 31 = .ok (.iconst 0, 1) := dk_3 (dk_at dksX3_take_1 7 rfl rfl)
theorem dX3_take_32 : decode cX3_take 32 = .ok (.istore_n 3, 1) := dk_62 (dk_at dksX3_take_1 8 rfl rfl)
theorem dX3_take_33 : decode cX3_take 33 = .ok (.iload_n 3, 1) := dk_29 (dk_at dksX3_take_1 9 rfl rfl)
theorem dX3_take_34 : decode cX3_take 34 = .ok (.bipush 94, 2) := dk_16 94 (dk_at dksX3_take_1 10 rfl rfl)
theorem dX3_take_36 : decode cX3_take 36 = .ok (.if_icmp .ge 25, 3) := dk_162 0 25 (dk_at dksX3_take_1 12 rfl rfl)
theorem dX3_take_39 : decode cX3_take 39 = .ok (.aload_n 0, 1) := dk_42 (dk_at dksX3_take_1 15 rfl rfl)
theorem dX3_take_40 : decode cX3_take 40 = .ok (.getfield 7, 3) := dk_180 0 7 (dk_at dksX3_take_1 16 rfl rfl)
theorem dX3_take_43 : decode cX3_take 43 = .ok (.iload_n 2, 1) := dk_28 (dk_at dksX3_take_1 19 rfl rfl)
theorem dX3_take_44 : decode cX3_take 44 = .ok (.iconst 1, 1) := dk_4 (dk_at dksX3_take_1 20 rfl rfl)
theorem dX3_take_45 : decode cX3_take 45 = .ok (.iadd, 1) := dk_96 (dk_at dksX3_take_1 21 rfl rfl)
theorem dX3_take_46 : decode cX3_take 46 = .ok (.iload_n 3, 1) := dk_29 (dk_at dksX3_take_1 22 rfl rfl)
theorem dX3_take_47 : decode cX3_take 47 = .ok (.iadd, 1) := dk_96 (dk_at dksX3_take_1 23 rfl rfl)
theorem dX3_take_48 : decode cX3_take 48 = .ok (.aload_n 0, 1) := dk_42 (dk_at dksX3_take_2 0 rfl rfl)
theorem dX3_take_49 : decode cX3_take 49 = .ok (.getfield 7, 3) := dk_180 0 7 (dk_at dksX3_take_2 1 rfl rfl)
theorem dX3_take_52 : decode cX3_take 52 = .ok (.iload_n 3, 1) := dk_29 (dk_at dksX3_take_2 4 rfl rfl)
theorem dX3_take_53 : decode cX3_take 53 = .ok (.iaload, 1) := dk_46 (dk_at dksX3_take_2 5 rfl rfl)
theorem dX3_take_54 : decode cX3_take 54 = .ok (.iastore, 1) := dk_79 (dk_at dksX3_take_2 6 rfl rfl)
theorem dX3_take_55 : decode cX3_take 55 = .ok (.iinc 3 1, 3) := dk_132 3 1 (dk_at dksX3_take_2 7 rfl rfl)
theorem dX3_take_58 : decode cX3_take 58 = .ok (.goto (-25), 3) := dk_167 255 231 (dk_at dksX3_take_2 10 rfl rfl)
theorem dX3_take_61 : decode cX3_take 61 = .ok (.aload_n 0, 1) := dk_42 (dk_at dksX3_take_2 13 rfl rfl)
theorem dX3_take_62 : decode cX3_take 62 = .ok (.aload_n 0, 1) := dk_42 (dk_at dksX3_take_2 14 rfl rfl)
theorem dX3_take_63 : decode cX3_take 63 = .ok (.invokevirtual 134, 3) := dk_182 0 134 (dk_at dksX3_take_2 15 rfl rfl)
theorem dX3_take_66 : decode cX3_take 66 = .ok (.invokevirtual 79, 3) := dk_182 0 79 (dk_at dksX3_take_2 18 rfl rfl)
theorem dX3_take_69 : decode cX3_take 69 = .ok (.ireturn, 1) := dk_172 (dk_at dksX3_take_2 21 rfl rfl)
abbrev cX3_pointsOfAll : ByteArray := prog_21_method_40_code
def yX3_pointsOfAll : MethodName := ⟨RX3, "pointsOfAll", "()I"⟩
def dkwX3_pointsOfAll_1 : List UInt8 := [132, 2, 1, 167, 255, 233, 27, 172]
abbrev dktX3_pointsOfAll_1 : List UInt8 := dkwX3_pointsOfAll_1 ++ []
def dkwX3_pointsOfAll_0 : List UInt8 := [3, 60, 3, 61, 28, 42, 180, 0, 7, 16, 14, 46, 162, 0, 18, 27, 42, 28, 3, 182, 0, 96, 96, 60]
abbrev dktX3_pointsOfAll_0 : List UInt8 := dkwX3_pointsOfAll_0 ++ dktX3_pointsOfAll_1
theorem dksX3_pointsOfAll_0 : cX3_pointsOfAll.data.toList.drop 0 = dktX3_pointsOfAll_0 := by decide +kernel
theorem dksX3_pointsOfAll_1 : cX3_pointsOfAll.data.toList.drop 24 = dktX3_pointsOfAll_1 := dk_seg dksX3_pointsOfAll_0 24 rfl rfl
theorem dX3_pointsOfAll_0 : decode cX3_pointsOfAll 0 = .ok (.iconst 0, 1) := dk_3 (dk_at dksX3_pointsOfAll_0 0 rfl rfl)
theorem dX3_pointsOfAll_1 : decode cX3_pointsOfAll 1 = .ok (.istore_n 1, 1) := dk_60 (dk_at dksX3_pointsOfAll_0 1 rfl rfl)
theorem dX3_pointsOfAll_2 : decode cX3_pointsOfAll 2 = .ok (.iconst 0, 1) := dk_3 (dk_at dksX3_pointsOfAll_0 2 rfl rfl)
theorem dX3_pointsOfAll_3 : decode cX3_pointsOfAll 3 = .ok (.istore_n 2, 1) := dk_61 (dk_at dksX3_pointsOfAll_0 3 rfl rfl)
theorem dX3_pointsOfAll_4 : decode cX3_pointsOfAll 4 = .ok (.iload_n 2, 1) := dk_28 (dk_at dksX3_pointsOfAll_0 4 rfl rfl)
theorem dX3_pointsOfAll_5 : decode cX3_pointsOfAll 5 = .ok (.aload_n 0, 1) := dk_42 (dk_at dksX3_pointsOfAll_0 5 rfl rfl)
theorem dX3_pointsOfAll_6 : decode cX3_pointsOfAll 6 = .ok (.getfield 7, 3) := dk_180 0 7 (dk_at dksX3_pointsOfAll_0 6 rfl rfl)
theorem dX3_pointsOfAll_9 : decode cX3_pointsOfAll 9 = .ok (.bipush 14, 2) := dk_16 14 (dk_at dksX3_pointsOfAll_0 9 rfl rfl)
theorem dX3_pointsOfAll_11 : decode cX3_pointsOfAll 11 = .ok (.iaload, 1) := dk_46 (dk_at dksX3_pointsOfAll_0 11 rfl rfl)
theorem dX3_pointsOfAll_12 : decode cX3_pointsOfAll 12 = .ok (.if_icmp .ge 18, 3) := dk_162 0 18 (dk_at dksX3_pointsOfAll_0 12 rfl rfl)
theorem dX3_pointsOfAll_15 : decode cX3_pointsOfAll 15 = .ok (.iload_n 1, 1) := dk_27 (dk_at dksX3_pointsOfAll_0 15 rfl rfl)
theorem dX3_pointsOfAll_16 : decode cX3_pointsOfAll 16 = .ok (.aload_n 0, 1) := dk_42 (dk_at dksX3_pointsOfAll_0 16 rfl rfl)
theorem dX3_pointsOfAll_17 : decode cX3_pointsOfAll 17 = .ok (.iload_n 2, 1) := dk_28 (dk_at dksX3_pointsOfAll_0 17 rfl rfl)
theorem dX3_pointsOfAll_18 : decode cX3_pointsOfAll 18 = .ok (.iconst 0, 1) := dk_3 (dk_at dksX3_pointsOfAll_0 18 rfl rfl)
theorem dX3_pointsOfAll_19 : decode cX3_pointsOfAll 19 = .ok (.invokevirtual 96, 3) := dk_182 0 96 (dk_at dksX3_pointsOfAll_0 19 rfl rfl)
theorem dX3_pointsOfAll_22 : decode cX3_pointsOfAll 22 = .ok (.iadd, 1) := dk_96 (dk_at dksX3_pointsOfAll_0 22 rfl rfl)
theorem dX3_pointsOfAll_23 : decode cX3_pointsOfAll 23 = .ok (.istore_n 1, 1) := dk_60 (dk_at dksX3_pointsOfAll_0 23 rfl rfl)
theorem dX3_pointsOfAll_24 : decode cX3_pointsOfAll 24 = .ok (.iinc 2 1, 3) := dk_132 2 1 (dk_at dksX3_pointsOfAll_1 0 rfl rfl)
theorem dX3_pointsOfAll_27 : decode cX3_pointsOfAll 27 = .ok (.goto (-23), 3) := dk_167 255 233 (dk_at dksX3_pointsOfAll_1 3 rfl rfl)
theorem dX3_pointsOfAll_30 : decode cX3_pointsOfAll 30 = .ok (.iload_n 1, 1) := dk_27 (dk_at dksX3_pointsOfAll_1 6 rfl rfl)
theorem dX3_pointsOfAll_31 : decode cX3_pointsOfAll 31 = .ok (.ireturn, 1) := dk_172 (dk_at dksX3_pointsOfAll_1 7 rfl rfl)
abbrev cX3_restore : ByteArray := prog_21_method_42_code
def yX3_restore : MethodName := ⟨RX3, "restore", "(I)I"⟩
def dkwX3_restore_3 : List UInt8 := [182, 0, 79, 172]
abbrev dktX3_restore_3 : List UInt8 := dkwX3_restore_3 ++ []
def dkwX3_restore_2 : List UInt8 := [29, 42, 180, 0, 7, 28, 4, 96, 29, 96, 46, 79, 132, 3, 1, 167, 255, 231, 42, 42, 182, 0, 134]
abbrev dktX3_restore_2 : List UInt8 := dkwX3_restore_2 ++ dktX3_restore_3
def dkwX3_restore_1 : List UInt8 := [28, 46, 154, 0, 6, 18, 108, 172, 42, 182, 0, 72, 3, 62, 29, 16, 94, 162, 0, 25, 42, 180, 0, 7]
abbrev dktX3_restore_1 : List UInt8 := dkwX3_restore_1 ++ dktX3_restore_2
def dkwX3_restore_0 : List UInt8 := [27, 3, 4, 184, 0, 32, 154, 0, 6, 18, 40, 172, 16, 94, 16, 95, 27, 104, 96, 61, 42, 180, 0, 7]
abbrev dktX3_restore_0 : List UInt8 := dkwX3_restore_0 ++ dktX3_restore_1
theorem dksX3_restore_0 : cX3_restore.data.toList.drop 0 = dktX3_restore_0 := by decide +kernel
theorem dksX3_restore_1 : cX3_restore.data.toList.drop 24 = dktX3_restore_1 := dk_seg dksX3_restore_0 24 rfl rfl
theorem dksX3_restore_2 : cX3_restore.data.toList.drop 48 = dktX3_restore_2 := dk_seg dksX3_restore_1 24 rfl rfl
theorem dksX3_restore_3 : cX3_restore.data.toList.drop 71 = dktX3_restore_3 := dk_seg dksX3_restore_2 23 rfl rfl
theorem dX3_restore_0 : decode cX3_restore 0 = .ok (.iload_n 1, 1) := dk_27 (dk_at dksX3_restore_0 0 rfl rfl)
theorem dX3_restore_1 : decode cX3_restore 1 = .ok (.iconst 0, 1) := dk_3 (dk_at dksX3_restore_0 1 rfl rfl)
theorem dX3_restore_2 : decode cX3_restore 2 = .ok (.iconst 1, 1) := dk_4 (dk_at dksX3_restore_0 2 rfl rfl)
theorem dX3_restore_3 : decode cX3_restore 3 = .ok (.invokestatic 32, 3) := dk_184 0 32 (dk_at dksX3_restore_0 3 rfl rfl)
theorem dX3_restore_6 : decode cX3_restore 6 = .ok (.ifCond .ne 6, 3) := dk_154 0 6 (dk_at dksX3_restore_0 6 rfl rfl)
theorem dX3_restore_9 : decode cX3_restore 9 = .ok (.ldc 40, 2) := dk_18 40 (dk_at dksX3_restore_0 9 rfl rfl)
theorem dX3_restore_11 : decode cX3_restore 11 = .ok (.ireturn, 1) := dk_172 (dk_at dksX3_restore_0 11 rfl rfl)
theorem dX3_restore_12 : decode cX3_restore 12 = .ok (.bipush 94, 2) := dk_16 94 (dk_at dksX3_restore_0 12 rfl rfl)
theorem dX3_restore_14 : decode cX3_restore 14 = .ok (.bipush 95, 2) := dk_16 95 (dk_at dksX3_restore_0 14 rfl rfl)
theorem dX3_restore_16 : decode cX3_restore 16 = .ok (.iload_n 1, 1) := dk_27 (dk_at dksX3_restore_0 16 rfl rfl)
theorem dX3_restore_17 : decode cX3_restore 17 = .ok (.imul, 1) := dk_104 (dk_at dksX3_restore_0 17 rfl rfl)
theorem dX3_restore_18 : decode cX3_restore 18 = .ok (.iadd, 1) := dk_96 (dk_at dksX3_restore_0 18 rfl rfl)
theorem dX3_restore_19 : decode cX3_restore 19 = .ok (.istore_n 2, 1) := dk_61 (dk_at dksX3_restore_0 19 rfl rfl)
theorem dX3_restore_20 : decode cX3_restore 20 = .ok (.aload_n 0, 1) := dk_42 (dk_at dksX3_restore_0 20 rfl rfl)
theorem dX3_restore_21 : decode cX3_restore 21 = .ok (.getfield 7, 3) := dk_180 0 7 (dk_at dksX3_restore_0 21 rfl rfl)
theorem dX3_restore_24 : decode cX3_restore 24 = .ok (.iload_n 2, 1) := dk_28 (dk_at dksX3_restore_1 0 rfl rfl)
theorem dX3_restore_25 : decode cX3_restore 25 = .ok (.iaload, 1) := dk_46 (dk_at dksX3_restore_1 1 rfl rfl)
theorem dX3_restore_26 : decode cX3_restore 26 = .ok (.ifCond .ne 6, 3) := dk_154 0 6 (dk_at dksX3_restore_1 2 rfl rfl)
theorem dX3_restore_29 : decode cX3_restore 29 = .ok (.ldc 108, 2) := dk_18 108 (dk_at dksX3_restore_1 5 rfl rfl)
theorem dX3_restore_31 : decode cX3_restore 31 = .ok (.ireturn, 1) := dk_172 (dk_at dksX3_restore_1 7 rfl rfl)
theorem dX3_restore_32 : decode cX3_restore 32 = .ok (.aload_n 0, 1) := dk_42 (dk_at dksX3_restore_1 8 rfl rfl)
theorem dX3_restore_33 : decode cX3_restore 33 = .ok (.invokevirtual 72, 3) := dk_182 0 72 (dk_at dksX3_restore_1 9 rfl rfl)
theorem dX3_restore_36 : decode cX3_restore 36 = .ok (.iconst 0, 1) := dk_3 (dk_at dksX3_restore_1 12 rfl rfl)
theorem dX3_restore_37 : decode cX3_restore 37 = .ok (.istore_n 3, 1) := dk_62 (dk_at dksX3_restore_1 13 rfl rfl)
theorem dX3_restore_38 : decode cX3_restore 38 = .ok (.iload_n 3, 1) := dk_29 (dk_at dksX3_restore_1 14 rfl rfl)
theorem dX3_restore_39 : decode cX3_restore 39 = .ok (.bipush 94, 2) := dk_16 94 (dk_at dksX3_restore_1 15 rfl rfl)
theorem dX3_restore_41 : decode cX3_restore 41 = .ok (.if_icmp .ge 25, 3) := dk_162 0 25 (dk_at dksX3_restore_1 17 rfl rfl)
theorem dX3_restore_44 : decode cX3_restore 44 = .ok (.aload_n 0, 1) := dk_42 (dk_at dksX3_restore_1 20 rfl rfl)
theorem dX3_restore_45 : decode cX3_restore 45 = .ok (.getfield 7, 3) := dk_180 0 7 (dk_at dksX3_restore_1 21 rfl rfl)
theorem dX3_restore_48 : decode cX3_restore 48 = .ok (.iload_n 3, 1) := dk_29 (dk_at dksX3_restore_2 0 rfl rfl)
theorem dX3_restore_49 : decode cX3_restore 49 = .ok (.aload_n 0, 1) := dk_42 (dk_at dksX3_restore_2 1 rfl rfl)
theorem dX3_restore_50 : decode cX3_restore 50 = .ok (.getfield 7, 3) := dk_180 0 7 (dk_at dksX3_restore_2 2 rfl rfl)
theorem dX3_restore_53 : decode cX3_restore 53 = .ok (.iload_n 2, 1) := dk_28 (dk_at dksX3_restore_2 5 rfl rfl)
theorem dX3_restore_54 : decode cX3_restore 54 = .ok (.iconst 1, 1) := dk_4 (dk_at dksX3_restore_2 6 rfl rfl)
theorem dX3_restore_55 : decode cX3_restore 55 = .ok (.iadd, 1) := dk_96 (dk_at dksX3_restore_2 7 rfl rfl)
theorem dX3_restore_56 : decode cX3_restore 56 = .ok (.iload_n 3, 1) := dk_29 (dk_at dksX3_restore_2 8 rfl rfl)
theorem dX3_restore_57 : decode cX3_restore 57 = .ok (.iadd, 1) := dk_96 (dk_at dksX3_restore_2 9 rfl rfl)
theorem dX3_restore_58 : decode cX3_restore 58 = .ok (.iaload, 1) := dk_46 (dk_at dksX3_restore_2 10 rfl rfl)
theorem dX3_restore_59 : decode cX3_restore 59 = .ok (.iastore, 1) := dk_79 (dk_at dksX3_restore_2 11 rfl rfl)
theorem dX3_restore_60 : decode cX3_restore 60 = .ok (.iinc 3 1, 3) := dk_132 3 1 (dk_at dksX3_restore_2 12 rfl rfl)
theorem dX3_restore_63 : decode cX3_restore 63 = .ok (.goto (-25), 3) := dk_167 255 231 (dk_at dksX3_restore_2 15 rfl rfl)
theorem dX3_restore_66 : decode cX3_restore 66 = .ok (.aload_n 0, 1) := dk_42 (dk_at dksX3_restore_2 18 rfl rfl)
theorem dX3_restore_67 : decode cX3_restore 67 = .ok (.aload_n 0, 1) := dk_42 (dk_at dksX3_restore_2 19 rfl rfl)
theorem dX3_restore_68 : decode cX3_restore 68 = .ok (.invokevirtual 134, 3) := dk_182 0 134 (dk_at dksX3_restore_2 20 rfl rfl)
theorem dX3_restore_71 : decode cX3_restore 71 = .ok (.invokevirtual 79, 3) := dk_182 0 79 (dk_at dksX3_restore_3 0 rfl rfl)
theorem dX3_restore_74 : decode cX3_restore 74 = .ok (.ireturn, 1) := dk_172 (dk_at dksX3_restore_3 3 rfl rfl)
abbrev cX3_undo : ByteArray := prog_21_method_43_code
def yX3_undo : MethodName := ⟨RX3, "undo", "()I"⟩
def dkwX3_undo_2 : List UInt8 := [96, 46, 79, 132, 1, 1, 167, 255, 225, 42, 180, 0, 36, 172]
abbrev dktX3_undo_2 : List UInt8 := dkwX3_undo_2 ++ []
def dkwX3_undo_1 : List UInt8 := [17, 1, 28, 162, 0, 30, 42, 180, 0, 7, 27, 42, 180, 0, 19, 17, 1, 28, 42, 180, 0, 36, 104, 27]
abbrev dktX3_undo_1 : List UInt8 := dkwX3_undo_1 ++ dktX3_undo_2
def dkwX3_undo_0 : List UInt8 := [42, 180, 0, 36, 154, 0, 6, 18, 108, 172, 42, 89, 180, 0, 36, 4, 100, 181, 0, 36, 3, 60, 27]
abbrev dktX3_undo_0 : List UInt8 := dkwX3_undo_0 ++ dktX3_undo_1
theorem dksX3_undo_0 : cX3_undo.data.toList.drop 0 = dktX3_undo_0 := by decide +kernel
theorem dksX3_undo_1 : cX3_undo.data.toList.drop 23 = dktX3_undo_1 := dk_seg dksX3_undo_0 23 rfl rfl
theorem dksX3_undo_2 : cX3_undo.data.toList.drop 47 = dktX3_undo_2 := dk_seg dksX3_undo_1 24 rfl rfl
theorem dX3_undo_0 : decode cX3_undo 0 = .ok (.aload_n 0, 1) := dk_42 (dk_at dksX3_undo_0 0 rfl rfl)
theorem dX3_undo_1 : decode cX3_undo 1 = .ok (.getfield 36, 3) := dk_180 0 36 (dk_at dksX3_undo_0 1 rfl rfl)
theorem dX3_undo_4 : decode cX3_undo 4 = .ok (.ifCond .ne 6, 3) := dk_154 0 6 (dk_at dksX3_undo_0 4 rfl rfl)
theorem dX3_undo_7 : decode cX3_undo 7 = .ok (.ldc 108, 2) := dk_18 108 (dk_at dksX3_undo_0 7 rfl rfl)
theorem dX3_undo_9 : decode cX3_undo 9 = .ok (.ireturn, 1) := dk_172 (dk_at dksX3_undo_0 9 rfl rfl)
theorem dX3_undo_10 : decode cX3_undo 10 = .ok (.aload_n 0, 1) := dk_42 (dk_at dksX3_undo_0 10 rfl rfl)
theorem dX3_undo_11 : decode cX3_undo 11 = .ok (.dup, 1) := dk_89 (dk_at dksX3_undo_0 11 rfl rfl)
theorem dX3_undo_12 : decode cX3_undo 12 = .ok (.getfield 36, 3) := dk_180 0 36 (dk_at dksX3_undo_0 12 rfl rfl)
theorem dX3_undo_15 : decode cX3_undo 15 = .ok (.iconst 1, 1) := dk_4 (dk_at dksX3_undo_0 15 rfl rfl)
theorem dX3_undo_16 : decode cX3_undo 16 = .ok (.isub, 1) := dk_100 (dk_at dksX3_undo_0 16 rfl rfl)
theorem dX3_undo_17 : decode cX3_undo 17 = .ok (.putfield 36, 3) := dk_181 0 36 (dk_at dksX3_undo_0 17 rfl rfl)
theorem dX3_undo_20 : decode cX3_undo 20 = .ok (.iconst 0, 1) := dk_3 (dk_at dksX3_undo_0 20 rfl rfl)
theorem dX3_undo_21 : decode cX3_undo 21 = .ok (.istore_n 1, 1) := dk_60 (dk_at dksX3_undo_0 21 rfl rfl)
theorem dX3_undo_22 : decode cX3_undo 22 = .ok (.iload_n 1, 1) := dk_27 (dk_at dksX3_undo_0 22 rfl rfl)
theorem dX3_undo_23 : decode cX3_undo 23 = .ok (.sipush 284, 3) := dk_17 1 28 (dk_at dksX3_undo_1 0 rfl rfl)
theorem dX3_undo_26 : decode cX3_undo 26 = .ok (.if_icmp .ge 30, 3) := dk_162 0 30 (dk_at dksX3_undo_1 3 rfl rfl)
theorem dX3_undo_29 : decode cX3_undo 29 = .ok (.aload_n 0, 1) := dk_42 (dk_at dksX3_undo_1 6 rfl rfl)
theorem dX3_undo_30 : decode cX3_undo 30 = .ok (.getfield 7, 3) := dk_180 0 7 (dk_at dksX3_undo_1 7 rfl rfl)
theorem dX3_undo_33 : decode cX3_undo 33 = .ok (.iload_n 1, 1) := dk_27 (dk_at dksX3_undo_1 10 rfl rfl)
theorem dX3_undo_34 : decode cX3_undo 34 = .ok (.aload_n 0, 1) := dk_42 (dk_at dksX3_undo_1 11 rfl rfl)
theorem dX3_undo_35 : decode cX3_undo 35 = .ok (.getfield 19, 3) := dk_180 0 19 (dk_at dksX3_undo_1 12 rfl rfl)
theorem dX3_undo_38 : decode cX3_undo 38 = .ok (.sipush 284, 3) := dk_17 1 28 (dk_at dksX3_undo_1 15 rfl rfl)
theorem dX3_undo_41 : decode cX3_undo 41 = .ok (.aload_n 0, 1) := dk_42 (dk_at dksX3_undo_1 18 rfl rfl)
theorem dX3_undo_42 : decode cX3_undo 42 = .ok (.getfield 36, 3) := dk_180 0 36 (dk_at dksX3_undo_1 19 rfl rfl)
theorem dX3_undo_45 : decode cX3_undo 45 = .ok (.imul, 1) := dk_104 (dk_at dksX3_undo_1 22 rfl rfl)
theorem dX3_undo_46 : decode cX3_undo 46 = .ok (.iload_n 1, 1) := dk_27 (dk_at dksX3_undo_1 23 rfl rfl)
theorem dX3_undo_47 : decode cX3_undo 47 = .ok (.iadd, 1) := dk_96 (dk_at dksX3_undo_2 0 rfl rfl)
theorem dX3_undo_48 : decode cX3_undo 48 = .ok (.iaload, 1) := dk_46 (dk_at dksX3_undo_2 1 rfl rfl)
theorem dX3_undo_49 : decode cX3_undo 49 = .ok (.iastore, 1) := dk_79 (dk_at dksX3_undo_2 2 rfl rfl)
theorem dX3_undo_50 : decode cX3_undo 50 = .ok (.iinc 1 1, 3) := dk_132 1 1 (dk_at dksX3_undo_2 3 rfl rfl)
theorem dX3_undo_53 : decode cX3_undo 53 = .ok (.goto (-31), 3) := dk_167 255 225 (dk_at dksX3_undo_2 6 rfl rfl)
theorem dX3_undo_56 : decode cX3_undo 56 = .ok (.aload_n 0, 1) := dk_42 (dk_at dksX3_undo_2 9 rfl rfl)
theorem dX3_undo_57 : decode cX3_undo 57 = .ok (.getfield 36, 3) := dk_180 0 36 (dk_at dksX3_undo_2 10 rfl rfl)
theorem dX3_undo_60 : decode cX3_undo 60 = .ok (.ireturn, 1) := dk_172 (dk_at dksX3_undo_2 13 rfl rfl)
abbrev cX3_append : ByteArray := prog_21_method_44_code
def yX3_append : MethodName := ⟨RX3, "append", "(I)I"⟩
def dkwX3_append_2 : List UInt8 := [42, 180, 0, 138, 172]
abbrev dktX3_append_2 : List UInt8 := dkwX3_append_2 ++ []
def dkwX3_append_1 : List UInt8 := [18, 89, 172, 42, 180, 0, 22, 42, 180, 0, 138, 27, 146, 85, 42, 89, 180, 0, 138, 4, 96, 181, 0, 138]
abbrev dktX3_append_1 : List UInt8 := dkwX3_append_1 ++ dktX3_append_2
def dkwX3_append_0 : List UInt8 := [27, 4, 17, 0, 255, 184, 0, 32, 154, 0, 6, 18, 40, 172, 42, 180, 0, 138, 17, 0, 140, 160, 0, 6]
abbrev dktX3_append_0 : List UInt8 := dkwX3_append_0 ++ dktX3_append_1
theorem dksX3_append_0 : cX3_append.data.toList.drop 0 = dktX3_append_0 := by decide +kernel
theorem dksX3_append_1 : cX3_append.data.toList.drop 24 = dktX3_append_1 := dk_seg dksX3_append_0 24 rfl rfl
theorem dksX3_append_2 : cX3_append.data.toList.drop 48 = dktX3_append_2 := dk_seg dksX3_append_1 24 rfl rfl
theorem dX3_append_0 : decode cX3_append 0 = .ok (.iload_n 1, 1) := dk_27 (dk_at dksX3_append_0 0 rfl rfl)
theorem dX3_append_1 : decode cX3_append 1 = .ok (.iconst 1, 1) := dk_4 (dk_at dksX3_append_0 1 rfl rfl)
theorem dX3_append_2 : decode cX3_append 2 = .ok (.sipush 255, 3) := dk_17 0 255 (dk_at dksX3_append_0 2 rfl rfl)
theorem dX3_append_5 : decode cX3_append 5 = .ok (.invokestatic 32, 3) := dk_184 0 32 (dk_at dksX3_append_0 5 rfl rfl)
theorem dX3_append_8 : decode cX3_append 8 = .ok (.ifCond .ne 6, 3) := dk_154 0 6 (dk_at dksX3_append_0 8 rfl rfl)
theorem dX3_append_11 : decode cX3_append 11 = .ok (.ldc 40, 2) := dk_18 40 (dk_at dksX3_append_0 11 rfl rfl)
theorem dX3_append_13 : decode cX3_append 13 = .ok (.ireturn, 1) := dk_172 (dk_at dksX3_append_0 13 rfl rfl)
theorem dX3_append_14 : decode cX3_append 14 = .ok (.aload_n 0, 1) := dk_42 (dk_at dksX3_append_0 14 rfl rfl)
theorem dX3_append_15 : decode cX3_append 15 = .ok (.getfield 138, 3) := dk_180 0 138 (dk_at dksX3_append_0 15 rfl rfl)
theorem dX3_append_18 : decode cX3_append 18 = .ok (.sipush 140, 3) := dk_17 0 140 (dk_at dksX3_append_0 18 rfl rfl)
theorem dX3_append_21 : decode cX3_append 21 = .ok (.if_icmp .ne 6, 3) := dk_160 0 6 (dk_at dksX3_append_0 21 rfl rfl)
theorem dX3_append_24 : decode cX3_append 24 = .ok (.ldc 89, 2) := dk_18 89 (dk_at dksX3_append_1 0 rfl rfl)
theorem dX3_append_26 : decode cX3_append 26 = .ok (.ireturn, 1) := dk_172 (dk_at dksX3_append_1 2 rfl rfl)
theorem dX3_append_27 : decode cX3_append 27 = .ok (.aload_n 0, 1) := dk_42 (dk_at dksX3_append_1 3 rfl rfl)
theorem dX3_append_28 : decode cX3_append 28 = .ok (.getfield 22, 3) := dk_180 0 22 (dk_at dksX3_append_1 4 rfl rfl)
theorem dX3_append_31 : decode cX3_append 31 = .ok (.aload_n 0, 1) := dk_42 (dk_at dksX3_append_1 7 rfl rfl)
theorem dX3_append_32 : decode cX3_append 32 = .ok (.getfield 138, 3) := dk_180 0 138 (dk_at dksX3_append_1 8 rfl rfl)
theorem dX3_append_35 : decode cX3_append 35 = .ok (.iload_n 1, 1) := dk_27 (dk_at dksX3_append_1 11 rfl rfl)
theorem dX3_append_36 : decode cX3_append 36 = .ok (.i2c, 1) := dk_146 (dk_at dksX3_append_1 12 rfl rfl)
theorem dX3_append_37 : decode cX3_append 37 = .ok (.castore, 1) := dk_85 (dk_at dksX3_append_1 13 rfl rfl)
theorem dX3_append_38 : decode cX3_append 38 = .ok (.aload_n 0, 1) := dk_42 (dk_at dksX3_append_1 14 rfl rfl)
theorem dX3_append_39 : decode cX3_append 39 = .ok (.dup, 1) := dk_89 (dk_at dksX3_append_1 15 rfl rfl)
theorem dX3_append_40 : decode cX3_append 40 = .ok (.getfield 138, 3) := dk_180 0 138 (dk_at dksX3_append_1 16 rfl rfl)
theorem dX3_append_43 : decode cX3_append 43 = .ok (.iconst 1, 1) := dk_4 (dk_at dksX3_append_1 19 rfl rfl)
theorem dX3_append_44 : decode cX3_append 44 = .ok (.iadd, 1) := dk_96 (dk_at dksX3_append_1 20 rfl rfl)
theorem dX3_append_45 : decode cX3_append 45 = .ok (.putfield 138, 3) := dk_181 0 138 (dk_at dksX3_append_1 21 rfl rfl)
theorem dX3_append_48 : decode cX3_append 48 = .ok (.aload_n 0, 1) := dk_42 (dk_at dksX3_append_2 0 rfl rfl)
theorem dX3_append_49 : decode cX3_append 49 = .ok (.getfield 138, 3) := dk_180 0 138 (dk_at dksX3_append_2 1 rfl rfl)
theorem dX3_append_52 : decode cX3_append 52 = .ok (.ireturn, 1) := dk_172 (dk_at dksX3_append_2 4 rfl rfl)
abbrev cX3_clearText : ByteArray := prog_21_method_45_code
def yX3_clearText : MethodName := ⟨RX3, "clearText", "()I"⟩
def dkwX3_clearText_0 : List UInt8 := [42, 180, 0, 138, 60, 42, 3, 181, 0, 138, 27, 172]
abbrev dktX3_clearText_0 : List UInt8 := dkwX3_clearText_0 ++ []
theorem dksX3_clearText_0 : cX3_clearText.data.toList.drop 0 = dktX3_clearText_0 := by decide +kernel
theorem dX3_clearText_0 : decode cX3_clearText 0 = .ok (.aload_n 0, 1) := dk_42 (dk_at dksX3_clearText_0 0 rfl rfl)
theorem dX3_clearText_1 : decode cX3_clearText 1 = .ok (.getfield 138, 3) := dk_180 0 138 (dk_at dksX3_clearText_0 1 rfl rfl)
theorem dX3_clearText_4 : decode cX3_clearText 4 = .ok (.istore_n 1, 1) := dk_60 (dk_at dksX3_clearText_0 4 rfl rfl)
theorem dX3_clearText_5 : decode cX3_clearText 5 = .ok (.aload_n 0, 1) := dk_42 (dk_at dksX3_clearText_0 5 rfl rfl)
theorem dX3_clearText_6 : decode cX3_clearText 6 = .ok (.iconst 0, 1) := dk_3 (dk_at dksX3_clearText_0 6 rfl rfl)
theorem dX3_clearText_7 : decode cX3_clearText 7 = .ok (.putfield 138, 3) := dk_181 0 138 (dk_at dksX3_clearText_0 7 rfl rfl)
theorem dX3_clearText_10 : decode cX3_clearText 10 = .ok (.iload_n 1, 1) := dk_27 (dk_at dksX3_clearText_0 10 rfl rfl)
theorem dX3_clearText_11 : decode cX3_clearText 11 = .ok (.ireturn, 1) := dk_172 (dk_at dksX3_clearText_0 11 rfl rfl)
abbrev cX3_run : ByteArray := prog_21_method_55_code
def yX3_run : MethodName := ⟨RX3, "run", "()I"⟩
def dkwX3_run_6 : List UInt8 := [182, 0, 157, 167, 255, 154, 42, 42, 180, 0, 16, 182, 0, 41, 42, 3, 181, 0, 138, 27, 172]
abbrev dktX3_run_6 : List UInt8 := dkwX3_run_6 ++ []
def dkwX3_run_5 : List UInt8 := [18, 40, 160, 0, 7, 5, 167, 0, 4, 6, 28, 21, 4, 27, 182, 0, 176, 172, 132, 1, 1, 42]
abbrev dktX3_run_5 : List UInt8 := dkwX3_run_5 ++ dktX3_run_6
def dkwX3_run_4 : List UInt8 := [18, 67, 27, 182, 0, 176, 172, 42, 29, 182, 0, 179, 54, 4, 21, 4, 18, 40, 163, 0, 24, 42, 21, 4]
abbrev dktX3_run_4 : List UInt8 := dkwX3_run_4 ++ dktX3_run_5
def dkwX3_run_3 : List UInt8 := [184, 0, 170, 155, 0, 14, 42, 29, 184, 0, 170, 182, 0, 173, 154, 0, 16, 42, 4, 42, 180, 0, 144]
abbrev dktX3_run_3 : List UInt8 := dkwX3_run_3 ++ dktX3_run_4
def dkwX3_run_2 : List UInt8 := [180, 0, 144, 61, 42, 180, 0, 150, 4, 160, 0, 10, 42, 182, 0, 167, 167, 0, 4, 3, 62, 29]
abbrev dktX3_run_2 : List UInt8 := dkwX3_run_2 ++ dktX3_run_3
def dkwX3_run_1 : List UInt8 := [167, 255, 234, 3, 60, 42, 3, 181, 0, 141, 42, 182, 0, 157, 42, 180, 0, 150, 153, 0, 101, 42]
abbrev dktX3_run_1 : List UInt8 := dkwX3_run_1 ++ dktX3_run_2
def dkwX3_run_0 : List UInt8 := [3, 60, 27, 17, 1, 28, 162, 0, 21, 42, 180, 0, 16, 27, 42, 180, 0, 7, 27, 46, 79, 132, 1, 1]
abbrev dktX3_run_0 : List UInt8 := dkwX3_run_0 ++ dktX3_run_1
theorem dksX3_run_0 : cX3_run.data.toList.drop 0 = dktX3_run_0 := by decide +kernel
theorem dksX3_run_1 : cX3_run.data.toList.drop 24 = dktX3_run_1 := dk_seg dksX3_run_0 24 rfl rfl
theorem dksX3_run_2 : cX3_run.data.toList.drop 46 = dktX3_run_2 := dk_seg dksX3_run_1 22 rfl rfl
theorem dksX3_run_3 : cX3_run.data.toList.drop 68 = dktX3_run_3 := dk_seg dksX3_run_2 22 rfl rfl
theorem dksX3_run_4 : cX3_run.data.toList.drop 91 = dktX3_run_4 := dk_seg dksX3_run_3 23 rfl rfl
theorem dksX3_run_5 : cX3_run.data.toList.drop 115 = dktX3_run_5 := dk_seg dksX3_run_4 24 rfl rfl
theorem dksX3_run_6 : cX3_run.data.toList.drop 137 = dktX3_run_6 := dk_seg dksX3_run_5 22 rfl rfl
theorem dX3_run_0 : decode cX3_run 0 = .ok (.iconst 0, 1) := dk_3 (dk_at dksX3_run_0 0 rfl rfl)
theorem dX3_run_1 : decode cX3_run 1 = .ok (.istore_n 1, 1) := dk_60 (dk_at dksX3_run_0 1 rfl rfl)
theorem dX3_run_2 : decode cX3_run 2 = .ok (.iload_n 1, 1) := dk_27 (dk_at dksX3_run_0 2 rfl rfl)
theorem dX3_run_3 : decode cX3_run 3 = .ok (.sipush 284, 3) := dk_17 1 28 (dk_at dksX3_run_0 3 rfl rfl)
theorem dX3_run_6 : decode cX3_run 6 = .ok (.if_icmp .ge 21, 3) := dk_162 0 21 (dk_at dksX3_run_0 6 rfl rfl)
theorem dX3_run_9 : decode cX3_run 9 = .ok (.aload_n 0, 1) := dk_42 (dk_at dksX3_run_0 9 rfl rfl)
theorem dX3_run_10 : decode cX3_run 10 = .ok (.getfield 16, 3) := dk_180 0 16 (dk_at dksX3_run_0 10 rfl rfl)
theorem dX3_run_13 : decode cX3_run 13 = .ok (.iload_n 1, 1) := dk_27 (dk_at dksX3_run_0 13 rfl rfl)
theorem dX3_run_14 : decode cX3_run 14 = .ok (.aload_n 0, 1) := dk_42 (dk_at dksX3_run_0 14 rfl rfl)
theorem dX3_run_15 : decode cX3_run 15 = .ok (.getfield 7, 3) := dk_180 0 7 (dk_at dksX3_run_0 15 rfl rfl)
theorem dX3_run_18 : decode cX3_run 18 = .ok (.iload_n 1, 1) := dk_27 (dk_at dksX3_run_0 18 rfl rfl)
theorem dX3_run_19 : decode cX3_run 19 = .ok (.iaload, 1) := dk_46 (dk_at dksX3_run_0 19 rfl rfl)
theorem dX3_run_20 : decode cX3_run 20 = .ok (.iastore, 1) := dk_79 (dk_at dksX3_run_0 20 rfl rfl)
theorem dX3_run_21 : decode cX3_run 21 = .ok (.iinc 1 1, 3) := dk_132 1 1 (dk_at dksX3_run_0 21 rfl rfl)
theorem dX3_run_24 : decode cX3_run 24 = .ok (.goto (-22), 3) := dk_167 255 234 (dk_at dksX3_run_1 0 rfl rfl)
theorem dX3_run_27 : decode cX3_run 27 = .ok (.iconst 0, 1) := dk_3 (dk_at dksX3_run_1 3 rfl rfl)
theorem dX3_run_28 : decode cX3_run 28 = .ok (.istore_n 1, 1) := dk_60 (dk_at dksX3_run_1 4 rfl rfl)
theorem dX3_run_29 : decode cX3_run 29 = .ok (.aload_n 0, 1) := dk_42 (dk_at dksX3_run_1 5 rfl rfl)
theorem dX3_run_30 : decode cX3_run 30 = .ok (.iconst 0, 1) := dk_3 (dk_at dksX3_run_1 6 rfl rfl)
theorem dX3_run_31 : decode cX3_run 31 = .ok (.putfield 141, 3) := dk_181 0 141 (dk_at dksX3_run_1 7 rfl rfl)
theorem dX3_run_34 : decode cX3_run 34 = .ok (.aload_n 0, 1) := dk_42 (dk_at dksX3_run_1 10 rfl rfl)
theorem dX3_run_35 : decode cX3_run 35 = .ok (.invokevirtual 157, 3) := dk_182 0 157 (dk_at dksX3_run_1 11 rfl rfl)
theorem dX3_run_38 : decode cX3_run 38 = .ok (.aload_n 0, 1) := dk_42 (dk_at dksX3_run_1 14 rfl rfl)
theorem dX3_run_39 : decode cX3_run 39 = .ok (.getfield 150, 3) := dk_180 0 150 (dk_at dksX3_run_1 15 rfl rfl)
theorem dX3_run_42 : decode cX3_run 42 = .ok (.ifCond .eq 101, 3) := dk_153 0 101 (dk_at dksX3_run_1 18 rfl rfl)
theorem dX3_run_45 : decode cX3_run 45 = .ok (.aload_n 0, 1) := dk_42 (dk_at dksX3_run_1 21 rfl rfl)
theorem dX3_run_46 : decode cX3_run 46 = .ok (.getfield 144, 3) := dk_180 0 144 (dk_at dksX3_run_2 0 rfl rfl)
theorem dX3_run_49 : decode cX3_run 49 = .ok (.istore_n 2, 1) := dk_61 (dk_at dksX3_run_2 3 rfl rfl)
theorem dX3_run_50 : decode cX3_run 50 = .ok (.aload_n 0, 1) := dk_42 (dk_at dksX3_run_2 4 rfl rfl)
theorem dX3_run_51 : decode cX3_run 51 = .ok (.getfield 150, 3) := dk_180 0 150 (dk_at dksX3_run_2 5 rfl rfl)
theorem dX3_run_54 : decode cX3_run 54 = .ok (.iconst 1, 1) := dk_4 (dk_at dksX3_run_2 8 rfl rfl)
theorem dX3_run_55 : decode cX3_run 55 = .ok (.if_icmp .ne 10, 3) := dk_160 0 10 (dk_at dksX3_run_2 9 rfl rfl)
theorem dX3_run_58 : decode cX3_run 58 = .ok (.aload_n 0, 1) := dk_42 (dk_at dksX3_run_2 12 rfl rfl)
theorem dX3_run_59 : decode cX3_run 59 = .ok (.invokevirtual 167, 3) := dk_182 0 167 (dk_at dksX3_run_2 13 rfl rfl)
theorem dX3_run_62 : decode cX3_run 62 = .ok (.goto 4, 3) := dk_167 0 4 (dk_at dksX3_run_2 16 rfl rfl)
theorem dX3_run_65 : decode cX3_run 65 = .ok (.iconst 0, 1) := dk_3 (dk_at dksX3_run_2 19 rfl rfl)
theorem dX3_run_66 : decode cX3_run 66 = .ok (.istore_n 3, 1) := dk_62 (dk_at dksX3_run_2 20 rfl rfl)
theorem dX3_run_67 : decode cX3_run 67 = .ok (.iload_n 3, 1) := dk_29 (dk_at dksX3_run_2 21 rfl rfl)
theorem dX3_run_68 : decode cX3_run 68 = .ok (.invokestatic 170, 3) := dk_184 0 170 (dk_at dksX3_run_3 0 rfl rfl)
theorem dX3_run_71 : decode cX3_run 71 = .ok (.ifCond .lt 14, 3) := dk_155 0 14 (dk_at dksX3_run_3 3 rfl rfl)
theorem dX3_run_74 : decode cX3_run 74 = .ok (.aload_n 0, 1) := dk_42 (dk_at dksX3_run_3 6 rfl rfl)
theorem dX3_run_75 : decode cX3_run 75 = .ok (.iload_n 3, 1) := dk_29 (dk_at dksX3_run_3 7 rfl rfl)
theorem dX3_run_76 : decode cX3_run 76 = .ok (.invokestatic 170, 3) := dk_184 0 170 (dk_at dksX3_run_3 8 rfl rfl)
theorem dX3_run_79 : decode cX3_run 79 = .ok (.invokevirtual 173, 3) := dk_182 0 173 (dk_at dksX3_run_3 11 rfl rfl)
theorem dX3_run_82 : decode cX3_run 82 = .ok (.ifCond .ne 16, 3) := dk_154 0 16 (dk_at dksX3_run_3 14 rfl rfl)
theorem dX3_run_85 : decode cX3_run 85 = .ok (.aload_n 0, 1) := dk_42 (dk_at dksX3_run_3 17 rfl rfl)
theorem dX3_run_86 : decode cX3_run 86 = .ok (.iconst 1, 1) := dk_4 (dk_at dksX3_run_3 18 rfl rfl)
theorem dX3_run_87 : decode cX3_run 87 = .ok (.aload_n 0, 1) := dk_42 (dk_at dksX3_run_3 19 rfl rfl)
theorem dX3_run_88 : decode cX3_run 88 = .ok (.getfield 144, 3) := dk_180 0 144 (dk_at dksX3_run_3 20 rfl rfl)
theorem dX3_run_91 : decode cX3_run 91 = .ok (.ldc 67, 2) := dk_18 67 (dk_at dksX3_run_4 0 rfl rfl)
theorem dX3_run_93 : decode cX3_run 93 = .ok (.iload_n 1, 1) := dk_27 (dk_at dksX3_run_4 2 rfl rfl)
theorem dX3_run_94 : decode cX3_run 94 = .ok (.invokevirtual 176, 3) := dk_182 0 176 (dk_at dksX3_run_4 3 rfl rfl)
theorem dX3_run_97 : decode cX3_run 97 = .ok (.ireturn, 1) := dk_172 (dk_at dksX3_run_4 6 rfl rfl)
theorem dX3_run_98 : decode cX3_run 98 = .ok (.aload_n 0, 1) := dk_42 (dk_at dksX3_run_4 7 rfl rfl)
theorem dX3_run_99 : decode cX3_run 99 = .ok (.iload_n 3, 1) := dk_29 (dk_at dksX3_run_4 8 rfl rfl)
theorem dX3_run_100 : decode cX3_run 100 = .ok (.invokevirtual 179, 3) := dk_182 0 179 (dk_at dksX3_run_4 9 rfl rfl)
theorem dX3_run_103 : decode cX3_run 103 = .ok (.istore 4, 2) := dk_54 4 (dk_at dksX3_run_4 12 rfl rfl)
theorem dX3_run_105 : decode cX3_run 105 = .ok (.iload 4, 2) := dk_21 4 (dk_at dksX3_run_4 14 rfl rfl)
theorem dX3_run_107 : decode cX3_run 107 = .ok (.ldc 40, 2) := dk_18 40 (dk_at dksX3_run_4 16 rfl rfl)
theorem dX3_run_109 : decode cX3_run 109 = .ok (.if_icmp .gt 24, 3) := dk_163 0 24 (dk_at dksX3_run_4 18 rfl rfl)
theorem dX3_run_112 : decode cX3_run 112 = .ok (.aload_n 0, 1) := dk_42 (dk_at dksX3_run_4 21 rfl rfl)
theorem dX3_run_113 : decode cX3_run 113 = .ok (.iload 4, 2) := dk_21 4 (dk_at dksX3_run_4 22 rfl rfl)
theorem dX3_run_115 : decode cX3_run 115 = .ok (.ldc 40, 2) := dk_18 40 (dk_at dksX3_run_5 0 rfl rfl)
theorem dX3_run_117 : decode cX3_run 117 = .ok (.if_icmp .ne 7, 3) := dk_160 0 7 (dk_at dksX3_run_5 2 rfl rfl)
theorem dX3_run_120 : decode cX3_run 120 = .ok (.iconst 2, 1) := dk_5 (dk_at dksX3_run_5 5 rfl rfl)
theorem dX3_run_121 : decode cX3_run 121 = .ok (.goto 4, 3) := dk_167 0 4 (dk_at dksX3_run_5 6 rfl rfl)
theorem dX3_run_124 : decode cX3_run 124 = .ok (.iconst 3, 1) := dk_6 (dk_at dksX3_run_5 9 rfl rfl)
theorem dX3_run_125 : decode cX3_run 125 = .ok (.iload_n 2, 1) := dk_28 (dk_at dksX3_run_5 10 rfl rfl)
theorem dX3_run_126 : decode cX3_run 126 = .ok (.iload 4, 2) := dk_21 4 (dk_at dksX3_run_5 11 rfl rfl)
theorem dX3_run_128 : decode cX3_run 128 = .ok (.iload_n 1, 1) := dk_27 (dk_at dksX3_run_5 13 rfl rfl)
theorem dX3_run_129 : decode cX3_run 129 = .ok (.invokevirtual 176, 3) := dk_182 0 176 (dk_at dksX3_run_5 14 rfl rfl)
theorem dX3_run_132 : decode cX3_run 132 = .ok (.ireturn, 1) := dk_172 (dk_at dksX3_run_5 17 rfl rfl)
theorem dX3_run_133 : decode cX3_run 133 = .ok (.iinc 1 1, 3) := dk_132 1 1 (dk_at dksX3_run_5 18 rfl rfl)
theorem dX3_run_136 : decode cX3_run 136 = .ok (.aload_n 0, 1) := dk_42 (dk_at dksX3_run_5 21 rfl rfl)
theorem dX3_run_137 : decode cX3_run 137 = .ok (.invokevirtual 157, 3) := dk_182 0 157 (dk_at dksX3_run_6 0 rfl rfl)
theorem dX3_run_140 : decode cX3_run 140 = .ok (.goto (-102), 3) := dk_167 255 154 (dk_at dksX3_run_6 3 rfl rfl)
theorem dX3_run_143 : decode cX3_run 143 = .ok (.aload_n 0, 1) := dk_42 (dk_at dksX3_run_6 6 rfl rfl)
theorem dX3_run_144 : decode cX3_run 144 = .ok (.aload_n 0, 1) := dk_42 (dk_at dksX3_run_6 7 rfl rfl)
theorem dX3_run_145 : decode cX3_run 145 = .ok (.getfield 16, 3) := dk_180 0 16 (dk_at dksX3_run_6 8 rfl rfl)
theorem dX3_run_148 : decode cX3_run 148 = .ok (.invokevirtual 41, 3) := dk_182 0 41 (dk_at dksX3_run_6 11 rfl rfl)
theorem dX3_run_151 : decode cX3_run 151 = .ok (.aload_n 0, 1) := dk_42 (dk_at dksX3_run_6 14 rfl rfl)
theorem dX3_run_152 : decode cX3_run 152 = .ok (.iconst 0, 1) := dk_3 (dk_at dksX3_run_6 15 rfl rfl)
theorem dX3_run_153 : decode cX3_run 153 = .ok (.putfield 138, 3) := dk_181 0 138 (dk_at dksX3_run_6 16 rfl rfl)
theorem dX3_run_156 : decode cX3_run 156 = .ok (.iload_n 1, 1) := dk_27 (dk_at dksX3_run_6 19 rfl rfl)
theorem dX3_run_157 : decode cX3_run 157 = .ok (.ireturn, 1) := dk_172 (dk_at dksX3_run_6 20 rfl rfl)
abbrev cX3_reads : ByteArray := prog_21_method_47_code
def yX3_reads : MethodName := ⟨RX3, "reads", "()V"⟩
def dkwX3_reads_7 : List UInt8 := [3, 96, 181, 0, 141, 177]
abbrev dktX3_reads_7 : List UInt8 := dkwX3_reads_7 ++ []
def dkwX3_reads_6 : List UInt8 := [96, 181, 0, 141, 167, 255, 208, 42, 89, 180, 0, 141, 42, 180, 0, 150, 6, 160, 0, 7, 4, 167, 0, 4]
abbrev dktX3_reads_6 : List UInt8 := dkwX3_reads_6 ++ dktX3_reads_7
def dkwX3_reads_5 : List UInt8 := [180, 0, 150, 5, 160, 0, 27, 42, 16, 48, 16, 57, 182, 0, 147, 153, 0, 16, 42, 89, 180, 0, 141, 4]
abbrev dktX3_reads_5 : List UInt8 := dkwX3_reads_5 ++ dktX3_reads_6
def dkwX3_reads_4 : List UInt8 := [181, 0, 150, 42, 180, 0, 150, 4, 160, 0, 14, 42, 16, 97, 16, 122, 182, 0, 147, 154, 0, 22, 42]
abbrev dktX3_reads_4 : List UInt8 := dkwX3_reads_4 ++ dktX3_reads_5
def dkwX3_reads_3 : List UInt8 := [153, 0, 7, 4, 167, 0, 19, 42, 16, 48, 16, 57, 182, 0, 147, 153, 0, 7, 5, 167, 0, 4, 6]
abbrev dktX3_reads_3 : List UInt8 := dkwX3_reads_3 ++ dktX3_reads_4
def dkwX3_reads_2 : List UInt8 := [42, 42, 180, 0, 141, 42, 180, 0, 138, 160, 0, 7, 3, 167, 0, 34, 42, 16, 97, 16, 122, 182, 0, 147]
abbrev dktX3_reads_2 : List UInt8 := dkwX3_reads_2 ++ dktX3_reads_3
def dkwX3_reads_1 : List UInt8 := [160, 0, 16, 42, 89, 180, 0, 141, 4, 96, 181, 0, 141, 167, 255, 221, 42, 42, 180, 0, 141, 181, 0, 144]
abbrev dktX3_reads_1 : List UInt8 := dkwX3_reads_1 ++ dktX3_reads_2
def dkwX3_reads_0 : List UInt8 := [42, 180, 0, 141, 42, 180, 0, 138, 162, 0, 30, 42, 180, 0, 22, 42, 180, 0, 141, 52, 16, 32]
abbrev dktX3_reads_0 : List UInt8 := dkwX3_reads_0 ++ dktX3_reads_1
theorem dksX3_reads_0 : cX3_reads.data.toList.drop 0 = dktX3_reads_0 := by decide +kernel
theorem dksX3_reads_1 : cX3_reads.data.toList.drop 22 = dktX3_reads_1 := dk_seg dksX3_reads_0 22 rfl rfl
theorem dksX3_reads_2 : cX3_reads.data.toList.drop 46 = dktX3_reads_2 := dk_seg dksX3_reads_1 24 rfl rfl
theorem dksX3_reads_3 : cX3_reads.data.toList.drop 70 = dktX3_reads_3 := dk_seg dksX3_reads_2 24 rfl rfl
theorem dksX3_reads_4 : cX3_reads.data.toList.drop 93 = dktX3_reads_4 := dk_seg dksX3_reads_3 23 rfl rfl
theorem dksX3_reads_5 : cX3_reads.data.toList.drop 116 = dktX3_reads_5 := dk_seg dksX3_reads_4 23 rfl rfl
theorem dksX3_reads_6 : cX3_reads.data.toList.drop 140 = dktX3_reads_6 := dk_seg dksX3_reads_5 24 rfl rfl
theorem dksX3_reads_7 : cX3_reads.data.toList.drop 164 = dktX3_reads_7 := dk_seg dksX3_reads_6 24 rfl rfl
theorem dX3_reads_0 : decode cX3_reads 0 = .ok (.aload_n 0, 1) := dk_42 (dk_at dksX3_reads_0 0 rfl rfl)
theorem dX3_reads_1 : decode cX3_reads 1 = .ok (.getfield 141, 3) := dk_180 0 141 (dk_at dksX3_reads_0 1 rfl rfl)
theorem dX3_reads_4 : decode cX3_reads 4 = .ok (.aload_n 0, 1) := dk_42 (dk_at dksX3_reads_0 4 rfl rfl)
theorem dX3_reads_5 : decode cX3_reads 5 = .ok (.getfield 138, 3) := dk_180 0 138 (dk_at dksX3_reads_0 5 rfl rfl)
theorem dX3_reads_8 : decode cX3_reads 8 = .ok (.if_icmp .ge 30, 3) := dk_162 0 30 (dk_at dksX3_reads_0 8 rfl rfl)
theorem dX3_reads_11 : decode cX3_reads 11 = .ok (.aload_n 0, 1) := dk_42 (dk_at dksX3_reads_0 11 rfl rfl)
theorem dX3_reads_12 : decode cX3_reads 12 = .ok (.getfield 22, 3) := dk_180 0 22 (dk_at dksX3_reads_0 12 rfl rfl)
theorem dX3_reads_15 : decode cX3_reads 15 = .ok (.aload_n 0, 1) := dk_42 (dk_at dksX3_reads_0 15 rfl rfl)
theorem dX3_reads_16 : decode cX3_reads 16 = .ok (.getfield 141, 3) := dk_180 0 141 (dk_at dksX3_reads_0 16 rfl rfl)
theorem dX3_reads_19 : decode cX3_reads 19 = .ok (.caload, 1) := dk_52 (dk_at dksX3_reads_0 19 rfl rfl)
theorem dX3_reads_20 : decode cX3_reads 20 = .ok (.bipush 32, 2) := dk_16 32 (dk_at dksX3_reads_0 20 rfl rfl)
theorem dX3_reads_22 : decode cX3_reads 22 = .ok (.if_icmp .ne 16, 3) := dk_160 0 16 (dk_at dksX3_reads_1 0 rfl rfl)
theorem dX3_reads_25 : decode cX3_reads 25 = .ok (.aload_n 0, 1) := dk_42 (dk_at dksX3_reads_1 3 rfl rfl)
theorem dX3_reads_26 : decode cX3_reads 26 = .ok (.dup, 1) := dk_89 (dk_at dksX3_reads_1 4 rfl rfl)
theorem dX3_reads_27 : decode cX3_reads 27 = .ok (.getfield 141, 3) := dk_180 0 141 (dk_at dksX3_reads_1 5 rfl rfl)
theorem dX3_reads_30 : decode cX3_reads 30 = .ok (.iconst 1, 1) := dk_4 (dk_at dksX3_reads_1 8 rfl rfl)
theorem dX3_reads_31 : decode cX3_reads 31 = .ok (.iadd, 1) := dk_96 (dk_at dksX3_reads_1 9 rfl rfl)
theorem dX3_reads_32 : decode cX3_reads 32 = .ok (.putfield 141, 3) := dk_181 0 141 (dk_at dksX3_reads_1 10 rfl rfl)
theorem dX3_reads_35 : decode cX3_reads 35 = .ok (.goto (-35), 3) := dk_167 255 221 (dk_at dksX3_reads_1 13 rfl rfl)
theorem dX3_reads_38 : decode cX3_reads 38 = .ok (.aload_n 0, 1) := dk_42 (dk_at dksX3_reads_1 16 rfl rfl)
theorem dX3_reads_39 : decode cX3_reads 39 = .ok (.aload_n 0, 1) := dk_42 (dk_at dksX3_reads_1 17 rfl rfl)
theorem dX3_reads_40 : decode cX3_reads 40 = .ok (.getfield 141, 3) := dk_180 0 141 (dk_at dksX3_reads_1 18 rfl rfl)
theorem dX3_reads_43 : decode cX3_reads 43 = .ok (.putfield 144, 3) := dk_181 0 144 (dk_at dksX3_reads_1 21 rfl rfl)
theorem dX3_reads_46 : decode cX3_reads 46 = .ok (.aload_n 0, 1) := dk_42 (dk_at dksX3_reads_2 0 rfl rfl)
theorem dX3_reads_47 : decode cX3_reads 47 = .ok (.aload_n 0, 1) := dk_42 (dk_at dksX3_reads_2 1 rfl rfl)
theorem dX3_reads_48 : decode cX3_reads 48 = .ok (.getfield 141, 3) := dk_180 0 141 (dk_at dksX3_reads_2 2 rfl rfl)
theorem dX3_reads_51 : decode cX3_reads 51 = .ok (.aload_n 0, 1) := dk_42 (dk_at dksX3_reads_2 5 rfl rfl)
theorem dX3_reads_52 : decode cX3_reads 52 = .ok (.getfield 138, 3) := dk_180 0 138 (dk_at dksX3_reads_2 6 rfl rfl)
theorem dX3_reads_55 : decode cX3_reads 55 = .ok (.if_icmp .ne 7, 3) := dk_160 0 7 (dk_at dksX3_reads_2 9 rfl rfl)
theorem dX3_reads_58 : decode cX3_reads 58 = .ok (.iconst 0, 1) := dk_3 (dk_at dksX3_reads_2 12 rfl rfl)
theorem dX3_reads_59 : decode cX3_reads 59 = .ok (.goto 34, 3) := dk_167 0 34 (dk_at dksX3_reads_2 13 rfl rfl)
theorem dX3_reads_62 : decode cX3_reads 62 = .ok (.aload_n 0, 1) := dk_42 (dk_at dksX3_reads_2 16 rfl rfl)
theorem dX3_reads_63 : decode cX3_reads 63 = .ok (.bipush 97, 2) := dk_16 97 (dk_at dksX3_reads_2 17 rfl rfl)
theorem dX3_reads_65 : decode cX3_reads 65 = .ok (.bipush 122, 2) := dk_16 122 (dk_at dksX3_reads_2 19 rfl rfl)
theorem dX3_reads_67 : decode cX3_reads 67 = .ok (.invokevirtual 147, 3) := dk_182 0 147 (dk_at dksX3_reads_2 21 rfl rfl)
theorem dX3_reads_70 : decode cX3_reads 70 = .ok (.ifCond .eq 7, 3) := dk_153 0 7 (dk_at dksX3_reads_3 0 rfl rfl)
theorem dX3_reads_73 : decode cX3_reads 73 = .ok (.iconst 1, 1) := dk_4 (dk_at dksX3_reads_3 3 rfl rfl)
theorem dX3_reads_74 : decode cX3_reads 74 = .ok (.goto 19, 3) := dk_167 0 19 (dk_at dksX3_reads_3 4 rfl rfl)
theorem dX3_reads_77 : decode cX3_reads 77 = .ok (.aload_n 0, 1) := dk_42 (dk_at dksX3_reads_3 7 rfl rfl)
theorem dX3_reads_78 : decode cX3_reads 78 = .ok (.bipush 48, 2) := dk_16 48 (dk_at dksX3_reads_3 8 rfl rfl)
theorem dX3_reads_80 : decode cX3_reads 80 = .ok (.bipush 57, 2) := dk_16 57 (dk_at dksX3_reads_3 10 rfl rfl)
theorem dX3_reads_82 : decode cX3_reads 82 = .ok (.invokevirtual 147, 3) := dk_182 0 147 (dk_at dksX3_reads_3 12 rfl rfl)
theorem dX3_reads_85 : decode cX3_reads 85 = .ok (.ifCond .eq 7, 3) := dk_153 0 7 (dk_at dksX3_reads_3 15 rfl rfl)
theorem dX3_reads_88 : decode cX3_reads 88 = .ok (.iconst 2, 1) := dk_5 (dk_at dksX3_reads_3 18 rfl rfl)
theorem dX3_reads_89 : decode cX3_reads 89 = .ok (.goto 4, 3) := dk_167 0 4 (dk_at dksX3_reads_3 19 rfl rfl)
theorem dX3_reads_92 : decode cX3_reads 92 = .ok (.iconst 3, 1) := dk_6 (dk_at dksX3_reads_3 22 rfl rfl)
theorem dX3_reads_93 : decode cX3_reads 93 = .ok (.putfield 150, 3) := dk_181 0 150 (dk_at dksX3_reads_4 0 rfl rfl)
theorem dX3_reads_96 : decode cX3_reads 96 = .ok (.aload_n 0, 1) := dk_42 (dk_at dksX3_reads_4 3 rfl rfl)
theorem dX3_reads_97 : decode cX3_reads 97 = .ok (.getfield 150, 3) := dk_180 0 150 (dk_at dksX3_reads_4 4 rfl rfl)
theorem dX3_reads_100 : decode cX3_reads 100 = .ok (.iconst 1, 1) := dk_4 (dk_at dksX3_reads_4 7 rfl rfl)
theorem dX3_reads_101 : decode cX3_reads 101 = .ok (.if_icmp .ne 14, 3) := dk_160 0 14 (dk_at dksX3_reads_4 8 rfl rfl)
theorem dX3_reads_104 : decode cX3_reads 104 = .ok (.aload_n 0, 1) := dk_42 (dk_at dksX3_reads_4 11 rfl rfl)
theorem dX3_reads_105 : decode cX3_reads 105 = .ok (.bipush 97, 2) := dk_16 97 (dk_at dksX3_reads_4 12 rfl rfl)
theorem dX3_reads_107 : decode cX3_reads 107 = .ok (.bipush 122, 2) := dk_16 122 (dk_at dksX3_reads_4 14 rfl rfl)
theorem dX3_reads_109 : decode cX3_reads 109 = .ok (.invokevirtual 147, 3) := dk_182 0 147 (dk_at dksX3_reads_4 16 rfl rfl)
theorem dX3_reads_112 : decode cX3_reads 112 = .ok (.ifCond .ne 22, 3) := dk_154 0 22 (dk_at dksX3_reads_4 19 rfl rfl)
theorem dX3_reads_115 : decode cX3_reads 115 = .ok (.aload_n 0, 1) := dk_42 (dk_at dksX3_reads_4 22 rfl rfl)
theorem dX3_reads_116 : decode cX3_reads 116 = .ok (.getfield 150, 3) := dk_180 0 150 (dk_at dksX3_reads_5 0 rfl rfl)
theorem dX3_reads_119 : decode cX3_reads 119 = .ok (.iconst 2, 1) := dk_5 (dk_at dksX3_reads_5 3 rfl rfl)
theorem dX3_reads_120 : decode cX3_reads 120 = .ok (.if_icmp .ne 27, 3) := dk_160 0 27 (dk_at dksX3_reads_5 4 rfl rfl)
theorem dX3_reads_123 : decode cX3_reads 123 = .ok (.aload_n 0, 1) := dk_42 (dk_at dksX3_reads_5 7 rfl rfl)
theorem dX3_reads_124 : decode cX3_reads 124 = .ok (.bipush 48, 2) := dk_16 48 (dk_at dksX3_reads_5 8 rfl rfl)
theorem dX3_reads_126 : decode cX3_reads 126 = .ok (.bipush 57, 2) := dk_16 57 (dk_at dksX3_reads_5 10 rfl rfl)
theorem dX3_reads_128 : decode cX3_reads 128 = .ok (.invokevirtual 147, 3) := dk_182 0 147 (dk_at dksX3_reads_5 12 rfl rfl)
theorem dX3_reads_131 : decode cX3_reads 131 = .ok (.ifCond .eq 16, 3) := dk_153 0 16 (dk_at dksX3_reads_5 15 rfl rfl)
theorem dX3_reads_134 : decode cX3_reads 134 = .ok (.aload_n 0, 1) := dk_42 (dk_at dksX3_reads_5 18 rfl rfl)
theorem dX3_reads_135 : decode cX3_reads 135 = .ok (.dup, 1) := dk_89 (dk_at dksX3_reads_5 19 rfl rfl)
theorem dX3_reads_136 : decode cX3_reads 136 = .ok (.getfield 141, 3) := dk_180 0 141 (dk_at dksX3_reads_5 20 rfl rfl)
theorem dX3_reads_139 : decode cX3_reads 139 = .ok (.iconst 1, 1) := dk_4 (dk_at dksX3_reads_5 23 rfl rfl)
theorem dX3_reads_140 : decode cX3_reads 140 = .ok (.iadd, 1) := dk_96 (dk_at dksX3_reads_6 0 rfl rfl)
theorem dX3_reads_141 : decode cX3_reads 141 = .ok (.putfield 141, 3) := dk_181 0 141 (dk_at dksX3_reads_6 1 rfl rfl)
theorem dX3_reads_144 : decode cX3_reads 144 = .ok (.goto (-48), 3) := dk_167 255 208 (dk_at dksX3_reads_6 4 rfl rfl)
theorem dX3_reads_147 : decode cX3_reads 147 = .ok (.aload_n 0, 1) := dk_42 (dk_at dksX3_reads_6 7 rfl rfl)
theorem dX3_reads_148 : decode cX3_reads 148 = .ok (.dup, 1) := dk_89 (dk_at dksX3_reads_6 8 rfl rfl)
theorem dX3_reads_149 : decode cX3_reads 149 = .ok (.getfield 141, 3) := dk_180 0 141 (dk_at dksX3_reads_6 9 rfl rfl)
theorem dX3_reads_152 : decode cX3_reads 152 = .ok (.aload_n 0, 1) := dk_42 (dk_at dksX3_reads_6 12 rfl rfl)
theorem dX3_reads_153 : decode cX3_reads 153 = .ok (.getfield 150, 3) := dk_180 0 150 (dk_at dksX3_reads_6 13 rfl rfl)
theorem dX3_reads_156 : decode cX3_reads 156 = .ok (.iconst 3, 1) := dk_6 (dk_at dksX3_reads_6 16 rfl rfl)
theorem dX3_reads_157 : decode cX3_reads 157 = .ok (.if_icmp .ne 7, 3) := dk_160 0 7 (dk_at dksX3_reads_6 17 rfl rfl)
theorem dX3_reads_160 : decode cX3_reads 160 = .ok (.iconst 1, 1) := dk_4 (dk_at dksX3_reads_6 20 rfl rfl)
theorem dX3_reads_161 : decode cX3_reads 161 = .ok (.goto 4, 3) := dk_167 0 4 (dk_at dksX3_reads_6 21 rfl rfl)
theorem dX3_reads_164 : decode cX3_reads 164 = .ok (.iconst 0, 1) := dk_3 (dk_at dksX3_reads_7 0 rfl rfl)
theorem dX3_reads_165 : decode cX3_reads 165 = .ok (.iadd, 1) := dk_96 (dk_at dksX3_reads_7 1 rfl rfl)
theorem dX3_reads_166 : decode cX3_reads 166 = .ok (.putfield 141, 3) := dk_181 0 141 (dk_at dksX3_reads_7 2 rfl rfl)
theorem dX3_reads_169 : decode cX3_reads 169 = .ok (.return_, 1) := dk_177 (dk_at dksX3_reads_7 5 rfl rfl)
abbrev cX3_isIn : ByteArray := prog_21_method_46_code
def yX3_isIn : MethodName := ⟨RX3, "isIn", "(II)Z"⟩
def dkwX3_isIn_1 : List UInt8 := [184, 0, 32, 153, 0, 7, 4, 167, 0, 4, 3, 172]
abbrev dktX3_isIn_1 : List UInt8 := dkwX3_isIn_1 ++ []
def dkwX3_isIn_0 : List UInt8 := [42, 180, 0, 141, 42, 180, 0, 138, 162, 0, 24, 42, 180, 0, 22, 42, 180, 0, 141, 52, 27, 28]
abbrev dktX3_isIn_0 : List UInt8 := dkwX3_isIn_0 ++ dktX3_isIn_1
theorem dksX3_isIn_0 : cX3_isIn.data.toList.drop 0 = dktX3_isIn_0 := by decide +kernel
theorem dksX3_isIn_1 : cX3_isIn.data.toList.drop 22 = dktX3_isIn_1 := dk_seg dksX3_isIn_0 22 rfl rfl
theorem dX3_isIn_0 : decode cX3_isIn 0 = .ok (.aload_n 0, 1) := dk_42 (dk_at dksX3_isIn_0 0 rfl rfl)
theorem dX3_isIn_1 : decode cX3_isIn 1 = .ok (.getfield 141, 3) := dk_180 0 141 (dk_at dksX3_isIn_0 1 rfl rfl)
theorem dX3_isIn_4 : decode cX3_isIn 4 = .ok (.aload_n 0, 1) := dk_42 (dk_at dksX3_isIn_0 4 rfl rfl)
theorem dX3_isIn_5 : decode cX3_isIn 5 = .ok (.getfield 138, 3) := dk_180 0 138 (dk_at dksX3_isIn_0 5 rfl rfl)
theorem dX3_isIn_8 : decode cX3_isIn 8 = .ok (.if_icmp .ge 24, 3) := dk_162 0 24 (dk_at dksX3_isIn_0 8 rfl rfl)
theorem dX3_isIn_11 : decode cX3_isIn 11 = .ok (.aload_n 0, 1) := dk_42 (dk_at dksX3_isIn_0 11 rfl rfl)
theorem dX3_isIn_12 : decode cX3_isIn 12 = .ok (.getfield 22, 3) := dk_180 0 22 (dk_at dksX3_isIn_0 12 rfl rfl)
theorem dX3_isIn_15 : decode cX3_isIn 15 = .ok (.aload_n 0, 1) := dk_42 (dk_at dksX3_isIn_0 15 rfl rfl)
theorem dX3_isIn_16 : decode cX3_isIn 16 = .ok (.getfield 141, 3) := dk_180 0 141 (dk_at dksX3_isIn_0 16 rfl rfl)
theorem dX3_isIn_19 : decode cX3_isIn 19 = .ok (.caload, 1) := dk_52 (dk_at dksX3_isIn_0 19 rfl rfl)
theorem dX3_isIn_20 : decode cX3_isIn 20 = .ok (.iload_n 1, 1) := dk_27 (dk_at dksX3_isIn_0 20 rfl rfl)
theorem dX3_isIn_21 : decode cX3_isIn 21 = .ok (.iload_n 2, 1) := dk_28 (dk_at dksX3_isIn_0 21 rfl rfl)
theorem dX3_isIn_22 : decode cX3_isIn 22 = .ok (.invokestatic 32, 3) := dk_184 0 32 (dk_at dksX3_isIn_1 0 rfl rfl)
theorem dX3_isIn_25 : decode cX3_isIn 25 = .ok (.ifCond .eq 7, 3) := dk_153 0 7 (dk_at dksX3_isIn_1 3 rfl rfl)
theorem dX3_isIn_28 : decode cX3_isIn 28 = .ok (.iconst 1, 1) := dk_4 (dk_at dksX3_isIn_1 6 rfl rfl)
theorem dX3_isIn_29 : decode cX3_isIn 29 = .ok (.goto 4, 3) := dk_167 0 4 (dk_at dksX3_isIn_1 7 rfl rfl)
theorem dX3_isIn_32 : decode cX3_isIn 32 = .ok (.iconst 0, 1) := dk_3 (dk_at dksX3_isIn_1 10 rfl rfl)
theorem dX3_isIn_33 : decode cX3_isIn 33 = .ok (.ireturn, 1) := dk_172 (dk_at dksX3_isIn_1 11 rfl rfl)
abbrev cX3_word : ByteArray := prog_21_method_49_code
def yX3_word : MethodName := ⟨RX3, "word", "()I"⟩
def dkwX3_word_2 : List UInt8 := [167, 255, 216, 27, 172]
abbrev dktX3_word_2 : List UInt8 := dkwX3_word_2 ++ []
def dkwX3_word_1 : List UInt8 := [16, 6, 162, 0, 24, 16, 32, 27, 104, 42, 180, 0, 22, 28, 52, 96, 16, 96, 100, 60, 132, 2, 1]
abbrev dktX3_word_1 : List UInt8 := dkwX3_word_1 ++ dktX3_word_2
def dkwX3_word_0 : List UInt8 := [3, 60, 42, 180, 0, 144, 61, 28, 42, 180, 0, 141, 162, 0, 38, 42, 180, 0, 141, 42, 180, 0, 144, 100]
abbrev dktX3_word_0 : List UInt8 := dkwX3_word_0 ++ dktX3_word_1
theorem dksX3_word_0 : cX3_word.data.toList.drop 0 = dktX3_word_0 := by decide +kernel
theorem dksX3_word_1 : cX3_word.data.toList.drop 24 = dktX3_word_1 := dk_seg dksX3_word_0 24 rfl rfl
theorem dksX3_word_2 : cX3_word.data.toList.drop 47 = dktX3_word_2 := dk_seg dksX3_word_1 23 rfl rfl
theorem dX3_word_0 : decode cX3_word 0 = .ok (.iconst 0, 1) := dk_3 (dk_at dksX3_word_0 0 rfl rfl)
theorem dX3_word_1 : decode cX3_word 1 = .ok (.istore_n 1, 1) := dk_60 (dk_at dksX3_word_0 1 rfl rfl)
theorem dX3_word_2 : decode cX3_word 2 = .ok (.aload_n 0, 1) := dk_42 (dk_at dksX3_word_0 2 rfl rfl)
theorem dX3_word_3 : decode cX3_word 3 = .ok (.getfield 144, 3) := dk_180 0 144 (dk_at dksX3_word_0 3 rfl rfl)
theorem dX3_word_6 : decode cX3_word 6 = .ok (.istore_n 2, 1) := dk_61 (dk_at dksX3_word_0 6 rfl rfl)
theorem dX3_word_7 : decode cX3_word 7 = .ok (.iload_n 2, 1) := dk_28 (dk_at dksX3_word_0 7 rfl rfl)
theorem dX3_word_8 : decode cX3_word 8 = .ok (.aload_n 0, 1) := dk_42 (dk_at dksX3_word_0 8 rfl rfl)
theorem dX3_word_9 : decode cX3_word 9 = .ok (.getfield 141, 3) := dk_180 0 141 (dk_at dksX3_word_0 9 rfl rfl)
theorem dX3_word_12 : decode cX3_word 12 = .ok (.if_icmp .ge 38, 3) := dk_162 0 38 (dk_at dksX3_word_0 12 rfl rfl)
theorem dX3_word_15 : decode cX3_word 15 = .ok (.aload_n 0, 1) := dk_42 (dk_at dksX3_word_0 15 rfl rfl)
theorem dX3_word_16 : decode cX3_word 16 = .ok (.getfield 141, 3) := dk_180 0 141 (dk_at dksX3_word_0 16 rfl rfl)
theorem dX3_word_19 : decode cX3_word 19 = .ok (.aload_n 0, 1) := dk_42 (dk_at dksX3_word_0 19 rfl rfl)
theorem dX3_word_20 : decode cX3_word 20 = .ok (.getfield 144, 3) := dk_180 0 144 (dk_at dksX3_word_0 20 rfl rfl)
theorem dX3_word_23 : decode cX3_word 23 = .ok (.isub, 1) := dk_100 (dk_at dksX3_word_0 23 rfl rfl)
theorem dX3_word_24 : decode cX3_word 24 = .ok (.bipush 6, 2) := dk_16 6 (dk_at dksX3_word_1 0 rfl rfl)
theorem dX3_word_26 : decode cX3_word 26 = .ok (.if_icmp .ge 24, 3) := dk_162 0 24 (dk_at dksX3_word_1 2 rfl rfl)
theorem dX3_word_29 : decode cX3_word 29 = .ok (.bipush 32, 2) := dk_16 32 (dk_at dksX3_word_1 5 rfl rfl)
theorem dX3_word_31 : decode cX3_word 31 = .ok (.iload_n 1, 1) := dk_27 (dk_at dksX3_word_1 7 rfl rfl)
theorem dX3_word_32 : decode cX3_word 32 = .ok (.imul, 1) := dk_104 (dk_at dksX3_word_1 8 rfl rfl)
theorem dX3_word_33 : decode cX3_word 33 = .ok (.aload_n 0, 1) := dk_42 (dk_at dksX3_word_1 9 rfl rfl)
theorem dX3_word_34 : decode cX3_word 34 = .ok (.getfield 22, 3) := dk_180 0 22 (dk_at dksX3_word_1 10 rfl rfl)
theorem dX3_word_37 : decode cX3_word 37 = .ok (.iload_n 2, 1) := dk_28 (dk_at dksX3_word_1 13 rfl rfl)
theorem dX3_word_38 : decode cX3_word 38 = .ok (.caload, 1) := dk_52 (dk_at dksX3_word_1 14 rfl rfl)
theorem dX3_word_39 : decode cX3_word 39 = .ok (.iadd, 1) := dk_96 (dk_at dksX3_word_1 15 rfl rfl)
theorem dX3_word_40 : decode cX3_word 40 = .ok (.bipush 96, 2) := dk_16 96 (dk_at dksX3_word_1 16 rfl rfl)
theorem dX3_word_42 : decode cX3_word 42 = .ok (.isub, 1) := dk_100 (dk_at dksX3_word_1 18 rfl rfl)
theorem dX3_word_43 : decode cX3_word 43 = .ok (.istore_n 1, 1) := dk_60 (dk_at dksX3_word_1 19 rfl rfl)
theorem dX3_word_44 : decode cX3_word 44 = .ok (.iinc 2 1, 3) := dk_132 2 1 (dk_at dksX3_word_1 20 rfl rfl)
theorem dX3_word_47 : decode cX3_word 47 = .ok (.goto (-40), 3) := dk_167 255 216 (dk_at dksX3_word_2 0 rfl rfl)
theorem dX3_word_50 : decode cX3_word 50 = .ok (.iload_n 1, 1) := dk_27 (dk_at dksX3_word_2 3 rfl rfl)
theorem dX3_word_51 : decode cX3_word 51 = .ok (.ireturn, 1) := dk_172 (dk_at dksX3_word_2 4 rfl rfl)
abbrev cX3_numbers : ByteArray := prog_21_method_48_code
def yX3_numbers : MethodName := ⟨RX3, "numbers", "(I)I"⟩
def dkwX3_numbers_2 : List UInt8 := [4, 172, 5, 172, 6, 172, 8, 172, 2, 172]
abbrev dktX3_numbers_2 : List UInt8 := dkwX3_numbers_2 ++ []
def dkwX3_numbers_1 : List UInt8 := [171, 0, 0, 0, 0, 0, 83, 0, 0, 0, 8, 0, 0, 10, 185, 0, 0, 0, 79, 0, 1, 189, 165, 0, 0, 0, 75, 0, 5, 165, 196, 0, 0, 0, 79, 0, 9, 85, 133, 0, 0, 0, 75, 0, 54, 5, 45, 0, 0, 0, 77, 1, 9, 39, 69, 0, 0, 0, 81, 1, 49, 133, 133, 0, 0, 0, 77, 1, 114, 164, 232, 0, 0, 0, 79]
abbrev dktX3_numbers_1 : List UInt8 := dkwX3_numbers_1 ++ dktX3_numbers_2
def dkwX3_numbers_0 : List UInt8 := [26]
abbrev dktX3_numbers_0 : List UInt8 := dkwX3_numbers_0 ++ dktX3_numbers_1
theorem dksX3_numbers_0 : cX3_numbers.data.toList.drop 0 = dktX3_numbers_0 := by decide +kernel
theorem dksX3_numbers_1 : cX3_numbers.data.toList.drop 1 = dktX3_numbers_1 := dk_seg dksX3_numbers_0 1 rfl rfl
theorem dksX3_numbers_2 : cX3_numbers.data.toList.drop 76 = dktX3_numbers_2 := dk_seg dksX3_numbers_1 75 rfl rfl
theorem dX3_numbers_0 : decode cX3_numbers 0 = .ok (.iload_n 0, 1) := dk_26 (dk_at dksX3_numbers_0 0 rfl rfl)
theorem dX3_numbers_1 : decode cX3_numbers 1 = .ok (.lookupswitch 83 #[(2745, 79), (114085, 75), (370116, 79), (611717, 75), (3540269, 77), (17377093, 81), (20022661, 77), (24290536, 79)], 75) := by decide +kernel
theorem dX3_numbers_76 : decode cX3_numbers 76 = .ok (.iconst 1, 1) := dk_4 (dk_at dksX3_numbers_2 0 rfl rfl)
theorem dX3_numbers_77 : decode cX3_numbers 77 = .ok (.ireturn, 1) := dk_172 (dk_at dksX3_numbers_2 1 rfl rfl)
theorem dX3_numbers_78 : decode cX3_numbers 78 = .ok (.iconst 2, 1) := dk_5 (dk_at dksX3_numbers_2 2 rfl rfl)
theorem dX3_numbers_79 : decode cX3_numbers 79 = .ok (.ireturn, 1) := dk_172 (dk_at dksX3_numbers_2 3 rfl rfl)
theorem dX3_numbers_80 : decode cX3_numbers 80 = .ok (.iconst 3, 1) := dk_6 (dk_at dksX3_numbers_2 4 rfl rfl)
theorem dX3_numbers_81 : decode cX3_numbers 81 = .ok (.ireturn, 1) := dk_172 (dk_at dksX3_numbers_2 5 rfl rfl)
theorem dX3_numbers_82 : decode cX3_numbers 82 = .ok (.iconst 5, 1) := dk_8 (dk_at dksX3_numbers_2 6 rfl rfl)
theorem dX3_numbers_83 : decode cX3_numbers 83 = .ok (.ireturn, 1) := dk_172 (dk_at dksX3_numbers_2 7 rfl rfl)
theorem dX3_numbers_84 : decode cX3_numbers 84 = .ok (.iconst (-1), 1) := dk_2 (dk_at dksX3_numbers_2 8 rfl rfl)
theorem dX3_numbers_85 : decode cX3_numbers 85 = .ok (.ireturn, 1) := dk_172 (dk_at dksX3_numbers_2 9 rfl rfl)
abbrev cX3_readsNumbers : ByteArray := prog_21_method_54_code
def yX3_readsNumbers : MethodName := ⟨RX3, "readsNumbers", "(I)Z"⟩
def dkwX3_readsNumbers_2 : List UInt8 := [42, 180, 0, 22, 42, 180, 0, 144, 52, 16, 59, 160, 0, 7, 4, 167, 0, 4, 3, 172]
abbrev dktX3_readsNumbers_2 : List UInt8 := dkwX3_readsNumbers_2 ++ []
def dkwX3_readsNumbers_1 : List UInt8 := [28, 42, 182, 0, 164, 79, 132, 2, 1, 167, 255, 225, 42, 182, 0, 157, 42, 180, 0, 150, 6, 160, 0, 21]
abbrev dktX3_readsNumbers_1 : List UInt8 := dkwX3_readsNumbers_1 ++ dktX3_readsNumbers_2
def dkwX3_readsNumbers_0 : List UInt8 := [3, 61, 28, 27, 162, 0, 32, 42, 182, 0, 157, 42, 182, 0, 160, 154, 0, 5, 3, 172, 42, 180, 0, 29]
abbrev dktX3_readsNumbers_0 : List UInt8 := dkwX3_readsNumbers_0 ++ dktX3_readsNumbers_1
theorem dksX3_readsNumbers_0 : cX3_readsNumbers.data.toList.drop 0 = dktX3_readsNumbers_0 := by decide +kernel
theorem dksX3_readsNumbers_1 : cX3_readsNumbers.data.toList.drop 24 = dktX3_readsNumbers_1 := dk_seg dksX3_readsNumbers_0 24 rfl rfl
theorem dksX3_readsNumbers_2 : cX3_readsNumbers.data.toList.drop 48 = dktX3_readsNumbers_2 := dk_seg dksX3_readsNumbers_1 24 rfl rfl
theorem dX3_readsNumbers_0 : decode cX3_readsNumbers 0 = .ok (.iconst 0, 1) := dk_3 (dk_at dksX3_readsNumbers_0 0 rfl rfl)
theorem dX3_readsNumbers_1 : decode cX3_readsNumbers 1 = .ok (.istore_n 2, 1) := dk_61 (dk_at dksX3_readsNumbers_0 1 rfl rfl)
theorem dX3_readsNumbers_2 : decode cX3_readsNumbers 2 = .ok (.iload_n 2, 1) := dk_28 (dk_at dksX3_readsNumbers_0 2 rfl rfl)
theorem dX3_readsNumbers_3 : decode cX3_readsNumbers 3 = .ok (.iload_n 1, 1) := dk_27 (dk_at dksX3_readsNumbers_0 3 rfl rfl)
theorem dX3_readsNumbers_4 : decode cX3_readsNumbers 4 = .ok (.if_icmp .ge 32, 3) := dk_162 0 32 (dk_at dksX3_readsNumbers_0 4 rfl rfl)
theorem dX3_readsNumbers_7 : decode cX3_readsNumbers 7 = .ok (.aload_n 0, 1) := dk_42 (dk_at dksX3_readsNumbers_0 7 rfl rfl)
theorem dX3_readsNumbers_8 : decode cX3_readsNumbers 8 = .ok (.invokevirtual 157, 3) := dk_182 0 157 (dk_at dksX3_readsNumbers_0 8 rfl rfl)
theorem dX3_readsNumbers_11 : decode cX3_readsNumbers 11 = .ok (.aload_n 0, 1) := dk_42 (dk_at dksX3_readsNumbers_0 11 rfl rfl)
theorem dX3_readsNumbers_12 : decode cX3_readsNumbers 12 = .ok (.invokevirtual 160, 3) := dk_182 0 160 (dk_at dksX3_readsNumbers_0 12 rfl rfl)
theorem dX3_readsNumbers_15 : decode cX3_readsNumbers 15 = .ok (.ifCond .ne 5, 3) := dk_154 0 5 (dk_at dksX3_readsNumbers_0 15 rfl rfl)
theorem dX3_readsNumbers_18 : decode cX3_readsNumbers 18 = .ok (.iconst 0, 1) := dk_3 (dk_at dksX3_readsNumbers_0 18 rfl rfl)
theorem dX3_readsNumbers_19 : decode cX3_readsNumbers 19 = .ok (.ireturn, 1) := dk_172 (dk_at dksX3_readsNumbers_0 19 rfl rfl)
theorem dX3_readsNumbers_20 : decode cX3_readsNumbers 20 = .ok (.aload_n 0, 1) := dk_42 (dk_at dksX3_readsNumbers_0 20 rfl rfl)
theorem dX3_readsNumbers_21 : decode cX3_readsNumbers 21 = .ok (.getfield 29, 3) := dk_180 0 29 (dk_at dksX3_readsNumbers_0 21 rfl rfl)
theorem dX3_readsNumbers_24 : decode cX3_readsNumbers 24 = .ok (.iload_n 2, 1) := dk_28 (dk_at dksX3_readsNumbers_1 0 rfl rfl)
theorem dX3_readsNumbers_25 : decode cX3_readsNumbers 25 = .ok (.aload_n 0, 1) := dk_42 (dk_at dksX3_readsNumbers_1 1 rfl rfl)
theorem dX3_readsNumbers_26 : decode cX3_readsNumbers 26 = .ok (.invokevirtual 164, 3) := dk_182 0 164 (dk_at dksX3_readsNumbers_1 2 rfl rfl)
theorem dX3_readsNumbers_29 : decode cX3_readsNumbers 29 = .ok (.iastore, 1) := dk_79 (dk_at dksX3_readsNumbers_1 5 rfl rfl)
theorem dX3_readsNumbers_30 : decode cX3_readsNumbers 30 = .ok (.iinc 2 1, 3) := dk_132 2 1 (dk_at dksX3_readsNumbers_1 6 rfl rfl)
theorem dX3_readsNumbers_33 : decode cX3_readsNumbers 33 = .ok (.goto (-31), 3) := dk_167 255 225 (dk_at dksX3_readsNumbers_1 9 rfl rfl)
theorem dX3_readsNumbers_36 : decode cX3_readsNumbers 36 = .ok (.aload_n 0, 1) := dk_42 (dk_at dksX3_readsNumbers_1 12 rfl rfl)
theorem dX3_readsNumbers_37 : decode cX3_readsNumbers 37 = .ok (.invokevirtual 157, 3) := dk_182 0 157 (dk_at dksX3_readsNumbers_1 13 rfl rfl)
theorem dX3_readsNumbers_40 : decode cX3_readsNumbers 40 = .ok (.aload_n 0, 1) := dk_42 (dk_at dksX3_readsNumbers_1 16 rfl rfl)
theorem dX3_readsNumbers_41 : decode cX3_readsNumbers 41 = .ok (.getfield 150, 3) := dk_180 0 150 (dk_at dksX3_readsNumbers_1 17 rfl rfl)
theorem dX3_readsNumbers_44 : decode cX3_readsNumbers 44 = .ok (.iconst 3, 1) := dk_6 (dk_at dksX3_readsNumbers_1 20 rfl rfl)
theorem dX3_readsNumbers_45 : decode cX3_readsNumbers 45 = .ok (.if_icmp .ne 21, 3) := dk_160 0 21 (dk_at dksX3_readsNumbers_1 21 rfl rfl)
theorem dX3_readsNumbers_48 : decode cX3_readsNumbers 48 = .ok (.aload_n 0, 1) := dk_42 (dk_at dksX3_readsNumbers_2 0 rfl rfl)
theorem dX3_readsNumbers_49 : decode cX3_readsNumbers 49 = .ok (.getfield 22, 3) := dk_180 0 22 (dk_at dksX3_readsNumbers_2 1 rfl rfl)
theorem dX3_readsNumbers_52 : decode cX3_readsNumbers 52 = .ok (.aload_n 0, 1) := dk_42 (dk_at dksX3_readsNumbers_2 4 rfl rfl)
theorem dX3_readsNumbers_53 : decode cX3_readsNumbers 53 = .ok (.getfield 144, 3) := dk_180 0 144 (dk_at dksX3_readsNumbers_2 5 rfl rfl)
theorem dX3_readsNumbers_56 : decode cX3_readsNumbers 56 = .ok (.caload, 1) := dk_52 (dk_at dksX3_readsNumbers_2 8 rfl rfl)
theorem dX3_readsNumbers_57 : decode cX3_readsNumbers 57 = .ok (.bipush 59, 2) := dk_16 59 (dk_at dksX3_readsNumbers_2 9 rfl rfl)
theorem dX3_readsNumbers_59 : decode cX3_readsNumbers 59 = .ok (.if_icmp .ne 7, 3) := dk_160 0 7 (dk_at dksX3_readsNumbers_2 11 rfl rfl)
theorem dX3_readsNumbers_62 : decode cX3_readsNumbers 62 = .ok (.iconst 1, 1) := dk_4 (dk_at dksX3_readsNumbers_2 14 rfl rfl)
theorem dX3_readsNumbers_63 : decode cX3_readsNumbers 63 = .ok (.goto 4, 3) := dk_167 0 4 (dk_at dksX3_readsNumbers_2 15 rfl rfl)
theorem dX3_readsNumbers_66 : decode cX3_readsNumbers 66 = .ok (.iconst 0, 1) := dk_3 (dk_at dksX3_readsNumbers_2 18 rfl rfl)
theorem dX3_readsNumbers_67 : decode cX3_readsNumbers 67 = .ok (.ireturn, 1) := dk_172 (dk_at dksX3_readsNumbers_2 19 rfl rfl)
abbrev cX3_isNumber : ByteArray := prog_21_method_50_code
def yX3_isNumber : MethodName := ⟨RX3, "isNumber", "()Z"⟩
def dkwX3_isNumber_2 : List UInt8 := [159, 0, 7, 4, 167, 0, 4, 3, 172]
abbrev dktX3_isNumber_2 : List UInt8 := dkwX3_isNumber_2 ++ []
def dkwX3_isNumber_1 : List UInt8 := [180, 0, 141, 42, 180, 0, 144, 100, 4, 159, 0, 17, 42, 180, 0, 22, 42, 180, 0, 144, 52, 16, 48]
abbrev dktX3_isNumber_1 : List UInt8 := dkwX3_isNumber_1 ++ dktX3_isNumber_2
def dkwX3_isNumber_0 : List UInt8 := [42, 180, 0, 150, 5, 160, 0, 48, 42, 180, 0, 141, 42, 180, 0, 144, 100, 16, 6, 163, 0, 34, 42]
abbrev dktX3_isNumber_0 : List UInt8 := dkwX3_isNumber_0 ++ dktX3_isNumber_1
theorem dksX3_isNumber_0 : cX3_isNumber.data.toList.drop 0 = dktX3_isNumber_0 := by decide +kernel
theorem dksX3_isNumber_1 : cX3_isNumber.data.toList.drop 23 = dktX3_isNumber_1 := dk_seg dksX3_isNumber_0 23 rfl rfl
theorem dksX3_isNumber_2 : cX3_isNumber.data.toList.drop 46 = dktX3_isNumber_2 := dk_seg dksX3_isNumber_1 23 rfl rfl
theorem dX3_isNumber_0 : decode cX3_isNumber 0 = .ok (.aload_n 0, 1) := dk_42 (dk_at dksX3_isNumber_0 0 rfl rfl)
theorem dX3_isNumber_1 : decode cX3_isNumber 1 = .ok (.getfield 150, 3) := dk_180 0 150 (dk_at dksX3_isNumber_0 1 rfl rfl)
theorem dX3_isNumber_4 : decode cX3_isNumber 4 = .ok (.iconst 2, 1) := dk_5 (dk_at dksX3_isNumber_0 4 rfl rfl)
theorem dX3_isNumber_5 : decode cX3_isNumber 5 = .ok (.if_icmp .ne 48, 3) := dk_160 0 48 (dk_at dksX3_isNumber_0 5 rfl rfl)
theorem dX3_isNumber_8 : decode cX3_isNumber 8 = .ok (.aload_n 0, 1) := dk_42 (dk_at dksX3_isNumber_0 8 rfl rfl)
theorem dX3_isNumber_9 : decode cX3_isNumber 9 = .ok (.getfield 141, 3) := dk_180 0 141 (dk_at dksX3_isNumber_0 9 rfl rfl)
theorem dX3_isNumber_12 : decode cX3_isNumber 12 = .ok (.aload_n 0, 1) := dk_42 (dk_at dksX3_isNumber_0 12 rfl rfl)
theorem dX3_isNumber_13 : decode cX3_isNumber 13 = .ok (.getfield 144, 3) := dk_180 0 144 (dk_at dksX3_isNumber_0 13 rfl rfl)
theorem dX3_isNumber_16 : decode cX3_isNumber 16 = .ok (.isub, 1) := dk_100 (dk_at dksX3_isNumber_0 16 rfl rfl)
theorem dX3_isNumber_17 : decode cX3_isNumber 17 = .ok (.bipush 6, 2) := dk_16 6 (dk_at dksX3_isNumber_0 17 rfl rfl)
theorem dX3_isNumber_19 : decode cX3_isNumber 19 = .ok (.if_icmp .gt 34, 3) := dk_163 0 34 (dk_at dksX3_isNumber_0 19 rfl rfl)
theorem dX3_isNumber_22 : decode cX3_isNumber 22 = .ok (.aload_n 0, 1) := dk_42 (dk_at dksX3_isNumber_0 22 rfl rfl)
theorem dX3_isNumber_23 : decode cX3_isNumber 23 = .ok (.getfield 141, 3) := dk_180 0 141 (dk_at dksX3_isNumber_1 0 rfl rfl)
theorem dX3_isNumber_26 : decode cX3_isNumber 26 = .ok (.aload_n 0, 1) := dk_42 (dk_at dksX3_isNumber_1 3 rfl rfl)
theorem dX3_isNumber_27 : decode cX3_isNumber 27 = .ok (.getfield 144, 3) := dk_180 0 144 (dk_at dksX3_isNumber_1 4 rfl rfl)
theorem dX3_isNumber_30 : decode cX3_isNumber 30 = .ok (.isub, 1) := dk_100 (dk_at dksX3_isNumber_1 7 rfl rfl)
theorem dX3_isNumber_31 : decode cX3_isNumber 31 = .ok (.iconst 1, 1) := dk_4 (dk_at dksX3_isNumber_1 8 rfl rfl)
theorem dX3_isNumber_32 : decode cX3_isNumber 32 = .ok (.if_icmp .eq 17, 3) := dk_159 0 17 (dk_at dksX3_isNumber_1 9 rfl rfl)
theorem dX3_isNumber_35 : decode cX3_isNumber 35 = .ok (.aload_n 0, 1) := dk_42 (dk_at dksX3_isNumber_1 12 rfl rfl)
theorem dX3_isNumber_36 : decode cX3_isNumber 36 = .ok (.getfield 22, 3) := dk_180 0 22 (dk_at dksX3_isNumber_1 13 rfl rfl)
theorem dX3_isNumber_39 : decode cX3_isNumber 39 = .ok (.aload_n 0, 1) := dk_42 (dk_at dksX3_isNumber_1 16 rfl rfl)
theorem dX3_isNumber_40 : decode cX3_isNumber 40 = .ok (.getfield 144, 3) := dk_180 0 144 (dk_at dksX3_isNumber_1 17 rfl rfl)
theorem dX3_isNumber_43 : decode cX3_isNumber 43 = .ok (.caload, 1) := dk_52 (dk_at dksX3_isNumber_1 20 rfl rfl)
theorem dX3_isNumber_44 : decode cX3_isNumber 44 = .ok (.bipush 48, 2) := dk_16 48 (dk_at dksX3_isNumber_1 21 rfl rfl)
theorem dX3_isNumber_46 : decode cX3_isNumber 46 = .ok (.if_icmp .eq 7, 3) := dk_159 0 7 (dk_at dksX3_isNumber_2 0 rfl rfl)
theorem dX3_isNumber_49 : decode cX3_isNumber 49 = .ok (.iconst 1, 1) := dk_4 (dk_at dksX3_isNumber_2 3 rfl rfl)
theorem dX3_isNumber_50 : decode cX3_isNumber 50 = .ok (.goto 4, 3) := dk_167 0 4 (dk_at dksX3_isNumber_2 4 rfl rfl)
theorem dX3_isNumber_53 : decode cX3_isNumber 53 = .ok (.iconst 0, 1) := dk_3 (dk_at dksX3_isNumber_2 7 rfl rfl)
theorem dX3_isNumber_54 : decode cX3_isNumber 54 = .ok (.ireturn, 1) := dk_172 (dk_at dksX3_isNumber_2 8 rfl rfl)
abbrev cX3_value : ByteArray := prog_21_method_51_code
def yX3_value : MethodName := ⟨RX3, "value", "()I"⟩
def dkwX3_value_1 : List UInt8 := [52, 96, 16, 48, 100, 60, 132, 2, 1, 167, 255, 230, 27, 172]
abbrev dktX3_value_1 : List UInt8 := dkwX3_value_1 ++ []
def dkwX3_value_0 : List UInt8 := [3, 60, 42, 180, 0, 144, 61, 28, 42, 180, 0, 141, 162, 0, 24, 16, 10, 27, 104, 42, 180, 0, 22, 28]
abbrev dktX3_value_0 : List UInt8 := dkwX3_value_0 ++ dktX3_value_1
theorem dksX3_value_0 : cX3_value.data.toList.drop 0 = dktX3_value_0 := by decide +kernel
theorem dksX3_value_1 : cX3_value.data.toList.drop 24 = dktX3_value_1 := dk_seg dksX3_value_0 24 rfl rfl
theorem dX3_value_0 : decode cX3_value 0 = .ok (.iconst 0, 1) := dk_3 (dk_at dksX3_value_0 0 rfl rfl)
theorem dX3_value_1 : decode cX3_value 1 = .ok (.istore_n 1, 1) := dk_60 (dk_at dksX3_value_0 1 rfl rfl)
theorem dX3_value_2 : decode cX3_value 2 = .ok (.aload_n 0, 1) := dk_42 (dk_at dksX3_value_0 2 rfl rfl)
theorem dX3_value_3 : decode cX3_value 3 = .ok (.getfield 144, 3) := dk_180 0 144 (dk_at dksX3_value_0 3 rfl rfl)
theorem dX3_value_6 : decode cX3_value 6 = .ok (.istore_n 2, 1) := dk_61 (dk_at dksX3_value_0 6 rfl rfl)
theorem dX3_value_7 : decode cX3_value 7 = .ok (.iload_n 2, 1) := dk_28 (dk_at dksX3_value_0 7 rfl rfl)
theorem dX3_value_8 : decode cX3_value 8 = .ok (.aload_n 0, 1) := dk_42 (dk_at dksX3_value_0 8 rfl rfl)
theorem dX3_value_9 : decode cX3_value 9 = .ok (.getfield 141, 3) := dk_180 0 141 (dk_at dksX3_value_0 9 rfl rfl)
theorem dX3_value_12 : decode cX3_value 12 = .ok (.if_icmp .ge 24, 3) := dk_162 0 24 (dk_at dksX3_value_0 12 rfl rfl)
theorem dX3_value_15 : decode cX3_value 15 = .ok (.bipush 10, 2) := dk_16 10 (dk_at dksX3_value_0 15 rfl rfl)
theorem dX3_value_17 : decode cX3_value 17 = .ok (.iload_n 1, 1) := dk_27 (dk_at dksX3_value_0 17 rfl rfl)
theorem dX3_value_18 : decode cX3_value 18 = .ok (.imul, 1) := dk_104 (dk_at dksX3_value_0 18 rfl rfl)
theorem dX3_value_19 : decode cX3_value 19 = .ok (.aload_n 0, 1) := dk_42 (dk_at dksX3_value_0 19 rfl rfl)
theorem dX3_value_20 : decode cX3_value 20 = .ok (.getfield 22, 3) := dk_180 0 22 (dk_at dksX3_value_0 20 rfl rfl)
theorem dX3_value_23 : decode cX3_value 23 = .ok (.iload_n 2, 1) := dk_28 (dk_at dksX3_value_0 23 rfl rfl)
theorem dX3_value_24 : decode cX3_value 24 = .ok (.caload, 1) := dk_52 (dk_at dksX3_value_1 0 rfl rfl)
theorem dX3_value_25 : decode cX3_value 25 = .ok (.iadd, 1) := dk_96 (dk_at dksX3_value_1 1 rfl rfl)
theorem dX3_value_26 : decode cX3_value 26 = .ok (.bipush 48, 2) := dk_16 48 (dk_at dksX3_value_1 2 rfl rfl)
theorem dX3_value_28 : decode cX3_value 28 = .ok (.isub, 1) := dk_100 (dk_at dksX3_value_1 4 rfl rfl)
theorem dX3_value_29 : decode cX3_value 29 = .ok (.istore_n 1, 1) := dk_60 (dk_at dksX3_value_1 5 rfl rfl)
theorem dX3_value_30 : decode cX3_value 30 = .ok (.iinc 2 1, 3) := dk_132 2 1 (dk_at dksX3_value_1 6 rfl rfl)
theorem dX3_value_33 : decode cX3_value 33 = .ok (.goto (-26), 3) := dk_167 255 230 (dk_at dksX3_value_1 9 rfl rfl)
theorem dX3_value_36 : decode cX3_value 36 = .ok (.iload_n 1, 1) := dk_27 (dk_at dksX3_value_1 12 rfl rfl)
theorem dX3_value_37 : decode cX3_value 37 = .ok (.ireturn, 1) := dk_172 (dk_at dksX3_value_1 13 rfl rfl)
abbrev cX3_fails : ByteArray := prog_21_method_53_code
def yX3_fails : MethodName := ⟨RX3, "fails", "(IIII)I"⟩
def dkwX3_fails_3 : List UInt8 := [79, 42, 180, 0, 26, 7, 21, 4, 79, 17, 252, 24, 28, 100, 172]
abbrev dktX3_fails_3 : List UInt8 := dkwX3_fails_3 ++ []
def dkwX3_fails_2 : List UInt8 := [28, 79, 42, 180, 0, 26, 5, 27, 4, 160, 0, 7, 4, 167, 0, 4, 5, 79, 42, 180, 0, 26, 6, 29]
abbrev dktX3_fails_2 : List UInt8 := dkwX3_fails_2 ++ dktX3_fails_3
def dkwX3_fails_1 : List UInt8 := [79, 132, 5, 1, 167, 255, 231, 42, 4, 181, 0, 153, 42, 180, 0, 26, 3, 27, 79, 42, 180, 0, 26, 4]
abbrev dktX3_fails_1 : List UInt8 := dkwX3_fails_1 ++ dktX3_fails_2
def dkwX3_fails_0 : List UInt8 := [3, 54, 5, 21, 5, 17, 1, 28, 162, 0, 23, 42, 180, 0, 7, 21, 5, 42, 180, 0, 16, 21, 5, 46]
abbrev dktX3_fails_0 : List UInt8 := dkwX3_fails_0 ++ dktX3_fails_1
theorem dksX3_fails_0 : cX3_fails.data.toList.drop 0 = dktX3_fails_0 := by decide +kernel
theorem dksX3_fails_1 : cX3_fails.data.toList.drop 24 = dktX3_fails_1 := dk_seg dksX3_fails_0 24 rfl rfl
theorem dksX3_fails_2 : cX3_fails.data.toList.drop 48 = dktX3_fails_2 := dk_seg dksX3_fails_1 24 rfl rfl
theorem dksX3_fails_3 : cX3_fails.data.toList.drop 72 = dktX3_fails_3 := dk_seg dksX3_fails_2 24 rfl rfl
theorem dX3_fails_0 : decode cX3_fails 0 = .ok (.iconst 0, 1) := dk_3 (dk_at dksX3_fails_0 0 rfl rfl)
theorem dX3_fails_1 : decode cX3_fails 1 = .ok (.istore 5, 2) := dk_54 5 (dk_at dksX3_fails_0 1 rfl rfl)
theorem dX3_fails_3 : decode cX3_fails 3 = .ok (.iload 5, 2) := dk_21 5 (dk_at dksX3_fails_0 3 rfl rfl)
theorem dX3_fails_5 : decode cX3_fails 5 = .ok (.sipush 284, 3) := dk_17 1 28 (dk_at dksX3_fails_0 5 rfl rfl)
theorem dX3_fails_8 : decode cX3_fails 8 = .ok (.if_icmp .ge 23, 3) := dk_162 0 23 (dk_at dksX3_fails_0 8 rfl rfl)
theorem dX3_fails_11 : decode cX3_fails 11 = .ok (.aload_n 0, 1) := dk_42 (dk_at dksX3_fails_0 11 rfl rfl)
theorem dX3_fails_12 : decode cX3_fails 12 = .ok (.getfield 7, 3) := dk_180 0 7 (dk_at dksX3_fails_0 12 rfl rfl)
theorem dX3_fails_15 : decode cX3_fails 15 = .ok (.iload 5, 2) := dk_21 5 (dk_at dksX3_fails_0 15 rfl rfl)
theorem dX3_fails_17 : decode cX3_fails 17 = .ok (.aload_n 0, 1) := dk_42 (dk_at dksX3_fails_0 17 rfl rfl)
theorem dX3_fails_18 : decode cX3_fails 18 = .ok (.getfield 16, 3) := dk_180 0 16 (dk_at dksX3_fails_0 18 rfl rfl)
theorem dX3_fails_21 : decode cX3_fails 21 = .ok (.iload 5, 2) := dk_21 5 (dk_at dksX3_fails_0 21 rfl rfl)
theorem dX3_fails_23 : decode cX3_fails 23 = .ok (.iaload, 1) := dk_46 (dk_at dksX3_fails_0 23 rfl rfl)
theorem dX3_fails_24 : decode cX3_fails 24 = .ok (.iastore, 1) := dk_79 (dk_at dksX3_fails_1 0 rfl rfl)
theorem dX3_fails_25 : decode cX3_fails 25 = .ok (.iinc 5 1, 3) := dk_132 5 1 (dk_at dksX3_fails_1 1 rfl rfl)
theorem dX3_fails_28 : decode cX3_fails 28 = .ok (.goto (-25), 3) := dk_167 255 231 (dk_at dksX3_fails_1 4 rfl rfl)
theorem dX3_fails_31 : decode cX3_fails 31 = .ok (.aload_n 0, 1) := dk_42 (dk_at dksX3_fails_1 7 rfl rfl)
theorem dX3_fails_32 : decode cX3_fails 32 = .ok (.iconst 1, 1) := dk_4 (dk_at dksX3_fails_1 8 rfl rfl)
theorem dX3_fails_33 : decode cX3_fails 33 = .ok (.putfield 153, 3) := dk_181 0 153 (dk_at dksX3_fails_1 9 rfl rfl)
theorem dX3_fails_36 : decode cX3_fails 36 = .ok (.aload_n 0, 1) := dk_42 (dk_at dksX3_fails_1 12 rfl rfl)
theorem dX3_fails_37 : decode cX3_fails 37 = .ok (.getfield 26, 3) := dk_180 0 26 (dk_at dksX3_fails_1 13 rfl rfl)
theorem dX3_fails_40 : decode cX3_fails 40 = .ok (.iconst 0, 1) := dk_3 (dk_at dksX3_fails_1 16 rfl rfl)
theorem dX3_fails_41 : decode cX3_fails 41 = .ok (.iload_n 1, 1) := dk_27 (dk_at dksX3_fails_1 17 rfl rfl)
theorem dX3_fails_42 : decode cX3_fails 42 = .ok (.iastore, 1) := dk_79 (dk_at dksX3_fails_1 18 rfl rfl)
theorem dX3_fails_43 : decode cX3_fails 43 = .ok (.aload_n 0, 1) := dk_42 (dk_at dksX3_fails_1 19 rfl rfl)
theorem dX3_fails_44 : decode cX3_fails 44 = .ok (.getfield 26, 3) := dk_180 0 26 (dk_at dksX3_fails_1 20 rfl rfl)
theorem dX3_fails_47 : decode cX3_fails 47 = .ok (.iconst 1, 1) := dk_4 (dk_at dksX3_fails_1 23 rfl rfl)
theorem dX3_fails_48 : decode cX3_fails 48 = .ok (.iload_n 2, 1) := dk_28 (dk_at dksX3_fails_2 0 rfl rfl)
theorem dX3_fails_49 : decode cX3_fails 49 = .ok (.iastore, 1) := dk_79 (dk_at dksX3_fails_2 1 rfl rfl)
theorem dX3_fails_50 : decode cX3_fails 50 = .ok (.aload_n 0, 1) := dk_42 (dk_at dksX3_fails_2 2 rfl rfl)
theorem dX3_fails_51 : decode cX3_fails 51 = .ok (.getfield 26, 3) := dk_180 0 26 (dk_at dksX3_fails_2 3 rfl rfl)
theorem dX3_fails_54 : decode cX3_fails 54 = .ok (.iconst 2, 1) := dk_5 (dk_at dksX3_fails_2 6 rfl rfl)
theorem dX3_fails_55 : decode cX3_fails 55 = .ok (.iload_n 1, 1) := dk_27 (dk_at dksX3_fails_2 7 rfl rfl)
theorem dX3_fails_56 : decode cX3_fails 56 = .ok (.iconst 1, 1) := dk_4 (dk_at dksX3_fails_2 8 rfl rfl)
theorem dX3_fails_57 : decode cX3_fails 57 = .ok (.if_icmp .ne 7, 3) := dk_160 0 7 (dk_at dksX3_fails_2 9 rfl rfl)
theorem dX3_fails_60 : decode cX3_fails 60 = .ok (.iconst 1, 1) := dk_4 (dk_at dksX3_fails_2 12 rfl rfl)
theorem dX3_fails_61 : decode cX3_fails 61 = .ok (.goto 4, 3) := dk_167 0 4 (dk_at dksX3_fails_2 13 rfl rfl)
theorem dX3_fails_64 : decode cX3_fails 64 = .ok (.iconst 2, 1) := dk_5 (dk_at dksX3_fails_2 16 rfl rfl)
theorem dX3_fails_65 : decode cX3_fails 65 = .ok (.iastore, 1) := dk_79 (dk_at dksX3_fails_2 17 rfl rfl)
theorem dX3_fails_66 : decode cX3_fails 66 = .ok (.aload_n 0, 1) := dk_42 (dk_at dksX3_fails_2 18 rfl rfl)
theorem dX3_fails_67 : decode cX3_fails 67 = .ok (.getfield 26, 3) := dk_180 0 26 (dk_at dksX3_fails_2 19 rfl rfl)
theorem dX3_fails_70 : decode cX3_fails 70 = .ok (.iconst 3, 1) := dk_6 (dk_at dksX3_fails_2 22 rfl rfl)
theorem dX3_fails_71 : decode cX3_fails 71 = .ok (.iload_n 3, 1) := dk_29 (dk_at dksX3_fails_2 23 rfl rfl)
theorem dX3_fails_72 : decode cX3_fails 72 = .ok (.iastore, 1) := dk_79 (dk_at dksX3_fails_3 0 rfl rfl)
theorem dX3_fails_73 : decode cX3_fails 73 = .ok (.aload_n 0, 1) := dk_42 (dk_at dksX3_fails_3 1 rfl rfl)
theorem dX3_fails_74 : decode cX3_fails 74 = .ok (.getfield 26, 3) := dk_180 0 26 (dk_at dksX3_fails_3 2 rfl rfl)
theorem dX3_fails_77 : decode cX3_fails 77 = .ok (.iconst 4, 1) := dk_7 (dk_at dksX3_fails_3 5 rfl rfl)
theorem dX3_fails_78 : decode cX3_fails 78 = .ok (.iload 4, 2) := dk_21 4 (dk_at dksX3_fails_3 6 rfl rfl)
theorem dX3_fails_80 : decode cX3_fails 80 = .ok (.iastore, 1) := dk_79 (dk_at dksX3_fails_3 8 rfl rfl)
theorem dX3_fails_81 : decode cX3_fails 81 = .ok (.sipush (-1000), 3) := dk_17 252 24 (dk_at dksX3_fails_3 9 rfl rfl)
theorem dX3_fails_84 : decode cX3_fails 84 = .ok (.iload_n 2, 1) := dk_28 (dk_at dksX3_fails_3 12 rfl rfl)
theorem dX3_fails_85 : decode cX3_fails 85 = .ok (.isub, 1) := dk_100 (dk_at dksX3_fails_3 13 rfl rfl)
theorem dX3_fails_86 : decode cX3_fails 86 = .ok (.ireturn, 1) := dk_172 (dk_at dksX3_fails_3 14 rfl rfl)
abbrev cX3_does : ByteArray := prog_21_method_52_code
def yX3_does : MethodName := ⟨RX3, "does", "(I)I"⟩
def dkwX3_does_8 : List UInt8 := [180, 0, 29, 3, 46, 42, 180, 0, 29, 4, 46, 42, 180, 0, 29, 5, 46, 182, 0, 131, 172]
abbrev dktX3_does_8 : List UInt8 := dkwX3_does_8 ++ []
def dkwX3_does_7 : List UInt8 := [3, 182, 0, 105, 172, 42, 42, 180, 0, 29, 3, 46, 42, 180, 0, 29, 4, 46, 182, 0, 112, 172, 42, 42]
abbrev dktX3_does_7 : List UInt8 := dkwX3_does_7 ++ dktX3_does_8
def dkwX3_does_6 : List UInt8 := [46, 182, 0, 116, 172, 42, 42, 180, 0, 29, 3, 46, 42, 180, 0, 29, 4, 46, 42, 180, 0, 29, 5, 46]
abbrev dktX3_does_6 : List UInt8 := dkwX3_does_6 ++ dktX3_does_7
def dkwX3_does_5 : List UInt8 := [46, 42, 180, 0, 29, 4, 46, 42, 180, 0, 29, 5, 46, 42, 180, 0, 29, 6, 46, 42, 180, 0, 29, 7]
abbrev dktX3_does_5 : List UInt8 := dkwX3_does_5 ++ dktX3_does_6
def dkwX3_does_4 : List UInt8 := [46, 3, 6, 182, 0, 85, 172, 42, 42, 180, 0, 29, 3, 46, 182, 0, 90, 172, 42, 42, 180, 0, 29, 3]
abbrev dktX3_does_4 : List UInt8 := dkwX3_does_4 ++ dktX3_does_5
def dkwX3_does_3 : List UInt8 := [42, 180, 0, 29, 3, 46, 42, 180, 0, 29, 4, 46, 182, 0, 82, 172, 42, 16, 11, 42, 180, 0, 29, 3]
abbrev dktX3_does_3 : List UInt8 := dkwX3_does_3 ++ dktX3_does_4
def dkwX3_does_2 : List UInt8 := [42, 42, 180, 0, 29, 3, 46, 42, 180, 0, 29, 4, 46, 42, 180, 0, 29, 5, 46, 182, 0, 75, 172, 42]
abbrev dktX3_does_2 : List UInt8 := dkwX3_does_2 ++ dktX3_does_3
def dkwX3_does_1 : List UInt8 := [171, 0, 0, 0, 0, 0, 209, 0, 0, 0, 7, 0, 1, 189, 165, 0, 0, 0, 122, 0, 5, 165, 196, 0, 0, 0, 67, 0, 9, 85, 133, 0, 0, 0, 107, 0, 54, 5, 45, 0, 0, 0, 192, 1, 9, 39, 69, 0, 0, 0, 133, 1, 49, 133, 133, 0, 0, 0, 90, 1, 114, 164, 232, 0, 0, 0, 168]
abbrev dktX3_does_1 : List UInt8 := dkwX3_does_1 ++ dktX3_does_2
def dkwX3_does_0 : List UInt8 := [27]
abbrev dktX3_does_0 : List UInt8 := dkwX3_does_0 ++ dktX3_does_1
theorem dksX3_does_0 : cX3_does.data.toList.drop 0 = dktX3_does_0 := by decide +kernel
theorem dksX3_does_1 : cX3_does.data.toList.drop 1 = dktX3_does_1 := dk_seg dksX3_does_0 1 rfl rfl
theorem dksX3_does_2 : cX3_does.data.toList.drop 68 = dktX3_does_2 := dk_seg dksX3_does_1 67 rfl rfl
theorem dksX3_does_3 : cX3_does.data.toList.drop 92 = dktX3_does_3 := dk_seg dksX3_does_2 24 rfl rfl
theorem dksX3_does_4 : cX3_does.data.toList.drop 116 = dktX3_does_4 := dk_seg dksX3_does_3 24 rfl rfl
theorem dksX3_does_5 : cX3_does.data.toList.drop 140 = dktX3_does_5 := dk_seg dksX3_does_4 24 rfl rfl
theorem dksX3_does_6 : cX3_does.data.toList.drop 164 = dktX3_does_6 := dk_seg dksX3_does_5 24 rfl rfl
theorem dksX3_does_7 : cX3_does.data.toList.drop 188 = dktX3_does_7 := dk_seg dksX3_does_6 24 rfl rfl
theorem dksX3_does_8 : cX3_does.data.toList.drop 212 = dktX3_does_8 := dk_seg dksX3_does_7 24 rfl rfl
theorem dX3_does_0 : decode cX3_does 0 = .ok (.iload_n 1, 1) := dk_27 (dk_at dksX3_does_0 0 rfl rfl)
theorem dX3_does_1 : decode cX3_does 1 = .ok (.lookupswitch 209 #[(114085, 122), (370116, 67), (611717, 107), (3540269, 192), (17377093, 133), (20022661, 90), (24290536, 168)], 67) := by decide +kernel
theorem dX3_does_68 : decode cX3_does 68 = .ok (.aload_n 0, 1) := dk_42 (dk_at dksX3_does_2 0 rfl rfl)
theorem dX3_does_69 : decode cX3_does 69 = .ok (.aload_n 0, 1) := dk_42 (dk_at dksX3_does_2 1 rfl rfl)
theorem dX3_does_70 : decode cX3_does 70 = .ok (.getfield 29, 3) := dk_180 0 29 (dk_at dksX3_does_2 2 rfl rfl)
theorem dX3_does_73 : decode cX3_does 73 = .ok (.iconst 0, 1) := dk_3 (dk_at dksX3_does_2 5 rfl rfl)
theorem dX3_does_74 : decode cX3_does 74 = .ok (.iaload, 1) := dk_46 (dk_at dksX3_does_2 6 rfl rfl)
theorem dX3_does_75 : decode cX3_does 75 = .ok (.aload_n 0, 1) := dk_42 (dk_at dksX3_does_2 7 rfl rfl)
theorem dX3_does_76 : decode cX3_does 76 = .ok (.getfield 29, 3) := dk_180 0 29 (dk_at dksX3_does_2 8 rfl rfl)
theorem dX3_does_79 : decode cX3_does 79 = .ok (.iconst 1, 1) := dk_4 (dk_at dksX3_does_2 11 rfl rfl)
theorem dX3_does_80 : decode cX3_does 80 = .ok (.iaload, 1) := dk_46 (dk_at dksX3_does_2 12 rfl rfl)
theorem dX3_does_81 : decode cX3_does 81 = .ok (.aload_n 0, 1) := dk_42 (dk_at dksX3_does_2 13 rfl rfl)
theorem dX3_does_82 : decode cX3_does 82 = .ok (.getfield 29, 3) := dk_180 0 29 (dk_at dksX3_does_2 14 rfl rfl)
theorem dX3_does_85 : decode cX3_does 85 = .ok (.iconst 2, 1) := dk_5 (dk_at dksX3_does_2 17 rfl rfl)
theorem dX3_does_86 : decode cX3_does 86 = .ok (.iaload, 1) := dk_46 (dk_at dksX3_does_2 18 rfl rfl)
theorem dX3_does_87 : decode cX3_does 87 = .ok (.invokevirtual 75, 3) := dk_182 0 75 (dk_at dksX3_does_2 19 rfl rfl)
theorem dX3_does_90 : decode cX3_does 90 = .ok (.ireturn, 1) := dk_172 (dk_at dksX3_does_2 22 rfl rfl)
theorem dX3_does_91 : decode cX3_does 91 = .ok (.aload_n 0, 1) := dk_42 (dk_at dksX3_does_2 23 rfl rfl)
theorem dX3_does_92 : decode cX3_does 92 = .ok (.aload_n 0, 1) := dk_42 (dk_at dksX3_does_3 0 rfl rfl)
theorem dX3_does_93 : decode cX3_does 93 = .ok (.getfield 29, 3) := dk_180 0 29 (dk_at dksX3_does_3 1 rfl rfl)
theorem dX3_does_96 : decode cX3_does 96 = .ok (.iconst 0, 1) := dk_3 (dk_at dksX3_does_3 4 rfl rfl)
theorem dX3_does_97 : decode cX3_does 97 = .ok (.iaload, 1) := dk_46 (dk_at dksX3_does_3 5 rfl rfl)
theorem dX3_does_98 : decode cX3_does 98 = .ok (.aload_n 0, 1) := dk_42 (dk_at dksX3_does_3 6 rfl rfl)
theorem dX3_does_99 : decode cX3_does 99 = .ok (.getfield 29, 3) := dk_180 0 29 (dk_at dksX3_does_3 7 rfl rfl)
theorem dX3_does_102 : decode cX3_does 102 = .ok (.iconst 1, 1) := dk_4 (dk_at dksX3_does_3 10 rfl rfl)
theorem dX3_does_103 : decode cX3_does 103 = .ok (.iaload, 1) := dk_46 (dk_at dksX3_does_3 11 rfl rfl)
theorem dX3_does_104 : decode cX3_does 104 = .ok (.invokevirtual 82, 3) := dk_182 0 82 (dk_at dksX3_does_3 12 rfl rfl)
theorem dX3_does_107 : decode cX3_does 107 = .ok (.ireturn, 1) := dk_172 (dk_at dksX3_does_3 15 rfl rfl)
theorem dX3_does_108 : decode cX3_does 108 = .ok (.aload_n 0, 1) := dk_42 (dk_at dksX3_does_3 16 rfl rfl)
theorem dX3_does_109 : decode cX3_does 109 = .ok (.bipush 11, 2) := dk_16 11 (dk_at dksX3_does_3 17 rfl rfl)
theorem dX3_does_111 : decode cX3_does 111 = .ok (.aload_n 0, 1) := dk_42 (dk_at dksX3_does_3 19 rfl rfl)
theorem dX3_does_112 : decode cX3_does 112 = .ok (.getfield 29, 3) := dk_180 0 29 (dk_at dksX3_does_3 20 rfl rfl)
theorem dX3_does_115 : decode cX3_does 115 = .ok (.iconst 0, 1) := dk_3 (dk_at dksX3_does_3 23 rfl rfl)
theorem dX3_does_116 : decode cX3_does 116 = .ok (.iaload, 1) := dk_46 (dk_at dksX3_does_4 0 rfl rfl)
theorem dX3_does_117 : decode cX3_does 117 = .ok (.iconst 0, 1) := dk_3 (dk_at dksX3_does_4 1 rfl rfl)
theorem dX3_does_118 : decode cX3_does 118 = .ok (.iconst 3, 1) := dk_6 (dk_at dksX3_does_4 2 rfl rfl)
theorem dX3_does_119 : decode cX3_does 119 = .ok (.invokevirtual 85, 3) := dk_182 0 85 (dk_at dksX3_does_4 3 rfl rfl)
theorem dX3_does_122 : decode cX3_does 122 = .ok (.ireturn, 1) := dk_172 (dk_at dksX3_does_4 6 rfl rfl)
theorem dX3_does_123 : decode cX3_does 123 = .ok (.aload_n 0, 1) := dk_42 (dk_at dksX3_does_4 7 rfl rfl)
theorem dX3_does_124 : decode cX3_does 124 = .ok (.aload_n 0, 1) := dk_42 (dk_at dksX3_does_4 8 rfl rfl)
theorem dX3_does_125 : decode cX3_does 125 = .ok (.getfield 29, 3) := dk_180 0 29 (dk_at dksX3_does_4 9 rfl rfl)
theorem dX3_does_128 : decode cX3_does 128 = .ok (.iconst 0, 1) := dk_3 (dk_at dksX3_does_4 12 rfl rfl)
theorem dX3_does_129 : decode cX3_does 129 = .ok (.iaload, 1) := dk_46 (dk_at dksX3_does_4 13 rfl rfl)
theorem dX3_does_130 : decode cX3_does 130 = .ok (.invokevirtual 90, 3) := dk_182 0 90 (dk_at dksX3_does_4 14 rfl rfl)
theorem dX3_does_133 : decode cX3_does 133 = .ok (.ireturn, 1) := dk_172 (dk_at dksX3_does_4 17 rfl rfl)
theorem dX3_does_134 : decode cX3_does 134 = .ok (.aload_n 0, 1) := dk_42 (dk_at dksX3_does_4 18 rfl rfl)
theorem dX3_does_135 : decode cX3_does 135 = .ok (.aload_n 0, 1) := dk_42 (dk_at dksX3_does_4 19 rfl rfl)
theorem dX3_does_136 : decode cX3_does 136 = .ok (.getfield 29, 3) := dk_180 0 29 (dk_at dksX3_does_4 20 rfl rfl)
theorem dX3_does_139 : decode cX3_does 139 = .ok (.iconst 0, 1) := dk_3 (dk_at dksX3_does_4 23 rfl rfl)
theorem dX3_does_140 : decode cX3_does 140 = .ok (.iaload, 1) := dk_46 (dk_at dksX3_does_5 0 rfl rfl)
theorem dX3_does_141 : decode cX3_does 141 = .ok (.aload_n 0, 1) := dk_42 (dk_at dksX3_does_5 1 rfl rfl)
theorem dX3_does_142 : decode cX3_does 142 = .ok (.getfield 29, 3) := dk_180 0 29 (dk_at dksX3_does_5 2 rfl rfl)
theorem dX3_does_145 : decode cX3_does 145 = .ok (.iconst 1, 1) := dk_4 (dk_at dksX3_does_5 5 rfl rfl)
theorem dX3_does_146 : decode cX3_does 146 = .ok (.iaload, 1) := dk_46 (dk_at dksX3_does_5 6 rfl rfl)
theorem dX3_does_147 : decode cX3_does 147 = .ok (.aload_n 0, 1) := dk_42 (dk_at dksX3_does_5 7 rfl rfl)
theorem dX3_does_148 : decode cX3_does 148 = .ok (.getfield 29, 3) := dk_180 0 29 (dk_at dksX3_does_5 8 rfl rfl)
theorem dX3_does_151 : decode cX3_does 151 = .ok (.iconst 2, 1) := dk_5 (dk_at dksX3_does_5 11 rfl rfl)
theorem dX3_does_152 : decode cX3_does 152 = .ok (.iaload, 1) := dk_46 (dk_at dksX3_does_5 12 rfl rfl)
theorem dX3_does_153 : decode cX3_does 153 = .ok (.aload_n 0, 1) := dk_42 (dk_at dksX3_does_5 13 rfl rfl)
theorem dX3_does_154 : decode cX3_does 154 = .ok (.getfield 29, 3) := dk_180 0 29 (dk_at dksX3_does_5 14 rfl rfl)
theorem dX3_does_157 : decode cX3_does 157 = .ok (.iconst 3, 1) := dk_6 (dk_at dksX3_does_5 17 rfl rfl)
theorem dX3_does_158 : decode cX3_does 158 = .ok (.iaload, 1) := dk_46 (dk_at dksX3_does_5 18 rfl rfl)
theorem dX3_does_159 : decode cX3_does 159 = .ok (.aload_n 0, 1) := dk_42 (dk_at dksX3_does_5 19 rfl rfl)
theorem dX3_does_160 : decode cX3_does 160 = .ok (.getfield 29, 3) := dk_180 0 29 (dk_at dksX3_does_5 20 rfl rfl)
theorem dX3_does_163 : decode cX3_does 163 = .ok (.iconst 4, 1) := dk_7 (dk_at dksX3_does_5 23 rfl rfl)
theorem dX3_does_164 : decode cX3_does 164 = .ok (.iaload, 1) := dk_46 (dk_at dksX3_does_6 0 rfl rfl)
theorem dX3_does_165 : decode cX3_does 165 = .ok (.invokevirtual 116, 3) := dk_182 0 116 (dk_at dksX3_does_6 1 rfl rfl)
theorem dX3_does_168 : decode cX3_does 168 = .ok (.ireturn, 1) := dk_172 (dk_at dksX3_does_6 4 rfl rfl)
theorem dX3_does_169 : decode cX3_does 169 = .ok (.aload_n 0, 1) := dk_42 (dk_at dksX3_does_6 5 rfl rfl)
theorem dX3_does_170 : decode cX3_does 170 = .ok (.aload_n 0, 1) := dk_42 (dk_at dksX3_does_6 6 rfl rfl)
theorem dX3_does_171 : decode cX3_does 171 = .ok (.getfield 29, 3) := dk_180 0 29 (dk_at dksX3_does_6 7 rfl rfl)
theorem dX3_does_174 : decode cX3_does 174 = .ok (.iconst 0, 1) := dk_3 (dk_at dksX3_does_6 10 rfl rfl)
theorem dX3_does_175 : decode cX3_does 175 = .ok (.iaload, 1) := dk_46 (dk_at dksX3_does_6 11 rfl rfl)
theorem dX3_does_176 : decode cX3_does 176 = .ok (.aload_n 0, 1) := dk_42 (dk_at dksX3_does_6 12 rfl rfl)
theorem dX3_does_177 : decode cX3_does 177 = .ok (.getfield 29, 3) := dk_180 0 29 (dk_at dksX3_does_6 13 rfl rfl)
theorem dX3_does_180 : decode cX3_does 180 = .ok (.iconst 1, 1) := dk_4 (dk_at dksX3_does_6 16 rfl rfl)
theorem dX3_does_181 : decode cX3_does 181 = .ok (.iaload, 1) := dk_46 (dk_at dksX3_does_6 17 rfl rfl)
theorem dX3_does_182 : decode cX3_does 182 = .ok (.aload_n 0, 1) := dk_42 (dk_at dksX3_does_6 18 rfl rfl)
theorem dX3_does_183 : decode cX3_does 183 = .ok (.getfield 29, 3) := dk_180 0 29 (dk_at dksX3_does_6 19 rfl rfl)
theorem dX3_does_186 : decode cX3_does 186 = .ok (.iconst 2, 1) := dk_5 (dk_at dksX3_does_6 22 rfl rfl)
theorem dX3_does_187 : decode cX3_does 187 = .ok (.iaload, 1) := dk_46 (dk_at dksX3_does_6 23 rfl rfl)
theorem dX3_does_188 : decode cX3_does 188 = .ok (.iconst 0, 1) := dk_3 (dk_at dksX3_does_7 0 rfl rfl)
theorem dX3_does_189 : decode cX3_does 189 = .ok (.invokevirtual 105, 3) := dk_182 0 105 (dk_at dksX3_does_7 1 rfl rfl)
theorem dX3_does_192 : decode cX3_does 192 = .ok (.ireturn, 1) := dk_172 (dk_at dksX3_does_7 4 rfl rfl)
theorem dX3_does_193 : decode cX3_does 193 = .ok (.aload_n 0, 1) := dk_42 (dk_at dksX3_does_7 5 rfl rfl)
theorem dX3_does_194 : decode cX3_does 194 = .ok (.aload_n 0, 1) := dk_42 (dk_at dksX3_does_7 6 rfl rfl)
theorem dX3_does_195 : decode cX3_does 195 = .ok (.getfield 29, 3) := dk_180 0 29 (dk_at dksX3_does_7 7 rfl rfl)
theorem dX3_does_198 : decode cX3_does 198 = .ok (.iconst 0, 1) := dk_3 (dk_at dksX3_does_7 10 rfl rfl)
theorem dX3_does_199 : decode cX3_does 199 = .ok (.iaload, 1) := dk_46 (dk_at dksX3_does_7 11 rfl rfl)
theorem dX3_does_200 : decode cX3_does 200 = .ok (.aload_n 0, 1) := dk_42 (dk_at dksX3_does_7 12 rfl rfl)
theorem dX3_does_201 : decode cX3_does 201 = .ok (.getfield 29, 3) := dk_180 0 29 (dk_at dksX3_does_7 13 rfl rfl)
theorem dX3_does_204 : decode cX3_does 204 = .ok (.iconst 1, 1) := dk_4 (dk_at dksX3_does_7 16 rfl rfl)
theorem dX3_does_205 : decode cX3_does 205 = .ok (.iaload, 1) := dk_46 (dk_at dksX3_does_7 17 rfl rfl)
theorem dX3_does_206 : decode cX3_does 206 = .ok (.invokevirtual 112, 3) := dk_182 0 112 (dk_at dksX3_does_7 18 rfl rfl)
theorem dX3_does_209 : decode cX3_does 209 = .ok (.ireturn, 1) := dk_172 (dk_at dksX3_does_7 21 rfl rfl)
theorem dX3_does_210 : decode cX3_does 210 = .ok (.aload_n 0, 1) := dk_42 (dk_at dksX3_does_7 22 rfl rfl)
theorem dX3_does_211 : decode cX3_does 211 = .ok (.aload_n 0, 1) := dk_42 (dk_at dksX3_does_7 23 rfl rfl)
theorem dX3_does_212 : decode cX3_does 212 = .ok (.getfield 29, 3) := dk_180 0 29 (dk_at dksX3_does_8 0 rfl rfl)
theorem dX3_does_215 : decode cX3_does 215 = .ok (.iconst 0, 1) := dk_3 (dk_at dksX3_does_8 3 rfl rfl)
theorem dX3_does_216 : decode cX3_does 216 = .ok (.iaload, 1) := dk_46 (dk_at dksX3_does_8 4 rfl rfl)
theorem dX3_does_217 : decode cX3_does 217 = .ok (.aload_n 0, 1) := dk_42 (dk_at dksX3_does_8 5 rfl rfl)
theorem dX3_does_218 : decode cX3_does 218 = .ok (.getfield 29, 3) := dk_180 0 29 (dk_at dksX3_does_8 6 rfl rfl)
theorem dX3_does_221 : decode cX3_does 221 = .ok (.iconst 1, 1) := dk_4 (dk_at dksX3_does_8 9 rfl rfl)
theorem dX3_does_222 : decode cX3_does 222 = .ok (.iaload, 1) := dk_46 (dk_at dksX3_does_8 10 rfl rfl)
theorem dX3_does_223 : decode cX3_does 223 = .ok (.aload_n 0, 1) := dk_42 (dk_at dksX3_does_8 11 rfl rfl)
theorem dX3_does_224 : decode cX3_does 224 = .ok (.getfield 29, 3) := dk_180 0 29 (dk_at dksX3_does_8 12 rfl rfl)
theorem dX3_does_227 : decode cX3_does 227 = .ok (.iconst 2, 1) := dk_5 (dk_at dksX3_does_8 15 rfl rfl)
theorem dX3_does_228 : decode cX3_does 228 = .ok (.iaload, 1) := dk_46 (dk_at dksX3_does_8 16 rfl rfl)
theorem dX3_does_229 : decode cX3_does 229 = .ok (.invokevirtual 131, 3) := dk_182 0 131 (dk_at dksX3_does_8 17 rfl rfl)
theorem dX3_does_232 : decode cX3_does 232 = .ok (.ireturn, 1) := dk_172 (dk_at dksX3_does_8 20 rfl rfl)
abbrev cX3_failure : ByteArray := prog_21_method_56_code
def yX3_failure : MethodName := ⟨RX3, "failure", "(I)I"⟩
def dkwX3_failure_1 : List UInt8 := [46, 167, 0, 5, 18, 67, 172]
abbrev dktX3_failure_1 : List UInt8 := dkwX3_failure_1 ++ []
def dkwX3_failure_0 : List UInt8 := [27, 3, 7, 184, 0, 32, 154, 0, 6, 18, 40, 172, 42, 180, 0, 153, 153, 0, 12, 42, 180, 0, 26, 27]
abbrev dktX3_failure_0 : List UInt8 := dkwX3_failure_0 ++ dktX3_failure_1
theorem dksX3_failure_0 : cX3_failure.data.toList.drop 0 = dktX3_failure_0 := by decide +kernel
theorem dksX3_failure_1 : cX3_failure.data.toList.drop 24 = dktX3_failure_1 := dk_seg dksX3_failure_0 24 rfl rfl
theorem dX3_failure_0 : decode cX3_failure 0 = .ok (.iload_n 1, 1) := dk_27 (dk_at dksX3_failure_0 0 rfl rfl)
theorem dX3_failure_1 : decode cX3_failure 1 = .ok (.iconst 0, 1) := dk_3 (dk_at dksX3_failure_0 1 rfl rfl)
theorem dX3_failure_2 : decode cX3_failure 2 = .ok (.iconst 4, 1) := dk_7 (dk_at dksX3_failure_0 2 rfl rfl)
theorem dX3_failure_3 : decode cX3_failure 3 = .ok (.invokestatic 32, 3) := dk_184 0 32 (dk_at dksX3_failure_0 3 rfl rfl)
theorem dX3_failure_6 : decode cX3_failure 6 = .ok (.ifCond .ne 6, 3) := dk_154 0 6 (dk_at dksX3_failure_0 6 rfl rfl)
theorem dX3_failure_9 : decode cX3_failure 9 = .ok (.ldc 40, 2) := dk_18 40 (dk_at dksX3_failure_0 9 rfl rfl)
theorem dX3_failure_11 : decode cX3_failure 11 = .ok (.ireturn, 1) := dk_172 (dk_at dksX3_failure_0 11 rfl rfl)
theorem dX3_failure_12 : decode cX3_failure 12 = .ok (.aload_n 0, 1) := dk_42 (dk_at dksX3_failure_0 12 rfl rfl)
theorem dX3_failure_13 : decode cX3_failure 13 = .ok (.getfield 153, 3) := dk_180 0 153 (dk_at dksX3_failure_0 13 rfl rfl)
theorem dX3_failure_16 : decode cX3_failure 16 = .ok (.ifCond .eq 12, 3) := dk_153 0 12 (dk_at dksX3_failure_0 16 rfl rfl)
theorem dX3_failure_19 : decode cX3_failure 19 = .ok (.aload_n 0, 1) := dk_42 (dk_at dksX3_failure_0 19 rfl rfl)
theorem dX3_failure_20 : decode cX3_failure 20 = .ok (.getfield 26, 3) := dk_180 0 26 (dk_at dksX3_failure_0 20 rfl rfl)
theorem dX3_failure_23 : decode cX3_failure 23 = .ok (.iload_n 1, 1) := dk_27 (dk_at dksX3_failure_0 23 rfl rfl)
theorem dX3_failure_24 : decode cX3_failure 24 = .ok (.iaload, 1) := dk_46 (dk_at dksX3_failure_1 0 rfl rfl)
theorem dX3_failure_25 : decode cX3_failure 25 = .ok (.goto 5, 3) := dk_167 0 5 (dk_at dksX3_failure_1 1 rfl rfl)
theorem dX3_failure_28 : decode cX3_failure 28 = .ok (.ldc 67, 2) := dk_18 67 (dk_at dksX3_failure_1 4 rfl rfl)
theorem dX3_failure_30 : decode cX3_failure 30 = .ok (.ireturn, 1) := dk_172 (dk_at dksX3_failure_1 6 rfl rfl)
abbrev cX3_count : ByteArray := prog_21_method_59_code
def yX3_count : MethodName := ⟨RX3, "count", "(I)I"⟩
def dkwX3_count_5 : List UInt8 := [180, 0, 138, 172, 18, 40, 172]
abbrev dktX3_count_5 : List UInt8 := dkwX3_count_5 ++ []
def dkwX3_count_4 : List UInt8 := [172, 42, 180, 0, 7, 16, 94, 46, 42, 180, 0, 7, 17, 0, 189, 46, 96, 172, 42, 180, 0, 36, 172, 42]
abbrev dktX3_count_4 : List UInt8 := dkwX3_count_4 ++ dktX3_count_5
def dkwX3_count_3 : List UInt8 := [46, 172, 42, 182, 0, 182, 172, 42, 180, 0, 7, 16, 13, 46, 172, 42, 182, 0, 134, 172, 42, 182, 0, 185]
abbrev dktX3_count_3 : List UInt8 := dkwX3_count_3 ++ dktX3_count_4
def dkwX3_count_2 : List UInt8 := [42, 180, 0, 7, 16, 8, 27, 96, 46, 172, 42, 180, 0, 7, 16, 14, 46, 172, 42, 180, 0, 7, 16, 15]
abbrev dktX3_count_2 : List UInt8 := dkwX3_count_2 ++ dktX3_count_3
def dkwX3_count_1 : List UInt8 := [170, 0, 0, 0, 0, 0, 147, 0, 0, 0, 0, 0, 0, 0, 13, 0, 0, 0, 71, 0, 0, 0, 71, 0, 0, 0, 71, 0, 0, 0, 71, 0, 0, 0, 71, 0, 0, 0, 81, 0, 0, 0, 89, 0, 0, 0, 97, 0, 0, 0, 102, 0, 0, 0, 110, 0, 0, 0, 115, 0, 0, 0, 120, 0, 0, 0, 137, 0, 0, 0, 142]
abbrev dktX3_count_1 : List UInt8 := dkwX3_count_1 ++ dktX3_count_2
def dkwX3_count_0 : List UInt8 := [27]
abbrev dktX3_count_0 : List UInt8 := dkwX3_count_0 ++ dktX3_count_1
theorem dksX3_count_0 : cX3_count.data.toList.drop 0 = dktX3_count_0 := by decide +kernel
theorem dksX3_count_1 : cX3_count.data.toList.drop 1 = dktX3_count_1 := dk_seg dksX3_count_0 1 rfl rfl
theorem dksX3_count_2 : cX3_count.data.toList.drop 72 = dktX3_count_2 := dk_seg dksX3_count_1 71 rfl rfl
theorem dksX3_count_3 : cX3_count.data.toList.drop 96 = dktX3_count_3 := dk_seg dksX3_count_2 24 rfl rfl
theorem dksX3_count_4 : cX3_count.data.toList.drop 120 = dktX3_count_4 := dk_seg dksX3_count_3 24 rfl rfl
theorem dksX3_count_5 : cX3_count.data.toList.drop 144 = dktX3_count_5 := dk_seg dksX3_count_4 24 rfl rfl
theorem dX3_count_0 : decode cX3_count 0 = .ok (.iload_n 1, 1) := dk_27 (dk_at dksX3_count_0 0 rfl rfl)
theorem dX3_count_1 : decode cX3_count 1 = .ok (.tableswitch 147 0 13 #[71, 71, 71, 71, 71, 81, 89, 97, 102, 110, 115, 120, 137, 142], 71) := by decide +kernel
theorem dX3_count_72 : decode cX3_count 72 = .ok (.aload_n 0, 1) := dk_42 (dk_at dksX3_count_2 0 rfl rfl)
theorem dX3_count_73 : decode cX3_count 73 = .ok (.getfield 7, 3) := dk_180 0 7 (dk_at dksX3_count_2 1 rfl rfl)
theorem dX3_count_76 : decode cX3_count 76 = .ok (.bipush 8, 2) := dk_16 8 (dk_at dksX3_count_2 4 rfl rfl)
theorem dX3_count_78 : decode cX3_count 78 = .ok (.iload_n 1, 1) := dk_27 (dk_at dksX3_count_2 6 rfl rfl)
theorem dX3_count_79 : decode cX3_count 79 = .ok (.iadd, 1) := dk_96 (dk_at dksX3_count_2 7 rfl rfl)
theorem dX3_count_80 : decode cX3_count 80 = .ok (.iaload, 1) := dk_46 (dk_at dksX3_count_2 8 rfl rfl)
theorem dX3_count_81 : decode cX3_count 81 = .ok (.ireturn, 1) := dk_172 (dk_at dksX3_count_2 9 rfl rfl)
theorem dX3_count_82 : decode cX3_count 82 = .ok (.aload_n 0, 1) := dk_42 (dk_at dksX3_count_2 10 rfl rfl)
theorem dX3_count_83 : decode cX3_count 83 = .ok (.getfield 7, 3) := dk_180 0 7 (dk_at dksX3_count_2 11 rfl rfl)
theorem dX3_count_86 : decode cX3_count 86 = .ok (.bipush 14, 2) := dk_16 14 (dk_at dksX3_count_2 14 rfl rfl)
theorem dX3_count_88 : decode cX3_count 88 = .ok (.iaload, 1) := dk_46 (dk_at dksX3_count_2 16 rfl rfl)
theorem dX3_count_89 : decode cX3_count 89 = .ok (.ireturn, 1) := dk_172 (dk_at dksX3_count_2 17 rfl rfl)
theorem dX3_count_90 : decode cX3_count 90 = .ok (.aload_n 0, 1) := dk_42 (dk_at dksX3_count_2 18 rfl rfl)
theorem dX3_count_91 : decode cX3_count 91 = .ok (.getfield 7, 3) := dk_180 0 7 (dk_at dksX3_count_2 19 rfl rfl)
theorem dX3_count_94 : decode cX3_count 94 = .ok (.bipush 15, 2) := dk_16 15 (dk_at dksX3_count_2 22 rfl rfl)
theorem dX3_count_96 : decode cX3_count 96 = .ok (.iaload, 1) := dk_46 (dk_at dksX3_count_3 0 rfl rfl)
theorem dX3_count_97 : decode cX3_count 97 = .ok (.ireturn, 1) := dk_172 (dk_at dksX3_count_3 1 rfl rfl)
theorem dX3_count_98 : decode cX3_count 98 = .ok (.aload_n 0, 1) := dk_42 (dk_at dksX3_count_3 2 rfl rfl)
theorem dX3_count_99 : decode cX3_count 99 = .ok (.invokevirtual 182, 3) := dk_182 0 182 (dk_at dksX3_count_3 3 rfl rfl)
theorem dX3_count_102 : decode cX3_count 102 = .ok (.ireturn, 1) := dk_172 (dk_at dksX3_count_3 6 rfl rfl)
theorem dX3_count_103 : decode cX3_count 103 = .ok (.aload_n 0, 1) := dk_42 (dk_at dksX3_count_3 7 rfl rfl)
theorem dX3_count_104 : decode cX3_count 104 = .ok (.getfield 7, 3) := dk_180 0 7 (dk_at dksX3_count_3 8 rfl rfl)
theorem dX3_count_107 : decode cX3_count 107 = .ok (.bipush 13, 2) := dk_16 13 (dk_at dksX3_count_3 11 rfl rfl)
theorem dX3_count_109 : decode cX3_count 109 = .ok (.iaload, 1) := dk_46 (dk_at dksX3_count_3 13 rfl rfl)
theorem dX3_count_110 : decode cX3_count 110 = .ok (.ireturn, 1) := dk_172 (dk_at dksX3_count_3 14 rfl rfl)
theorem dX3_count_111 : decode cX3_count 111 = .ok (.aload_n 0, 1) := dk_42 (dk_at dksX3_count_3 15 rfl rfl)
theorem dX3_count_112 : decode cX3_count 112 = .ok (.invokevirtual 134, 3) := dk_182 0 134 (dk_at dksX3_count_3 16 rfl rfl)
theorem dX3_count_115 : decode cX3_count 115 = .ok (.ireturn, 1) := dk_172 (dk_at dksX3_count_3 19 rfl rfl)
theorem dX3_count_116 : decode cX3_count 116 = .ok (.aload_n 0, 1) := dk_42 (dk_at dksX3_count_3 20 rfl rfl)
theorem dX3_count_117 : decode cX3_count 117 = .ok (.invokevirtual 185, 3) := dk_182 0 185 (dk_at dksX3_count_3 21 rfl rfl)
theorem dX3_count_120 : decode cX3_count 120 = .ok (.ireturn, 1) := dk_172 (dk_at dksX3_count_4 0 rfl rfl)
theorem dX3_count_121 : decode cX3_count 121 = .ok (.aload_n 0, 1) := dk_42 (dk_at dksX3_count_4 1 rfl rfl)
theorem dX3_count_122 : decode cX3_count 122 = .ok (.getfield 7, 3) := dk_180 0 7 (dk_at dksX3_count_4 2 rfl rfl)
theorem dX3_count_125 : decode cX3_count 125 = .ok (.bipush 94, 2) := dk_16 94 (dk_at dksX3_count_4 5 rfl rfl)
theorem dX3_count_127 : decode cX3_count 127 = .ok (.iaload, 1) := dk_46 (dk_at dksX3_count_4 7 rfl rfl)
theorem dX3_count_128 : decode cX3_count 128 = .ok (.aload_n 0, 1) := dk_42 (dk_at dksX3_count_4 8 rfl rfl)
theorem dX3_count_129 : decode cX3_count 129 = .ok (.getfield 7, 3) := dk_180 0 7 (dk_at dksX3_count_4 9 rfl rfl)
theorem dX3_count_132 : decode cX3_count 132 = .ok (.sipush 189, 3) := dk_17 0 189 (dk_at dksX3_count_4 12 rfl rfl)
theorem dX3_count_135 : decode cX3_count 135 = .ok (.iaload, 1) := dk_46 (dk_at dksX3_count_4 15 rfl rfl)
theorem dX3_count_136 : decode cX3_count 136 = .ok (.iadd, 1) := dk_96 (dk_at dksX3_count_4 16 rfl rfl)
theorem dX3_count_137 : decode cX3_count 137 = .ok (.ireturn, 1) := dk_172 (dk_at dksX3_count_4 17 rfl rfl)
theorem dX3_count_138 : decode cX3_count 138 = .ok (.aload_n 0, 1) := dk_42 (dk_at dksX3_count_4 18 rfl rfl)
theorem dX3_count_139 : decode cX3_count 139 = .ok (.getfield 36, 3) := dk_180 0 36 (dk_at dksX3_count_4 19 rfl rfl)
theorem dX3_count_142 : decode cX3_count 142 = .ok (.ireturn, 1) := dk_172 (dk_at dksX3_count_4 22 rfl rfl)
theorem dX3_count_143 : decode cX3_count 143 = .ok (.aload_n 0, 1) := dk_42 (dk_at dksX3_count_4 23 rfl rfl)
theorem dX3_count_144 : decode cX3_count 144 = .ok (.getfield 138, 3) := dk_180 0 138 (dk_at dksX3_count_5 0 rfl rfl)
theorem dX3_count_147 : decode cX3_count 147 = .ok (.ireturn, 1) := dk_172 (dk_at dksX3_count_5 3 rfl rfl)
theorem dX3_count_148 : decode cX3_count 148 = .ok (.ldc 40, 2) := dk_18 40 (dk_at dksX3_count_5 4 rfl rfl)
theorem dX3_count_150 : decode cX3_count 150 = .ok (.ireturn, 1) := dk_172 (dk_at dksX3_count_5 6 rfl rfl)
abbrev cX3_kept : ByteArray := prog_21_method_57_code
def yX3_kept : MethodName := ⟨RX3, "kept", "()I"⟩
def dkwX3_kept_1 : List UInt8 := [132, 2, 1, 167, 255, 233, 27, 172]
abbrev dktX3_kept_1 : List UInt8 := dkwX3_kept_1 ++ []
def dkwX3_kept_0 : List UInt8 := [3, 60, 3, 61, 28, 42, 180, 0, 7, 16, 14, 46, 162, 0, 18, 27, 42, 28, 4, 182, 0, 96, 96, 60]
abbrev dktX3_kept_0 : List UInt8 := dkwX3_kept_0 ++ dktX3_kept_1
theorem dksX3_kept_0 : cX3_kept.data.toList.drop 0 = dktX3_kept_0 := by decide +kernel
theorem dksX3_kept_1 : cX3_kept.data.toList.drop 24 = dktX3_kept_1 := dk_seg dksX3_kept_0 24 rfl rfl
theorem dX3_kept_0 : decode cX3_kept 0 = .ok (.iconst 0, 1) := dk_3 (dk_at dksX3_kept_0 0 rfl rfl)
theorem dX3_kept_1 : decode cX3_kept 1 = .ok (.istore_n 1, 1) := dk_60 (dk_at dksX3_kept_0 1 rfl rfl)
theorem dX3_kept_2 : decode cX3_kept 2 = .ok (.iconst 0, 1) := dk_3 (dk_at dksX3_kept_0 2 rfl rfl)
theorem dX3_kept_3 : decode cX3_kept 3 = .ok (.istore_n 2, 1) := dk_61 (dk_at dksX3_kept_0 3 rfl rfl)
theorem dX3_kept_4 : decode cX3_kept 4 = .ok (.iload_n 2, 1) := dk_28 (dk_at dksX3_kept_0 4 rfl rfl)
theorem dX3_kept_5 : decode cX3_kept 5 = .ok (.aload_n 0, 1) := dk_42 (dk_at dksX3_kept_0 5 rfl rfl)
theorem dX3_kept_6 : decode cX3_kept 6 = .ok (.getfield 7, 3) := dk_180 0 7 (dk_at dksX3_kept_0 6 rfl rfl)
theorem dX3_kept_9 : decode cX3_kept 9 = .ok (.bipush 14, 2) := dk_16 14 (dk_at dksX3_kept_0 9 rfl rfl)
theorem dX3_kept_11 : decode cX3_kept 11 = .ok (.iaload, 1) := dk_46 (dk_at dksX3_kept_0 11 rfl rfl)
theorem dX3_kept_12 : decode cX3_kept 12 = .ok (.if_icmp .ge 18, 3) := dk_162 0 18 (dk_at dksX3_kept_0 12 rfl rfl)
theorem dX3_kept_15 : decode cX3_kept 15 = .ok (.iload_n 1, 1) := dk_27 (dk_at dksX3_kept_0 15 rfl rfl)
theorem dX3_kept_16 : decode cX3_kept 16 = .ok (.aload_n 0, 1) := dk_42 (dk_at dksX3_kept_0 16 rfl rfl)
theorem dX3_kept_17 : decode cX3_kept 17 = .ok (.iload_n 2, 1) := dk_28 (dk_at dksX3_kept_0 17 rfl rfl)
theorem dX3_kept_18 : decode cX3_kept 18 = .ok (.iconst 1, 1) := dk_4 (dk_at dksX3_kept_0 18 rfl rfl)
theorem dX3_kept_19 : decode cX3_kept 19 = .ok (.invokevirtual 96, 3) := dk_182 0 96 (dk_at dksX3_kept_0 19 rfl rfl)
theorem dX3_kept_22 : decode cX3_kept 22 = .ok (.iadd, 1) := dk_96 (dk_at dksX3_kept_0 22 rfl rfl)
theorem dX3_kept_23 : decode cX3_kept 23 = .ok (.istore_n 1, 1) := dk_60 (dk_at dksX3_kept_0 23 rfl rfl)
theorem dX3_kept_24 : decode cX3_kept 24 = .ok (.iinc 2 1, 3) := dk_132 2 1 (dk_at dksX3_kept_1 0 rfl rfl)
theorem dX3_kept_27 : decode cX3_kept 27 = .ok (.goto (-23), 3) := dk_167 255 233 (dk_at dksX3_kept_1 3 rfl rfl)
theorem dX3_kept_30 : decode cX3_kept 30 = .ok (.iload_n 1, 1) := dk_27 (dk_at dksX3_kept_1 6 rfl rfl)
theorem dX3_kept_31 : decode cX3_kept 31 = .ok (.ireturn, 1) := dk_172 (dk_at dksX3_kept_1 7 rfl rfl)
abbrev cX3_stocks : ByteArray := prog_21_method_58_code
def yX3_stocks : MethodName := ⟨RX3, "stocks", "()I"⟩
def dkwX3_stocks_1 : List UInt8 := [132, 2, 1, 167, 255, 233, 27, 172]
abbrev dktX3_stocks_1 : List UInt8 := dkwX3_stocks_1 ++ []
def dkwX3_stocks_0 : List UInt8 := [3, 60, 3, 61, 28, 42, 180, 0, 7, 16, 15, 46, 162, 0, 18, 27, 42, 28, 5, 182, 0, 123, 96, 60]
abbrev dktX3_stocks_0 : List UInt8 := dkwX3_stocks_0 ++ dktX3_stocks_1
theorem dksX3_stocks_0 : cX3_stocks.data.toList.drop 0 = dktX3_stocks_0 := by decide +kernel
theorem dksX3_stocks_1 : cX3_stocks.data.toList.drop 24 = dktX3_stocks_1 := dk_seg dksX3_stocks_0 24 rfl rfl
theorem dX3_stocks_0 : decode cX3_stocks 0 = .ok (.iconst 0, 1) := dk_3 (dk_at dksX3_stocks_0 0 rfl rfl)
theorem dX3_stocks_1 : decode cX3_stocks 1 = .ok (.istore_n 1, 1) := dk_60 (dk_at dksX3_stocks_0 1 rfl rfl)
theorem dX3_stocks_2 : decode cX3_stocks 2 = .ok (.iconst 0, 1) := dk_3 (dk_at dksX3_stocks_0 2 rfl rfl)
theorem dX3_stocks_3 : decode cX3_stocks 3 = .ok (.istore_n 2, 1) := dk_61 (dk_at dksX3_stocks_0 3 rfl rfl)
theorem dX3_stocks_4 : decode cX3_stocks 4 = .ok (.iload_n 2, 1) := dk_28 (dk_at dksX3_stocks_0 4 rfl rfl)
theorem dX3_stocks_5 : decode cX3_stocks 5 = .ok (.aload_n 0, 1) := dk_42 (dk_at dksX3_stocks_0 5 rfl rfl)
theorem dX3_stocks_6 : decode cX3_stocks 6 = .ok (.getfield 7, 3) := dk_180 0 7 (dk_at dksX3_stocks_0 6 rfl rfl)
theorem dX3_stocks_9 : decode cX3_stocks 9 = .ok (.bipush 15, 2) := dk_16 15 (dk_at dksX3_stocks_0 9 rfl rfl)
theorem dX3_stocks_11 : decode cX3_stocks 11 = .ok (.iaload, 1) := dk_46 (dk_at dksX3_stocks_0 11 rfl rfl)
theorem dX3_stocks_12 : decode cX3_stocks 12 = .ok (.if_icmp .ge 18, 3) := dk_162 0 18 (dk_at dksX3_stocks_0 12 rfl rfl)
theorem dX3_stocks_15 : decode cX3_stocks 15 = .ok (.iload_n 1, 1) := dk_27 (dk_at dksX3_stocks_0 15 rfl rfl)
theorem dX3_stocks_16 : decode cX3_stocks 16 = .ok (.aload_n 0, 1) := dk_42 (dk_at dksX3_stocks_0 16 rfl rfl)
theorem dX3_stocks_17 : decode cX3_stocks 17 = .ok (.iload_n 2, 1) := dk_28 (dk_at dksX3_stocks_0 17 rfl rfl)
theorem dX3_stocks_18 : decode cX3_stocks 18 = .ok (.iconst 2, 1) := dk_5 (dk_at dksX3_stocks_0 18 rfl rfl)
theorem dX3_stocks_19 : decode cX3_stocks 19 = .ok (.invokevirtual 123, 3) := dk_182 0 123 (dk_at dksX3_stocks_0 19 rfl rfl)
theorem dX3_stocks_22 : decode cX3_stocks 22 = .ok (.iadd, 1) := dk_96 (dk_at dksX3_stocks_0 22 rfl rfl)
theorem dX3_stocks_23 : decode cX3_stocks 23 = .ok (.istore_n 1, 1) := dk_60 (dk_at dksX3_stocks_0 23 rfl rfl)
theorem dX3_stocks_24 : decode cX3_stocks 24 = .ok (.iinc 2 1, 3) := dk_132 2 1 (dk_at dksX3_stocks_1 0 rfl rfl)
theorem dX3_stocks_27 : decode cX3_stocks 27 = .ok (.goto (-23), 3) := dk_167 255 233 (dk_at dksX3_stocks_1 3 rfl rfl)
theorem dX3_stocks_30 : decode cX3_stocks 30 = .ok (.iload_n 1, 1) := dk_27 (dk_at dksX3_stocks_1 6 rfl rfl)
theorem dX3_stocks_31 : decode cX3_stocks 31 = .ok (.ireturn, 1) := dk_172 (dk_at dksX3_stocks_1 7 rfl rfl)
abbrev cX3_kind : ByteArray := prog_21_method_60_code
def yX3_kind : MethodName := ⟨RX3, "kind", "(II)I"⟩
def dkwX3_kind_1 : List UInt8 := [96, 46, 167, 0, 5, 18, 40, 172]
abbrev dktX3_kind_1 : List UInt8 := dkwX3_kind_1 ++ []
def dkwX3_kind_0 : List UInt8 := [27, 184, 0, 68, 153, 0, 25, 28, 3, 4, 184, 0, 32, 153, 0, 16, 42, 180, 0, 7, 7, 28, 104, 27]
abbrev dktX3_kind_0 : List UInt8 := dkwX3_kind_0 ++ dktX3_kind_1
theorem dksX3_kind_0 : cX3_kind.data.toList.drop 0 = dktX3_kind_0 := by decide +kernel
theorem dksX3_kind_1 : cX3_kind.data.toList.drop 24 = dktX3_kind_1 := dk_seg dksX3_kind_0 24 rfl rfl
theorem dX3_kind_0 : decode cX3_kind 0 = .ok (.iload_n 1, 1) := dk_27 (dk_at dksX3_kind_0 0 rfl rfl)
theorem dX3_kind_1 : decode cX3_kind 1 = .ok (.invokestatic 68, 3) := dk_184 0 68 (dk_at dksX3_kind_0 1 rfl rfl)
theorem dX3_kind_4 : decode cX3_kind 4 = .ok (.ifCond .eq 25, 3) := dk_153 0 25 (dk_at dksX3_kind_0 4 rfl rfl)
theorem dX3_kind_7 : decode cX3_kind 7 = .ok (.iload_n 2, 1) := dk_28 (dk_at dksX3_kind_0 7 rfl rfl)
theorem dX3_kind_8 : decode cX3_kind 8 = .ok (.iconst 0, 1) := dk_3 (dk_at dksX3_kind_0 8 rfl rfl)
theorem dX3_kind_9 : decode cX3_kind 9 = .ok (.iconst 1, 1) := dk_4 (dk_at dksX3_kind_0 9 rfl rfl)
theorem dX3_kind_10 : decode cX3_kind 10 = .ok (.invokestatic 32, 3) := dk_184 0 32 (dk_at dksX3_kind_0 10 rfl rfl)
theorem dX3_kind_13 : decode cX3_kind 13 = .ok (.ifCond .eq 16, 3) := dk_153 0 16 (dk_at dksX3_kind_0 13 rfl rfl)
theorem dX3_kind_16 : decode cX3_kind 16 = .ok (.aload_n 0, 1) := dk_42 (dk_at dksX3_kind_0 16 rfl rfl)
theorem dX3_kind_17 : decode cX3_kind 17 = .ok (.getfield 7, 3) := dk_180 0 7 (dk_at dksX3_kind_0 17 rfl rfl)
theorem dX3_kind_20 : decode cX3_kind 20 = .ok (.iconst 4, 1) := dk_7 (dk_at dksX3_kind_0 20 rfl rfl)
theorem dX3_kind_21 : decode cX3_kind 21 = .ok (.iload_n 2, 1) := dk_28 (dk_at dksX3_kind_0 21 rfl rfl)
theorem dX3_kind_22 : decode cX3_kind 22 = .ok (.imul, 1) := dk_104 (dk_at dksX3_kind_0 22 rfl rfl)
theorem dX3_kind_23 : decode cX3_kind 23 = .ok (.iload_n 1, 1) := dk_27 (dk_at dksX3_kind_0 23 rfl rfl)
theorem dX3_kind_24 : decode cX3_kind 24 = .ok (.iadd, 1) := dk_96 (dk_at dksX3_kind_1 0 rfl rfl)
theorem dX3_kind_25 : decode cX3_kind 25 = .ok (.iaload, 1) := dk_46 (dk_at dksX3_kind_1 1 rfl rfl)
theorem dX3_kind_26 : decode cX3_kind 26 = .ok (.goto 5, 3) := dk_167 0 5 (dk_at dksX3_kind_1 2 rfl rfl)
theorem dX3_kind_29 : decode cX3_kind 29 = .ok (.ldc 40, 2) := dk_18 40 (dk_at dksX3_kind_1 5 rfl rfl)
theorem dX3_kind_31 : decode cX3_kind 31 = .ok (.ireturn, 1) := dk_172 (dk_at dksX3_kind_1 7 rfl rfl)
abbrev cX3_customer : ByteArray := prog_21_method_61_code
def yX3_customer : MethodName := ⟨RX3, "customer", "(II)I"⟩
def dkwX3_customer_2 : List UInt8 := [27, 28, 4, 96, 182, 0, 96, 172]
abbrev dktX3_customer_2 : List UInt8 := dkwX3_customer_2 ++ []
def dkwX3_customer_1 : List UInt8 := [42, 27, 3, 182, 0, 96, 167, 0, 25, 42, 27, 4, 182, 0, 96, 154, 0, 8, 18, 67, 167, 0, 11, 42]
abbrev dktX3_customer_1 : List UInt8 := dkwX3_customer_1 ++ dktX3_customer_2
def dkwX3_customer_0 : List UInt8 := [42, 27, 182, 0, 93, 153, 0, 12, 28, 3, 7, 184, 0, 32, 154, 0, 6, 18, 40, 172, 28, 154, 0, 12]
abbrev dktX3_customer_0 : List UInt8 := dkwX3_customer_0 ++ dktX3_customer_1
theorem dksX3_customer_0 : cX3_customer.data.toList.drop 0 = dktX3_customer_0 := by decide +kernel
theorem dksX3_customer_1 : cX3_customer.data.toList.drop 24 = dktX3_customer_1 := dk_seg dksX3_customer_0 24 rfl rfl
theorem dksX3_customer_2 : cX3_customer.data.toList.drop 48 = dktX3_customer_2 := dk_seg dksX3_customer_1 24 rfl rfl
theorem dX3_customer_0 : decode cX3_customer 0 = .ok (.aload_n 0, 1) := dk_42 (dk_at dksX3_customer_0 0 rfl rfl)
theorem dX3_customer_1 : decode cX3_customer 1 = .ok (.iload_n 1, 1) := dk_27 (dk_at dksX3_customer_0 1 rfl rfl)
theorem dX3_customer_2 : decode cX3_customer 2 = .ok (.invokevirtual 93, 3) := dk_182 0 93 (dk_at dksX3_customer_0 2 rfl rfl)
theorem dX3_customer_5 : decode cX3_customer 5 = .ok (.ifCond .eq 12, 3) := dk_153 0 12 (dk_at dksX3_customer_0 5 rfl rfl)
theorem dX3_customer_8 : decode cX3_customer 8 = .ok (.iload_n 2, 1) := dk_28 (dk_at dksX3_customer_0 8 rfl rfl)
theorem dX3_customer_9 : decode cX3_customer 9 = .ok (.iconst 0, 1) := dk_3 (dk_at dksX3_customer_0 9 rfl rfl)
theorem dX3_customer_10 : decode cX3_customer 10 = .ok (.iconst 4, 1) := dk_7 (dk_at dksX3_customer_0 10 rfl rfl)
theorem dX3_customer_11 : decode cX3_customer 11 = .ok (.invokestatic 32, 3) := dk_184 0 32 (dk_at dksX3_customer_0 11 rfl rfl)
theorem dX3_customer_14 : decode cX3_customer 14 = .ok (.ifCond .ne 6, 3) := dk_154 0 6 (dk_at dksX3_customer_0 14 rfl rfl)
theorem dX3_customer_17 : decode cX3_customer 17 = .ok (.ldc 40, 2) := dk_18 40 (dk_at dksX3_customer_0 17 rfl rfl)
theorem dX3_customer_19 : decode cX3_customer 19 = .ok (.ireturn, 1) := dk_172 (dk_at dksX3_customer_0 19 rfl rfl)
theorem dX3_customer_20 : decode cX3_customer 20 = .ok (.iload_n 2, 1) := dk_28 (dk_at dksX3_customer_0 20 rfl rfl)
theorem dX3_customer_21 : decode cX3_customer 21 = .ok (.ifCond .ne 12, 3) := dk_154 0 12 (dk_at dksX3_customer_0 21 rfl rfl)
theorem dX3_customer_24 : decode cX3_customer 24 = .ok (.aload_n 0, 1) := dk_42 (dk_at dksX3_customer_1 0 rfl rfl)
theorem dX3_customer_25 : decode cX3_customer 25 = .ok (.iload_n 1, 1) := dk_27 (dk_at dksX3_customer_1 1 rfl rfl)
theorem dX3_customer_26 : decode cX3_customer 26 = .ok (.iconst 0, 1) := dk_3 (dk_at dksX3_customer_1 2 rfl rfl)
theorem dX3_customer_27 : decode cX3_customer 27 = .ok (.invokevirtual 96, 3) := dk_182 0 96 (dk_at dksX3_customer_1 3 rfl rfl)
theorem dX3_customer_30 : decode cX3_customer 30 = .ok (.goto 25, 3) := dk_167 0 25 (dk_at dksX3_customer_1 6 rfl rfl)
theorem dX3_customer_33 : decode cX3_customer 33 = .ok (.aload_n 0, 1) := dk_42 (dk_at dksX3_customer_1 9 rfl rfl)
theorem dX3_customer_34 : decode cX3_customer 34 = .ok (.iload_n 1, 1) := dk_27 (dk_at dksX3_customer_1 10 rfl rfl)
theorem dX3_customer_35 : decode cX3_customer 35 = .ok (.iconst 1, 1) := dk_4 (dk_at dksX3_customer_1 11 rfl rfl)
theorem dX3_customer_36 : decode cX3_customer 36 = .ok (.invokevirtual 96, 3) := dk_182 0 96 (dk_at dksX3_customer_1 12 rfl rfl)
theorem dX3_customer_39 : decode cX3_customer 39 = .ok (.ifCond .ne 8, 3) := dk_154 0 8 (dk_at dksX3_customer_1 15 rfl rfl)
theorem dX3_customer_42 : decode cX3_customer 42 = .ok (.ldc 67, 2) := dk_18 67 (dk_at dksX3_customer_1 18 rfl rfl)
theorem dX3_customer_44 : decode cX3_customer 44 = .ok (.goto 11, 3) := dk_167 0 11 (dk_at dksX3_customer_1 20 rfl rfl)
theorem dX3_customer_47 : decode cX3_customer 47 = .ok (.aload_n 0, 1) := dk_42 (dk_at dksX3_customer_1 23 rfl rfl)
theorem dX3_customer_48 : decode cX3_customer 48 = .ok (.iload_n 1, 1) := dk_27 (dk_at dksX3_customer_2 0 rfl rfl)
theorem dX3_customer_49 : decode cX3_customer 49 = .ok (.iload_n 2, 1) := dk_28 (dk_at dksX3_customer_2 1 rfl rfl)
theorem dX3_customer_50 : decode cX3_customer 50 = .ok (.iconst 1, 1) := dk_4 (dk_at dksX3_customer_2 2 rfl rfl)
theorem dX3_customer_51 : decode cX3_customer 51 = .ok (.iadd, 1) := dk_96 (dk_at dksX3_customer_2 3 rfl rfl)
theorem dX3_customer_52 : decode cX3_customer 52 = .ok (.invokevirtual 96, 3) := dk_182 0 96 (dk_at dksX3_customer_2 4 rfl rfl)
theorem dX3_customer_55 : decode cX3_customer 55 = .ok (.ireturn, 1) := dk_172 (dk_at dksX3_customer_2 7 rfl rfl)
abbrev cX3_prize : ByteArray := prog_21_method_62_code
def yX3_prize : MethodName := ⟨RX3, "prize", "(II)I"⟩
def dkwX3_prize_1 : List UInt8 := [167, 0, 5, 18, 40, 172]
abbrev dktX3_prize_1 : List UInt8 := dkwX3_prize_1 ++ []
def dkwX3_prize_0 : List UInt8 := [42, 27, 182, 0, 120, 153, 0, 22, 28, 3, 16, 6, 184, 0, 32, 153, 0, 12, 42, 27, 28, 182, 0, 123]
abbrev dktX3_prize_0 : List UInt8 := dkwX3_prize_0 ++ dktX3_prize_1
theorem dksX3_prize_0 : cX3_prize.data.toList.drop 0 = dktX3_prize_0 := by decide +kernel
theorem dksX3_prize_1 : cX3_prize.data.toList.drop 24 = dktX3_prize_1 := dk_seg dksX3_prize_0 24 rfl rfl
theorem dX3_prize_0 : decode cX3_prize 0 = .ok (.aload_n 0, 1) := dk_42 (dk_at dksX3_prize_0 0 rfl rfl)
theorem dX3_prize_1 : decode cX3_prize 1 = .ok (.iload_n 1, 1) := dk_27 (dk_at dksX3_prize_0 1 rfl rfl)
theorem dX3_prize_2 : decode cX3_prize 2 = .ok (.invokevirtual 120, 3) := dk_182 0 120 (dk_at dksX3_prize_0 2 rfl rfl)
theorem dX3_prize_5 : decode cX3_prize 5 = .ok (.ifCond .eq 22, 3) := dk_153 0 22 (dk_at dksX3_prize_0 5 rfl rfl)
theorem dX3_prize_8 : decode cX3_prize 8 = .ok (.iload_n 2, 1) := dk_28 (dk_at dksX3_prize_0 8 rfl rfl)
theorem dX3_prize_9 : decode cX3_prize 9 = .ok (.iconst 0, 1) := dk_3 (dk_at dksX3_prize_0 9 rfl rfl)
theorem dX3_prize_10 : decode cX3_prize 10 = .ok (.bipush 6, 2) := dk_16 6 (dk_at dksX3_prize_0 10 rfl rfl)
theorem dX3_prize_12 : decode cX3_prize 12 = .ok (.invokestatic 32, 3) := dk_184 0 32 (dk_at dksX3_prize_0 12 rfl rfl)
theorem dX3_prize_15 : decode cX3_prize 15 = .ok (.ifCond .eq 12, 3) := dk_153 0 12 (dk_at dksX3_prize_0 15 rfl rfl)
theorem dX3_prize_18 : decode cX3_prize 18 = .ok (.aload_n 0, 1) := dk_42 (dk_at dksX3_prize_0 18 rfl rfl)
theorem dX3_prize_19 : decode cX3_prize 19 = .ok (.iload_n 1, 1) := dk_27 (dk_at dksX3_prize_0 19 rfl rfl)
theorem dX3_prize_20 : decode cX3_prize 20 = .ok (.iload_n 2, 1) := dk_28 (dk_at dksX3_prize_0 20 rfl rfl)
theorem dX3_prize_21 : decode cX3_prize 21 = .ok (.invokevirtual 123, 3) := dk_182 0 123 (dk_at dksX3_prize_0 21 rfl rfl)
theorem dX3_prize_24 : decode cX3_prize 24 = .ok (.goto 5, 3) := dk_167 0 5 (dk_at dksX3_prize_1 0 rfl rfl)
theorem dX3_prize_27 : decode cX3_prize 27 = .ok (.ldc 40, 2) := dk_18 40 (dk_at dksX3_prize_1 3 rfl rfl)
theorem dX3_prize_29 : decode cX3_prize 29 = .ok (.ireturn, 1) := dk_172 (dk_at dksX3_prize_1 5 rfl rfl)
abbrev cX3_read : ByteArray := prog_21_method_63_code
def yX3_read : MethodName := ⟨RX3, "read", "(I)I"⟩
def dkwX3_read_1 : List UInt8 := [167, 0, 5, 18, 40, 172]
abbrev dktX3_read_1 : List UInt8 := dkwX3_read_1 ++ []
def dkwX3_read_0 : List UInt8 := [27, 17, 236, 120, 18, 188, 184, 0, 32, 153, 0, 18, 42, 27, 42, 180, 0, 7, 16, 8, 46, 182, 0, 99]
abbrev dktX3_read_0 : List UInt8 := dkwX3_read_0 ++ dktX3_read_1
theorem dksX3_read_0 : cX3_read.data.toList.drop 0 = dktX3_read_0 := by decide +kernel
theorem dksX3_read_1 : cX3_read.data.toList.drop 24 = dktX3_read_1 := dk_seg dksX3_read_0 24 rfl rfl
theorem dX3_read_0 : decode cX3_read 0 = .ok (.iload_n 1, 1) := dk_27 (dk_at dksX3_read_0 0 rfl rfl)
theorem dX3_read_1 : decode cX3_read 1 = .ok (.sipush (-5000), 3) := dk_17 236 120 (dk_at dksX3_read_0 1 rfl rfl)
theorem dX3_read_4 : decode cX3_read 4 = .ok (.ldc 188, 2) := dk_18 188 (dk_at dksX3_read_0 4 rfl rfl)
theorem dX3_read_6 : decode cX3_read 6 = .ok (.invokestatic 32, 3) := dk_184 0 32 (dk_at dksX3_read_0 6 rfl rfl)
theorem dX3_read_9 : decode cX3_read 9 = .ok (.ifCond .eq 18, 3) := dk_153 0 18 (dk_at dksX3_read_0 9 rfl rfl)
theorem dX3_read_12 : decode cX3_read 12 = .ok (.aload_n 0, 1) := dk_42 (dk_at dksX3_read_0 12 rfl rfl)
theorem dX3_read_13 : decode cX3_read 13 = .ok (.iload_n 1, 1) := dk_27 (dk_at dksX3_read_0 13 rfl rfl)
theorem dX3_read_14 : decode cX3_read 14 = .ok (.aload_n 0, 1) := dk_42 (dk_at dksX3_read_0 14 rfl rfl)
theorem dX3_read_15 : decode cX3_read 15 = .ok (.getfield 7, 3) := dk_180 0 7 (dk_at dksX3_read_0 15 rfl rfl)
theorem dX3_read_18 : decode cX3_read 18 = .ok (.bipush 8, 2) := dk_16 8 (dk_at dksX3_read_0 18 rfl rfl)
theorem dX3_read_20 : decode cX3_read 20 = .ok (.iaload, 1) := dk_46 (dk_at dksX3_read_0 20 rfl rfl)
theorem dX3_read_21 : decode cX3_read 21 = .ok (.invokevirtual 99, 3) := dk_182 0 99 (dk_at dksX3_read_0 21 rfl rfl)
theorem dX3_read_24 : decode cX3_read 24 = .ok (.goto 5, 3) := dk_167 0 5 (dk_at dksX3_read_1 0 rfl rfl)
theorem dX3_read_27 : decode cX3_read 27 = .ok (.ldc 40, 2) := dk_18 40 (dk_at dksX3_read_1 3 rfl rfl)
theorem dX3_read_29 : decode cX3_read 29 = .ok (.ireturn, 1) := dk_172 (dk_at dksX3_read_1 5 rfl rfl)
abbrev cX3_allowed : ByteArray := prog_21_method_64_code
def yX3_allowed : MethodName := ⟨RX3, "allowed", "(III)I"⟩
def dkwX3_allowed_3 : List UInt8 := [167, 0, 14, 42, 180, 0, 60, 42, 180, 0, 54, 100, 4, 96, 172]
abbrev dktX3_allowed_3 : List UInt8 := dkwX3_allowed_3 ++ []
def dkwX3_allowed_2 : List UInt8 := [18, 67, 172, 29, 154, 0, 10, 42, 180, 0, 54, 167, 0, 26, 29, 4, 160, 0, 10, 42, 180, 0, 60]
abbrev dktX3_allowed_2 : List UInt8 := dkwX3_allowed_2 ++ dktX3_allowed_3
def dkwX3_allowed_1 : List UInt8 := [154, 0, 6, 18, 40, 172, 42, 27, 28, 182, 0, 63, 154, 0, 15, 29, 5, 160, 0, 7, 3, 167, 0, 5]
abbrev dktX3_allowed_1 : List UInt8 := dkwX3_allowed_1 ++ dktX3_allowed_2
def dkwX3_allowed_0 : List UInt8 := [27, 3, 18, 188, 184, 0, 32, 153, 0, 19, 28, 184, 0, 68, 153, 0, 12, 29, 3, 5, 184, 0, 32]
abbrev dktX3_allowed_0 : List UInt8 := dkwX3_allowed_0 ++ dktX3_allowed_1
theorem dksX3_allowed_0 : cX3_allowed.data.toList.drop 0 = dktX3_allowed_0 := by decide +kernel
theorem dksX3_allowed_1 : cX3_allowed.data.toList.drop 23 = dktX3_allowed_1 := dk_seg dksX3_allowed_0 23 rfl rfl
theorem dksX3_allowed_2 : cX3_allowed.data.toList.drop 47 = dktX3_allowed_2 := dk_seg dksX3_allowed_1 24 rfl rfl
theorem dksX3_allowed_3 : cX3_allowed.data.toList.drop 70 = dktX3_allowed_3 := dk_seg dksX3_allowed_2 23 rfl rfl
theorem dX3_allowed_0 : decode cX3_allowed 0 = .ok (.iload_n 1, 1) := dk_27 (dk_at dksX3_allowed_0 0 rfl rfl)
theorem dX3_allowed_1 : decode cX3_allowed 1 = .ok (.iconst 0, 1) := dk_3 (dk_at dksX3_allowed_0 1 rfl rfl)
theorem dX3_allowed_2 : decode cX3_allowed 2 = .ok (.ldc 188, 2) := dk_18 188 (dk_at dksX3_allowed_0 2 rfl rfl)
theorem dX3_allowed_4 : decode cX3_allowed 4 = .ok (.invokestatic 32, 3) := dk_184 0 32 (dk_at dksX3_allowed_0 4 rfl rfl)
theorem dX3_allowed_7 : decode cX3_allowed 7 = .ok (.ifCond .eq 19, 3) := dk_153 0 19 (dk_at dksX3_allowed_0 7 rfl rfl)
theorem dX3_allowed_10 : decode cX3_allowed 10 = .ok (.iload_n 2, 1) := dk_28 (dk_at dksX3_allowed_0 10 rfl rfl)
theorem dX3_allowed_11 : decode cX3_allowed 11 = .ok (.invokestatic 68, 3) := dk_184 0 68 (dk_at dksX3_allowed_0 11 rfl rfl)
theorem dX3_allowed_14 : decode cX3_allowed 14 = .ok (.ifCond .eq 12, 3) := dk_153 0 12 (dk_at dksX3_allowed_0 14 rfl rfl)
theorem dX3_allowed_17 : decode cX3_allowed 17 = .ok (.iload_n 3, 1) := dk_29 (dk_at dksX3_allowed_0 17 rfl rfl)
theorem dX3_allowed_18 : decode cX3_allowed 18 = .ok (.iconst 0, 1) := dk_3 (dk_at dksX3_allowed_0 18 rfl rfl)
theorem dX3_allowed_19 : decode cX3_allowed 19 = .ok (.iconst 2, 1) := dk_5 (dk_at dksX3_allowed_0 19 rfl rfl)
theorem dX3_allowed_20 : decode cX3_allowed 20 = .ok (.invokestatic 32, 3) := dk_184 0 32 (dk_at dksX3_allowed_0 20 rfl rfl)
theorem dX3_allowed_23 : decode cX3_allowed 23 = .ok (.ifCond .ne 6, 3) := dk_154 0 6 (dk_at dksX3_allowed_1 0 rfl rfl)
theorem dX3_allowed_26 : decode cX3_allowed 26 = .ok (.ldc 40, 2) := dk_18 40 (dk_at dksX3_allowed_1 3 rfl rfl)
theorem dX3_allowed_28 : decode cX3_allowed 28 = .ok (.ireturn, 1) := dk_172 (dk_at dksX3_allowed_1 5 rfl rfl)
theorem dX3_allowed_29 : decode cX3_allowed 29 = .ok (.aload_n 0, 1) := dk_42 (dk_at dksX3_allowed_1 6 rfl rfl)
theorem dX3_allowed_30 : decode cX3_allowed 30 = .ok (.iload_n 1, 1) := dk_27 (dk_at dksX3_allowed_1 7 rfl rfl)
theorem dX3_allowed_31 : decode cX3_allowed 31 = .ok (.iload_n 2, 1) := dk_28 (dk_at dksX3_allowed_1 8 rfl rfl)
theorem dX3_allowed_32 : decode cX3_allowed 32 = .ok (.invokevirtual 63, 3) := dk_182 0 63 (dk_at dksX3_allowed_1 9 rfl rfl)
theorem dX3_allowed_35 : decode cX3_allowed 35 = .ok (.ifCond .ne 15, 3) := dk_154 0 15 (dk_at dksX3_allowed_1 12 rfl rfl)
theorem dX3_allowed_38 : decode cX3_allowed 38 = .ok (.iload_n 3, 1) := dk_29 (dk_at dksX3_allowed_1 15 rfl rfl)
theorem dX3_allowed_39 : decode cX3_allowed 39 = .ok (.iconst 2, 1) := dk_5 (dk_at dksX3_allowed_1 16 rfl rfl)
theorem dX3_allowed_40 : decode cX3_allowed 40 = .ok (.if_icmp .ne 7, 3) := dk_160 0 7 (dk_at dksX3_allowed_1 17 rfl rfl)
theorem dX3_allowed_43 : decode cX3_allowed 43 = .ok (.iconst 0, 1) := dk_3 (dk_at dksX3_allowed_1 20 rfl rfl)
theorem dX3_allowed_44 : decode cX3_allowed 44 = .ok (.goto 5, 3) := dk_167 0 5 (dk_at dksX3_allowed_1 21 rfl rfl)
theorem dX3_allowed_47 : decode cX3_allowed 47 = .ok (.ldc 67, 2) := dk_18 67 (dk_at dksX3_allowed_2 0 rfl rfl)
theorem dX3_allowed_49 : decode cX3_allowed 49 = .ok (.ireturn, 1) := dk_172 (dk_at dksX3_allowed_2 2 rfl rfl)
theorem dX3_allowed_50 : decode cX3_allowed 50 = .ok (.iload_n 3, 1) := dk_29 (dk_at dksX3_allowed_2 3 rfl rfl)
theorem dX3_allowed_51 : decode cX3_allowed 51 = .ok (.ifCond .ne 10, 3) := dk_154 0 10 (dk_at dksX3_allowed_2 4 rfl rfl)
theorem dX3_allowed_54 : decode cX3_allowed 54 = .ok (.aload_n 0, 1) := dk_42 (dk_at dksX3_allowed_2 7 rfl rfl)
theorem dX3_allowed_55 : decode cX3_allowed 55 = .ok (.getfield 54, 3) := dk_180 0 54 (dk_at dksX3_allowed_2 8 rfl rfl)
theorem dX3_allowed_58 : decode cX3_allowed 58 = .ok (.goto 26, 3) := dk_167 0 26 (dk_at dksX3_allowed_2 11 rfl rfl)
theorem dX3_allowed_61 : decode cX3_allowed 61 = .ok (.iload_n 3, 1) := dk_29 (dk_at dksX3_allowed_2 14 rfl rfl)
theorem dX3_allowed_62 : decode cX3_allowed 62 = .ok (.iconst 1, 1) := dk_4 (dk_at dksX3_allowed_2 15 rfl rfl)
theorem dX3_allowed_63 : decode cX3_allowed 63 = .ok (.if_icmp .ne 10, 3) := dk_160 0 10 (dk_at dksX3_allowed_2 16 rfl rfl)
theorem dX3_allowed_66 : decode cX3_allowed 66 = .ok (.aload_n 0, 1) := dk_42 (dk_at dksX3_allowed_2 19 rfl rfl)
theorem dX3_allowed_67 : decode cX3_allowed 67 = .ok (.getfield 60, 3) := dk_180 0 60 (dk_at dksX3_allowed_2 20 rfl rfl)
theorem dX3_allowed_70 : decode cX3_allowed 70 = .ok (.goto 14, 3) := dk_167 0 14 (dk_at dksX3_allowed_3 0 rfl rfl)
theorem dX3_allowed_73 : decode cX3_allowed 73 = .ok (.aload_n 0, 1) := dk_42 (dk_at dksX3_allowed_3 3 rfl rfl)
theorem dX3_allowed_74 : decode cX3_allowed 74 = .ok (.getfield 60, 3) := dk_180 0 60 (dk_at dksX3_allowed_3 4 rfl rfl)
theorem dX3_allowed_77 : decode cX3_allowed 77 = .ok (.aload_n 0, 1) := dk_42 (dk_at dksX3_allowed_3 7 rfl rfl)
theorem dX3_allowed_78 : decode cX3_allowed 78 = .ok (.getfield 54, 3) := dk_180 0 54 (dk_at dksX3_allowed_3 8 rfl rfl)
theorem dX3_allowed_81 : decode cX3_allowed 81 = .ok (.isub, 1) := dk_100 (dk_at dksX3_allowed_3 11 rfl rfl)
theorem dX3_allowed_82 : decode cX3_allowed 82 = .ok (.iconst 1, 1) := dk_4 (dk_at dksX3_allowed_3 12 rfl rfl)
theorem dX3_allowed_83 : decode cX3_allowed 83 = .ok (.iadd, 1) := dk_96 (dk_at dksX3_allowed_3 13 rfl rfl)
theorem dX3_allowed_84 : decode cX3_allowed 84 = .ok (.ireturn, 1) := dk_172 (dk_at dksX3_allowed_3 14 rfl rfl)
abbrev cX3_guess : ByteArray := prog_21_method_65_code
def yX3_guess : MethodName := ⟨RX3, "guess", "(III)I"⟩
def dkwX3_guess_1 : List UInt8 := [153, 0, 13, 42, 27, 28, 29, 182, 0, 102, 167, 0, 5, 18, 40, 172]
abbrev dktX3_guess_1 : List UInt8 := dkwX3_guess_1 ++ []
def dkwX3_guess_0 : List UInt8 := [27, 3, 18, 188, 184, 0, 32, 153, 0, 29, 28, 184, 0, 68, 153, 0, 22, 29, 3, 6, 184, 0, 32]
abbrev dktX3_guess_0 : List UInt8 := dkwX3_guess_0 ++ dktX3_guess_1
theorem dksX3_guess_0 : cX3_guess.data.toList.drop 0 = dktX3_guess_0 := by decide +kernel
theorem dksX3_guess_1 : cX3_guess.data.toList.drop 23 = dktX3_guess_1 := dk_seg dksX3_guess_0 23 rfl rfl
theorem dX3_guess_0 : decode cX3_guess 0 = .ok (.iload_n 1, 1) := dk_27 (dk_at dksX3_guess_0 0 rfl rfl)
theorem dX3_guess_1 : decode cX3_guess 1 = .ok (.iconst 0, 1) := dk_3 (dk_at dksX3_guess_0 1 rfl rfl)
theorem dX3_guess_2 : decode cX3_guess 2 = .ok (.ldc 188, 2) := dk_18 188 (dk_at dksX3_guess_0 2 rfl rfl)
theorem dX3_guess_4 : decode cX3_guess 4 = .ok (.invokestatic 32, 3) := dk_184 0 32 (dk_at dksX3_guess_0 4 rfl rfl)
theorem dX3_guess_7 : decode cX3_guess 7 = .ok (.ifCond .eq 29, 3) := dk_153 0 29 (dk_at dksX3_guess_0 7 rfl rfl)
theorem dX3_guess_10 : decode cX3_guess 10 = .ok (.iload_n 2, 1) := dk_28 (dk_at dksX3_guess_0 10 rfl rfl)
theorem dX3_guess_11 : decode cX3_guess 11 = .ok (.invokestatic 68, 3) := dk_184 0 68 (dk_at dksX3_guess_0 11 rfl rfl)
theorem dX3_guess_14 : decode cX3_guess 14 = .ok (.ifCond .eq 22, 3) := dk_153 0 22 (dk_at dksX3_guess_0 14 rfl rfl)
theorem dX3_guess_17 : decode cX3_guess 17 = .ok (.iload_n 3, 1) := dk_29 (dk_at dksX3_guess_0 17 rfl rfl)
theorem dX3_guess_18 : decode cX3_guess 18 = .ok (.iconst 0, 1) := dk_3 (dk_at dksX3_guess_0 18 rfl rfl)
theorem dX3_guess_19 : decode cX3_guess 19 = .ok (.iconst 3, 1) := dk_6 (dk_at dksX3_guess_0 19 rfl rfl)
theorem dX3_guess_20 : decode cX3_guess 20 = .ok (.invokestatic 32, 3) := dk_184 0 32 (dk_at dksX3_guess_0 20 rfl rfl)
theorem dX3_guess_23 : decode cX3_guess 23 = .ok (.ifCond .eq 13, 3) := dk_153 0 13 (dk_at dksX3_guess_1 0 rfl rfl)
theorem dX3_guess_26 : decode cX3_guess 26 = .ok (.aload_n 0, 1) := dk_42 (dk_at dksX3_guess_1 3 rfl rfl)
theorem dX3_guess_27 : decode cX3_guess 27 = .ok (.iload_n 1, 1) := dk_27 (dk_at dksX3_guess_1 4 rfl rfl)
theorem dX3_guess_28 : decode cX3_guess 28 = .ok (.iload_n 2, 1) := dk_28 (dk_at dksX3_guess_1 5 rfl rfl)
theorem dX3_guess_29 : decode cX3_guess 29 = .ok (.iload_n 3, 1) := dk_29 (dk_at dksX3_guess_1 6 rfl rfl)
theorem dX3_guess_30 : decode cX3_guess 30 = .ok (.invokevirtual 102, 3) := dk_182 0 102 (dk_at dksX3_guess_1 7 rfl rfl)
theorem dX3_guess_33 : decode cX3_guess 33 = .ok (.goto 5, 3) := dk_167 0 5 (dk_at dksX3_guess_1 10 rfl rfl)
theorem dX3_guess_36 : decode cX3_guess 36 = .ok (.ldc 40, 2) := dk_18 40 (dk_at dksX3_guess_1 13 rfl rfl)
theorem dX3_guess_38 : decode cX3_guess 38 = .ok (.ireturn, 1) := dk_172 (dk_at dksX3_guess_1 15 rfl rfl)
abbrev cX3_apartUpTo : ByteArray := prog_21_method_67_code
def yX3_apartUpTo : MethodName := ⟨RX3, "apartUpTo", "(I)I"⟩
def dkwX3_apartUpTo_1 : List UInt8 := [167, 0, 5, 18, 40, 172]
abbrev dktX3_apartUpTo_1 : List UInt8 := dkwX3_apartUpTo_1 ++ []
def dkwX3_apartUpTo_0 : List UInt8 := [27, 184, 0, 68, 153, 0, 21, 42, 27, 42, 180, 0, 7, 16, 8, 46, 17, 3, 231, 182, 0, 189]
abbrev dktX3_apartUpTo_0 : List UInt8 := dkwX3_apartUpTo_0 ++ dktX3_apartUpTo_1
theorem dksX3_apartUpTo_0 : cX3_apartUpTo.data.toList.drop 0 = dktX3_apartUpTo_0 := by decide +kernel
theorem dksX3_apartUpTo_1 : cX3_apartUpTo.data.toList.drop 22 = dktX3_apartUpTo_1 := dk_seg dksX3_apartUpTo_0 22 rfl rfl
theorem dX3_apartUpTo_0 : decode cX3_apartUpTo 0 = .ok (.iload_n 1, 1) := dk_27 (dk_at dksX3_apartUpTo_0 0 rfl rfl)
theorem dX3_apartUpTo_1 : decode cX3_apartUpTo 1 = .ok (.invokestatic 68, 3) := dk_184 0 68 (dk_at dksX3_apartUpTo_0 1 rfl rfl)
theorem dX3_apartUpTo_4 : decode cX3_apartUpTo 4 = .ok (.ifCond .eq 21, 3) := dk_153 0 21 (dk_at dksX3_apartUpTo_0 4 rfl rfl)
theorem dX3_apartUpTo_7 : decode cX3_apartUpTo 7 = .ok (.aload_n 0, 1) := dk_42 (dk_at dksX3_apartUpTo_0 7 rfl rfl)
theorem dX3_apartUpTo_8 : decode cX3_apartUpTo 8 = .ok (.iload_n 1, 1) := dk_27 (dk_at dksX3_apartUpTo_0 8 rfl rfl)
theorem dX3_apartUpTo_9 : decode cX3_apartUpTo 9 = .ok (.aload_n 0, 1) := dk_42 (dk_at dksX3_apartUpTo_0 9 rfl rfl)
theorem dX3_apartUpTo_10 : decode cX3_apartUpTo 10 = .ok (.getfield 7, 3) := dk_180 0 7 (dk_at dksX3_apartUpTo_0 10 rfl rfl)
theorem dX3_apartUpTo_13 : decode cX3_apartUpTo 13 = .ok (.bipush 8, 2) := dk_16 8 (dk_at dksX3_apartUpTo_0 13 rfl rfl)
theorem dX3_apartUpTo_15 : decode cX3_apartUpTo 15 = .ok (.iaload, 1) := dk_46 (dk_at dksX3_apartUpTo_0 15 rfl rfl)
theorem dX3_apartUpTo_16 : decode cX3_apartUpTo 16 = .ok (.sipush 999, 3) := dk_17 3 231 (dk_at dksX3_apartUpTo_0 16 rfl rfl)
theorem dX3_apartUpTo_19 : decode cX3_apartUpTo 19 = .ok (.invokevirtual 189, 3) := dk_182 0 189 (dk_at dksX3_apartUpTo_0 19 rfl rfl)
theorem dX3_apartUpTo_22 : decode cX3_apartUpTo 22 = .ok (.goto 5, 3) := dk_167 0 5 (dk_at dksX3_apartUpTo_1 0 rfl rfl)
theorem dX3_apartUpTo_25 : decode cX3_apartUpTo 25 = .ok (.ldc 40, 2) := dk_18 40 (dk_at dksX3_apartUpTo_1 3 rfl rfl)
theorem dX3_apartUpTo_27 : decode cX3_apartUpTo 27 = .ok (.ireturn, 1) := dk_172 (dk_at dksX3_apartUpTo_1 5 rfl rfl)
abbrev cX3_apart : ByteArray := prog_21_method_66_code
def yX3_apart : MethodName := ⟨RX3, "apart", "(III)I"⟩
def dkwX3_apart_3 : List UInt8 := [180, 0, 7, 16, 9, 46, 96, 28, 182, 0, 99, 164, 0, 9, 132, 6, 1, 167, 255, 206, 21, 6, 172]
abbrev dktX3_apart_3 : List UInt8 := dkwX3_apart_3 ++ []
def dkwX3_apart_2 : List UInt8 := [21, 4, 104, 42, 180, 0, 7, 16, 9, 46, 100, 28, 182, 0, 99, 42, 21, 6, 21, 5, 104, 42]
abbrev dktX3_apart_2 : List UInt8 := dkwX3_apart_2 ++ dktX3_apart_3
def dkwX3_apart_1 : List UInt8 := [180, 0, 7, 7, 27, 96, 46, 96, 54, 5, 3, 54, 6, 21, 6, 29, 162, 0, 50, 42, 21, 6, 4, 96]
abbrev dktX3_apart_1 : List UInt8 := dkwX3_apart_1 ++ dktX3_apart_2
def dkwX3_apart_0 : List UInt8 := [42, 180, 0, 7, 27, 46, 42, 180, 0, 7, 7, 27, 96, 46, 100, 54, 4, 42, 180, 0, 7, 27, 46, 42]
abbrev dktX3_apart_0 : List UInt8 := dkwX3_apart_0 ++ dktX3_apart_1
theorem dksX3_apart_0 : cX3_apart.data.toList.drop 0 = dktX3_apart_0 := by decide +kernel
theorem dksX3_apart_1 : cX3_apart.data.toList.drop 24 = dktX3_apart_1 := dk_seg dksX3_apart_0 24 rfl rfl
theorem dksX3_apart_2 : cX3_apart.data.toList.drop 48 = dktX3_apart_2 := dk_seg dksX3_apart_1 24 rfl rfl
theorem dksX3_apart_3 : cX3_apart.data.toList.drop 70 = dktX3_apart_3 := dk_seg dksX3_apart_2 22 rfl rfl
theorem dX3_apart_0 : decode cX3_apart 0 = .ok (.aload_n 0, 1) := dk_42 (dk_at dksX3_apart_0 0 rfl rfl)
theorem dX3_apart_1 : decode cX3_apart 1 = .ok (.getfield 7, 3) := dk_180 0 7 (dk_at dksX3_apart_0 1 rfl rfl)
theorem dX3_apart_4 : decode cX3_apart 4 = .ok (.iload_n 1, 1) := dk_27 (dk_at dksX3_apart_0 4 rfl rfl)
theorem dX3_apart_5 : decode cX3_apart 5 = .ok (.iaload, 1) := dk_46 (dk_at dksX3_apart_0 5 rfl rfl)
theorem dX3_apart_6 : decode cX3_apart 6 = .ok (.aload_n 0, 1) := dk_42 (dk_at dksX3_apart_0 6 rfl rfl)
theorem dX3_apart_7 : decode cX3_apart 7 = .ok (.getfield 7, 3) := dk_180 0 7 (dk_at dksX3_apart_0 7 rfl rfl)
theorem dX3_apart_10 : decode cX3_apart 10 = .ok (.iconst 4, 1) := dk_7 (dk_at dksX3_apart_0 10 rfl rfl)
theorem dX3_apart_11 : decode cX3_apart 11 = .ok (.iload_n 1, 1) := dk_27 (dk_at dksX3_apart_0 11 rfl rfl)
theorem dX3_apart_12 : decode cX3_apart 12 = .ok (.iadd, 1) := dk_96 (dk_at dksX3_apart_0 12 rfl rfl)
theorem dX3_apart_13 : decode cX3_apart 13 = .ok (.iaload, 1) := dk_46 (dk_at dksX3_apart_0 13 rfl rfl)
theorem dX3_apart_14 : decode cX3_apart 14 = .ok (.isub, 1) := dk_100 (dk_at dksX3_apart_0 14 rfl rfl)
theorem dX3_apart_15 : decode cX3_apart 15 = .ok (.istore 4, 2) := dk_54 4 (dk_at dksX3_apart_0 15 rfl rfl)
theorem dX3_apart_17 : decode cX3_apart 17 = .ok (.aload_n 0, 1) := dk_42 (dk_at dksX3_apart_0 17 rfl rfl)
theorem dX3_apart_18 : decode cX3_apart 18 = .ok (.getfield 7, 3) := dk_180 0 7 (dk_at dksX3_apart_0 18 rfl rfl)
theorem dX3_apart_21 : decode cX3_apart 21 = .ok (.iload_n 1, 1) := dk_27 (dk_at dksX3_apart_0 21 rfl rfl)
theorem dX3_apart_22 : decode cX3_apart 22 = .ok (.iaload, 1) := dk_46 (dk_at dksX3_apart_0 22 rfl rfl)
theorem dX3_apart_23 : decode cX3_apart 23 = .ok (.aload_n 0, 1) := dk_42 (dk_at dksX3_apart_0 23 rfl rfl)
theorem dX3_apart_24 : decode cX3_apart 24 = .ok (.getfield 7, 3) := dk_180 0 7 (dk_at dksX3_apart_1 0 rfl rfl)
theorem dX3_apart_27 : decode cX3_apart 27 = .ok (.iconst 4, 1) := dk_7 (dk_at dksX3_apart_1 3 rfl rfl)
theorem dX3_apart_28 : decode cX3_apart 28 = .ok (.iload_n 1, 1) := dk_27 (dk_at dksX3_apart_1 4 rfl rfl)
theorem dX3_apart_29 : decode cX3_apart 29 = .ok (.iadd, 1) := dk_96 (dk_at dksX3_apart_1 5 rfl rfl)
theorem dX3_apart_30 : decode cX3_apart 30 = .ok (.iaload, 1) := dk_46 (dk_at dksX3_apart_1 6 rfl rfl)
theorem dX3_apart_31 : decode cX3_apart 31 = .ok (.iadd, 1) := dk_96 (dk_at dksX3_apart_1 7 rfl rfl)
theorem dX3_apart_32 : decode cX3_apart 32 = .ok (.istore 5, 2) := dk_54 5 (dk_at dksX3_apart_1 8 rfl rfl)
theorem dX3_apart_34 : decode cX3_apart 34 = .ok (.iconst 0, 1) := dk_3 (dk_at dksX3_apart_1 10 rfl rfl)
theorem dX3_apart_35 : decode cX3_apart 35 = .ok (.istore 6, 2) := dk_54 6 (dk_at dksX3_apart_1 11 rfl rfl)
theorem dX3_apart_37 : decode cX3_apart 37 = .ok (.iload 6, 2) := dk_21 6 (dk_at dksX3_apart_1 13 rfl rfl)
theorem dX3_apart_39 : decode cX3_apart 39 = .ok (.iload_n 3, 1) := dk_29 (dk_at dksX3_apart_1 15 rfl rfl)
theorem dX3_apart_40 : decode cX3_apart 40 = .ok (.if_icmp .ge 50, 3) := dk_162 0 50 (dk_at dksX3_apart_1 16 rfl rfl)
theorem dX3_apart_43 : decode cX3_apart 43 = .ok (.aload_n 0, 1) := dk_42 (dk_at dksX3_apart_1 19 rfl rfl)
theorem dX3_apart_44 : decode cX3_apart 44 = .ok (.iload 6, 2) := dk_21 6 (dk_at dksX3_apart_1 20 rfl rfl)
theorem dX3_apart_46 : decode cX3_apart 46 = .ok (.iconst 1, 1) := dk_4 (dk_at dksX3_apart_1 22 rfl rfl)
theorem dX3_apart_47 : decode cX3_apart 47 = .ok (.iadd, 1) := dk_96 (dk_at dksX3_apart_1 23 rfl rfl)
theorem dX3_apart_48 : decode cX3_apart 48 = .ok (.iload 4, 2) := dk_21 4 (dk_at dksX3_apart_2 0 rfl rfl)
theorem dX3_apart_50 : decode cX3_apart 50 = .ok (.imul, 1) := dk_104 (dk_at dksX3_apart_2 2 rfl rfl)
theorem dX3_apart_51 : decode cX3_apart 51 = .ok (.aload_n 0, 1) := dk_42 (dk_at dksX3_apart_2 3 rfl rfl)
theorem dX3_apart_52 : decode cX3_apart 52 = .ok (.getfield 7, 3) := dk_180 0 7 (dk_at dksX3_apart_2 4 rfl rfl)
theorem dX3_apart_55 : decode cX3_apart 55 = .ok (.bipush 9, 2) := dk_16 9 (dk_at dksX3_apart_2 7 rfl rfl)
theorem dX3_apart_57 : decode cX3_apart 57 = .ok (.iaload, 1) := dk_46 (dk_at dksX3_apart_2 9 rfl rfl)
theorem dX3_apart_58 : decode cX3_apart 58 = .ok (.isub, 1) := dk_100 (dk_at dksX3_apart_2 10 rfl rfl)
theorem dX3_apart_59 : decode cX3_apart 59 = .ok (.iload_n 2, 1) := dk_28 (dk_at dksX3_apart_2 11 rfl rfl)
theorem dX3_apart_60 : decode cX3_apart 60 = .ok (.invokevirtual 99, 3) := dk_182 0 99 (dk_at dksX3_apart_2 12 rfl rfl)
theorem dX3_apart_63 : decode cX3_apart 63 = .ok (.aload_n 0, 1) := dk_42 (dk_at dksX3_apart_2 15 rfl rfl)
theorem dX3_apart_64 : decode cX3_apart 64 = .ok (.iload 6, 2) := dk_21 6 (dk_at dksX3_apart_2 16 rfl rfl)
theorem dX3_apart_66 : decode cX3_apart 66 = .ok (.iload 5, 2) := dk_21 5 (dk_at dksX3_apart_2 18 rfl rfl)
theorem dX3_apart_68 : decode cX3_apart 68 = .ok (.imul, 1) := dk_104 (dk_at dksX3_apart_2 20 rfl rfl)
theorem dX3_apart_69 : decode cX3_apart 69 = .ok (.aload_n 0, 1) := dk_42 (dk_at dksX3_apart_2 21 rfl rfl)
theorem dX3_apart_70 : decode cX3_apart 70 = .ok (.getfield 7, 3) := dk_180 0 7 (dk_at dksX3_apart_3 0 rfl rfl)
theorem dX3_apart_73 : decode cX3_apart 73 = .ok (.bipush 9, 2) := dk_16 9 (dk_at dksX3_apart_3 3 rfl rfl)
theorem dX3_apart_75 : decode cX3_apart 75 = .ok (.iaload, 1) := dk_46 (dk_at dksX3_apart_3 5 rfl rfl)
theorem dX3_apart_76 : decode cX3_apart 76 = .ok (.iadd, 1) := dk_96 (dk_at dksX3_apart_3 6 rfl rfl)
theorem dX3_apart_77 : decode cX3_apart 77 = .ok (.iload_n 2, 1) := dk_28 (dk_at dksX3_apart_3 7 rfl rfl)
theorem dX3_apart_78 : decode cX3_apart 78 = .ok (.invokevirtual 99, 3) := dk_182 0 99 (dk_at dksX3_apart_3 8 rfl rfl)
theorem dX3_apart_81 : decode cX3_apart 81 = .ok (.if_icmp .le 9, 3) := dk_164 0 9 (dk_at dksX3_apart_3 11 rfl rfl)
theorem dX3_apart_84 : decode cX3_apart 84 = .ok (.iinc 6 1, 3) := dk_132 6 1 (dk_at dksX3_apart_3 14 rfl rfl)
theorem dX3_apart_87 : decode cX3_apart 87 = .ok (.goto (-50), 3) := dk_167 255 206 (dk_at dksX3_apart_3 17 rfl rfl)
theorem dX3_apart_90 : decode cX3_apart 90 = .ok (.iload 6, 2) := dk_21 6 (dk_at dksX3_apart_3 20 rfl rfl)
theorem dX3_apart_92 : decode cX3_apart 92 = .ok (.ireturn, 1) := dk_172 (dk_at dksX3_apart_3 22 rfl rfl)
abbrev cX3_bestStep : ByteArray := prog_21_method_68_code
def yX3_bestStep : MethodName := ⟨RX3, "bestStep", "(II)I"⟩
def dkwX3_bestStep_2 : List UInt8 := [18, 67, 172]
abbrev dktX3_bestStep_2 : List UInt8 := dkwX3_bestStep_2 ++ []
def dkwX3_bestStep_1 : List UInt8 := [29, 158, 0, 22, 42, 27, 29, 28, 182, 0, 189, 28, 160, 0, 5, 29, 172, 132, 3, 255, 167, 255, 236]
abbrev dktX3_bestStep_1 : List UInt8 := dkwX3_bestStep_1 ++ dktX3_bestStep_2
def dkwX3_bestStep_0 : List UInt8 := [27, 184, 0, 68, 153, 0, 13, 28, 3, 16, 99, 184, 0, 32, 154, 0, 6, 18, 40, 172, 17, 3, 232, 62]
abbrev dktX3_bestStep_0 : List UInt8 := dkwX3_bestStep_0 ++ dktX3_bestStep_1
theorem dksX3_bestStep_0 : cX3_bestStep.data.toList.drop 0 = dktX3_bestStep_0 := by decide +kernel
theorem dksX3_bestStep_1 : cX3_bestStep.data.toList.drop 24 = dktX3_bestStep_1 := dk_seg dksX3_bestStep_0 24 rfl rfl
theorem dksX3_bestStep_2 : cX3_bestStep.data.toList.drop 47 = dktX3_bestStep_2 := dk_seg dksX3_bestStep_1 23 rfl rfl
theorem dX3_bestStep_0 : decode cX3_bestStep 0 = .ok (.iload_n 1, 1) := dk_27 (dk_at dksX3_bestStep_0 0 rfl rfl)
theorem dX3_bestStep_1 : decode cX3_bestStep 1 = .ok (.invokestatic 68, 3) := dk_184 0 68 (dk_at dksX3_bestStep_0 1 rfl rfl)
theorem dX3_bestStep_4 : decode cX3_bestStep 4 = .ok (.ifCond .eq 13, 3) := dk_153 0 13 (dk_at dksX3_bestStep_0 4 rfl rfl)
theorem dX3_bestStep_7 : decode cX3_bestStep 7 = .ok (.iload_n 2, 1) := dk_28 (dk_at dksX3_bestStep_0 7 rfl rfl)
theorem dX3_bestStep_8 : decode cX3_bestStep 8 = .ok (.iconst 0, 1) := dk_3 (dk_at dksX3_bestStep_0 8 rfl rfl)
theorem dX3_bestStep_9 : decode cX3_bestStep 9 = .ok (.bipush 99, 2) := dk_16 99 (dk_at dksX3_bestStep_0 9 rfl rfl)
theorem dX3_bestStep_11 : decode cX3_bestStep 11 = .ok (.invokestatic 32, 3) := dk_184 0 32 (dk_at dksX3_bestStep_0 11 rfl rfl)
theorem dX3_bestStep_14 : decode cX3_bestStep 14 = .ok (.ifCond .ne 6, 3) := dk_154 0 6 (dk_at dksX3_bestStep_0 14 rfl rfl)
theorem dX3_bestStep_17 : decode cX3_bestStep 17 = .ok (.ldc 40, 2) := dk_18 40 (dk_at dksX3_bestStep_0 17 rfl rfl)
theorem dX3_bestStep_19 : decode cX3_bestStep 19 = .ok (.ireturn, 1) := dk_172 (dk_at dksX3_bestStep_0 19 rfl rfl)
theorem dX3_bestStep_20 : decode cX3_bestStep 20 = .ok (.sipush 1000, 3) := dk_17 3 232 (dk_at dksX3_bestStep_0 20 rfl rfl)
theorem dX3_bestStep_23 : decode cX3_bestStep 23 = .ok (.istore_n 3, 1) := dk_62 (dk_at dksX3_bestStep_0 23 rfl rfl)
theorem dX3_bestStep_24 : decode cX3_bestStep 24 = .ok (.iload_n 3, 1) := dk_29 (dk_at dksX3_bestStep_1 0 rfl rfl)
theorem dX3_bestStep_25 : decode cX3_bestStep 25 = .ok (.ifCond .le 22, 3) := dk_158 0 22 (dk_at dksX3_bestStep_1 1 rfl rfl)
theorem dX3_bestStep_28 : decode cX3_bestStep 28 = .ok (.aload_n 0, 1) := dk_42 (dk_at dksX3_bestStep_1 4 rfl rfl)
theorem dX3_bestStep_29 : decode cX3_bestStep 29 = .ok (.iload_n 1, 1) := dk_27 (dk_at dksX3_bestStep_1 5 rfl rfl)
theorem dX3_bestStep_30 : decode cX3_bestStep 30 = .ok (.iload_n 3, 1) := dk_29 (dk_at dksX3_bestStep_1 6 rfl rfl)
theorem dX3_bestStep_31 : decode cX3_bestStep 31 = .ok (.iload_n 2, 1) := dk_28 (dk_at dksX3_bestStep_1 7 rfl rfl)
theorem dX3_bestStep_32 : decode cX3_bestStep 32 = .ok (.invokevirtual 189, 3) := dk_182 0 189 (dk_at dksX3_bestStep_1 8 rfl rfl)
theorem dX3_bestStep_35 : decode cX3_bestStep 35 = .ok (.iload_n 2, 1) := dk_28 (dk_at dksX3_bestStep_1 11 rfl rfl)
theorem dX3_bestStep_36 : decode cX3_bestStep 36 = .ok (.if_icmp .ne 5, 3) := dk_160 0 5 (dk_at dksX3_bestStep_1 12 rfl rfl)
theorem dX3_bestStep_39 : decode cX3_bestStep 39 = .ok (.iload_n 3, 1) := dk_29 (dk_at dksX3_bestStep_1 15 rfl rfl)
theorem dX3_bestStep_40 : decode cX3_bestStep 40 = .ok (.ireturn, 1) := dk_172 (dk_at dksX3_bestStep_1 16 rfl rfl)
theorem dX3_bestStep_41 : decode cX3_bestStep 41 = .ok (.iinc 3 (-1), 3) := dk_132 3 255 (dk_at dksX3_bestStep_1 17 rfl rfl)
theorem dX3_bestStep_44 : decode cX3_bestStep 44 = .ok (.goto (-20), 3) := dk_167 255 236 (dk_at dksX3_bestStep_1 20 rfl rfl)
theorem dX3_bestStep_47 : decode cX3_bestStep 47 = .ok (.ldc 67, 2) := dk_18 67 (dk_at dksX3_bestStep_2 0 rfl rfl)
theorem dX3_bestStep_49 : decode cX3_bestStep 49 = .ok (.ireturn, 1) := dk_172 (dk_at dksX3_bestStep_2 2 rfl rfl)
abbrev cX3_mixed : ByteArray := prog_21_method_70_code
def yX3_mixed : MethodName := ⟨RX3, "mixed", "(IIII)I"⟩
def dkwX3_mixed_6 : List UInt8 := [160, 0, 8, 21, 6, 167, 0, 5, 21, 7, 172]
abbrev dktX3_mixed_6 : List UInt8 := dkwX3_mixed_6 ++ []
def dkwX3_mixed_5 : List UInt8 := [167, 255, 206, 132, 8, 1, 167, 255, 190, 21, 4, 154, 0, 8, 21, 5, 167, 0, 16, 21, 4, 4]
abbrev dktX3_mixed_5 : List UInt8 := dkwX3_mixed_5 ++ dktX3_mixed_6
def dkwX3_mixed_4 : List UInt8 := [21, 6, 18, 67, 160, 0, 8, 21, 8, 167, 0, 5, 21, 6, 54, 6, 21, 8, 54, 7, 132, 9, 1]
abbrev dktX3_mixed_4 : List UInt8 := dkwX3_mixed_4 ++ dktX3_mixed_5
def dkwX3_mixed_3 : List UInt8 := [163, 0, 49, 42, 27, 21, 9, 28, 21, 8, 21, 9, 100, 29, 182, 0, 192, 153, 0, 26, 132, 5, 1]
abbrev dktX3_mixed_3 : List UInt8 := dkwX3_mixed_3 ++ dktX3_mixed_4
def dkwX3_mixed_2 : List UInt8 := [54, 6, 18, 67, 54, 7, 3, 54, 8, 21, 8, 16, 60, 163, 0, 65, 3, 54, 9, 21, 9, 21, 8]
abbrev dktX3_mixed_2 : List UInt8 := dkwX3_mixed_2 ++ dktX3_mixed_3
def dkwX3_mixed_1 : List UInt8 := [21, 4, 3, 5, 184, 0, 32, 153, 0, 8, 27, 28, 160, 0, 6, 18, 40, 172, 3, 54, 5, 18, 67]
abbrev dktX3_mixed_1 : List UInt8 := dkwX3_mixed_1 ++ dktX3_mixed_2
def dkwX3_mixed_0 : List UInt8 := [27, 184, 0, 68, 153, 0, 35, 28, 184, 0, 68, 153, 0, 28, 29, 3, 18, 188, 184, 0, 32, 153, 0, 18]
abbrev dktX3_mixed_0 : List UInt8 := dkwX3_mixed_0 ++ dktX3_mixed_1
theorem dksX3_mixed_0 : cX3_mixed.data.toList.drop 0 = dktX3_mixed_0 := by decide +kernel
theorem dksX3_mixed_1 : cX3_mixed.data.toList.drop 24 = dktX3_mixed_1 := dk_seg dksX3_mixed_0 24 rfl rfl
theorem dksX3_mixed_2 : cX3_mixed.data.toList.drop 47 = dktX3_mixed_2 := dk_seg dksX3_mixed_1 23 rfl rfl
theorem dksX3_mixed_3 : cX3_mixed.data.toList.drop 70 = dktX3_mixed_3 := dk_seg dksX3_mixed_2 23 rfl rfl
theorem dksX3_mixed_4 : cX3_mixed.data.toList.drop 93 = dktX3_mixed_4 := dk_seg dksX3_mixed_3 23 rfl rfl
theorem dksX3_mixed_5 : cX3_mixed.data.toList.drop 116 = dktX3_mixed_5 := dk_seg dksX3_mixed_4 23 rfl rfl
theorem dksX3_mixed_6 : cX3_mixed.data.toList.drop 138 = dktX3_mixed_6 := dk_seg dksX3_mixed_5 22 rfl rfl
theorem dX3_mixed_0 : decode cX3_mixed 0 = .ok (.iload_n 1, 1) := dk_27 (dk_at dksX3_mixed_0 0 rfl rfl)
theorem dX3_mixed_1 : decode cX3_mixed 1 = .ok (.invokestatic 68, 3) := dk_184 0 68 (dk_at dksX3_mixed_0 1 rfl rfl)
theorem dX3_mixed_4 : decode cX3_mixed 4 = .ok (.ifCond .eq 35, 3) := dk_153 0 35 (dk_at dksX3_mixed_0 4 rfl rfl)
theorem dX3_mixed_7 : decode cX3_mixed 7 = .ok (.iload_n 2, 1) := dk_28 (dk_at dksX3_mixed_0 7 rfl rfl)
theorem dX3_mixed_8 : decode cX3_mixed 8 = .ok (.invokestatic 68, 3) := dk_184 0 68 (dk_at dksX3_mixed_0 8 rfl rfl)
theorem dX3_mixed_11 : decode cX3_mixed 11 = .ok (.ifCond .eq 28, 3) := dk_153 0 28 (dk_at dksX3_mixed_0 11 rfl rfl)
theorem dX3_mixed_14 : decode cX3_mixed 14 = .ok (.iload_n 3, 1) := dk_29 (dk_at dksX3_mixed_0 14 rfl rfl)
theorem dX3_mixed_15 : decode cX3_mixed 15 = .ok (.iconst 0, 1) := dk_3 (dk_at dksX3_mixed_0 15 rfl rfl)
theorem dX3_mixed_16 : decode cX3_mixed 16 = .ok (.ldc 188, 2) := dk_18 188 (dk_at dksX3_mixed_0 16 rfl rfl)
theorem dX3_mixed_18 : decode cX3_mixed 18 = .ok (.invokestatic 32, 3) := dk_184 0 32 (dk_at dksX3_mixed_0 18 rfl rfl)
theorem dX3_mixed_21 : decode cX3_mixed 21 = .ok (.ifCond .eq 18, 3) := dk_153 0 18 (dk_at dksX3_mixed_0 21 rfl rfl)
theorem dX3_mixed_24 : decode cX3_mixed 24 = .ok (.iload 4, 2) := dk_21 4 (dk_at dksX3_mixed_1 0 rfl rfl)
theorem dX3_mixed_26 : decode cX3_mixed 26 = .ok (.iconst 0, 1) := dk_3 (dk_at dksX3_mixed_1 2 rfl rfl)
theorem dX3_mixed_27 : decode cX3_mixed 27 = .ok (.iconst 2, 1) := dk_5 (dk_at dksX3_mixed_1 3 rfl rfl)
theorem dX3_mixed_28 : decode cX3_mixed 28 = .ok (.invokestatic 32, 3) := dk_184 0 32 (dk_at dksX3_mixed_1 4 rfl rfl)
theorem dX3_mixed_31 : decode cX3_mixed 31 = .ok (.ifCond .eq 8, 3) := dk_153 0 8 (dk_at dksX3_mixed_1 7 rfl rfl)
theorem dX3_mixed_34 : decode cX3_mixed 34 = .ok (.iload_n 1, 1) := dk_27 (dk_at dksX3_mixed_1 10 rfl rfl)
theorem dX3_mixed_35 : decode cX3_mixed 35 = .ok (.iload_n 2, 1) := dk_28 (dk_at dksX3_mixed_1 11 rfl rfl)
theorem dX3_mixed_36 : decode cX3_mixed 36 = .ok (.if_icmp .ne 6, 3) := dk_160 0 6 (dk_at dksX3_mixed_1 12 rfl rfl)
theorem dX3_mixed_39 : decode cX3_mixed 39 = .ok (.ldc 40, 2) := dk_18 40 (dk_at dksX3_mixed_1 15 rfl rfl)
theorem dX3_mixed_41 : decode cX3_mixed 41 = .ok (.ireturn, 1) := dk_172 (dk_at dksX3_mixed_1 17 rfl rfl)
theorem dX3_mixed_42 : decode cX3_mixed 42 = .ok (.iconst 0, 1) := dk_3 (dk_at dksX3_mixed_1 18 rfl rfl)
theorem dX3_mixed_43 : decode cX3_mixed 43 = .ok (.istore 5, 2) := dk_54 5 (dk_at dksX3_mixed_1 19 rfl rfl)
theorem dX3_mixed_45 : decode cX3_mixed 45 = .ok (.ldc 67, 2) := dk_18 67 (dk_at dksX3_mixed_1 21 rfl rfl)
theorem dX3_mixed_47 : decode cX3_mixed 47 = .ok (.istore 6, 2) := dk_54 6 (dk_at dksX3_mixed_2 0 rfl rfl)
theorem dX3_mixed_49 : decode cX3_mixed 49 = .ok (.ldc 67, 2) := dk_18 67 (dk_at dksX3_mixed_2 2 rfl rfl)
theorem dX3_mixed_51 : decode cX3_mixed 51 = .ok (.istore 7, 2) := dk_54 7 (dk_at dksX3_mixed_2 4 rfl rfl)
theorem dX3_mixed_53 : decode cX3_mixed 53 = .ok (.iconst 0, 1) := dk_3 (dk_at dksX3_mixed_2 6 rfl rfl)
theorem dX3_mixed_54 : decode cX3_mixed 54 = .ok (.istore 8, 2) := dk_54 8 (dk_at dksX3_mixed_2 7 rfl rfl)
theorem dX3_mixed_56 : decode cX3_mixed 56 = .ok (.iload 8, 2) := dk_21 8 (dk_at dksX3_mixed_2 9 rfl rfl)
theorem dX3_mixed_58 : decode cX3_mixed 58 = .ok (.bipush 60, 2) := dk_16 60 (dk_at dksX3_mixed_2 11 rfl rfl)
theorem dX3_mixed_60 : decode cX3_mixed 60 = .ok (.if_icmp .gt 65, 3) := dk_163 0 65 (dk_at dksX3_mixed_2 13 rfl rfl)
theorem dX3_mixed_63 : decode cX3_mixed 63 = .ok (.iconst 0, 1) := dk_3 (dk_at dksX3_mixed_2 16 rfl rfl)
theorem dX3_mixed_64 : decode cX3_mixed 64 = .ok (.istore 9, 2) := dk_54 9 (dk_at dksX3_mixed_2 17 rfl rfl)
theorem dX3_mixed_66 : decode cX3_mixed 66 = .ok (.iload 9, 2) := dk_21 9 (dk_at dksX3_mixed_2 19 rfl rfl)
theorem dX3_mixed_68 : decode cX3_mixed 68 = .ok (.iload 8, 2) := dk_21 8 (dk_at dksX3_mixed_2 21 rfl rfl)
theorem dX3_mixed_70 : decode cX3_mixed 70 = .ok (.if_icmp .gt 49, 3) := dk_163 0 49 (dk_at dksX3_mixed_3 0 rfl rfl)
theorem dX3_mixed_73 : decode cX3_mixed 73 = .ok (.aload_n 0, 1) := dk_42 (dk_at dksX3_mixed_3 3 rfl rfl)
theorem dX3_mixed_74 : decode cX3_mixed 74 = .ok (.iload_n 1, 1) := dk_27 (dk_at dksX3_mixed_3 4 rfl rfl)
theorem dX3_mixed_75 : decode cX3_mixed 75 = .ok (.iload 9, 2) := dk_21 9 (dk_at dksX3_mixed_3 5 rfl rfl)
theorem dX3_mixed_77 : decode cX3_mixed 77 = .ok (.iload_n 2, 1) := dk_28 (dk_at dksX3_mixed_3 7 rfl rfl)
theorem dX3_mixed_78 : decode cX3_mixed 78 = .ok (.iload 8, 2) := dk_21 8 (dk_at dksX3_mixed_3 8 rfl rfl)
theorem dX3_mixed_80 : decode cX3_mixed 80 = .ok (.iload 9, 2) := dk_21 9 (dk_at dksX3_mixed_3 10 rfl rfl)
theorem dX3_mixed_82 : decode cX3_mixed 82 = .ok (.isub, 1) := dk_100 (dk_at dksX3_mixed_3 12 rfl rfl)
theorem dX3_mixed_83 : decode cX3_mixed 83 = .ok (.iload_n 3, 1) := dk_29 (dk_at dksX3_mixed_3 13 rfl rfl)
theorem dX3_mixed_84 : decode cX3_mixed 84 = .ok (.invokevirtual 192, 3) := dk_182 0 192 (dk_at dksX3_mixed_3 14 rfl rfl)
theorem dX3_mixed_87 : decode cX3_mixed 87 = .ok (.ifCond .eq 26, 3) := dk_153 0 26 (dk_at dksX3_mixed_3 17 rfl rfl)
theorem dX3_mixed_90 : decode cX3_mixed 90 = .ok (.iinc 5 1, 3) := dk_132 5 1 (dk_at dksX3_mixed_3 20 rfl rfl)
theorem dX3_mixed_93 : decode cX3_mixed 93 = .ok (.iload 6, 2) := dk_21 6 (dk_at dksX3_mixed_4 0 rfl rfl)
theorem dX3_mixed_95 : decode cX3_mixed 95 = .ok (.ldc 67, 2) := dk_18 67 (dk_at dksX3_mixed_4 2 rfl rfl)
theorem dX3_mixed_97 : decode cX3_mixed 97 = .ok (.if_icmp .ne 8, 3) := dk_160 0 8 (dk_at dksX3_mixed_4 4 rfl rfl)
theorem dX3_mixed_100 : decode cX3_mixed 100 = .ok (.iload 8, 2) := dk_21 8 (dk_at dksX3_mixed_4 7 rfl rfl)
theorem dX3_mixed_102 : decode cX3_mixed 102 = .ok (.goto 5, 3) := dk_167 0 5 (dk_at dksX3_mixed_4 9 rfl rfl)
theorem dX3_mixed_105 : decode cX3_mixed 105 = .ok (.iload 6, 2) := dk_21 6 (dk_at dksX3_mixed_4 12 rfl rfl)
theorem dX3_mixed_107 : decode cX3_mixed 107 = .ok (.istore 6, 2) := dk_54 6 (dk_at dksX3_mixed_4 14 rfl rfl)
theorem dX3_mixed_109 : decode cX3_mixed 109 = .ok (.iload 8, 2) := dk_21 8 (dk_at dksX3_mixed_4 16 rfl rfl)
theorem dX3_mixed_111 : decode cX3_mixed 111 = .ok (.istore 7, 2) := dk_54 7 (dk_at dksX3_mixed_4 18 rfl rfl)
theorem dX3_mixed_113 : decode cX3_mixed 113 = .ok (.iinc 9 1, 3) := dk_132 9 1 (dk_at dksX3_mixed_4 20 rfl rfl)
theorem dX3_mixed_116 : decode cX3_mixed 116 = .ok (.goto (-50), 3) := dk_167 255 206 (dk_at dksX3_mixed_5 0 rfl rfl)
theorem dX3_mixed_119 : decode cX3_mixed 119 = .ok (.iinc 8 1, 3) := dk_132 8 1 (dk_at dksX3_mixed_5 3 rfl rfl)
theorem dX3_mixed_122 : decode cX3_mixed 122 = .ok (.goto (-66), 3) := dk_167 255 190 (dk_at dksX3_mixed_5 6 rfl rfl)
theorem dX3_mixed_125 : decode cX3_mixed 125 = .ok (.iload 4, 2) := dk_21 4 (dk_at dksX3_mixed_5 9 rfl rfl)
theorem dX3_mixed_127 : decode cX3_mixed 127 = .ok (.ifCond .ne 8, 3) := dk_154 0 8 (dk_at dksX3_mixed_5 11 rfl rfl)
theorem dX3_mixed_130 : decode cX3_mixed 130 = .ok (.iload 5, 2) := dk_21 5 (dk_at dksX3_mixed_5 14 rfl rfl)
theorem dX3_mixed_132 : decode cX3_mixed 132 = .ok (.goto 16, 3) := dk_167 0 16 (dk_at dksX3_mixed_5 16 rfl rfl)
theorem dX3_mixed_135 : decode cX3_mixed 135 = .ok (.iload 4, 2) := dk_21 4 (dk_at dksX3_mixed_5 19 rfl rfl)
theorem dX3_mixed_137 : decode cX3_mixed 137 = .ok (.iconst 1, 1) := dk_4 (dk_at dksX3_mixed_5 21 rfl rfl)
theorem dX3_mixed_138 : decode cX3_mixed 138 = .ok (.if_icmp .ne 8, 3) := dk_160 0 8 (dk_at dksX3_mixed_6 0 rfl rfl)
theorem dX3_mixed_141 : decode cX3_mixed 141 = .ok (.iload 6, 2) := dk_21 6 (dk_at dksX3_mixed_6 3 rfl rfl)
theorem dX3_mixed_143 : decode cX3_mixed 143 = .ok (.goto 5, 3) := dk_167 0 5 (dk_at dksX3_mixed_6 5 rfl rfl)
theorem dX3_mixed_146 : decode cX3_mixed 146 = .ok (.iload 7, 2) := dk_21 7 (dk_at dksX3_mixed_6 8 rfl rfl)
theorem dX3_mixed_148 : decode cX3_mixed 148 = .ok (.ireturn, 1) := dk_172 (dk_at dksX3_mixed_6 10 rfl rfl)
abbrev cX3_mixes : ByteArray := prog_21_method_69_code
def yX3_mixes : MethodName := ⟨RX3, "mixes", "(IIIII)Z"⟩
def dkwX3_mixes_5 : List UInt8 := [21, 5, 182, 0, 50, 161, 0, 7, 4, 167, 0, 4, 3, 172]
abbrev dktX3_mixes_5 : List UInt8 := dkwX3_mixes_5 ++ []
def dkwX3_mixes_4 : List UInt8 := [180, 0, 7, 16, 8, 46, 112, 154, 0, 29, 21, 6, 42, 21, 5, 182, 0, 57, 163, 0, 18, 21, 7, 42]
abbrev dktX3_mixes_4 : List UInt8 := dkwX3_mixes_4 ++ dktX3_mixes_5
def dkwX3_mixes_3 : List UInt8 := [180, 0, 7, 7, 29, 96, 46, 96, 104, 96, 42, 180, 0, 7, 16, 9, 46, 96, 54, 7, 21, 5, 42]
abbrev dktX3_mixes_3 : List UInt8 := dkwX3_mixes_3 ++ dktX3_mixes_4
def dkwX3_mixes_2 : List UInt8 := [180, 0, 7, 27, 46, 42, 180, 0, 7, 7, 27, 96, 46, 96, 104, 21, 4, 42, 180, 0, 7, 29, 46, 42]
abbrev dktX3_mixes_2 : List UInt8 := dkwX3_mixes_2 ++ dktX3_mixes_3
def dkwX3_mixes_1 : List UInt8 := [46, 42, 180, 0, 7, 7, 29, 96, 46, 100, 104, 96, 42, 180, 0, 7, 16, 9, 46, 100, 54, 6, 28, 42]
abbrev dktX3_mixes_1 : List UInt8 := dkwX3_mixes_1 ++ dktX3_mixes_2
def dkwX3_mixes_0 : List UInt8 := [28, 42, 180, 0, 7, 27, 46, 42, 180, 0, 7, 7, 27, 96, 46, 100, 104, 21, 4, 42, 180, 0, 7, 29]
abbrev dktX3_mixes_0 : List UInt8 := dkwX3_mixes_0 ++ dktX3_mixes_1
theorem dksX3_mixes_0 : cX3_mixes.data.toList.drop 0 = dktX3_mixes_0 := by decide +kernel
theorem dksX3_mixes_1 : cX3_mixes.data.toList.drop 24 = dktX3_mixes_1 := dk_seg dksX3_mixes_0 24 rfl rfl
theorem dksX3_mixes_2 : cX3_mixes.data.toList.drop 48 = dktX3_mixes_2 := dk_seg dksX3_mixes_1 24 rfl rfl
theorem dksX3_mixes_3 : cX3_mixes.data.toList.drop 72 = dktX3_mixes_3 := dk_seg dksX3_mixes_2 24 rfl rfl
theorem dksX3_mixes_4 : cX3_mixes.data.toList.drop 95 = dktX3_mixes_4 := dk_seg dksX3_mixes_3 23 rfl rfl
theorem dksX3_mixes_5 : cX3_mixes.data.toList.drop 119 = dktX3_mixes_5 := dk_seg dksX3_mixes_4 24 rfl rfl
theorem dX3_mixes_0 : decode cX3_mixes 0 = .ok (.iload_n 2, 1) := dk_28 (dk_at dksX3_mixes_0 0 rfl rfl)
theorem dX3_mixes_1 : decode cX3_mixes 1 = .ok (.aload_n 0, 1) := dk_42 (dk_at dksX3_mixes_0 1 rfl rfl)
theorem dX3_mixes_2 : decode cX3_mixes 2 = .ok (.getfield 7, 3) := dk_180 0 7 (dk_at dksX3_mixes_0 2 rfl rfl)
theorem dX3_mixes_5 : decode cX3_mixes 5 = .ok (.iload_n 1, 1) := dk_27 (dk_at dksX3_mixes_0 5 rfl rfl)
theorem dX3_mixes_6 : decode cX3_mixes 6 = .ok (.iaload, 1) := dk_46 (dk_at dksX3_mixes_0 6 rfl rfl)
theorem dX3_mixes_7 : decode cX3_mixes 7 = .ok (.aload_n 0, 1) := dk_42 (dk_at dksX3_mixes_0 7 rfl rfl)
theorem dX3_mixes_8 : decode cX3_mixes 8 = .ok (.getfield 7, 3) := dk_180 0 7 (dk_at dksX3_mixes_0 8 rfl rfl)
theorem dX3_mixes_11 : decode cX3_mixes 11 = .ok (.iconst 4, 1) := dk_7 (dk_at dksX3_mixes_0 11 rfl rfl)
theorem dX3_mixes_12 : decode cX3_mixes 12 = .ok (.iload_n 1, 1) := dk_27 (dk_at dksX3_mixes_0 12 rfl rfl)
theorem dX3_mixes_13 : decode cX3_mixes 13 = .ok (.iadd, 1) := dk_96 (dk_at dksX3_mixes_0 13 rfl rfl)
theorem dX3_mixes_14 : decode cX3_mixes 14 = .ok (.iaload, 1) := dk_46 (dk_at dksX3_mixes_0 14 rfl rfl)
theorem dX3_mixes_15 : decode cX3_mixes 15 = .ok (.isub, 1) := dk_100 (dk_at dksX3_mixes_0 15 rfl rfl)
theorem dX3_mixes_16 : decode cX3_mixes 16 = .ok (.imul, 1) := dk_104 (dk_at dksX3_mixes_0 16 rfl rfl)
theorem dX3_mixes_17 : decode cX3_mixes 17 = .ok (.iload 4, 2) := dk_21 4 (dk_at dksX3_mixes_0 17 rfl rfl)
theorem dX3_mixes_19 : decode cX3_mixes 19 = .ok (.aload_n 0, 1) := dk_42 (dk_at dksX3_mixes_0 19 rfl rfl)
theorem dX3_mixes_20 : decode cX3_mixes 20 = .ok (.getfield 7, 3) := dk_180 0 7 (dk_at dksX3_mixes_0 20 rfl rfl)
theorem dX3_mixes_23 : decode cX3_mixes 23 = .ok (.iload_n 3, 1) := dk_29 (dk_at dksX3_mixes_0 23 rfl rfl)
theorem dX3_mixes_24 : decode cX3_mixes 24 = .ok (.iaload, 1) := dk_46 (dk_at dksX3_mixes_1 0 rfl rfl)
theorem dX3_mixes_25 : decode cX3_mixes 25 = .ok (.aload_n 0, 1) := dk_42 (dk_at dksX3_mixes_1 1 rfl rfl)
theorem dX3_mixes_26 : decode cX3_mixes 26 = .ok (.getfield 7, 3) := dk_180 0 7 (dk_at dksX3_mixes_1 2 rfl rfl)
theorem dX3_mixes_29 : decode cX3_mixes 29 = .ok (.iconst 4, 1) := dk_7 (dk_at dksX3_mixes_1 5 rfl rfl)
theorem dX3_mixes_30 : decode cX3_mixes 30 = .ok (.iload_n 3, 1) := dk_29 (dk_at dksX3_mixes_1 6 rfl rfl)
theorem dX3_mixes_31 : decode cX3_mixes 31 = .ok (.iadd, 1) := dk_96 (dk_at dksX3_mixes_1 7 rfl rfl)
theorem dX3_mixes_32 : decode cX3_mixes 32 = .ok (.iaload, 1) := dk_46 (dk_at dksX3_mixes_1 8 rfl rfl)
theorem dX3_mixes_33 : decode cX3_mixes 33 = .ok (.isub, 1) := dk_100 (dk_at dksX3_mixes_1 9 rfl rfl)
theorem dX3_mixes_34 : decode cX3_mixes 34 = .ok (.imul, 1) := dk_104 (dk_at dksX3_mixes_1 10 rfl rfl)
theorem dX3_mixes_35 : decode cX3_mixes 35 = .ok (.iadd, 1) := dk_96 (dk_at dksX3_mixes_1 11 rfl rfl)
theorem dX3_mixes_36 : decode cX3_mixes 36 = .ok (.aload_n 0, 1) := dk_42 (dk_at dksX3_mixes_1 12 rfl rfl)
theorem dX3_mixes_37 : decode cX3_mixes 37 = .ok (.getfield 7, 3) := dk_180 0 7 (dk_at dksX3_mixes_1 13 rfl rfl)
theorem dX3_mixes_40 : decode cX3_mixes 40 = .ok (.bipush 9, 2) := dk_16 9 (dk_at dksX3_mixes_1 16 rfl rfl)
theorem dX3_mixes_42 : decode cX3_mixes 42 = .ok (.iaload, 1) := dk_46 (dk_at dksX3_mixes_1 18 rfl rfl)
theorem dX3_mixes_43 : decode cX3_mixes 43 = .ok (.isub, 1) := dk_100 (dk_at dksX3_mixes_1 19 rfl rfl)
theorem dX3_mixes_44 : decode cX3_mixes 44 = .ok (.istore 6, 2) := dk_54 6 (dk_at dksX3_mixes_1 20 rfl rfl)
theorem dX3_mixes_46 : decode cX3_mixes 46 = .ok (.iload_n 2, 1) := dk_28 (dk_at dksX3_mixes_1 22 rfl rfl)
theorem dX3_mixes_47 : decode cX3_mixes 47 = .ok (.aload_n 0, 1) := dk_42 (dk_at dksX3_mixes_1 23 rfl rfl)
theorem dX3_mixes_48 : decode cX3_mixes 48 = .ok (.getfield 7, 3) := dk_180 0 7 (dk_at dksX3_mixes_2 0 rfl rfl)
theorem dX3_mixes_51 : decode cX3_mixes 51 = .ok (.iload_n 1, 1) := dk_27 (dk_at dksX3_mixes_2 3 rfl rfl)
theorem dX3_mixes_52 : decode cX3_mixes 52 = .ok (.iaload, 1) := dk_46 (dk_at dksX3_mixes_2 4 rfl rfl)
theorem dX3_mixes_53 : decode cX3_mixes 53 = .ok (.aload_n 0, 1) := dk_42 (dk_at dksX3_mixes_2 5 rfl rfl)
theorem dX3_mixes_54 : decode cX3_mixes 54 = .ok (.getfield 7, 3) := dk_180 0 7 (dk_at dksX3_mixes_2 6 rfl rfl)
theorem dX3_mixes_57 : decode cX3_mixes 57 = .ok (.iconst 4, 1) := dk_7 (dk_at dksX3_mixes_2 9 rfl rfl)
theorem dX3_mixes_58 : decode cX3_mixes 58 = .ok (.iload_n 1, 1) := dk_27 (dk_at dksX3_mixes_2 10 rfl rfl)
theorem dX3_mixes_59 : decode cX3_mixes 59 = .ok (.iadd, 1) := dk_96 (dk_at dksX3_mixes_2 11 rfl rfl)
theorem dX3_mixes_60 : decode cX3_mixes 60 = .ok (.iaload, 1) := dk_46 (dk_at dksX3_mixes_2 12 rfl rfl)
theorem dX3_mixes_61 : decode cX3_mixes 61 = .ok (.iadd, 1) := dk_96 (dk_at dksX3_mixes_2 13 rfl rfl)
theorem dX3_mixes_62 : decode cX3_mixes 62 = .ok (.imul, 1) := dk_104 (dk_at dksX3_mixes_2 14 rfl rfl)
theorem dX3_mixes_63 : decode cX3_mixes 63 = .ok (.iload 4, 2) := dk_21 4 (dk_at dksX3_mixes_2 15 rfl rfl)
theorem dX3_mixes_65 : decode cX3_mixes 65 = .ok (.aload_n 0, 1) := dk_42 (dk_at dksX3_mixes_2 17 rfl rfl)
theorem dX3_mixes_66 : decode cX3_mixes 66 = .ok (.getfield 7, 3) := dk_180 0 7 (dk_at dksX3_mixes_2 18 rfl rfl)
theorem dX3_mixes_69 : decode cX3_mixes 69 = .ok (.iload_n 3, 1) := dk_29 (dk_at dksX3_mixes_2 21 rfl rfl)
theorem dX3_mixes_70 : decode cX3_mixes 70 = .ok (.iaload, 1) := dk_46 (dk_at dksX3_mixes_2 22 rfl rfl)
theorem dX3_mixes_71 : decode cX3_mixes 71 = .ok (.aload_n 0, 1) := dk_42 (dk_at dksX3_mixes_2 23 rfl rfl)
theorem dX3_mixes_72 : decode cX3_mixes 72 = .ok (.getfield 7, 3) := dk_180 0 7 (dk_at dksX3_mixes_3 0 rfl rfl)
theorem dX3_mixes_75 : decode cX3_mixes 75 = .ok (.iconst 4, 1) := dk_7 (dk_at dksX3_mixes_3 3 rfl rfl)
theorem dX3_mixes_76 : decode cX3_mixes 76 = .ok (.iload_n 3, 1) := dk_29 (dk_at dksX3_mixes_3 4 rfl rfl)
theorem dX3_mixes_77 : decode cX3_mixes 77 = .ok (.iadd, 1) := dk_96 (dk_at dksX3_mixes_3 5 rfl rfl)
theorem dX3_mixes_78 : decode cX3_mixes 78 = .ok (.iaload, 1) := dk_46 (dk_at dksX3_mixes_3 6 rfl rfl)
theorem dX3_mixes_79 : decode cX3_mixes 79 = .ok (.iadd, 1) := dk_96 (dk_at dksX3_mixes_3 7 rfl rfl)
theorem dX3_mixes_80 : decode cX3_mixes 80 = .ok (.imul, 1) := dk_104 (dk_at dksX3_mixes_3 8 rfl rfl)
theorem dX3_mixes_81 : decode cX3_mixes 81 = .ok (.iadd, 1) := dk_96 (dk_at dksX3_mixes_3 9 rfl rfl)
theorem dX3_mixes_82 : decode cX3_mixes 82 = .ok (.aload_n 0, 1) := dk_42 (dk_at dksX3_mixes_3 10 rfl rfl)
theorem dX3_mixes_83 : decode cX3_mixes 83 = .ok (.getfield 7, 3) := dk_180 0 7 (dk_at dksX3_mixes_3 11 rfl rfl)
theorem dX3_mixes_86 : decode cX3_mixes 86 = .ok (.bipush 9, 2) := dk_16 9 (dk_at dksX3_mixes_3 14 rfl rfl)
theorem dX3_mixes_88 : decode cX3_mixes 88 = .ok (.iaload, 1) := dk_46 (dk_at dksX3_mixes_3 16 rfl rfl)
theorem dX3_mixes_89 : decode cX3_mixes 89 = .ok (.iadd, 1) := dk_96 (dk_at dksX3_mixes_3 17 rfl rfl)
theorem dX3_mixes_90 : decode cX3_mixes 90 = .ok (.istore 7, 2) := dk_54 7 (dk_at dksX3_mixes_3 18 rfl rfl)
theorem dX3_mixes_92 : decode cX3_mixes 92 = .ok (.iload 5, 2) := dk_21 5 (dk_at dksX3_mixes_3 20 rfl rfl)
theorem dX3_mixes_94 : decode cX3_mixes 94 = .ok (.aload_n 0, 1) := dk_42 (dk_at dksX3_mixes_3 22 rfl rfl)
theorem dX3_mixes_95 : decode cX3_mixes 95 = .ok (.getfield 7, 3) := dk_180 0 7 (dk_at dksX3_mixes_4 0 rfl rfl)
theorem dX3_mixes_98 : decode cX3_mixes 98 = .ok (.bipush 8, 2) := dk_16 8 (dk_at dksX3_mixes_4 3 rfl rfl)
theorem dX3_mixes_100 : decode cX3_mixes 100 = .ok (.iaload, 1) := dk_46 (dk_at dksX3_mixes_4 5 rfl rfl)
theorem dX3_mixes_101 : decode cX3_mixes 101 = .ok (.irem, 1) := dk_112 (dk_at dksX3_mixes_4 6 rfl rfl)
theorem dX3_mixes_102 : decode cX3_mixes 102 = .ok (.ifCond .ne 29, 3) := dk_154 0 29 (dk_at dksX3_mixes_4 7 rfl rfl)
theorem dX3_mixes_105 : decode cX3_mixes 105 = .ok (.iload 6, 2) := dk_21 6 (dk_at dksX3_mixes_4 10 rfl rfl)
theorem dX3_mixes_107 : decode cX3_mixes 107 = .ok (.aload_n 0, 1) := dk_42 (dk_at dksX3_mixes_4 12 rfl rfl)
theorem dX3_mixes_108 : decode cX3_mixes 108 = .ok (.iload 5, 2) := dk_21 5 (dk_at dksX3_mixes_4 13 rfl rfl)
theorem dX3_mixes_110 : decode cX3_mixes 110 = .ok (.invokevirtual 57, 3) := dk_182 0 57 (dk_at dksX3_mixes_4 15 rfl rfl)
theorem dX3_mixes_113 : decode cX3_mixes 113 = .ok (.if_icmp .gt 18, 3) := dk_163 0 18 (dk_at dksX3_mixes_4 18 rfl rfl)
theorem dX3_mixes_116 : decode cX3_mixes 116 = .ok (.iload 7, 2) := dk_21 7 (dk_at dksX3_mixes_4 21 rfl rfl)
theorem dX3_mixes_118 : decode cX3_mixes 118 = .ok (.aload_n 0, 1) := dk_42 (dk_at dksX3_mixes_4 23 rfl rfl)
theorem dX3_mixes_119 : decode cX3_mixes 119 = .ok (.iload 5, 2) := dk_21 5 (dk_at dksX3_mixes_5 0 rfl rfl)
theorem dX3_mixes_121 : decode cX3_mixes 121 = .ok (.invokevirtual 50, 3) := dk_182 0 50 (dk_at dksX3_mixes_5 2 rfl rfl)
theorem dX3_mixes_124 : decode cX3_mixes 124 = .ok (.if_icmp .lt 7, 3) := dk_161 0 7 (dk_at dksX3_mixes_5 5 rfl rfl)
theorem dX3_mixes_127 : decode cX3_mixes 127 = .ok (.iconst 1, 1) := dk_4 (dk_at dksX3_mixes_5 8 rfl rfl)
theorem dX3_mixes_128 : decode cX3_mixes 128 = .ok (.goto 4, 3) := dk_167 0 4 (dk_at dksX3_mixes_5 9 rfl rfl)
theorem dX3_mixes_131 : decode cX3_mixes 131 = .ok (.iconst 0, 1) := dk_3 (dk_at dksX3_mixes_5 12 rfl rfl)
theorem dX3_mixes_132 : decode cX3_mixes 132 = .ok (.ireturn, 1) := dk_172 (dk_at dksX3_mixes_5 13 rfl rfl)
abbrev cX3_would : ByteArray := prog_21_method_72_code
def yX3_would : MethodName := ⟨RX3, "would", "(I)I"⟩
def dkwX3_would_1 : List UInt8 := [18, 67, 167, 0, 7, 18, 115, 28, 96, 172]
abbrev dktX3_would_1 : List UInt8 := dkwX3_would_1 ++ []
def dkwX3_would_0 : List UInt8 := [27, 3, 6, 184, 0, 32, 154, 0, 6, 18, 40, 172, 42, 27, 182, 0, 196, 61, 28, 18, 67, 160, 0, 8]
abbrev dktX3_would_0 : List UInt8 := dkwX3_would_0 ++ dktX3_would_1
theorem dksX3_would_0 : cX3_would.data.toList.drop 0 = dktX3_would_0 := by decide +kernel
theorem dksX3_would_1 : cX3_would.data.toList.drop 24 = dktX3_would_1 := dk_seg dksX3_would_0 24 rfl rfl
theorem dX3_would_0 : decode cX3_would 0 = .ok (.iload_n 1, 1) := dk_27 (dk_at dksX3_would_0 0 rfl rfl)
theorem dX3_would_1 : decode cX3_would 1 = .ok (.iconst 0, 1) := dk_3 (dk_at dksX3_would_0 1 rfl rfl)
theorem dX3_would_2 : decode cX3_would 2 = .ok (.iconst 3, 1) := dk_6 (dk_at dksX3_would_0 2 rfl rfl)
theorem dX3_would_3 : decode cX3_would 3 = .ok (.invokestatic 32, 3) := dk_184 0 32 (dk_at dksX3_would_0 3 rfl rfl)
theorem dX3_would_6 : decode cX3_would 6 = .ok (.ifCond .ne 6, 3) := dk_154 0 6 (dk_at dksX3_would_0 6 rfl rfl)
theorem dX3_would_9 : decode cX3_would 9 = .ok (.ldc 40, 2) := dk_18 40 (dk_at dksX3_would_0 9 rfl rfl)
theorem dX3_would_11 : decode cX3_would 11 = .ok (.ireturn, 1) := dk_172 (dk_at dksX3_would_0 11 rfl rfl)
theorem dX3_would_12 : decode cX3_would 12 = .ok (.aload_n 0, 1) := dk_42 (dk_at dksX3_would_0 12 rfl rfl)
theorem dX3_would_13 : decode cX3_would 13 = .ok (.iload_n 1, 1) := dk_27 (dk_at dksX3_would_0 13 rfl rfl)
theorem dX3_would_14 : decode cX3_would 14 = .ok (.invokevirtual 196, 3) := dk_182 0 196 (dk_at dksX3_would_0 14 rfl rfl)
theorem dX3_would_17 : decode cX3_would 17 = .ok (.istore_n 2, 1) := dk_61 (dk_at dksX3_would_0 17 rfl rfl)
theorem dX3_would_18 : decode cX3_would 18 = .ok (.iload_n 2, 1) := dk_28 (dk_at dksX3_would_0 18 rfl rfl)
theorem dX3_would_19 : decode cX3_would 19 = .ok (.ldc 67, 2) := dk_18 67 (dk_at dksX3_would_0 19 rfl rfl)
theorem dX3_would_21 : decode cX3_would 21 = .ok (.if_icmp .ne 8, 3) := dk_160 0 8 (dk_at dksX3_would_0 21 rfl rfl)
theorem dX3_would_24 : decode cX3_would 24 = .ok (.ldc 67, 2) := dk_18 67 (dk_at dksX3_would_1 0 rfl rfl)
theorem dX3_would_26 : decode cX3_would 26 = .ok (.goto 7, 3) := dk_167 0 7 (dk_at dksX3_would_1 2 rfl rfl)
theorem dX3_would_29 : decode cX3_would 29 = .ok (.ldc 115, 2) := dk_18 115 (dk_at dksX3_would_1 5 rfl rfl)
theorem dX3_would_31 : decode cX3_would 31 = .ok (.iload_n 2, 1) := dk_28 (dk_at dksX3_would_1 7 rfl rfl)
theorem dX3_would_32 : decode cX3_would 32 = .ok (.iadd, 1) := dk_96 (dk_at dksX3_would_1 8 rfl rfl)
theorem dX3_would_33 : decode cX3_would 33 = .ok (.ireturn, 1) := dk_172 (dk_at dksX3_would_1 9 rfl rfl)
abbrev cX3_given : ByteArray := prog_21_method_71_code
def yX3_given : MethodName := ⟨RX3, "given", "(I)I"⟩
def dkwX3_given_3 : List UInt8 := [167, 255, 191, 28, 172]
abbrev dktX3_given_3 : List UInt8 := dkwX3_given_3 ++ []
def dkwX3_given_2 : List UInt8 := [18, 67, 160, 0, 6, 18, 67, 172, 28, 21, 4, 42, 29, 6, 182, 0, 96, 100, 96, 61, 132, 3, 1]
abbrev dktX3_given_2 : List UInt8 := dkwX3_given_2 ++ dktX3_given_3
def dkwX3_given_1 : List UInt8 := [160, 0, 44, 42, 42, 29, 7, 182, 0, 96, 42, 29, 5, 182, 0, 96, 27, 182, 0, 102, 54, 4, 21, 4]
abbrev dktX3_given_1 : List UInt8 := dkwX3_given_1 ++ dktX3_given_2
def dkwX3_given_0 : List UInt8 := [3, 61, 3, 62, 29, 42, 180, 0, 7, 16, 14, 46, 162, 0, 60, 42, 29, 4, 182, 0, 96, 4]
abbrev dktX3_given_0 : List UInt8 := dkwX3_given_0 ++ dktX3_given_1
theorem dksX3_given_0 : cX3_given.data.toList.drop 0 = dktX3_given_0 := by decide +kernel
theorem dksX3_given_1 : cX3_given.data.toList.drop 22 = dktX3_given_1 := dk_seg dksX3_given_0 22 rfl rfl
theorem dksX3_given_2 : cX3_given.data.toList.drop 46 = dktX3_given_2 := dk_seg dksX3_given_1 24 rfl rfl
theorem dksX3_given_3 : cX3_given.data.toList.drop 69 = dktX3_given_3 := dk_seg dksX3_given_2 23 rfl rfl
theorem dX3_given_0 : decode cX3_given 0 = .ok (.iconst 0, 1) := dk_3 (dk_at dksX3_given_0 0 rfl rfl)
theorem dX3_given_1 : decode cX3_given 1 = .ok (.istore_n 2, 1) := dk_61 (dk_at dksX3_given_0 1 rfl rfl)
theorem dX3_given_2 : decode cX3_given 2 = .ok (.iconst 0, 1) := dk_3 (dk_at dksX3_given_0 2 rfl rfl)
theorem dX3_given_3 : decode cX3_given 3 = .ok (.istore_n 3, 1) := dk_62 (dk_at dksX3_given_0 3 rfl rfl)
theorem dX3_given_4 : decode cX3_given 4 = .ok (.iload_n 3, 1) := dk_29 (dk_at dksX3_given_0 4 rfl rfl)
theorem dX3_given_5 : decode cX3_given 5 = .ok (.aload_n 0, 1) := dk_42 (dk_at dksX3_given_0 5 rfl rfl)
theorem dX3_given_6 : decode cX3_given 6 = .ok (.getfield 7, 3) := dk_180 0 7 (dk_at dksX3_given_0 6 rfl rfl)
theorem dX3_given_9 : decode cX3_given 9 = .ok (.bipush 14, 2) := dk_16 14 (dk_at dksX3_given_0 9 rfl rfl)
theorem dX3_given_11 : decode cX3_given 11 = .ok (.iaload, 1) := dk_46 (dk_at dksX3_given_0 11 rfl rfl)
theorem dX3_given_12 : decode cX3_given 12 = .ok (.if_icmp .ge 60, 3) := dk_162 0 60 (dk_at dksX3_given_0 12 rfl rfl)
theorem dX3_given_15 : decode cX3_given 15 = .ok (.aload_n 0, 1) := dk_42 (dk_at dksX3_given_0 15 rfl rfl)
theorem dX3_given_16 : decode cX3_given 16 = .ok (.iload_n 3, 1) := dk_29 (dk_at dksX3_given_0 16 rfl rfl)
theorem dX3_given_17 : decode cX3_given 17 = .ok (.iconst 1, 1) := dk_4 (dk_at dksX3_given_0 17 rfl rfl)
theorem dX3_given_18 : decode cX3_given 18 = .ok (.invokevirtual 96, 3) := dk_182 0 96 (dk_at dksX3_given_0 18 rfl rfl)
theorem dX3_given_21 : decode cX3_given 21 = .ok (.iconst 1, 1) := dk_4 (dk_at dksX3_given_0 21 rfl rfl)
theorem dX3_given_22 : decode cX3_given 22 = .ok (.if_icmp .ne 44, 3) := dk_160 0 44 (dk_at dksX3_given_1 0 rfl rfl)
theorem dX3_given_25 : decode cX3_given 25 = .ok (.aload_n 0, 1) := dk_42 (dk_at dksX3_given_1 3 rfl rfl)
theorem dX3_given_26 : decode cX3_given 26 = .ok (.aload_n 0, 1) := dk_42 (dk_at dksX3_given_1 4 rfl rfl)
theorem dX3_given_27 : decode cX3_given 27 = .ok (.iload_n 3, 1) := dk_29 (dk_at dksX3_given_1 5 rfl rfl)
theorem dX3_given_28 : decode cX3_given 28 = .ok (.iconst 4, 1) := dk_7 (dk_at dksX3_given_1 6 rfl rfl)
theorem dX3_given_29 : decode cX3_given 29 = .ok (.invokevirtual 96, 3) := dk_182 0 96 (dk_at dksX3_given_1 7 rfl rfl)
theorem dX3_given_32 : decode cX3_given 32 = .ok (.aload_n 0, 1) := dk_42 (dk_at dksX3_given_1 10 rfl rfl)
theorem dX3_given_33 : decode cX3_given 33 = .ok (.iload_n 3, 1) := dk_29 (dk_at dksX3_given_1 11 rfl rfl)
theorem dX3_given_34 : decode cX3_given 34 = .ok (.iconst 2, 1) := dk_5 (dk_at dksX3_given_1 12 rfl rfl)
theorem dX3_given_35 : decode cX3_given 35 = .ok (.invokevirtual 96, 3) := dk_182 0 96 (dk_at dksX3_given_1 13 rfl rfl)
theorem dX3_given_38 : decode cX3_given 38 = .ok (.iload_n 1, 1) := dk_27 (dk_at dksX3_given_1 16 rfl rfl)
theorem dX3_given_39 : decode cX3_given 39 = .ok (.invokevirtual 102, 3) := dk_182 0 102 (dk_at dksX3_given_1 17 rfl rfl)
theorem dX3_given_42 : decode cX3_given 42 = .ok (.istore 4, 2) := dk_54 4 (dk_at dksX3_given_1 20 rfl rfl)
theorem dX3_given_44 : decode cX3_given 44 = .ok (.iload 4, 2) := dk_21 4 (dk_at dksX3_given_1 22 rfl rfl)
theorem dX3_given_46 : decode cX3_given 46 = .ok (.ldc 67, 2) := dk_18 67 (dk_at dksX3_given_2 0 rfl rfl)
theorem dX3_given_48 : decode cX3_given 48 = .ok (.if_icmp .ne 6, 3) := dk_160 0 6 (dk_at dksX3_given_2 2 rfl rfl)
theorem dX3_given_51 : decode cX3_given 51 = .ok (.ldc 67, 2) := dk_18 67 (dk_at dksX3_given_2 5 rfl rfl)
theorem dX3_given_53 : decode cX3_given 53 = .ok (.ireturn, 1) := dk_172 (dk_at dksX3_given_2 7 rfl rfl)
theorem dX3_given_54 : decode cX3_given 54 = .ok (.iload_n 2, 1) := dk_28 (dk_at dksX3_given_2 8 rfl rfl)
theorem dX3_given_55 : decode cX3_given 55 = .ok (.iload 4, 2) := dk_21 4 (dk_at dksX3_given_2 9 rfl rfl)
theorem dX3_given_57 : decode cX3_given 57 = .ok (.aload_n 0, 1) := dk_42 (dk_at dksX3_given_2 11 rfl rfl)
theorem dX3_given_58 : decode cX3_given 58 = .ok (.iload_n 3, 1) := dk_29 (dk_at dksX3_given_2 12 rfl rfl)
theorem dX3_given_59 : decode cX3_given 59 = .ok (.iconst 3, 1) := dk_6 (dk_at dksX3_given_2 13 rfl rfl)
theorem dX3_given_60 : decode cX3_given 60 = .ok (.invokevirtual 96, 3) := dk_182 0 96 (dk_at dksX3_given_2 14 rfl rfl)
theorem dX3_given_63 : decode cX3_given 63 = .ok (.isub, 1) := dk_100 (dk_at dksX3_given_2 17 rfl rfl)
theorem dX3_given_64 : decode cX3_given 64 = .ok (.iadd, 1) := dk_96 (dk_at dksX3_given_2 18 rfl rfl)
theorem dX3_given_65 : decode cX3_given 65 = .ok (.istore_n 2, 1) := dk_61 (dk_at dksX3_given_2 19 rfl rfl)
theorem dX3_given_66 : decode cX3_given 66 = .ok (.iinc 3 1, 3) := dk_132 3 1 (dk_at dksX3_given_2 20 rfl rfl)
theorem dX3_given_69 : decode cX3_given 69 = .ok (.goto (-65), 3) := dk_167 255 191 (dk_at dksX3_given_3 0 rfl rfl)
theorem dX3_given_72 : decode cX3_given 72 = .ok (.iload_n 2, 1) := dk_28 (dk_at dksX3_given_3 3 rfl rfl)
theorem dX3_given_73 : decode cX3_given 73 = .ok (.ireturn, 1) := dk_172 (dk_at dksX3_given_3 4 rfl rfl)
abbrev cX3_fairest : ByteArray := prog_21_method_73_code
def yX3_fairest : MethodName := ⟨RX3, "fairest", "()I"⟩
def dkwX3_fairest_2 : List UInt8 := [28, 167, 0, 4, 27, 60, 132, 2, 1, 167, 255, 204, 27, 172]
abbrev dktX3_fairest_2 : List UInt8 := dkwX3_fairest_2 ++ []
def dkwX3_fairest_1 : List UInt8 := [172, 27, 18, 67, 159, 0, 20, 29, 3, 184, 0, 109, 42, 27, 182, 0, 196, 3, 184, 0, 109, 162, 0, 7]
abbrev dktX3_fairest_1 : List UInt8 := dkwX3_fairest_1 ++ dktX3_fairest_2
def dkwX3_fairest_0 : List UInt8 := [18, 67, 60, 3, 61, 28, 7, 162, 0, 53, 42, 28, 182, 0, 196, 62, 29, 18, 67, 160, 0, 6, 18, 67]
abbrev dktX3_fairest_0 : List UInt8 := dkwX3_fairest_0 ++ dktX3_fairest_1
theorem dksX3_fairest_0 : cX3_fairest.data.toList.drop 0 = dktX3_fairest_0 := by decide +kernel
theorem dksX3_fairest_1 : cX3_fairest.data.toList.drop 24 = dktX3_fairest_1 := dk_seg dksX3_fairest_0 24 rfl rfl
theorem dksX3_fairest_2 : cX3_fairest.data.toList.drop 48 = dktX3_fairest_2 := dk_seg dksX3_fairest_1 24 rfl rfl
theorem dX3_fairest_0 : decode cX3_fairest 0 = .ok (.ldc 67, 2) := dk_18 67 (dk_at dksX3_fairest_0 0 rfl rfl)
theorem dX3_fairest_2 : decode cX3_fairest 2 = .ok (.istore_n 1, 1) := dk_60 (dk_at dksX3_fairest_0 2 rfl rfl)
theorem dX3_fairest_3 : decode cX3_fairest 3 = .ok (.iconst 0, 1) := dk_3 (dk_at dksX3_fairest_0 3 rfl rfl)
theorem dX3_fairest_4 : decode cX3_fairest 4 = .ok (.istore_n 2, 1) := dk_61 (dk_at dksX3_fairest_0 4 rfl rfl)
theorem dX3_fairest_5 : decode cX3_fairest 5 = .ok (.iload_n 2, 1) := dk_28 (dk_at dksX3_fairest_0 5 rfl rfl)
theorem dX3_fairest_6 : decode cX3_fairest 6 = .ok (.iconst 4, 1) := dk_7 (dk_at dksX3_fairest_0 6 rfl rfl)
theorem dX3_fairest_7 : decode cX3_fairest 7 = .ok (.if_icmp .ge 53, 3) := dk_162 0 53 (dk_at dksX3_fairest_0 7 rfl rfl)
theorem dX3_fairest_10 : decode cX3_fairest 10 = .ok (.aload_n 0, 1) := dk_42 (dk_at dksX3_fairest_0 10 rfl rfl)
theorem dX3_fairest_11 : decode cX3_fairest 11 = .ok (.iload_n 2, 1) := dk_28 (dk_at dksX3_fairest_0 11 rfl rfl)
theorem dX3_fairest_12 : decode cX3_fairest 12 = .ok (.invokevirtual 196, 3) := dk_182 0 196 (dk_at dksX3_fairest_0 12 rfl rfl)
theorem dX3_fairest_15 : decode cX3_fairest 15 = .ok (.istore_n 3, 1) := dk_62 (dk_at dksX3_fairest_0 15 rfl rfl)
theorem dX3_fairest_16 : decode cX3_fairest 16 = .ok (.iload_n 3, 1) := dk_29 (dk_at dksX3_fairest_0 16 rfl rfl)
theorem dX3_fairest_17 : decode cX3_fairest 17 = .ok (.ldc 67, 2) := dk_18 67 (dk_at dksX3_fairest_0 17 rfl rfl)
theorem dX3_fairest_19 : decode cX3_fairest 19 = .ok (.if_icmp .ne 6, 3) := dk_160 0 6 (dk_at dksX3_fairest_0 19 rfl rfl)
theorem dX3_fairest_22 : decode cX3_fairest 22 = .ok (.ldc 67, 2) := dk_18 67 (dk_at dksX3_fairest_0 22 rfl rfl)
theorem dX3_fairest_24 : decode cX3_fairest 24 = .ok (.ireturn, 1) := dk_172 (dk_at dksX3_fairest_1 0 rfl rfl)
theorem dX3_fairest_25 : decode cX3_fairest 25 = .ok (.iload_n 1, 1) := dk_27 (dk_at dksX3_fairest_1 1 rfl rfl)
theorem dX3_fairest_26 : decode cX3_fairest 26 = .ok (.ldc 67, 2) := dk_18 67 (dk_at dksX3_fairest_1 2 rfl rfl)
theorem dX3_fairest_28 : decode cX3_fairest 28 = .ok (.if_icmp .eq 20, 3) := dk_159 0 20 (dk_at dksX3_fairest_1 4 rfl rfl)
theorem dX3_fairest_31 : decode cX3_fairest 31 = .ok (.iload_n 3, 1) := dk_29 (dk_at dksX3_fairest_1 7 rfl rfl)
theorem dX3_fairest_32 : decode cX3_fairest 32 = .ok (.iconst 0, 1) := dk_3 (dk_at dksX3_fairest_1 8 rfl rfl)
theorem dX3_fairest_33 : decode cX3_fairest 33 = .ok (.invokestatic 109, 3) := dk_184 0 109 (dk_at dksX3_fairest_1 9 rfl rfl)
theorem dX3_fairest_36 : decode cX3_fairest 36 = .ok (.aload_n 0, 1) := dk_42 (dk_at dksX3_fairest_1 12 rfl rfl)
theorem dX3_fairest_37 : decode cX3_fairest 37 = .ok (.iload_n 1, 1) := dk_27 (dk_at dksX3_fairest_1 13 rfl rfl)
theorem dX3_fairest_38 : decode cX3_fairest 38 = .ok (.invokevirtual 196, 3) := dk_182 0 196 (dk_at dksX3_fairest_1 14 rfl rfl)
theorem dX3_fairest_41 : decode cX3_fairest 41 = .ok (.iconst 0, 1) := dk_3 (dk_at dksX3_fairest_1 17 rfl rfl)
theorem dX3_fairest_42 : decode cX3_fairest 42 = .ok (.invokestatic 109, 3) := dk_184 0 109 (dk_at dksX3_fairest_1 18 rfl rfl)
theorem dX3_fairest_45 : decode cX3_fairest 45 = .ok (.if_icmp .ge 7, 3) := dk_162 0 7 (dk_at dksX3_fairest_1 21 rfl rfl)
theorem dX3_fairest_48 : decode cX3_fairest 48 = .ok (.iload_n 2, 1) := dk_28 (dk_at dksX3_fairest_2 0 rfl rfl)
theorem dX3_fairest_49 : decode cX3_fairest 49 = .ok (.goto 4, 3) := dk_167 0 4 (dk_at dksX3_fairest_2 1 rfl rfl)
theorem dX3_fairest_52 : decode cX3_fairest 52 = .ok (.iload_n 1, 1) := dk_27 (dk_at dksX3_fairest_2 4 rfl rfl)
theorem dX3_fairest_53 : decode cX3_fairest 53 = .ok (.istore_n 1, 1) := dk_60 (dk_at dksX3_fairest_2 5 rfl rfl)
theorem dX3_fairest_54 : decode cX3_fairest 54 = .ok (.iinc 2 1, 3) := dk_132 2 1 (dk_at dksX3_fairest_2 6 rfl rfl)
theorem dX3_fairest_57 : decode cX3_fairest 57 = .ok (.goto (-52), 3) := dk_167 255 204 (dk_at dksX3_fairest_2 9 rfl rfl)
theorem dX3_fairest_60 : decode cX3_fairest 60 = .ok (.iload_n 1, 1) := dk_27 (dk_at dksX3_fairest_2 12 rfl rfl)
theorem dX3_fairest_61 : decode cX3_fairest 61 = .ok (.ireturn, 1) := dk_172 (dk_at dksX3_fairest_2 13 rfl rfl)
abbrev cX3_soldOut : ByteArray := prog_21_method_74_code
def yX3_soldOut : MethodName := ⟨RX3, "soldOut", "(I)I"⟩
def dkwX3_soldOut_4 : List UInt8 := [167, 255, 203, 18, 67, 172]
abbrev dktX3_soldOut_4 : List UInt8 := dkwX3_soldOut_4 ++ []
def dkwX3_soldOut_3 : List UInt8 := [27, 6, 182, 0, 123, 108, 21, 4, 184, 0, 128, 61, 29, 42, 27, 6, 182, 0, 123, 112, 62, 132, 5, 1]
abbrev dktX3_soldOut_3 : List UInt8 := dkwX3_soldOut_3 ++ dktX3_soldOut_4
def dkwX3_soldOut_2 : List UInt8 := [162, 0, 51, 28, 154, 0, 6, 21, 5, 172, 29, 42, 27, 4, 182, 0, 123, 96, 62, 28, 4, 100, 29, 42]
abbrev dktX3_soldOut_2 : List UInt8 := dkwX3_soldOut_2 ++ dktX3_soldOut_3
def dkwX3_soldOut_1 : List UInt8 := [62, 42, 27, 7, 182, 0, 123, 42, 27, 4, 182, 0, 123, 108, 54, 4, 3, 54, 5, 21, 5, 17, 3, 232]
abbrev dktX3_soldOut_1 : List UInt8 := dkwX3_soldOut_1 ++ dktX3_soldOut_2
def dkwX3_soldOut_0 : List UInt8 := [42, 27, 182, 0, 120, 154, 0, 6, 18, 40, 172, 42, 27, 5, 182, 0, 123, 61, 42, 27, 8, 182, 0, 123]
abbrev dktX3_soldOut_0 : List UInt8 := dkwX3_soldOut_0 ++ dktX3_soldOut_1
theorem dksX3_soldOut_0 : cX3_soldOut.data.toList.drop 0 = dktX3_soldOut_0 := by decide +kernel
theorem dksX3_soldOut_1 : cX3_soldOut.data.toList.drop 24 = dktX3_soldOut_1 := dk_seg dksX3_soldOut_0 24 rfl rfl
theorem dksX3_soldOut_2 : cX3_soldOut.data.toList.drop 48 = dktX3_soldOut_2 := dk_seg dksX3_soldOut_1 24 rfl rfl
theorem dksX3_soldOut_3 : cX3_soldOut.data.toList.drop 72 = dktX3_soldOut_3 := dk_seg dksX3_soldOut_2 24 rfl rfl
theorem dksX3_soldOut_4 : cX3_soldOut.data.toList.drop 96 = dktX3_soldOut_4 := dk_seg dksX3_soldOut_3 24 rfl rfl
theorem dX3_soldOut_0 : decode cX3_soldOut 0 = .ok (.aload_n 0, 1) := dk_42 (dk_at dksX3_soldOut_0 0 rfl rfl)
theorem dX3_soldOut_1 : decode cX3_soldOut 1 = .ok (.iload_n 1, 1) := dk_27 (dk_at dksX3_soldOut_0 1 rfl rfl)
theorem dX3_soldOut_2 : decode cX3_soldOut 2 = .ok (.invokevirtual 120, 3) := dk_182 0 120 (dk_at dksX3_soldOut_0 2 rfl rfl)
theorem dX3_soldOut_5 : decode cX3_soldOut 5 = .ok (.ifCond .ne 6, 3) := dk_154 0 6 (dk_at dksX3_soldOut_0 5 rfl rfl)
theorem dX3_soldOut_8 : decode cX3_soldOut 8 = .ok (.ldc 40, 2) := dk_18 40 (dk_at dksX3_soldOut_0 8 rfl rfl)
theorem dX3_soldOut_10 : decode cX3_soldOut 10 = .ok (.ireturn, 1) := dk_172 (dk_at dksX3_soldOut_0 10 rfl rfl)
theorem dX3_soldOut_11 : decode cX3_soldOut 11 = .ok (.aload_n 0, 1) := dk_42 (dk_at dksX3_soldOut_0 11 rfl rfl)
theorem dX3_soldOut_12 : decode cX3_soldOut 12 = .ok (.iload_n 1, 1) := dk_27 (dk_at dksX3_soldOut_0 12 rfl rfl)
theorem dX3_soldOut_13 : decode cX3_soldOut 13 = .ok (.iconst 2, 1) := dk_5 (dk_at dksX3_soldOut_0 13 rfl rfl)
theorem dX3_soldOut_14 : decode cX3_soldOut 14 = .ok (.invokevirtual 123, 3) := dk_182 0 123 (dk_at dksX3_soldOut_0 14 rfl rfl)
theorem dX3_soldOut_17 : decode cX3_soldOut 17 = .ok (.istore_n 2, 1) := dk_61 (dk_at dksX3_soldOut_0 17 rfl rfl)
theorem dX3_soldOut_18 : decode cX3_soldOut 18 = .ok (.aload_n 0, 1) := dk_42 (dk_at dksX3_soldOut_0 18 rfl rfl)
theorem dX3_soldOut_19 : decode cX3_soldOut 19 = .ok (.iload_n 1, 1) := dk_27 (dk_at dksX3_soldOut_0 19 rfl rfl)
theorem dX3_soldOut_20 : decode cX3_soldOut 20 = .ok (.iconst 5, 1) := dk_8 (dk_at dksX3_soldOut_0 20 rfl rfl)
theorem dX3_soldOut_21 : decode cX3_soldOut 21 = .ok (.invokevirtual 123, 3) := dk_182 0 123 (dk_at dksX3_soldOut_0 21 rfl rfl)
theorem dX3_soldOut_24 : decode cX3_soldOut 24 = .ok (.istore_n 3, 1) := dk_62 (dk_at dksX3_soldOut_1 0 rfl rfl)
theorem dX3_soldOut_25 : decode cX3_soldOut 25 = .ok (.aload_n 0, 1) := dk_42 (dk_at dksX3_soldOut_1 1 rfl rfl)
theorem dX3_soldOut_26 : decode cX3_soldOut 26 = .ok (.iload_n 1, 1) := dk_27 (dk_at dksX3_soldOut_1 2 rfl rfl)
theorem dX3_soldOut_27 : decode cX3_soldOut 27 = .ok (.iconst 4, 1) := dk_7 (dk_at dksX3_soldOut_1 3 rfl rfl)
theorem dX3_soldOut_28 : decode cX3_soldOut 28 = .ok (.invokevirtual 123, 3) := dk_182 0 123 (dk_at dksX3_soldOut_1 4 rfl rfl)
theorem dX3_soldOut_31 : decode cX3_soldOut 31 = .ok (.aload_n 0, 1) := dk_42 (dk_at dksX3_soldOut_1 7 rfl rfl)
theorem dX3_soldOut_32 : decode cX3_soldOut 32 = .ok (.iload_n 1, 1) := dk_27 (dk_at dksX3_soldOut_1 8 rfl rfl)
theorem dX3_soldOut_33 : decode cX3_soldOut 33 = .ok (.iconst 1, 1) := dk_4 (dk_at dksX3_soldOut_1 9 rfl rfl)
theorem dX3_soldOut_34 : decode cX3_soldOut 34 = .ok (.invokevirtual 123, 3) := dk_182 0 123 (dk_at dksX3_soldOut_1 10 rfl rfl)
theorem dX3_soldOut_37 : decode cX3_soldOut 37 = .ok (.idiv, 1) := dk_108 (dk_at dksX3_soldOut_1 13 rfl rfl)
theorem dX3_soldOut_38 : decode cX3_soldOut 38 = .ok (.istore 4, 2) := dk_54 4 (dk_at dksX3_soldOut_1 14 rfl rfl)
theorem dX3_soldOut_40 : decode cX3_soldOut 40 = .ok (.iconst 0, 1) := dk_3 (dk_at dksX3_soldOut_1 16 rfl rfl)
theorem dX3_soldOut_41 : decode cX3_soldOut 41 = .ok (.istore 5, 2) := dk_54 5 (dk_at dksX3_soldOut_1 17 rfl rfl)
theorem dX3_soldOut_43 : decode cX3_soldOut 43 = .ok (.iload 5, 2) := dk_21 5 (dk_at dksX3_soldOut_1 19 rfl rfl)
theorem dX3_soldOut_45 : decode cX3_soldOut 45 = .ok (.sipush 1000, 3) := dk_17 3 232 (dk_at dksX3_soldOut_1 21 rfl rfl)
theorem dX3_soldOut_48 : decode cX3_soldOut 48 = .ok (.if_icmp .ge 51, 3) := dk_162 0 51 (dk_at dksX3_soldOut_2 0 rfl rfl)
theorem dX3_soldOut_51 : decode cX3_soldOut 51 = .ok (.iload_n 2, 1) := dk_28 (dk_at dksX3_soldOut_2 3 rfl rfl)
theorem dX3_soldOut_52 : decode cX3_soldOut 52 = .ok (.ifCond .ne 6, 3) := dk_154 0 6 (dk_at dksX3_soldOut_2 4 rfl rfl)
theorem dX3_soldOut_55 : decode cX3_soldOut 55 = .ok (.iload 5, 2) := dk_21 5 (dk_at dksX3_soldOut_2 7 rfl rfl)
theorem dX3_soldOut_57 : decode cX3_soldOut 57 = .ok (.ireturn, 1) := dk_172 (dk_at dksX3_soldOut_2 9 rfl rfl)
theorem dX3_soldOut_58 : decode cX3_soldOut 58 = .ok (.iload_n 3, 1) := dk_29 (dk_at dksX3_soldOut_2 10 rfl rfl)
theorem dX3_soldOut_59 : decode cX3_soldOut 59 = .ok (.aload_n 0, 1) := dk_42 (dk_at dksX3_soldOut_2 11 rfl rfl)
theorem dX3_soldOut_60 : decode cX3_soldOut 60 = .ok (.iload_n 1, 1) := dk_27 (dk_at dksX3_soldOut_2 12 rfl rfl)
theorem dX3_soldOut_61 : decode cX3_soldOut 61 = .ok (.iconst 1, 1) := dk_4 (dk_at dksX3_soldOut_2 13 rfl rfl)
theorem dX3_soldOut_62 : decode cX3_soldOut 62 = .ok (.invokevirtual 123, 3) := dk_182 0 123 (dk_at dksX3_soldOut_2 14 rfl rfl)
theorem dX3_soldOut_65 : decode cX3_soldOut 65 = .ok (.iadd, 1) := dk_96 (dk_at dksX3_soldOut_2 17 rfl rfl)
theorem dX3_soldOut_66 : decode cX3_soldOut 66 = .ok (.istore_n 3, 1) := dk_62 (dk_at dksX3_soldOut_2 18 rfl rfl)
theorem dX3_soldOut_67 : decode cX3_soldOut 67 = .ok (.iload_n 2, 1) := dk_28 (dk_at dksX3_soldOut_2 19 rfl rfl)
theorem dX3_soldOut_68 : decode cX3_soldOut 68 = .ok (.iconst 1, 1) := dk_4 (dk_at dksX3_soldOut_2 20 rfl rfl)
theorem dX3_soldOut_69 : decode cX3_soldOut 69 = .ok (.isub, 1) := dk_100 (dk_at dksX3_soldOut_2 21 rfl rfl)
theorem dX3_soldOut_70 : decode cX3_soldOut 70 = .ok (.iload_n 3, 1) := dk_29 (dk_at dksX3_soldOut_2 22 rfl rfl)
theorem dX3_soldOut_71 : decode cX3_soldOut 71 = .ok (.aload_n 0, 1) := dk_42 (dk_at dksX3_soldOut_2 23 rfl rfl)
theorem dX3_soldOut_72 : decode cX3_soldOut 72 = .ok (.iload_n 1, 1) := dk_27 (dk_at dksX3_soldOut_3 0 rfl rfl)
theorem dX3_soldOut_73 : decode cX3_soldOut 73 = .ok (.iconst 3, 1) := dk_6 (dk_at dksX3_soldOut_3 1 rfl rfl)
theorem dX3_soldOut_74 : decode cX3_soldOut 74 = .ok (.invokevirtual 123, 3) := dk_182 0 123 (dk_at dksX3_soldOut_3 2 rfl rfl)
theorem dX3_soldOut_77 : decode cX3_soldOut 77 = .ok (.idiv, 1) := dk_108 (dk_at dksX3_soldOut_3 5 rfl rfl)
theorem dX3_soldOut_78 : decode cX3_soldOut 78 = .ok (.iload 4, 2) := dk_21 4 (dk_at dksX3_soldOut_3 6 rfl rfl)
theorem dX3_soldOut_80 : decode cX3_soldOut 80 = .ok (.invokestatic 128, 3) := dk_184 0 128 (dk_at dksX3_soldOut_3 8 rfl rfl)
theorem dX3_soldOut_83 : decode cX3_soldOut 83 = .ok (.istore_n 2, 1) := dk_61 (dk_at dksX3_soldOut_3 11 rfl rfl)
theorem dX3_soldOut_84 : decode cX3_soldOut 84 = .ok (.iload_n 3, 1) := dk_29 (dk_at dksX3_soldOut_3 12 rfl rfl)
theorem dX3_soldOut_85 : decode cX3_soldOut 85 = .ok (.aload_n 0, 1) := dk_42 (dk_at dksX3_soldOut_3 13 rfl rfl)
theorem dX3_soldOut_86 : decode cX3_soldOut 86 = .ok (.iload_n 1, 1) := dk_27 (dk_at dksX3_soldOut_3 14 rfl rfl)
theorem dX3_soldOut_87 : decode cX3_soldOut 87 = .ok (.iconst 3, 1) := dk_6 (dk_at dksX3_soldOut_3 15 rfl rfl)
theorem dX3_soldOut_88 : decode cX3_soldOut 88 = .ok (.invokevirtual 123, 3) := dk_182 0 123 (dk_at dksX3_soldOut_3 16 rfl rfl)
theorem dX3_soldOut_91 : decode cX3_soldOut 91 = .ok (.irem, 1) := dk_112 (dk_at dksX3_soldOut_3 19 rfl rfl)
theorem dX3_soldOut_92 : decode cX3_soldOut 92 = .ok (.istore_n 3, 1) := dk_62 (dk_at dksX3_soldOut_3 20 rfl rfl)
theorem dX3_soldOut_93 : decode cX3_soldOut 93 = .ok (.iinc 5 1, 3) := dk_132 5 1 (dk_at dksX3_soldOut_3 21 rfl rfl)
theorem dX3_soldOut_96 : decode cX3_soldOut 96 = .ok (.goto (-53), 3) := dk_167 255 203 (dk_at dksX3_soldOut_4 0 rfl rfl)
theorem dX3_soldOut_99 : decode cX3_soldOut 99 = .ok (.ldc 67, 2) := dk_18 67 (dk_at dksX3_soldOut_4 3 rfl rfl)
theorem dX3_soldOut_101 : decode cX3_soldOut 101 = .ok (.ireturn, 1) := dk_172 (dk_at dksX3_soldOut_4 5 rfl rfl)
abbrev cX3_shop : ByteArray := prog_21_method_76_code
def yX3_shop : MethodName := ⟨RX3, "shop", "(II)I"⟩
def dkwX3_shop_7 : List UInt8 := [21, 5, 172]
abbrev dktX3_shop_7 : List UInt8 := dkwX3_shop_7 ++ []
def dkwX3_shop_6 : List UInt8 := [132, 6, 1, 167, 255, 149, 28, 154, 0, 8, 21, 4, 167, 0, 14, 28, 4, 160, 0, 7, 29, 167, 0, 5]
abbrev dktX3_shop_6 : List UInt8 := dkwX3_shop_6 ++ dktX3_shop_7
def dkwX3_shop_5 : List UInt8 := [100, 62, 21, 4, 21, 8, 96, 54, 4, 21, 5, 21, 8, 42, 21, 7, 4, 182, 0, 123, 104, 96, 54, 5]
abbrev dktX3_shop_5 : List UInt8 := dkwX3_shop_5 ++ dktX3_shop_6
def dkwX3_shop_4 : List UInt8 := [21, 7, 5, 182, 0, 123, 167, 0, 5, 21, 8, 54, 8, 29, 21, 8, 42, 21, 7, 3, 182, 0, 123, 104]
abbrev dktX3_shop_4 : List UInt8 := dkwX3_shop_4 ++ dktX3_shop_5
def dkwX3_shop_3 : List UInt8 := [42, 21, 7, 3, 182, 0, 123, 108, 54, 8, 21, 8, 42, 21, 7, 5, 182, 0, 123, 164, 0, 13, 42]
abbrev dktX3_shop_3 : List UInt8 := dkwX3_shop_3 ++ dktX3_shop_4
def dkwX3_shop_2 : List UInt8 := [162, 0, 101, 3, 54, 7, 42, 21, 7, 182, 0, 199, 21, 6, 159, 0, 9, 132, 7, 1, 167, 255, 242, 29]
abbrev dktX3_shop_2 : List UInt8 := dkwX3_shop_2 ++ dktX3_shop_3
def dkwX3_shop_1 : List UInt8 := [182, 0, 96, 62, 3, 54, 4, 3, 54, 5, 3, 54, 6, 21, 6, 42, 180, 0, 7, 16, 15, 46]
abbrev dktX3_shop_1 : List UInt8 := dkwX3_shop_1 ++ dktX3_shop_2
def dkwX3_shop_0 : List UInt8 := [42, 27, 182, 0, 93, 153, 0, 12, 28, 3, 5, 184, 0, 32, 154, 0, 6, 18, 40, 172, 42, 27, 3]
abbrev dktX3_shop_0 : List UInt8 := dkwX3_shop_0 ++ dktX3_shop_1
theorem dksX3_shop_0 : cX3_shop.data.toList.drop 0 = dktX3_shop_0 := by decide +kernel
theorem dksX3_shop_1 : cX3_shop.data.toList.drop 23 = dktX3_shop_1 := dk_seg dksX3_shop_0 23 rfl rfl
theorem dksX3_shop_2 : cX3_shop.data.toList.drop 45 = dktX3_shop_2 := dk_seg dksX3_shop_1 22 rfl rfl
theorem dksX3_shop_3 : cX3_shop.data.toList.drop 69 = dktX3_shop_3 := dk_seg dksX3_shop_2 24 rfl rfl
theorem dksX3_shop_4 : cX3_shop.data.toList.drop 92 = dktX3_shop_4 := dk_seg dksX3_shop_3 23 rfl rfl
theorem dksX3_shop_5 : cX3_shop.data.toList.drop 116 = dktX3_shop_5 := dk_seg dksX3_shop_4 24 rfl rfl
theorem dksX3_shop_6 : cX3_shop.data.toList.drop 140 = dktX3_shop_6 := dk_seg dksX3_shop_5 24 rfl rfl
theorem dksX3_shop_7 : cX3_shop.data.toList.drop 164 = dktX3_shop_7 := dk_seg dksX3_shop_6 24 rfl rfl
theorem dX3_shop_0 : decode cX3_shop 0 = .ok (.aload_n 0, 1) := dk_42 (dk_at dksX3_shop_0 0 rfl rfl)
theorem dX3_shop_1 : decode cX3_shop 1 = .ok (.iload_n 1, 1) := dk_27 (dk_at dksX3_shop_0 1 rfl rfl)
theorem dX3_shop_2 : decode cX3_shop 2 = .ok (.invokevirtual 93, 3) := dk_182 0 93 (dk_at dksX3_shop_0 2 rfl rfl)
theorem dX3_shop_5 : decode cX3_shop 5 = .ok (.ifCond .eq 12, 3) := dk_153 0 12 (dk_at dksX3_shop_0 5 rfl rfl)
theorem dX3_shop_8 : decode cX3_shop 8 = .ok (.iload_n 2, 1) := dk_28 (dk_at dksX3_shop_0 8 rfl rfl)
theorem dX3_shop_9 : decode cX3_shop 9 = .ok (.iconst 0, 1) := dk_3 (dk_at dksX3_shop_0 9 rfl rfl)
theorem dX3_shop_10 : decode cX3_shop 10 = .ok (.iconst 2, 1) := dk_5 (dk_at dksX3_shop_0 10 rfl rfl)
theorem dX3_shop_11 : decode cX3_shop 11 = .ok (.invokestatic 32, 3) := dk_184 0 32 (dk_at dksX3_shop_0 11 rfl rfl)
theorem dX3_shop_14 : decode cX3_shop 14 = .ok (.ifCond .ne 6, 3) := dk_154 0 6 (dk_at dksX3_shop_0 14 rfl rfl)
theorem dX3_shop_17 : decode cX3_shop 17 = .ok (.ldc 40, 2) := dk_18 40 (dk_at dksX3_shop_0 17 rfl rfl)
theorem dX3_shop_19 : decode cX3_shop 19 = .ok (.ireturn, 1) := dk_172 (dk_at dksX3_shop_0 19 rfl rfl)
theorem dX3_shop_20 : decode cX3_shop 20 = .ok (.aload_n 0, 1) := dk_42 (dk_at dksX3_shop_0 20 rfl rfl)
theorem dX3_shop_21 : decode cX3_shop 21 = .ok (.iload_n 1, 1) := dk_27 (dk_at dksX3_shop_0 21 rfl rfl)
theorem dX3_shop_22 : decode cX3_shop 22 = .ok (.iconst 0, 1) := dk_3 (dk_at dksX3_shop_0 22 rfl rfl)
theorem dX3_shop_23 : decode cX3_shop 23 = .ok (.invokevirtual 96, 3) := dk_182 0 96 (dk_at dksX3_shop_1 0 rfl rfl)
theorem dX3_shop_26 : decode cX3_shop 26 = .ok (.istore_n 3, 1) := dk_62 (dk_at dksX3_shop_1 3 rfl rfl)
theorem dX3_shop_27 : decode cX3_shop 27 = .ok (.iconst 0, 1) := dk_3 (dk_at dksX3_shop_1 4 rfl rfl)
theorem dX3_shop_28 : decode cX3_shop 28 = .ok (.istore 4, 2) := dk_54 4 (dk_at dksX3_shop_1 5 rfl rfl)
theorem dX3_shop_30 : decode cX3_shop 30 = .ok (.iconst 0, 1) := dk_3 (dk_at dksX3_shop_1 7 rfl rfl)
theorem dX3_shop_31 : decode cX3_shop 31 = .ok (.istore 5, 2) := dk_54 5 (dk_at dksX3_shop_1 8 rfl rfl)
theorem dX3_shop_33 : decode cX3_shop 33 = .ok (.iconst 0, 1) := dk_3 (dk_at dksX3_shop_1 10 rfl rfl)
theorem dX3_shop_34 : decode cX3_shop 34 = .ok (.istore 6, 2) := dk_54 6 (dk_at dksX3_shop_1 11 rfl rfl)
theorem dX3_shop_36 : decode cX3_shop 36 = .ok (.iload 6, 2) := dk_21 6 (dk_at dksX3_shop_1 13 rfl rfl)
theorem dX3_shop_38 : decode cX3_shop 38 = .ok (.aload_n 0, 1) := dk_42 (dk_at dksX3_shop_1 15 rfl rfl)
theorem dX3_shop_39 : decode cX3_shop 39 = .ok (.getfield 7, 3) := dk_180 0 7 (dk_at dksX3_shop_1 16 rfl rfl)
theorem dX3_shop_42 : decode cX3_shop 42 = .ok (.bipush 15, 2) := dk_16 15 (dk_at dksX3_shop_1 19 rfl rfl)
theorem dX3_shop_44 : decode cX3_shop 44 = .ok (.iaload, 1) := dk_46 (dk_at dksX3_shop_1 21 rfl rfl)
theorem dX3_shop_45 : decode cX3_shop 45 = .ok (.if_icmp .ge 101, 3) := dk_162 0 101 (dk_at dksX3_shop_2 0 rfl rfl)
theorem dX3_shop_48 : decode cX3_shop 48 = .ok (.iconst 0, 1) := dk_3 (dk_at dksX3_shop_2 3 rfl rfl)
theorem dX3_shop_49 : decode cX3_shop 49 = .ok (.istore 7, 2) := dk_54 7 (dk_at dksX3_shop_2 4 rfl rfl)
theorem dX3_shop_51 : decode cX3_shop 51 = .ok (.aload_n 0, 1) := dk_42 (dk_at dksX3_shop_2 6 rfl rfl)
theorem dX3_shop_52 : decode cX3_shop 52 = .ok (.iload 7, 2) := dk_21 7 (dk_at dksX3_shop_2 7 rfl rfl)
theorem dX3_shop_54 : decode cX3_shop 54 = .ok (.invokevirtual 199, 3) := dk_182 0 199 (dk_at dksX3_shop_2 9 rfl rfl)
theorem dX3_shop_57 : decode cX3_shop 57 = .ok (.iload 6, 2) := dk_21 6 (dk_at dksX3_shop_2 12 rfl rfl)
theorem dX3_shop_59 : decode cX3_shop 59 = .ok (.if_icmp .eq 9, 3) := dk_159 0 9 (dk_at dksX3_shop_2 14 rfl rfl)
theorem dX3_shop_62 : decode cX3_shop 62 = .ok (.iinc 7 1, 3) := dk_132 7 1 (dk_at dksX3_shop_2 17 rfl rfl)
theorem dX3_shop_65 : decode cX3_shop 65 = .ok (.goto (-14), 3) := dk_167 255 242 (dk_at dksX3_shop_2 20 rfl rfl)
theorem dX3_shop_68 : decode cX3_shop 68 = .ok (.iload_n 3, 1) := dk_29 (dk_at dksX3_shop_2 23 rfl rfl)
theorem dX3_shop_69 : decode cX3_shop 69 = .ok (.aload_n 0, 1) := dk_42 (dk_at dksX3_shop_3 0 rfl rfl)
theorem dX3_shop_70 : decode cX3_shop 70 = .ok (.iload 7, 2) := dk_21 7 (dk_at dksX3_shop_3 1 rfl rfl)
theorem dX3_shop_72 : decode cX3_shop 72 = .ok (.iconst 0, 1) := dk_3 (dk_at dksX3_shop_3 3 rfl rfl)
theorem dX3_shop_73 : decode cX3_shop 73 = .ok (.invokevirtual 123, 3) := dk_182 0 123 (dk_at dksX3_shop_3 4 rfl rfl)
theorem dX3_shop_76 : decode cX3_shop 76 = .ok (.idiv, 1) := dk_108 (dk_at dksX3_shop_3 7 rfl rfl)
theorem dX3_shop_77 : decode cX3_shop 77 = .ok (.istore 8, 2) := dk_54 8 (dk_at dksX3_shop_3 8 rfl rfl)
theorem dX3_shop_79 : decode cX3_shop 79 = .ok (.iload 8, 2) := dk_21 8 (dk_at dksX3_shop_3 10 rfl rfl)
theorem dX3_shop_81 : decode cX3_shop 81 = .ok (.aload_n 0, 1) := dk_42 (dk_at dksX3_shop_3 12 rfl rfl)
theorem dX3_shop_82 : decode cX3_shop 82 = .ok (.iload 7, 2) := dk_21 7 (dk_at dksX3_shop_3 13 rfl rfl)
theorem dX3_shop_84 : decode cX3_shop 84 = .ok (.iconst 2, 1) := dk_5 (dk_at dksX3_shop_3 15 rfl rfl)
theorem dX3_shop_85 : decode cX3_shop 85 = .ok (.invokevirtual 123, 3) := dk_182 0 123 (dk_at dksX3_shop_3 16 rfl rfl)
theorem dX3_shop_88 : decode cX3_shop 88 = .ok (.if_icmp .le 13, 3) := dk_164 0 13 (dk_at dksX3_shop_3 19 rfl rfl)
theorem dX3_shop_91 : decode cX3_shop 91 = .ok (.aload_n 0, 1) := dk_42 (dk_at dksX3_shop_3 22 rfl rfl)
theorem dX3_shop_92 : decode cX3_shop 92 = .ok (.iload 7, 2) := dk_21 7 (dk_at dksX3_shop_4 0 rfl rfl)
theorem dX3_shop_94 : decode cX3_shop 94 = .ok (.iconst 2, 1) := dk_5 (dk_at dksX3_shop_4 2 rfl rfl)
theorem dX3_shop_95 : decode cX3_shop 95 = .ok (.invokevirtual 123, 3) := dk_182 0 123 (dk_at dksX3_shop_4 3 rfl rfl)
theorem dX3_shop_98 : decode cX3_shop 98 = .ok (.goto 5, 3) := dk_167 0 5 (dk_at dksX3_shop_4 6 rfl rfl)
theorem dX3_shop_101 : decode cX3_shop 101 = .ok (.iload 8, 2) := dk_21 8 (dk_at dksX3_shop_4 9 rfl rfl)
theorem dX3_shop_103 : decode cX3_shop 103 = .ok (.istore 8, 2) := dk_54 8 (dk_at dksX3_shop_4 11 rfl rfl)
theorem dX3_shop_105 : decode cX3_shop 105 = .ok (.iload_n 3, 1) := dk_29 (dk_at dksX3_shop_4 13 rfl rfl)
theorem dX3_shop_106 : decode cX3_shop 106 = .ok (.iload 8, 2) := dk_21 8 (dk_at dksX3_shop_4 14 rfl rfl)
theorem dX3_shop_108 : decode cX3_shop 108 = .ok (.aload_n 0, 1) := dk_42 (dk_at dksX3_shop_4 16 rfl rfl)
theorem dX3_shop_109 : decode cX3_shop 109 = .ok (.iload 7, 2) := dk_21 7 (dk_at dksX3_shop_4 17 rfl rfl)
theorem dX3_shop_111 : decode cX3_shop 111 = .ok (.iconst 0, 1) := dk_3 (dk_at dksX3_shop_4 19 rfl rfl)
theorem dX3_shop_112 : decode cX3_shop 112 = .ok (.invokevirtual 123, 3) := dk_182 0 123 (dk_at dksX3_shop_4 20 rfl rfl)
theorem dX3_shop_115 : decode cX3_shop 115 = .ok (.imul, 1) := dk_104 (dk_at dksX3_shop_4 23 rfl rfl)
theorem dX3_shop_116 : decode cX3_shop 116 = .ok (.isub, 1) := dk_100 (dk_at dksX3_shop_5 0 rfl rfl)
theorem dX3_shop_117 : decode cX3_shop 117 = .ok (.istore_n 3, 1) := dk_62 (dk_at dksX3_shop_5 1 rfl rfl)
theorem dX3_shop_118 : decode cX3_shop 118 = .ok (.iload 4, 2) := dk_21 4 (dk_at dksX3_shop_5 2 rfl rfl)
theorem dX3_shop_120 : decode cX3_shop 120 = .ok (.iload 8, 2) := dk_21 8 (dk_at dksX3_shop_5 4 rfl rfl)
theorem dX3_shop_122 : decode cX3_shop 122 = .ok (.iadd, 1) := dk_96 (dk_at dksX3_shop_5 6 rfl rfl)
theorem dX3_shop_123 : decode cX3_shop 123 = .ok (.istore 4, 2) := dk_54 4 (dk_at dksX3_shop_5 7 rfl rfl)
theorem dX3_shop_125 : decode cX3_shop 125 = .ok (.iload 5, 2) := dk_21 5 (dk_at dksX3_shop_5 9 rfl rfl)
theorem dX3_shop_127 : decode cX3_shop 127 = .ok (.iload 8, 2) := dk_21 8 (dk_at dksX3_shop_5 11 rfl rfl)
theorem dX3_shop_129 : decode cX3_shop 129 = .ok (.aload_n 0, 1) := dk_42 (dk_at dksX3_shop_5 13 rfl rfl)
theorem dX3_shop_130 : decode cX3_shop 130 = .ok (.iload 7, 2) := dk_21 7 (dk_at dksX3_shop_5 14 rfl rfl)
theorem dX3_shop_132 : decode cX3_shop 132 = .ok (.iconst 1, 1) := dk_4 (dk_at dksX3_shop_5 16 rfl rfl)
theorem dX3_shop_133 : decode cX3_shop 133 = .ok (.invokevirtual 123, 3) := dk_182 0 123 (dk_at dksX3_shop_5 17 rfl rfl)
theorem dX3_shop_136 : decode cX3_shop 136 = .ok (.imul, 1) := dk_104 (dk_at dksX3_shop_5 20 rfl rfl)
theorem dX3_shop_137 : decode cX3_shop 137 = .ok (.iadd, 1) := dk_96 (dk_at dksX3_shop_5 21 rfl rfl)
theorem dX3_shop_138 : decode cX3_shop 138 = .ok (.istore 5, 2) := dk_54 5 (dk_at dksX3_shop_5 22 rfl rfl)
theorem dX3_shop_140 : decode cX3_shop 140 = .ok (.iinc 6 1, 3) := dk_132 6 1 (dk_at dksX3_shop_6 0 rfl rfl)
theorem dX3_shop_143 : decode cX3_shop 143 = .ok (.goto (-107), 3) := dk_167 255 149 (dk_at dksX3_shop_6 3 rfl rfl)
theorem dX3_shop_146 : decode cX3_shop 146 = .ok (.iload_n 2, 1) := dk_28 (dk_at dksX3_shop_6 6 rfl rfl)
theorem dX3_shop_147 : decode cX3_shop 147 = .ok (.ifCond .ne 8, 3) := dk_154 0 8 (dk_at dksX3_shop_6 7 rfl rfl)
theorem dX3_shop_150 : decode cX3_shop 150 = .ok (.iload 4, 2) := dk_21 4 (dk_at dksX3_shop_6 10 rfl rfl)
theorem dX3_shop_152 : decode cX3_shop 152 = .ok (.goto 14, 3) := dk_167 0 14 (dk_at dksX3_shop_6 12 rfl rfl)
theorem dX3_shop_155 : decode cX3_shop 155 = .ok (.iload_n 2, 1) := dk_28 (dk_at dksX3_shop_6 15 rfl rfl)
theorem dX3_shop_156 : decode cX3_shop 156 = .ok (.iconst 1, 1) := dk_4 (dk_at dksX3_shop_6 16 rfl rfl)
theorem dX3_shop_157 : decode cX3_shop 157 = .ok (.if_icmp .ne 7, 3) := dk_160 0 7 (dk_at dksX3_shop_6 17 rfl rfl)
theorem dX3_shop_160 : decode cX3_shop 160 = .ok (.iload_n 3, 1) := dk_29 (dk_at dksX3_shop_6 20 rfl rfl)
theorem dX3_shop_161 : decode cX3_shop 161 = .ok (.goto 5, 3) := dk_167 0 5 (dk_at dksX3_shop_6 21 rfl rfl)
theorem dX3_shop_164 : decode cX3_shop 164 = .ok (.iload 5, 2) := dk_21 5 (dk_at dksX3_shop_7 0 rfl rfl)
theorem dX3_shop_166 : decode cX3_shop 166 = .ok (.ireturn, 1) := dk_172 (dk_at dksX3_shop_7 2 rfl rfl)
abbrev cX3_ahead : ByteArray := prog_21_method_75_code
def yX3_ahead : MethodName := ⟨RX3, "ahead", "(I)I"⟩
def dkwX3_ahead_2 : List UInt8 := [162, 0, 7, 4, 167, 0, 4, 3, 96, 61, 132, 3, 1, 167, 255, 199, 28, 172]
abbrev dktX3_ahead_2 : List UInt8 := dkwX3_ahead_2 ++ []
def dkwX3_ahead_1 : List UInt8 := [3, 182, 0, 123, 161, 0, 23, 42, 29, 3, 182, 0, 123, 42, 27, 3, 182, 0, 123, 160, 0, 12, 29, 27]
abbrev dktX3_ahead_1 : List UInt8 := dkwX3_ahead_1 ++ dktX3_ahead_2
def dkwX3_ahead_0 : List UInt8 := [3, 61, 3, 62, 29, 42, 180, 0, 7, 16, 15, 46, 162, 0, 52, 28, 42, 29, 3, 182, 0, 123, 42, 27]
abbrev dktX3_ahead_0 : List UInt8 := dkwX3_ahead_0 ++ dktX3_ahead_1
theorem dksX3_ahead_0 : cX3_ahead.data.toList.drop 0 = dktX3_ahead_0 := by decide +kernel
theorem dksX3_ahead_1 : cX3_ahead.data.toList.drop 24 = dktX3_ahead_1 := dk_seg dksX3_ahead_0 24 rfl rfl
theorem dksX3_ahead_2 : cX3_ahead.data.toList.drop 48 = dktX3_ahead_2 := dk_seg dksX3_ahead_1 24 rfl rfl
theorem dX3_ahead_0 : decode cX3_ahead 0 = .ok (.iconst 0, 1) := dk_3 (dk_at dksX3_ahead_0 0 rfl rfl)
theorem dX3_ahead_1 : decode cX3_ahead 1 = .ok (.istore_n 2, 1) := dk_61 (dk_at dksX3_ahead_0 1 rfl rfl)
theorem dX3_ahead_2 : decode cX3_ahead 2 = .ok (.iconst 0, 1) := dk_3 (dk_at dksX3_ahead_0 2 rfl rfl)
theorem dX3_ahead_3 : decode cX3_ahead 3 = .ok (.istore_n 3, 1) := dk_62 (dk_at dksX3_ahead_0 3 rfl rfl)
theorem dX3_ahead_4 : decode cX3_ahead 4 = .ok (.iload_n 3, 1) := dk_29 (dk_at dksX3_ahead_0 4 rfl rfl)
theorem dX3_ahead_5 : decode cX3_ahead 5 = .ok (.aload_n 0, 1) := dk_42 (dk_at dksX3_ahead_0 5 rfl rfl)
theorem dX3_ahead_6 : decode cX3_ahead 6 = .ok (.getfield 7, 3) := dk_180 0 7 (dk_at dksX3_ahead_0 6 rfl rfl)
theorem dX3_ahead_9 : decode cX3_ahead 9 = .ok (.bipush 15, 2) := dk_16 15 (dk_at dksX3_ahead_0 9 rfl rfl)
theorem dX3_ahead_11 : decode cX3_ahead 11 = .ok (.iaload, 1) := dk_46 (dk_at dksX3_ahead_0 11 rfl rfl)
theorem dX3_ahead_12 : decode cX3_ahead 12 = .ok (.if_icmp .ge 52, 3) := dk_162 0 52 (dk_at dksX3_ahead_0 12 rfl rfl)
theorem dX3_ahead_15 : decode cX3_ahead 15 = .ok (.iload_n 2, 1) := dk_28 (dk_at dksX3_ahead_0 15 rfl rfl)
theorem dX3_ahead_16 : decode cX3_ahead 16 = .ok (.aload_n 0, 1) := dk_42 (dk_at dksX3_ahead_0 16 rfl rfl)
theorem dX3_ahead_17 : decode cX3_ahead 17 = .ok (.iload_n 3, 1) := dk_29 (dk_at dksX3_ahead_0 17 rfl rfl)
theorem dX3_ahead_18 : decode cX3_ahead 18 = .ok (.iconst 0, 1) := dk_3 (dk_at dksX3_ahead_0 18 rfl rfl)
theorem dX3_ahead_19 : decode cX3_ahead 19 = .ok (.invokevirtual 123, 3) := dk_182 0 123 (dk_at dksX3_ahead_0 19 rfl rfl)
theorem dX3_ahead_22 : decode cX3_ahead 22 = .ok (.aload_n 0, 1) := dk_42 (dk_at dksX3_ahead_0 22 rfl rfl)
theorem dX3_ahead_23 : decode cX3_ahead 23 = .ok (.iload_n 1, 1) := dk_27 (dk_at dksX3_ahead_0 23 rfl rfl)
theorem dX3_ahead_24 : decode cX3_ahead 24 = .ok (.iconst 0, 1) := dk_3 (dk_at dksX3_ahead_1 0 rfl rfl)
theorem dX3_ahead_25 : decode cX3_ahead 25 = .ok (.invokevirtual 123, 3) := dk_182 0 123 (dk_at dksX3_ahead_1 1 rfl rfl)
theorem dX3_ahead_28 : decode cX3_ahead 28 = .ok (.if_icmp .lt 23, 3) := dk_161 0 23 (dk_at dksX3_ahead_1 4 rfl rfl)
theorem dX3_ahead_31 : decode cX3_ahead 31 = .ok (.aload_n 0, 1) := dk_42 (dk_at dksX3_ahead_1 7 rfl rfl)
theorem dX3_ahead_32 : decode cX3_ahead 32 = .ok (.iload_n 3, 1) := dk_29 (dk_at dksX3_ahead_1 8 rfl rfl)
theorem dX3_ahead_33 : decode cX3_ahead 33 = .ok (.iconst 0, 1) := dk_3 (dk_at dksX3_ahead_1 9 rfl rfl)
theorem dX3_ahead_34 : decode cX3_ahead 34 = .ok (.invokevirtual 123, 3) := dk_182 0 123 (dk_at dksX3_ahead_1 10 rfl rfl)
theorem dX3_ahead_37 : decode cX3_ahead 37 = .ok (.aload_n 0, 1) := dk_42 (dk_at dksX3_ahead_1 13 rfl rfl)
theorem dX3_ahead_38 : decode cX3_ahead 38 = .ok (.iload_n 1, 1) := dk_27 (dk_at dksX3_ahead_1 14 rfl rfl)
theorem dX3_ahead_39 : decode cX3_ahead 39 = .ok (.iconst 0, 1) := dk_3 (dk_at dksX3_ahead_1 15 rfl rfl)
theorem dX3_ahead_40 : decode cX3_ahead 40 = .ok (.invokevirtual 123, 3) := dk_182 0 123 (dk_at dksX3_ahead_1 16 rfl rfl)
theorem dX3_ahead_43 : decode cX3_ahead 43 = .ok (.if_icmp .ne 12, 3) := dk_160 0 12 (dk_at dksX3_ahead_1 19 rfl rfl)
theorem dX3_ahead_46 : decode cX3_ahead 46 = .ok (.iload_n 3, 1) := dk_29 (dk_at dksX3_ahead_1 22 rfl rfl)
theorem dX3_ahead_47 : decode cX3_ahead 47 = .ok (.iload_n 1, 1) := dk_27 (dk_at dksX3_ahead_1 23 rfl rfl)
theorem dX3_ahead_48 : decode cX3_ahead 48 = .ok (.if_icmp .ge 7, 3) := dk_162 0 7 (dk_at dksX3_ahead_2 0 rfl rfl)
theorem dX3_ahead_51 : decode cX3_ahead 51 = .ok (.iconst 1, 1) := dk_4 (dk_at dksX3_ahead_2 3 rfl rfl)
theorem dX3_ahead_52 : decode cX3_ahead 52 = .ok (.goto 4, 3) := dk_167 0 4 (dk_at dksX3_ahead_2 4 rfl rfl)
theorem dX3_ahead_55 : decode cX3_ahead 55 = .ok (.iconst 0, 1) := dk_3 (dk_at dksX3_ahead_2 7 rfl rfl)
theorem dX3_ahead_56 : decode cX3_ahead 56 = .ok (.iadd, 1) := dk_96 (dk_at dksX3_ahead_2 8 rfl rfl)
theorem dX3_ahead_57 : decode cX3_ahead 57 = .ok (.istore_n 2, 1) := dk_61 (dk_at dksX3_ahead_2 9 rfl rfl)
theorem dX3_ahead_58 : decode cX3_ahead 58 = .ok (.iinc 3 1, 3) := dk_132 3 1 (dk_at dksX3_ahead_2 10 rfl rfl)
theorem dX3_ahead_61 : decode cX3_ahead 61 = .ok (.goto (-57), 3) := dk_167 255 199 (dk_at dksX3_ahead_2 13 rfl rfl)
theorem dX3_ahead_64 : decode cX3_ahead 64 = .ok (.iload_n 2, 1) := dk_28 (dk_at dksX3_ahead_2 16 rfl rfl)
theorem dX3_ahead_65 : decode cX3_ahead 65 = .ok (.ireturn, 1) := dk_172 (dk_at dksX3_ahead_2 17 rfl rfl)
theorem q71 : (Jvm.Cond.initialized "TicketScalesModel") ∈ lw_all := lw_g (lw_at lw_m1 12 rfl) rfl
theorem q419 : (Jvm.Cond.selects "TicketScalesModel" ({ cls := "java/lang/Object", name := "getClass", desc := "()Ljava/lang/Class;" } : Jvm.MethodName) ({ cls := "java/lang/Object", name := "getClass", desc := "()Ljava/lang/Class;" } : Jvm.MethodName)) ∈ lw_all := lw_g (lw_at lw_m2 120 rfl) rfl
theorem q1566 : (Jvm.Cond.instantiable "TicketScalesModel" (15 : Nat)) ∈ lw_all := lw_g (lw_at lw_m7 67 rfl) rfl
theorem q1568 : (Jvm.Cond.instanceMethod ({ cls := "TicketScalesModel", name := "<init>", desc := "()V" } : Jvm.MethodName)) ∈ lw_all := lw_g (lw_at lw_m7 69 rfl) rfl
theorem q1569 : (Jvm.Cond.code ({ cls := "TicketScalesModel", name := "<init>", desc := "()V" } : Jvm.MethodName) prog_21_method_1_code (2 : Nat) (Option.none : Option Jvm.ClassFile.FieldType)) ∈ lw_all := lw_g (lw_at lw_m7 70 rfl) rfl
theorem q1570 : (Jvm.Cond.methodLink "TicketScalesModel" (1 : Nat) ({ cls := "java/lang/Object", name := "<init>", desc := "()V" } : Jvm.MethodName)) ∈ lw_all := lw_g (lw_at lw_m7 71 rfl) rfl
theorem q1571 : (Jvm.Cond.fieldLink "TicketScalesModel" (7 : Nat) "TicketScalesModel" "d" "[I") ∈ lw_all := lw_g (lw_at lw_m7 72 rfl) rfl
theorem q1572 : (Jvm.Cond.fieldLink "TicketScalesModel" (13 : Nat) "TicketScalesModel" "aside" "[I") ∈ lw_all := lw_g (lw_at lw_m7 73 rfl) rfl
theorem q1573 : (Jvm.Cond.fieldLink "TicketScalesModel" (16 : Nat) "TicketScalesModel" "begun" "[I") ∈ lw_all := lw_g (lw_at lw_m7 74 rfl) rfl
theorem q1574 : (Jvm.Cond.fieldLink "TicketScalesModel" (19 : Nat) "TicketScalesModel" "was" "[I") ∈ lw_all := lw_g (lw_at lw_m7 75 rfl) rfl
theorem q1575 : (Jvm.Cond.fieldLink "TicketScalesModel" (36 : Nat) "TicketScalesModel" "states" "I") ∈ lw_all := lw_g (lw_at lw_m7 76 rfl) rfl
theorem q1576 : (Jvm.Cond.fieldLink "TicketScalesModel" (22 : Nat) "TicketScalesModel" "text" "[C") ∈ lw_all := lw_g (lw_at lw_m7 77 rfl) rfl
theorem q1577 : (Jvm.Cond.fieldLink "TicketScalesModel" (138 : Nat) "TicketScalesModel" "length" "I") ∈ lw_all := lw_g (lw_at lw_m7 78 rfl) rfl
theorem q1578 : (Jvm.Cond.fieldLink "TicketScalesModel" (26 : Nat) "TicketScalesModel" "failed" "[I") ∈ lw_all := lw_g (lw_at lw_m7 79 rfl) rfl
theorem q1579 : (Jvm.Cond.fieldLink "TicketScalesModel" (153 : Nat) "TicketScalesModel" "hasFailed" "Z") ∈ lw_all := lw_g (lw_at lw_m7 80 rfl) rfl
theorem q1580 : (Jvm.Cond.fieldLink "TicketScalesModel" (144 : Nat) "TicketScalesModel" "from" "I") ∈ lw_all := lw_g (lw_at lw_m7 81 rfl) rfl
theorem q1581 : (Jvm.Cond.fieldLink "TicketScalesModel" (141 : Nat) "TicketScalesModel" "at" "I") ∈ lw_all := lw_g (lw_at lw_m7 82 rfl) rfl
theorem q1582 : (Jvm.Cond.fieldLink "TicketScalesModel" (150 : Nat) "TicketScalesModel" "sort" "I") ∈ lw_all := lw_g (lw_at lw_m7 83 rfl) rfl
theorem q1583 : (Jvm.Cond.fieldLink "TicketScalesModel" (29 : Nat) "TicketScalesModel" "got" "[I") ∈ lw_all := lw_g (lw_at lw_m7 84 rfl) rfl
theorem q1584 : (Jvm.Cond.fieldLink "TicketScalesModel" (54 : Nat) "TicketScalesModel" "least" "I") ∈ lw_all := lw_g (lw_at lw_m7 85 rfl) rfl
theorem q1585 : (Jvm.Cond.fieldLink "TicketScalesModel" (60 : Nat) "TicketScalesModel" "greatest" "I") ∈ lw_all := lw_g (lw_at lw_m7 86 rfl) rfl
theorem q1586 : (Jvm.Cond.laysFinal "TicketScalesModel" "TicketScalesModel" "d" "[I") ∈ lw_all := lw_g (lw_at lw_m7 87 rfl) rfl
theorem q1587 : (Jvm.Cond.soleField "TicketScalesModel" "d") ∈ lw_all := lw_g (lw_at lw_m7 88 rfl) rfl
theorem q1588 : (Jvm.Cond.laysFinal "TicketScalesModel" "TicketScalesModel" "aside" "[I") ∈ lw_all := lw_g (lw_at lw_m7 89 rfl) rfl
theorem q1589 : (Jvm.Cond.soleField "TicketScalesModel" "aside") ∈ lw_all := lw_g (lw_at lw_m7 90 rfl) rfl
theorem q1590 : (Jvm.Cond.laysFinal "TicketScalesModel" "TicketScalesModel" "begun" "[I") ∈ lw_all := lw_g (lw_at lw_m7 91 rfl) rfl
theorem q1591 : (Jvm.Cond.soleField "TicketScalesModel" "begun") ∈ lw_all := lw_g (lw_at lw_m7 92 rfl) rfl
theorem q1592 : (Jvm.Cond.laysFinal "TicketScalesModel" "TicketScalesModel" "was" "[I") ∈ lw_all := lw_g (lw_at lw_m7 93 rfl) rfl
theorem q1593 : (Jvm.Cond.soleField "TicketScalesModel" "was") ∈ lw_all := lw_g (lw_at lw_m7 94 rfl) rfl
theorem q1594 : (Jvm.Cond.lays "TicketScalesModel" "TicketScalesModel" "states" "I") ∈ lw_all := lw_g (lw_at lw_m7 95 rfl) rfl
theorem q1595 : (Jvm.Cond.soleField "TicketScalesModel" "states") ∈ lw_all := lw_g (lw_at lw_m7 96 rfl) rfl
theorem q1596 : (Jvm.Cond.laysFinal "TicketScalesModel" "TicketScalesModel" "text" "[C") ∈ lw_all := lw_g (lw_at lw_m7 97 rfl) rfl
theorem q1597 : (Jvm.Cond.soleField "TicketScalesModel" "text") ∈ lw_all := lw_g (lw_at lw_m7 98 rfl) rfl
theorem q1598 : (Jvm.Cond.lays "TicketScalesModel" "TicketScalesModel" "length" "I") ∈ lw_all := lw_g (lw_at lw_m7 99 rfl) rfl
theorem q1599 : (Jvm.Cond.soleField "TicketScalesModel" "length") ∈ lw_all := lw_g (lw_at lw_m7 100 rfl) rfl
theorem q1600 : (Jvm.Cond.laysFinal "TicketScalesModel" "TicketScalesModel" "failed" "[I") ∈ lw_all := lw_g (lw_at lw_m7 101 rfl) rfl
theorem q1601 : (Jvm.Cond.soleField "TicketScalesModel" "failed") ∈ lw_all := lw_g (lw_at lw_m7 102 rfl) rfl
theorem q1602 : (Jvm.Cond.lays "TicketScalesModel" "TicketScalesModel" "hasFailed" "Z") ∈ lw_all := lw_g (lw_at lw_m7 103 rfl) rfl
theorem q1603 : (Jvm.Cond.soleField "TicketScalesModel" "hasFailed") ∈ lw_all := lw_g (lw_at lw_m7 104 rfl) rfl
theorem q1604 : (Jvm.Cond.lays "TicketScalesModel" "TicketScalesModel" "from" "I") ∈ lw_all := lw_g (lw_at lw_m7 105 rfl) rfl
theorem q1605 : (Jvm.Cond.soleField "TicketScalesModel" "from") ∈ lw_all := lw_g (lw_at lw_m7 106 rfl) rfl
theorem q1606 : (Jvm.Cond.lays "TicketScalesModel" "TicketScalesModel" "at" "I") ∈ lw_all := lw_g (lw_at lw_m7 107 rfl) rfl
theorem q1607 : (Jvm.Cond.soleField "TicketScalesModel" "at") ∈ lw_all := lw_g (lw_at lw_m7 108 rfl) rfl
theorem q1608 : (Jvm.Cond.lays "TicketScalesModel" "TicketScalesModel" "sort" "I") ∈ lw_all := lw_g (lw_at lw_m7 109 rfl) rfl
theorem q1609 : (Jvm.Cond.soleField "TicketScalesModel" "sort") ∈ lw_all := lw_g (lw_at lw_m7 110 rfl) rfl
theorem q1610 : (Jvm.Cond.laysFinal "TicketScalesModel" "TicketScalesModel" "got" "[I") ∈ lw_all := lw_g (lw_at lw_m7 111 rfl) rfl
theorem q1611 : (Jvm.Cond.soleField "TicketScalesModel" "got") ∈ lw_all := lw_g (lw_at lw_m7 112 rfl) rfl
theorem q1612 : (Jvm.Cond.lays "TicketScalesModel" "TicketScalesModel" "least" "I") ∈ lw_all := lw_g (lw_at lw_m7 113 rfl) rfl
theorem q1613 : (Jvm.Cond.soleField "TicketScalesModel" "least") ∈ lw_all := lw_g (lw_at lw_m7 114 rfl) rfl
theorem q1614 : (Jvm.Cond.lays "TicketScalesModel" "TicketScalesModel" "greatest" "I") ∈ lw_all := lw_g (lw_at lw_m7 115 rfl) rfl
theorem q1615 : (Jvm.Cond.soleField "TicketScalesModel" "greatest") ∈ lw_all := lw_g (lw_at lw_m7 116 rfl) rfl
theorem q1616 : (Jvm.Cond.superclass "TicketScalesModel" "java/lang/Object") ∈ lw_all := lw_g (lw_at lw_m7 117 rfl) rfl
theorem q1619 : (Jvm.Cond.instanceMethod ({ cls := "TicketScalesModel", name := "setKind", desc := "(III)I" } : Jvm.MethodName)) ∈ lw_all := lw_g (lw_at lw_m7 120 rfl) rfl
theorem q1620 : (Jvm.Cond.selects "TicketScalesModel" ({ cls := "TicketScalesModel", name := "setKind", desc := "(III)I" } : Jvm.MethodName) ({ cls := "TicketScalesModel", name := "setKind", desc := "(III)I" } : Jvm.MethodName)) ∈ lw_all := lw_g (lw_at lw_m7 121 rfl) rfl
theorem q1621 : (Jvm.Cond.code ({ cls := "TicketScalesModel", name := "setKind", desc := "(III)I" } : Jvm.MethodName) prog_21_method_18_code (4 : Nat) (Option.some Jvm.ClassFile.FieldType.int)) ∈ lw_all := lw_g (lw_at lw_m7 122 rfl) rfl
theorem q1622 : (Jvm.Cond.methodLink "TicketScalesModel" (72 : Nat) ({ cls := "TicketScalesModel", name := "keeps", desc := "()V" } : Jvm.MethodName)) ∈ lw_all := lw_g (lw_at lw_m7 123 rfl) rfl
theorem q1623 : (Jvm.Cond.privateMethod ({ cls := "TicketScalesModel", name := "keeps", desc := "()V" } : Jvm.MethodName)) ∈ lw_tbl := lw_at lw_m7 124 rfl
theorem q1624 : (Jvm.Cond.instanceMethod ({ cls := "TicketScalesModel", name := "keeps", desc := "()V" } : Jvm.MethodName)) ∈ lw_all := lw_g (lw_at lw_m7 125 rfl) rfl
theorem q1625 : (Jvm.Cond.code ({ cls := "TicketScalesModel", name := "keeps", desc := "()V" } : Jvm.MethodName) prog_21_method_9_code (2 : Nat) (Option.none : Option Jvm.ClassFile.FieldType)) ∈ lw_all := lw_g (lw_at lw_m7 126 rfl) rfl
theorem q1626 : (Jvm.Cond.methodLink "TicketScalesModel" (75 : Nat) ({ cls := "TicketScalesModel", name := "kinds", desc := "(III)I" } : Jvm.MethodName)) ∈ lw_all := lw_g (lw_at lw_m7 127 rfl) rfl
theorem q1627 : (Jvm.Cond.privateMethod ({ cls := "TicketScalesModel", name := "kinds", desc := "(III)I" } : Jvm.MethodName)) ∈ lw_tbl := lw_at lw_m7 128 rfl
theorem q1628 : (Jvm.Cond.instanceMethod ({ cls := "TicketScalesModel", name := "kinds", desc := "(III)I" } : Jvm.MethodName)) ∈ lw_all := lw_g (lw_at lw_m7 129 rfl) rfl
theorem q1629 : (Jvm.Cond.code ({ cls := "TicketScalesModel", name := "kinds", desc := "(III)I" } : Jvm.MethodName) prog_21_method_17_code (5 : Nat) (Option.some Jvm.ClassFile.FieldType.int)) ∈ lw_all := lw_g (lw_at lw_m7 130 rfl) rfl
theorem q1630 : (Jvm.Cond.methodLink "TicketScalesModel" (68 : Nat) ({ cls := "TicketScalesModel", name := "isKind", desc := "(I)Z" } : Jvm.MethodName)) ∈ lw_all := lw_g (lw_at lw_m7 131 rfl) rfl
theorem q1631 : (Jvm.Cond.static ({ cls := "TicketScalesModel", name := "isKind", desc := "(I)Z" } : Jvm.MethodName)) ∈ lw_all := lw_g (lw_at lw_m7 132 rfl) rfl
theorem q1632 : (Jvm.Cond.code ({ cls := "TicketScalesModel", name := "isKind", desc := "(I)Z" } : Jvm.MethodName) prog_21_method_5_code (1 : Nat) (Option.some Jvm.ClassFile.FieldType.boolean)) ∈ lw_all := lw_g (lw_at lw_m7 133 rfl) rfl
theorem q1633 : (Jvm.Cond.methodLink "TicketScalesModel" (32 : Nat) ({ cls := "TicketScalesModel", name := "in", desc := "(III)Z" } : Jvm.MethodName)) ∈ lw_all := lw_g (lw_at lw_m7 134 rfl) rfl
theorem q1634 : (Jvm.Cond.static ({ cls := "TicketScalesModel", name := "in", desc := "(III)Z" } : Jvm.MethodName)) ∈ lw_all := lw_g (lw_at lw_m7 135 rfl) rfl
theorem q1635 : (Jvm.Cond.code ({ cls := "TicketScalesModel", name := "in", desc := "(III)Z" } : Jvm.MethodName) prog_21_method_2_code (3 : Nat) (Option.some Jvm.ClassFile.FieldType.boolean)) ∈ lw_all := lw_g (lw_at lw_m7 136 rfl) rfl
theorem q1636 : (Jvm.Cond.constant "TicketScalesModel" (40 : Nat) (-100001 : Int32)) ∈ lw_all := lw_g (lw_at lw_m7 137 rfl) rfl
theorem q1637 : (Jvm.Cond.methodLink "TicketScalesModel" (79 : Nat) ({ cls := "TicketScalesModel", name := "acted", desc := "(I)I" } : Jvm.MethodName)) ∈ lw_all := lw_g (lw_at lw_m7 138 rfl) rfl
theorem q1638 : (Jvm.Cond.privateMethod ({ cls := "TicketScalesModel", name := "acted", desc := "(I)I" } : Jvm.MethodName)) ∈ lw_tbl := lw_at lw_m7 139 rfl
theorem q1639 : (Jvm.Cond.instanceMethod ({ cls := "TicketScalesModel", name := "acted", desc := "(I)I" } : Jvm.MethodName)) ∈ lw_all := lw_g (lw_at lw_m7 140 rfl) rfl
theorem q1640 : (Jvm.Cond.code ({ cls := "TicketScalesModel", name := "acted", desc := "(I)I" } : Jvm.MethodName) prog_21_method_10_code (2 : Nat) (Option.some Jvm.ClassFile.FieldType.int)) ∈ lw_all := lw_g (lw_at lw_m7 141 rfl) rfl
theorem q1641 : (Jvm.Cond.methodLink "TicketScalesModel" (41 : Nat) ({ cls := "TicketScalesModel", name := "pushes", desc := "([I)V" } : Jvm.MethodName)) ∈ lw_all := lw_g (lw_at lw_m7 142 rfl) rfl
theorem q1642 : (Jvm.Cond.privateMethod ({ cls := "TicketScalesModel", name := "pushes", desc := "([I)V" } : Jvm.MethodName)) ∈ lw_tbl := lw_at lw_m7 143 rfl
theorem q1643 : (Jvm.Cond.instanceMethod ({ cls := "TicketScalesModel", name := "pushes", desc := "([I)V" } : Jvm.MethodName)) ∈ lw_all := lw_g (lw_at lw_m7 144 rfl) rfl
theorem q1644 : (Jvm.Cond.code ({ cls := "TicketScalesModel", name := "pushes", desc := "([I)V" } : Jvm.MethodName) prog_21_method_8_code (3 : Nat) (Option.none : Option Jvm.ClassFile.FieldType)) ∈ lw_all := lw_g (lw_at lw_m7 145 rfl) rfl
theorem q1646 : (Jvm.Cond.instanceMethod ({ cls := "TicketScalesModel", name := "setScale", desc := "(II)I" } : Jvm.MethodName)) ∈ lw_all := lw_g (lw_at lw_m7 147 rfl) rfl
theorem q1647 : (Jvm.Cond.selects "TicketScalesModel" ({ cls := "TicketScalesModel", name := "setScale", desc := "(II)I" } : Jvm.MethodName) ({ cls := "TicketScalesModel", name := "setScale", desc := "(II)I" } : Jvm.MethodName)) ∈ lw_all := lw_g (lw_at lw_m7 148 rfl) rfl
theorem q1648 : (Jvm.Cond.code ({ cls := "TicketScalesModel", name := "setScale", desc := "(II)I" } : Jvm.MethodName) prog_21_method_20_code (3 : Nat) (Option.some Jvm.ClassFile.FieldType.int)) ∈ lw_all := lw_g (lw_at lw_m7 149 rfl) rfl
theorem q1649 : (Jvm.Cond.methodLink "TicketScalesModel" (82 : Nat) ({ cls := "TicketScalesModel", name := "scales", desc := "(II)I" } : Jvm.MethodName)) ∈ lw_all := lw_g (lw_at lw_m7 150 rfl) rfl
theorem q1650 : (Jvm.Cond.privateMethod ({ cls := "TicketScalesModel", name := "scales", desc := "(II)I" } : Jvm.MethodName)) ∈ lw_tbl := lw_at lw_m7 151 rfl
theorem q1651 : (Jvm.Cond.instanceMethod ({ cls := "TicketScalesModel", name := "scales", desc := "(II)I" } : Jvm.MethodName)) ∈ lw_all := lw_g (lw_at lw_m7 152 rfl) rfl
theorem q1652 : (Jvm.Cond.code ({ cls := "TicketScalesModel", name := "scales", desc := "(II)I" } : Jvm.MethodName) prog_21_method_19_code (3 : Nat) (Option.some Jvm.ClassFile.FieldType.int)) ∈ lw_all := lw_g (lw_at lw_m7 153 rfl) rfl
theorem q1654 : (Jvm.Cond.instanceMethod ({ cls := "TicketScalesModel", name := "setBias", desc := "(I)I" } : Jvm.MethodName)) ∈ lw_all := lw_g (lw_at lw_m7 155 rfl) rfl
theorem q1655 : (Jvm.Cond.selects "TicketScalesModel" ({ cls := "TicketScalesModel", name := "setBias", desc := "(I)I" } : Jvm.MethodName) ({ cls := "TicketScalesModel", name := "setBias", desc := "(I)I" } : Jvm.MethodName)) ∈ lw_all := lw_g (lw_at lw_m7 156 rfl) rfl
theorem q1656 : (Jvm.Cond.code ({ cls := "TicketScalesModel", name := "setBias", desc := "(I)I" } : Jvm.MethodName) prog_21_method_22_code (2 : Nat) (Option.some Jvm.ClassFile.FieldType.int)) ∈ lw_all := lw_g (lw_at lw_m7 157 rfl) rfl
theorem q1657 : (Jvm.Cond.methodLink "TicketScalesModel" (85 : Nat) ({ cls := "TicketScalesModel", name := "sets", desc := "(IIII)I" } : Jvm.MethodName)) ∈ lw_all := lw_g (lw_at lw_m7 158 rfl) rfl
theorem q1658 : (Jvm.Cond.privateMethod ({ cls := "TicketScalesModel", name := "sets", desc := "(IIII)I" } : Jvm.MethodName)) ∈ lw_tbl := lw_at lw_m7 159 rfl
theorem q1659 : (Jvm.Cond.instanceMethod ({ cls := "TicketScalesModel", name := "sets", desc := "(IIII)I" } : Jvm.MethodName)) ∈ lw_all := lw_g (lw_at lw_m7 160 rfl) rfl
theorem q1660 : (Jvm.Cond.code ({ cls := "TicketScalesModel", name := "sets", desc := "(IIII)I" } : Jvm.MethodName) prog_21_method_21_code (6 : Nat) (Option.some Jvm.ClassFile.FieldType.int)) ∈ lw_all := lw_g (lw_at lw_m7 161 rfl) rfl
theorem q1662 : (Jvm.Cond.instanceMethod ({ cls := "TicketScalesModel", name := "setRule", desc := "(I)I" } : Jvm.MethodName)) ∈ lw_all := lw_g (lw_at lw_m7 163 rfl) rfl
theorem q1663 : (Jvm.Cond.selects "TicketScalesModel" ({ cls := "TicketScalesModel", name := "setRule", desc := "(I)I" } : Jvm.MethodName) ({ cls := "TicketScalesModel", name := "setRule", desc := "(I)I" } : Jvm.MethodName)) ∈ lw_all := lw_g (lw_at lw_m7 164 rfl) rfl
theorem q1664 : (Jvm.Cond.code ({ cls := "TicketScalesModel", name := "setRule", desc := "(I)I" } : Jvm.MethodName) prog_21_method_23_code (2 : Nat) (Option.some Jvm.ClassFile.FieldType.int)) ∈ lw_all := lw_g (lw_at lw_m7 165 rfl) rfl
theorem q1666 : (Jvm.Cond.instanceMethod ({ cls := "TicketScalesModel", name := "setFee", desc := "(I)I" } : Jvm.MethodName)) ∈ lw_all := lw_g (lw_at lw_m7 167 rfl) rfl
theorem q1667 : (Jvm.Cond.selects "TicketScalesModel" ({ cls := "TicketScalesModel", name := "setFee", desc := "(I)I" } : Jvm.MethodName) ({ cls := "TicketScalesModel", name := "setFee", desc := "(I)I" } : Jvm.MethodName)) ∈ lw_all := lw_g (lw_at lw_m7 168 rfl) rfl
theorem q1668 : (Jvm.Cond.code ({ cls := "TicketScalesModel", name := "setFee", desc := "(I)I" } : Jvm.MethodName) prog_21_method_24_code (2 : Nat) (Option.some Jvm.ClassFile.FieldType.int)) ∈ lw_all := lw_g (lw_at lw_m7 169 rfl) rfl
theorem q1670 : (Jvm.Cond.instanceMethod ({ cls := "TicketScalesModel", name := "come", desc := "(I)I" } : Jvm.MethodName)) ∈ lw_all := lw_g (lw_at lw_m7 171 rfl) rfl
theorem q1671 : (Jvm.Cond.selects "TicketScalesModel" ({ cls := "TicketScalesModel", name := "come", desc := "(I)I" } : Jvm.MethodName) ({ cls := "TicketScalesModel", name := "come", desc := "(I)I" } : Jvm.MethodName)) ∈ lw_all := lw_g (lw_at lw_m7 172 rfl) rfl
theorem q1672 : (Jvm.Cond.code ({ cls := "TicketScalesModel", name := "come", desc := "(I)I" } : Jvm.MethodName) prog_21_method_26_code (2 : Nat) (Option.some Jvm.ClassFile.FieldType.int)) ∈ lw_all := lw_g (lw_at lw_m7 173 rfl) rfl
theorem q1673 : (Jvm.Cond.methodLink "TicketScalesModel" (90 : Nat) ({ cls := "TicketScalesModel", name := "comes", desc := "(I)I" } : Jvm.MethodName)) ∈ lw_all := lw_g (lw_at lw_m7 174 rfl) rfl
theorem q1674 : (Jvm.Cond.privateMethod ({ cls := "TicketScalesModel", name := "comes", desc := "(I)I" } : Jvm.MethodName)) ∈ lw_tbl := lw_at lw_m7 175 rfl
theorem q1675 : (Jvm.Cond.instanceMethod ({ cls := "TicketScalesModel", name := "comes", desc := "(I)I" } : Jvm.MethodName)) ∈ lw_all := lw_g (lw_at lw_m7 176 rfl) rfl
theorem q1676 : (Jvm.Cond.code ({ cls := "TicketScalesModel", name := "comes", desc := "(I)I" } : Jvm.MethodName) prog_21_method_25_code (3 : Nat) (Option.some Jvm.ClassFile.FieldType.int)) ∈ lw_all := lw_g (lw_at lw_m7 177 rfl) rfl
theorem q1677 : (Jvm.Cond.constant "TicketScalesModel" (89 : Nat) (-100003 : Int32)) ∈ lw_all := lw_g (lw_at lw_m7 178 rfl) rfl
theorem q1679 : (Jvm.Cond.instanceMethod ({ cls := "TicketScalesModel", name := "leave", desc := "(I)I" } : Jvm.MethodName)) ∈ lw_all := lw_g (lw_at lw_m7 180 rfl) rfl
theorem q1680 : (Jvm.Cond.selects "TicketScalesModel" ({ cls := "TicketScalesModel", name := "leave", desc := "(I)I" } : Jvm.MethodName) ({ cls := "TicketScalesModel", name := "leave", desc := "(I)I" } : Jvm.MethodName)) ∈ lw_all := lw_g (lw_at lw_m7 181 rfl) rfl
theorem q1681 : (Jvm.Cond.code ({ cls := "TicketScalesModel", name := "leave", desc := "(I)I" } : Jvm.MethodName) prog_21_method_27_code (4 : Nat) (Option.some Jvm.ClassFile.FieldType.int)) ∈ lw_all := lw_g (lw_at lw_m7 182 rfl) rfl
theorem q1682 : (Jvm.Cond.methodLink "TicketScalesModel" (93 : Nat) ({ cls := "TicketScalesModel", name := "isCustomer", desc := "(I)Z" } : Jvm.MethodName)) ∈ lw_all := lw_g (lw_at lw_m7 183 rfl) rfl
theorem q1683 : (Jvm.Cond.privateMethod ({ cls := "TicketScalesModel", name := "isCustomer", desc := "(I)Z" } : Jvm.MethodName)) ∈ lw_tbl := lw_at lw_m7 184 rfl
theorem q1684 : (Jvm.Cond.instanceMethod ({ cls := "TicketScalesModel", name := "isCustomer", desc := "(I)Z" } : Jvm.MethodName)) ∈ lw_all := lw_g (lw_at lw_m7 185 rfl) rfl
theorem q1685 : (Jvm.Cond.code ({ cls := "TicketScalesModel", name := "isCustomer", desc := "(I)Z" } : Jvm.MethodName) prog_21_method_3_code (2 : Nat) (Option.some Jvm.ClassFile.FieldType.boolean)) ∈ lw_all := lw_g (lw_at lw_m7 186 rfl) rfl
theorem q1686 : (Jvm.Cond.methodLink "TicketScalesModel" (96 : Nat) ({ cls := "TicketScalesModel", name := "of", desc := "(II)I" } : Jvm.MethodName)) ∈ lw_all := lw_g (lw_at lw_m7 187 rfl) rfl
theorem q1687 : (Jvm.Cond.privateMethod ({ cls := "TicketScalesModel", name := "of", desc := "(II)I" } : Jvm.MethodName)) ∈ lw_tbl := lw_at lw_m7 188 rfl
theorem q1688 : (Jvm.Cond.instanceMethod ({ cls := "TicketScalesModel", name := "of", desc := "(II)I" } : Jvm.MethodName)) ∈ lw_all := lw_g (lw_at lw_m7 189 rfl) rfl
theorem q1689 : (Jvm.Cond.code ({ cls := "TicketScalesModel", name := "of", desc := "(II)I" } : Jvm.MethodName) prog_21_method_6_code (3 : Nat) (Option.some Jvm.ClassFile.FieldType.int)) ∈ lw_all := lw_g (lw_at lw_m7 190 rfl) rfl
theorem q1691 : (Jvm.Cond.instanceMethod ({ cls := "TicketScalesModel", name := "weigh", desc := "(IIII)I" } : Jvm.MethodName)) ∈ lw_all := lw_g (lw_at lw_m7 192 rfl) rfl
theorem q1692 : (Jvm.Cond.selects "TicketScalesModel" ({ cls := "TicketScalesModel", name := "weigh", desc := "(IIII)I" } : Jvm.MethodName) ({ cls := "TicketScalesModel", name := "weigh", desc := "(IIII)I" } : Jvm.MethodName)) ∈ lw_all := lw_g (lw_at lw_m7 193 rfl) rfl
theorem q1693 : (Jvm.Cond.code ({ cls := "TicketScalesModel", name := "weigh", desc := "(IIII)I" } : Jvm.MethodName) prog_21_method_29_code (5 : Nat) (Option.some Jvm.ClassFile.FieldType.int)) ∈ lw_all := lw_g (lw_at lw_m7 194 rfl) rfl
theorem q1694 : (Jvm.Cond.methodLink "TicketScalesModel" (105 : Nat) ({ cls := "TicketScalesModel", name := "weighs", desc := "(IIII)I" } : Jvm.MethodName)) ∈ lw_all := lw_g (lw_at lw_m7 195 rfl) rfl
theorem q1695 : (Jvm.Cond.privateMethod ({ cls := "TicketScalesModel", name := "weighs", desc := "(IIII)I" } : Jvm.MethodName)) ∈ lw_tbl := lw_at lw_m7 196 rfl
theorem q1696 : (Jvm.Cond.instanceMethod ({ cls := "TicketScalesModel", name := "weighs", desc := "(IIII)I" } : Jvm.MethodName)) ∈ lw_all := lw_g (lw_at lw_m7 197 rfl) rfl
theorem q1697 : (Jvm.Cond.code ({ cls := "TicketScalesModel", name := "weighs", desc := "(IIII)I" } : Jvm.MethodName) prog_21_method_28_code (8 : Nat) (Option.some Jvm.ClassFile.FieldType.int)) ∈ lw_all := lw_g (lw_at lw_m7 198 rfl) rfl
theorem q1698 : (Jvm.Cond.methodLink "TicketScalesModel" (99 : Nat) ({ cls := "TicketScalesModel", name := "readsBy", desc := "(II)I" } : Jvm.MethodName)) ∈ lw_all := lw_g (lw_at lw_m7 199 rfl) rfl
theorem q1699 : (Jvm.Cond.privateMethod ({ cls := "TicketScalesModel", name := "readsBy", desc := "(II)I" } : Jvm.MethodName)) ∈ lw_tbl := lw_at lw_m7 200 rfl
theorem q1700 : (Jvm.Cond.instanceMethod ({ cls := "TicketScalesModel", name := "readsBy", desc := "(II)I" } : Jvm.MethodName)) ∈ lw_all := lw_g (lw_at lw_m7 201 rfl) rfl
theorem q1701 : (Jvm.Cond.code ({ cls := "TicketScalesModel", name := "readsBy", desc := "(II)I" } : Jvm.MethodName) prog_21_method_12_code (4 : Nat) (Option.some Jvm.ClassFile.FieldType.int)) ∈ lw_all := lw_g (lw_at lw_m7 202 rfl) rfl
theorem q1702 : (Jvm.Cond.methodLink "TicketScalesModel" (45 : Nat) ({ cls := "TicketScalesModel", name := "floors", desc := "(II)I" } : Jvm.MethodName)) ∈ lw_all := lw_g (lw_at lw_m7 203 rfl) rfl
theorem q1703 : (Jvm.Cond.static ({ cls := "TicketScalesModel", name := "floors", desc := "(II)I" } : Jvm.MethodName)) ∈ lw_all := lw_g (lw_at lw_m7 204 rfl) rfl
theorem q1704 : (Jvm.Cond.code ({ cls := "TicketScalesModel", name := "floors", desc := "(II)I" } : Jvm.MethodName) prog_21_method_11_code (3 : Nat) (Option.some Jvm.ClassFile.FieldType.int)) ∈ lw_all := lw_g (lw_at lw_m7 205 rfl) rfl
theorem q1705 : (Jvm.Cond.methodLink "TicketScalesModel" (102 : Nat) ({ cls := "TicketScalesModel", name := "guesses", desc := "(III)I" } : Jvm.MethodName)) ∈ lw_all := lw_g (lw_at lw_m7 206 rfl) rfl
theorem q1706 : (Jvm.Cond.privateMethod ({ cls := "TicketScalesModel", name := "guesses", desc := "(III)I" } : Jvm.MethodName)) ∈ lw_tbl := lw_at lw_m7 207 rfl
theorem q1707 : (Jvm.Cond.instanceMethod ({ cls := "TicketScalesModel", name := "guesses", desc := "(III)I" } : Jvm.MethodName)) ∈ lw_all := lw_g (lw_at lw_m7 208 rfl) rfl
theorem q1708 : (Jvm.Cond.code ({ cls := "TicketScalesModel", name := "guesses", desc := "(III)I" } : Jvm.MethodName) prog_21_method_16_code (6 : Nat) (Option.some Jvm.ClassFile.FieldType.int)) ∈ lw_all := lw_g (lw_at lw_m7 209 rfl) rfl
theorem q1709 : (Jvm.Cond.methodLink "TicketScalesModel" (63 : Nat) ({ cls := "TicketScalesModel", name := "allows", desc := "(II)Z" } : Jvm.MethodName)) ∈ lw_all := lw_g (lw_at lw_m7 210 rfl) rfl
theorem q1710 : (Jvm.Cond.privateMethod ({ cls := "TicketScalesModel", name := "allows", desc := "(II)Z" } : Jvm.MethodName)) ∈ lw_tbl := lw_at lw_m7 211 rfl
theorem q1711 : (Jvm.Cond.instanceMethod ({ cls := "TicketScalesModel", name := "allows", desc := "(II)Z" } : Jvm.MethodName)) ∈ lw_all := lw_g (lw_at lw_m7 212 rfl) rfl
theorem q1712 : (Jvm.Cond.code ({ cls := "TicketScalesModel", name := "allows", desc := "(II)Z" } : Jvm.MethodName) prog_21_method_15_code (6 : Nat) (Option.some Jvm.ClassFile.FieldType.boolean)) ∈ lw_all := lw_g (lw_at lw_m7 213 rfl) rfl
theorem q1713 : (Jvm.Cond.methodLink "TicketScalesModel" (50 : Nat) ({ cls := "TicketScalesModel", name := "lowest", desc := "(I)I" } : Jvm.MethodName)) ∈ lw_all := lw_g (lw_at lw_m7 214 rfl) rfl
theorem q1714 : (Jvm.Cond.privateMethod ({ cls := "TicketScalesModel", name := "lowest", desc := "(I)I" } : Jvm.MethodName)) ∈ lw_tbl := lw_at lw_m7 215 rfl
theorem q1715 : (Jvm.Cond.instanceMethod ({ cls := "TicketScalesModel", name := "lowest", desc := "(I)I" } : Jvm.MethodName)) ∈ lw_all := lw_g (lw_at lw_m7 216 rfl) rfl
theorem q1716 : (Jvm.Cond.code ({ cls := "TicketScalesModel", name := "lowest", desc := "(I)I" } : Jvm.MethodName) prog_21_method_14_code (2 : Nat) (Option.some Jvm.ClassFile.FieldType.int)) ∈ lw_all := lw_g (lw_at lw_m7 217 rfl) rfl
theorem q1717 : (Jvm.Cond.constant "TicketScalesModel" (49 : Nat) (-9000000 : Int32)) ∈ lw_all := lw_g (lw_at lw_m7 218 rfl) rfl
theorem q1718 : (Jvm.Cond.methodLink "TicketScalesModel" (57 : Nat) ({ cls := "TicketScalesModel", name := "highest", desc := "(I)I" } : Jvm.MethodName)) ∈ lw_all := lw_g (lw_at lw_m7 219 rfl) rfl
theorem q1719 : (Jvm.Cond.privateMethod ({ cls := "TicketScalesModel", name := "highest", desc := "(I)I" } : Jvm.MethodName)) ∈ lw_tbl := lw_at lw_m7 220 rfl
theorem q1720 : (Jvm.Cond.instanceMethod ({ cls := "TicketScalesModel", name := "highest", desc := "(I)I" } : Jvm.MethodName)) ∈ lw_all := lw_g (lw_at lw_m7 221 rfl) rfl
theorem q1721 : (Jvm.Cond.code ({ cls := "TicketScalesModel", name := "highest", desc := "(I)I" } : Jvm.MethodName) prog_21_method_13_code (2 : Nat) (Option.some Jvm.ClassFile.FieldType.int)) ∈ lw_all := lw_g (lw_at lw_m7 222 rfl) rfl
theorem q1722 : (Jvm.Cond.constant "TicketScalesModel" (67 : Nat) (-100009 : Int32)) ∈ lw_all := lw_g (lw_at lw_m7 223 rfl) rfl
theorem q1724 : (Jvm.Cond.instanceMethod ({ cls := "TicketScalesModel", name := "claim", desc := "(II)I" } : Jvm.MethodName)) ∈ lw_all := lw_g (lw_at lw_m7 225 rfl) rfl
theorem q1725 : (Jvm.Cond.selects "TicketScalesModel" ({ cls := "TicketScalesModel", name := "claim", desc := "(II)I" } : Jvm.MethodName) ({ cls := "TicketScalesModel", name := "claim", desc := "(II)I" } : Jvm.MethodName)) ∈ lw_all := lw_g (lw_at lw_m7 226 rfl) rfl
theorem q1726 : (Jvm.Cond.code ({ cls := "TicketScalesModel", name := "claim", desc := "(II)I" } : Jvm.MethodName) prog_21_method_32_code (3 : Nat) (Option.some Jvm.ClassFile.FieldType.int)) ∈ lw_all := lw_g (lw_at lw_m7 227 rfl) rfl
theorem q1727 : (Jvm.Cond.methodLink "TicketScalesModel" (112 : Nat) ({ cls := "TicketScalesModel", name := "claims", desc := "(II)I" } : Jvm.MethodName)) ∈ lw_all := lw_g (lw_at lw_m7 228 rfl) rfl
theorem q1728 : (Jvm.Cond.privateMethod ({ cls := "TicketScalesModel", name := "claims", desc := "(II)I" } : Jvm.MethodName)) ∈ lw_tbl := lw_at lw_m7 229 rfl
theorem q1729 : (Jvm.Cond.instanceMethod ({ cls := "TicketScalesModel", name := "claims", desc := "(II)I" } : Jvm.MethodName)) ∈ lw_all := lw_g (lw_at lw_m7 230 rfl) rfl
theorem q1730 : (Jvm.Cond.code ({ cls := "TicketScalesModel", name := "claims", desc := "(II)I" } : Jvm.MethodName) prog_21_method_31_code (6 : Nat) (Option.some Jvm.ClassFile.FieldType.int)) ∈ lw_all := lw_g (lw_at lw_m7 231 rfl) rfl
theorem q1731 : (Jvm.Cond.constant "TicketScalesModel" (108 : Nat) (-100002 : Int32)) ∈ lw_all := lw_g (lw_at lw_m7 232 rfl) rfl
theorem q1732 : (Jvm.Cond.methodLink "TicketScalesModel" (109 : Nat) ({ cls := "TicketScalesModel", name := "far", desc := "(II)I" } : Jvm.MethodName)) ∈ lw_all := lw_g (lw_at lw_m7 233 rfl) rfl
theorem q1733 : (Jvm.Cond.static ({ cls := "TicketScalesModel", name := "far", desc := "(II)I" } : Jvm.MethodName)) ∈ lw_all := lw_g (lw_at lw_m7 234 rfl) rfl
theorem q1734 : (Jvm.Cond.code ({ cls := "TicketScalesModel", name := "far", desc := "(II)I" } : Jvm.MethodName) prog_21_method_30_code (2 : Nat) (Option.some Jvm.ClassFile.FieldType.int)) ∈ lw_all := lw_g (lw_at lw_m7 235 rfl) rfl
theorem q1736 : (Jvm.Cond.instanceMethod ({ cls := "TicketScalesModel", name := "addPrize", desc := "(IIIII)I" } : Jvm.MethodName)) ∈ lw_all := lw_g (lw_at lw_m7 237 rfl) rfl
theorem q1737 : (Jvm.Cond.selects "TicketScalesModel" ({ cls := "TicketScalesModel", name := "addPrize", desc := "(IIIII)I" } : Jvm.MethodName) ({ cls := "TicketScalesModel", name := "addPrize", desc := "(IIIII)I" } : Jvm.MethodName)) ∈ lw_all := lw_g (lw_at lw_m7 238 rfl) rfl
theorem q1738 : (Jvm.Cond.code ({ cls := "TicketScalesModel", name := "addPrize", desc := "(IIIII)I" } : Jvm.MethodName) prog_21_method_34_code (6 : Nat) (Option.some Jvm.ClassFile.FieldType.int)) ∈ lw_all := lw_g (lw_at lw_m7 239 rfl) rfl
theorem q1739 : (Jvm.Cond.methodLink "TicketScalesModel" (116 : Nat) ({ cls := "TicketScalesModel", name := "adds", desc := "(IIIII)I" } : Jvm.MethodName)) ∈ lw_all := lw_g (lw_at lw_m8 0 rfl) rfl
theorem q1740 : (Jvm.Cond.privateMethod ({ cls := "TicketScalesModel", name := "adds", desc := "(IIIII)I" } : Jvm.MethodName)) ∈ lw_tbl := lw_at lw_m8 1 rfl
theorem q1741 : (Jvm.Cond.instanceMethod ({ cls := "TicketScalesModel", name := "adds", desc := "(IIIII)I" } : Jvm.MethodName)) ∈ lw_all := lw_g (lw_at lw_m8 2 rfl) rfl
theorem q1742 : (Jvm.Cond.code ({ cls := "TicketScalesModel", name := "adds", desc := "(IIIII)I" } : Jvm.MethodName) prog_21_method_33_code (7 : Nat) (Option.some Jvm.ClassFile.FieldType.int)) ∈ lw_all := lw_g (lw_at lw_m8 3 rfl) rfl
theorem q1743 : (Jvm.Cond.constant "TicketScalesModel" (115 : Nat) (100000 : Int32)) ∈ lw_all := lw_g (lw_at lw_m8 4 rfl) rfl
theorem q1745 : (Jvm.Cond.instanceMethod ({ cls := "TicketScalesModel", name := "removePrize", desc := "(I)I" } : Jvm.MethodName)) ∈ lw_all := lw_g (lw_at lw_m8 6 rfl) rfl
theorem q1746 : (Jvm.Cond.selects "TicketScalesModel" ({ cls := "TicketScalesModel", name := "removePrize", desc := "(I)I" } : Jvm.MethodName) ({ cls := "TicketScalesModel", name := "removePrize", desc := "(I)I" } : Jvm.MethodName)) ∈ lw_all := lw_g (lw_at lw_m8 7 rfl) rfl
theorem q1747 : (Jvm.Cond.code ({ cls := "TicketScalesModel", name := "removePrize", desc := "(I)I" } : Jvm.MethodName) prog_21_method_35_code (4 : Nat) (Option.some Jvm.ClassFile.FieldType.int)) ∈ lw_all := lw_g (lw_at lw_m8 8 rfl) rfl
theorem q1748 : (Jvm.Cond.methodLink "TicketScalesModel" (120 : Nat) ({ cls := "TicketScalesModel", name := "isPrize", desc := "(I)Z" } : Jvm.MethodName)) ∈ lw_all := lw_g (lw_at lw_m8 9 rfl) rfl
theorem q1749 : (Jvm.Cond.privateMethod ({ cls := "TicketScalesModel", name := "isPrize", desc := "(I)Z" } : Jvm.MethodName)) ∈ lw_tbl := lw_at lw_m8 10 rfl
theorem q1750 : (Jvm.Cond.instanceMethod ({ cls := "TicketScalesModel", name := "isPrize", desc := "(I)Z" } : Jvm.MethodName)) ∈ lw_all := lw_g (lw_at lw_m8 11 rfl) rfl
theorem q1751 : (Jvm.Cond.code ({ cls := "TicketScalesModel", name := "isPrize", desc := "(I)Z" } : Jvm.MethodName) prog_21_method_4_code (2 : Nat) (Option.some Jvm.ClassFile.FieldType.boolean)) ∈ lw_all := lw_g (lw_at lw_m8 12 rfl) rfl
theorem q1752 : (Jvm.Cond.methodLink "TicketScalesModel" (123 : Nat) ({ cls := "TicketScalesModel", name := "priced", desc := "(II)I" } : Jvm.MethodName)) ∈ lw_all := lw_g (lw_at lw_m8 13 rfl) rfl
theorem q1753 : (Jvm.Cond.privateMethod ({ cls := "TicketScalesModel", name := "priced", desc := "(II)I" } : Jvm.MethodName)) ∈ lw_tbl := lw_at lw_m8 14 rfl
theorem q1754 : (Jvm.Cond.instanceMethod ({ cls := "TicketScalesModel", name := "priced", desc := "(II)I" } : Jvm.MethodName)) ∈ lw_all := lw_g (lw_at lw_m8 15 rfl) rfl
theorem q1755 : (Jvm.Cond.code ({ cls := "TicketScalesModel", name := "priced", desc := "(II)I" } : Jvm.MethodName) prog_21_method_7_code (3 : Nat) (Option.some Jvm.ClassFile.FieldType.int)) ∈ lw_all := lw_g (lw_at lw_m8 16 rfl) rfl
theorem q1757 : (Jvm.Cond.instanceMethod ({ cls := "TicketScalesModel", name := "setPrice", desc := "(II)I" } : Jvm.MethodName)) ∈ lw_all := lw_g (lw_at lw_m8 18 rfl) rfl
theorem q1758 : (Jvm.Cond.selects "TicketScalesModel" ({ cls := "TicketScalesModel", name := "setPrice", desc := "(II)I" } : Jvm.MethodName) ({ cls := "TicketScalesModel", name := "setPrice", desc := "(II)I" } : Jvm.MethodName)) ∈ lw_all := lw_g (lw_at lw_m8 19 rfl) rfl
theorem q1759 : (Jvm.Cond.code ({ cls := "TicketScalesModel", name := "setPrice", desc := "(II)I" } : Jvm.MethodName) prog_21_method_36_code (3 : Nat) (Option.some Jvm.ClassFile.FieldType.int)) ∈ lw_all := lw_g (lw_at lw_m8 20 rfl) rfl
theorem q1761 : (Jvm.Cond.instanceMethod ({ cls := "TicketScalesModel", name := "buy", desc := "(III)I" } : Jvm.MethodName)) ∈ lw_all := lw_g (lw_at lw_m8 22 rfl) rfl
theorem q1762 : (Jvm.Cond.selects "TicketScalesModel" ({ cls := "TicketScalesModel", name := "buy", desc := "(III)I" } : Jvm.MethodName) ({ cls := "TicketScalesModel", name := "buy", desc := "(III)I" } : Jvm.MethodName)) ∈ lw_all := lw_g (lw_at lw_m8 23 rfl) rfl
theorem q1763 : (Jvm.Cond.code ({ cls := "TicketScalesModel", name := "buy", desc := "(III)I" } : Jvm.MethodName) prog_21_method_39_code (4 : Nat) (Option.some Jvm.ClassFile.FieldType.int)) ∈ lw_all := lw_g (lw_at lw_m8 24 rfl) rfl
theorem q1764 : (Jvm.Cond.methodLink "TicketScalesModel" (131 : Nat) ({ cls := "TicketScalesModel", name := "buys", desc := "(III)I" } : Jvm.MethodName)) ∈ lw_all := lw_g (lw_at lw_m8 25 rfl) rfl
theorem q1765 : (Jvm.Cond.privateMethod ({ cls := "TicketScalesModel", name := "buys", desc := "(III)I" } : Jvm.MethodName)) ∈ lw_tbl := lw_at lw_m8 26 rfl
theorem q1766 : (Jvm.Cond.instanceMethod ({ cls := "TicketScalesModel", name := "buys", desc := "(III)I" } : Jvm.MethodName)) ∈ lw_all := lw_g (lw_at lw_m8 27 rfl) rfl
theorem q1767 : (Jvm.Cond.code ({ cls := "TicketScalesModel", name := "buys", desc := "(III)I" } : Jvm.MethodName) prog_21_method_38_code (7 : Nat) (Option.some Jvm.ClassFile.FieldType.int)) ∈ lw_all := lw_g (lw_at lw_m8 28 rfl) rfl
theorem q1768 : (Jvm.Cond.methodLink "TicketScalesModel" (128 : Nat) ({ cls := "TicketScalesModel", name := "stocked", desc := "(III)I" } : Jvm.MethodName)) ∈ lw_all := lw_g (lw_at lw_m8 29 rfl) rfl
theorem q1769 : (Jvm.Cond.static ({ cls := "TicketScalesModel", name := "stocked", desc := "(III)I" } : Jvm.MethodName)) ∈ lw_all := lw_g (lw_at lw_m8 30 rfl) rfl
theorem q1770 : (Jvm.Cond.code ({ cls := "TicketScalesModel", name := "stocked", desc := "(III)I" } : Jvm.MethodName) prog_21_method_37_code (5 : Nat) (Option.some Jvm.ClassFile.FieldType.int)) ∈ lw_all := lw_g (lw_at lw_m8 31 rfl) rfl
theorem q1771 : (Jvm.Cond.constantLong "TicketScalesModel" (126 : Nat) (99 : Int64)) ∈ lw_all := lw_g (lw_at lw_m8 32 rfl) rfl
theorem q1773 : (Jvm.Cond.instanceMethod ({ cls := "TicketScalesModel", name := "take", desc := "(I)I" } : Jvm.MethodName)) ∈ lw_all := lw_g (lw_at lw_m8 34 rfl) rfl
theorem q1774 : (Jvm.Cond.selects "TicketScalesModel" ({ cls := "TicketScalesModel", name := "take", desc := "(I)I" } : Jvm.MethodName) ({ cls := "TicketScalesModel", name := "take", desc := "(I)I" } : Jvm.MethodName)) ∈ lw_all := lw_g (lw_at lw_m8 35 rfl) rfl
theorem q1775 : (Jvm.Cond.code ({ cls := "TicketScalesModel", name := "take", desc := "(I)I" } : Jvm.MethodName) prog_21_method_41_code (4 : Nat) (Option.some Jvm.ClassFile.FieldType.int)) ∈ lw_all := lw_g (lw_at lw_m8 36 rfl) rfl
theorem q1776 : (Jvm.Cond.methodLink "TicketScalesModel" (134 : Nat) ({ cls := "TicketScalesModel", name := "pointsOfAll", desc := "()I" } : Jvm.MethodName)) ∈ lw_all := lw_g (lw_at lw_m8 37 rfl) rfl
theorem q1777 : (Jvm.Cond.privateMethod ({ cls := "TicketScalesModel", name := "pointsOfAll", desc := "()I" } : Jvm.MethodName)) ∈ lw_tbl := lw_at lw_m8 38 rfl
theorem q1778 : (Jvm.Cond.instanceMethod ({ cls := "TicketScalesModel", name := "pointsOfAll", desc := "()I" } : Jvm.MethodName)) ∈ lw_all := lw_g (lw_at lw_m8 39 rfl) rfl
theorem q1779 : (Jvm.Cond.code ({ cls := "TicketScalesModel", name := "pointsOfAll", desc := "()I" } : Jvm.MethodName) prog_21_method_40_code (3 : Nat) (Option.some Jvm.ClassFile.FieldType.int)) ∈ lw_all := lw_g (lw_at lw_m8 40 rfl) rfl
theorem q1781 : (Jvm.Cond.instanceMethod ({ cls := "TicketScalesModel", name := "restore", desc := "(I)I" } : Jvm.MethodName)) ∈ lw_all := lw_g (lw_at lw_m8 42 rfl) rfl
theorem q1782 : (Jvm.Cond.selects "TicketScalesModel" ({ cls := "TicketScalesModel", name := "restore", desc := "(I)I" } : Jvm.MethodName) ({ cls := "TicketScalesModel", name := "restore", desc := "(I)I" } : Jvm.MethodName)) ∈ lw_all := lw_g (lw_at lw_m8 43 rfl) rfl
theorem q1783 : (Jvm.Cond.code ({ cls := "TicketScalesModel", name := "restore", desc := "(I)I" } : Jvm.MethodName) prog_21_method_42_code (4 : Nat) (Option.some Jvm.ClassFile.FieldType.int)) ∈ lw_all := lw_g (lw_at lw_m8 44 rfl) rfl
theorem q1785 : (Jvm.Cond.instanceMethod ({ cls := "TicketScalesModel", name := "undo", desc := "()I" } : Jvm.MethodName)) ∈ lw_all := lw_g (lw_at lw_m8 46 rfl) rfl
theorem q1786 : (Jvm.Cond.selects "TicketScalesModel" ({ cls := "TicketScalesModel", name := "undo", desc := "()I" } : Jvm.MethodName) ({ cls := "TicketScalesModel", name := "undo", desc := "()I" } : Jvm.MethodName)) ∈ lw_all := lw_g (lw_at lw_m8 47 rfl) rfl
theorem q1787 : (Jvm.Cond.code ({ cls := "TicketScalesModel", name := "undo", desc := "()I" } : Jvm.MethodName) prog_21_method_43_code (2 : Nat) (Option.some Jvm.ClassFile.FieldType.int)) ∈ lw_all := lw_g (lw_at lw_m8 48 rfl) rfl
theorem q1789 : (Jvm.Cond.instanceMethod ({ cls := "TicketScalesModel", name := "append", desc := "(I)I" } : Jvm.MethodName)) ∈ lw_all := lw_g (lw_at lw_m8 50 rfl) rfl
theorem q1790 : (Jvm.Cond.selects "TicketScalesModel" ({ cls := "TicketScalesModel", name := "append", desc := "(I)I" } : Jvm.MethodName) ({ cls := "TicketScalesModel", name := "append", desc := "(I)I" } : Jvm.MethodName)) ∈ lw_all := lw_g (lw_at lw_m8 51 rfl) rfl
theorem q1791 : (Jvm.Cond.code ({ cls := "TicketScalesModel", name := "append", desc := "(I)I" } : Jvm.MethodName) prog_21_method_44_code (2 : Nat) (Option.some Jvm.ClassFile.FieldType.int)) ∈ lw_all := lw_g (lw_at lw_m8 52 rfl) rfl
theorem q1793 : (Jvm.Cond.instanceMethod ({ cls := "TicketScalesModel", name := "clearText", desc := "()I" } : Jvm.MethodName)) ∈ lw_all := lw_g (lw_at lw_m8 54 rfl) rfl
theorem q1794 : (Jvm.Cond.selects "TicketScalesModel" ({ cls := "TicketScalesModel", name := "clearText", desc := "()I" } : Jvm.MethodName) ({ cls := "TicketScalesModel", name := "clearText", desc := "()I" } : Jvm.MethodName)) ∈ lw_all := lw_g (lw_at lw_m8 55 rfl) rfl
theorem q1795 : (Jvm.Cond.code ({ cls := "TicketScalesModel", name := "clearText", desc := "()I" } : Jvm.MethodName) prog_21_method_45_code (2 : Nat) (Option.some Jvm.ClassFile.FieldType.int)) ∈ lw_all := lw_g (lw_at lw_m8 56 rfl) rfl
theorem q1797 : (Jvm.Cond.instanceMethod ({ cls := "TicketScalesModel", name := "run", desc := "()I" } : Jvm.MethodName)) ∈ lw_all := lw_g (lw_at lw_m8 58 rfl) rfl
theorem q1798 : (Jvm.Cond.selects "TicketScalesModel" ({ cls := "TicketScalesModel", name := "run", desc := "()I" } : Jvm.MethodName) ({ cls := "TicketScalesModel", name := "run", desc := "()I" } : Jvm.MethodName)) ∈ lw_all := lw_g (lw_at lw_m8 59 rfl) rfl
theorem q1799 : (Jvm.Cond.code ({ cls := "TicketScalesModel", name := "run", desc := "()I" } : Jvm.MethodName) prog_21_method_55_code (5 : Nat) (Option.some Jvm.ClassFile.FieldType.int)) ∈ lw_all := lw_g (lw_at lw_m8 60 rfl) rfl
theorem q1800 : (Jvm.Cond.methodLink "TicketScalesModel" (157 : Nat) ({ cls := "TicketScalesModel", name := "reads", desc := "()V" } : Jvm.MethodName)) ∈ lw_all := lw_g (lw_at lw_m8 61 rfl) rfl
theorem q1801 : (Jvm.Cond.privateMethod ({ cls := "TicketScalesModel", name := "reads", desc := "()V" } : Jvm.MethodName)) ∈ lw_tbl := lw_at lw_m8 62 rfl
theorem q1802 : (Jvm.Cond.instanceMethod ({ cls := "TicketScalesModel", name := "reads", desc := "()V" } : Jvm.MethodName)) ∈ lw_all := lw_g (lw_at lw_m8 63 rfl) rfl
theorem q1803 : (Jvm.Cond.code ({ cls := "TicketScalesModel", name := "reads", desc := "()V" } : Jvm.MethodName) prog_21_method_47_code (1 : Nat) (Option.none : Option Jvm.ClassFile.FieldType)) ∈ lw_all := lw_g (lw_at lw_m8 64 rfl) rfl
theorem q1804 : (Jvm.Cond.methodLink "TicketScalesModel" (147 : Nat) ({ cls := "TicketScalesModel", name := "isIn", desc := "(II)Z" } : Jvm.MethodName)) ∈ lw_all := lw_g (lw_at lw_m8 65 rfl) rfl
theorem q1805 : (Jvm.Cond.privateMethod ({ cls := "TicketScalesModel", name := "isIn", desc := "(II)Z" } : Jvm.MethodName)) ∈ lw_tbl := lw_at lw_m8 66 rfl
theorem q1806 : (Jvm.Cond.instanceMethod ({ cls := "TicketScalesModel", name := "isIn", desc := "(II)Z" } : Jvm.MethodName)) ∈ lw_all := lw_g (lw_at lw_m8 67 rfl) rfl
theorem q1807 : (Jvm.Cond.code ({ cls := "TicketScalesModel", name := "isIn", desc := "(II)Z" } : Jvm.MethodName) prog_21_method_46_code (3 : Nat) (Option.some Jvm.ClassFile.FieldType.boolean)) ∈ lw_all := lw_g (lw_at lw_m8 68 rfl) rfl
theorem q1808 : (Jvm.Cond.methodLink "TicketScalesModel" (167 : Nat) ({ cls := "TicketScalesModel", name := "word", desc := "()I" } : Jvm.MethodName)) ∈ lw_all := lw_g (lw_at lw_m8 69 rfl) rfl
theorem q1809 : (Jvm.Cond.privateMethod ({ cls := "TicketScalesModel", name := "word", desc := "()I" } : Jvm.MethodName)) ∈ lw_tbl := lw_at lw_m8 70 rfl
theorem q1810 : (Jvm.Cond.instanceMethod ({ cls := "TicketScalesModel", name := "word", desc := "()I" } : Jvm.MethodName)) ∈ lw_all := lw_g (lw_at lw_m8 71 rfl) rfl
theorem q1811 : (Jvm.Cond.code ({ cls := "TicketScalesModel", name := "word", desc := "()I" } : Jvm.MethodName) prog_21_method_49_code (3 : Nat) (Option.some Jvm.ClassFile.FieldType.int)) ∈ lw_all := lw_g (lw_at lw_m8 72 rfl) rfl
theorem q1812 : (Jvm.Cond.methodLink "TicketScalesModel" (170 : Nat) ({ cls := "TicketScalesModel", name := "numbers", desc := "(I)I" } : Jvm.MethodName)) ∈ lw_all := lw_g (lw_at lw_m8 73 rfl) rfl
theorem q1813 : (Jvm.Cond.static ({ cls := "TicketScalesModel", name := "numbers", desc := "(I)I" } : Jvm.MethodName)) ∈ lw_all := lw_g (lw_at lw_m8 74 rfl) rfl
theorem q1814 : (Jvm.Cond.code ({ cls := "TicketScalesModel", name := "numbers", desc := "(I)I" } : Jvm.MethodName) prog_21_method_48_code (1 : Nat) (Option.some Jvm.ClassFile.FieldType.int)) ∈ lw_all := lw_g (lw_at lw_m8 75 rfl) rfl
theorem q1815 : (Jvm.Cond.methodLink "TicketScalesModel" (173 : Nat) ({ cls := "TicketScalesModel", name := "readsNumbers", desc := "(I)Z" } : Jvm.MethodName)) ∈ lw_all := lw_g (lw_at lw_m8 76 rfl) rfl
theorem q1816 : (Jvm.Cond.privateMethod ({ cls := "TicketScalesModel", name := "readsNumbers", desc := "(I)Z" } : Jvm.MethodName)) ∈ lw_tbl := lw_at lw_m8 77 rfl
theorem q1817 : (Jvm.Cond.instanceMethod ({ cls := "TicketScalesModel", name := "readsNumbers", desc := "(I)Z" } : Jvm.MethodName)) ∈ lw_all := lw_g (lw_at lw_m8 78 rfl) rfl
theorem q1818 : (Jvm.Cond.code ({ cls := "TicketScalesModel", name := "readsNumbers", desc := "(I)Z" } : Jvm.MethodName) prog_21_method_54_code (3 : Nat) (Option.some Jvm.ClassFile.FieldType.boolean)) ∈ lw_all := lw_g (lw_at lw_m8 79 rfl) rfl
theorem q1819 : (Jvm.Cond.methodLink "TicketScalesModel" (160 : Nat) ({ cls := "TicketScalesModel", name := "isNumber", desc := "()Z" } : Jvm.MethodName)) ∈ lw_all := lw_g (lw_at lw_m8 80 rfl) rfl
theorem q1820 : (Jvm.Cond.privateMethod ({ cls := "TicketScalesModel", name := "isNumber", desc := "()Z" } : Jvm.MethodName)) ∈ lw_tbl := lw_at lw_m8 81 rfl
theorem q1821 : (Jvm.Cond.instanceMethod ({ cls := "TicketScalesModel", name := "isNumber", desc := "()Z" } : Jvm.MethodName)) ∈ lw_all := lw_g (lw_at lw_m8 82 rfl) rfl
theorem q1822 : (Jvm.Cond.code ({ cls := "TicketScalesModel", name := "isNumber", desc := "()Z" } : Jvm.MethodName) prog_21_method_50_code (1 : Nat) (Option.some Jvm.ClassFile.FieldType.boolean)) ∈ lw_all := lw_g (lw_at lw_m8 83 rfl) rfl
theorem q1823 : (Jvm.Cond.methodLink "TicketScalesModel" (164 : Nat) ({ cls := "TicketScalesModel", name := "value", desc := "()I" } : Jvm.MethodName)) ∈ lw_all := lw_g (lw_at lw_m8 84 rfl) rfl
theorem q1824 : (Jvm.Cond.privateMethod ({ cls := "TicketScalesModel", name := "value", desc := "()I" } : Jvm.MethodName)) ∈ lw_tbl := lw_at lw_m8 85 rfl
theorem q1825 : (Jvm.Cond.instanceMethod ({ cls := "TicketScalesModel", name := "value", desc := "()I" } : Jvm.MethodName)) ∈ lw_all := lw_g (lw_at lw_m8 86 rfl) rfl
theorem q1826 : (Jvm.Cond.code ({ cls := "TicketScalesModel", name := "value", desc := "()I" } : Jvm.MethodName) prog_21_method_51_code (3 : Nat) (Option.some Jvm.ClassFile.FieldType.int)) ∈ lw_all := lw_g (lw_at lw_m8 87 rfl) rfl
theorem q1827 : (Jvm.Cond.methodLink "TicketScalesModel" (176 : Nat) ({ cls := "TicketScalesModel", name := "fails", desc := "(IIII)I" } : Jvm.MethodName)) ∈ lw_all := lw_g (lw_at lw_m8 88 rfl) rfl
theorem q1828 : (Jvm.Cond.privateMethod ({ cls := "TicketScalesModel", name := "fails", desc := "(IIII)I" } : Jvm.MethodName)) ∈ lw_tbl := lw_at lw_m8 89 rfl
theorem q1829 : (Jvm.Cond.instanceMethod ({ cls := "TicketScalesModel", name := "fails", desc := "(IIII)I" } : Jvm.MethodName)) ∈ lw_all := lw_g (lw_at lw_m8 90 rfl) rfl
theorem q1830 : (Jvm.Cond.code ({ cls := "TicketScalesModel", name := "fails", desc := "(IIII)I" } : Jvm.MethodName) prog_21_method_53_code (6 : Nat) (Option.some Jvm.ClassFile.FieldType.int)) ∈ lw_all := lw_g (lw_at lw_m8 91 rfl) rfl
theorem q1831 : (Jvm.Cond.methodLink "TicketScalesModel" (179 : Nat) ({ cls := "TicketScalesModel", name := "does", desc := "(I)I" } : Jvm.MethodName)) ∈ lw_all := lw_g (lw_at lw_m8 92 rfl) rfl
theorem q1832 : (Jvm.Cond.privateMethod ({ cls := "TicketScalesModel", name := "does", desc := "(I)I" } : Jvm.MethodName)) ∈ lw_tbl := lw_at lw_m8 93 rfl
theorem q1833 : (Jvm.Cond.instanceMethod ({ cls := "TicketScalesModel", name := "does", desc := "(I)I" } : Jvm.MethodName)) ∈ lw_all := lw_g (lw_at lw_m8 94 rfl) rfl
theorem q1834 : (Jvm.Cond.code ({ cls := "TicketScalesModel", name := "does", desc := "(I)I" } : Jvm.MethodName) prog_21_method_52_code (2 : Nat) (Option.some Jvm.ClassFile.FieldType.int)) ∈ lw_all := lw_g (lw_at lw_m8 95 rfl) rfl
theorem q1836 : (Jvm.Cond.instanceMethod ({ cls := "TicketScalesModel", name := "failure", desc := "(I)I" } : Jvm.MethodName)) ∈ lw_all := lw_g (lw_at lw_m8 97 rfl) rfl
theorem q1837 : (Jvm.Cond.selects "TicketScalesModel" ({ cls := "TicketScalesModel", name := "failure", desc := "(I)I" } : Jvm.MethodName) ({ cls := "TicketScalesModel", name := "failure", desc := "(I)I" } : Jvm.MethodName)) ∈ lw_all := lw_g (lw_at lw_m8 98 rfl) rfl
theorem q1838 : (Jvm.Cond.code ({ cls := "TicketScalesModel", name := "failure", desc := "(I)I" } : Jvm.MethodName) prog_21_method_56_code (2 : Nat) (Option.some Jvm.ClassFile.FieldType.int)) ∈ lw_all := lw_g (lw_at lw_m8 99 rfl) rfl
theorem q1840 : (Jvm.Cond.instanceMethod ({ cls := "TicketScalesModel", name := "count", desc := "(I)I" } : Jvm.MethodName)) ∈ lw_all := lw_g (lw_at lw_m8 101 rfl) rfl
theorem q1841 : (Jvm.Cond.selects "TicketScalesModel" ({ cls := "TicketScalesModel", name := "count", desc := "(I)I" } : Jvm.MethodName) ({ cls := "TicketScalesModel", name := "count", desc := "(I)I" } : Jvm.MethodName)) ∈ lw_all := lw_g (lw_at lw_m8 102 rfl) rfl
theorem q1842 : (Jvm.Cond.code ({ cls := "TicketScalesModel", name := "count", desc := "(I)I" } : Jvm.MethodName) prog_21_method_59_code (2 : Nat) (Option.some Jvm.ClassFile.FieldType.int)) ∈ lw_all := lw_g (lw_at lw_m8 103 rfl) rfl
theorem q1843 : (Jvm.Cond.methodLink "TicketScalesModel" (182 : Nat) ({ cls := "TicketScalesModel", name := "kept", desc := "()I" } : Jvm.MethodName)) ∈ lw_all := lw_g (lw_at lw_m8 104 rfl) rfl
theorem q1844 : (Jvm.Cond.privateMethod ({ cls := "TicketScalesModel", name := "kept", desc := "()I" } : Jvm.MethodName)) ∈ lw_tbl := lw_at lw_m8 105 rfl
theorem q1845 : (Jvm.Cond.instanceMethod ({ cls := "TicketScalesModel", name := "kept", desc := "()I" } : Jvm.MethodName)) ∈ lw_all := lw_g (lw_at lw_m8 106 rfl) rfl
theorem q1846 : (Jvm.Cond.code ({ cls := "TicketScalesModel", name := "kept", desc := "()I" } : Jvm.MethodName) prog_21_method_57_code (3 : Nat) (Option.some Jvm.ClassFile.FieldType.int)) ∈ lw_all := lw_g (lw_at lw_m8 107 rfl) rfl
theorem q1847 : (Jvm.Cond.methodLink "TicketScalesModel" (185 : Nat) ({ cls := "TicketScalesModel", name := "stocks", desc := "()I" } : Jvm.MethodName)) ∈ lw_all := lw_g (lw_at lw_m8 108 rfl) rfl
theorem q1848 : (Jvm.Cond.privateMethod ({ cls := "TicketScalesModel", name := "stocks", desc := "()I" } : Jvm.MethodName)) ∈ lw_tbl := lw_at lw_m8 109 rfl
theorem q1849 : (Jvm.Cond.instanceMethod ({ cls := "TicketScalesModel", name := "stocks", desc := "()I" } : Jvm.MethodName)) ∈ lw_all := lw_g (lw_at lw_m8 110 rfl) rfl
theorem q1850 : (Jvm.Cond.code ({ cls := "TicketScalesModel", name := "stocks", desc := "()I" } : Jvm.MethodName) prog_21_method_58_code (3 : Nat) (Option.some Jvm.ClassFile.FieldType.int)) ∈ lw_all := lw_g (lw_at lw_m8 111 rfl) rfl
theorem q1852 : (Jvm.Cond.instanceMethod ({ cls := "TicketScalesModel", name := "kind", desc := "(II)I" } : Jvm.MethodName)) ∈ lw_all := lw_g (lw_at lw_m8 113 rfl) rfl
theorem q1853 : (Jvm.Cond.selects "TicketScalesModel" ({ cls := "TicketScalesModel", name := "kind", desc := "(II)I" } : Jvm.MethodName) ({ cls := "TicketScalesModel", name := "kind", desc := "(II)I" } : Jvm.MethodName)) ∈ lw_all := lw_g (lw_at lw_m8 114 rfl) rfl
theorem q1854 : (Jvm.Cond.code ({ cls := "TicketScalesModel", name := "kind", desc := "(II)I" } : Jvm.MethodName) prog_21_method_60_code (3 : Nat) (Option.some Jvm.ClassFile.FieldType.int)) ∈ lw_all := lw_g (lw_at lw_m8 115 rfl) rfl
theorem q1856 : (Jvm.Cond.instanceMethod ({ cls := "TicketScalesModel", name := "customer", desc := "(II)I" } : Jvm.MethodName)) ∈ lw_all := lw_g (lw_at lw_m8 117 rfl) rfl
theorem q1857 : (Jvm.Cond.selects "TicketScalesModel" ({ cls := "TicketScalesModel", name := "customer", desc := "(II)I" } : Jvm.MethodName) ({ cls := "TicketScalesModel", name := "customer", desc := "(II)I" } : Jvm.MethodName)) ∈ lw_all := lw_g (lw_at lw_m8 118 rfl) rfl
theorem q1858 : (Jvm.Cond.code ({ cls := "TicketScalesModel", name := "customer", desc := "(II)I" } : Jvm.MethodName) prog_21_method_61_code (3 : Nat) (Option.some Jvm.ClassFile.FieldType.int)) ∈ lw_all := lw_g (lw_at lw_m8 119 rfl) rfl
theorem q1860 : (Jvm.Cond.instanceMethod ({ cls := "TicketScalesModel", name := "prize", desc := "(II)I" } : Jvm.MethodName)) ∈ lw_all := lw_g (lw_at lw_m8 121 rfl) rfl
theorem q1861 : (Jvm.Cond.selects "TicketScalesModel" ({ cls := "TicketScalesModel", name := "prize", desc := "(II)I" } : Jvm.MethodName) ({ cls := "TicketScalesModel", name := "prize", desc := "(II)I" } : Jvm.MethodName)) ∈ lw_all := lw_g (lw_at lw_m8 122 rfl) rfl
theorem q1862 : (Jvm.Cond.code ({ cls := "TicketScalesModel", name := "prize", desc := "(II)I" } : Jvm.MethodName) prog_21_method_62_code (3 : Nat) (Option.some Jvm.ClassFile.FieldType.int)) ∈ lw_all := lw_g (lw_at lw_m8 123 rfl) rfl
theorem q1864 : (Jvm.Cond.instanceMethod ({ cls := "TicketScalesModel", name := "read", desc := "(I)I" } : Jvm.MethodName)) ∈ lw_all := lw_g (lw_at lw_m8 125 rfl) rfl
theorem q1865 : (Jvm.Cond.selects "TicketScalesModel" ({ cls := "TicketScalesModel", name := "read", desc := "(I)I" } : Jvm.MethodName) ({ cls := "TicketScalesModel", name := "read", desc := "(I)I" } : Jvm.MethodName)) ∈ lw_all := lw_g (lw_at lw_m8 126 rfl) rfl
theorem q1866 : (Jvm.Cond.code ({ cls := "TicketScalesModel", name := "read", desc := "(I)I" } : Jvm.MethodName) prog_21_method_63_code (2 : Nat) (Option.some Jvm.ClassFile.FieldType.int)) ∈ lw_all := lw_g (lw_at lw_m8 127 rfl) rfl
theorem q1867 : (Jvm.Cond.constant "TicketScalesModel" (188 : Nat) (3000000 : Int32)) ∈ lw_all := lw_g (lw_at lw_m8 128 rfl) rfl
theorem q1869 : (Jvm.Cond.instanceMethod ({ cls := "TicketScalesModel", name := "allowed", desc := "(III)I" } : Jvm.MethodName)) ∈ lw_all := lw_g (lw_at lw_m8 130 rfl) rfl
theorem q1870 : (Jvm.Cond.selects "TicketScalesModel" ({ cls := "TicketScalesModel", name := "allowed", desc := "(III)I" } : Jvm.MethodName) ({ cls := "TicketScalesModel", name := "allowed", desc := "(III)I" } : Jvm.MethodName)) ∈ lw_all := lw_g (lw_at lw_m8 131 rfl) rfl
theorem q1871 : (Jvm.Cond.code ({ cls := "TicketScalesModel", name := "allowed", desc := "(III)I" } : Jvm.MethodName) prog_21_method_64_code (4 : Nat) (Option.some Jvm.ClassFile.FieldType.int)) ∈ lw_all := lw_g (lw_at lw_m8 132 rfl) rfl
theorem q1873 : (Jvm.Cond.instanceMethod ({ cls := "TicketScalesModel", name := "guess", desc := "(III)I" } : Jvm.MethodName)) ∈ lw_all := lw_g (lw_at lw_m8 134 rfl) rfl
theorem q1874 : (Jvm.Cond.selects "TicketScalesModel" ({ cls := "TicketScalesModel", name := "guess", desc := "(III)I" } : Jvm.MethodName) ({ cls := "TicketScalesModel", name := "guess", desc := "(III)I" } : Jvm.MethodName)) ∈ lw_all := lw_g (lw_at lw_m8 135 rfl) rfl
theorem q1875 : (Jvm.Cond.code ({ cls := "TicketScalesModel", name := "guess", desc := "(III)I" } : Jvm.MethodName) prog_21_method_65_code (4 : Nat) (Option.some Jvm.ClassFile.FieldType.int)) ∈ lw_all := lw_g (lw_at lw_m8 136 rfl) rfl
theorem q1877 : (Jvm.Cond.instanceMethod ({ cls := "TicketScalesModel", name := "apartUpTo", desc := "(I)I" } : Jvm.MethodName)) ∈ lw_all := lw_g (lw_at lw_m8 138 rfl) rfl
theorem q1878 : (Jvm.Cond.selects "TicketScalesModel" ({ cls := "TicketScalesModel", name := "apartUpTo", desc := "(I)I" } : Jvm.MethodName) ({ cls := "TicketScalesModel", name := "apartUpTo", desc := "(I)I" } : Jvm.MethodName)) ∈ lw_all := lw_g (lw_at lw_m8 139 rfl) rfl
theorem q1879 : (Jvm.Cond.code ({ cls := "TicketScalesModel", name := "apartUpTo", desc := "(I)I" } : Jvm.MethodName) prog_21_method_67_code (2 : Nat) (Option.some Jvm.ClassFile.FieldType.int)) ∈ lw_all := lw_g (lw_at lw_m8 140 rfl) rfl
theorem q1880 : (Jvm.Cond.methodLink "TicketScalesModel" (189 : Nat) ({ cls := "TicketScalesModel", name := "apart", desc := "(III)I" } : Jvm.MethodName)) ∈ lw_all := lw_g (lw_at lw_m8 141 rfl) rfl
theorem q1881 : (Jvm.Cond.privateMethod ({ cls := "TicketScalesModel", name := "apart", desc := "(III)I" } : Jvm.MethodName)) ∈ lw_tbl := lw_at lw_m8 142 rfl
theorem q1882 : (Jvm.Cond.instanceMethod ({ cls := "TicketScalesModel", name := "apart", desc := "(III)I" } : Jvm.MethodName)) ∈ lw_all := lw_g (lw_at lw_m8 143 rfl) rfl
theorem q1883 : (Jvm.Cond.code ({ cls := "TicketScalesModel", name := "apart", desc := "(III)I" } : Jvm.MethodName) prog_21_method_66_code (7 : Nat) (Option.some Jvm.ClassFile.FieldType.int)) ∈ lw_all := lw_g (lw_at lw_m8 144 rfl) rfl
theorem q1885 : (Jvm.Cond.instanceMethod ({ cls := "TicketScalesModel", name := "bestStep", desc := "(II)I" } : Jvm.MethodName)) ∈ lw_all := lw_g (lw_at lw_m8 146 rfl) rfl
theorem q1886 : (Jvm.Cond.selects "TicketScalesModel" ({ cls := "TicketScalesModel", name := "bestStep", desc := "(II)I" } : Jvm.MethodName) ({ cls := "TicketScalesModel", name := "bestStep", desc := "(II)I" } : Jvm.MethodName)) ∈ lw_all := lw_g (lw_at lw_m8 147 rfl) rfl
theorem q1887 : (Jvm.Cond.code ({ cls := "TicketScalesModel", name := "bestStep", desc := "(II)I" } : Jvm.MethodName) prog_21_method_68_code (4 : Nat) (Option.some Jvm.ClassFile.FieldType.int)) ∈ lw_all := lw_g (lw_at lw_m8 148 rfl) rfl
theorem q1889 : (Jvm.Cond.instanceMethod ({ cls := "TicketScalesModel", name := "mixed", desc := "(IIII)I" } : Jvm.MethodName)) ∈ lw_all := lw_g (lw_at lw_m8 150 rfl) rfl
theorem q1890 : (Jvm.Cond.selects "TicketScalesModel" ({ cls := "TicketScalesModel", name := "mixed", desc := "(IIII)I" } : Jvm.MethodName) ({ cls := "TicketScalesModel", name := "mixed", desc := "(IIII)I" } : Jvm.MethodName)) ∈ lw_all := lw_g (lw_at lw_m8 151 rfl) rfl
theorem q1891 : (Jvm.Cond.code ({ cls := "TicketScalesModel", name := "mixed", desc := "(IIII)I" } : Jvm.MethodName) prog_21_method_70_code (10 : Nat) (Option.some Jvm.ClassFile.FieldType.int)) ∈ lw_all := lw_g (lw_at lw_m8 152 rfl) rfl
theorem q1892 : (Jvm.Cond.methodLink "TicketScalesModel" (192 : Nat) ({ cls := "TicketScalesModel", name := "mixes", desc := "(IIIII)Z" } : Jvm.MethodName)) ∈ lw_all := lw_g (lw_at lw_m8 153 rfl) rfl
theorem q1893 : (Jvm.Cond.privateMethod ({ cls := "TicketScalesModel", name := "mixes", desc := "(IIIII)Z" } : Jvm.MethodName)) ∈ lw_tbl := lw_at lw_m8 154 rfl
theorem q1894 : (Jvm.Cond.instanceMethod ({ cls := "TicketScalesModel", name := "mixes", desc := "(IIIII)Z" } : Jvm.MethodName)) ∈ lw_all := lw_g (lw_at lw_m8 155 rfl) rfl
theorem q1895 : (Jvm.Cond.code ({ cls := "TicketScalesModel", name := "mixes", desc := "(IIIII)Z" } : Jvm.MethodName) prog_21_method_69_code (8 : Nat) (Option.some Jvm.ClassFile.FieldType.boolean)) ∈ lw_all := lw_g (lw_at lw_m8 156 rfl) rfl
theorem q1897 : (Jvm.Cond.instanceMethod ({ cls := "TicketScalesModel", name := "would", desc := "(I)I" } : Jvm.MethodName)) ∈ lw_all := lw_g (lw_at lw_m8 158 rfl) rfl
theorem q1898 : (Jvm.Cond.selects "TicketScalesModel" ({ cls := "TicketScalesModel", name := "would", desc := "(I)I" } : Jvm.MethodName) ({ cls := "TicketScalesModel", name := "would", desc := "(I)I" } : Jvm.MethodName)) ∈ lw_all := lw_g (lw_at lw_m8 159 rfl) rfl
theorem q1899 : (Jvm.Cond.code ({ cls := "TicketScalesModel", name := "would", desc := "(I)I" } : Jvm.MethodName) prog_21_method_72_code (3 : Nat) (Option.some Jvm.ClassFile.FieldType.int)) ∈ lw_all := lw_g (lw_at lw_m8 160 rfl) rfl
theorem q1900 : (Jvm.Cond.methodLink "TicketScalesModel" (196 : Nat) ({ cls := "TicketScalesModel", name := "given", desc := "(I)I" } : Jvm.MethodName)) ∈ lw_all := lw_g (lw_at lw_m8 161 rfl) rfl
theorem q1901 : (Jvm.Cond.privateMethod ({ cls := "TicketScalesModel", name := "given", desc := "(I)I" } : Jvm.MethodName)) ∈ lw_tbl := lw_at lw_m8 162 rfl
theorem q1902 : (Jvm.Cond.instanceMethod ({ cls := "TicketScalesModel", name := "given", desc := "(I)I" } : Jvm.MethodName)) ∈ lw_all := lw_g (lw_at lw_m8 163 rfl) rfl
theorem q1903 : (Jvm.Cond.code ({ cls := "TicketScalesModel", name := "given", desc := "(I)I" } : Jvm.MethodName) prog_21_method_71_code (5 : Nat) (Option.some Jvm.ClassFile.FieldType.int)) ∈ lw_all := lw_g (lw_at lw_m8 164 rfl) rfl
theorem q1905 : (Jvm.Cond.instanceMethod ({ cls := "TicketScalesModel", name := "fairest", desc := "()I" } : Jvm.MethodName)) ∈ lw_all := lw_g (lw_at lw_m8 166 rfl) rfl
theorem q1906 : (Jvm.Cond.selects "TicketScalesModel" ({ cls := "TicketScalesModel", name := "fairest", desc := "()I" } : Jvm.MethodName) ({ cls := "TicketScalesModel", name := "fairest", desc := "()I" } : Jvm.MethodName)) ∈ lw_all := lw_g (lw_at lw_m8 167 rfl) rfl
theorem q1907 : (Jvm.Cond.code ({ cls := "TicketScalesModel", name := "fairest", desc := "()I" } : Jvm.MethodName) prog_21_method_73_code (4 : Nat) (Option.some Jvm.ClassFile.FieldType.int)) ∈ lw_all := lw_g (lw_at lw_m8 168 rfl) rfl
theorem q1909 : (Jvm.Cond.instanceMethod ({ cls := "TicketScalesModel", name := "soldOut", desc := "(I)I" } : Jvm.MethodName)) ∈ lw_all := lw_g (lw_at lw_m8 170 rfl) rfl
theorem q1910 : (Jvm.Cond.selects "TicketScalesModel" ({ cls := "TicketScalesModel", name := "soldOut", desc := "(I)I" } : Jvm.MethodName) ({ cls := "TicketScalesModel", name := "soldOut", desc := "(I)I" } : Jvm.MethodName)) ∈ lw_all := lw_g (lw_at lw_m8 171 rfl) rfl
theorem q1911 : (Jvm.Cond.code ({ cls := "TicketScalesModel", name := "soldOut", desc := "(I)I" } : Jvm.MethodName) prog_21_method_74_code (6 : Nat) (Option.some Jvm.ClassFile.FieldType.int)) ∈ lw_all := lw_g (lw_at lw_m8 172 rfl) rfl
theorem q1913 : (Jvm.Cond.instanceMethod ({ cls := "TicketScalesModel", name := "shop", desc := "(II)I" } : Jvm.MethodName)) ∈ lw_all := lw_g (lw_at lw_m8 174 rfl) rfl
theorem q1914 : (Jvm.Cond.selects "TicketScalesModel" ({ cls := "TicketScalesModel", name := "shop", desc := "(II)I" } : Jvm.MethodName) ({ cls := "TicketScalesModel", name := "shop", desc := "(II)I" } : Jvm.MethodName)) ∈ lw_all := lw_g (lw_at lw_m8 175 rfl) rfl
theorem q1915 : (Jvm.Cond.code ({ cls := "TicketScalesModel", name := "shop", desc := "(II)I" } : Jvm.MethodName) prog_21_method_76_code (9 : Nat) (Option.some Jvm.ClassFile.FieldType.int)) ∈ lw_all := lw_g (lw_at lw_m8 176 rfl) rfl
theorem q1916 : (Jvm.Cond.methodLink "TicketScalesModel" (199 : Nat) ({ cls := "TicketScalesModel", name := "ahead", desc := "(I)I" } : Jvm.MethodName)) ∈ lw_all := lw_g (lw_at lw_m8 177 rfl) rfl
theorem q1917 : (Jvm.Cond.privateMethod ({ cls := "TicketScalesModel", name := "ahead", desc := "(I)I" } : Jvm.MethodName)) ∈ lw_tbl := lw_at lw_m8 178 rfl
theorem q1918 : (Jvm.Cond.instanceMethod ({ cls := "TicketScalesModel", name := "ahead", desc := "(I)I" } : Jvm.MethodName)) ∈ lw_all := lw_g (lw_at lw_m8 179 rfl) rfl
theorem q1919 : (Jvm.Cond.code ({ cls := "TicketScalesModel", name := "ahead", desc := "(I)I" } : Jvm.MethodName) prog_21_method_75_code (4 : Nat) (Option.some Jvm.ClassFile.FieldType.int)) ∈ lw_all := lw_g (lw_at lw_m8 180 rfl) rfl
theorem q1948 : (Jvm.Cond.castable "TicketScalesModel" "java/lang/Object") ∈ lw_tbl := lw_at lw_m8 209 rfl
theorem in_X3 : ∀ w ∈ wsX30, w ∈ lw_all := lw_in wsX30 [1586, 1588, 1590, 1592, 1594, 1596, 1598, 1600, 1602, 1604, 1606, 1608, 1610, 1612, 1614] (by decide +kernel) (by decide +kernel)
