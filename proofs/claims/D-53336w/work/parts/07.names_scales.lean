/-! TicketScales -/
set_option maxRecDepth 100000
def RX0 : String := "TicketScales"
def TX0 : u_T := fun k => match k with
  | 0 => ("TicketScales", "state", "LTicketScales$State;", false)
  | 1 => ("TicketScales", "history", "Ljava/util/ArrayDeque;", true)
  | 2 => ("TicketScales", "text", "Ljava/lang/StringBuilder;", true)
  | _ => ("TicketScales", "failure", "[I", true)
def tyX0 : Nat → FieldType := fun k => match k with
  | 0 => .object "TicketScales$State"
  | 1 => .object "java/util/ArrayDeque"
  | 2 => .object "java/lang/StringBuilder"
  | _ => .array .int
abbrev wsX00 : List Cond := u_ws RX0 TX0 4
theorem nmX0 : ∀ a, a < 4 → ∀ b, b < 4 → a ≠ b → (TX0 a).2.1 ≠ (TX0 b).2.1 := by decide +kernel
theorem tyX0_ok : ∀ k, k < 4 → parseFieldDescriptor (TX0 k).2.2.1 = some (tyX0 k) := by decide +kernel
abbrev cX0_init : ByteArray := prog_1_method_4_code
def yX0_init : MethodName := ⟨RX0, "<init>", "()V"⟩
def dkwX0_init_2 : List UInt8 := [188, 10, 181, 0, 44, 177]
abbrev dktX0_init_2 : List UInt8 := dkwX0_init_2 ++ []
def dkwX0_init_1 : List UInt8 := [187, 0, 30, 89, 183, 0, 32, 181, 0, 33, 42, 187, 0, 37, 89, 183, 0, 39, 181, 0, 40, 42, 8]
abbrev dktX0_init_1 : List UInt8 := dkwX0_init_1 ++ dktX0_init_2
def dkwX0_init_0 : List UInt8 := [42, 183, 0, 12, 42, 187, 0, 18, 89, 187, 0, 20, 89, 183, 0, 22, 183, 0, 23, 181, 0, 26, 42]
abbrev dktX0_init_0 : List UInt8 := dkwX0_init_0 ++ dktX0_init_1
theorem dksX0_init_0 : cX0_init.data.toList.drop 0 = dktX0_init_0 := by decide +kernel
theorem dksX0_init_1 : cX0_init.data.toList.drop 23 = dktX0_init_1 := dk_seg dksX0_init_0 23 rfl rfl
theorem dksX0_init_2 : cX0_init.data.toList.drop 46 = dktX0_init_2 := dk_seg dksX0_init_1 23 rfl rfl
theorem dX0_init_0 : decode cX0_init 0 = .ok (.aload_n 0, 1) := dk_42 (dk_at dksX0_init_0 0 rfl rfl)
theorem dX0_init_1 : decode cX0_init 1 = .ok (.invokespecial 12, 3) := dk_183 0 12 (dk_at dksX0_init_0 1 rfl rfl)
theorem dX0_init_4 : decode cX0_init 4 = .ok (.aload_n 0, 1) := dk_42 (dk_at dksX0_init_0 4 rfl rfl)
theorem dX0_init_5 : decode cX0_init 5 = .ok (.new 18, 3) := dk_187 0 18 (dk_at dksX0_init_0 5 rfl rfl)
theorem dX0_init_8 : decode cX0_init 8 = .ok (.dup, 1) := dk_89 (dk_at dksX0_init_0 8 rfl rfl)
theorem dX0_init_9 : decode cX0_init 9 = .ok (.new 20, 3) := dk_187 0 20 (dk_at dksX0_init_0 9 rfl rfl)
theorem dX0_init_12 : decode cX0_init 12 = .ok (.dup, 1) := dk_89 (dk_at dksX0_init_0 12 rfl rfl)
theorem dX0_init_13 : decode cX0_init 13 = .ok (.invokespecial 22, 3) := dk_183 0 22 (dk_at dksX0_init_0 13 rfl rfl)
theorem dX0_init_16 : decode cX0_init 16 = .ok (.invokespecial 23, 3) := dk_183 0 23 (dk_at dksX0_init_0 16 rfl rfl)
theorem dX0_init_19 : decode cX0_init 19 = .ok (.putfield 26, 3) := dk_181 0 26 (dk_at dksX0_init_0 19 rfl rfl)
theorem dX0_init_22 : decode cX0_init 22 = .ok (.aload_n 0, 1) := dk_42 (dk_at dksX0_init_0 22 rfl rfl)
theorem dX0_init_23 : decode cX0_init 23 = .ok (.new 30, 3) := dk_187 0 30 (dk_at dksX0_init_1 0 rfl rfl)
theorem dX0_init_26 : decode cX0_init 26 = .ok (.dup, 1) := dk_89 (dk_at dksX0_init_1 3 rfl rfl)
theorem dX0_init_27 : decode cX0_init 27 = .ok (.invokespecial 32, 3) := dk_183 0 32 (dk_at dksX0_init_1 4 rfl rfl)
theorem dX0_init_30 : decode cX0_init 30 = .ok (.putfield 33, 3) := dk_181 0 33 (dk_at dksX0_init_1 7 rfl rfl)
theorem dX0_init_33 : decode cX0_init 33 = .ok (.aload_n 0, 1) := dk_42 (dk_at dksX0_init_1 10 rfl rfl)
theorem dX0_init_34 : decode cX0_init 34 = .ok (.new 37, 3) := dk_187 0 37 (dk_at dksX0_init_1 11 rfl rfl)
theorem dX0_init_37 : decode cX0_init 37 = .ok (.dup, 1) := dk_89 (dk_at dksX0_init_1 14 rfl rfl)
theorem dX0_init_38 : decode cX0_init 38 = .ok (.invokespecial 39, 3) := dk_183 0 39 (dk_at dksX0_init_1 15 rfl rfl)
theorem dX0_init_41 : decode cX0_init 41 = .ok (.putfield 40, 3) := dk_181 0 40 (dk_at dksX0_init_1 18 rfl rfl)
theorem dX0_init_44 : decode cX0_init 44 = .ok (.aload_n 0, 1) := dk_42 (dk_at dksX0_init_1 21 rfl rfl)
theorem dX0_init_45 : decode cX0_init 45 = .ok (.iconst 5, 1) := dk_8 (dk_at dksX0_init_1 22 rfl rfl)
theorem dX0_init_46 : decode cX0_init 46 = .ok (.newarray .int, 2) := dk_188_10 (dk_at dksX0_init_2 0 rfl rfl)
theorem dX0_init_48 : decode cX0_init 48 = .ok (.putfield 44, 3) := dk_181 0 44 (dk_at dksX0_init_2 2 rfl rfl)
theorem dX0_init_51 : decode cX0_init 51 = .ok (.return_, 1) := dk_177 (dk_at dksX0_init_2 5 rfl rfl)
abbrev cX0_setKind : ByteArray := prog_1_method_8_code
def yX0_setKind : MethodName := ⟨RX0, "setKind", "(III)I"⟩
def dkwX0_setKind_0 : List UInt8 := [42, 27, 28, 29, 186, 0, 82, 0, 0, 182, 0, 85, 172]
abbrev dktX0_setKind_0 : List UInt8 := dkwX0_setKind_0 ++ []
theorem dksX0_setKind_0 : cX0_setKind.data.toList.drop 0 = dktX0_setKind_0 := by decide +kernel
theorem dX0_setKind_0 : decode cX0_setKind 0 = .ok (.aload_n 0, 1) := dk_42 (dk_at dksX0_setKind_0 0 rfl rfl)
theorem dX0_setKind_1 : decode cX0_setKind 1 = .ok (.iload_n 1, 1) := dk_27 (dk_at dksX0_setKind_0 1 rfl rfl)
theorem dX0_setKind_2 : decode cX0_setKind 2 = .ok (.iload_n 2, 1) := dk_28 (dk_at dksX0_setKind_0 2 rfl rfl)
theorem dX0_setKind_3 : decode cX0_setKind 3 = .ok (.iload_n 3, 1) := dk_29 (dk_at dksX0_setKind_0 3 rfl rfl)
theorem dX0_setKind_4 : decode cX0_setKind 4 = .ok (.invokedynamic 82, 5) := by decide +kernel
theorem dX0_setKind_9 : decode cX0_setKind 9 = .ok (.invokevirtual 85, 3) := dk_182 0 85 (dk_at dksX0_setKind_0 9 rfl rfl)
theorem dX0_setKind_12 : decode cX0_setKind 12 = .ok (.ireturn, 1) := dk_172 (dk_at dksX0_setKind_0 12 rfl rfl)
abbrev cX0_lambda_setKind_0 : ByteArray := prog_1_method_63_code
def yX0_lambda_setKind_0 : MethodName := ⟨RX0, "lambda$setKind$0", "(IIILTicketScales$Counter;)I"⟩
def dkwX0_lambda_setKind_0_0 : List UInt8 := [45, 26, 27, 28, 182, 1, 92, 172]
abbrev dktX0_lambda_setKind_0_0 : List UInt8 := dkwX0_lambda_setKind_0_0 ++ []
theorem dksX0_lambda_setKind_0_0 : cX0_lambda_setKind_0.data.toList.drop 0 = dktX0_lambda_setKind_0_0 := by decide +kernel
theorem dX0_lambda_setKind_0_0 : decode cX0_lambda_setKind_0 0 = .ok (.aload_n 3, 1) := dk_45 (dk_at dksX0_lambda_setKind_0_0 0 rfl rfl)
theorem dX0_lambda_setKind_0_1 : decode cX0_lambda_setKind_0 1 = .ok (.iload_n 0, 1) := dk_26 (dk_at dksX0_lambda_setKind_0_0 1 rfl rfl)
theorem dX0_lambda_setKind_0_2 : decode cX0_lambda_setKind_0 2 = .ok (.iload_n 1, 1) := dk_27 (dk_at dksX0_lambda_setKind_0_0 2 rfl rfl)
theorem dX0_lambda_setKind_0_3 : decode cX0_lambda_setKind_0 3 = .ok (.iload_n 2, 1) := dk_28 (dk_at dksX0_lambda_setKind_0_0 3 rfl rfl)
theorem dX0_lambda_setKind_0_4 : decode cX0_lambda_setKind_0 4 = .ok (.invokevirtual 348, 3) := dk_182 1 92 (dk_at dksX0_lambda_setKind_0_0 4 rfl rfl)
theorem dX0_lambda_setKind_0_7 : decode cX0_lambda_setKind_0 7 = .ok (.ireturn, 1) := dk_172 (dk_at dksX0_lambda_setKind_0_0 7 rfl rfl)
abbrev cX0_isBetween : ByteArray := prog_1_method_1_code
def yX0_isBetween : MethodName := ⟨RX0, "isBetween", "(III)Z"⟩
def dkwX0_isBetween_0 : List UInt8 := [26, 27, 161, 0, 12, 26, 28, 163, 0, 7, 4, 167, 0, 4, 3, 172]
abbrev dktX0_isBetween_0 : List UInt8 := dkwX0_isBetween_0 ++ []
theorem dksX0_isBetween_0 : cX0_isBetween.data.toList.drop 0 = dktX0_isBetween_0 := by decide +kernel
theorem dX0_isBetween_0 : decode cX0_isBetween 0 = .ok (.iload_n 0, 1) := dk_26 (dk_at dksX0_isBetween_0 0 rfl rfl)
theorem dX0_isBetween_1 : decode cX0_isBetween 1 = .ok (.iload_n 1, 1) := dk_27 (dk_at dksX0_isBetween_0 1 rfl rfl)
theorem dX0_isBetween_2 : decode cX0_isBetween 2 = .ok (.if_icmp .lt 12, 3) := dk_161 0 12 (dk_at dksX0_isBetween_0 2 rfl rfl)
theorem dX0_isBetween_5 : decode cX0_isBetween 5 = .ok (.iload_n 0, 1) := dk_26 (dk_at dksX0_isBetween_0 5 rfl rfl)
theorem dX0_isBetween_6 : decode cX0_isBetween 6 = .ok (.iload_n 2, 1) := dk_28 (dk_at dksX0_isBetween_0 6 rfl rfl)
theorem dX0_isBetween_7 : decode cX0_isBetween 7 = .ok (.if_icmp .gt 7, 3) := dk_163 0 7 (dk_at dksX0_isBetween_0 7 rfl rfl)
theorem dX0_isBetween_10 : decode cX0_isBetween 10 = .ok (.iconst 1, 1) := dk_4 (dk_at dksX0_isBetween_0 10 rfl rfl)
theorem dX0_isBetween_11 : decode cX0_isBetween 11 = .ok (.goto 4, 3) := dk_167 0 4 (dk_at dksX0_isBetween_0 11 rfl rfl)
theorem dX0_isBetween_14 : decode cX0_isBetween 14 = .ok (.iconst 0, 1) := dk_3 (dk_at dksX0_isBetween_0 14 rfl rfl)
theorem dX0_isBetween_15 : decode cX0_isBetween 15 = .ok (.ireturn, 1) := dk_172 (dk_at dksX0_isBetween_0 15 rfl rfl)
abbrev cX0_act : ByteArray := prog_1_method_7_code
def yX0_act : MethodName := ⟨RX0, "act", "(LTicketScales$Call;)I"⟩
def dkwX0_act_1 : List UInt8 := [154, 0, 8, 42, 44, 182, 0, 78, 29, 172]
abbrev dktX0_act_1 : List UInt8 := dkwX0_act_1 ++ []
def dkwX0_act_0 : List UInt8 := [42, 180, 0, 26, 182, 0, 64, 77, 43, 44, 180, 0, 48, 185, 0, 68, 2, 0, 62, 29, 184, 0, 74]
abbrev dktX0_act_0 : List UInt8 := dkwX0_act_0 ++ dktX0_act_1
theorem dksX0_act_0 : cX0_act.data.toList.drop 0 = dktX0_act_0 := by decide +kernel
theorem dksX0_act_1 : cX0_act.data.toList.drop 23 = dktX0_act_1 := dk_seg dksX0_act_0 23 rfl rfl
theorem dX0_act_0 : decode cX0_act 0 = .ok (.aload_n 0, 1) := dk_42 (dk_at dksX0_act_0 0 rfl rfl)
theorem dX0_act_1 : decode cX0_act 1 = .ok (.getfield 26, 3) := dk_180 0 26 (dk_at dksX0_act_0 1 rfl rfl)
theorem dX0_act_4 : decode cX0_act 4 = .ok (.invokevirtual 64, 3) := dk_182 0 64 (dk_at dksX0_act_0 4 rfl rfl)
theorem dX0_act_7 : decode cX0_act 7 = .ok (.astore_n 2, 1) := dk_77 (dk_at dksX0_act_0 7 rfl rfl)
theorem dX0_act_8 : decode cX0_act 8 = .ok (.aload_n 1, 1) := dk_43 (dk_at dksX0_act_0 8 rfl rfl)
theorem dX0_act_9 : decode cX0_act 9 = .ok (.aload_n 2, 1) := dk_44 (dk_at dksX0_act_0 9 rfl rfl)
theorem dX0_act_10 : decode cX0_act 10 = .ok (.getfield 48, 3) := dk_180 0 48 (dk_at dksX0_act_0 10 rfl rfl)
theorem dX0_act_13 : decode cX0_act 13 = .ok (.invokeinterface 68 2, 5) := by decide +kernel
theorem dX0_act_18 : decode cX0_act 18 = .ok (.istore_n 3, 1) := dk_62 (dk_at dksX0_act_0 18 rfl rfl)
theorem dX0_act_19 : decode cX0_act 19 = .ok (.iload_n 3, 1) := dk_29 (dk_at dksX0_act_0 19 rfl rfl)
theorem dX0_act_20 : decode cX0_act 20 = .ok (.invokestatic 74, 3) := dk_184 0 74 (dk_at dksX0_act_0 20 rfl rfl)
theorem dX0_act_23 : decode cX0_act 23 = .ok (.ifCond .ne 8, 3) := dk_154 0 8 (dk_at dksX0_act_1 0 rfl rfl)
theorem dX0_act_26 : decode cX0_act 26 = .ok (.aload_n 0, 1) := dk_42 (dk_at dksX0_act_1 3 rfl rfl)
theorem dX0_act_27 : decode cX0_act 27 = .ok (.aload_n 2, 1) := dk_44 (dk_at dksX0_act_1 4 rfl rfl)
theorem dX0_act_28 : decode cX0_act 28 = .ok (.invokevirtual 78, 3) := dk_182 0 78 (dk_at dksX0_act_1 5 rfl rfl)
theorem dX0_act_31 : decode cX0_act 31 = .ok (.iload_n 3, 1) := dk_29 (dk_at dksX0_act_1 8 rfl rfl)
theorem dX0_act_32 : decode cX0_act 32 = .ok (.ireturn, 1) := dk_172 (dk_at dksX0_act_1 9 rfl rfl)
abbrev cX0_isError : ByteArray := prog_1_method_2_code
def yX0_isError : MethodName := ⟨RX0, "isError", "(I)Z"⟩
def dkwX0_isError_0 : List UInt8 := [26, 18, 3, 159, 0, 15, 26, 18, 4, 159, 0, 9, 26, 18, 5, 160, 0, 7, 4, 167, 0, 4, 3, 172]
abbrev dktX0_isError_0 : List UInt8 := dkwX0_isError_0 ++ []
theorem dksX0_isError_0 : cX0_isError.data.toList.drop 0 = dktX0_isError_0 := by decide +kernel
theorem dX0_isError_0 : decode cX0_isError 0 = .ok (.iload_n 0, 1) := dk_26 (dk_at dksX0_isError_0 0 rfl rfl)
theorem dX0_isError_1 : decode cX0_isError 1 = .ok (.ldc 3, 2) := dk_18 3 (dk_at dksX0_isError_0 1 rfl rfl)
theorem dX0_isError_3 : decode cX0_isError 3 = .ok (.if_icmp .eq 15, 3) := dk_159 0 15 (dk_at dksX0_isError_0 3 rfl rfl)
theorem dX0_isError_6 : decode cX0_isError 6 = .ok (.iload_n 0, 1) := dk_26 (dk_at dksX0_isError_0 6 rfl rfl)
theorem dX0_isError_7 : decode cX0_isError 7 = .ok (.ldc 4, 2) := dk_18 4 (dk_at dksX0_isError_0 7 rfl rfl)
theorem dX0_isError_9 : decode cX0_isError 9 = .ok (.if_icmp .eq 9, 3) := dk_159 0 9 (dk_at dksX0_isError_0 9 rfl rfl)
theorem dX0_isError_12 : decode cX0_isError 12 = .ok (.iload_n 0, 1) := dk_26 (dk_at dksX0_isError_0 12 rfl rfl)
theorem dX0_isError_13 : decode cX0_isError 13 = .ok (.ldc 5, 2) := dk_18 5 (dk_at dksX0_isError_0 13 rfl rfl)
theorem dX0_isError_15 : decode cX0_isError 15 = .ok (.if_icmp .ne 7, 3) := dk_160 0 7 (dk_at dksX0_isError_0 15 rfl rfl)
theorem dX0_isError_18 : decode cX0_isError 18 = .ok (.iconst 1, 1) := dk_4 (dk_at dksX0_isError_0 18 rfl rfl)
theorem dX0_isError_19 : decode cX0_isError 19 = .ok (.goto 4, 3) := dk_167 0 4 (dk_at dksX0_isError_0 19 rfl rfl)
theorem dX0_isError_22 : decode cX0_isError 22 = .ok (.iconst 0, 1) := dk_3 (dk_at dksX0_isError_0 22 rfl rfl)
theorem dX0_isError_23 : decode cX0_isError 23 = .ok (.ireturn, 1) := dk_172 (dk_at dksX0_isError_0 23 rfl rfl)
abbrev cX0_replace : ByteArray := prog_1_method_6_code
def yX0_replace : MethodName := ⟨RX0, "replace", "(LTicketScales$State;)V"⟩
def dkwX0_replace_1 : List UInt8 := [180, 0, 33, 42, 180, 0, 26, 182, 0, 60, 42, 43, 181, 0, 26, 177]
abbrev dktX0_replace_1 : List UInt8 := dkwX0_replace_1 ++ []
def dkwX0_replace_0 : List UInt8 := [42, 180, 0, 33, 182, 0, 52, 8, 160, 0, 14, 42, 180, 0, 33, 182, 0, 56, 192, 0, 18, 77, 42]
abbrev dktX0_replace_0 : List UInt8 := dkwX0_replace_0 ++ dktX0_replace_1
theorem dksX0_replace_0 : cX0_replace.data.toList.drop 0 = dktX0_replace_0 := by decide +kernel
theorem dksX0_replace_1 : cX0_replace.data.toList.drop 23 = dktX0_replace_1 := dk_seg dksX0_replace_0 23 rfl rfl
theorem dX0_replace_0 : decode cX0_replace 0 = .ok (.aload_n 0, 1) := dk_42 (dk_at dksX0_replace_0 0 rfl rfl)
theorem dX0_replace_1 : decode cX0_replace 1 = .ok (.getfield 33, 3) := dk_180 0 33 (dk_at dksX0_replace_0 1 rfl rfl)
theorem dX0_replace_4 : decode cX0_replace 4 = .ok (.invokevirtual 52, 3) := dk_182 0 52 (dk_at dksX0_replace_0 4 rfl rfl)
theorem dX0_replace_7 : decode cX0_replace 7 = .ok (.iconst 5, 1) := dk_8 (dk_at dksX0_replace_0 7 rfl rfl)
theorem dX0_replace_8 : decode cX0_replace 8 = .ok (.if_icmp .ne 14, 3) := dk_160 0 14 (dk_at dksX0_replace_0 8 rfl rfl)
theorem dX0_replace_11 : decode cX0_replace 11 = .ok (.aload_n 0, 1) := dk_42 (dk_at dksX0_replace_0 11 rfl rfl)
theorem dX0_replace_12 : decode cX0_replace 12 = .ok (.getfield 33, 3) := dk_180 0 33 (dk_at dksX0_replace_0 12 rfl rfl)
theorem dX0_replace_15 : decode cX0_replace 15 = .ok (.invokevirtual 56, 3) := dk_182 0 56 (dk_at dksX0_replace_0 15 rfl rfl)
theorem dX0_replace_18 : decode cX0_replace 18 = .ok (.checkcast 18, 3) := dk_192 0 18 (dk_at dksX0_replace_0 18 rfl rfl)
theorem dX0_replace_21 : decode cX0_replace 21 = .ok (.astore_n 2, 1) := dk_77 (dk_at dksX0_replace_0 21 rfl rfl)
theorem dX0_replace_22 : decode cX0_replace 22 = .ok (.aload_n 0, 1) := dk_42 (dk_at dksX0_replace_0 22 rfl rfl)
theorem dX0_replace_23 : decode cX0_replace 23 = .ok (.getfield 33, 3) := dk_180 0 33 (dk_at dksX0_replace_1 0 rfl rfl)
theorem dX0_replace_26 : decode cX0_replace 26 = .ok (.aload_n 0, 1) := dk_42 (dk_at dksX0_replace_1 3 rfl rfl)
theorem dX0_replace_27 : decode cX0_replace 27 = .ok (.getfield 26, 3) := dk_180 0 26 (dk_at dksX0_replace_1 4 rfl rfl)
theorem dX0_replace_30 : decode cX0_replace 30 = .ok (.invokevirtual 60, 3) := dk_182 0 60 (dk_at dksX0_replace_1 7 rfl rfl)
theorem dX0_replace_33 : decode cX0_replace 33 = .ok (.aload_n 0, 1) := dk_42 (dk_at dksX0_replace_1 10 rfl rfl)
theorem dX0_replace_34 : decode cX0_replace 34 = .ok (.aload_n 1, 1) := dk_43 (dk_at dksX0_replace_1 11 rfl rfl)
theorem dX0_replace_35 : decode cX0_replace 35 = .ok (.putfield 26, 3) := dk_181 0 26 (dk_at dksX0_replace_1 12 rfl rfl)
theorem dX0_replace_38 : decode cX0_replace 38 = .ok (.return_, 1) := dk_177 (dk_at dksX0_replace_1 15 rfl rfl)
abbrev cX0_setScale : ByteArray := prog_1_method_9_code
def yX0_setScale : MethodName := ⟨RX0, "setScale", "(II)I"⟩
def dkwX0_setScale_0 : List UInt8 := [42, 27, 28, 186, 0, 89, 0, 0, 182, 0, 85, 172]
abbrev dktX0_setScale_0 : List UInt8 := dkwX0_setScale_0 ++ []
theorem dksX0_setScale_0 : cX0_setScale.data.toList.drop 0 = dktX0_setScale_0 := by decide +kernel
theorem dX0_setScale_0 : decode cX0_setScale 0 = .ok (.aload_n 0, 1) := dk_42 (dk_at dksX0_setScale_0 0 rfl rfl)
theorem dX0_setScale_1 : decode cX0_setScale 1 = .ok (.iload_n 1, 1) := dk_27 (dk_at dksX0_setScale_0 1 rfl rfl)
theorem dX0_setScale_2 : decode cX0_setScale 2 = .ok (.iload_n 2, 1) := dk_28 (dk_at dksX0_setScale_0 2 rfl rfl)
theorem dX0_setScale_3 : decode cX0_setScale 3 = .ok (.invokedynamic 89, 5) := by decide +kernel
theorem dX0_setScale_8 : decode cX0_setScale 8 = .ok (.invokevirtual 85, 3) := dk_182 0 85 (dk_at dksX0_setScale_0 8 rfl rfl)
theorem dX0_setScale_11 : decode cX0_setScale 11 = .ok (.ireturn, 1) := dk_172 (dk_at dksX0_setScale_0 11 rfl rfl)
abbrev cX0_lambda_setScale_1 : ByteArray := prog_1_method_62_code
def yX0_lambda_setScale_1 : MethodName := ⟨RX0, "lambda$setScale$1", "(IILTicketScales$Counter;)I"⟩
def dkwX0_lambda_setScale_1_0 : List UInt8 := [44, 26, 27, 182, 1, 89, 172]
abbrev dktX0_lambda_setScale_1_0 : List UInt8 := dkwX0_lambda_setScale_1_0 ++ []
theorem dksX0_lambda_setScale_1_0 : cX0_lambda_setScale_1.data.toList.drop 0 = dktX0_lambda_setScale_1_0 := by decide +kernel
theorem dX0_lambda_setScale_1_0 : decode cX0_lambda_setScale_1 0 = .ok (.aload_n 2, 1) := dk_44 (dk_at dksX0_lambda_setScale_1_0 0 rfl rfl)
theorem dX0_lambda_setScale_1_1 : decode cX0_lambda_setScale_1 1 = .ok (.iload_n 0, 1) := dk_26 (dk_at dksX0_lambda_setScale_1_0 1 rfl rfl)
theorem dX0_lambda_setScale_1_2 : decode cX0_lambda_setScale_1 2 = .ok (.iload_n 1, 1) := dk_27 (dk_at dksX0_lambda_setScale_1_0 2 rfl rfl)
theorem dX0_lambda_setScale_1_3 : decode cX0_lambda_setScale_1 3 = .ok (.invokevirtual 345, 3) := dk_182 1 89 (dk_at dksX0_lambda_setScale_1_0 3 rfl rfl)
theorem dX0_lambda_setScale_1_6 : decode cX0_lambda_setScale_1 6 = .ok (.ireturn, 1) := dk_172 (dk_at dksX0_lambda_setScale_1_0 6 rfl rfl)
abbrev cX0_setBias : ByteArray := prog_1_method_10_code
def yX0_setBias : MethodName := ⟨RX0, "setBias", "(I)I"⟩
def dkwX0_setBias_0 : List UInt8 := [42, 27, 186, 0, 92, 0, 0, 182, 0, 85, 172]
abbrev dktX0_setBias_0 : List UInt8 := dkwX0_setBias_0 ++ []
theorem dksX0_setBias_0 : cX0_setBias.data.toList.drop 0 = dktX0_setBias_0 := by decide +kernel
theorem dX0_setBias_0 : decode cX0_setBias 0 = .ok (.aload_n 0, 1) := dk_42 (dk_at dksX0_setBias_0 0 rfl rfl)
theorem dX0_setBias_1 : decode cX0_setBias 1 = .ok (.iload_n 1, 1) := dk_27 (dk_at dksX0_setBias_0 1 rfl rfl)
theorem dX0_setBias_2 : decode cX0_setBias 2 = .ok (.invokedynamic 92, 5) := by decide +kernel
theorem dX0_setBias_7 : decode cX0_setBias 7 = .ok (.invokevirtual 85, 3) := dk_182 0 85 (dk_at dksX0_setBias_0 7 rfl rfl)
theorem dX0_setBias_10 : decode cX0_setBias 10 = .ok (.ireturn, 1) := dk_172 (dk_at dksX0_setBias_0 10 rfl rfl)
abbrev cX0_lambda_setBias_2 : ByteArray := prog_1_method_61_code
def yX0_lambda_setBias_2 : MethodName := ⟨RX0, "lambda$setBias$2", "(ILTicketScales$Counter;)I"⟩
def dkwX0_lambda_setBias_2_0 : List UInt8 := [43, 26, 182, 1, 86, 172]
abbrev dktX0_lambda_setBias_2_0 : List UInt8 := dkwX0_lambda_setBias_2_0 ++ []
theorem dksX0_lambda_setBias_2_0 : cX0_lambda_setBias_2.data.toList.drop 0 = dktX0_lambda_setBias_2_0 := by decide +kernel
theorem dX0_lambda_setBias_2_0 : decode cX0_lambda_setBias_2 0 = .ok (.aload_n 1, 1) := dk_43 (dk_at dksX0_lambda_setBias_2_0 0 rfl rfl)
theorem dX0_lambda_setBias_2_1 : decode cX0_lambda_setBias_2 1 = .ok (.iload_n 0, 1) := dk_26 (dk_at dksX0_lambda_setBias_2_0 1 rfl rfl)
theorem dX0_lambda_setBias_2_2 : decode cX0_lambda_setBias_2 2 = .ok (.invokevirtual 342, 3) := dk_182 1 86 (dk_at dksX0_lambda_setBias_2_0 2 rfl rfl)
theorem dX0_lambda_setBias_2_5 : decode cX0_lambda_setBias_2 5 = .ok (.ireturn, 1) := dk_172 (dk_at dksX0_lambda_setBias_2_0 5 rfl rfl)
abbrev cX0_setRule : ByteArray := prog_1_method_11_code
def yX0_setRule : MethodName := ⟨RX0, "setRule", "(I)I"⟩
def dkwX0_setRule_0 : List UInt8 := [42, 27, 186, 0, 95, 0, 0, 182, 0, 85, 172]
abbrev dktX0_setRule_0 : List UInt8 := dkwX0_setRule_0 ++ []
theorem dksX0_setRule_0 : cX0_setRule.data.toList.drop 0 = dktX0_setRule_0 := by decide +kernel
theorem dX0_setRule_0 : decode cX0_setRule 0 = .ok (.aload_n 0, 1) := dk_42 (dk_at dksX0_setRule_0 0 rfl rfl)
theorem dX0_setRule_1 : decode cX0_setRule 1 = .ok (.iload_n 1, 1) := dk_27 (dk_at dksX0_setRule_0 1 rfl rfl)
theorem dX0_setRule_2 : decode cX0_setRule 2 = .ok (.invokedynamic 95, 5) := by decide +kernel
theorem dX0_setRule_7 : decode cX0_setRule 7 = .ok (.invokevirtual 85, 3) := dk_182 0 85 (dk_at dksX0_setRule_0 7 rfl rfl)
theorem dX0_setRule_10 : decode cX0_setRule 10 = .ok (.ireturn, 1) := dk_172 (dk_at dksX0_setRule_0 10 rfl rfl)
abbrev cX0_lambda_setRule_3 : ByteArray := prog_1_method_60_code
def yX0_lambda_setRule_3 : MethodName := ⟨RX0, "lambda$setRule$3", "(ILTicketScales$Counter;)I"⟩
def dkwX0_lambda_setRule_3_0 : List UInt8 := [43, 26, 182, 1, 83, 172]
abbrev dktX0_lambda_setRule_3_0 : List UInt8 := dkwX0_lambda_setRule_3_0 ++ []
theorem dksX0_lambda_setRule_3_0 : cX0_lambda_setRule_3.data.toList.drop 0 = dktX0_lambda_setRule_3_0 := by decide +kernel
theorem dX0_lambda_setRule_3_0 : decode cX0_lambda_setRule_3 0 = .ok (.aload_n 1, 1) := dk_43 (dk_at dksX0_lambda_setRule_3_0 0 rfl rfl)
theorem dX0_lambda_setRule_3_1 : decode cX0_lambda_setRule_3 1 = .ok (.iload_n 0, 1) := dk_26 (dk_at dksX0_lambda_setRule_3_0 1 rfl rfl)
theorem dX0_lambda_setRule_3_2 : decode cX0_lambda_setRule_3 2 = .ok (.invokevirtual 339, 3) := dk_182 1 83 (dk_at dksX0_lambda_setRule_3_0 2 rfl rfl)
theorem dX0_lambda_setRule_3_5 : decode cX0_lambda_setRule_3 5 = .ok (.ireturn, 1) := dk_172 (dk_at dksX0_lambda_setRule_3_0 5 rfl rfl)
abbrev cX0_setFee : ByteArray := prog_1_method_12_code
def yX0_setFee : MethodName := ⟨RX0, "setFee", "(I)I"⟩
def dkwX0_setFee_0 : List UInt8 := [42, 27, 186, 0, 96, 0, 0, 182, 0, 85, 172]
abbrev dktX0_setFee_0 : List UInt8 := dkwX0_setFee_0 ++ []
theorem dksX0_setFee_0 : cX0_setFee.data.toList.drop 0 = dktX0_setFee_0 := by decide +kernel
theorem dX0_setFee_0 : decode cX0_setFee 0 = .ok (.aload_n 0, 1) := dk_42 (dk_at dksX0_setFee_0 0 rfl rfl)
theorem dX0_setFee_1 : decode cX0_setFee 1 = .ok (.iload_n 1, 1) := dk_27 (dk_at dksX0_setFee_0 1 rfl rfl)
theorem dX0_setFee_2 : decode cX0_setFee 2 = .ok (.invokedynamic 96, 5) := by decide +kernel
theorem dX0_setFee_7 : decode cX0_setFee 7 = .ok (.invokevirtual 85, 3) := dk_182 0 85 (dk_at dksX0_setFee_0 7 rfl rfl)
theorem dX0_setFee_10 : decode cX0_setFee 10 = .ok (.ireturn, 1) := dk_172 (dk_at dksX0_setFee_0 10 rfl rfl)
abbrev cX0_lambda_setFee_4 : ByteArray := prog_1_method_59_code
def yX0_lambda_setFee_4 : MethodName := ⟨RX0, "lambda$setFee$4", "(ILTicketScales$Counter;)I"⟩
def dkwX0_lambda_setFee_4_0 : List UInt8 := [43, 26, 182, 1, 80, 172]
abbrev dktX0_lambda_setFee_4_0 : List UInt8 := dkwX0_lambda_setFee_4_0 ++ []
theorem dksX0_lambda_setFee_4_0 : cX0_lambda_setFee_4.data.toList.drop 0 = dktX0_lambda_setFee_4_0 := by decide +kernel
theorem dX0_lambda_setFee_4_0 : decode cX0_lambda_setFee_4 0 = .ok (.aload_n 1, 1) := dk_43 (dk_at dksX0_lambda_setFee_4_0 0 rfl rfl)
theorem dX0_lambda_setFee_4_1 : decode cX0_lambda_setFee_4 1 = .ok (.iload_n 0, 1) := dk_26 (dk_at dksX0_lambda_setFee_4_0 1 rfl rfl)
theorem dX0_lambda_setFee_4_2 : decode cX0_lambda_setFee_4 2 = .ok (.invokevirtual 336, 3) := dk_182 1 80 (dk_at dksX0_lambda_setFee_4_0 2 rfl rfl)
theorem dX0_lambda_setFee_4_5 : decode cX0_lambda_setFee_4 5 = .ok (.ireturn, 1) := dk_172 (dk_at dksX0_lambda_setFee_4_0 5 rfl rfl)
abbrev cX0_come : ByteArray := prog_1_method_13_code
def yX0_come : MethodName := ⟨RX0, "come", "(I)I"⟩
def dkwX0_come_0 : List UInt8 := [42, 27, 186, 0, 97, 0, 0, 182, 0, 85, 172]
abbrev dktX0_come_0 : List UInt8 := dkwX0_come_0 ++ []
theorem dksX0_come_0 : cX0_come.data.toList.drop 0 = dktX0_come_0 := by decide +kernel
theorem dX0_come_0 : decode cX0_come 0 = .ok (.aload_n 0, 1) := dk_42 (dk_at dksX0_come_0 0 rfl rfl)
theorem dX0_come_1 : decode cX0_come 1 = .ok (.iload_n 1, 1) := dk_27 (dk_at dksX0_come_0 1 rfl rfl)
theorem dX0_come_2 : decode cX0_come 2 = .ok (.invokedynamic 97, 5) := by decide +kernel
theorem dX0_come_7 : decode cX0_come 7 = .ok (.invokevirtual 85, 3) := dk_182 0 85 (dk_at dksX0_come_0 7 rfl rfl)
theorem dX0_come_10 : decode cX0_come 10 = .ok (.ireturn, 1) := dk_172 (dk_at dksX0_come_0 10 rfl rfl)
abbrev cX0_lambda_come_5 : ByteArray := prog_1_method_58_code
def yX0_lambda_come_5 : MethodName := ⟨RX0, "lambda$come$5", "(ILTicketScales$Counter;)I"⟩
def dkwX0_lambda_come_5_0 : List UInt8 := [43, 26, 182, 1, 77, 172]
abbrev dktX0_lambda_come_5_0 : List UInt8 := dkwX0_lambda_come_5_0 ++ []
theorem dksX0_lambda_come_5_0 : cX0_lambda_come_5.data.toList.drop 0 = dktX0_lambda_come_5_0 := by decide +kernel
theorem dX0_lambda_come_5_0 : decode cX0_lambda_come_5 0 = .ok (.aload_n 1, 1) := dk_43 (dk_at dksX0_lambda_come_5_0 0 rfl rfl)
theorem dX0_lambda_come_5_1 : decode cX0_lambda_come_5 1 = .ok (.iload_n 0, 1) := dk_26 (dk_at dksX0_lambda_come_5_0 1 rfl rfl)
theorem dX0_lambda_come_5_2 : decode cX0_lambda_come_5 2 = .ok (.invokevirtual 333, 3) := dk_182 1 77 (dk_at dksX0_lambda_come_5_0 2 rfl rfl)
theorem dX0_lambda_come_5_5 : decode cX0_lambda_come_5 5 = .ok (.ireturn, 1) := dk_172 (dk_at dksX0_lambda_come_5_0 5 rfl rfl)
abbrev cX0_leave : ByteArray := prog_1_method_14_code
def yX0_leave : MethodName := ⟨RX0, "leave", "(I)I"⟩
def dkwX0_leave_0 : List UInt8 := [42, 27, 186, 0, 98, 0, 0, 182, 0, 85, 172]
abbrev dktX0_leave_0 : List UInt8 := dkwX0_leave_0 ++ []
theorem dksX0_leave_0 : cX0_leave.data.toList.drop 0 = dktX0_leave_0 := by decide +kernel
theorem dX0_leave_0 : decode cX0_leave 0 = .ok (.aload_n 0, 1) := dk_42 (dk_at dksX0_leave_0 0 rfl rfl)
theorem dX0_leave_1 : decode cX0_leave 1 = .ok (.iload_n 1, 1) := dk_27 (dk_at dksX0_leave_0 1 rfl rfl)
theorem dX0_leave_2 : decode cX0_leave 2 = .ok (.invokedynamic 98, 5) := by decide +kernel
theorem dX0_leave_7 : decode cX0_leave 7 = .ok (.invokevirtual 85, 3) := dk_182 0 85 (dk_at dksX0_leave_0 7 rfl rfl)
theorem dX0_leave_10 : decode cX0_leave 10 = .ok (.ireturn, 1) := dk_172 (dk_at dksX0_leave_0 10 rfl rfl)
abbrev cX0_lambda_leave_6 : ByteArray := prog_1_method_57_code
def yX0_lambda_leave_6 : MethodName := ⟨RX0, "lambda$leave$6", "(ILTicketScales$Counter;)I"⟩
def dkwX0_lambda_leave_6_0 : List UInt8 := [43, 26, 182, 1, 74, 172]
abbrev dktX0_lambda_leave_6_0 : List UInt8 := dkwX0_lambda_leave_6_0 ++ []
theorem dksX0_lambda_leave_6_0 : cX0_lambda_leave_6.data.toList.drop 0 = dktX0_lambda_leave_6_0 := by decide +kernel
theorem dX0_lambda_leave_6_0 : decode cX0_lambda_leave_6 0 = .ok (.aload_n 1, 1) := dk_43 (dk_at dksX0_lambda_leave_6_0 0 rfl rfl)
theorem dX0_lambda_leave_6_1 : decode cX0_lambda_leave_6 1 = .ok (.iload_n 0, 1) := dk_26 (dk_at dksX0_lambda_leave_6_0 1 rfl rfl)
theorem dX0_lambda_leave_6_2 : decode cX0_lambda_leave_6 2 = .ok (.invokevirtual 330, 3) := dk_182 1 74 (dk_at dksX0_lambda_leave_6_0 2 rfl rfl)
theorem dX0_lambda_leave_6_5 : decode cX0_lambda_leave_6 5 = .ok (.ireturn, 1) := dk_172 (dk_at dksX0_lambda_leave_6_0 5 rfl rfl)
abbrev cX0_weigh : ByteArray := prog_1_method_15_code
def yX0_weigh : MethodName := ⟨RX0, "weigh", "(IIII)I"⟩
def dkwX0_weigh_0 : List UInt8 := [42, 27, 28, 29, 21, 4, 186, 0, 99, 0, 0, 182, 0, 85, 172]
abbrev dktX0_weigh_0 : List UInt8 := dkwX0_weigh_0 ++ []
theorem dksX0_weigh_0 : cX0_weigh.data.toList.drop 0 = dktX0_weigh_0 := by decide +kernel
theorem dX0_weigh_0 : decode cX0_weigh 0 = .ok (.aload_n 0, 1) := dk_42 (dk_at dksX0_weigh_0 0 rfl rfl)
theorem dX0_weigh_1 : decode cX0_weigh 1 = .ok (.iload_n 1, 1) := dk_27 (dk_at dksX0_weigh_0 1 rfl rfl)
theorem dX0_weigh_2 : decode cX0_weigh 2 = .ok (.iload_n 2, 1) := dk_28 (dk_at dksX0_weigh_0 2 rfl rfl)
theorem dX0_weigh_3 : decode cX0_weigh 3 = .ok (.iload_n 3, 1) := dk_29 (dk_at dksX0_weigh_0 3 rfl rfl)
theorem dX0_weigh_4 : decode cX0_weigh 4 = .ok (.iload 4, 2) := dk_21 4 (dk_at dksX0_weigh_0 4 rfl rfl)
theorem dX0_weigh_6 : decode cX0_weigh 6 = .ok (.invokedynamic 99, 5) := by decide +kernel
theorem dX0_weigh_11 : decode cX0_weigh 11 = .ok (.invokevirtual 85, 3) := dk_182 0 85 (dk_at dksX0_weigh_0 11 rfl rfl)
theorem dX0_weigh_14 : decode cX0_weigh 14 = .ok (.ireturn, 1) := dk_172 (dk_at dksX0_weigh_0 14 rfl rfl)
abbrev cX0_lambda_weigh_7 : ByteArray := prog_1_method_56_code
def yX0_lambda_weigh_7 : MethodName := ⟨RX0, "lambda$weigh$7", "(IIIILTicketScales$Counter;)I"⟩
def dkwX0_lambda_weigh_7_0 : List UInt8 := [25, 4, 26, 27, 28, 29, 182, 1, 70, 172]
abbrev dktX0_lambda_weigh_7_0 : List UInt8 := dkwX0_lambda_weigh_7_0 ++ []
theorem dksX0_lambda_weigh_7_0 : cX0_lambda_weigh_7.data.toList.drop 0 = dktX0_lambda_weigh_7_0 := by decide +kernel
theorem dX0_lambda_weigh_7_0 : decode cX0_lambda_weigh_7 0 = .ok (.aload 4, 2) := dk_25 4 (dk_at dksX0_lambda_weigh_7_0 0 rfl rfl)
theorem dX0_lambda_weigh_7_2 : decode cX0_lambda_weigh_7 2 = .ok (.iload_n 0, 1) := dk_26 (dk_at dksX0_lambda_weigh_7_0 2 rfl rfl)
theorem dX0_lambda_weigh_7_3 : decode cX0_lambda_weigh_7 3 = .ok (.iload_n 1, 1) := dk_27 (dk_at dksX0_lambda_weigh_7_0 3 rfl rfl)
theorem dX0_lambda_weigh_7_4 : decode cX0_lambda_weigh_7 4 = .ok (.iload_n 2, 1) := dk_28 (dk_at dksX0_lambda_weigh_7_0 4 rfl rfl)
theorem dX0_lambda_weigh_7_5 : decode cX0_lambda_weigh_7 5 = .ok (.iload_n 3, 1) := dk_29 (dk_at dksX0_lambda_weigh_7_0 5 rfl rfl)
theorem dX0_lambda_weigh_7_6 : decode cX0_lambda_weigh_7 6 = .ok (.invokevirtual 326, 3) := dk_182 1 70 (dk_at dksX0_lambda_weigh_7_0 6 rfl rfl)
theorem dX0_lambda_weigh_7_9 : decode cX0_lambda_weigh_7 9 = .ok (.ireturn, 1) := dk_172 (dk_at dksX0_lambda_weigh_7_0 9 rfl rfl)
abbrev cX0_up : ByteArray := prog_1_method_3_code
def yX0_up : MethodName := ⟨RX0, "up", "(II)I"⟩
def dkwX0_up_0 : List UInt8 := [26, 116, 27, 184, 0, 6, 116, 172]
abbrev dktX0_up_0 : List UInt8 := dkwX0_up_0 ++ []
theorem dksX0_up_0 : cX0_up.data.toList.drop 0 = dktX0_up_0 := by decide +kernel
theorem dX0_up_0 : decode cX0_up 0 = .ok (.iload_n 0, 1) := dk_26 (dk_at dksX0_up_0 0 rfl rfl)
theorem dX0_up_1 : decode cX0_up 1 = .ok (.ineg, 1) := dk_116 (dk_at dksX0_up_0 1 rfl rfl)
theorem dX0_up_2 : decode cX0_up 2 = .ok (.iload_n 1, 1) := dk_27 (dk_at dksX0_up_0 2 rfl rfl)
theorem dX0_up_3 : decode cX0_up 3 = .ok (.invokestatic 6, 3) := dk_184 0 6 (dk_at dksX0_up_0 3 rfl rfl)
theorem dX0_up_6 : decode cX0_up 6 = .ok (.ineg, 1) := dk_116 (dk_at dksX0_up_0 6 rfl rfl)
theorem dX0_up_7 : decode cX0_up 7 = .ok (.ireturn, 1) := dk_172 (dk_at dksX0_up_0 7 rfl rfl)
abbrev cX0_claim : ByteArray := prog_1_method_16_code
def yX0_claim : MethodName := ⟨RX0, "claim", "(II)I"⟩
def dkwX0_claim_0 : List UInt8 := [42, 27, 28, 186, 0, 102, 0, 0, 182, 0, 85, 172]
abbrev dktX0_claim_0 : List UInt8 := dkwX0_claim_0 ++ []
theorem dksX0_claim_0 : cX0_claim.data.toList.drop 0 = dktX0_claim_0 := by decide +kernel
theorem dX0_claim_0 : decode cX0_claim 0 = .ok (.aload_n 0, 1) := dk_42 (dk_at dksX0_claim_0 0 rfl rfl)
theorem dX0_claim_1 : decode cX0_claim 1 = .ok (.iload_n 1, 1) := dk_27 (dk_at dksX0_claim_0 1 rfl rfl)
theorem dX0_claim_2 : decode cX0_claim 2 = .ok (.iload_n 2, 1) := dk_28 (dk_at dksX0_claim_0 2 rfl rfl)
theorem dX0_claim_3 : decode cX0_claim 3 = .ok (.invokedynamic 102, 5) := by decide +kernel
theorem dX0_claim_8 : decode cX0_claim 8 = .ok (.invokevirtual 85, 3) := dk_182 0 85 (dk_at dksX0_claim_0 8 rfl rfl)
theorem dX0_claim_11 : decode cX0_claim 11 = .ok (.ireturn, 1) := dk_172 (dk_at dksX0_claim_0 11 rfl rfl)
abbrev cX0_lambda_claim_8 : ByteArray := prog_1_method_55_code
def yX0_lambda_claim_8 : MethodName := ⟨RX0, "lambda$claim$8", "(IILTicketScales$Counter;)I"⟩
def dkwX0_lambda_claim_8_0 : List UInt8 := [44, 26, 27, 182, 1, 67, 172]
abbrev dktX0_lambda_claim_8_0 : List UInt8 := dkwX0_lambda_claim_8_0 ++ []
theorem dksX0_lambda_claim_8_0 : cX0_lambda_claim_8.data.toList.drop 0 = dktX0_lambda_claim_8_0 := by decide +kernel
theorem dX0_lambda_claim_8_0 : decode cX0_lambda_claim_8 0 = .ok (.aload_n 2, 1) := dk_44 (dk_at dksX0_lambda_claim_8_0 0 rfl rfl)
theorem dX0_lambda_claim_8_1 : decode cX0_lambda_claim_8 1 = .ok (.iload_n 0, 1) := dk_26 (dk_at dksX0_lambda_claim_8_0 1 rfl rfl)
theorem dX0_lambda_claim_8_2 : decode cX0_lambda_claim_8 2 = .ok (.iload_n 1, 1) := dk_27 (dk_at dksX0_lambda_claim_8_0 2 rfl rfl)
theorem dX0_lambda_claim_8_3 : decode cX0_lambda_claim_8 3 = .ok (.invokevirtual 323, 3) := dk_182 1 67 (dk_at dksX0_lambda_claim_8_0 3 rfl rfl)
theorem dX0_lambda_claim_8_6 : decode cX0_lambda_claim_8 6 = .ok (.ireturn, 1) := dk_172 (dk_at dksX0_lambda_claim_8_0 6 rfl rfl)
abbrev cX0_addPrize : ByteArray := prog_1_method_17_code
def yX0_addPrize : MethodName := ⟨RX0, "addPrize", "(IIIII)I"⟩
def dkwX0_addPrize_0 : List UInt8 := [42, 27, 28, 29, 21, 4, 21, 5, 186, 0, 103, 0, 0, 182, 0, 85, 172]
abbrev dktX0_addPrize_0 : List UInt8 := dkwX0_addPrize_0 ++ []
theorem dksX0_addPrize_0 : cX0_addPrize.data.toList.drop 0 = dktX0_addPrize_0 := by decide +kernel
theorem dX0_addPrize_0 : decode cX0_addPrize 0 = .ok (.aload_n 0, 1) := dk_42 (dk_at dksX0_addPrize_0 0 rfl rfl)
theorem dX0_addPrize_1 : decode cX0_addPrize 1 = .ok (.iload_n 1, 1) := dk_27 (dk_at dksX0_addPrize_0 1 rfl rfl)
theorem dX0_addPrize_2 : decode cX0_addPrize 2 = .ok (.iload_n 2, 1) := dk_28 (dk_at dksX0_addPrize_0 2 rfl rfl)
theorem dX0_addPrize_3 : decode cX0_addPrize 3 = .ok (.iload_n 3, 1) := dk_29 (dk_at dksX0_addPrize_0 3 rfl rfl)
theorem dX0_addPrize_4 : decode cX0_addPrize 4 = .ok (.iload 4, 2) := dk_21 4 (dk_at dksX0_addPrize_0 4 rfl rfl)
theorem dX0_addPrize_6 : decode cX0_addPrize 6 = .ok (.iload 5, 2) := dk_21 5 (dk_at dksX0_addPrize_0 6 rfl rfl)
theorem dX0_addPrize_8 : decode cX0_addPrize 8 = .ok (.invokedynamic 103, 5) := by decide +kernel
theorem dX0_addPrize_13 : decode cX0_addPrize 13 = .ok (.invokevirtual 85, 3) := dk_182 0 85 (dk_at dksX0_addPrize_0 13 rfl rfl)
theorem dX0_addPrize_16 : decode cX0_addPrize 16 = .ok (.ireturn, 1) := dk_172 (dk_at dksX0_addPrize_0 16 rfl rfl)
abbrev cX0_lambda_addPrize_9 : ByteArray := prog_1_method_54_code
def yX0_lambda_addPrize_9 : MethodName := ⟨RX0, "lambda$addPrize$9", "(IIIIILTicketScales$Counter;)I"⟩
def dkwX0_lambda_addPrize_9_0 : List UInt8 := [25, 5, 26, 27, 28, 29, 21, 4, 182, 1, 63, 172]
abbrev dktX0_lambda_addPrize_9_0 : List UInt8 := dkwX0_lambda_addPrize_9_0 ++ []
theorem dksX0_lambda_addPrize_9_0 : cX0_lambda_addPrize_9.data.toList.drop 0 = dktX0_lambda_addPrize_9_0 := by decide +kernel
theorem dX0_lambda_addPrize_9_0 : decode cX0_lambda_addPrize_9 0 = .ok (.aload 5, 2) := dk_25 5 (dk_at dksX0_lambda_addPrize_9_0 0 rfl rfl)
theorem dX0_lambda_addPrize_9_2 : decode cX0_lambda_addPrize_9 2 = .ok (.iload_n 0, 1) := dk_26 (dk_at dksX0_lambda_addPrize_9_0 2 rfl rfl)
theorem dX0_lambda_addPrize_9_3 : decode cX0_lambda_addPrize_9 3 = .ok (.iload_n 1, 1) := dk_27 (dk_at dksX0_lambda_addPrize_9_0 3 rfl rfl)
theorem dX0_lambda_addPrize_9_4 : decode cX0_lambda_addPrize_9 4 = .ok (.iload_n 2, 1) := dk_28 (dk_at dksX0_lambda_addPrize_9_0 4 rfl rfl)
theorem dX0_lambda_addPrize_9_5 : decode cX0_lambda_addPrize_9 5 = .ok (.iload_n 3, 1) := dk_29 (dk_at dksX0_lambda_addPrize_9_0 5 rfl rfl)
theorem dX0_lambda_addPrize_9_6 : decode cX0_lambda_addPrize_9 6 = .ok (.iload 4, 2) := dk_21 4 (dk_at dksX0_lambda_addPrize_9_0 6 rfl rfl)
theorem dX0_lambda_addPrize_9_8 : decode cX0_lambda_addPrize_9 8 = .ok (.invokevirtual 319, 3) := dk_182 1 63 (dk_at dksX0_lambda_addPrize_9_0 8 rfl rfl)
theorem dX0_lambda_addPrize_9_11 : decode cX0_lambda_addPrize_9 11 = .ok (.ireturn, 1) := dk_172 (dk_at dksX0_lambda_addPrize_9_0 11 rfl rfl)
abbrev cX0_removePrize : ByteArray := prog_1_method_18_code
def yX0_removePrize : MethodName := ⟨RX0, "removePrize", "(I)I"⟩
def dkwX0_removePrize_0 : List UInt8 := [42, 27, 186, 0, 106, 0, 0, 182, 0, 85, 172]
abbrev dktX0_removePrize_0 : List UInt8 := dkwX0_removePrize_0 ++ []
theorem dksX0_removePrize_0 : cX0_removePrize.data.toList.drop 0 = dktX0_removePrize_0 := by decide +kernel
theorem dX0_removePrize_0 : decode cX0_removePrize 0 = .ok (.aload_n 0, 1) := dk_42 (dk_at dksX0_removePrize_0 0 rfl rfl)
theorem dX0_removePrize_1 : decode cX0_removePrize 1 = .ok (.iload_n 1, 1) := dk_27 (dk_at dksX0_removePrize_0 1 rfl rfl)
theorem dX0_removePrize_2 : decode cX0_removePrize 2 = .ok (.invokedynamic 106, 5) := by decide +kernel
theorem dX0_removePrize_7 : decode cX0_removePrize 7 = .ok (.invokevirtual 85, 3) := dk_182 0 85 (dk_at dksX0_removePrize_0 7 rfl rfl)
theorem dX0_removePrize_10 : decode cX0_removePrize 10 = .ok (.ireturn, 1) := dk_172 (dk_at dksX0_removePrize_0 10 rfl rfl)
abbrev cX0_lambda_removePrize_10 : ByteArray := prog_1_method_53_code
def yX0_lambda_removePrize_10 : MethodName := ⟨RX0, "lambda$removePrize$10", "(ILTicketScales$Counter;)I"⟩
def dkwX0_lambda_removePrize_10_0 : List UInt8 := [43, 26, 182, 1, 60, 172]
abbrev dktX0_lambda_removePrize_10_0 : List UInt8 := dkwX0_lambda_removePrize_10_0 ++ []
theorem dksX0_lambda_removePrize_10_0 : cX0_lambda_removePrize_10.data.toList.drop 0 = dktX0_lambda_removePrize_10_0 := by decide +kernel
theorem dX0_lambda_removePrize_10_0 : decode cX0_lambda_removePrize_10 0 = .ok (.aload_n 1, 1) := dk_43 (dk_at dksX0_lambda_removePrize_10_0 0 rfl rfl)
theorem dX0_lambda_removePrize_10_1 : decode cX0_lambda_removePrize_10 1 = .ok (.iload_n 0, 1) := dk_26 (dk_at dksX0_lambda_removePrize_10_0 1 rfl rfl)
theorem dX0_lambda_removePrize_10_2 : decode cX0_lambda_removePrize_10 2 = .ok (.invokevirtual 316, 3) := dk_182 1 60 (dk_at dksX0_lambda_removePrize_10_0 2 rfl rfl)
theorem dX0_lambda_removePrize_10_5 : decode cX0_lambda_removePrize_10 5 = .ok (.ireturn, 1) := dk_172 (dk_at dksX0_lambda_removePrize_10_0 5 rfl rfl)
abbrev cX0_setPrice : ByteArray := prog_1_method_19_code
def yX0_setPrice : MethodName := ⟨RX0, "setPrice", "(II)I"⟩
def dkwX0_setPrice_0 : List UInt8 := [42, 27, 28, 186, 0, 107, 0, 0, 182, 0, 85, 172]
abbrev dktX0_setPrice_0 : List UInt8 := dkwX0_setPrice_0 ++ []
theorem dksX0_setPrice_0 : cX0_setPrice.data.toList.drop 0 = dktX0_setPrice_0 := by decide +kernel
theorem dX0_setPrice_0 : decode cX0_setPrice 0 = .ok (.aload_n 0, 1) := dk_42 (dk_at dksX0_setPrice_0 0 rfl rfl)
theorem dX0_setPrice_1 : decode cX0_setPrice 1 = .ok (.iload_n 1, 1) := dk_27 (dk_at dksX0_setPrice_0 1 rfl rfl)
theorem dX0_setPrice_2 : decode cX0_setPrice 2 = .ok (.iload_n 2, 1) := dk_28 (dk_at dksX0_setPrice_0 2 rfl rfl)
theorem dX0_setPrice_3 : decode cX0_setPrice 3 = .ok (.invokedynamic 107, 5) := by decide +kernel
theorem dX0_setPrice_8 : decode cX0_setPrice 8 = .ok (.invokevirtual 85, 3) := dk_182 0 85 (dk_at dksX0_setPrice_0 8 rfl rfl)
theorem dX0_setPrice_11 : decode cX0_setPrice 11 = .ok (.ireturn, 1) := dk_172 (dk_at dksX0_setPrice_0 11 rfl rfl)
abbrev cX0_lambda_setPrice_11 : ByteArray := prog_1_method_52_code
def yX0_lambda_setPrice_11 : MethodName := ⟨RX0, "lambda$setPrice$11", "(IILTicketScales$Counter;)I"⟩
def dkwX0_lambda_setPrice_11_0 : List UInt8 := [44, 26, 27, 182, 1, 57, 172]
abbrev dktX0_lambda_setPrice_11_0 : List UInt8 := dkwX0_lambda_setPrice_11_0 ++ []
theorem dksX0_lambda_setPrice_11_0 : cX0_lambda_setPrice_11.data.toList.drop 0 = dktX0_lambda_setPrice_11_0 := by decide +kernel
theorem dX0_lambda_setPrice_11_0 : decode cX0_lambda_setPrice_11 0 = .ok (.aload_n 2, 1) := dk_44 (dk_at dksX0_lambda_setPrice_11_0 0 rfl rfl)
theorem dX0_lambda_setPrice_11_1 : decode cX0_lambda_setPrice_11 1 = .ok (.iload_n 0, 1) := dk_26 (dk_at dksX0_lambda_setPrice_11_0 1 rfl rfl)
theorem dX0_lambda_setPrice_11_2 : decode cX0_lambda_setPrice_11 2 = .ok (.iload_n 1, 1) := dk_27 (dk_at dksX0_lambda_setPrice_11_0 2 rfl rfl)
theorem dX0_lambda_setPrice_11_3 : decode cX0_lambda_setPrice_11 3 = .ok (.invokevirtual 313, 3) := dk_182 1 57 (dk_at dksX0_lambda_setPrice_11_0 3 rfl rfl)
theorem dX0_lambda_setPrice_11_6 : decode cX0_lambda_setPrice_11 6 = .ok (.ireturn, 1) := dk_172 (dk_at dksX0_lambda_setPrice_11_0 6 rfl rfl)
abbrev cX0_buy : ByteArray := prog_1_method_20_code
def yX0_buy : MethodName := ⟨RX0, "buy", "(III)I"⟩
def dkwX0_buy_0 : List UInt8 := [42, 27, 28, 29, 186, 0, 108, 0, 0, 182, 0, 85, 172]
abbrev dktX0_buy_0 : List UInt8 := dkwX0_buy_0 ++ []
theorem dksX0_buy_0 : cX0_buy.data.toList.drop 0 = dktX0_buy_0 := by decide +kernel
theorem dX0_buy_0 : decode cX0_buy 0 = .ok (.aload_n 0, 1) := dk_42 (dk_at dksX0_buy_0 0 rfl rfl)
theorem dX0_buy_1 : decode cX0_buy 1 = .ok (.iload_n 1, 1) := dk_27 (dk_at dksX0_buy_0 1 rfl rfl)
theorem dX0_buy_2 : decode cX0_buy 2 = .ok (.iload_n 2, 1) := dk_28 (dk_at dksX0_buy_0 2 rfl rfl)
theorem dX0_buy_3 : decode cX0_buy 3 = .ok (.iload_n 3, 1) := dk_29 (dk_at dksX0_buy_0 3 rfl rfl)
theorem dX0_buy_4 : decode cX0_buy 4 = .ok (.invokedynamic 108, 5) := by decide +kernel
theorem dX0_buy_9 : decode cX0_buy 9 = .ok (.invokevirtual 85, 3) := dk_182 0 85 (dk_at dksX0_buy_0 9 rfl rfl)
theorem dX0_buy_12 : decode cX0_buy 12 = .ok (.ireturn, 1) := dk_172 (dk_at dksX0_buy_0 12 rfl rfl)
abbrev cX0_lambda_buy_12 : ByteArray := prog_1_method_51_code
def yX0_lambda_buy_12 : MethodName := ⟨RX0, "lambda$buy$12", "(IIILTicketScales$Counter;)I"⟩
def dkwX0_lambda_buy_12_0 : List UInt8 := [45, 26, 27, 28, 182, 1, 54, 172]
abbrev dktX0_lambda_buy_12_0 : List UInt8 := dkwX0_lambda_buy_12_0 ++ []
theorem dksX0_lambda_buy_12_0 : cX0_lambda_buy_12.data.toList.drop 0 = dktX0_lambda_buy_12_0 := by decide +kernel
theorem dX0_lambda_buy_12_0 : decode cX0_lambda_buy_12 0 = .ok (.aload_n 3, 1) := dk_45 (dk_at dksX0_lambda_buy_12_0 0 rfl rfl)
theorem dX0_lambda_buy_12_1 : decode cX0_lambda_buy_12 1 = .ok (.iload_n 0, 1) := dk_26 (dk_at dksX0_lambda_buy_12_0 1 rfl rfl)
theorem dX0_lambda_buy_12_2 : decode cX0_lambda_buy_12 2 = .ok (.iload_n 1, 1) := dk_27 (dk_at dksX0_lambda_buy_12_0 2 rfl rfl)
theorem dX0_lambda_buy_12_3 : decode cX0_lambda_buy_12 3 = .ok (.iload_n 2, 1) := dk_28 (dk_at dksX0_lambda_buy_12_0 3 rfl rfl)
theorem dX0_lambda_buy_12_4 : decode cX0_lambda_buy_12 4 = .ok (.invokevirtual 310, 3) := dk_182 1 54 (dk_at dksX0_lambda_buy_12_0 4 rfl rfl)
theorem dX0_lambda_buy_12_7 : decode cX0_lambda_buy_12 7 = .ok (.ireturn, 1) := dk_172 (dk_at dksX0_lambda_buy_12_0 7 rfl rfl)
abbrev cX0_take : ByteArray := prog_1_method_22_code
def yX0_take : MethodName := ⟨RX0, "take", "(I)I"⟩
def dkwX0_take_1 : List UInt8 := [180, 0, 26, 180, 0, 116, 27, 42, 182, 0, 120, 182, 0, 123, 83, 42, 182, 0, 120, 182, 0, 125, 172]
abbrev dktX0_take_1 : List UInt8 := dkwX0_take_1 ++ []
def dkwX0_take_0 : List UInt8 := [27, 184, 0, 113, 154, 0, 6, 18, 3, 172, 42, 42, 180, 0, 26, 182, 0, 64, 182, 0, 78, 42]
abbrev dktX0_take_0 : List UInt8 := dkwX0_take_0 ++ dktX0_take_1
theorem dksX0_take_0 : cX0_take.data.toList.drop 0 = dktX0_take_0 := by decide +kernel
theorem dksX0_take_1 : cX0_take.data.toList.drop 22 = dktX0_take_1 := dk_seg dksX0_take_0 22 rfl rfl
theorem dX0_take_0 : decode cX0_take 0 = .ok (.iload_n 1, 1) := dk_27 (dk_at dksX0_take_0 0 rfl rfl)
theorem dX0_take_1 : decode cX0_take 1 = .ok (.invokestatic 113, 3) := dk_184 0 113 (dk_at dksX0_take_0 1 rfl rfl)
theorem dX0_take_4 : decode cX0_take 4 = .ok (.ifCond .ne 6, 3) := dk_154 0 6 (dk_at dksX0_take_0 4 rfl rfl)
theorem dX0_take_7 : decode cX0_take 7 = .ok (.ldc 3, 2) := dk_18 3 (dk_at dksX0_take_0 7 rfl rfl)
theorem dX0_take_9 : decode cX0_take 9 = .ok (.ireturn, 1) := dk_172 (dk_at dksX0_take_0 9 rfl rfl)
theorem dX0_take_10 : decode cX0_take 10 = .ok (.aload_n 0, 1) := dk_42 (dk_at dksX0_take_0 10 rfl rfl)
theorem dX0_take_11 : decode cX0_take 11 = .ok (.aload_n 0, 1) := dk_42 (dk_at dksX0_take_0 11 rfl rfl)
theorem dX0_take_12 : decode cX0_take 12 = .ok (.getfield 26, 3) := dk_180 0 26 (dk_at dksX0_take_0 12 rfl rfl)
theorem dX0_take_15 : decode cX0_take 15 = .ok (.invokevirtual 64, 3) := dk_182 0 64 (dk_at dksX0_take_0 15 rfl rfl)
theorem dX0_take_18 : decode cX0_take 18 = .ok (.invokevirtual 78, 3) := dk_182 0 78 (dk_at dksX0_take_0 18 rfl rfl)
theorem dX0_take_21 : decode cX0_take 21 = .ok (.aload_n 0, 1) := dk_42 (dk_at dksX0_take_0 21 rfl rfl)
theorem dX0_take_22 : decode cX0_take 22 = .ok (.getfield 26, 3) := dk_180 0 26 (dk_at dksX0_take_1 0 rfl rfl)
theorem dX0_take_25 : decode cX0_take 25 = .ok (.getfield 116, 3) := dk_180 0 116 (dk_at dksX0_take_1 3 rfl rfl)
theorem dX0_take_28 : decode cX0_take 28 = .ok (.iload_n 1, 1) := dk_27 (dk_at dksX0_take_1 6 rfl rfl)
theorem dX0_take_29 : decode cX0_take 29 = .ok (.aload_n 0, 1) := dk_42 (dk_at dksX0_take_1 7 rfl rfl)
theorem dX0_take_30 : decode cX0_take 30 = .ok (.invokevirtual 120, 3) := dk_182 0 120 (dk_at dksX0_take_1 8 rfl rfl)
theorem dX0_take_33 : decode cX0_take 33 = .ok (.invokevirtual 123, 3) := dk_182 0 123 (dk_at dksX0_take_1 11 rfl rfl)
theorem dX0_take_36 : decode cX0_take 36 = .ok (.aastore, 1) := dk_83 (dk_at dksX0_take_1 14 rfl rfl)
theorem dX0_take_37 : decode cX0_take 37 = .ok (.aload_n 0, 1) := dk_42 (dk_at dksX0_take_1 15 rfl rfl)
theorem dX0_take_38 : decode cX0_take 38 = .ok (.invokevirtual 120, 3) := dk_182 0 120 (dk_at dksX0_take_1 16 rfl rfl)
theorem dX0_take_41 : decode cX0_take 41 = .ok (.invokevirtual 125, 3) := dk_182 0 125 (dk_at dksX0_take_1 19 rfl rfl)
theorem dX0_take_44 : decode cX0_take 44 = .ok (.ireturn, 1) := dk_172 (dk_at dksX0_take_1 22 rfl rfl)
abbrev cX0_isSlot : ByteArray := prog_1_method_21_code
def yX0_isSlot : MethodName := ⟨RX0, "isSlot", "(I)Z"⟩
def dkwX0_isSlot_0 : List UInt8 := [26, 3, 4, 184, 0, 109, 172]
abbrev dktX0_isSlot_0 : List UInt8 := dkwX0_isSlot_0 ++ []
theorem dksX0_isSlot_0 : cX0_isSlot.data.toList.drop 0 = dktX0_isSlot_0 := by decide +kernel
theorem dX0_isSlot_0 : decode cX0_isSlot 0 = .ok (.iload_n 0, 1) := dk_26 (dk_at dksX0_isSlot_0 0 rfl rfl)
theorem dX0_isSlot_1 : decode cX0_isSlot 1 = .ok (.iconst 0, 1) := dk_3 (dk_at dksX0_isSlot_0 1 rfl rfl)
theorem dX0_isSlot_2 : decode cX0_isSlot 2 = .ok (.iconst 1, 1) := dk_4 (dk_at dksX0_isSlot_0 2 rfl rfl)
theorem dX0_isSlot_3 : decode cX0_isSlot 3 = .ok (.invokestatic 109, 3) := dk_184 0 109 (dk_at dksX0_isSlot_0 3 rfl rfl)
theorem dX0_isSlot_6 : decode cX0_isSlot 6 = .ok (.ireturn, 1) := dk_172 (dk_at dksX0_isSlot_0 6 rfl rfl)
abbrev cX0_counter : ByteArray := prog_1_method_5_code
def yX0_counter : MethodName := ⟨RX0, "counter", "()LTicketScales$Counter;"⟩
def dkwX0_counter_0 : List UInt8 := [42, 180, 0, 26, 180, 0, 48, 176]
abbrev dktX0_counter_0 : List UInt8 := dkwX0_counter_0 ++ []
theorem dksX0_counter_0 : cX0_counter.data.toList.drop 0 = dktX0_counter_0 := by decide +kernel
theorem dX0_counter_0 : decode cX0_counter 0 = .ok (.aload_n 0, 1) := dk_42 (dk_at dksX0_counter_0 0 rfl rfl)
theorem dX0_counter_1 : decode cX0_counter 1 = .ok (.getfield 26, 3) := dk_180 0 26 (dk_at dksX0_counter_0 1 rfl rfl)
theorem dX0_counter_4 : decode cX0_counter 4 = .ok (.getfield 48, 3) := dk_180 0 48 (dk_at dksX0_counter_0 4 rfl rfl)
theorem dX0_counter_7 : decode cX0_counter 7 = .ok (.areturn, 1) := dk_176 (dk_at dksX0_counter_0 7 rfl rfl)
abbrev cX0_restore : ByteArray := prog_1_method_23_code
def yX0_restore : MethodName := ⟨RX0, "restore", "(I)I"⟩
def dkwX0_restore_2 : List UInt8 := [50, 182, 0, 123, 181, 0, 48, 42, 182, 0, 120, 182, 0, 125, 172]
abbrev dktX0_restore_2 : List UInt8 := dkwX0_restore_2 ++ []
def dkwX0_restore_1 : List UInt8 := [172, 42, 42, 180, 0, 26, 182, 0, 64, 182, 0, 78, 42, 180, 0, 26, 42, 180, 0, 26, 180, 0, 116, 27]
abbrev dktX0_restore_1 : List UInt8 := dkwX0_restore_1 ++ dktX0_restore_2
def dkwX0_restore_0 : List UInt8 := [27, 184, 0, 113, 154, 0, 6, 18, 3, 172, 42, 180, 0, 26, 180, 0, 116, 27, 50, 199, 0, 6, 18, 4]
abbrev dktX0_restore_0 : List UInt8 := dkwX0_restore_0 ++ dktX0_restore_1
theorem dksX0_restore_0 : cX0_restore.data.toList.drop 0 = dktX0_restore_0 := by decide +kernel
theorem dksX0_restore_1 : cX0_restore.data.toList.drop 24 = dktX0_restore_1 := dk_seg dksX0_restore_0 24 rfl rfl
theorem dksX0_restore_2 : cX0_restore.data.toList.drop 48 = dktX0_restore_2 := dk_seg dksX0_restore_1 24 rfl rfl
theorem dX0_restore_0 : decode cX0_restore 0 = .ok (.iload_n 1, 1) := dk_27 (dk_at dksX0_restore_0 0 rfl rfl)
theorem dX0_restore_1 : decode cX0_restore 1 = .ok (.invokestatic 113, 3) := dk_184 0 113 (dk_at dksX0_restore_0 1 rfl rfl)
theorem dX0_restore_4 : decode cX0_restore 4 = .ok (.ifCond .ne 6, 3) := dk_154 0 6 (dk_at dksX0_restore_0 4 rfl rfl)
theorem dX0_restore_7 : decode cX0_restore 7 = .ok (.ldc 3, 2) := dk_18 3 (dk_at dksX0_restore_0 7 rfl rfl)
theorem dX0_restore_9 : decode cX0_restore 9 = .ok (.ireturn, 1) := dk_172 (dk_at dksX0_restore_0 9 rfl rfl)
theorem dX0_restore_10 : decode cX0_restore 10 = .ok (.aload_n 0, 1) := dk_42 (dk_at dksX0_restore_0 10 rfl rfl)
theorem dX0_restore_11 : decode cX0_restore 11 = .ok (.getfield 26, 3) := dk_180 0 26 (dk_at dksX0_restore_0 11 rfl rfl)
theorem dX0_restore_14 : decode cX0_restore 14 = .ok (.getfield 116, 3) := dk_180 0 116 (dk_at dksX0_restore_0 14 rfl rfl)
theorem dX0_restore_17 : decode cX0_restore 17 = .ok (.iload_n 1, 1) := dk_27 (dk_at dksX0_restore_0 17 rfl rfl)
theorem dX0_restore_18 : decode cX0_restore 18 = .ok (.aaload, 1) := dk_50 (dk_at dksX0_restore_0 18 rfl rfl)
theorem dX0_restore_19 : decode cX0_restore 19 = .ok (.ifnonnull 6, 3) := dk_199 0 6 (dk_at dksX0_restore_0 19 rfl rfl)
theorem dX0_restore_22 : decode cX0_restore 22 = .ok (.ldc 4, 2) := dk_18 4 (dk_at dksX0_restore_0 22 rfl rfl)
theorem dX0_restore_24 : decode cX0_restore 24 = .ok (.ireturn, 1) := dk_172 (dk_at dksX0_restore_1 0 rfl rfl)
theorem dX0_restore_25 : decode cX0_restore 25 = .ok (.aload_n 0, 1) := dk_42 (dk_at dksX0_restore_1 1 rfl rfl)
theorem dX0_restore_26 : decode cX0_restore 26 = .ok (.aload_n 0, 1) := dk_42 (dk_at dksX0_restore_1 2 rfl rfl)
theorem dX0_restore_27 : decode cX0_restore 27 = .ok (.getfield 26, 3) := dk_180 0 26 (dk_at dksX0_restore_1 3 rfl rfl)
theorem dX0_restore_30 : decode cX0_restore 30 = .ok (.invokevirtual 64, 3) := dk_182 0 64 (dk_at dksX0_restore_1 6 rfl rfl)
theorem dX0_restore_33 : decode cX0_restore 33 = .ok (.invokevirtual 78, 3) := dk_182 0 78 (dk_at dksX0_restore_1 9 rfl rfl)
theorem dX0_restore_36 : decode cX0_restore 36 = .ok (.aload_n 0, 1) := dk_42 (dk_at dksX0_restore_1 12 rfl rfl)
theorem dX0_restore_37 : decode cX0_restore 37 = .ok (.getfield 26, 3) := dk_180 0 26 (dk_at dksX0_restore_1 13 rfl rfl)
theorem dX0_restore_40 : decode cX0_restore 40 = .ok (.aload_n 0, 1) := dk_42 (dk_at dksX0_restore_1 16 rfl rfl)
theorem dX0_restore_41 : decode cX0_restore 41 = .ok (.getfield 26, 3) := dk_180 0 26 (dk_at dksX0_restore_1 17 rfl rfl)
theorem dX0_restore_44 : decode cX0_restore 44 = .ok (.getfield 116, 3) := dk_180 0 116 (dk_at dksX0_restore_1 20 rfl rfl)
theorem dX0_restore_47 : decode cX0_restore 47 = .ok (.iload_n 1, 1) := dk_27 (dk_at dksX0_restore_1 23 rfl rfl)
theorem dX0_restore_48 : decode cX0_restore 48 = .ok (.aaload, 1) := dk_50 (dk_at dksX0_restore_2 0 rfl rfl)
theorem dX0_restore_49 : decode cX0_restore 49 = .ok (.invokevirtual 123, 3) := dk_182 0 123 (dk_at dksX0_restore_2 1 rfl rfl)
theorem dX0_restore_52 : decode cX0_restore 52 = .ok (.putfield 48, 3) := dk_181 0 48 (dk_at dksX0_restore_2 4 rfl rfl)
theorem dX0_restore_55 : decode cX0_restore 55 = .ok (.aload_n 0, 1) := dk_42 (dk_at dksX0_restore_2 7 rfl rfl)
theorem dX0_restore_56 : decode cX0_restore 56 = .ok (.invokevirtual 120, 3) := dk_182 0 120 (dk_at dksX0_restore_2 8 rfl rfl)
theorem dX0_restore_59 : decode cX0_restore 59 = .ok (.invokevirtual 125, 3) := dk_182 0 125 (dk_at dksX0_restore_2 11 rfl rfl)
theorem dX0_restore_62 : decode cX0_restore 62 = .ok (.ireturn, 1) := dk_172 (dk_at dksX0_restore_2 14 rfl rfl)
abbrev cX0_undo : ByteArray := prog_1_method_24_code
def yX0_undo : MethodName := ⟨RX0, "undo", "()I"⟩
def dkwX0_undo_1 : List UInt8 := [181, 0, 26, 42, 180, 0, 33, 182, 0, 52, 172]
abbrev dktX0_undo_1 : List UInt8 := dkwX0_undo_1 ++ []
def dkwX0_undo_0 : List UInt8 := [42, 180, 0, 33, 182, 0, 128, 153, 0, 6, 18, 4, 172, 42, 42, 180, 0, 33, 182, 0, 132, 192, 0, 18]
abbrev dktX0_undo_0 : List UInt8 := dkwX0_undo_0 ++ dktX0_undo_1
theorem dksX0_undo_0 : cX0_undo.data.toList.drop 0 = dktX0_undo_0 := by decide +kernel
theorem dksX0_undo_1 : cX0_undo.data.toList.drop 24 = dktX0_undo_1 := dk_seg dksX0_undo_0 24 rfl rfl
theorem dX0_undo_0 : decode cX0_undo 0 = .ok (.aload_n 0, 1) := dk_42 (dk_at dksX0_undo_0 0 rfl rfl)
theorem dX0_undo_1 : decode cX0_undo 1 = .ok (.getfield 33, 3) := dk_180 0 33 (dk_at dksX0_undo_0 1 rfl rfl)
theorem dX0_undo_4 : decode cX0_undo 4 = .ok (.invokevirtual 128, 3) := dk_182 0 128 (dk_at dksX0_undo_0 4 rfl rfl)
theorem dX0_undo_7 : decode cX0_undo 7 = .ok (.ifCond .eq 6, 3) := dk_153 0 6 (dk_at dksX0_undo_0 7 rfl rfl)
theorem dX0_undo_10 : decode cX0_undo 10 = .ok (.ldc 4, 2) := dk_18 4 (dk_at dksX0_undo_0 10 rfl rfl)
theorem dX0_undo_12 : decode cX0_undo 12 = .ok (.ireturn, 1) := dk_172 (dk_at dksX0_undo_0 12 rfl rfl)
theorem dX0_undo_13 : decode cX0_undo 13 = .ok (.aload_n 0, 1) := dk_42 (dk_at dksX0_undo_0 13 rfl rfl)
theorem dX0_undo_14 : decode cX0_undo 14 = .ok (.aload_n 0, 1) := dk_42 (dk_at dksX0_undo_0 14 rfl rfl)
theorem dX0_undo_15 : decode cX0_undo 15 = .ok (.getfield 33, 3) := dk_180 0 33 (dk_at dksX0_undo_0 15 rfl rfl)
theorem dX0_undo_18 : decode cX0_undo 18 = .ok (.invokevirtual 132, 3) := dk_182 0 132 (dk_at dksX0_undo_0 18 rfl rfl)
theorem dX0_undo_21 : decode cX0_undo 21 = .ok (.checkcast 18, 3) := dk_192 0 18 (dk_at dksX0_undo_0 21 rfl rfl)
theorem dX0_undo_24 : decode cX0_undo 24 = .ok (.putfield 26, 3) := dk_181 0 26 (dk_at dksX0_undo_1 0 rfl rfl)
theorem dX0_undo_27 : decode cX0_undo 27 = .ok (.aload_n 0, 1) := dk_42 (dk_at dksX0_undo_1 3 rfl rfl)
theorem dX0_undo_28 : decode cX0_undo 28 = .ok (.getfield 33, 3) := dk_180 0 33 (dk_at dksX0_undo_1 4 rfl rfl)
theorem dX0_undo_31 : decode cX0_undo 31 = .ok (.invokevirtual 52, 3) := dk_182 0 52 (dk_at dksX0_undo_1 7 rfl rfl)
theorem dX0_undo_34 : decode cX0_undo 34 = .ok (.ireturn, 1) := dk_172 (dk_at dksX0_undo_1 10 rfl rfl)
abbrev cX0_append : ByteArray := prog_1_method_25_code
def yX0_append : MethodName := ⟨RX0, "append", "(I)I"⟩
def dkwX0_append_1 : List UInt8 := [160, 0, 6, 18, 5, 172, 42, 180, 0, 40, 27, 146, 182, 0, 138, 87, 42, 180, 0, 40, 182, 0, 135, 172]
abbrev dktX0_append_1 : List UInt8 := dkwX0_append_1 ++ []
def dkwX0_append_0 : List UInt8 := [27, 4, 17, 0, 255, 184, 0, 109, 154, 0, 6, 18, 3, 172, 42, 180, 0, 40, 182, 0, 135, 17, 0, 140]
abbrev dktX0_append_0 : List UInt8 := dkwX0_append_0 ++ dktX0_append_1
theorem dksX0_append_0 : cX0_append.data.toList.drop 0 = dktX0_append_0 := by decide +kernel
theorem dksX0_append_1 : cX0_append.data.toList.drop 24 = dktX0_append_1 := dk_seg dksX0_append_0 24 rfl rfl
theorem dX0_append_0 : decode cX0_append 0 = .ok (.iload_n 1, 1) := dk_27 (dk_at dksX0_append_0 0 rfl rfl)
theorem dX0_append_1 : decode cX0_append 1 = .ok (.iconst 1, 1) := dk_4 (dk_at dksX0_append_0 1 rfl rfl)
theorem dX0_append_2 : decode cX0_append 2 = .ok (.sipush 255, 3) := dk_17 0 255 (dk_at dksX0_append_0 2 rfl rfl)
theorem dX0_append_5 : decode cX0_append 5 = .ok (.invokestatic 109, 3) := dk_184 0 109 (dk_at dksX0_append_0 5 rfl rfl)
theorem dX0_append_8 : decode cX0_append 8 = .ok (.ifCond .ne 6, 3) := dk_154 0 6 (dk_at dksX0_append_0 8 rfl rfl)
theorem dX0_append_11 : decode cX0_append 11 = .ok (.ldc 3, 2) := dk_18 3 (dk_at dksX0_append_0 11 rfl rfl)
theorem dX0_append_13 : decode cX0_append 13 = .ok (.ireturn, 1) := dk_172 (dk_at dksX0_append_0 13 rfl rfl)
theorem dX0_append_14 : decode cX0_append 14 = .ok (.aload_n 0, 1) := dk_42 (dk_at dksX0_append_0 14 rfl rfl)
theorem dX0_append_15 : decode cX0_append 15 = .ok (.getfield 40, 3) := dk_180 0 40 (dk_at dksX0_append_0 15 rfl rfl)
theorem dX0_append_18 : decode cX0_append 18 = .ok (.invokevirtual 135, 3) := dk_182 0 135 (dk_at dksX0_append_0 18 rfl rfl)
theorem dX0_append_21 : decode cX0_append 21 = .ok (.sipush 140, 3) := dk_17 0 140 (dk_at dksX0_append_0 21 rfl rfl)
theorem dX0_append_24 : decode cX0_append 24 = .ok (.if_icmp .ne 6, 3) := dk_160 0 6 (dk_at dksX0_append_1 0 rfl rfl)
theorem dX0_append_27 : decode cX0_append 27 = .ok (.ldc 5, 2) := dk_18 5 (dk_at dksX0_append_1 3 rfl rfl)
theorem dX0_append_29 : decode cX0_append 29 = .ok (.ireturn, 1) := dk_172 (dk_at dksX0_append_1 5 rfl rfl)
theorem dX0_append_30 : decode cX0_append 30 = .ok (.aload_n 0, 1) := dk_42 (dk_at dksX0_append_1 6 rfl rfl)
theorem dX0_append_31 : decode cX0_append 31 = .ok (.getfield 40, 3) := dk_180 0 40 (dk_at dksX0_append_1 7 rfl rfl)
theorem dX0_append_34 : decode cX0_append 34 = .ok (.iload_n 1, 1) := dk_27 (dk_at dksX0_append_1 10 rfl rfl)
theorem dX0_append_35 : decode cX0_append 35 = .ok (.i2c, 1) := dk_146 (dk_at dksX0_append_1 11 rfl rfl)
theorem dX0_append_36 : decode cX0_append 36 = .ok (.invokevirtual 138, 3) := dk_182 0 138 (dk_at dksX0_append_1 12 rfl rfl)
theorem dX0_append_39 : decode cX0_append 39 = .ok (.pop, 1) := dk_87 (dk_at dksX0_append_1 15 rfl rfl)
theorem dX0_append_40 : decode cX0_append 40 = .ok (.aload_n 0, 1) := dk_42 (dk_at dksX0_append_1 16 rfl rfl)
theorem dX0_append_41 : decode cX0_append 41 = .ok (.getfield 40, 3) := dk_180 0 40 (dk_at dksX0_append_1 17 rfl rfl)
theorem dX0_append_44 : decode cX0_append 44 = .ok (.invokevirtual 135, 3) := dk_182 0 135 (dk_at dksX0_append_1 20 rfl rfl)
theorem dX0_append_47 : decode cX0_append 47 = .ok (.ireturn, 1) := dk_172 (dk_at dksX0_append_1 23 rfl rfl)
abbrev cX0_clearText : ByteArray := prog_1_method_26_code
def yX0_clearText : MethodName := ⟨RX0, "clearText", "()I"⟩
def dkwX0_clearText_0 : List UInt8 := [42, 180, 0, 40, 182, 0, 135, 60, 42, 180, 0, 40, 3, 182, 0, 142, 27, 172]
abbrev dktX0_clearText_0 : List UInt8 := dkwX0_clearText_0 ++ []
theorem dksX0_clearText_0 : cX0_clearText.data.toList.drop 0 = dktX0_clearText_0 := by decide +kernel
theorem dX0_clearText_0 : decode cX0_clearText 0 = .ok (.aload_n 0, 1) := dk_42 (dk_at dksX0_clearText_0 0 rfl rfl)
theorem dX0_clearText_1 : decode cX0_clearText 1 = .ok (.getfield 40, 3) := dk_180 0 40 (dk_at dksX0_clearText_0 1 rfl rfl)
theorem dX0_clearText_4 : decode cX0_clearText 4 = .ok (.invokevirtual 135, 3) := dk_182 0 135 (dk_at dksX0_clearText_0 4 rfl rfl)
theorem dX0_clearText_7 : decode cX0_clearText 7 = .ok (.istore_n 1, 1) := dk_60 (dk_at dksX0_clearText_0 7 rfl rfl)
theorem dX0_clearText_8 : decode cX0_clearText 8 = .ok (.aload_n 0, 1) := dk_42 (dk_at dksX0_clearText_0 8 rfl rfl)
theorem dX0_clearText_9 : decode cX0_clearText 9 = .ok (.getfield 40, 3) := dk_180 0 40 (dk_at dksX0_clearText_0 9 rfl rfl)
theorem dX0_clearText_12 : decode cX0_clearText 12 = .ok (.iconst 0, 1) := dk_3 (dk_at dksX0_clearText_0 12 rfl rfl)
theorem dX0_clearText_13 : decode cX0_clearText 13 = .ok (.invokevirtual 142, 3) := dk_182 0 142 (dk_at dksX0_clearText_0 13 rfl rfl)
theorem dX0_clearText_16 : decode cX0_clearText 16 = .ok (.iload_n 1, 1) := dk_27 (dk_at dksX0_clearText_0 16 rfl rfl)
theorem dX0_clearText_17 : decode cX0_clearText 17 = .ok (.ireturn, 1) := dk_172 (dk_at dksX0_clearText_0 17 rfl rfl)
abbrev cX0_run : ByteArray := prog_1_method_27_code
def yX0_run : MethodName := ⟨RX0, "run", "()I"⟩
def dkwX0_run_2 : List UInt8 := [180, 0, 40, 3, 182, 0, 142, 44, 180, 0, 160, 172]
abbrev dktX0_run_2 : List UInt8 := dkwX0_run_2 ++ []
def dkwX0_run_1 : List UInt8 := [182, 0, 151, 167, 0, 13, 78, 17, 252, 24, 45, 180, 0, 156, 100, 172, 42, 43, 182, 0, 78, 42]
abbrev dktX0_run_1 : List UInt8 := dkwX0_run_1 ++ dktX0_run_2
def dkwX0_run_0 : List UInt8 := [42, 180, 0, 26, 182, 0, 64, 76, 187, 0, 146, 89, 42, 43, 180, 0, 48, 183, 0, 148, 77, 44]
abbrev dktX0_run_0 : List UInt8 := dkwX0_run_0 ++ dktX0_run_1
theorem dksX0_run_0 : cX0_run.data.toList.drop 0 = dktX0_run_0 := by decide +kernel
theorem dksX0_run_1 : cX0_run.data.toList.drop 22 = dktX0_run_1 := dk_seg dksX0_run_0 22 rfl rfl
theorem dksX0_run_2 : cX0_run.data.toList.drop 44 = dktX0_run_2 := dk_seg dksX0_run_1 22 rfl rfl
theorem dX0_run_0 : decode cX0_run 0 = .ok (.aload_n 0, 1) := dk_42 (dk_at dksX0_run_0 0 rfl rfl)
theorem dX0_run_1 : decode cX0_run 1 = .ok (.getfield 26, 3) := dk_180 0 26 (dk_at dksX0_run_0 1 rfl rfl)
theorem dX0_run_4 : decode cX0_run 4 = .ok (.invokevirtual 64, 3) := dk_182 0 64 (dk_at dksX0_run_0 4 rfl rfl)
theorem dX0_run_7 : decode cX0_run 7 = .ok (.astore_n 1, 1) := dk_76 (dk_at dksX0_run_0 7 rfl rfl)
theorem dX0_run_8 : decode cX0_run 8 = .ok (.new 146, 3) := dk_187 0 146 (dk_at dksX0_run_0 8 rfl rfl)
theorem dX0_run_11 : decode cX0_run 11 = .ok (.dup, 1) := dk_89 (dk_at dksX0_run_0 11 rfl rfl)
theorem dX0_run_12 : decode cX0_run 12 = .ok (.aload_n 0, 1) := dk_42 (dk_at dksX0_run_0 12 rfl rfl)
theorem dX0_run_13 : decode cX0_run 13 = .ok (.aload_n 1, 1) := dk_43 (dk_at dksX0_run_0 13 rfl rfl)
theorem dX0_run_14 : decode cX0_run 14 = .ok (.getfield 48, 3) := dk_180 0 48 (dk_at dksX0_run_0 14 rfl rfl)
theorem dX0_run_17 : decode cX0_run 17 = .ok (.invokespecial 148, 3) := dk_183 0 148 (dk_at dksX0_run_0 17 rfl rfl)
theorem dX0_run_20 : decode cX0_run 20 = .ok (.astore_n 2, 1) := dk_77 (dk_at dksX0_run_0 20 rfl rfl)
theorem dX0_run_21 : decode cX0_run 21 = .ok (.aload_n 2, 1) := dk_44 (dk_at dksX0_run_0 21 rfl rfl)
theorem dX0_run_22 : decode cX0_run 22 = .ok (.invokevirtual 151, 3) := dk_182 0 151 (dk_at dksX0_run_1 0 rfl rfl)
theorem dX0_run_25 : decode cX0_run 25 = .ok (.goto 13, 3) := dk_167 0 13 (dk_at dksX0_run_1 3 rfl rfl)
theorem dX0_run_28 : decode cX0_run 28 = .ok (.astore_n 3, 1) := dk_78 (dk_at dksX0_run_1 6 rfl rfl)
theorem dX0_run_29 : decode cX0_run 29 = .ok (.sipush (-1000), 3) := dk_17 252 24 (dk_at dksX0_run_1 7 rfl rfl)
theorem dX0_run_32 : decode cX0_run 32 = .ok (.aload_n 3, 1) := dk_45 (dk_at dksX0_run_1 10 rfl rfl)
theorem dX0_run_33 : decode cX0_run 33 = .ok (.getfield 156, 3) := dk_180 0 156 (dk_at dksX0_run_1 11 rfl rfl)
theorem dX0_run_36 : decode cX0_run 36 = .ok (.isub, 1) := dk_100 (dk_at dksX0_run_1 14 rfl rfl)
theorem dX0_run_37 : decode cX0_run 37 = .ok (.ireturn, 1) := dk_172 (dk_at dksX0_run_1 15 rfl rfl)
theorem dX0_run_38 : decode cX0_run 38 = .ok (.aload_n 0, 1) := dk_42 (dk_at dksX0_run_1 16 rfl rfl)
theorem dX0_run_39 : decode cX0_run 39 = .ok (.aload_n 1, 1) := dk_43 (dk_at dksX0_run_1 17 rfl rfl)
theorem dX0_run_40 : decode cX0_run 40 = .ok (.invokevirtual 78, 3) := dk_182 0 78 (dk_at dksX0_run_1 18 rfl rfl)
theorem dX0_run_43 : decode cX0_run 43 = .ok (.aload_n 0, 1) := dk_42 (dk_at dksX0_run_1 21 rfl rfl)
theorem dX0_run_44 : decode cX0_run 44 = .ok (.getfield 40, 3) := dk_180 0 40 (dk_at dksX0_run_2 0 rfl rfl)
theorem dX0_run_47 : decode cX0_run 47 = .ok (.iconst 0, 1) := dk_3 (dk_at dksX0_run_2 3 rfl rfl)
theorem dX0_run_48 : decode cX0_run 48 = .ok (.invokevirtual 142, 3) := dk_182 0 142 (dk_at dksX0_run_2 4 rfl rfl)
theorem dX0_run_51 : decode cX0_run 51 = .ok (.aload_n 2, 1) := dk_44 (dk_at dksX0_run_2 7 rfl rfl)
theorem dX0_run_52 : decode cX0_run 52 = .ok (.getfield 160, 3) := dk_180 0 160 (dk_at dksX0_run_2 8 rfl rfl)
theorem dX0_run_55 : decode cX0_run 55 = .ok (.ireturn, 1) := dk_172 (dk_at dksX0_run_2 11 rfl rfl)
abbrev cX0_failure : ByteArray := prog_1_method_28_code
def yX0_failure : MethodName := ⟨RX0, "failure", "(I)I"⟩
def dkwX0_failure_1 : List UInt8 := [167, 0, 9, 42, 180, 0, 44, 27, 46, 172]
abbrev dktX0_failure_1 : List UInt8 := dkwX0_failure_1 ++ []
def dkwX0_failure_0 : List UInt8 := [27, 3, 7, 184, 0, 109, 154, 0, 6, 18, 3, 172, 42, 180, 0, 44, 3, 46, 154, 0, 8, 18, 163]
abbrev dktX0_failure_0 : List UInt8 := dkwX0_failure_0 ++ dktX0_failure_1
theorem dksX0_failure_0 : cX0_failure.data.toList.drop 0 = dktX0_failure_0 := by decide +kernel
theorem dksX0_failure_1 : cX0_failure.data.toList.drop 23 = dktX0_failure_1 := dk_seg dksX0_failure_0 23 rfl rfl
theorem dX0_failure_0 : decode cX0_failure 0 = .ok (.iload_n 1, 1) := dk_27 (dk_at dksX0_failure_0 0 rfl rfl)
theorem dX0_failure_1 : decode cX0_failure 1 = .ok (.iconst 0, 1) := dk_3 (dk_at dksX0_failure_0 1 rfl rfl)
theorem dX0_failure_2 : decode cX0_failure 2 = .ok (.iconst 4, 1) := dk_7 (dk_at dksX0_failure_0 2 rfl rfl)
theorem dX0_failure_3 : decode cX0_failure 3 = .ok (.invokestatic 109, 3) := dk_184 0 109 (dk_at dksX0_failure_0 3 rfl rfl)
theorem dX0_failure_6 : decode cX0_failure 6 = .ok (.ifCond .ne 6, 3) := dk_154 0 6 (dk_at dksX0_failure_0 6 rfl rfl)
theorem dX0_failure_9 : decode cX0_failure 9 = .ok (.ldc 3, 2) := dk_18 3 (dk_at dksX0_failure_0 9 rfl rfl)
theorem dX0_failure_11 : decode cX0_failure 11 = .ok (.ireturn, 1) := dk_172 (dk_at dksX0_failure_0 11 rfl rfl)
theorem dX0_failure_12 : decode cX0_failure 12 = .ok (.aload_n 0, 1) := dk_42 (dk_at dksX0_failure_0 12 rfl rfl)
theorem dX0_failure_13 : decode cX0_failure 13 = .ok (.getfield 44, 3) := dk_180 0 44 (dk_at dksX0_failure_0 13 rfl rfl)
theorem dX0_failure_16 : decode cX0_failure 16 = .ok (.iconst 0, 1) := dk_3 (dk_at dksX0_failure_0 16 rfl rfl)
theorem dX0_failure_17 : decode cX0_failure 17 = .ok (.iaload, 1) := dk_46 (dk_at dksX0_failure_0 17 rfl rfl)
theorem dX0_failure_18 : decode cX0_failure 18 = .ok (.ifCond .ne 8, 3) := dk_154 0 8 (dk_at dksX0_failure_0 18 rfl rfl)
theorem dX0_failure_21 : decode cX0_failure 21 = .ok (.ldc 163, 2) := dk_18 163 (dk_at dksX0_failure_0 21 rfl rfl)
theorem dX0_failure_23 : decode cX0_failure 23 = .ok (.goto 9, 3) := dk_167 0 9 (dk_at dksX0_failure_1 0 rfl rfl)
theorem dX0_failure_26 : decode cX0_failure 26 = .ok (.aload_n 0, 1) := dk_42 (dk_at dksX0_failure_1 3 rfl rfl)
theorem dX0_failure_27 : decode cX0_failure 27 = .ok (.getfield 44, 3) := dk_180 0 44 (dk_at dksX0_failure_1 4 rfl rfl)
theorem dX0_failure_30 : decode cX0_failure 30 = .ok (.iload_n 1, 1) := dk_27 (dk_at dksX0_failure_1 7 rfl rfl)
theorem dX0_failure_31 : decode cX0_failure 31 = .ok (.iaload, 1) := dk_46 (dk_at dksX0_failure_1 8 rfl rfl)
theorem dX0_failure_32 : decode cX0_failure 32 = .ok (.ireturn, 1) := dk_172 (dk_at dksX0_failure_1 9 rfl rfl)
abbrev cX0_count : ByteArray := prog_1_method_32_code
def yX0_count : MethodName := ⟨RX0, "count", "(I)I"⟩
def dkwX0_count_8 : List UInt8 := [167, 0, 5, 18, 3, 172]
abbrev dktX0_count_8 : List UInt8 := dkwX0_count_8 ++ []
def dkwX0_count_7 : List UInt8 := [182, 0, 220, 167, 0, 25, 42, 180, 0, 33, 182, 0, 52, 167, 0, 15, 42, 180, 0, 40, 182, 0, 135]
abbrev dktX0_count_7 : List UInt8 := dkwX0_count_7 ++ dktX0_count_8
def dkwX0_count_6 : List UInt8 := [180, 0, 214, 167, 0, 49, 42, 182, 0, 120, 182, 0, 125, 167, 0, 39, 42, 182, 0, 217, 167, 0, 32, 42]
abbrev dktX0_count_6 : List UInt8 := dkwX0_count_6 ++ dktX0_count_7
def dkwX0_count_5 : List UInt8 := [180, 0, 188, 185, 0, 211, 1, 0, 167, 0, 66, 42, 182, 0, 212, 167, 0, 59, 42, 182, 0, 120]
abbrev dktX0_count_5 : List UInt8 := dkwX0_count_5 ++ dktX0_count_6
def dkwX0_count_4 : List UInt8 := [167, 0, 96, 42, 182, 0, 120, 180, 0, 164, 185, 0, 211, 1, 0, 167, 0, 81, 42, 182, 0, 120]
abbrev dktX0_count_4 : List UInt8 := dkwX0_count_4 ++ dktX0_count_5
def dkwX0_count_3 : List UInt8 := [180, 0, 202, 167, 0, 116, 42, 182, 0, 120, 180, 0, 205, 167, 0, 106, 42, 182, 0, 120, 180, 0, 208]
abbrev dktX0_count_3 : List UInt8 := dkwX0_count_3 ++ dktX0_count_4
def dkwX0_count_2 : List UInt8 := [42, 182, 0, 120, 180, 0, 196, 167, 0, 136, 42, 182, 0, 120, 180, 0, 199, 167, 0, 126, 42, 182, 0, 120]
abbrev dktX0_count_2 : List UInt8 := dkwX0_count_2 ++ dktX0_count_3
def dkwX0_count_1 : List UInt8 := [170, 0, 0, 0, 0, 0, 212, 0, 0, 0, 0, 0, 0, 0, 13, 0, 0, 0, 71, 0, 0, 0, 81, 0, 0, 0, 91, 0, 0, 0, 101, 0, 0, 0, 111, 0, 0, 0, 121, 0, 0, 0, 136, 0, 0, 0, 151, 0, 0, 0, 158, 0, 0, 0, 168, 0, 0, 0, 178, 0, 0, 0, 185, 0, 0, 0, 192, 0, 0, 0, 202]
abbrev dktX0_count_1 : List UInt8 := dkwX0_count_1 ++ dktX0_count_2
def dkwX0_count_0 : List UInt8 := [27]
abbrev dktX0_count_0 : List UInt8 := dkwX0_count_0 ++ dktX0_count_1
theorem dksX0_count_0 : cX0_count.data.toList.drop 0 = dktX0_count_0 := by decide +kernel
theorem dksX0_count_1 : cX0_count.data.toList.drop 1 = dktX0_count_1 := dk_seg dksX0_count_0 1 rfl rfl
theorem dksX0_count_2 : cX0_count.data.toList.drop 72 = dktX0_count_2 := dk_seg dksX0_count_1 71 rfl rfl
theorem dksX0_count_3 : cX0_count.data.toList.drop 96 = dktX0_count_3 := dk_seg dksX0_count_2 24 rfl rfl
theorem dksX0_count_4 : cX0_count.data.toList.drop 119 = dktX0_count_4 := dk_seg dksX0_count_3 23 rfl rfl
theorem dksX0_count_5 : cX0_count.data.toList.drop 141 = dktX0_count_5 := dk_seg dksX0_count_4 22 rfl rfl
theorem dksX0_count_6 : cX0_count.data.toList.drop 163 = dktX0_count_6 := dk_seg dksX0_count_5 22 rfl rfl
theorem dksX0_count_7 : cX0_count.data.toList.drop 187 = dktX0_count_7 := dk_seg dksX0_count_6 24 rfl rfl
theorem dksX0_count_8 : cX0_count.data.toList.drop 210 = dktX0_count_8 := dk_seg dksX0_count_7 23 rfl rfl
theorem dX0_count_0 : decode cX0_count 0 = .ok (.iload_n 1, 1) := dk_27 (dk_at dksX0_count_0 0 rfl rfl)
theorem dX0_count_1 : decode cX0_count 1 = .ok (.tableswitch 212 0 13 #[71, 81, 91, 101, 111, 121, 136, 151, 158, 168, 178, 185, 192, 202], 71) := by decide +kernel
theorem dX0_count_72 : decode cX0_count 72 = .ok (.aload_n 0, 1) := dk_42 (dk_at dksX0_count_2 0 rfl rfl)
theorem dX0_count_73 : decode cX0_count 73 = .ok (.invokevirtual 120, 3) := dk_182 0 120 (dk_at dksX0_count_2 1 rfl rfl)
theorem dX0_count_76 : decode cX0_count 76 = .ok (.getfield 196, 3) := dk_180 0 196 (dk_at dksX0_count_2 4 rfl rfl)
theorem dX0_count_79 : decode cX0_count 79 = .ok (.goto 136, 3) := dk_167 0 136 (dk_at dksX0_count_2 7 rfl rfl)
theorem dX0_count_82 : decode cX0_count 82 = .ok (.aload_n 0, 1) := dk_42 (dk_at dksX0_count_2 10 rfl rfl)
theorem dX0_count_83 : decode cX0_count 83 = .ok (.invokevirtual 120, 3) := dk_182 0 120 (dk_at dksX0_count_2 11 rfl rfl)
theorem dX0_count_86 : decode cX0_count 86 = .ok (.getfield 199, 3) := dk_180 0 199 (dk_at dksX0_count_2 14 rfl rfl)
theorem dX0_count_89 : decode cX0_count 89 = .ok (.goto 126, 3) := dk_167 0 126 (dk_at dksX0_count_2 17 rfl rfl)
theorem dX0_count_92 : decode cX0_count 92 = .ok (.aload_n 0, 1) := dk_42 (dk_at dksX0_count_2 20 rfl rfl)
theorem dX0_count_93 : decode cX0_count 93 = .ok (.invokevirtual 120, 3) := dk_182 0 120 (dk_at dksX0_count_2 21 rfl rfl)
theorem dX0_count_96 : decode cX0_count 96 = .ok (.getfield 202, 3) := dk_180 0 202 (dk_at dksX0_count_3 0 rfl rfl)
theorem dX0_count_99 : decode cX0_count 99 = .ok (.goto 116, 3) := dk_167 0 116 (dk_at dksX0_count_3 3 rfl rfl)
theorem dX0_count_102 : decode cX0_count 102 = .ok (.aload_n 0, 1) := dk_42 (dk_at dksX0_count_3 6 rfl rfl)
theorem dX0_count_103 : decode cX0_count 103 = .ok (.invokevirtual 120, 3) := dk_182 0 120 (dk_at dksX0_count_3 7 rfl rfl)
theorem dX0_count_106 : decode cX0_count 106 = .ok (.getfield 205, 3) := dk_180 0 205 (dk_at dksX0_count_3 10 rfl rfl)
theorem dX0_count_109 : decode cX0_count 109 = .ok (.goto 106, 3) := dk_167 0 106 (dk_at dksX0_count_3 13 rfl rfl)
theorem dX0_count_112 : decode cX0_count 112 = .ok (.aload_n 0, 1) := dk_42 (dk_at dksX0_count_3 16 rfl rfl)
theorem dX0_count_113 : decode cX0_count 113 = .ok (.invokevirtual 120, 3) := dk_182 0 120 (dk_at dksX0_count_3 17 rfl rfl)
theorem dX0_count_116 : decode cX0_count 116 = .ok (.getfield 208, 3) := dk_180 0 208 (dk_at dksX0_count_3 20 rfl rfl)
theorem dX0_count_119 : decode cX0_count 119 = .ok (.goto 96, 3) := dk_167 0 96 (dk_at dksX0_count_4 0 rfl rfl)
theorem dX0_count_122 : decode cX0_count 122 = .ok (.aload_n 0, 1) := dk_42 (dk_at dksX0_count_4 3 rfl rfl)
theorem dX0_count_123 : decode cX0_count 123 = .ok (.invokevirtual 120, 3) := dk_182 0 120 (dk_at dksX0_count_4 4 rfl rfl)
theorem dX0_count_126 : decode cX0_count 126 = .ok (.getfield 164, 3) := dk_180 0 164 (dk_at dksX0_count_4 7 rfl rfl)
theorem dX0_count_129 : decode cX0_count 129 = .ok (.invokeinterface 211 1, 5) := by decide +kernel
theorem dX0_count_134 : decode cX0_count 134 = .ok (.goto 81, 3) := dk_167 0 81 (dk_at dksX0_count_4 15 rfl rfl)
theorem dX0_count_137 : decode cX0_count 137 = .ok (.aload_n 0, 1) := dk_42 (dk_at dksX0_count_4 18 rfl rfl)
theorem dX0_count_138 : decode cX0_count 138 = .ok (.invokevirtual 120, 3) := dk_182 0 120 (dk_at dksX0_count_4 19 rfl rfl)
theorem dX0_count_141 : decode cX0_count 141 = .ok (.getfield 188, 3) := dk_180 0 188 (dk_at dksX0_count_5 0 rfl rfl)
theorem dX0_count_144 : decode cX0_count 144 = .ok (.invokeinterface 211 1, 5) := by decide +kernel
theorem dX0_count_149 : decode cX0_count 149 = .ok (.goto 66, 3) := dk_167 0 66 (dk_at dksX0_count_5 8 rfl rfl)
theorem dX0_count_152 : decode cX0_count 152 = .ok (.aload_n 0, 1) := dk_42 (dk_at dksX0_count_5 11 rfl rfl)
theorem dX0_count_153 : decode cX0_count 153 = .ok (.invokevirtual 212, 3) := dk_182 0 212 (dk_at dksX0_count_5 12 rfl rfl)
theorem dX0_count_156 : decode cX0_count 156 = .ok (.goto 59, 3) := dk_167 0 59 (dk_at dksX0_count_5 15 rfl rfl)
theorem dX0_count_159 : decode cX0_count 159 = .ok (.aload_n 0, 1) := dk_42 (dk_at dksX0_count_5 18 rfl rfl)
theorem dX0_count_160 : decode cX0_count 160 = .ok (.invokevirtual 120, 3) := dk_182 0 120 (dk_at dksX0_count_5 19 rfl rfl)
theorem dX0_count_163 : decode cX0_count 163 = .ok (.getfield 214, 3) := dk_180 0 214 (dk_at dksX0_count_6 0 rfl rfl)
theorem dX0_count_166 : decode cX0_count 166 = .ok (.goto 49, 3) := dk_167 0 49 (dk_at dksX0_count_6 3 rfl rfl)
theorem dX0_count_169 : decode cX0_count 169 = .ok (.aload_n 0, 1) := dk_42 (dk_at dksX0_count_6 6 rfl rfl)
theorem dX0_count_170 : decode cX0_count 170 = .ok (.invokevirtual 120, 3) := dk_182 0 120 (dk_at dksX0_count_6 7 rfl rfl)
theorem dX0_count_173 : decode cX0_count 173 = .ok (.invokevirtual 125, 3) := dk_182 0 125 (dk_at dksX0_count_6 10 rfl rfl)
theorem dX0_count_176 : decode cX0_count 176 = .ok (.goto 39, 3) := dk_167 0 39 (dk_at dksX0_count_6 13 rfl rfl)
theorem dX0_count_179 : decode cX0_count 179 = .ok (.aload_n 0, 1) := dk_42 (dk_at dksX0_count_6 16 rfl rfl)
theorem dX0_count_180 : decode cX0_count 180 = .ok (.invokevirtual 217, 3) := dk_182 0 217 (dk_at dksX0_count_6 17 rfl rfl)
theorem dX0_count_183 : decode cX0_count 183 = .ok (.goto 32, 3) := dk_167 0 32 (dk_at dksX0_count_6 20 rfl rfl)
theorem dX0_count_186 : decode cX0_count 186 = .ok (.aload_n 0, 1) := dk_42 (dk_at dksX0_count_6 23 rfl rfl)
theorem dX0_count_187 : decode cX0_count 187 = .ok (.invokevirtual 220, 3) := dk_182 0 220 (dk_at dksX0_count_7 0 rfl rfl)
theorem dX0_count_190 : decode cX0_count 190 = .ok (.goto 25, 3) := dk_167 0 25 (dk_at dksX0_count_7 3 rfl rfl)
theorem dX0_count_193 : decode cX0_count 193 = .ok (.aload_n 0, 1) := dk_42 (dk_at dksX0_count_7 6 rfl rfl)
theorem dX0_count_194 : decode cX0_count 194 = .ok (.getfield 33, 3) := dk_180 0 33 (dk_at dksX0_count_7 7 rfl rfl)
theorem dX0_count_197 : decode cX0_count 197 = .ok (.invokevirtual 52, 3) := dk_182 0 52 (dk_at dksX0_count_7 10 rfl rfl)
theorem dX0_count_200 : decode cX0_count 200 = .ok (.goto 15, 3) := dk_167 0 15 (dk_at dksX0_count_7 13 rfl rfl)
theorem dX0_count_203 : decode cX0_count 203 = .ok (.aload_n 0, 1) := dk_42 (dk_at dksX0_count_7 16 rfl rfl)
theorem dX0_count_204 : decode cX0_count 204 = .ok (.getfield 40, 3) := dk_180 0 40 (dk_at dksX0_count_7 17 rfl rfl)
theorem dX0_count_207 : decode cX0_count 207 = .ok (.invokevirtual 135, 3) := dk_182 0 135 (dk_at dksX0_count_7 20 rfl rfl)
theorem dX0_count_210 : decode cX0_count 210 = .ok (.goto 5, 3) := dk_167 0 5 (dk_at dksX0_count_8 0 rfl rfl)
theorem dX0_count_213 : decode cX0_count 213 = .ok (.ldc 3, 2) := dk_18 3 (dk_at dksX0_count_8 3 rfl rfl)
theorem dX0_count_215 : decode cX0_count 215 = .ok (.ireturn, 1) := dk_172 (dk_at dksX0_count_8 5 rfl rfl)
abbrev cX0_kept : ByteArray := prog_1_method_29_code
def yX0_kept : MethodName := ⟨RX0, "kept", "()I"⟩
def dkwX0_kept_2 : List UInt8 := [60, 167, 255, 222, 27, 172]
abbrev dktX0_kept_2 : List UInt8 := dkwX0_kept_2 ++ []
def dkwX0_kept_1 : List UInt8 := [44, 185, 0, 179, 1, 0, 192, 0, 182, 78, 27, 45, 180, 0, 184, 199, 0, 7, 3, 167, 0, 4, 4, 96]
abbrev dktX0_kept_1 : List UInt8 := dkwX0_kept_1 ++ dktX0_kept_2
def dkwX0_kept_0 : List UInt8 := [3, 60, 42, 182, 0, 120, 180, 0, 164, 185, 0, 168, 1, 0, 77, 44, 185, 0, 174, 1, 0, 153, 0, 31]
abbrev dktX0_kept_0 : List UInt8 := dkwX0_kept_0 ++ dktX0_kept_1
theorem dksX0_kept_0 : cX0_kept.data.toList.drop 0 = dktX0_kept_0 := by decide +kernel
theorem dksX0_kept_1 : cX0_kept.data.toList.drop 24 = dktX0_kept_1 := dk_seg dksX0_kept_0 24 rfl rfl
theorem dksX0_kept_2 : cX0_kept.data.toList.drop 48 = dktX0_kept_2 := dk_seg dksX0_kept_1 24 rfl rfl
theorem dX0_kept_0 : decode cX0_kept 0 = .ok (.iconst 0, 1) := dk_3 (dk_at dksX0_kept_0 0 rfl rfl)
theorem dX0_kept_1 : decode cX0_kept 1 = .ok (.istore_n 1, 1) := dk_60 (dk_at dksX0_kept_0 1 rfl rfl)
theorem dX0_kept_2 : decode cX0_kept 2 = .ok (.aload_n 0, 1) := dk_42 (dk_at dksX0_kept_0 2 rfl rfl)
theorem dX0_kept_3 : decode cX0_kept 3 = .ok (.invokevirtual 120, 3) := dk_182 0 120 (dk_at dksX0_kept_0 3 rfl rfl)
theorem dX0_kept_6 : decode cX0_kept 6 = .ok (.getfield 164, 3) := dk_180 0 164 (dk_at dksX0_kept_0 6 rfl rfl)
theorem dX0_kept_9 : decode cX0_kept 9 = .ok (.invokeinterface 168 1, 5) := by decide +kernel
theorem dX0_kept_14 : decode cX0_kept 14 = .ok (.astore_n 2, 1) := dk_77 (dk_at dksX0_kept_0 14 rfl rfl)
theorem dX0_kept_15 : decode cX0_kept 15 = .ok (.aload_n 2, 1) := dk_44 (dk_at dksX0_kept_0 15 rfl rfl)
theorem dX0_kept_16 : decode cX0_kept 16 = .ok (.invokeinterface 174 1, 5) := by decide +kernel
theorem dX0_kept_21 : decode cX0_kept 21 = .ok (.ifCond .eq 31, 3) := dk_153 0 31 (dk_at dksX0_kept_0 21 rfl rfl)
theorem dX0_kept_24 : decode cX0_kept 24 = .ok (.aload_n 2, 1) := dk_44 (dk_at dksX0_kept_1 0 rfl rfl)
theorem dX0_kept_25 : decode cX0_kept 25 = .ok (.invokeinterface 179 1, 5) := by decide +kernel
theorem dX0_kept_30 : decode cX0_kept 30 = .ok (.checkcast 182, 3) := dk_192 0 182 (dk_at dksX0_kept_1 6 rfl rfl)
theorem dX0_kept_33 : decode cX0_kept 33 = .ok (.astore_n 3, 1) := dk_78 (dk_at dksX0_kept_1 9 rfl rfl)
theorem dX0_kept_34 : decode cX0_kept 34 = .ok (.iload_n 1, 1) := dk_27 (dk_at dksX0_kept_1 10 rfl rfl)
theorem dX0_kept_35 : decode cX0_kept 35 = .ok (.aload_n 3, 1) := dk_45 (dk_at dksX0_kept_1 11 rfl rfl)
theorem dX0_kept_36 : decode cX0_kept 36 = .ok (.getfield 184, 3) := dk_180 0 184 (dk_at dksX0_kept_1 12 rfl rfl)
theorem dX0_kept_39 : decode cX0_kept 39 = .ok (.ifnonnull 7, 3) := dk_199 0 7 (dk_at dksX0_kept_1 15 rfl rfl)
theorem dX0_kept_42 : decode cX0_kept 42 = .ok (.iconst 0, 1) := dk_3 (dk_at dksX0_kept_1 18 rfl rfl)
theorem dX0_kept_43 : decode cX0_kept 43 = .ok (.goto 4, 3) := dk_167 0 4 (dk_at dksX0_kept_1 19 rfl rfl)
theorem dX0_kept_46 : decode cX0_kept 46 = .ok (.iconst 1, 1) := dk_4 (dk_at dksX0_kept_1 22 rfl rfl)
theorem dX0_kept_47 : decode cX0_kept 47 = .ok (.iadd, 1) := dk_96 (dk_at dksX0_kept_1 23 rfl rfl)
theorem dX0_kept_48 : decode cX0_kept 48 = .ok (.istore_n 1, 1) := dk_60 (dk_at dksX0_kept_2 0 rfl rfl)
theorem dX0_kept_49 : decode cX0_kept 49 = .ok (.goto (-34), 3) := dk_167 255 222 (dk_at dksX0_kept_2 1 rfl rfl)
theorem dX0_kept_52 : decode cX0_kept 52 = .ok (.iload_n 1, 1) := dk_27 (dk_at dksX0_kept_2 4 rfl rfl)
theorem dX0_kept_53 : decode cX0_kept 53 = .ok (.ireturn, 1) := dk_172 (dk_at dksX0_kept_2 5 rfl rfl)
abbrev cX0_pieces : ByteArray := prog_1_method_30_code
def yX0_pieces : MethodName := ⟨RX0, "pieces", "()I"⟩
def dkwX0_pieces_1 : List UInt8 := [44, 185, 0, 179, 1, 0, 192, 0, 191, 78, 27, 45, 180, 0, 193, 96, 60, 167, 255, 230, 27, 172]
abbrev dktX0_pieces_1 : List UInt8 := dkwX0_pieces_1 ++ []
def dkwX0_pieces_0 : List UInt8 := [3, 60, 42, 182, 0, 120, 180, 0, 188, 185, 0, 168, 1, 0, 77, 44, 185, 0, 174, 1, 0, 153, 0, 23]
abbrev dktX0_pieces_0 : List UInt8 := dkwX0_pieces_0 ++ dktX0_pieces_1
theorem dksX0_pieces_0 : cX0_pieces.data.toList.drop 0 = dktX0_pieces_0 := by decide +kernel
theorem dksX0_pieces_1 : cX0_pieces.data.toList.drop 24 = dktX0_pieces_1 := dk_seg dksX0_pieces_0 24 rfl rfl
theorem dX0_pieces_0 : decode cX0_pieces 0 = .ok (.iconst 0, 1) := dk_3 (dk_at dksX0_pieces_0 0 rfl rfl)
theorem dX0_pieces_1 : decode cX0_pieces 1 = .ok (.istore_n 1, 1) := dk_60 (dk_at dksX0_pieces_0 1 rfl rfl)
theorem dX0_pieces_2 : decode cX0_pieces 2 = .ok (.aload_n 0, 1) := dk_42 (dk_at dksX0_pieces_0 2 rfl rfl)
theorem dX0_pieces_3 : decode cX0_pieces 3 = .ok (.invokevirtual 120, 3) := dk_182 0 120 (dk_at dksX0_pieces_0 3 rfl rfl)
theorem dX0_pieces_6 : decode cX0_pieces 6 = .ok (.getfield 188, 3) := dk_180 0 188 (dk_at dksX0_pieces_0 6 rfl rfl)
theorem dX0_pieces_9 : decode cX0_pieces 9 = .ok (.invokeinterface 168 1, 5) := by decide +kernel
theorem dX0_pieces_14 : decode cX0_pieces 14 = .ok (.astore_n 2, 1) := dk_77 (dk_at dksX0_pieces_0 14 rfl rfl)
theorem dX0_pieces_15 : decode cX0_pieces 15 = .ok (.aload_n 2, 1) := dk_44 (dk_at dksX0_pieces_0 15 rfl rfl)
theorem dX0_pieces_16 : decode cX0_pieces 16 = .ok (.invokeinterface 174 1, 5) := by decide +kernel
theorem dX0_pieces_21 : decode cX0_pieces 21 = .ok (.ifCond .eq 23, 3) := dk_153 0 23 (dk_at dksX0_pieces_0 21 rfl rfl)
theorem dX0_pieces_24 : decode cX0_pieces 24 = .ok (.aload_n 2, 1) := dk_44 (dk_at dksX0_pieces_1 0 rfl rfl)
theorem dX0_pieces_25 : decode cX0_pieces 25 = .ok (.invokeinterface 179 1, 5) := by decide +kernel
theorem dX0_pieces_30 : decode cX0_pieces 30 = .ok (.checkcast 191, 3) := dk_192 0 191 (dk_at dksX0_pieces_1 6 rfl rfl)
theorem dX0_pieces_33 : decode cX0_pieces 33 = .ok (.astore_n 3, 1) := dk_78 (dk_at dksX0_pieces_1 9 rfl rfl)
theorem dX0_pieces_34 : decode cX0_pieces 34 = .ok (.iload_n 1, 1) := dk_27 (dk_at dksX0_pieces_1 10 rfl rfl)
theorem dX0_pieces_35 : decode cX0_pieces 35 = .ok (.aload_n 3, 1) := dk_45 (dk_at dksX0_pieces_1 11 rfl rfl)
theorem dX0_pieces_36 : decode cX0_pieces 36 = .ok (.getfield 193, 3) := dk_180 0 193 (dk_at dksX0_pieces_1 12 rfl rfl)
theorem dX0_pieces_39 : decode cX0_pieces 39 = .ok (.iadd, 1) := dk_96 (dk_at dksX0_pieces_1 15 rfl rfl)
theorem dX0_pieces_40 : decode cX0_pieces 40 = .ok (.istore_n 1, 1) := dk_60 (dk_at dksX0_pieces_1 16 rfl rfl)
theorem dX0_pieces_41 : decode cX0_pieces 41 = .ok (.goto (-26), 3) := dk_167 255 230 (dk_at dksX0_pieces_1 17 rfl rfl)
theorem dX0_pieces_44 : decode cX0_pieces 44 = .ok (.iload_n 1, 1) := dk_27 (dk_at dksX0_pieces_1 20 rfl rfl)
theorem dX0_pieces_45 : decode cX0_pieces 45 = .ok (.ireturn, 1) := dk_172 (dk_at dksX0_pieces_1 21 rfl rfl)
abbrev cX0_snapshots : ByteArray := prog_1_method_31_code
def yX0_snapshots : MethodName := ⟨RX0, "snapshots", "()I"⟩
def dkwX0_snapshots_2 : List UInt8 := [27, 172]
abbrev dktX0_snapshots_2 : List UInt8 := dkwX0_snapshots_2 ++ []
def dkwX0_snapshots_1 : List UInt8 := [21, 4, 50, 58, 5, 27, 25, 5, 199, 0, 7, 3, 167, 0, 4, 4, 96, 60, 132, 4, 1, 167, 255, 228]
abbrev dktX0_snapshots_1 : List UInt8 := dkwX0_snapshots_1 ++ dktX0_snapshots_2
def dkwX0_snapshots_0 : List UInt8 := [3, 60, 42, 180, 0, 26, 180, 0, 116, 77, 44, 190, 62, 3, 54, 4, 21, 4, 29, 162, 0, 28, 44]
abbrev dktX0_snapshots_0 : List UInt8 := dkwX0_snapshots_0 ++ dktX0_snapshots_1
theorem dksX0_snapshots_0 : cX0_snapshots.data.toList.drop 0 = dktX0_snapshots_0 := by decide +kernel
theorem dksX0_snapshots_1 : cX0_snapshots.data.toList.drop 23 = dktX0_snapshots_1 := dk_seg dksX0_snapshots_0 23 rfl rfl
theorem dksX0_snapshots_2 : cX0_snapshots.data.toList.drop 47 = dktX0_snapshots_2 := dk_seg dksX0_snapshots_1 24 rfl rfl
theorem dX0_snapshots_0 : decode cX0_snapshots 0 = .ok (.iconst 0, 1) := dk_3 (dk_at dksX0_snapshots_0 0 rfl rfl)
theorem dX0_snapshots_1 : decode cX0_snapshots 1 = .ok (.istore_n 1, 1) := dk_60 (dk_at dksX0_snapshots_0 1 rfl rfl)
theorem dX0_snapshots_2 : decode cX0_snapshots 2 = .ok (.aload_n 0, 1) := dk_42 (dk_at dksX0_snapshots_0 2 rfl rfl)
theorem dX0_snapshots_3 : decode cX0_snapshots 3 = .ok (.getfield 26, 3) := dk_180 0 26 (dk_at dksX0_snapshots_0 3 rfl rfl)
theorem dX0_snapshots_6 : decode cX0_snapshots 6 = .ok (.getfield 116, 3) := dk_180 0 116 (dk_at dksX0_snapshots_0 6 rfl rfl)
theorem dX0_snapshots_9 : decode cX0_snapshots 9 = .ok (.astore_n 2, 1) := dk_77 (dk_at dksX0_snapshots_0 9 rfl rfl)
theorem dX0_snapshots_10 : decode cX0_snapshots 10 = .ok (.aload_n 2, 1) := dk_44 (dk_at dksX0_snapshots_0 10 rfl rfl)
theorem dX0_snapshots_11 : decode cX0_snapshots 11 = .ok (.arraylength, 1) := dk_190 (dk_at dksX0_snapshots_0 11 rfl rfl)
theorem dX0_snapshots_12 : decode cX0_snapshots 12 = .ok (.istore_n 3, 1) := dk_62 (dk_at dksX0_snapshots_0 12 rfl rfl)
theorem dX0_snapshots_13 : decode cX0_snapshots 13 = .ok (.iconst 0, 1) := dk_3 (dk_at dksX0_snapshots_0 13 rfl rfl)
theorem dX0_snapshots_14 : decode cX0_snapshots 14 = .ok (.istore 4, 2) := dk_54 4 (dk_at dksX0_snapshots_0 14 rfl rfl)
theorem dX0_snapshots_16 : decode cX0_snapshots 16 = .ok (.iload 4, 2) := dk_21 4 (dk_at dksX0_snapshots_0 16 rfl rfl)
theorem dX0_snapshots_18 : decode cX0_snapshots 18 = .ok (.iload_n 3, 1) := dk_29 (dk_at dksX0_snapshots_0 18 rfl rfl)
theorem dX0_snapshots_19 : decode cX0_snapshots 19 = .ok (.if_icmp .ge 28, 3) := dk_162 0 28 (dk_at dksX0_snapshots_0 19 rfl rfl)
theorem dX0_snapshots_22 : decode cX0_snapshots 22 = .ok (.aload_n 2, 1) := dk_44 (dk_at dksX0_snapshots_0 22 rfl rfl)
theorem dX0_snapshots_23 : decode cX0_snapshots 23 = .ok (.iload 4, 2) := dk_21 4 (dk_at dksX0_snapshots_1 0 rfl rfl)
theorem dX0_snapshots_25 : decode cX0_snapshots 25 = .ok (.aaload, 1) := dk_50 (dk_at dksX0_snapshots_1 2 rfl rfl)
theorem dX0_snapshots_26 : decode cX0_snapshots 26 = .ok (.astore 5, 2) := dk_58 5 (dk_at dksX0_snapshots_1 3 rfl rfl)
theorem dX0_snapshots_28 : decode cX0_snapshots 28 = .ok (.iload_n 1, 1) := dk_27 (dk_at dksX0_snapshots_1 5 rfl rfl)
theorem dX0_snapshots_29 : decode cX0_snapshots 29 = .ok (.aload 5, 2) := dk_25 5 (dk_at dksX0_snapshots_1 6 rfl rfl)
theorem dX0_snapshots_31 : decode cX0_snapshots 31 = .ok (.ifnonnull 7, 3) := dk_199 0 7 (dk_at dksX0_snapshots_1 8 rfl rfl)
theorem dX0_snapshots_34 : decode cX0_snapshots 34 = .ok (.iconst 0, 1) := dk_3 (dk_at dksX0_snapshots_1 11 rfl rfl)
theorem dX0_snapshots_35 : decode cX0_snapshots 35 = .ok (.goto 4, 3) := dk_167 0 4 (dk_at dksX0_snapshots_1 12 rfl rfl)
theorem dX0_snapshots_38 : decode cX0_snapshots 38 = .ok (.iconst 1, 1) := dk_4 (dk_at dksX0_snapshots_1 15 rfl rfl)
theorem dX0_snapshots_39 : decode cX0_snapshots 39 = .ok (.iadd, 1) := dk_96 (dk_at dksX0_snapshots_1 16 rfl rfl)
theorem dX0_snapshots_40 : decode cX0_snapshots 40 = .ok (.istore_n 1, 1) := dk_60 (dk_at dksX0_snapshots_1 17 rfl rfl)
theorem dX0_snapshots_41 : decode cX0_snapshots 41 = .ok (.iinc 4 1, 3) := dk_132 4 1 (dk_at dksX0_snapshots_1 18 rfl rfl)
theorem dX0_snapshots_44 : decode cX0_snapshots 44 = .ok (.goto (-28), 3) := dk_167 255 228 (dk_at dksX0_snapshots_1 21 rfl rfl)
theorem dX0_snapshots_47 : decode cX0_snapshots 47 = .ok (.iload_n 1, 1) := dk_27 (dk_at dksX0_snapshots_2 0 rfl rfl)
theorem dX0_snapshots_48 : decode cX0_snapshots 48 = .ok (.ireturn, 1) := dk_172 (dk_at dksX0_snapshots_2 1 rfl rfl)
abbrev cX0_kind : ByteArray := prog_1_method_34_code
def yX0_kind : MethodName := ⟨RX0, "kind", "(II)I"⟩
def dkwX0_kind_1 : List UInt8 := [182, 0, 120, 180, 0, 226, 27, 46, 167, 0, 12, 42, 182, 0, 120, 180, 0, 229, 27, 46, 172]
abbrev dktX0_kind_1 : List UInt8 := dkwX0_kind_1 ++ []
def dkwX0_kind_0 : List UInt8 := [27, 184, 0, 223, 153, 0, 12, 28, 3, 4, 184, 0, 109, 154, 0, 6, 18, 3, 172, 28, 154, 0, 15, 42]
abbrev dktX0_kind_0 : List UInt8 := dkwX0_kind_0 ++ dktX0_kind_1
theorem dksX0_kind_0 : cX0_kind.data.toList.drop 0 = dktX0_kind_0 := by decide +kernel
theorem dksX0_kind_1 : cX0_kind.data.toList.drop 24 = dktX0_kind_1 := dk_seg dksX0_kind_0 24 rfl rfl
theorem dX0_kind_0 : decode cX0_kind 0 = .ok (.iload_n 1, 1) := dk_27 (dk_at dksX0_kind_0 0 rfl rfl)
theorem dX0_kind_1 : decode cX0_kind 1 = .ok (.invokestatic 223, 3) := dk_184 0 223 (dk_at dksX0_kind_0 1 rfl rfl)
theorem dX0_kind_4 : decode cX0_kind 4 = .ok (.ifCond .eq 12, 3) := dk_153 0 12 (dk_at dksX0_kind_0 4 rfl rfl)
theorem dX0_kind_7 : decode cX0_kind 7 = .ok (.iload_n 2, 1) := dk_28 (dk_at dksX0_kind_0 7 rfl rfl)
theorem dX0_kind_8 : decode cX0_kind 8 = .ok (.iconst 0, 1) := dk_3 (dk_at dksX0_kind_0 8 rfl rfl)
theorem dX0_kind_9 : decode cX0_kind 9 = .ok (.iconst 1, 1) := dk_4 (dk_at dksX0_kind_0 9 rfl rfl)
theorem dX0_kind_10 : decode cX0_kind 10 = .ok (.invokestatic 109, 3) := dk_184 0 109 (dk_at dksX0_kind_0 10 rfl rfl)
theorem dX0_kind_13 : decode cX0_kind 13 = .ok (.ifCond .ne 6, 3) := dk_154 0 6 (dk_at dksX0_kind_0 13 rfl rfl)
theorem dX0_kind_16 : decode cX0_kind 16 = .ok (.ldc 3, 2) := dk_18 3 (dk_at dksX0_kind_0 16 rfl rfl)
theorem dX0_kind_18 : decode cX0_kind 18 = .ok (.ireturn, 1) := dk_172 (dk_at dksX0_kind_0 18 rfl rfl)
theorem dX0_kind_19 : decode cX0_kind 19 = .ok (.iload_n 2, 1) := dk_28 (dk_at dksX0_kind_0 19 rfl rfl)
theorem dX0_kind_20 : decode cX0_kind 20 = .ok (.ifCond .ne 15, 3) := dk_154 0 15 (dk_at dksX0_kind_0 20 rfl rfl)
theorem dX0_kind_23 : decode cX0_kind 23 = .ok (.aload_n 0, 1) := dk_42 (dk_at dksX0_kind_0 23 rfl rfl)
theorem dX0_kind_24 : decode cX0_kind 24 = .ok (.invokevirtual 120, 3) := dk_182 0 120 (dk_at dksX0_kind_1 0 rfl rfl)
theorem dX0_kind_27 : decode cX0_kind 27 = .ok (.getfield 226, 3) := dk_180 0 226 (dk_at dksX0_kind_1 3 rfl rfl)
theorem dX0_kind_30 : decode cX0_kind 30 = .ok (.iload_n 1, 1) := dk_27 (dk_at dksX0_kind_1 6 rfl rfl)
theorem dX0_kind_31 : decode cX0_kind 31 = .ok (.iaload, 1) := dk_46 (dk_at dksX0_kind_1 7 rfl rfl)
theorem dX0_kind_32 : decode cX0_kind 32 = .ok (.goto 12, 3) := dk_167 0 12 (dk_at dksX0_kind_1 8 rfl rfl)
theorem dX0_kind_35 : decode cX0_kind 35 = .ok (.aload_n 0, 1) := dk_42 (dk_at dksX0_kind_1 11 rfl rfl)
theorem dX0_kind_36 : decode cX0_kind 36 = .ok (.invokevirtual 120, 3) := dk_182 0 120 (dk_at dksX0_kind_1 12 rfl rfl)
theorem dX0_kind_39 : decode cX0_kind 39 = .ok (.getfield 229, 3) := dk_180 0 229 (dk_at dksX0_kind_1 15 rfl rfl)
theorem dX0_kind_42 : decode cX0_kind 42 = .ok (.iload_n 1, 1) := dk_27 (dk_at dksX0_kind_1 18 rfl rfl)
theorem dX0_kind_43 : decode cX0_kind 43 = .ok (.iaload, 1) := dk_46 (dk_at dksX0_kind_1 19 rfl rfl)
theorem dX0_kind_44 : decode cX0_kind 44 = .ok (.ireturn, 1) := dk_172 (dk_at dksX0_kind_1 20 rfl rfl)
abbrev cX0_isKind : ByteArray := prog_1_method_33_code
def yX0_isKind : MethodName := ⟨RX0, "isKind", "(I)Z"⟩
def dkwX0_isKind_0 : List UInt8 := [26, 3, 6, 184, 0, 109, 172]
abbrev dktX0_isKind_0 : List UInt8 := dkwX0_isKind_0 ++ []
theorem dksX0_isKind_0 : cX0_isKind.data.toList.drop 0 = dktX0_isKind_0 := by decide +kernel
theorem dX0_isKind_0 : decode cX0_isKind 0 = .ok (.iload_n 0, 1) := dk_26 (dk_at dksX0_isKind_0 0 rfl rfl)
theorem dX0_isKind_1 : decode cX0_isKind 1 = .ok (.iconst 0, 1) := dk_3 (dk_at dksX0_isKind_0 1 rfl rfl)
theorem dX0_isKind_2 : decode cX0_isKind 2 = .ok (.iconst 3, 1) := dk_6 (dk_at dksX0_isKind_0 2 rfl rfl)
theorem dX0_isKind_3 : decode cX0_isKind 3 = .ok (.invokestatic 109, 3) := dk_184 0 109 (dk_at dksX0_isKind_0 3 rfl rfl)
theorem dX0_isKind_6 : decode cX0_isKind 6 = .ok (.ireturn, 1) := dk_172 (dk_at dksX0_isKind_0 6 rfl rfl)
abbrev cX0_customer : ByteArray := prog_1_method_35_code
def yX0_customer : MethodName := ⟨RX0, "customer", "(II)I"⟩
def dkwX0_customer_2 : List UInt8 := [172, 45, 180, 0, 184, 199, 0, 8, 18, 163, 167, 0, 11, 45, 180, 0, 184, 28, 182, 0, 241, 172]
abbrev dktX0_customer_2 : List UInt8 := dkwX0_customer_2 ++ []
def dkwX0_customer_1 : List UInt8 := [182, 0, 120, 180, 0, 164, 27, 185, 0, 235, 2, 0, 192, 0, 182, 78, 28, 154, 0, 8, 45, 180, 0, 239]
abbrev dktX0_customer_1 : List UInt8 := dkwX0_customer_1 ++ dktX0_customer_2
def dkwX0_customer_0 : List UInt8 := [42, 182, 0, 120, 27, 182, 0, 232, 153, 0, 12, 28, 3, 7, 184, 0, 109, 154, 0, 6, 18, 3, 172, 42]
abbrev dktX0_customer_0 : List UInt8 := dkwX0_customer_0 ++ dktX0_customer_1
theorem dksX0_customer_0 : cX0_customer.data.toList.drop 0 = dktX0_customer_0 := by decide +kernel
theorem dksX0_customer_1 : cX0_customer.data.toList.drop 24 = dktX0_customer_1 := dk_seg dksX0_customer_0 24 rfl rfl
theorem dksX0_customer_2 : cX0_customer.data.toList.drop 48 = dktX0_customer_2 := dk_seg dksX0_customer_1 24 rfl rfl
theorem dX0_customer_0 : decode cX0_customer 0 = .ok (.aload_n 0, 1) := dk_42 (dk_at dksX0_customer_0 0 rfl rfl)
theorem dX0_customer_1 : decode cX0_customer 1 = .ok (.invokevirtual 120, 3) := dk_182 0 120 (dk_at dksX0_customer_0 1 rfl rfl)
theorem dX0_customer_4 : decode cX0_customer 4 = .ok (.iload_n 1, 1) := dk_27 (dk_at dksX0_customer_0 4 rfl rfl)
theorem dX0_customer_5 : decode cX0_customer 5 = .ok (.invokevirtual 232, 3) := dk_182 0 232 (dk_at dksX0_customer_0 5 rfl rfl)
theorem dX0_customer_8 : decode cX0_customer 8 = .ok (.ifCond .eq 12, 3) := dk_153 0 12 (dk_at dksX0_customer_0 8 rfl rfl)
theorem dX0_customer_11 : decode cX0_customer 11 = .ok (.iload_n 2, 1) := dk_28 (dk_at dksX0_customer_0 11 rfl rfl)
theorem dX0_customer_12 : decode cX0_customer 12 = .ok (.iconst 0, 1) := dk_3 (dk_at dksX0_customer_0 12 rfl rfl)
theorem dX0_customer_13 : decode cX0_customer 13 = .ok (.iconst 4, 1) := dk_7 (dk_at dksX0_customer_0 13 rfl rfl)
theorem dX0_customer_14 : decode cX0_customer 14 = .ok (.invokestatic 109, 3) := dk_184 0 109 (dk_at dksX0_customer_0 14 rfl rfl)
theorem dX0_customer_17 : decode cX0_customer 17 = .ok (.ifCond .ne 6, 3) := dk_154 0 6 (dk_at dksX0_customer_0 17 rfl rfl)
theorem dX0_customer_20 : decode cX0_customer 20 = .ok (.ldc 3, 2) := dk_18 3 (dk_at dksX0_customer_0 20 rfl rfl)
theorem dX0_customer_22 : decode cX0_customer 22 = .ok (.ireturn, 1) := dk_172 (dk_at dksX0_customer_0 22 rfl rfl)
theorem dX0_customer_23 : decode cX0_customer 23 = .ok (.aload_n 0, 1) := dk_42 (dk_at dksX0_customer_0 23 rfl rfl)
theorem dX0_customer_24 : decode cX0_customer 24 = .ok (.invokevirtual 120, 3) := dk_182 0 120 (dk_at dksX0_customer_1 0 rfl rfl)
theorem dX0_customer_27 : decode cX0_customer 27 = .ok (.getfield 164, 3) := dk_180 0 164 (dk_at dksX0_customer_1 3 rfl rfl)
theorem dX0_customer_30 : decode cX0_customer 30 = .ok (.iload_n 1, 1) := dk_27 (dk_at dksX0_customer_1 6 rfl rfl)
theorem dX0_customer_31 : decode cX0_customer 31 = .ok (.invokeinterface 235 2, 5) := by decide +kernel
theorem dX0_customer_36 : decode cX0_customer 36 = .ok (.checkcast 182, 3) := dk_192 0 182 (dk_at dksX0_customer_1 12 rfl rfl)
theorem dX0_customer_39 : decode cX0_customer 39 = .ok (.astore_n 3, 1) := dk_78 (dk_at dksX0_customer_1 15 rfl rfl)
theorem dX0_customer_40 : decode cX0_customer 40 = .ok (.iload_n 2, 1) := dk_28 (dk_at dksX0_customer_1 16 rfl rfl)
theorem dX0_customer_41 : decode cX0_customer 41 = .ok (.ifCond .ne 8, 3) := dk_154 0 8 (dk_at dksX0_customer_1 17 rfl rfl)
theorem dX0_customer_44 : decode cX0_customer 44 = .ok (.aload_n 3, 1) := dk_45 (dk_at dksX0_customer_1 20 rfl rfl)
theorem dX0_customer_45 : decode cX0_customer 45 = .ok (.getfield 239, 3) := dk_180 0 239 (dk_at dksX0_customer_1 21 rfl rfl)
theorem dX0_customer_48 : decode cX0_customer 48 = .ok (.ireturn, 1) := dk_172 (dk_at dksX0_customer_2 0 rfl rfl)
theorem dX0_customer_49 : decode cX0_customer 49 = .ok (.aload_n 3, 1) := dk_45 (dk_at dksX0_customer_2 1 rfl rfl)
theorem dX0_customer_50 : decode cX0_customer 50 = .ok (.getfield 184, 3) := dk_180 0 184 (dk_at dksX0_customer_2 2 rfl rfl)
theorem dX0_customer_53 : decode cX0_customer 53 = .ok (.ifnonnull 8, 3) := dk_199 0 8 (dk_at dksX0_customer_2 5 rfl rfl)
theorem dX0_customer_56 : decode cX0_customer 56 = .ok (.ldc 163, 2) := dk_18 163 (dk_at dksX0_customer_2 8 rfl rfl)
theorem dX0_customer_58 : decode cX0_customer 58 = .ok (.goto 11, 3) := dk_167 0 11 (dk_at dksX0_customer_2 10 rfl rfl)
theorem dX0_customer_61 : decode cX0_customer 61 = .ok (.aload_n 3, 1) := dk_45 (dk_at dksX0_customer_2 13 rfl rfl)
theorem dX0_customer_62 : decode cX0_customer 62 = .ok (.getfield 184, 3) := dk_180 0 184 (dk_at dksX0_customer_2 14 rfl rfl)
theorem dX0_customer_65 : decode cX0_customer 65 = .ok (.iload_n 2, 1) := dk_28 (dk_at dksX0_customer_2 17 rfl rfl)
theorem dX0_customer_66 : decode cX0_customer 66 = .ok (.invokevirtual 241, 3) := dk_182 0 241 (dk_at dksX0_customer_2 18 rfl rfl)
theorem dX0_customer_69 : decode cX0_customer 69 = .ok (.ireturn, 1) := dk_172 (dk_at dksX0_customer_2 21 rfl rfl)
abbrev cX0_prize : ByteArray := prog_1_method_36_code
def yX0_prize : MethodName := ⟨RX0, "prize", "(II)I"⟩
def dkwX0_prize_1 : List UInt8 := [192, 0, 191, 28, 182, 0, 250, 167, 0, 5, 18, 3, 172]
abbrev dktX0_prize_1 : List UInt8 := dkwX0_prize_1 ++ []
def dkwX0_prize_0 : List UInt8 := [42, 182, 0, 120, 27, 182, 0, 247, 153, 0, 26, 42, 182, 0, 120, 180, 0, 188, 27, 185, 0, 235, 2, 0]
abbrev dktX0_prize_0 : List UInt8 := dkwX0_prize_0 ++ dktX0_prize_1
theorem dksX0_prize_0 : cX0_prize.data.toList.drop 0 = dktX0_prize_0 := by decide +kernel
theorem dksX0_prize_1 : cX0_prize.data.toList.drop 24 = dktX0_prize_1 := dk_seg dksX0_prize_0 24 rfl rfl
theorem dX0_prize_0 : decode cX0_prize 0 = .ok (.aload_n 0, 1) := dk_42 (dk_at dksX0_prize_0 0 rfl rfl)
theorem dX0_prize_1 : decode cX0_prize 1 = .ok (.invokevirtual 120, 3) := dk_182 0 120 (dk_at dksX0_prize_0 1 rfl rfl)
theorem dX0_prize_4 : decode cX0_prize 4 = .ok (.iload_n 1, 1) := dk_27 (dk_at dksX0_prize_0 4 rfl rfl)
theorem dX0_prize_5 : decode cX0_prize 5 = .ok (.invokevirtual 247, 3) := dk_182 0 247 (dk_at dksX0_prize_0 5 rfl rfl)
theorem dX0_prize_8 : decode cX0_prize 8 = .ok (.ifCond .eq 26, 3) := dk_153 0 26 (dk_at dksX0_prize_0 8 rfl rfl)
theorem dX0_prize_11 : decode cX0_prize 11 = .ok (.aload_n 0, 1) := dk_42 (dk_at dksX0_prize_0 11 rfl rfl)
theorem dX0_prize_12 : decode cX0_prize 12 = .ok (.invokevirtual 120, 3) := dk_182 0 120 (dk_at dksX0_prize_0 12 rfl rfl)
theorem dX0_prize_15 : decode cX0_prize 15 = .ok (.getfield 188, 3) := dk_180 0 188 (dk_at dksX0_prize_0 15 rfl rfl)
theorem dX0_prize_18 : decode cX0_prize 18 = .ok (.iload_n 1, 1) := dk_27 (dk_at dksX0_prize_0 18 rfl rfl)
theorem dX0_prize_19 : decode cX0_prize 19 = .ok (.invokeinterface 235 2, 5) := by decide +kernel
theorem dX0_prize_24 : decode cX0_prize 24 = .ok (.checkcast 191, 3) := dk_192 0 191 (dk_at dksX0_prize_1 0 rfl rfl)
theorem dX0_prize_27 : decode cX0_prize 27 = .ok (.iload_n 2, 1) := dk_28 (dk_at dksX0_prize_1 3 rfl rfl)
theorem dX0_prize_28 : decode cX0_prize 28 = .ok (.invokevirtual 250, 3) := dk_182 0 250 (dk_at dksX0_prize_1 4 rfl rfl)
theorem dX0_prize_31 : decode cX0_prize 31 = .ok (.goto 5, 3) := dk_167 0 5 (dk_at dksX0_prize_1 7 rfl rfl)
theorem dX0_prize_34 : decode cX0_prize 34 = .ok (.ldc 3, 2) := dk_18 3 (dk_at dksX0_prize_1 10 rfl rfl)
theorem dX0_prize_36 : decode cX0_prize 36 = .ok (.ireturn, 1) := dk_172 (dk_at dksX0_prize_1 12 rfl rfl)
abbrev cX0_read : ByteArray := prog_1_method_37_code
def yX0_read : MethodName := ⟨RX0, "read", "(I)I"⟩
def dkwX0_read_1 : List UInt8 := [18, 3, 172]
abbrev dktX0_read_1 : List UInt8 := dkwX0_read_1 ++ []
def dkwX0_read_0 : List UInt8 := [27, 17, 236, 120, 18, 251, 184, 0, 109, 153, 0, 14, 42, 182, 0, 120, 27, 182, 0, 252, 167, 0, 5]
abbrev dktX0_read_0 : List UInt8 := dkwX0_read_0 ++ dktX0_read_1
theorem dksX0_read_0 : cX0_read.data.toList.drop 0 = dktX0_read_0 := by decide +kernel
theorem dksX0_read_1 : cX0_read.data.toList.drop 23 = dktX0_read_1 := dk_seg dksX0_read_0 23 rfl rfl
theorem dX0_read_0 : decode cX0_read 0 = .ok (.iload_n 1, 1) := dk_27 (dk_at dksX0_read_0 0 rfl rfl)
theorem dX0_read_1 : decode cX0_read 1 = .ok (.sipush (-5000), 3) := dk_17 236 120 (dk_at dksX0_read_0 1 rfl rfl)
theorem dX0_read_4 : decode cX0_read 4 = .ok (.ldc 251, 2) := dk_18 251 (dk_at dksX0_read_0 4 rfl rfl)
theorem dX0_read_6 : decode cX0_read 6 = .ok (.invokestatic 109, 3) := dk_184 0 109 (dk_at dksX0_read_0 6 rfl rfl)
theorem dX0_read_9 : decode cX0_read 9 = .ok (.ifCond .eq 14, 3) := dk_153 0 14 (dk_at dksX0_read_0 9 rfl rfl)
theorem dX0_read_12 : decode cX0_read 12 = .ok (.aload_n 0, 1) := dk_42 (dk_at dksX0_read_0 12 rfl rfl)
theorem dX0_read_13 : decode cX0_read 13 = .ok (.invokevirtual 120, 3) := dk_182 0 120 (dk_at dksX0_read_0 13 rfl rfl)
theorem dX0_read_16 : decode cX0_read 16 = .ok (.iload_n 1, 1) := dk_27 (dk_at dksX0_read_0 16 rfl rfl)
theorem dX0_read_17 : decode cX0_read 17 = .ok (.invokevirtual 252, 3) := dk_182 0 252 (dk_at dksX0_read_0 17 rfl rfl)
theorem dX0_read_20 : decode cX0_read 20 = .ok (.goto 5, 3) := dk_167 0 5 (dk_at dksX0_read_0 20 rfl rfl)
theorem dX0_read_23 : decode cX0_read 23 = .ok (.ldc 3, 2) := dk_18 3 (dk_at dksX0_read_1 0 rfl rfl)
theorem dX0_read_25 : decode cX0_read 25 = .ok (.ireturn, 1) := dk_172 (dk_at dksX0_read_1 2 rfl rfl)
abbrev cX0_allowed : ByteArray := prog_1_method_39_code
def yX0_allowed : MethodName := ⟨RX0, "allowed", "(III)I"⟩
def dkwX0_allowed_3 : List UInt8 := [167, 0, 8, 25, 4, 180, 1, 12, 172]
abbrev dktX0_allowed_3 : List UInt8 := dkwX0_allowed_3 ++ []
def dkwX0_allowed_2 : List UInt8 := [172, 25, 4, 182, 1, 6, 154, 0, 8, 18, 163, 167, 0, 20, 29, 154, 0, 11, 25, 4, 180, 1, 9]
abbrev dktX0_allowed_2 : List UInt8 := dkwX0_allowed_2 ++ dktX0_allowed_3
def dkwX0_allowed_1 : List UInt8 := [18, 3, 172, 42, 182, 0, 120, 27, 28, 182, 1, 2, 58, 4, 29, 5, 160, 0, 9, 25, 4, 182, 1, 6]
abbrev dktX0_allowed_1 : List UInt8 := dkwX0_allowed_1 ++ dktX0_allowed_2
def dkwX0_allowed_0 : List UInt8 := [27, 184, 0, 255, 153, 0, 19, 28, 184, 0, 223, 153, 0, 12, 29, 3, 5, 184, 0, 109, 154, 0, 6]
abbrev dktX0_allowed_0 : List UInt8 := dkwX0_allowed_0 ++ dktX0_allowed_1
theorem dksX0_allowed_0 : cX0_allowed.data.toList.drop 0 = dktX0_allowed_0 := by decide +kernel
theorem dksX0_allowed_1 : cX0_allowed.data.toList.drop 23 = dktX0_allowed_1 := dk_seg dksX0_allowed_0 23 rfl rfl
theorem dksX0_allowed_2 : cX0_allowed.data.toList.drop 47 = dktX0_allowed_2 := dk_seg dksX0_allowed_1 24 rfl rfl
theorem dksX0_allowed_3 : cX0_allowed.data.toList.drop 70 = dktX0_allowed_3 := dk_seg dksX0_allowed_2 23 rfl rfl
theorem dX0_allowed_0 : decode cX0_allowed 0 = .ok (.iload_n 1, 1) := dk_27 (dk_at dksX0_allowed_0 0 rfl rfl)
theorem dX0_allowed_1 : decode cX0_allowed 1 = .ok (.invokestatic 255, 3) := dk_184 0 255 (dk_at dksX0_allowed_0 1 rfl rfl)
theorem dX0_allowed_4 : decode cX0_allowed 4 = .ok (.ifCond .eq 19, 3) := dk_153 0 19 (dk_at dksX0_allowed_0 4 rfl rfl)
theorem dX0_allowed_7 : decode cX0_allowed 7 = .ok (.iload_n 2, 1) := dk_28 (dk_at dksX0_allowed_0 7 rfl rfl)
theorem dX0_allowed_8 : decode cX0_allowed 8 = .ok (.invokestatic 223, 3) := dk_184 0 223 (dk_at dksX0_allowed_0 8 rfl rfl)
theorem dX0_allowed_11 : decode cX0_allowed 11 = .ok (.ifCond .eq 12, 3) := dk_153 0 12 (dk_at dksX0_allowed_0 11 rfl rfl)
theorem dX0_allowed_14 : decode cX0_allowed 14 = .ok (.iload_n 3, 1) := dk_29 (dk_at dksX0_allowed_0 14 rfl rfl)
theorem dX0_allowed_15 : decode cX0_allowed 15 = .ok (.iconst 0, 1) := dk_3 (dk_at dksX0_allowed_0 15 rfl rfl)
theorem dX0_allowed_16 : decode cX0_allowed 16 = .ok (.iconst 2, 1) := dk_5 (dk_at dksX0_allowed_0 16 rfl rfl)
theorem dX0_allowed_17 : decode cX0_allowed 17 = .ok (.invokestatic 109, 3) := dk_184 0 109 (dk_at dksX0_allowed_0 17 rfl rfl)
theorem dX0_allowed_20 : decode cX0_allowed 20 = .ok (.ifCond .ne 6, 3) := dk_154 0 6 (dk_at dksX0_allowed_0 20 rfl rfl)
theorem dX0_allowed_23 : decode cX0_allowed 23 = .ok (.ldc 3, 2) := dk_18 3 (dk_at dksX0_allowed_1 0 rfl rfl)
theorem dX0_allowed_25 : decode cX0_allowed 25 = .ok (.ireturn, 1) := dk_172 (dk_at dksX0_allowed_1 2 rfl rfl)
theorem dX0_allowed_26 : decode cX0_allowed 26 = .ok (.aload_n 0, 1) := dk_42 (dk_at dksX0_allowed_1 3 rfl rfl)
theorem dX0_allowed_27 : decode cX0_allowed 27 = .ok (.invokevirtual 120, 3) := dk_182 0 120 (dk_at dksX0_allowed_1 4 rfl rfl)
theorem dX0_allowed_30 : decode cX0_allowed 30 = .ok (.iload_n 1, 1) := dk_27 (dk_at dksX0_allowed_1 7 rfl rfl)
theorem dX0_allowed_31 : decode cX0_allowed 31 = .ok (.iload_n 2, 1) := dk_28 (dk_at dksX0_allowed_1 8 rfl rfl)
theorem dX0_allowed_32 : decode cX0_allowed 32 = .ok (.invokevirtual 258, 3) := dk_182 1 2 (dk_at dksX0_allowed_1 9 rfl rfl)
theorem dX0_allowed_35 : decode cX0_allowed 35 = .ok (.astore 4, 2) := dk_58 4 (dk_at dksX0_allowed_1 12 rfl rfl)
theorem dX0_allowed_37 : decode cX0_allowed 37 = .ok (.iload_n 3, 1) := dk_29 (dk_at dksX0_allowed_1 14 rfl rfl)
theorem dX0_allowed_38 : decode cX0_allowed 38 = .ok (.iconst 2, 1) := dk_5 (dk_at dksX0_allowed_1 15 rfl rfl)
theorem dX0_allowed_39 : decode cX0_allowed 39 = .ok (.if_icmp .ne 9, 3) := dk_160 0 9 (dk_at dksX0_allowed_1 16 rfl rfl)
theorem dX0_allowed_42 : decode cX0_allowed 42 = .ok (.aload 4, 2) := dk_25 4 (dk_at dksX0_allowed_1 19 rfl rfl)
theorem dX0_allowed_44 : decode cX0_allowed 44 = .ok (.invokevirtual 262, 3) := dk_182 1 6 (dk_at dksX0_allowed_1 21 rfl rfl)
theorem dX0_allowed_47 : decode cX0_allowed 47 = .ok (.ireturn, 1) := dk_172 (dk_at dksX0_allowed_2 0 rfl rfl)
theorem dX0_allowed_48 : decode cX0_allowed 48 = .ok (.aload 4, 2) := dk_25 4 (dk_at dksX0_allowed_2 1 rfl rfl)
theorem dX0_allowed_50 : decode cX0_allowed 50 = .ok (.invokevirtual 262, 3) := dk_182 1 6 (dk_at dksX0_allowed_2 3 rfl rfl)
theorem dX0_allowed_53 : decode cX0_allowed 53 = .ok (.ifCond .ne 8, 3) := dk_154 0 8 (dk_at dksX0_allowed_2 6 rfl rfl)
theorem dX0_allowed_56 : decode cX0_allowed 56 = .ok (.ldc 163, 2) := dk_18 163 (dk_at dksX0_allowed_2 9 rfl rfl)
theorem dX0_allowed_58 : decode cX0_allowed 58 = .ok (.goto 20, 3) := dk_167 0 20 (dk_at dksX0_allowed_2 11 rfl rfl)
theorem dX0_allowed_61 : decode cX0_allowed 61 = .ok (.iload_n 3, 1) := dk_29 (dk_at dksX0_allowed_2 14 rfl rfl)
theorem dX0_allowed_62 : decode cX0_allowed 62 = .ok (.ifCond .ne 11, 3) := dk_154 0 11 (dk_at dksX0_allowed_2 15 rfl rfl)
theorem dX0_allowed_65 : decode cX0_allowed 65 = .ok (.aload 4, 2) := dk_25 4 (dk_at dksX0_allowed_2 18 rfl rfl)
theorem dX0_allowed_67 : decode cX0_allowed 67 = .ok (.getfield 265, 3) := dk_180 1 9 (dk_at dksX0_allowed_2 20 rfl rfl)
theorem dX0_allowed_70 : decode cX0_allowed 70 = .ok (.goto 8, 3) := dk_167 0 8 (dk_at dksX0_allowed_3 0 rfl rfl)
theorem dX0_allowed_73 : decode cX0_allowed 73 = .ok (.aload 4, 2) := dk_25 4 (dk_at dksX0_allowed_3 3 rfl rfl)
theorem dX0_allowed_75 : decode cX0_allowed 75 = .ok (.getfield 268, 3) := dk_180 1 12 (dk_at dksX0_allowed_3 5 rfl rfl)
theorem dX0_allowed_78 : decode cX0_allowed 78 = .ok (.ireturn, 1) := dk_172 (dk_at dksX0_allowed_3 8 rfl rfl)
abbrev cX0_isReading : ByteArray := prog_1_method_38_code
def yX0_isReading : MethodName := ⟨RX0, "isReading", "(I)Z"⟩
def dkwX0_isReading_0 : List UInt8 := [26, 3, 18, 251, 184, 0, 109, 172]
abbrev dktX0_isReading_0 : List UInt8 := dkwX0_isReading_0 ++ []
theorem dksX0_isReading_0 : cX0_isReading.data.toList.drop 0 = dktX0_isReading_0 := by decide +kernel
theorem dX0_isReading_0 : decode cX0_isReading 0 = .ok (.iload_n 0, 1) := dk_26 (dk_at dksX0_isReading_0 0 rfl rfl)
theorem dX0_isReading_1 : decode cX0_isReading 1 = .ok (.iconst 0, 1) := dk_3 (dk_at dksX0_isReading_0 1 rfl rfl)
theorem dX0_isReading_2 : decode cX0_isReading 2 = .ok (.ldc 251, 2) := dk_18 251 (dk_at dksX0_isReading_0 2 rfl rfl)
theorem dX0_isReading_4 : decode cX0_isReading 4 = .ok (.invokestatic 109, 3) := dk_184 0 109 (dk_at dksX0_isReading_0 4 rfl rfl)
theorem dX0_isReading_7 : decode cX0_isReading 7 = .ok (.ireturn, 1) := dk_172 (dk_at dksX0_isReading_0 7 rfl rfl)
abbrev cX0_guess : ByteArray := prog_1_method_41_code
def yX0_guess : MethodName := ⟨RX0, "guess", "(III)I"⟩
def dkwX0_guess_1 : List UInt8 := [182, 0, 120, 27, 28, 29, 182, 1, 18, 167, 0, 5, 18, 3, 172]
abbrev dktX0_guess_1 : List UInt8 := dkwX0_guess_1 ++ []
def dkwX0_guess_0 : List UInt8 := [27, 184, 0, 255, 153, 0, 30, 28, 184, 0, 223, 153, 0, 23, 29, 184, 1, 15, 153, 0, 16, 42]
abbrev dktX0_guess_0 : List UInt8 := dkwX0_guess_0 ++ dktX0_guess_1
theorem dksX0_guess_0 : cX0_guess.data.toList.drop 0 = dktX0_guess_0 := by decide +kernel
theorem dksX0_guess_1 : cX0_guess.data.toList.drop 22 = dktX0_guess_1 := dk_seg dksX0_guess_0 22 rfl rfl
theorem dX0_guess_0 : decode cX0_guess 0 = .ok (.iload_n 1, 1) := dk_27 (dk_at dksX0_guess_0 0 rfl rfl)
theorem dX0_guess_1 : decode cX0_guess 1 = .ok (.invokestatic 255, 3) := dk_184 0 255 (dk_at dksX0_guess_0 1 rfl rfl)
theorem dX0_guess_4 : decode cX0_guess 4 = .ok (.ifCond .eq 30, 3) := dk_153 0 30 (dk_at dksX0_guess_0 4 rfl rfl)
theorem dX0_guess_7 : decode cX0_guess 7 = .ok (.iload_n 2, 1) := dk_28 (dk_at dksX0_guess_0 7 rfl rfl)
theorem dX0_guess_8 : decode cX0_guess 8 = .ok (.invokestatic 223, 3) := dk_184 0 223 (dk_at dksX0_guess_0 8 rfl rfl)
theorem dX0_guess_11 : decode cX0_guess 11 = .ok (.ifCond .eq 23, 3) := dk_153 0 23 (dk_at dksX0_guess_0 11 rfl rfl)
theorem dX0_guess_14 : decode cX0_guess 14 = .ok (.iload_n 3, 1) := dk_29 (dk_at dksX0_guess_0 14 rfl rfl)
theorem dX0_guess_15 : decode cX0_guess 15 = .ok (.invokestatic 271, 3) := dk_184 1 15 (dk_at dksX0_guess_0 15 rfl rfl)
theorem dX0_guess_18 : decode cX0_guess 18 = .ok (.ifCond .eq 16, 3) := dk_153 0 16 (dk_at dksX0_guess_0 18 rfl rfl)
theorem dX0_guess_21 : decode cX0_guess 21 = .ok (.aload_n 0, 1) := dk_42 (dk_at dksX0_guess_0 21 rfl rfl)
theorem dX0_guess_22 : decode cX0_guess 22 = .ok (.invokevirtual 120, 3) := dk_182 0 120 (dk_at dksX0_guess_1 0 rfl rfl)
theorem dX0_guess_25 : decode cX0_guess 25 = .ok (.iload_n 1, 1) := dk_27 (dk_at dksX0_guess_1 3 rfl rfl)
theorem dX0_guess_26 : decode cX0_guess 26 = .ok (.iload_n 2, 1) := dk_28 (dk_at dksX0_guess_1 4 rfl rfl)
theorem dX0_guess_27 : decode cX0_guess 27 = .ok (.iload_n 3, 1) := dk_29 (dk_at dksX0_guess_1 5 rfl rfl)
theorem dX0_guess_28 : decode cX0_guess 28 = .ok (.invokevirtual 274, 3) := dk_182 1 18 (dk_at dksX0_guess_1 6 rfl rfl)
theorem dX0_guess_31 : decode cX0_guess 31 = .ok (.goto 5, 3) := dk_167 0 5 (dk_at dksX0_guess_1 9 rfl rfl)
theorem dX0_guess_34 : decode cX0_guess 34 = .ok (.ldc 3, 2) := dk_18 3 (dk_at dksX0_guess_1 12 rfl rfl)
theorem dX0_guess_36 : decode cX0_guess 36 = .ok (.ireturn, 1) := dk_172 (dk_at dksX0_guess_1 14 rfl rfl)
abbrev cX0_isRule : ByteArray := prog_1_method_40_code
def yX0_isRule : MethodName := ⟨RX0, "isRule", "(I)Z"⟩
def dkwX0_isRule_0 : List UInt8 := [26, 3, 6, 184, 0, 109, 172]
abbrev dktX0_isRule_0 : List UInt8 := dkwX0_isRule_0 ++ []
theorem dksX0_isRule_0 : cX0_isRule.data.toList.drop 0 = dktX0_isRule_0 := by decide +kernel
theorem dX0_isRule_0 : decode cX0_isRule 0 = .ok (.iload_n 0, 1) := dk_26 (dk_at dksX0_isRule_0 0 rfl rfl)
theorem dX0_isRule_1 : decode cX0_isRule 1 = .ok (.iconst 0, 1) := dk_3 (dk_at dksX0_isRule_0 1 rfl rfl)
theorem dX0_isRule_2 : decode cX0_isRule 2 = .ok (.iconst 3, 1) := dk_6 (dk_at dksX0_isRule_0 2 rfl rfl)
theorem dX0_isRule_3 : decode cX0_isRule 3 = .ok (.invokestatic 109, 3) := dk_184 0 109 (dk_at dksX0_isRule_0 3 rfl rfl)
theorem dX0_isRule_6 : decode cX0_isRule 6 = .ok (.ireturn, 1) := dk_172 (dk_at dksX0_isRule_0 6 rfl rfl)
abbrev cX0_apartUpTo : ByteArray := prog_1_method_42_code
def yX0_apartUpTo : MethodName := ⟨RX0, "apartUpTo", "(I)I"⟩
def dkwX0_apartUpTo_1 : List UInt8 := [182, 1, 22, 167, 0, 5, 18, 3, 172]
abbrev dktX0_apartUpTo_1 : List UInt8 := dkwX0_apartUpTo_1 ++ []
def dkwX0_apartUpTo_0 : List UInt8 := [27, 184, 0, 223, 153, 0, 24, 42, 182, 0, 120, 27, 42, 182, 0, 120, 180, 0, 196, 17, 3, 231]
abbrev dktX0_apartUpTo_0 : List UInt8 := dkwX0_apartUpTo_0 ++ dktX0_apartUpTo_1
theorem dksX0_apartUpTo_0 : cX0_apartUpTo.data.toList.drop 0 = dktX0_apartUpTo_0 := by decide +kernel
theorem dksX0_apartUpTo_1 : cX0_apartUpTo.data.toList.drop 22 = dktX0_apartUpTo_1 := dk_seg dksX0_apartUpTo_0 22 rfl rfl
theorem dX0_apartUpTo_0 : decode cX0_apartUpTo 0 = .ok (.iload_n 1, 1) := dk_27 (dk_at dksX0_apartUpTo_0 0 rfl rfl)
theorem dX0_apartUpTo_1 : decode cX0_apartUpTo 1 = .ok (.invokestatic 223, 3) := dk_184 0 223 (dk_at dksX0_apartUpTo_0 1 rfl rfl)
theorem dX0_apartUpTo_4 : decode cX0_apartUpTo 4 = .ok (.ifCond .eq 24, 3) := dk_153 0 24 (dk_at dksX0_apartUpTo_0 4 rfl rfl)
theorem dX0_apartUpTo_7 : decode cX0_apartUpTo 7 = .ok (.aload_n 0, 1) := dk_42 (dk_at dksX0_apartUpTo_0 7 rfl rfl)
theorem dX0_apartUpTo_8 : decode cX0_apartUpTo 8 = .ok (.invokevirtual 120, 3) := dk_182 0 120 (dk_at dksX0_apartUpTo_0 8 rfl rfl)
theorem dX0_apartUpTo_11 : decode cX0_apartUpTo 11 = .ok (.iload_n 1, 1) := dk_27 (dk_at dksX0_apartUpTo_0 11 rfl rfl)
theorem dX0_apartUpTo_12 : decode cX0_apartUpTo 12 = .ok (.aload_n 0, 1) := dk_42 (dk_at dksX0_apartUpTo_0 12 rfl rfl)
theorem dX0_apartUpTo_13 : decode cX0_apartUpTo 13 = .ok (.invokevirtual 120, 3) := dk_182 0 120 (dk_at dksX0_apartUpTo_0 13 rfl rfl)
theorem dX0_apartUpTo_16 : decode cX0_apartUpTo 16 = .ok (.getfield 196, 3) := dk_180 0 196 (dk_at dksX0_apartUpTo_0 16 rfl rfl)
theorem dX0_apartUpTo_19 : decode cX0_apartUpTo 19 = .ok (.sipush 999, 3) := dk_17 3 231 (dk_at dksX0_apartUpTo_0 19 rfl rfl)
theorem dX0_apartUpTo_22 : decode cX0_apartUpTo 22 = .ok (.invokevirtual 278, 3) := dk_182 1 22 (dk_at dksX0_apartUpTo_1 0 rfl rfl)
theorem dX0_apartUpTo_25 : decode cX0_apartUpTo 25 = .ok (.goto 5, 3) := dk_167 0 5 (dk_at dksX0_apartUpTo_1 3 rfl rfl)
theorem dX0_apartUpTo_28 : decode cX0_apartUpTo 28 = .ok (.ldc 3, 2) := dk_18 3 (dk_at dksX0_apartUpTo_1 6 rfl rfl)
theorem dX0_apartUpTo_30 : decode cX0_apartUpTo 30 = .ok (.ireturn, 1) := dk_172 (dk_at dksX0_apartUpTo_1 8 rfl rfl)
abbrev cX0_bestStep : ByteArray := prog_1_method_43_code
def yX0_bestStep : MethodName := ⟨RX0, "bestStep", "(II)I"⟩
def dkwX0_bestStep_2 : List UInt8 := [167, 255, 233, 18, 163, 172]
abbrev dktX0_bestStep_2 : List UInt8 := dkwX0_bestStep_2 ++ []
def dkwX0_bestStep_1 : List UInt8 := [29, 158, 0, 25, 42, 182, 0, 120, 27, 29, 28, 182, 1, 22, 28, 160, 0, 5, 29, 172, 132, 3, 255]
abbrev dktX0_bestStep_1 : List UInt8 := dkwX0_bestStep_1 ++ dktX0_bestStep_2
def dkwX0_bestStep_0 : List UInt8 := [27, 184, 0, 223, 153, 0, 13, 28, 3, 16, 99, 184, 0, 109, 154, 0, 6, 18, 3, 172, 17, 3, 232, 62]
abbrev dktX0_bestStep_0 : List UInt8 := dkwX0_bestStep_0 ++ dktX0_bestStep_1
theorem dksX0_bestStep_0 : cX0_bestStep.data.toList.drop 0 = dktX0_bestStep_0 := by decide +kernel
theorem dksX0_bestStep_1 : cX0_bestStep.data.toList.drop 24 = dktX0_bestStep_1 := dk_seg dksX0_bestStep_0 24 rfl rfl
theorem dksX0_bestStep_2 : cX0_bestStep.data.toList.drop 47 = dktX0_bestStep_2 := dk_seg dksX0_bestStep_1 23 rfl rfl
theorem dX0_bestStep_0 : decode cX0_bestStep 0 = .ok (.iload_n 1, 1) := dk_27 (dk_at dksX0_bestStep_0 0 rfl rfl)
theorem dX0_bestStep_1 : decode cX0_bestStep 1 = .ok (.invokestatic 223, 3) := dk_184 0 223 (dk_at dksX0_bestStep_0 1 rfl rfl)
theorem dX0_bestStep_4 : decode cX0_bestStep 4 = .ok (.ifCond .eq 13, 3) := dk_153 0 13 (dk_at dksX0_bestStep_0 4 rfl rfl)
theorem dX0_bestStep_7 : decode cX0_bestStep 7 = .ok (.iload_n 2, 1) := dk_28 (dk_at dksX0_bestStep_0 7 rfl rfl)
theorem dX0_bestStep_8 : decode cX0_bestStep 8 = .ok (.iconst 0, 1) := dk_3 (dk_at dksX0_bestStep_0 8 rfl rfl)
theorem dX0_bestStep_9 : decode cX0_bestStep 9 = .ok (.bipush 99, 2) := dk_16 99 (dk_at dksX0_bestStep_0 9 rfl rfl)
theorem dX0_bestStep_11 : decode cX0_bestStep 11 = .ok (.invokestatic 109, 3) := dk_184 0 109 (dk_at dksX0_bestStep_0 11 rfl rfl)
theorem dX0_bestStep_14 : decode cX0_bestStep 14 = .ok (.ifCond .ne 6, 3) := dk_154 0 6 (dk_at dksX0_bestStep_0 14 rfl rfl)
theorem dX0_bestStep_17 : decode cX0_bestStep 17 = .ok (.ldc 3, 2) := dk_18 3 (dk_at dksX0_bestStep_0 17 rfl rfl)
theorem dX0_bestStep_19 : decode cX0_bestStep 19 = .ok (.ireturn, 1) := dk_172 (dk_at dksX0_bestStep_0 19 rfl rfl)
theorem dX0_bestStep_20 : decode cX0_bestStep 20 = .ok (.sipush 1000, 3) := dk_17 3 232 (dk_at dksX0_bestStep_0 20 rfl rfl)
theorem dX0_bestStep_23 : decode cX0_bestStep 23 = .ok (.istore_n 3, 1) := dk_62 (dk_at dksX0_bestStep_0 23 rfl rfl)
theorem dX0_bestStep_24 : decode cX0_bestStep 24 = .ok (.iload_n 3, 1) := dk_29 (dk_at dksX0_bestStep_1 0 rfl rfl)
theorem dX0_bestStep_25 : decode cX0_bestStep 25 = .ok (.ifCond .le 25, 3) := dk_158 0 25 (dk_at dksX0_bestStep_1 1 rfl rfl)
theorem dX0_bestStep_28 : decode cX0_bestStep 28 = .ok (.aload_n 0, 1) := dk_42 (dk_at dksX0_bestStep_1 4 rfl rfl)
theorem dX0_bestStep_29 : decode cX0_bestStep 29 = .ok (.invokevirtual 120, 3) := dk_182 0 120 (dk_at dksX0_bestStep_1 5 rfl rfl)
theorem dX0_bestStep_32 : decode cX0_bestStep 32 = .ok (.iload_n 1, 1) := dk_27 (dk_at dksX0_bestStep_1 8 rfl rfl)
theorem dX0_bestStep_33 : decode cX0_bestStep 33 = .ok (.iload_n 3, 1) := dk_29 (dk_at dksX0_bestStep_1 9 rfl rfl)
theorem dX0_bestStep_34 : decode cX0_bestStep 34 = .ok (.iload_n 2, 1) := dk_28 (dk_at dksX0_bestStep_1 10 rfl rfl)
theorem dX0_bestStep_35 : decode cX0_bestStep 35 = .ok (.invokevirtual 278, 3) := dk_182 1 22 (dk_at dksX0_bestStep_1 11 rfl rfl)
theorem dX0_bestStep_38 : decode cX0_bestStep 38 = .ok (.iload_n 2, 1) := dk_28 (dk_at dksX0_bestStep_1 14 rfl rfl)
theorem dX0_bestStep_39 : decode cX0_bestStep 39 = .ok (.if_icmp .ne 5, 3) := dk_160 0 5 (dk_at dksX0_bestStep_1 15 rfl rfl)
theorem dX0_bestStep_42 : decode cX0_bestStep 42 = .ok (.iload_n 3, 1) := dk_29 (dk_at dksX0_bestStep_1 18 rfl rfl)
theorem dX0_bestStep_43 : decode cX0_bestStep 43 = .ok (.ireturn, 1) := dk_172 (dk_at dksX0_bestStep_1 19 rfl rfl)
theorem dX0_bestStep_44 : decode cX0_bestStep 44 = .ok (.iinc 3 (-1), 3) := dk_132 3 255 (dk_at dksX0_bestStep_1 20 rfl rfl)
theorem dX0_bestStep_47 : decode cX0_bestStep 47 = .ok (.goto (-23), 3) := dk_167 255 233 (dk_at dksX0_bestStep_2 0 rfl rfl)
theorem dX0_bestStep_50 : decode cX0_bestStep 50 = .ok (.ldc 163, 2) := dk_18 163 (dk_at dksX0_bestStep_2 3 rfl rfl)
theorem dX0_bestStep_52 : decode cX0_bestStep 52 = .ok (.ireturn, 1) := dk_172 (dk_at dksX0_bestStep_2 5 rfl rfl)
abbrev cX0_mixed : ByteArray := prog_1_method_44_code
def yX0_mixed : MethodName := ⟨RX0, "mixed", "(IIII)I"⟩
def dkwX0_mixed_8 : List UInt8 := [132, 7, 1, 167, 255, 136, 25, 6, 21, 4, 46, 172]
abbrev dktX0_mixed_8 : List UInt8 := dkwX0_mixed_8 ++ []
def dkwX0_mixed_7 : List UInt8 := [21, 7, 167, 0, 7, 25, 6, 4, 46, 79, 25, 6, 5, 21, 7, 79, 132, 8, 1, 167, 255, 152]
abbrev dktX0_mixed_7 : List UInt8 := dkwX0_mixed_7 ++ dktX0_mixed_8
def dkwX0_mixed_6 : List UInt8 := [153, 0, 39, 25, 6, 3, 92, 46, 4, 96, 79, 25, 6, 4, 25, 6, 4, 46, 18, 163, 160, 0, 8]
abbrev dktX0_mixed_6 : List UInt8 := dkwX0_mixed_6 ++ dktX0_mixed_7
def dkwX0_mixed_5 : List UInt8 := [25, 5, 180, 0, 229, 27, 46, 104, 21, 9, 25, 5, 180, 0, 229, 28, 46, 104, 96, 29, 182, 1, 25]
abbrev dktX0_mixed_5 : List UInt8 := dkwX0_mixed_5 ++ dktX0_mixed_6
def dkwX0_mixed_4 : List UInt8 := [21, 8, 25, 5, 180, 0, 226, 27, 46, 104, 21, 9, 25, 5, 180, 0, 226, 28, 46, 104, 96, 21, 8]
abbrev dktX0_mixed_4 : List UInt8 := dkwX0_mixed_4 ++ dktX0_mixed_5
def dkwX0_mixed_3 : List UInt8 := [16, 60, 163, 0, 119, 3, 54, 8, 21, 8, 21, 7, 163, 0, 103, 21, 7, 21, 8, 100, 54, 9, 25, 5]
abbrev dktX0_mixed_3 : List UInt8 := dkwX0_mixed_3 ++ dktX0_mixed_4
def dkwX0_mixed_2 : List UInt8 := [188, 10, 89, 3, 3, 79, 89, 4, 18, 163, 79, 89, 5, 18, 163, 79, 58, 6, 3, 54, 7, 21, 7]
abbrev dktX0_mixed_2 : List UInt8 := dkwX0_mixed_2 ++ dktX0_mixed_3
def dkwX0_mixed_1 : List UInt8 := [153, 0, 13, 21, 4, 3, 5, 184, 0, 109, 154, 0, 6, 18, 3, 172, 42, 182, 0, 120, 58, 5, 6]
abbrev dktX0_mixed_1 : List UInt8 := dkwX0_mixed_1 ++ dktX0_mixed_2
def dkwX0_mixed_0 : List UInt8 := [27, 184, 0, 223, 153, 0, 32, 28, 184, 0, 223, 153, 0, 25, 27, 28, 159, 0, 20, 29, 184, 0, 255]
abbrev dktX0_mixed_0 : List UInt8 := dkwX0_mixed_0 ++ dktX0_mixed_1
theorem dksX0_mixed_0 : cX0_mixed.data.toList.drop 0 = dktX0_mixed_0 := by decide +kernel
theorem dksX0_mixed_1 : cX0_mixed.data.toList.drop 23 = dktX0_mixed_1 := dk_seg dksX0_mixed_0 23 rfl rfl
theorem dksX0_mixed_2 : cX0_mixed.data.toList.drop 46 = dktX0_mixed_2 := dk_seg dksX0_mixed_1 23 rfl rfl
theorem dksX0_mixed_3 : cX0_mixed.data.toList.drop 69 = dktX0_mixed_3 := dk_seg dksX0_mixed_2 23 rfl rfl
theorem dksX0_mixed_4 : cX0_mixed.data.toList.drop 93 = dktX0_mixed_4 := dk_seg dksX0_mixed_3 24 rfl rfl
theorem dksX0_mixed_5 : cX0_mixed.data.toList.drop 116 = dktX0_mixed_5 := dk_seg dksX0_mixed_4 23 rfl rfl
theorem dksX0_mixed_6 : cX0_mixed.data.toList.drop 139 = dktX0_mixed_6 := dk_seg dksX0_mixed_5 23 rfl rfl
theorem dksX0_mixed_7 : cX0_mixed.data.toList.drop 162 = dktX0_mixed_7 := dk_seg dksX0_mixed_6 23 rfl rfl
theorem dksX0_mixed_8 : cX0_mixed.data.toList.drop 184 = dktX0_mixed_8 := dk_seg dksX0_mixed_7 22 rfl rfl
theorem dX0_mixed_0 : decode cX0_mixed 0 = .ok (.iload_n 1, 1) := dk_27 (dk_at dksX0_mixed_0 0 rfl rfl)
theorem dX0_mixed_1 : decode cX0_mixed 1 = .ok (.invokestatic 223, 3) := dk_184 0 223 (dk_at dksX0_mixed_0 1 rfl rfl)
theorem dX0_mixed_4 : decode cX0_mixed 4 = .ok (.ifCond .eq 32, 3) := dk_153 0 32 (dk_at dksX0_mixed_0 4 rfl rfl)
theorem dX0_mixed_7 : decode cX0_mixed 7 = .ok (.iload_n 2, 1) := dk_28 (dk_at dksX0_mixed_0 7 rfl rfl)
theorem dX0_mixed_8 : decode cX0_mixed 8 = .ok (.invokestatic 223, 3) := dk_184 0 223 (dk_at dksX0_mixed_0 8 rfl rfl)
theorem dX0_mixed_11 : decode cX0_mixed 11 = .ok (.ifCond .eq 25, 3) := dk_153 0 25 (dk_at dksX0_mixed_0 11 rfl rfl)
theorem dX0_mixed_14 : decode cX0_mixed 14 = .ok (.iload_n 1, 1) := dk_27 (dk_at dksX0_mixed_0 14 rfl rfl)
theorem dX0_mixed_15 : decode cX0_mixed 15 = .ok (.iload_n 2, 1) := dk_28 (dk_at dksX0_mixed_0 15 rfl rfl)
theorem dX0_mixed_16 : decode cX0_mixed 16 = .ok (.if_icmp .eq 20, 3) := dk_159 0 20 (dk_at dksX0_mixed_0 16 rfl rfl)
theorem dX0_mixed_19 : decode cX0_mixed 19 = .ok (.iload_n 3, 1) := dk_29 (dk_at dksX0_mixed_0 19 rfl rfl)
theorem dX0_mixed_20 : decode cX0_mixed 20 = .ok (.invokestatic 255, 3) := dk_184 0 255 (dk_at dksX0_mixed_0 20 rfl rfl)
theorem dX0_mixed_23 : decode cX0_mixed 23 = .ok (.ifCond .eq 13, 3) := dk_153 0 13 (dk_at dksX0_mixed_1 0 rfl rfl)
theorem dX0_mixed_26 : decode cX0_mixed 26 = .ok (.iload 4, 2) := dk_21 4 (dk_at dksX0_mixed_1 3 rfl rfl)
theorem dX0_mixed_28 : decode cX0_mixed 28 = .ok (.iconst 0, 1) := dk_3 (dk_at dksX0_mixed_1 5 rfl rfl)
theorem dX0_mixed_29 : decode cX0_mixed 29 = .ok (.iconst 2, 1) := dk_5 (dk_at dksX0_mixed_1 6 rfl rfl)
theorem dX0_mixed_30 : decode cX0_mixed 30 = .ok (.invokestatic 109, 3) := dk_184 0 109 (dk_at dksX0_mixed_1 7 rfl rfl)
theorem dX0_mixed_33 : decode cX0_mixed 33 = .ok (.ifCond .ne 6, 3) := dk_154 0 6 (dk_at dksX0_mixed_1 10 rfl rfl)
theorem dX0_mixed_36 : decode cX0_mixed 36 = .ok (.ldc 3, 2) := dk_18 3 (dk_at dksX0_mixed_1 13 rfl rfl)
theorem dX0_mixed_38 : decode cX0_mixed 38 = .ok (.ireturn, 1) := dk_172 (dk_at dksX0_mixed_1 15 rfl rfl)
theorem dX0_mixed_39 : decode cX0_mixed 39 = .ok (.aload_n 0, 1) := dk_42 (dk_at dksX0_mixed_1 16 rfl rfl)
theorem dX0_mixed_40 : decode cX0_mixed 40 = .ok (.invokevirtual 120, 3) := dk_182 0 120 (dk_at dksX0_mixed_1 17 rfl rfl)
theorem dX0_mixed_43 : decode cX0_mixed 43 = .ok (.astore 5, 2) := dk_58 5 (dk_at dksX0_mixed_1 20 rfl rfl)
theorem dX0_mixed_45 : decode cX0_mixed 45 = .ok (.iconst 3, 1) := dk_6 (dk_at dksX0_mixed_1 22 rfl rfl)
theorem dX0_mixed_46 : decode cX0_mixed 46 = .ok (.newarray .int, 2) := dk_188_10 (dk_at dksX0_mixed_2 0 rfl rfl)
theorem dX0_mixed_48 : decode cX0_mixed 48 = .ok (.dup, 1) := dk_89 (dk_at dksX0_mixed_2 2 rfl rfl)
theorem dX0_mixed_49 : decode cX0_mixed 49 = .ok (.iconst 0, 1) := dk_3 (dk_at dksX0_mixed_2 3 rfl rfl)
theorem dX0_mixed_50 : decode cX0_mixed 50 = .ok (.iconst 0, 1) := dk_3 (dk_at dksX0_mixed_2 4 rfl rfl)
theorem dX0_mixed_51 : decode cX0_mixed 51 = .ok (.iastore, 1) := dk_79 (dk_at dksX0_mixed_2 5 rfl rfl)
theorem dX0_mixed_52 : decode cX0_mixed 52 = .ok (.dup, 1) := dk_89 (dk_at dksX0_mixed_2 6 rfl rfl)
theorem dX0_mixed_53 : decode cX0_mixed 53 = .ok (.iconst 1, 1) := dk_4 (dk_at dksX0_mixed_2 7 rfl rfl)
theorem dX0_mixed_54 : decode cX0_mixed 54 = .ok (.ldc 163, 2) := dk_18 163 (dk_at dksX0_mixed_2 8 rfl rfl)
theorem dX0_mixed_56 : decode cX0_mixed 56 = .ok (.iastore, 1) := dk_79 (dk_at dksX0_mixed_2 10 rfl rfl)
theorem dX0_mixed_57 : decode cX0_mixed 57 = .ok (.dup, 1) := dk_89 (dk_at dksX0_mixed_2 11 rfl rfl)
theorem dX0_mixed_58 : decode cX0_mixed 58 = .ok (.iconst 2, 1) := dk_5 (dk_at dksX0_mixed_2 12 rfl rfl)
theorem dX0_mixed_59 : decode cX0_mixed 59 = .ok (.ldc 163, 2) := dk_18 163 (dk_at dksX0_mixed_2 13 rfl rfl)
theorem dX0_mixed_61 : decode cX0_mixed 61 = .ok (.iastore, 1) := dk_79 (dk_at dksX0_mixed_2 15 rfl rfl)
theorem dX0_mixed_62 : decode cX0_mixed 62 = .ok (.astore 6, 2) := dk_58 6 (dk_at dksX0_mixed_2 16 rfl rfl)
theorem dX0_mixed_64 : decode cX0_mixed 64 = .ok (.iconst 0, 1) := dk_3 (dk_at dksX0_mixed_2 18 rfl rfl)
theorem dX0_mixed_65 : decode cX0_mixed 65 = .ok (.istore 7, 2) := dk_54 7 (dk_at dksX0_mixed_2 19 rfl rfl)
theorem dX0_mixed_67 : decode cX0_mixed 67 = .ok (.iload 7, 2) := dk_21 7 (dk_at dksX0_mixed_2 21 rfl rfl)
theorem dX0_mixed_69 : decode cX0_mixed 69 = .ok (.bipush 60, 2) := dk_16 60 (dk_at dksX0_mixed_3 0 rfl rfl)
theorem dX0_mixed_71 : decode cX0_mixed 71 = .ok (.if_icmp .gt 119, 3) := dk_163 0 119 (dk_at dksX0_mixed_3 2 rfl rfl)
theorem dX0_mixed_74 : decode cX0_mixed 74 = .ok (.iconst 0, 1) := dk_3 (dk_at dksX0_mixed_3 5 rfl rfl)
theorem dX0_mixed_75 : decode cX0_mixed 75 = .ok (.istore 8, 2) := dk_54 8 (dk_at dksX0_mixed_3 6 rfl rfl)
theorem dX0_mixed_77 : decode cX0_mixed 77 = .ok (.iload 8, 2) := dk_21 8 (dk_at dksX0_mixed_3 8 rfl rfl)
theorem dX0_mixed_79 : decode cX0_mixed 79 = .ok (.iload 7, 2) := dk_21 7 (dk_at dksX0_mixed_3 10 rfl rfl)
theorem dX0_mixed_81 : decode cX0_mixed 81 = .ok (.if_icmp .gt 103, 3) := dk_163 0 103 (dk_at dksX0_mixed_3 12 rfl rfl)
theorem dX0_mixed_84 : decode cX0_mixed 84 = .ok (.iload 7, 2) := dk_21 7 (dk_at dksX0_mixed_3 15 rfl rfl)
theorem dX0_mixed_86 : decode cX0_mixed 86 = .ok (.iload 8, 2) := dk_21 8 (dk_at dksX0_mixed_3 17 rfl rfl)
theorem dX0_mixed_88 : decode cX0_mixed 88 = .ok (.isub, 1) := dk_100 (dk_at dksX0_mixed_3 19 rfl rfl)
theorem dX0_mixed_89 : decode cX0_mixed 89 = .ok (.istore 9, 2) := dk_54 9 (dk_at dksX0_mixed_3 20 rfl rfl)
theorem dX0_mixed_91 : decode cX0_mixed 91 = .ok (.aload 5, 2) := dk_25 5 (dk_at dksX0_mixed_3 22 rfl rfl)
theorem dX0_mixed_93 : decode cX0_mixed 93 = .ok (.iload 8, 2) := dk_21 8 (dk_at dksX0_mixed_4 0 rfl rfl)
theorem dX0_mixed_95 : decode cX0_mixed 95 = .ok (.aload 5, 2) := dk_25 5 (dk_at dksX0_mixed_4 2 rfl rfl)
theorem dX0_mixed_97 : decode cX0_mixed 97 = .ok (.getfield 226, 3) := dk_180 0 226 (dk_at dksX0_mixed_4 4 rfl rfl)
theorem dX0_mixed_100 : decode cX0_mixed 100 = .ok (.iload_n 1, 1) := dk_27 (dk_at dksX0_mixed_4 7 rfl rfl)
theorem dX0_mixed_101 : decode cX0_mixed 101 = .ok (.iaload, 1) := dk_46 (dk_at dksX0_mixed_4 8 rfl rfl)
theorem dX0_mixed_102 : decode cX0_mixed 102 = .ok (.imul, 1) := dk_104 (dk_at dksX0_mixed_4 9 rfl rfl)
theorem dX0_mixed_103 : decode cX0_mixed 103 = .ok (.iload 9, 2) := dk_21 9 (dk_at dksX0_mixed_4 10 rfl rfl)
theorem dX0_mixed_105 : decode cX0_mixed 105 = .ok (.aload 5, 2) := dk_25 5 (dk_at dksX0_mixed_4 12 rfl rfl)
theorem dX0_mixed_107 : decode cX0_mixed 107 = .ok (.getfield 226, 3) := dk_180 0 226 (dk_at dksX0_mixed_4 14 rfl rfl)
theorem dX0_mixed_110 : decode cX0_mixed 110 = .ok (.iload_n 2, 1) := dk_28 (dk_at dksX0_mixed_4 17 rfl rfl)
theorem dX0_mixed_111 : decode cX0_mixed 111 = .ok (.iaload, 1) := dk_46 (dk_at dksX0_mixed_4 18 rfl rfl)
theorem dX0_mixed_112 : decode cX0_mixed 112 = .ok (.imul, 1) := dk_104 (dk_at dksX0_mixed_4 19 rfl rfl)
theorem dX0_mixed_113 : decode cX0_mixed 113 = .ok (.iadd, 1) := dk_96 (dk_at dksX0_mixed_4 20 rfl rfl)
theorem dX0_mixed_114 : decode cX0_mixed 114 = .ok (.iload 8, 2) := dk_21 8 (dk_at dksX0_mixed_4 21 rfl rfl)
theorem dX0_mixed_116 : decode cX0_mixed 116 = .ok (.aload 5, 2) := dk_25 5 (dk_at dksX0_mixed_5 0 rfl rfl)
theorem dX0_mixed_118 : decode cX0_mixed 118 = .ok (.getfield 229, 3) := dk_180 0 229 (dk_at dksX0_mixed_5 2 rfl rfl)
theorem dX0_mixed_121 : decode cX0_mixed 121 = .ok (.iload_n 1, 1) := dk_27 (dk_at dksX0_mixed_5 5 rfl rfl)
theorem dX0_mixed_122 : decode cX0_mixed 122 = .ok (.iaload, 1) := dk_46 (dk_at dksX0_mixed_5 6 rfl rfl)
theorem dX0_mixed_123 : decode cX0_mixed 123 = .ok (.imul, 1) := dk_104 (dk_at dksX0_mixed_5 7 rfl rfl)
theorem dX0_mixed_124 : decode cX0_mixed 124 = .ok (.iload 9, 2) := dk_21 9 (dk_at dksX0_mixed_5 8 rfl rfl)
theorem dX0_mixed_126 : decode cX0_mixed 126 = .ok (.aload 5, 2) := dk_25 5 (dk_at dksX0_mixed_5 10 rfl rfl)
theorem dX0_mixed_128 : decode cX0_mixed 128 = .ok (.getfield 229, 3) := dk_180 0 229 (dk_at dksX0_mixed_5 12 rfl rfl)
theorem dX0_mixed_131 : decode cX0_mixed 131 = .ok (.iload_n 2, 1) := dk_28 (dk_at dksX0_mixed_5 15 rfl rfl)
theorem dX0_mixed_132 : decode cX0_mixed 132 = .ok (.iaload, 1) := dk_46 (dk_at dksX0_mixed_5 16 rfl rfl)
theorem dX0_mixed_133 : decode cX0_mixed 133 = .ok (.imul, 1) := dk_104 (dk_at dksX0_mixed_5 17 rfl rfl)
theorem dX0_mixed_134 : decode cX0_mixed 134 = .ok (.iadd, 1) := dk_96 (dk_at dksX0_mixed_5 18 rfl rfl)
theorem dX0_mixed_135 : decode cX0_mixed 135 = .ok (.iload_n 3, 1) := dk_29 (dk_at dksX0_mixed_5 19 rfl rfl)
theorem dX0_mixed_136 : decode cX0_mixed 136 = .ok (.invokevirtual 281, 3) := dk_182 1 25 (dk_at dksX0_mixed_5 20 rfl rfl)
theorem dX0_mixed_139 : decode cX0_mixed 139 = .ok (.ifCond .eq 39, 3) := dk_153 0 39 (dk_at dksX0_mixed_6 0 rfl rfl)
theorem dX0_mixed_142 : decode cX0_mixed 142 = .ok (.aload 6, 2) := dk_25 6 (dk_at dksX0_mixed_6 3 rfl rfl)
theorem dX0_mixed_144 : decode cX0_mixed 144 = .ok (.iconst 0, 1) := dk_3 (dk_at dksX0_mixed_6 5 rfl rfl)
theorem dX0_mixed_145 : decode cX0_mixed 145 = .ok (.dup2, 1) := dk_92 (dk_at dksX0_mixed_6 6 rfl rfl)
theorem dX0_mixed_146 : decode cX0_mixed 146 = .ok (.iaload, 1) := dk_46 (dk_at dksX0_mixed_6 7 rfl rfl)
theorem dX0_mixed_147 : decode cX0_mixed 147 = .ok (.iconst 1, 1) := dk_4 (dk_at dksX0_mixed_6 8 rfl rfl)
theorem dX0_mixed_148 : decode cX0_mixed 148 = .ok (.iadd, 1) := dk_96 (dk_at dksX0_mixed_6 9 rfl rfl)
theorem dX0_mixed_149 : decode cX0_mixed 149 = .ok (.iastore, 1) := dk_79 (dk_at dksX0_mixed_6 10 rfl rfl)
theorem dX0_mixed_150 : decode cX0_mixed 150 = .ok (.aload 6, 2) := dk_25 6 (dk_at dksX0_mixed_6 11 rfl rfl)
theorem dX0_mixed_152 : decode cX0_mixed 152 = .ok (.iconst 1, 1) := dk_4 (dk_at dksX0_mixed_6 13 rfl rfl)
theorem dX0_mixed_153 : decode cX0_mixed 153 = .ok (.aload 6, 2) := dk_25 6 (dk_at dksX0_mixed_6 14 rfl rfl)
theorem dX0_mixed_155 : decode cX0_mixed 155 = .ok (.iconst 1, 1) := dk_4 (dk_at dksX0_mixed_6 16 rfl rfl)
theorem dX0_mixed_156 : decode cX0_mixed 156 = .ok (.iaload, 1) := dk_46 (dk_at dksX0_mixed_6 17 rfl rfl)
theorem dX0_mixed_157 : decode cX0_mixed 157 = .ok (.ldc 163, 2) := dk_18 163 (dk_at dksX0_mixed_6 18 rfl rfl)
theorem dX0_mixed_159 : decode cX0_mixed 159 = .ok (.if_icmp .ne 8, 3) := dk_160 0 8 (dk_at dksX0_mixed_6 20 rfl rfl)
theorem dX0_mixed_162 : decode cX0_mixed 162 = .ok (.iload 7, 2) := dk_21 7 (dk_at dksX0_mixed_7 0 rfl rfl)
theorem dX0_mixed_164 : decode cX0_mixed 164 = .ok (.goto 7, 3) := dk_167 0 7 (dk_at dksX0_mixed_7 2 rfl rfl)
theorem dX0_mixed_167 : decode cX0_mixed 167 = .ok (.aload 6, 2) := dk_25 6 (dk_at dksX0_mixed_7 5 rfl rfl)
theorem dX0_mixed_169 : decode cX0_mixed 169 = .ok (.iconst 1, 1) := dk_4 (dk_at dksX0_mixed_7 7 rfl rfl)
theorem dX0_mixed_170 : decode cX0_mixed 170 = .ok (.iaload, 1) := dk_46 (dk_at dksX0_mixed_7 8 rfl rfl)
theorem dX0_mixed_171 : decode cX0_mixed 171 = .ok (.iastore, 1) := dk_79 (dk_at dksX0_mixed_7 9 rfl rfl)
theorem dX0_mixed_172 : decode cX0_mixed 172 = .ok (.aload 6, 2) := dk_25 6 (dk_at dksX0_mixed_7 10 rfl rfl)
theorem dX0_mixed_174 : decode cX0_mixed 174 = .ok (.iconst 2, 1) := dk_5 (dk_at dksX0_mixed_7 12 rfl rfl)
theorem dX0_mixed_175 : decode cX0_mixed 175 = .ok (.iload 7, 2) := dk_21 7 (dk_at dksX0_mixed_7 13 rfl rfl)
theorem dX0_mixed_177 : decode cX0_mixed 177 = .ok (.iastore, 1) := dk_79 (dk_at dksX0_mixed_7 15 rfl rfl)
theorem dX0_mixed_178 : decode cX0_mixed 178 = .ok (.iinc 8 1, 3) := dk_132 8 1 (dk_at dksX0_mixed_7 16 rfl rfl)
theorem dX0_mixed_181 : decode cX0_mixed 181 = .ok (.goto (-104), 3) := dk_167 255 152 (dk_at dksX0_mixed_7 19 rfl rfl)
theorem dX0_mixed_184 : decode cX0_mixed 184 = .ok (.iinc 7 1, 3) := dk_132 7 1 (dk_at dksX0_mixed_8 0 rfl rfl)
theorem dX0_mixed_187 : decode cX0_mixed 187 = .ok (.goto (-120), 3) := dk_167 255 136 (dk_at dksX0_mixed_8 3 rfl rfl)
theorem dX0_mixed_190 : decode cX0_mixed 190 = .ok (.aload 6, 2) := dk_25 6 (dk_at dksX0_mixed_8 6 rfl rfl)
theorem dX0_mixed_192 : decode cX0_mixed 192 = .ok (.iload 4, 2) := dk_21 4 (dk_at dksX0_mixed_8 8 rfl rfl)
theorem dX0_mixed_194 : decode cX0_mixed 194 = .ok (.iaload, 1) := dk_46 (dk_at dksX0_mixed_8 10 rfl rfl)
theorem dX0_mixed_195 : decode cX0_mixed 195 = .ok (.ireturn, 1) := dk_172 (dk_at dksX0_mixed_8 11 rfl rfl)
abbrev cX0_would : ByteArray := prog_1_method_45_code
def yX0_would : MethodName := ⟨RX0, "would", "(I)I"⟩
def dkwX0_would_1 : List UInt8 := [160, 0, 8, 18, 163, 167, 0, 8, 19, 1, 31, 28, 96, 172]
abbrev dktX0_would_1 : List UInt8 := dkwX0_would_1 ++ []
def dkwX0_would_0 : List UInt8 := [27, 184, 1, 15, 154, 0, 6, 18, 3, 172, 42, 182, 0, 120, 27, 182, 1, 28, 61, 28, 18, 163]
abbrev dktX0_would_0 : List UInt8 := dkwX0_would_0 ++ dktX0_would_1
theorem dksX0_would_0 : cX0_would.data.toList.drop 0 = dktX0_would_0 := by decide +kernel
theorem dksX0_would_1 : cX0_would.data.toList.drop 22 = dktX0_would_1 := dk_seg dksX0_would_0 22 rfl rfl
theorem dX0_would_0 : decode cX0_would 0 = .ok (.iload_n 1, 1) := dk_27 (dk_at dksX0_would_0 0 rfl rfl)
theorem dX0_would_1 : decode cX0_would 1 = .ok (.invokestatic 271, 3) := dk_184 1 15 (dk_at dksX0_would_0 1 rfl rfl)
theorem dX0_would_4 : decode cX0_would 4 = .ok (.ifCond .ne 6, 3) := dk_154 0 6 (dk_at dksX0_would_0 4 rfl rfl)
theorem dX0_would_7 : decode cX0_would 7 = .ok (.ldc 3, 2) := dk_18 3 (dk_at dksX0_would_0 7 rfl rfl)
theorem dX0_would_9 : decode cX0_would 9 = .ok (.ireturn, 1) := dk_172 (dk_at dksX0_would_0 9 rfl rfl)
theorem dX0_would_10 : decode cX0_would 10 = .ok (.aload_n 0, 1) := dk_42 (dk_at dksX0_would_0 10 rfl rfl)
theorem dX0_would_11 : decode cX0_would 11 = .ok (.invokevirtual 120, 3) := dk_182 0 120 (dk_at dksX0_would_0 11 rfl rfl)
theorem dX0_would_14 : decode cX0_would 14 = .ok (.iload_n 1, 1) := dk_27 (dk_at dksX0_would_0 14 rfl rfl)
theorem dX0_would_15 : decode cX0_would 15 = .ok (.invokevirtual 284, 3) := dk_182 1 28 (dk_at dksX0_would_0 15 rfl rfl)
theorem dX0_would_18 : decode cX0_would 18 = .ok (.istore_n 2, 1) := dk_61 (dk_at dksX0_would_0 18 rfl rfl)
theorem dX0_would_19 : decode cX0_would 19 = .ok (.iload_n 2, 1) := dk_28 (dk_at dksX0_would_0 19 rfl rfl)
theorem dX0_would_20 : decode cX0_would 20 = .ok (.ldc 163, 2) := dk_18 163 (dk_at dksX0_would_0 20 rfl rfl)
theorem dX0_would_22 : decode cX0_would 22 = .ok (.if_icmp .ne 8, 3) := dk_160 0 8 (dk_at dksX0_would_1 0 rfl rfl)
theorem dX0_would_25 : decode cX0_would 25 = .ok (.ldc 163, 2) := dk_18 163 (dk_at dksX0_would_1 3 rfl rfl)
theorem dX0_would_27 : decode cX0_would 27 = .ok (.goto 8, 3) := dk_167 0 8 (dk_at dksX0_would_1 5 rfl rfl)
theorem dX0_would_30 : decode cX0_would 30 = .ok (.ldc_w 287, 3) := dk_19 1 31 (dk_at dksX0_would_1 8 rfl rfl)
theorem dX0_would_33 : decode cX0_would 33 = .ok (.iload_n 2, 1) := dk_28 (dk_at dksX0_would_1 11 rfl rfl)
theorem dX0_would_34 : decode cX0_would 34 = .ok (.iadd, 1) := dk_96 (dk_at dksX0_would_1 12 rfl rfl)
theorem dX0_would_35 : decode cX0_would 35 = .ok (.ireturn, 1) := dk_172 (dk_at dksX0_would_1 13 rfl rfl)
abbrev cX0_fairest : ByteArray := prog_1_method_46_code
def yX0_fairest : MethodName := ⟨RX0, "fairest", "()I"⟩
def dkwX0_fairest_2 : List UInt8 := [163, 0, 7, 28, 167, 0, 4, 27, 60, 132, 2, 255, 167, 255, 201, 27, 172]
abbrev dktX0_fairest_2 : List UInt8 := dkwX0_fairest_2 ++ []
def dkwX0_fairest_1 : List UInt8 := [18, 163, 172, 27, 18, 163, 159, 0, 21, 29, 184, 1, 32, 42, 182, 0, 120, 27, 182, 1, 28, 184, 1, 32]
abbrev dktX0_fairest_1 : List UInt8 := dkwX0_fairest_1 ++ dktX0_fairest_2
def dkwX0_fairest_0 : List UInt8 := [18, 163, 60, 6, 61, 28, 155, 0, 57, 42, 182, 0, 120, 28, 182, 1, 28, 62, 29, 18, 163, 160, 0, 6]
abbrev dktX0_fairest_0 : List UInt8 := dkwX0_fairest_0 ++ dktX0_fairest_1
theorem dksX0_fairest_0 : cX0_fairest.data.toList.drop 0 = dktX0_fairest_0 := by decide +kernel
theorem dksX0_fairest_1 : cX0_fairest.data.toList.drop 24 = dktX0_fairest_1 := dk_seg dksX0_fairest_0 24 rfl rfl
theorem dksX0_fairest_2 : cX0_fairest.data.toList.drop 48 = dktX0_fairest_2 := dk_seg dksX0_fairest_1 24 rfl rfl
theorem dX0_fairest_0 : decode cX0_fairest 0 = .ok (.ldc 163, 2) := dk_18 163 (dk_at dksX0_fairest_0 0 rfl rfl)
theorem dX0_fairest_2 : decode cX0_fairest 2 = .ok (.istore_n 1, 1) := dk_60 (dk_at dksX0_fairest_0 2 rfl rfl)
theorem dX0_fairest_3 : decode cX0_fairest 3 = .ok (.iconst 3, 1) := dk_6 (dk_at dksX0_fairest_0 3 rfl rfl)
theorem dX0_fairest_4 : decode cX0_fairest 4 = .ok (.istore_n 2, 1) := dk_61 (dk_at dksX0_fairest_0 4 rfl rfl)
theorem dX0_fairest_5 : decode cX0_fairest 5 = .ok (.iload_n 2, 1) := dk_28 (dk_at dksX0_fairest_0 5 rfl rfl)
theorem dX0_fairest_6 : decode cX0_fairest 6 = .ok (.ifCond .lt 57, 3) := dk_155 0 57 (dk_at dksX0_fairest_0 6 rfl rfl)
theorem dX0_fairest_9 : decode cX0_fairest 9 = .ok (.aload_n 0, 1) := dk_42 (dk_at dksX0_fairest_0 9 rfl rfl)
theorem dX0_fairest_10 : decode cX0_fairest 10 = .ok (.invokevirtual 120, 3) := dk_182 0 120 (dk_at dksX0_fairest_0 10 rfl rfl)
theorem dX0_fairest_13 : decode cX0_fairest 13 = .ok (.iload_n 2, 1) := dk_28 (dk_at dksX0_fairest_0 13 rfl rfl)
theorem dX0_fairest_14 : decode cX0_fairest 14 = .ok (.invokevirtual 284, 3) := dk_182 1 28 (dk_at dksX0_fairest_0 14 rfl rfl)
theorem dX0_fairest_17 : decode cX0_fairest 17 = .ok (.istore_n 3, 1) := dk_62 (dk_at dksX0_fairest_0 17 rfl rfl)
theorem dX0_fairest_18 : decode cX0_fairest 18 = .ok (.iload_n 3, 1) := dk_29 (dk_at dksX0_fairest_0 18 rfl rfl)
theorem dX0_fairest_19 : decode cX0_fairest 19 = .ok (.ldc 163, 2) := dk_18 163 (dk_at dksX0_fairest_0 19 rfl rfl)
theorem dX0_fairest_21 : decode cX0_fairest 21 = .ok (.if_icmp .ne 6, 3) := dk_160 0 6 (dk_at dksX0_fairest_0 21 rfl rfl)
theorem dX0_fairest_24 : decode cX0_fairest 24 = .ok (.ldc 163, 2) := dk_18 163 (dk_at dksX0_fairest_1 0 rfl rfl)
theorem dX0_fairest_26 : decode cX0_fairest 26 = .ok (.ireturn, 1) := dk_172 (dk_at dksX0_fairest_1 2 rfl rfl)
theorem dX0_fairest_27 : decode cX0_fairest 27 = .ok (.iload_n 1, 1) := dk_27 (dk_at dksX0_fairest_1 3 rfl rfl)
theorem dX0_fairest_28 : decode cX0_fairest 28 = .ok (.ldc 163, 2) := dk_18 163 (dk_at dksX0_fairest_1 4 rfl rfl)
theorem dX0_fairest_30 : decode cX0_fairest 30 = .ok (.if_icmp .eq 21, 3) := dk_159 0 21 (dk_at dksX0_fairest_1 6 rfl rfl)
theorem dX0_fairest_33 : decode cX0_fairest 33 = .ok (.iload_n 3, 1) := dk_29 (dk_at dksX0_fairest_1 9 rfl rfl)
theorem dX0_fairest_34 : decode cX0_fairest 34 = .ok (.invokestatic 288, 3) := dk_184 1 32 (dk_at dksX0_fairest_1 10 rfl rfl)
theorem dX0_fairest_37 : decode cX0_fairest 37 = .ok (.aload_n 0, 1) := dk_42 (dk_at dksX0_fairest_1 13 rfl rfl)
theorem dX0_fairest_38 : decode cX0_fairest 38 = .ok (.invokevirtual 120, 3) := dk_182 0 120 (dk_at dksX0_fairest_1 14 rfl rfl)
theorem dX0_fairest_41 : decode cX0_fairest 41 = .ok (.iload_n 1, 1) := dk_27 (dk_at dksX0_fairest_1 17 rfl rfl)
theorem dX0_fairest_42 : decode cX0_fairest 42 = .ok (.invokevirtual 284, 3) := dk_182 1 28 (dk_at dksX0_fairest_1 18 rfl rfl)
theorem dX0_fairest_45 : decode cX0_fairest 45 = .ok (.invokestatic 288, 3) := dk_184 1 32 (dk_at dksX0_fairest_1 21 rfl rfl)
theorem dX0_fairest_48 : decode cX0_fairest 48 = .ok (.if_icmp .gt 7, 3) := dk_163 0 7 (dk_at dksX0_fairest_2 0 rfl rfl)
theorem dX0_fairest_51 : decode cX0_fairest 51 = .ok (.iload_n 2, 1) := dk_28 (dk_at dksX0_fairest_2 3 rfl rfl)
theorem dX0_fairest_52 : decode cX0_fairest 52 = .ok (.goto 4, 3) := dk_167 0 4 (dk_at dksX0_fairest_2 4 rfl rfl)
theorem dX0_fairest_55 : decode cX0_fairest 55 = .ok (.iload_n 1, 1) := dk_27 (dk_at dksX0_fairest_2 7 rfl rfl)
theorem dX0_fairest_56 : decode cX0_fairest 56 = .ok (.istore_n 1, 1) := dk_60 (dk_at dksX0_fairest_2 8 rfl rfl)
theorem dX0_fairest_57 : decode cX0_fairest 57 = .ok (.iinc 2 (-1), 3) := dk_132 2 255 (dk_at dksX0_fairest_2 9 rfl rfl)
theorem dX0_fairest_60 : decode cX0_fairest 60 = .ok (.goto (-55), 3) := dk_167 255 201 (dk_at dksX0_fairest_2 12 rfl rfl)
theorem dX0_fairest_63 : decode cX0_fairest 63 = .ok (.iload_n 1, 1) := dk_27 (dk_at dksX0_fairest_2 15 rfl rfl)
theorem dX0_fairest_64 : decode cX0_fairest 64 = .ok (.ireturn, 1) := dk_172 (dk_at dksX0_fairest_2 16 rfl rfl)
abbrev cX0_soldOut : ByteArray := prog_1_method_47_code
def yX0_soldOut : MethodName := ⟨RX0, "soldOut", "(I)I"⟩
def dkwX0_soldOut_1 : List UInt8 := [192, 0, 191, 182, 1, 35, 167, 0, 5, 18, 3, 172]
abbrev dktX0_soldOut_1 : List UInt8 := dkwX0_soldOut_1 ++ []
def dkwX0_soldOut_0 : List UInt8 := [42, 182, 0, 120, 27, 182, 0, 247, 153, 0, 25, 42, 182, 0, 120, 180, 0, 188, 27, 185, 0, 235, 2, 0]
abbrev dktX0_soldOut_0 : List UInt8 := dkwX0_soldOut_0 ++ dktX0_soldOut_1
theorem dksX0_soldOut_0 : cX0_soldOut.data.toList.drop 0 = dktX0_soldOut_0 := by decide +kernel
theorem dksX0_soldOut_1 : cX0_soldOut.data.toList.drop 24 = dktX0_soldOut_1 := dk_seg dksX0_soldOut_0 24 rfl rfl
theorem dX0_soldOut_0 : decode cX0_soldOut 0 = .ok (.aload_n 0, 1) := dk_42 (dk_at dksX0_soldOut_0 0 rfl rfl)
theorem dX0_soldOut_1 : decode cX0_soldOut 1 = .ok (.invokevirtual 120, 3) := dk_182 0 120 (dk_at dksX0_soldOut_0 1 rfl rfl)
theorem dX0_soldOut_4 : decode cX0_soldOut 4 = .ok (.iload_n 1, 1) := dk_27 (dk_at dksX0_soldOut_0 4 rfl rfl)
theorem dX0_soldOut_5 : decode cX0_soldOut 5 = .ok (.invokevirtual 247, 3) := dk_182 0 247 (dk_at dksX0_soldOut_0 5 rfl rfl)
theorem dX0_soldOut_8 : decode cX0_soldOut 8 = .ok (.ifCond .eq 25, 3) := dk_153 0 25 (dk_at dksX0_soldOut_0 8 rfl rfl)
theorem dX0_soldOut_11 : decode cX0_soldOut 11 = .ok (.aload_n 0, 1) := dk_42 (dk_at dksX0_soldOut_0 11 rfl rfl)
theorem dX0_soldOut_12 : decode cX0_soldOut 12 = .ok (.invokevirtual 120, 3) := dk_182 0 120 (dk_at dksX0_soldOut_0 12 rfl rfl)
theorem dX0_soldOut_15 : decode cX0_soldOut 15 = .ok (.getfield 188, 3) := dk_180 0 188 (dk_at dksX0_soldOut_0 15 rfl rfl)
theorem dX0_soldOut_18 : decode cX0_soldOut 18 = .ok (.iload_n 1, 1) := dk_27 (dk_at dksX0_soldOut_0 18 rfl rfl)
theorem dX0_soldOut_19 : decode cX0_soldOut 19 = .ok (.invokeinterface 235 2, 5) := by decide +kernel
theorem dX0_soldOut_24 : decode cX0_soldOut 24 = .ok (.checkcast 191, 3) := dk_192 0 191 (dk_at dksX0_soldOut_1 0 rfl rfl)
theorem dX0_soldOut_27 : decode cX0_soldOut 27 = .ok (.invokevirtual 291, 3) := dk_182 1 35 (dk_at dksX0_soldOut_1 3 rfl rfl)
theorem dX0_soldOut_30 : decode cX0_soldOut 30 = .ok (.goto 5, 3) := dk_167 0 5 (dk_at dksX0_soldOut_1 6 rfl rfl)
theorem dX0_soldOut_33 : decode cX0_soldOut 33 = .ok (.ldc 3, 2) := dk_18 3 (dk_at dksX0_soldOut_1 9 rfl rfl)
theorem dX0_soldOut_35 : decode cX0_soldOut 35 = .ok (.ireturn, 1) := dk_172 (dk_at dksX0_soldOut_1 11 rfl rfl)
abbrev cX0_shop : ByteArray := prog_1_method_50_code
def yX0_shop : MethodName := ⟨RX0, "shop", "(II)I"⟩
def dkwX0_shop_6 : List UInt8 := [96, 79, 42, 21, 4, 182, 1, 45, 54, 4, 167, 255, 167, 45, 28, 46, 172]
abbrev dktX0_shop_6 : List UInt8 := dkwX0_shop_6 ++ []
def dkwX0_shop_5 : List UInt8 := [92, 46, 21, 6, 25, 5, 180, 1, 42, 104, 100, 79, 45, 5, 92, 46, 21, 6, 25, 5, 180, 1, 51, 104]
abbrev dktX0_shop_5 : List UInt8 := dkwX0_shop_5 ++ dktX0_shop_6
def dkwX0_shop_4 : List UInt8 := [45, 4, 46, 25, 5, 180, 1, 42, 108, 184, 1, 48, 54, 6, 45, 3, 92, 46, 21, 6, 96, 79, 45, 4]
abbrev dktX0_shop_4 : List UInt8 := dkwX0_shop_4 ++ dktX0_shop_5
def dkwX0_shop_3 : List UInt8 := [42, 182, 0, 120, 180, 0, 188, 21, 4, 185, 0, 235, 2, 0, 192, 0, 191, 58, 5, 25, 5, 180, 0, 193]
abbrev dktX0_shop_3 : List UInt8 := dkwX0_shop_3 ++ dktX0_shop_4
def dkwX0_shop_2 : List UInt8 := [180, 0, 239, 79, 89, 5, 3, 79, 78, 42, 18, 163, 182, 1, 45, 54, 4, 21, 4, 18, 163, 159, 0, 88]
abbrev dktX0_shop_2 : List UInt8 := dkwX0_shop_2 ++ dktX0_shop_3
def dkwX0_shop_1 : List UInt8 := [188, 10, 89, 3, 3, 79, 89, 4, 42, 182, 0, 120, 180, 0, 164, 27, 185, 0, 235, 2, 0, 192, 0, 182]
abbrev dktX0_shop_1 : List UInt8 := dkwX0_shop_1 ++ dktX0_shop_2
def dkwX0_shop_0 : List UInt8 := [42, 182, 0, 120, 27, 182, 0, 232, 153, 0, 12, 28, 3, 5, 184, 0, 109, 154, 0, 6, 18, 3, 172, 6]
abbrev dktX0_shop_0 : List UInt8 := dkwX0_shop_0 ++ dktX0_shop_1
theorem dksX0_shop_0 : cX0_shop.data.toList.drop 0 = dktX0_shop_0 := by decide +kernel
theorem dksX0_shop_1 : cX0_shop.data.toList.drop 24 = dktX0_shop_1 := dk_seg dksX0_shop_0 24 rfl rfl
theorem dksX0_shop_2 : cX0_shop.data.toList.drop 48 = dktX0_shop_2 := dk_seg dksX0_shop_1 24 rfl rfl
theorem dksX0_shop_3 : cX0_shop.data.toList.drop 72 = dktX0_shop_3 := dk_seg dksX0_shop_2 24 rfl rfl
theorem dksX0_shop_4 : cX0_shop.data.toList.drop 96 = dktX0_shop_4 := dk_seg dksX0_shop_3 24 rfl rfl
theorem dksX0_shop_5 : cX0_shop.data.toList.drop 120 = dktX0_shop_5 := dk_seg dksX0_shop_4 24 rfl rfl
theorem dksX0_shop_6 : cX0_shop.data.toList.drop 144 = dktX0_shop_6 := dk_seg dksX0_shop_5 24 rfl rfl
theorem dX0_shop_0 : decode cX0_shop 0 = .ok (.aload_n 0, 1) := dk_42 (dk_at dksX0_shop_0 0 rfl rfl)
theorem dX0_shop_1 : decode cX0_shop 1 = .ok (.invokevirtual 120, 3) := dk_182 0 120 (dk_at dksX0_shop_0 1 rfl rfl)
theorem dX0_shop_4 : decode cX0_shop 4 = .ok (.iload_n 1, 1) := dk_27 (dk_at dksX0_shop_0 4 rfl rfl)
theorem dX0_shop_5 : decode cX0_shop 5 = .ok (.invokevirtual 232, 3) := dk_182 0 232 (dk_at dksX0_shop_0 5 rfl rfl)
theorem dX0_shop_8 : decode cX0_shop 8 = .ok (.ifCond .eq 12, 3) := dk_153 0 12 (dk_at dksX0_shop_0 8 rfl rfl)
theorem dX0_shop_11 : decode cX0_shop 11 = .ok (.iload_n 2, 1) := dk_28 (dk_at dksX0_shop_0 11 rfl rfl)
theorem dX0_shop_12 : decode cX0_shop 12 = .ok (.iconst 0, 1) := dk_3 (dk_at dksX0_shop_0 12 rfl rfl)
theorem dX0_shop_13 : decode cX0_shop 13 = .ok (.iconst 2, 1) := dk_5 (dk_at dksX0_shop_0 13 rfl rfl)
theorem dX0_shop_14 : decode cX0_shop 14 = .ok (.invokestatic 109, 3) := dk_184 0 109 (dk_at dksX0_shop_0 14 rfl rfl)
theorem dX0_shop_17 : decode cX0_shop 17 = .ok (.ifCond .ne 6, 3) := dk_154 0 6 (dk_at dksX0_shop_0 17 rfl rfl)
theorem dX0_shop_20 : decode cX0_shop 20 = .ok (.ldc 3, 2) := dk_18 3 (dk_at dksX0_shop_0 20 rfl rfl)
theorem dX0_shop_22 : decode cX0_shop 22 = .ok (.ireturn, 1) := dk_172 (dk_at dksX0_shop_0 22 rfl rfl)
theorem dX0_shop_23 : decode cX0_shop 23 = .ok (.iconst 3, 1) := dk_6 (dk_at dksX0_shop_0 23 rfl rfl)
theorem dX0_shop_24 : decode cX0_shop 24 = .ok (.newarray .int, 2) := dk_188_10 (dk_at dksX0_shop_1 0 rfl rfl)
theorem dX0_shop_26 : decode cX0_shop 26 = .ok (.dup, 1) := dk_89 (dk_at dksX0_shop_1 2 rfl rfl)
theorem dX0_shop_27 : decode cX0_shop 27 = .ok (.iconst 0, 1) := dk_3 (dk_at dksX0_shop_1 3 rfl rfl)
theorem dX0_shop_28 : decode cX0_shop 28 = .ok (.iconst 0, 1) := dk_3 (dk_at dksX0_shop_1 4 rfl rfl)
theorem dX0_shop_29 : decode cX0_shop 29 = .ok (.iastore, 1) := dk_79 (dk_at dksX0_shop_1 5 rfl rfl)
theorem dX0_shop_30 : decode cX0_shop 30 = .ok (.dup, 1) := dk_89 (dk_at dksX0_shop_1 6 rfl rfl)
theorem dX0_shop_31 : decode cX0_shop 31 = .ok (.iconst 1, 1) := dk_4 (dk_at dksX0_shop_1 7 rfl rfl)
theorem dX0_shop_32 : decode cX0_shop 32 = .ok (.aload_n 0, 1) := dk_42 (dk_at dksX0_shop_1 8 rfl rfl)
theorem dX0_shop_33 : decode cX0_shop 33 = .ok (.invokevirtual 120, 3) := dk_182 0 120 (dk_at dksX0_shop_1 9 rfl rfl)
theorem dX0_shop_36 : decode cX0_shop 36 = .ok (.getfield 164, 3) := dk_180 0 164 (dk_at dksX0_shop_1 12 rfl rfl)
theorem dX0_shop_39 : decode cX0_shop 39 = .ok (.iload_n 1, 1) := dk_27 (dk_at dksX0_shop_1 15 rfl rfl)
theorem dX0_shop_40 : decode cX0_shop 40 = .ok (.invokeinterface 235 2, 5) := by decide +kernel
theorem dX0_shop_45 : decode cX0_shop 45 = .ok (.checkcast 182, 3) := dk_192 0 182 (dk_at dksX0_shop_1 21 rfl rfl)
theorem dX0_shop_48 : decode cX0_shop 48 = .ok (.getfield 239, 3) := dk_180 0 239 (dk_at dksX0_shop_2 0 rfl rfl)
theorem dX0_shop_51 : decode cX0_shop 51 = .ok (.iastore, 1) := dk_79 (dk_at dksX0_shop_2 3 rfl rfl)
theorem dX0_shop_52 : decode cX0_shop 52 = .ok (.dup, 1) := dk_89 (dk_at dksX0_shop_2 4 rfl rfl)
theorem dX0_shop_53 : decode cX0_shop 53 = .ok (.iconst 2, 1) := dk_5 (dk_at dksX0_shop_2 5 rfl rfl)
theorem dX0_shop_54 : decode cX0_shop 54 = .ok (.iconst 0, 1) := dk_3 (dk_at dksX0_shop_2 6 rfl rfl)
theorem dX0_shop_55 : decode cX0_shop 55 = .ok (.iastore, 1) := dk_79 (dk_at dksX0_shop_2 7 rfl rfl)
theorem dX0_shop_56 : decode cX0_shop 56 = .ok (.astore_n 3, 1) := dk_78 (dk_at dksX0_shop_2 8 rfl rfl)
theorem dX0_shop_57 : decode cX0_shop 57 = .ok (.aload_n 0, 1) := dk_42 (dk_at dksX0_shop_2 9 rfl rfl)
theorem dX0_shop_58 : decode cX0_shop 58 = .ok (.ldc 163, 2) := dk_18 163 (dk_at dksX0_shop_2 10 rfl rfl)
theorem dX0_shop_60 : decode cX0_shop 60 = .ok (.invokevirtual 301, 3) := dk_182 1 45 (dk_at dksX0_shop_2 12 rfl rfl)
theorem dX0_shop_63 : decode cX0_shop 63 = .ok (.istore 4, 2) := dk_54 4 (dk_at dksX0_shop_2 15 rfl rfl)
theorem dX0_shop_65 : decode cX0_shop 65 = .ok (.iload 4, 2) := dk_21 4 (dk_at dksX0_shop_2 17 rfl rfl)
theorem dX0_shop_67 : decode cX0_shop 67 = .ok (.ldc 163, 2) := dk_18 163 (dk_at dksX0_shop_2 19 rfl rfl)
theorem dX0_shop_69 : decode cX0_shop 69 = .ok (.if_icmp .eq 88, 3) := dk_159 0 88 (dk_at dksX0_shop_2 21 rfl rfl)
theorem dX0_shop_72 : decode cX0_shop 72 = .ok (.aload_n 0, 1) := dk_42 (dk_at dksX0_shop_3 0 rfl rfl)
theorem dX0_shop_73 : decode cX0_shop 73 = .ok (.invokevirtual 120, 3) := dk_182 0 120 (dk_at dksX0_shop_3 1 rfl rfl)
theorem dX0_shop_76 : decode cX0_shop 76 = .ok (.getfield 188, 3) := dk_180 0 188 (dk_at dksX0_shop_3 4 rfl rfl)
theorem dX0_shop_79 : decode cX0_shop 79 = .ok (.iload 4, 2) := dk_21 4 (dk_at dksX0_shop_3 7 rfl rfl)
theorem dX0_shop_81 : decode cX0_shop 81 = .ok (.invokeinterface 235 2, 5) := by decide +kernel
theorem dX0_shop_86 : decode cX0_shop 86 = .ok (.checkcast 191, 3) := dk_192 0 191 (dk_at dksX0_shop_3 14 rfl rfl)
theorem dX0_shop_89 : decode cX0_shop 89 = .ok (.astore 5, 2) := dk_58 5 (dk_at dksX0_shop_3 17 rfl rfl)
theorem dX0_shop_91 : decode cX0_shop 91 = .ok (.aload 5, 2) := dk_25 5 (dk_at dksX0_shop_3 19 rfl rfl)
theorem dX0_shop_93 : decode cX0_shop 93 = .ok (.getfield 193, 3) := dk_180 0 193 (dk_at dksX0_shop_3 21 rfl rfl)
theorem dX0_shop_96 : decode cX0_shop 96 = .ok (.aload_n 3, 1) := dk_45 (dk_at dksX0_shop_4 0 rfl rfl)
theorem dX0_shop_97 : decode cX0_shop 97 = .ok (.iconst 1, 1) := dk_4 (dk_at dksX0_shop_4 1 rfl rfl)
theorem dX0_shop_98 : decode cX0_shop 98 = .ok (.iaload, 1) := dk_46 (dk_at dksX0_shop_4 2 rfl rfl)
theorem dX0_shop_99 : decode cX0_shop 99 = .ok (.aload 5, 2) := dk_25 5 (dk_at dksX0_shop_4 3 rfl rfl)
theorem dX0_shop_101 : decode cX0_shop 101 = .ok (.getfield 298, 3) := dk_180 1 42 (dk_at dksX0_shop_4 5 rfl rfl)
theorem dX0_shop_104 : decode cX0_shop 104 = .ok (.idiv, 1) := dk_108 (dk_at dksX0_shop_4 8 rfl rfl)
theorem dX0_shop_105 : decode cX0_shop 105 = .ok (.invokestatic 304, 3) := dk_184 1 48 (dk_at dksX0_shop_4 9 rfl rfl)
theorem dX0_shop_108 : decode cX0_shop 108 = .ok (.istore 6, 2) := dk_54 6 (dk_at dksX0_shop_4 12 rfl rfl)
theorem dX0_shop_110 : decode cX0_shop 110 = .ok (.aload_n 3, 1) := dk_45 (dk_at dksX0_shop_4 14 rfl rfl)
theorem dX0_shop_111 : decode cX0_shop 111 = .ok (.iconst 0, 1) := dk_3 (dk_at dksX0_shop_4 15 rfl rfl)
theorem dX0_shop_112 : decode cX0_shop 112 = .ok (.dup2, 1) := dk_92 (dk_at dksX0_shop_4 16 rfl rfl)
theorem dX0_shop_113 : decode cX0_shop 113 = .ok (.iaload, 1) := dk_46 (dk_at dksX0_shop_4 17 rfl rfl)
theorem dX0_shop_114 : decode cX0_shop 114 = .ok (.iload 6, 2) := dk_21 6 (dk_at dksX0_shop_4 18 rfl rfl)
theorem dX0_shop_116 : decode cX0_shop 116 = .ok (.iadd, 1) := dk_96 (dk_at dksX0_shop_4 20 rfl rfl)
theorem dX0_shop_117 : decode cX0_shop 117 = .ok (.iastore, 1) := dk_79 (dk_at dksX0_shop_4 21 rfl rfl)
theorem dX0_shop_118 : decode cX0_shop 118 = .ok (.aload_n 3, 1) := dk_45 (dk_at dksX0_shop_4 22 rfl rfl)
theorem dX0_shop_119 : decode cX0_shop 119 = .ok (.iconst 1, 1) := dk_4 (dk_at dksX0_shop_4 23 rfl rfl)
theorem dX0_shop_120 : decode cX0_shop 120 = .ok (.dup2, 1) := dk_92 (dk_at dksX0_shop_5 0 rfl rfl)
theorem dX0_shop_121 : decode cX0_shop 121 = .ok (.iaload, 1) := dk_46 (dk_at dksX0_shop_5 1 rfl rfl)
theorem dX0_shop_122 : decode cX0_shop 122 = .ok (.iload 6, 2) := dk_21 6 (dk_at dksX0_shop_5 2 rfl rfl)
theorem dX0_shop_124 : decode cX0_shop 124 = .ok (.aload 5, 2) := dk_25 5 (dk_at dksX0_shop_5 4 rfl rfl)
theorem dX0_shop_126 : decode cX0_shop 126 = .ok (.getfield 298, 3) := dk_180 1 42 (dk_at dksX0_shop_5 6 rfl rfl)
theorem dX0_shop_129 : decode cX0_shop 129 = .ok (.imul, 1) := dk_104 (dk_at dksX0_shop_5 9 rfl rfl)
theorem dX0_shop_130 : decode cX0_shop 130 = .ok (.isub, 1) := dk_100 (dk_at dksX0_shop_5 10 rfl rfl)
theorem dX0_shop_131 : decode cX0_shop 131 = .ok (.iastore, 1) := dk_79 (dk_at dksX0_shop_5 11 rfl rfl)
theorem dX0_shop_132 : decode cX0_shop 132 = .ok (.aload_n 3, 1) := dk_45 (dk_at dksX0_shop_5 12 rfl rfl)
theorem dX0_shop_133 : decode cX0_shop 133 = .ok (.iconst 2, 1) := dk_5 (dk_at dksX0_shop_5 13 rfl rfl)
theorem dX0_shop_134 : decode cX0_shop 134 = .ok (.dup2, 1) := dk_92 (dk_at dksX0_shop_5 14 rfl rfl)
theorem dX0_shop_135 : decode cX0_shop 135 = .ok (.iaload, 1) := dk_46 (dk_at dksX0_shop_5 15 rfl rfl)
theorem dX0_shop_136 : decode cX0_shop 136 = .ok (.iload 6, 2) := dk_21 6 (dk_at dksX0_shop_5 16 rfl rfl)
theorem dX0_shop_138 : decode cX0_shop 138 = .ok (.aload 5, 2) := dk_25 5 (dk_at dksX0_shop_5 18 rfl rfl)
theorem dX0_shop_140 : decode cX0_shop 140 = .ok (.getfield 307, 3) := dk_180 1 51 (dk_at dksX0_shop_5 20 rfl rfl)
theorem dX0_shop_143 : decode cX0_shop 143 = .ok (.imul, 1) := dk_104 (dk_at dksX0_shop_5 23 rfl rfl)
theorem dX0_shop_144 : decode cX0_shop 144 = .ok (.iadd, 1) := dk_96 (dk_at dksX0_shop_6 0 rfl rfl)
theorem dX0_shop_145 : decode cX0_shop 145 = .ok (.iastore, 1) := dk_79 (dk_at dksX0_shop_6 1 rfl rfl)
theorem dX0_shop_146 : decode cX0_shop 146 = .ok (.aload_n 0, 1) := dk_42 (dk_at dksX0_shop_6 2 rfl rfl)
theorem dX0_shop_147 : decode cX0_shop 147 = .ok (.iload 4, 2) := dk_21 4 (dk_at dksX0_shop_6 3 rfl rfl)
theorem dX0_shop_149 : decode cX0_shop 149 = .ok (.invokevirtual 301, 3) := dk_182 1 45 (dk_at dksX0_shop_6 5 rfl rfl)
theorem dX0_shop_152 : decode cX0_shop 152 = .ok (.istore 4, 2) := dk_54 4 (dk_at dksX0_shop_6 8 rfl rfl)
theorem dX0_shop_154 : decode cX0_shop 154 = .ok (.goto (-89), 3) := dk_167 255 167 (dk_at dksX0_shop_6 10 rfl rfl)
theorem dX0_shop_157 : decode cX0_shop 157 = .ok (.aload_n 3, 1) := dk_45 (dk_at dksX0_shop_6 13 rfl rfl)
theorem dX0_shop_158 : decode cX0_shop 158 = .ok (.iload_n 2, 1) := dk_28 (dk_at dksX0_shop_6 14 rfl rfl)
theorem dX0_shop_159 : decode cX0_shop 159 = .ok (.iaload, 1) := dk_46 (dk_at dksX0_shop_6 15 rfl rfl)
theorem dX0_shop_160 : decode cX0_shop 160 = .ok (.ireturn, 1) := dk_172 (dk_at dksX0_shop_6 16 rfl rfl)
abbrev cX0_nextByPrice : ByteArray := prog_1_method_48_code
def yX0_nextByPrice : MethodName := ⟨RX0, "nextByPrice", "(I)I"⟩
def dkwX0_nextByPrice_3 : List UInt8 := [167, 255, 189, 28, 172]
abbrev dktX0_nextByPrice_3 : List UInt8 := dkwX0_nextByPrice_3 ++ []
def dkwX0_nextByPrice_2 : List UInt8 := [28, 18, 163, 159, 0, 12, 42, 29, 28, 182, 1, 38, 153, 0, 7, 29, 167, 0, 4, 28, 61, 132, 3, 1]
abbrev dktX0_nextByPrice_2 : List UInt8 := dkwX0_nextByPrice_2 ++ dktX0_nextByPrice_3
def dkwX0_nextByPrice_1 : List UInt8 := [159, 0, 12, 42, 27, 29, 182, 1, 38, 153, 0, 7, 4, 167, 0, 4, 3, 54, 4, 21, 4, 153, 0, 22]
abbrev dktX0_nextByPrice_1 : List UInt8 := dkwX0_nextByPrice_1 ++ dktX0_nextByPrice_2
def dkwX0_nextByPrice_0 : List UInt8 := [18, 163, 61, 3, 62, 29, 42, 182, 0, 120, 180, 0, 188, 185, 0, 211, 1, 0, 162, 0, 57, 27, 18, 163]
abbrev dktX0_nextByPrice_0 : List UInt8 := dkwX0_nextByPrice_0 ++ dktX0_nextByPrice_1
theorem dksX0_nextByPrice_0 : cX0_nextByPrice.data.toList.drop 0 = dktX0_nextByPrice_0 := by decide +kernel
theorem dksX0_nextByPrice_1 : cX0_nextByPrice.data.toList.drop 24 = dktX0_nextByPrice_1 := dk_seg dksX0_nextByPrice_0 24 rfl rfl
theorem dksX0_nextByPrice_2 : cX0_nextByPrice.data.toList.drop 48 = dktX0_nextByPrice_2 := dk_seg dksX0_nextByPrice_1 24 rfl rfl
theorem dksX0_nextByPrice_3 : cX0_nextByPrice.data.toList.drop 72 = dktX0_nextByPrice_3 := dk_seg dksX0_nextByPrice_2 24 rfl rfl
theorem dX0_nextByPrice_0 : decode cX0_nextByPrice 0 = .ok (.ldc 163, 2) := dk_18 163 (dk_at dksX0_nextByPrice_0 0 rfl rfl)
theorem dX0_nextByPrice_2 : decode cX0_nextByPrice 2 = .ok (.istore_n 2, 1) := dk_61 (dk_at dksX0_nextByPrice_0 2 rfl rfl)
theorem dX0_nextByPrice_3 : decode cX0_nextByPrice 3 = .ok (.iconst 0, 1) := dk_3 (dk_at dksX0_nextByPrice_0 3 rfl rfl)
theorem dX0_nextByPrice_4 : decode cX0_nextByPrice 4 = .ok (.istore_n 3, 1) := dk_62 (dk_at dksX0_nextByPrice_0 4 rfl rfl)
theorem dX0_nextByPrice_5 : decode cX0_nextByPrice 5 = .ok (.iload_n 3, 1) := dk_29 (dk_at dksX0_nextByPrice_0 5 rfl rfl)
theorem dX0_nextByPrice_6 : decode cX0_nextByPrice 6 = .ok (.aload_n 0, 1) := dk_42 (dk_at dksX0_nextByPrice_0 6 rfl rfl)
theorem dX0_nextByPrice_7 : decode cX0_nextByPrice 7 = .ok (.invokevirtual 120, 3) := dk_182 0 120 (dk_at dksX0_nextByPrice_0 7 rfl rfl)
theorem dX0_nextByPrice_10 : decode cX0_nextByPrice 10 = .ok (.getfield 188, 3) := dk_180 0 188 (dk_at dksX0_nextByPrice_0 10 rfl rfl)
theorem dX0_nextByPrice_13 : decode cX0_nextByPrice 13 = .ok (.invokeinterface 211 1, 5) := by decide +kernel
theorem dX0_nextByPrice_18 : decode cX0_nextByPrice 18 = .ok (.if_icmp .ge 57, 3) := dk_162 0 57 (dk_at dksX0_nextByPrice_0 18 rfl rfl)
theorem dX0_nextByPrice_21 : decode cX0_nextByPrice 21 = .ok (.iload_n 1, 1) := dk_27 (dk_at dksX0_nextByPrice_0 21 rfl rfl)
theorem dX0_nextByPrice_22 : decode cX0_nextByPrice 22 = .ok (.ldc 163, 2) := dk_18 163 (dk_at dksX0_nextByPrice_0 22 rfl rfl)
theorem dX0_nextByPrice_24 : decode cX0_nextByPrice 24 = .ok (.if_icmp .eq 12, 3) := dk_159 0 12 (dk_at dksX0_nextByPrice_1 0 rfl rfl)
theorem dX0_nextByPrice_27 : decode cX0_nextByPrice 27 = .ok (.aload_n 0, 1) := dk_42 (dk_at dksX0_nextByPrice_1 3 rfl rfl)
theorem dX0_nextByPrice_28 : decode cX0_nextByPrice 28 = .ok (.iload_n 1, 1) := dk_27 (dk_at dksX0_nextByPrice_1 4 rfl rfl)
theorem dX0_nextByPrice_29 : decode cX0_nextByPrice 29 = .ok (.iload_n 3, 1) := dk_29 (dk_at dksX0_nextByPrice_1 5 rfl rfl)
theorem dX0_nextByPrice_30 : decode cX0_nextByPrice 30 = .ok (.invokevirtual 294, 3) := dk_182 1 38 (dk_at dksX0_nextByPrice_1 6 rfl rfl)
theorem dX0_nextByPrice_33 : decode cX0_nextByPrice 33 = .ok (.ifCond .eq 7, 3) := dk_153 0 7 (dk_at dksX0_nextByPrice_1 9 rfl rfl)
theorem dX0_nextByPrice_36 : decode cX0_nextByPrice 36 = .ok (.iconst 1, 1) := dk_4 (dk_at dksX0_nextByPrice_1 12 rfl rfl)
theorem dX0_nextByPrice_37 : decode cX0_nextByPrice 37 = .ok (.goto 4, 3) := dk_167 0 4 (dk_at dksX0_nextByPrice_1 13 rfl rfl)
theorem dX0_nextByPrice_40 : decode cX0_nextByPrice 40 = .ok (.iconst 0, 1) := dk_3 (dk_at dksX0_nextByPrice_1 16 rfl rfl)
theorem dX0_nextByPrice_41 : decode cX0_nextByPrice 41 = .ok (.istore 4, 2) := dk_54 4 (dk_at dksX0_nextByPrice_1 17 rfl rfl)
theorem dX0_nextByPrice_43 : decode cX0_nextByPrice 43 = .ok (.iload 4, 2) := dk_21 4 (dk_at dksX0_nextByPrice_1 19 rfl rfl)
theorem dX0_nextByPrice_45 : decode cX0_nextByPrice 45 = .ok (.ifCond .eq 22, 3) := dk_153 0 22 (dk_at dksX0_nextByPrice_1 21 rfl rfl)
theorem dX0_nextByPrice_48 : decode cX0_nextByPrice 48 = .ok (.iload_n 2, 1) := dk_28 (dk_at dksX0_nextByPrice_2 0 rfl rfl)
theorem dX0_nextByPrice_49 : decode cX0_nextByPrice 49 = .ok (.ldc 163, 2) := dk_18 163 (dk_at dksX0_nextByPrice_2 1 rfl rfl)
theorem dX0_nextByPrice_51 : decode cX0_nextByPrice 51 = .ok (.if_icmp .eq 12, 3) := dk_159 0 12 (dk_at dksX0_nextByPrice_2 3 rfl rfl)
theorem dX0_nextByPrice_54 : decode cX0_nextByPrice 54 = .ok (.aload_n 0, 1) := dk_42 (dk_at dksX0_nextByPrice_2 6 rfl rfl)
theorem dX0_nextByPrice_55 : decode cX0_nextByPrice 55 = .ok (.iload_n 3, 1) := dk_29 (dk_at dksX0_nextByPrice_2 7 rfl rfl)
theorem dX0_nextByPrice_56 : decode cX0_nextByPrice 56 = .ok (.iload_n 2, 1) := dk_28 (dk_at dksX0_nextByPrice_2 8 rfl rfl)
theorem dX0_nextByPrice_57 : decode cX0_nextByPrice 57 = .ok (.invokevirtual 294, 3) := dk_182 1 38 (dk_at dksX0_nextByPrice_2 9 rfl rfl)
theorem dX0_nextByPrice_60 : decode cX0_nextByPrice 60 = .ok (.ifCond .eq 7, 3) := dk_153 0 7 (dk_at dksX0_nextByPrice_2 12 rfl rfl)
theorem dX0_nextByPrice_63 : decode cX0_nextByPrice 63 = .ok (.iload_n 3, 1) := dk_29 (dk_at dksX0_nextByPrice_2 15 rfl rfl)
theorem dX0_nextByPrice_64 : decode cX0_nextByPrice 64 = .ok (.goto 4, 3) := dk_167 0 4 (dk_at dksX0_nextByPrice_2 16 rfl rfl)
theorem dX0_nextByPrice_67 : decode cX0_nextByPrice 67 = .ok (.iload_n 2, 1) := dk_28 (dk_at dksX0_nextByPrice_2 19 rfl rfl)
theorem dX0_nextByPrice_68 : decode cX0_nextByPrice 68 = .ok (.istore_n 2, 1) := dk_61 (dk_at dksX0_nextByPrice_2 20 rfl rfl)
theorem dX0_nextByPrice_69 : decode cX0_nextByPrice 69 = .ok (.iinc 3 1, 3) := dk_132 3 1 (dk_at dksX0_nextByPrice_2 21 rfl rfl)
theorem dX0_nextByPrice_72 : decode cX0_nextByPrice 72 = .ok (.goto (-67), 3) := dk_167 255 189 (dk_at dksX0_nextByPrice_3 0 rfl rfl)
theorem dX0_nextByPrice_75 : decode cX0_nextByPrice 75 = .ok (.iload_n 2, 1) := dk_28 (dk_at dksX0_nextByPrice_3 3 rfl rfl)
theorem dX0_nextByPrice_76 : decode cX0_nextByPrice 76 = .ok (.ireturn, 1) := dk_172 (dk_at dksX0_nextByPrice_3 4 rfl rfl)
abbrev cX0_isCheaper : ByteArray := prog_1_method_49_code
def yX0_isCheaper : MethodName := ⟨RX0, "isCheaper", "(II)Z"⟩
def dkwX0_isCheaper_2 : List UInt8 := [21, 4, 160, 0, 12, 27, 28, 162, 0, 7, 4, 167, 0, 4, 3, 172]
abbrev dktX0_isCheaper_2 : List UInt8 := dkwX0_isCheaper_2 ++ []
def dkwX0_isCheaper_1 : List UInt8 := [180, 0, 188, 28, 185, 0, 235, 2, 0, 192, 0, 191, 180, 1, 42, 54, 4, 29, 21, 4, 161, 0, 14, 29]
abbrev dktX0_isCheaper_1 : List UInt8 := dkwX0_isCheaper_1 ++ dktX0_isCheaper_2
def dkwX0_isCheaper_0 : List UInt8 := [42, 182, 0, 120, 180, 0, 188, 27, 185, 0, 235, 2, 0, 192, 0, 191, 180, 1, 42, 62, 42, 182, 0, 120]
abbrev dktX0_isCheaper_0 : List UInt8 := dkwX0_isCheaper_0 ++ dktX0_isCheaper_1
theorem dksX0_isCheaper_0 : cX0_isCheaper.data.toList.drop 0 = dktX0_isCheaper_0 := by decide +kernel
theorem dksX0_isCheaper_1 : cX0_isCheaper.data.toList.drop 24 = dktX0_isCheaper_1 := dk_seg dksX0_isCheaper_0 24 rfl rfl
theorem dksX0_isCheaper_2 : cX0_isCheaper.data.toList.drop 48 = dktX0_isCheaper_2 := dk_seg dksX0_isCheaper_1 24 rfl rfl
theorem dX0_isCheaper_0 : decode cX0_isCheaper 0 = .ok (.aload_n 0, 1) := dk_42 (dk_at dksX0_isCheaper_0 0 rfl rfl)
theorem dX0_isCheaper_1 : decode cX0_isCheaper 1 = .ok (.invokevirtual 120, 3) := dk_182 0 120 (dk_at dksX0_isCheaper_0 1 rfl rfl)
theorem dX0_isCheaper_4 : decode cX0_isCheaper 4 = .ok (.getfield 188, 3) := dk_180 0 188 (dk_at dksX0_isCheaper_0 4 rfl rfl)
theorem dX0_isCheaper_7 : decode cX0_isCheaper 7 = .ok (.iload_n 1, 1) := dk_27 (dk_at dksX0_isCheaper_0 7 rfl rfl)
theorem dX0_isCheaper_8 : decode cX0_isCheaper 8 = .ok (.invokeinterface 235 2, 5) := by decide +kernel
theorem dX0_isCheaper_13 : decode cX0_isCheaper 13 = .ok (.checkcast 191, 3) := dk_192 0 191 (dk_at dksX0_isCheaper_0 13 rfl rfl)
theorem dX0_isCheaper_16 : decode cX0_isCheaper 16 = .ok (.getfield 298, 3) := dk_180 1 42 (dk_at dksX0_isCheaper_0 16 rfl rfl)
theorem dX0_isCheaper_19 : decode cX0_isCheaper 19 = .ok (.istore_n 3, 1) := dk_62 (dk_at dksX0_isCheaper_0 19 rfl rfl)
theorem dX0_isCheaper_20 : decode cX0_isCheaper 20 = .ok (.aload_n 0, 1) := dk_42 (dk_at dksX0_isCheaper_0 20 rfl rfl)
theorem dX0_isCheaper_21 : decode cX0_isCheaper 21 = .ok (.invokevirtual 120, 3) := dk_182 0 120 (dk_at dksX0_isCheaper_0 21 rfl rfl)
theorem dX0_isCheaper_24 : decode cX0_isCheaper 24 = .ok (.getfield 188, 3) := dk_180 0 188 (dk_at dksX0_isCheaper_1 0 rfl rfl)
theorem dX0_isCheaper_27 : decode cX0_isCheaper 27 = .ok (.iload_n 2, 1) := dk_28 (dk_at dksX0_isCheaper_1 3 rfl rfl)
theorem dX0_isCheaper_28 : decode cX0_isCheaper 28 = .ok (.invokeinterface 235 2, 5) := by decide +kernel
theorem dX0_isCheaper_33 : decode cX0_isCheaper 33 = .ok (.checkcast 191, 3) := dk_192 0 191 (dk_at dksX0_isCheaper_1 9 rfl rfl)
theorem dX0_isCheaper_36 : decode cX0_isCheaper 36 = .ok (.getfield 298, 3) := dk_180 1 42 (dk_at dksX0_isCheaper_1 12 rfl rfl)
theorem dX0_isCheaper_39 : decode cX0_isCheaper 39 = .ok (.istore 4, 2) := dk_54 4 (dk_at dksX0_isCheaper_1 15 rfl rfl)
theorem dX0_isCheaper_41 : decode cX0_isCheaper 41 = .ok (.iload_n 3, 1) := dk_29 (dk_at dksX0_isCheaper_1 17 rfl rfl)
theorem dX0_isCheaper_42 : decode cX0_isCheaper 42 = .ok (.iload 4, 2) := dk_21 4 (dk_at dksX0_isCheaper_1 18 rfl rfl)
theorem dX0_isCheaper_44 : decode cX0_isCheaper 44 = .ok (.if_icmp .lt 14, 3) := dk_161 0 14 (dk_at dksX0_isCheaper_1 20 rfl rfl)
theorem dX0_isCheaper_47 : decode cX0_isCheaper 47 = .ok (.iload_n 3, 1) := dk_29 (dk_at dksX0_isCheaper_1 23 rfl rfl)
theorem dX0_isCheaper_48 : decode cX0_isCheaper 48 = .ok (.iload 4, 2) := dk_21 4 (dk_at dksX0_isCheaper_2 0 rfl rfl)
theorem dX0_isCheaper_50 : decode cX0_isCheaper 50 = .ok (.if_icmp .ne 12, 3) := dk_160 0 12 (dk_at dksX0_isCheaper_2 2 rfl rfl)
theorem dX0_isCheaper_53 : decode cX0_isCheaper 53 = .ok (.iload_n 1, 1) := dk_27 (dk_at dksX0_isCheaper_2 5 rfl rfl)
theorem dX0_isCheaper_54 : decode cX0_isCheaper 54 = .ok (.iload_n 2, 1) := dk_28 (dk_at dksX0_isCheaper_2 6 rfl rfl)
theorem dX0_isCheaper_55 : decode cX0_isCheaper 55 = .ok (.if_icmp .ge 7, 3) := dk_162 0 7 (dk_at dksX0_isCheaper_2 7 rfl rfl)
theorem dX0_isCheaper_58 : decode cX0_isCheaper 58 = .ok (.iconst 1, 1) := dk_4 (dk_at dksX0_isCheaper_2 10 rfl rfl)
theorem dX0_isCheaper_59 : decode cX0_isCheaper 59 = .ok (.goto 4, 3) := dk_167 0 4 (dk_at dksX0_isCheaper_2 11 rfl rfl)
theorem dX0_isCheaper_62 : decode cX0_isCheaper 62 = .ok (.iconst 0, 1) := dk_3 (dk_at dksX0_isCheaper_2 14 rfl rfl)
theorem dX0_isCheaper_63 : decode cX0_isCheaper 63 = .ok (.ireturn, 1) := dk_172 (dk_at dksX0_isCheaper_2 15 rfl rfl)
theorem q60 : (Jvm.Cond.initialized "TicketScales") ∈ lw_all := lw_g (lw_at lw_m1 1 rfl) rfl
theorem q93 : (Jvm.Cond.instantiable "TicketScales" (4 : Nat)) ∈ lw_all := lw_g (lw_at lw_m1 34 rfl) rfl
theorem q95 : (Jvm.Cond.instanceMethod ({ cls := "TicketScales", name := "<init>", desc := "()V" } : Jvm.MethodName)) ∈ lw_all := lw_g (lw_at lw_m1 36 rfl) rfl
theorem q96 : (Jvm.Cond.code ({ cls := "TicketScales", name := "<init>", desc := "()V" } : Jvm.MethodName) prog_1_method_4_code (1 : Nat) (Option.none : Option Jvm.ClassFile.FieldType)) ∈ lw_all := lw_g (lw_at lw_m1 37 rfl) rfl
theorem q97 : (Jvm.Cond.methodLink "TicketScales" (12 : Nat) ({ cls := "java/lang/Object", name := "<init>", desc := "()V" } : Jvm.MethodName)) ∈ lw_all := lw_g (lw_at lw_m1 38 rfl) rfl
theorem q100 : (Jvm.Cond.classLink "TicketScales" (18 : Nat) "TicketScales$State") ∈ lw_all := lw_g (lw_at lw_m1 41 rfl) rfl
theorem q102 : (Jvm.Cond.classLink "TicketScales" (20 : Nat) "TicketScales$Counter") ∈ lw_all := lw_g (lw_at lw_m1 43 rfl) rfl
theorem q104 : (Jvm.Cond.methodLinkNest "TicketScales" (22 : Nat) ({ cls := "TicketScales$Counter", name := "<init>", desc := "()V" } : Jvm.MethodName) "TicketScales") ∈ lw_tbl := lw_at lw_m1 45 rfl
theorem q139 : (Jvm.Cond.fieldLinkNest "TicketScales" (226 : Nat) "TicketScales$Counter" "weights" "[I" "TicketScales") ∈ lw_tbl := lw_at lw_m1 80 rfl
theorem q141 : (Jvm.Cond.fieldLinkNest "TicketScales" (229 : Nat) "TicketScales$Counter" "spreads" "[I" "TicketScales") ∈ lw_tbl := lw_at lw_m1 82 rfl
theorem q143 : (Jvm.Cond.fieldLinkNest "TicketScales" (196 : Nat) "TicketScales$Counter" "step" "I" "TicketScales") ∈ lw_tbl := lw_at lw_m1 84 rfl
theorem q145 : (Jvm.Cond.fieldLinkNest "TicketScales" (199 : Nat) "TicketScales$Counter" "limit" "I" "TicketScales") ∈ lw_tbl := lw_at lw_m1 86 rfl
theorem q147 : (Jvm.Cond.fieldLinkNest "TicketScales" (202 : Nat) "TicketScales$Counter" "bias" "I" "TicketScales") ∈ lw_tbl := lw_at lw_m1 88 rfl
theorem q149 : (Jvm.Cond.fieldLinkNest "TicketScales" (205 : Nat) "TicketScales$Counter" "rule" "I" "TicketScales") ∈ lw_tbl := lw_at lw_m1 90 rfl
theorem q151 : (Jvm.Cond.fieldLinkNest "TicketScales" (208 : Nat) "TicketScales$Counter" "fee" "I" "TicketScales") ∈ lw_tbl := lw_at lw_m1 92 rfl
theorem q153 : (Jvm.Cond.fieldLinkNest "TicketScales" (214 : Nat) "TicketScales$Counter" "gift" "I" "TicketScales") ∈ lw_tbl := lw_at lw_m1 94 rfl
theorem q155 : (Jvm.Cond.fieldLinkNest "TicketScales" (164 : Nat) "TicketScales$Counter" "customers" "Ljava/util/List;" "TicketScales") ∈ lw_tbl := lw_at lw_m1 96 rfl
theorem q157 : (Jvm.Cond.fieldLinkNest "TicketScales" (188 : Nat) "TicketScales$Counter" "prizes" "Ljava/util/List;" "TicketScales") ∈ lw_tbl := lw_at lw_m1 98 rfl
theorem q179 : (Jvm.Cond.methodLink "TicketScales" (23 : Nat) ({ cls := "TicketScales$State", name := "<init>", desc := "(LTicketScales$Counter;)V" } : Jvm.MethodName)) ∈ lw_all := lw_g (lw_at lw_m1 120 rfl) rfl
theorem q186 : (Jvm.Cond.fieldLinkNest "TicketScales" (48 : Nat) "TicketScales$State" "counter" "LTicketScales$Counter;" "TicketScales") ∈ lw_tbl := lw_at lw_m1 127 rfl
theorem q188 : (Jvm.Cond.fieldLinkNest "TicketScales" (116 : Nat) "TicketScales$State" "slots" "[LTicketScales$Counter;" "TicketScales") ∈ lw_tbl := lw_at lw_m1 129 rfl
theorem q194 : (Jvm.Cond.classLink "TicketScales" (30 : Nat) "java/util/ArrayDeque") ∈ lw_all := lw_g (lw_at lw_m1 135 rfl) rfl
theorem q196 : (Jvm.Cond.methodLink "TicketScales" (32 : Nat) ({ cls := "java/util/ArrayDeque", name := "<init>", desc := "()V" } : Jvm.MethodName)) ∈ lw_all := lw_g (lw_at lw_m1 137 rfl) rfl
theorem q212 : (Jvm.Cond.classLink "TicketScales" (37 : Nat) "java/lang/StringBuilder") ∈ lw_all := lw_g (lw_at lw_m1 153 rfl) rfl
theorem q214 : (Jvm.Cond.methodLink "TicketScales" (39 : Nat) ({ cls := "java/lang/StringBuilder", name := "<init>", desc := "()V" } : Jvm.MethodName)) ∈ lw_all := lw_g (lw_at lw_m1 155 rfl) rfl
theorem q245 : (Jvm.Cond.fieldLink "TicketScales" (26 : Nat) "TicketScales" "state" "LTicketScales$State;") ∈ lw_all := lw_g (lw_at lw_m1 186 rfl) rfl
theorem q246 : (Jvm.Cond.fieldLink "TicketScales" (33 : Nat) "TicketScales" "history" "Ljava/util/ArrayDeque;") ∈ lw_all := lw_g (lw_at lw_m1 187 rfl) rfl
theorem q248 : (Jvm.Cond.fieldLink "TicketScales" (40 : Nat) "TicketScales" "text" "Ljava/lang/StringBuilder;") ∈ lw_all := lw_g (lw_at lw_m1 189 rfl) rfl
theorem q249 : (Jvm.Cond.fieldLink "TicketScales" (44 : Nat) "TicketScales" "failure" "[I") ∈ lw_all := lw_g (lw_at lw_m1 190 rfl) rfl
theorem q251 : (Jvm.Cond.lays "TicketScales" "TicketScales" "state" "LTicketScales$State;") ∈ lw_all := lw_g (lw_at lw_m1 192 rfl) rfl
theorem q252 : (Jvm.Cond.soleField "TicketScales" "state") ∈ lw_all := lw_g (lw_at lw_m1 193 rfl) rfl
theorem q253 : (Jvm.Cond.laysFinal "TicketScales" "TicketScales" "history" "Ljava/util/ArrayDeque;") ∈ lw_all := lw_g (lw_at lw_m1 194 rfl) rfl
theorem q254 : (Jvm.Cond.soleField "TicketScales" "history") ∈ lw_all := lw_g (lw_at lw_m1 195 rfl) rfl
theorem q255 : (Jvm.Cond.laysFinal "TicketScales" "TicketScales" "text" "Ljava/lang/StringBuilder;") ∈ lw_all := lw_g (lw_at lw_m1 196 rfl) rfl
theorem q256 : (Jvm.Cond.soleField "TicketScales" "text") ∈ lw_all := lw_g (lw_at lw_m1 197 rfl) rfl
theorem q257 : (Jvm.Cond.laysFinal "TicketScales" "TicketScales" "failure" "[I") ∈ lw_all := lw_g (lw_at lw_m1 198 rfl) rfl
theorem q258 : (Jvm.Cond.soleField "TicketScales" "failure") ∈ lw_all := lw_g (lw_at lw_m1 199 rfl) rfl
theorem q259 : (Jvm.Cond.superclass "TicketScales" "java/lang/Object") ∈ lw_all := lw_g (lw_at lw_m1 200 rfl) rfl
theorem q261 : (Jvm.Cond.instanceMethod ({ cls := "TicketScales", name := "setKind", desc := "(III)I" } : Jvm.MethodName)) ∈ lw_all := lw_g (lw_at lw_m1 202 rfl) rfl
theorem q262 : (Jvm.Cond.selects "TicketScales" ({ cls := "TicketScales", name := "setKind", desc := "(III)I" } : Jvm.MethodName) ({ cls := "TicketScales", name := "setKind", desc := "(III)I" } : Jvm.MethodName)) ∈ lw_all := lw_g (lw_at lw_m1 203 rfl) rfl
theorem q263 : (Jvm.Cond.code ({ cls := "TicketScales", name := "setKind", desc := "(III)I" } : Jvm.MethodName) prog_1_method_8_code (4 : Nat) (Option.some Jvm.ClassFile.FieldType.int)) ∈ lw_all := lw_g (lw_at lw_m1 204 rfl) rfl
theorem q264 : (Jvm.Cond.static ({ cls := "TicketScales", name := "lambda$setKind$0", desc := "(IIILTicketScales$Counter;)I" } : Jvm.MethodName)) ∈ lw_all := lw_g (lw_at lw_m1 205 rfl) rfl
theorem q265 : (Jvm.Cond.code ({ cls := "TicketScales", name := "lambda$setKind$0", desc := "(IIILTicketScales$Counter;)I" } : Jvm.MethodName) prog_1_method_63_code (4 : Nat) (Option.some Jvm.ClassFile.FieldType.int)) ∈ lw_all := lw_g (lw_at lw_m1 206 rfl) rfl
theorem q266 : (Jvm.Cond.methodLink "TicketScales" (348 : Nat) ({ cls := "TicketScales$Counter", name := "setKind", desc := "(III)I" } : Jvm.MethodName)) ∈ lw_all := lw_g (lw_at lw_m1 207 rfl) rfl
theorem q271 : (Jvm.Cond.static ({ cls := "TicketScales", name := "isBetween", desc := "(III)Z" } : Jvm.MethodName)) ∈ lw_all := lw_g (lw_at lw_m1 212 rfl) rfl
theorem q272 : (Jvm.Cond.code ({ cls := "TicketScales", name := "isBetween", desc := "(III)Z" } : Jvm.MethodName) prog_1_method_1_code (3 : Nat) (Option.some Jvm.ClassFile.FieldType.boolean)) ∈ lw_all := lw_g (lw_at lw_m1 213 rfl) rfl
theorem q274 : (Jvm.Cond.methodLink "TicketScales" (85 : Nat) ({ cls := "TicketScales", name := "act", desc := "(LTicketScales$Call;)I" } : Jvm.MethodName)) ∈ lw_all := lw_g (lw_at lw_m1 215 rfl) rfl
theorem q275 : (Jvm.Cond.privateMethod ({ cls := "TicketScales", name := "act", desc := "(LTicketScales$Call;)I" } : Jvm.MethodName)) ∈ lw_tbl := lw_at lw_m1 216 rfl
theorem q276 : (Jvm.Cond.instanceMethod ({ cls := "TicketScales", name := "act", desc := "(LTicketScales$Call;)I" } : Jvm.MethodName)) ∈ lw_all := lw_g (lw_at lw_m1 217 rfl) rfl
theorem q277 : (Jvm.Cond.code ({ cls := "TicketScales", name := "act", desc := "(LTicketScales$Call;)I" } : Jvm.MethodName) prog_1_method_7_code (4 : Nat) (Option.some Jvm.ClassFile.FieldType.int)) ∈ lw_all := lw_g (lw_at lw_m1 218 rfl) rfl
theorem q278 : (Jvm.Cond.methodLink "TicketScales" (64 : Nat) ({ cls := "TicketScales$State", name := "copy", desc := "()LTicketScales$State;" } : Jvm.MethodName)) ∈ lw_all := lw_g (lw_at lw_m1 219 rfl) rfl
theorem q357 : (Jvm.Cond.fieldLinkNest "TicketScales" (239 : Nat) "TicketScales$Customer" "points" "I" "TicketScales") ∈ lw_tbl := lw_at lw_m2 58 rfl
theorem q360 : (Jvm.Cond.fieldLinkNest "TicketScales" (184 : Nat) "TicketScales$Customer" "kept" "LTicketScales$Weighing;" "TicketScales") ∈ lw_tbl := lw_at lw_m2 61 rfl
theorem q403 : (Jvm.Cond.selects "TicketScales" ({ cls := "java/lang/Object", name := "getClass", desc := "()Ljava/lang/Class;" } : Jvm.MethodName) ({ cls := "java/lang/Object", name := "getClass", desc := "()Ljava/lang/Class;" } : Jvm.MethodName)) ∈ lw_all := lw_g (lw_at lw_m2 104 rfl) rfl
theorem q451 : (Jvm.Cond.fieldLinkNest "TicketScales" (298 : Nat) "TicketScales$Prize" "price" "I" "TicketScales") ∈ lw_tbl := lw_at lw_m2 152 rfl
theorem q453 : (Jvm.Cond.fieldLinkNest "TicketScales" (307 : Nat) "TicketScales$Prize" "weight" "I" "TicketScales") ∈ lw_tbl := lw_at lw_m2 154 rfl
theorem q456 : (Jvm.Cond.fieldLinkNest "TicketScales" (193 : Nat) "TicketScales$Prize" "stock" "I" "TicketScales") ∈ lw_tbl := lw_at lw_m2 157 rfl
theorem q478 : (Jvm.Cond.interfaceEntry "TicketScales" (68 : Nat)) ∈ lw_tbl := lw_at lw_m2 179 rfl
theorem q479 : (Jvm.Cond.methodLink "TicketScales" (68 : Nat) ({ cls := "TicketScales$Call", name := "on", desc := "(LTicketScales$Counter;)I" } : Jvm.MethodName)) ∈ lw_all := lw_g (lw_at lw_m2 180 rfl) rfl
theorem q482 : (Jvm.Cond.methodLink "TicketScales" (74 : Nat) ({ cls := "TicketScales", name := "isError", desc := "(I)Z" } : Jvm.MethodName)) ∈ lw_all := lw_g (lw_at lw_m2 183 rfl) rfl
theorem q483 : (Jvm.Cond.static ({ cls := "TicketScales", name := "isError", desc := "(I)Z" } : Jvm.MethodName)) ∈ lw_all := lw_g (lw_at lw_m2 184 rfl) rfl
theorem q484 : (Jvm.Cond.code ({ cls := "TicketScales", name := "isError", desc := "(I)Z" } : Jvm.MethodName) prog_1_method_2_code (1 : Nat) (Option.some Jvm.ClassFile.FieldType.boolean)) ∈ lw_all := lw_g (lw_at lw_m2 185 rfl) rfl
theorem q485 : (Jvm.Cond.constant "TicketScales" (3 : Nat) (-100001 : Int32)) ∈ lw_all := lw_g (lw_at lw_m2 186 rfl) rfl
theorem q486 : (Jvm.Cond.constant "TicketScales" (4 : Nat) (-100002 : Int32)) ∈ lw_all := lw_g (lw_at lw_m2 187 rfl) rfl
theorem q487 : (Jvm.Cond.constant "TicketScales" (5 : Nat) (-100003 : Int32)) ∈ lw_all := lw_g (lw_at lw_m2 188 rfl) rfl
theorem q488 : (Jvm.Cond.methodLink "TicketScales" (78 : Nat) ({ cls := "TicketScales", name := "replace", desc := "(LTicketScales$State;)V" } : Jvm.MethodName)) ∈ lw_all := lw_g (lw_at lw_m2 189 rfl) rfl
theorem q489 : (Jvm.Cond.privateMethod ({ cls := "TicketScales", name := "replace", desc := "(LTicketScales$State;)V" } : Jvm.MethodName)) ∈ lw_tbl := lw_at lw_m2 190 rfl
theorem q490 : (Jvm.Cond.instanceMethod ({ cls := "TicketScales", name := "replace", desc := "(LTicketScales$State;)V" } : Jvm.MethodName)) ∈ lw_all := lw_g (lw_at lw_m2 191 rfl) rfl
theorem q491 : (Jvm.Cond.code ({ cls := "TicketScales", name := "replace", desc := "(LTicketScales$State;)V" } : Jvm.MethodName) prog_1_method_6_code (3 : Nat) (Option.none : Option Jvm.ClassFile.FieldType)) ∈ lw_all := lw_g (lw_at lw_m2 192 rfl) rfl
theorem q492 : (Jvm.Cond.methodLink "TicketScales" (52 : Nat) ({ cls := "java/util/ArrayDeque", name := "size", desc := "()I" } : Jvm.MethodName)) ∈ lw_all := lw_g (lw_at lw_m2 193 rfl) rfl
theorem q499 : (Jvm.Cond.methodLink "TicketScales" (56 : Nat) ({ cls := "java/util/ArrayDeque", name := "removeFirst", desc := "()Ljava/lang/Object;" } : Jvm.MethodName)) ∈ lw_all := lw_g (lw_at lw_m2 200 rfl) rfl
theorem q513 : (Jvm.Cond.methodLink "TicketScales" (60 : Nat) ({ cls := "java/util/ArrayDeque", name := "addLast", desc := "(Ljava/lang/Object;)V" } : Jvm.MethodName)) ∈ lw_all := lw_g (lw_at lw_m2 214 rfl) rfl
theorem q530 : (Jvm.Cond.instanceMethod ({ cls := "TicketScales", name := "setScale", desc := "(II)I" } : Jvm.MethodName)) ∈ lw_all := lw_g (lw_at lw_m2 231 rfl) rfl
theorem q531 : (Jvm.Cond.selects "TicketScales" ({ cls := "TicketScales", name := "setScale", desc := "(II)I" } : Jvm.MethodName) ({ cls := "TicketScales", name := "setScale", desc := "(II)I" } : Jvm.MethodName)) ∈ lw_all := lw_g (lw_at lw_m2 232 rfl) rfl
theorem q532 : (Jvm.Cond.code ({ cls := "TicketScales", name := "setScale", desc := "(II)I" } : Jvm.MethodName) prog_1_method_9_code (3 : Nat) (Option.some Jvm.ClassFile.FieldType.int)) ∈ lw_all := lw_g (lw_at lw_m2 233 rfl) rfl
theorem q533 : (Jvm.Cond.static ({ cls := "TicketScales", name := "lambda$setScale$1", desc := "(IILTicketScales$Counter;)I" } : Jvm.MethodName)) ∈ lw_all := lw_g (lw_at lw_m2 234 rfl) rfl
theorem q534 : (Jvm.Cond.code ({ cls := "TicketScales", name := "lambda$setScale$1", desc := "(IILTicketScales$Counter;)I" } : Jvm.MethodName) prog_1_method_62_code (3 : Nat) (Option.some Jvm.ClassFile.FieldType.int)) ∈ lw_all := lw_g (lw_at lw_m2 235 rfl) rfl
theorem q535 : (Jvm.Cond.methodLink "TicketScales" (345 : Nat) ({ cls := "TicketScales$Counter", name := "setScale", desc := "(II)I" } : Jvm.MethodName)) ∈ lw_all := lw_g (lw_at lw_m2 236 rfl) rfl
theorem q542 : (Jvm.Cond.instanceMethod ({ cls := "TicketScales", name := "setBias", desc := "(I)I" } : Jvm.MethodName)) ∈ lw_all := lw_g (lw_at lw_m3 3 rfl) rfl
theorem q543 : (Jvm.Cond.selects "TicketScales" ({ cls := "TicketScales", name := "setBias", desc := "(I)I" } : Jvm.MethodName) ({ cls := "TicketScales", name := "setBias", desc := "(I)I" } : Jvm.MethodName)) ∈ lw_all := lw_g (lw_at lw_m3 4 rfl) rfl
theorem q544 : (Jvm.Cond.code ({ cls := "TicketScales", name := "setBias", desc := "(I)I" } : Jvm.MethodName) prog_1_method_10_code (2 : Nat) (Option.some Jvm.ClassFile.FieldType.int)) ∈ lw_all := lw_g (lw_at lw_m3 5 rfl) rfl
theorem q545 : (Jvm.Cond.static ({ cls := "TicketScales", name := "lambda$setBias$2", desc := "(ILTicketScales$Counter;)I" } : Jvm.MethodName)) ∈ lw_all := lw_g (lw_at lw_m3 6 rfl) rfl
theorem q546 : (Jvm.Cond.code ({ cls := "TicketScales", name := "lambda$setBias$2", desc := "(ILTicketScales$Counter;)I" } : Jvm.MethodName) prog_1_method_61_code (2 : Nat) (Option.some Jvm.ClassFile.FieldType.int)) ∈ lw_all := lw_g (lw_at lw_m3 7 rfl) rfl
theorem q547 : (Jvm.Cond.methodLink "TicketScales" (342 : Nat) ({ cls := "TicketScales$Counter", name := "setBias", desc := "(I)I" } : Jvm.MethodName)) ∈ lw_all := lw_g (lw_at lw_m3 8 rfl) rfl
theorem q552 : (Jvm.Cond.instanceMethod ({ cls := "TicketScales", name := "setRule", desc := "(I)I" } : Jvm.MethodName)) ∈ lw_all := lw_g (lw_at lw_m3 13 rfl) rfl
theorem q553 : (Jvm.Cond.selects "TicketScales" ({ cls := "TicketScales", name := "setRule", desc := "(I)I" } : Jvm.MethodName) ({ cls := "TicketScales", name := "setRule", desc := "(I)I" } : Jvm.MethodName)) ∈ lw_all := lw_g (lw_at lw_m3 14 rfl) rfl
theorem q554 : (Jvm.Cond.code ({ cls := "TicketScales", name := "setRule", desc := "(I)I" } : Jvm.MethodName) prog_1_method_11_code (2 : Nat) (Option.some Jvm.ClassFile.FieldType.int)) ∈ lw_all := lw_g (lw_at lw_m3 15 rfl) rfl
theorem q555 : (Jvm.Cond.static ({ cls := "TicketScales", name := "lambda$setRule$3", desc := "(ILTicketScales$Counter;)I" } : Jvm.MethodName)) ∈ lw_all := lw_g (lw_at lw_m3 16 rfl) rfl
theorem q556 : (Jvm.Cond.code ({ cls := "TicketScales", name := "lambda$setRule$3", desc := "(ILTicketScales$Counter;)I" } : Jvm.MethodName) prog_1_method_60_code (2 : Nat) (Option.some Jvm.ClassFile.FieldType.int)) ∈ lw_all := lw_g (lw_at lw_m3 17 rfl) rfl
theorem q557 : (Jvm.Cond.methodLink "TicketScales" (339 : Nat) ({ cls := "TicketScales$Counter", name := "setRule", desc := "(I)I" } : Jvm.MethodName)) ∈ lw_all := lw_g (lw_at lw_m3 18 rfl) rfl
theorem q562 : (Jvm.Cond.instanceMethod ({ cls := "TicketScales", name := "setFee", desc := "(I)I" } : Jvm.MethodName)) ∈ lw_all := lw_g (lw_at lw_m3 23 rfl) rfl
theorem q563 : (Jvm.Cond.selects "TicketScales" ({ cls := "TicketScales", name := "setFee", desc := "(I)I" } : Jvm.MethodName) ({ cls := "TicketScales", name := "setFee", desc := "(I)I" } : Jvm.MethodName)) ∈ lw_all := lw_g (lw_at lw_m3 24 rfl) rfl
theorem q564 : (Jvm.Cond.code ({ cls := "TicketScales", name := "setFee", desc := "(I)I" } : Jvm.MethodName) prog_1_method_12_code (2 : Nat) (Option.some Jvm.ClassFile.FieldType.int)) ∈ lw_all := lw_g (lw_at lw_m3 25 rfl) rfl
theorem q565 : (Jvm.Cond.static ({ cls := "TicketScales", name := "lambda$setFee$4", desc := "(ILTicketScales$Counter;)I" } : Jvm.MethodName)) ∈ lw_all := lw_g (lw_at lw_m3 26 rfl) rfl
theorem q566 : (Jvm.Cond.code ({ cls := "TicketScales", name := "lambda$setFee$4", desc := "(ILTicketScales$Counter;)I" } : Jvm.MethodName) prog_1_method_59_code (2 : Nat) (Option.some Jvm.ClassFile.FieldType.int)) ∈ lw_all := lw_g (lw_at lw_m3 27 rfl) rfl
theorem q567 : (Jvm.Cond.methodLink "TicketScales" (336 : Nat) ({ cls := "TicketScales$Counter", name := "setFee", desc := "(I)I" } : Jvm.MethodName)) ∈ lw_all := lw_g (lw_at lw_m3 28 rfl) rfl
theorem q572 : (Jvm.Cond.instanceMethod ({ cls := "TicketScales", name := "come", desc := "(I)I" } : Jvm.MethodName)) ∈ lw_all := lw_g (lw_at lw_m3 33 rfl) rfl
theorem q573 : (Jvm.Cond.selects "TicketScales" ({ cls := "TicketScales", name := "come", desc := "(I)I" } : Jvm.MethodName) ({ cls := "TicketScales", name := "come", desc := "(I)I" } : Jvm.MethodName)) ∈ lw_all := lw_g (lw_at lw_m3 34 rfl) rfl
theorem q574 : (Jvm.Cond.code ({ cls := "TicketScales", name := "come", desc := "(I)I" } : Jvm.MethodName) prog_1_method_13_code (2 : Nat) (Option.some Jvm.ClassFile.FieldType.int)) ∈ lw_all := lw_g (lw_at lw_m3 35 rfl) rfl
theorem q575 : (Jvm.Cond.static ({ cls := "TicketScales", name := "lambda$come$5", desc := "(ILTicketScales$Counter;)I" } : Jvm.MethodName)) ∈ lw_all := lw_g (lw_at lw_m3 36 rfl) rfl
theorem q576 : (Jvm.Cond.code ({ cls := "TicketScales", name := "lambda$come$5", desc := "(ILTicketScales$Counter;)I" } : Jvm.MethodName) prog_1_method_58_code (2 : Nat) (Option.some Jvm.ClassFile.FieldType.int)) ∈ lw_all := lw_g (lw_at lw_m3 37 rfl) rfl
theorem q577 : (Jvm.Cond.methodLink "TicketScales" (333 : Nat) ({ cls := "TicketScales$Counter", name := "come", desc := "(I)I" } : Jvm.MethodName)) ∈ lw_all := lw_g (lw_at lw_m3 38 rfl) rfl
theorem q593 : (Jvm.Cond.instanceMethod ({ cls := "TicketScales", name := "leave", desc := "(I)I" } : Jvm.MethodName)) ∈ lw_all := lw_g (lw_at lw_m3 54 rfl) rfl
theorem q594 : (Jvm.Cond.selects "TicketScales" ({ cls := "TicketScales", name := "leave", desc := "(I)I" } : Jvm.MethodName) ({ cls := "TicketScales", name := "leave", desc := "(I)I" } : Jvm.MethodName)) ∈ lw_all := lw_g (lw_at lw_m3 55 rfl) rfl
theorem q595 : (Jvm.Cond.code ({ cls := "TicketScales", name := "leave", desc := "(I)I" } : Jvm.MethodName) prog_1_method_14_code (2 : Nat) (Option.some Jvm.ClassFile.FieldType.int)) ∈ lw_all := lw_g (lw_at lw_m3 56 rfl) rfl
theorem q596 : (Jvm.Cond.static ({ cls := "TicketScales", name := "lambda$leave$6", desc := "(ILTicketScales$Counter;)I" } : Jvm.MethodName)) ∈ lw_all := lw_g (lw_at lw_m3 57 rfl) rfl
theorem q597 : (Jvm.Cond.code ({ cls := "TicketScales", name := "lambda$leave$6", desc := "(ILTicketScales$Counter;)I" } : Jvm.MethodName) prog_1_method_57_code (2 : Nat) (Option.some Jvm.ClassFile.FieldType.int)) ∈ lw_all := lw_g (lw_at lw_m3 58 rfl) rfl
theorem q598 : (Jvm.Cond.methodLink "TicketScales" (330 : Nat) ({ cls := "TicketScales$Counter", name := "leave", desc := "(I)I" } : Jvm.MethodName)) ∈ lw_all := lw_g (lw_at lw_m3 59 rfl) rfl
theorem q627 : (Jvm.Cond.instanceMethod ({ cls := "TicketScales", name := "weigh", desc := "(IIII)I" } : Jvm.MethodName)) ∈ lw_all := lw_g (lw_at lw_m3 88 rfl) rfl
theorem q628 : (Jvm.Cond.selects "TicketScales" ({ cls := "TicketScales", name := "weigh", desc := "(IIII)I" } : Jvm.MethodName) ({ cls := "TicketScales", name := "weigh", desc := "(IIII)I" } : Jvm.MethodName)) ∈ lw_all := lw_g (lw_at lw_m3 89 rfl) rfl
theorem q629 : (Jvm.Cond.code ({ cls := "TicketScales", name := "weigh", desc := "(IIII)I" } : Jvm.MethodName) prog_1_method_15_code (5 : Nat) (Option.some Jvm.ClassFile.FieldType.int)) ∈ lw_all := lw_g (lw_at lw_m3 90 rfl) rfl
theorem q630 : (Jvm.Cond.static ({ cls := "TicketScales", name := "lambda$weigh$7", desc := "(IIIILTicketScales$Counter;)I" } : Jvm.MethodName)) ∈ lw_all := lw_g (lw_at lw_m3 91 rfl) rfl
theorem q631 : (Jvm.Cond.code ({ cls := "TicketScales", name := "lambda$weigh$7", desc := "(IIIILTicketScales$Counter;)I" } : Jvm.MethodName) prog_1_method_56_code (5 : Nat) (Option.some Jvm.ClassFile.FieldType.int)) ∈ lw_all := lw_g (lw_at lw_m3 92 rfl) rfl
theorem q632 : (Jvm.Cond.methodLink "TicketScales" (326 : Nat) ({ cls := "TicketScales$Counter", name := "weigh", desc := "(IIII)I" } : Jvm.MethodName)) ∈ lw_all := lw_g (lw_at lw_m3 93 rfl) rfl
theorem q652 : (Jvm.Cond.laysStatic "TicketScales" "GUESSES" "[LTicketScales$Guess;") ∈ lw_tbl := lw_at lw_m3 113 rfl
theorem q666 : (Jvm.Cond.fieldLinkNest "TicketScales" (265 : Nat) "TicketScales$Range" "least" "I" "TicketScales") ∈ lw_tbl := lw_at lw_m3 127 rfl
theorem q670 : (Jvm.Cond.fieldLinkNest "TicketScales" (268 : Nat) "TicketScales$Range" "greatest" "I" "TicketScales") ∈ lw_tbl := lw_at lw_m3 131 rfl
theorem q677 : (Jvm.Cond.static ({ cls := "TicketScales", name := "up", desc := "(II)I" } : Jvm.MethodName)) ∈ lw_all := lw_g (lw_at lw_m3 138 rfl) rfl
theorem q678 : (Jvm.Cond.code ({ cls := "TicketScales", name := "up", desc := "(II)I" } : Jvm.MethodName) prog_1_method_3_code (2 : Nat) (Option.some Jvm.ClassFile.FieldType.int)) ∈ lw_all := lw_g (lw_at lw_m3 139 rfl) rfl
theorem q679 : (Jvm.Cond.methodLink "TicketScales" (6 : Nat) ({ cls := "java/lang/Math", name := "floorDiv", desc := "(II)I" } : Jvm.MethodName)) ∈ lw_all := lw_g (lw_at lw_m3 140 rfl) rfl
theorem q780 : (Jvm.Cond.instanceMethod ({ cls := "TicketScales", name := "claim", desc := "(II)I" } : Jvm.MethodName)) ∈ lw_all := lw_g (lw_at lw_m4 1 rfl) rfl
theorem q781 : (Jvm.Cond.selects "TicketScales" ({ cls := "TicketScales", name := "claim", desc := "(II)I" } : Jvm.MethodName) ({ cls := "TicketScales", name := "claim", desc := "(II)I" } : Jvm.MethodName)) ∈ lw_all := lw_g (lw_at lw_m4 2 rfl) rfl
theorem q782 : (Jvm.Cond.code ({ cls := "TicketScales", name := "claim", desc := "(II)I" } : Jvm.MethodName) prog_1_method_16_code (3 : Nat) (Option.some Jvm.ClassFile.FieldType.int)) ∈ lw_all := lw_g (lw_at lw_m4 3 rfl) rfl
theorem q783 : (Jvm.Cond.static ({ cls := "TicketScales", name := "lambda$claim$8", desc := "(IILTicketScales$Counter;)I" } : Jvm.MethodName)) ∈ lw_all := lw_g (lw_at lw_m4 4 rfl) rfl
theorem q784 : (Jvm.Cond.code ({ cls := "TicketScales", name := "lambda$claim$8", desc := "(IILTicketScales$Counter;)I" } : Jvm.MethodName) prog_1_method_55_code (3 : Nat) (Option.some Jvm.ClassFile.FieldType.int)) ∈ lw_all := lw_g (lw_at lw_m4 5 rfl) rfl
theorem q785 : (Jvm.Cond.methodLink "TicketScales" (323 : Nat) ({ cls := "TicketScales$Counter", name := "claim", desc := "(II)I" } : Jvm.MethodName)) ∈ lw_all := lw_g (lw_at lw_m4 6 rfl) rfl
theorem q799 : (Jvm.Cond.instanceMethod ({ cls := "TicketScales", name := "addPrize", desc := "(IIIII)I" } : Jvm.MethodName)) ∈ lw_all := lw_g (lw_at lw_m4 20 rfl) rfl
theorem q800 : (Jvm.Cond.selects "TicketScales" ({ cls := "TicketScales", name := "addPrize", desc := "(IIIII)I" } : Jvm.MethodName) ({ cls := "TicketScales", name := "addPrize", desc := "(IIIII)I" } : Jvm.MethodName)) ∈ lw_all := lw_g (lw_at lw_m4 21 rfl) rfl
theorem q801 : (Jvm.Cond.code ({ cls := "TicketScales", name := "addPrize", desc := "(IIIII)I" } : Jvm.MethodName) prog_1_method_17_code (6 : Nat) (Option.some Jvm.ClassFile.FieldType.int)) ∈ lw_all := lw_g (lw_at lw_m4 22 rfl) rfl
theorem q802 : (Jvm.Cond.static ({ cls := "TicketScales", name := "lambda$addPrize$9", desc := "(IIIIILTicketScales$Counter;)I" } : Jvm.MethodName)) ∈ lw_all := lw_g (lw_at lw_m4 23 rfl) rfl
theorem q803 : (Jvm.Cond.code ({ cls := "TicketScales", name := "lambda$addPrize$9", desc := "(IIIIILTicketScales$Counter;)I" } : Jvm.MethodName) prog_1_method_54_code (6 : Nat) (Option.some Jvm.ClassFile.FieldType.int)) ∈ lw_all := lw_g (lw_at lw_m4 24 rfl) rfl
theorem q804 : (Jvm.Cond.methodLink "TicketScales" (319 : Nat) ({ cls := "TicketScales$Counter", name := "addPrize", desc := "(IIIII)I" } : Jvm.MethodName)) ∈ lw_all := lw_g (lw_at lw_m4 25 rfl) rfl
theorem q811 : (Jvm.Cond.instanceMethod ({ cls := "TicketScales", name := "removePrize", desc := "(I)I" } : Jvm.MethodName)) ∈ lw_all := lw_g (lw_at lw_m4 32 rfl) rfl
theorem q812 : (Jvm.Cond.selects "TicketScales" ({ cls := "TicketScales", name := "removePrize", desc := "(I)I" } : Jvm.MethodName) ({ cls := "TicketScales", name := "removePrize", desc := "(I)I" } : Jvm.MethodName)) ∈ lw_all := lw_g (lw_at lw_m4 33 rfl) rfl
theorem q813 : (Jvm.Cond.code ({ cls := "TicketScales", name := "removePrize", desc := "(I)I" } : Jvm.MethodName) prog_1_method_18_code (2 : Nat) (Option.some Jvm.ClassFile.FieldType.int)) ∈ lw_all := lw_g (lw_at lw_m4 34 rfl) rfl
theorem q814 : (Jvm.Cond.static ({ cls := "TicketScales", name := "lambda$removePrize$10", desc := "(ILTicketScales$Counter;)I" } : Jvm.MethodName)) ∈ lw_all := lw_g (lw_at lw_m4 35 rfl) rfl
theorem q815 : (Jvm.Cond.code ({ cls := "TicketScales", name := "lambda$removePrize$10", desc := "(ILTicketScales$Counter;)I" } : Jvm.MethodName) prog_1_method_53_code (2 : Nat) (Option.some Jvm.ClassFile.FieldType.int)) ∈ lw_all := lw_g (lw_at lw_m4 36 rfl) rfl
theorem q816 : (Jvm.Cond.methodLink "TicketScales" (316 : Nat) ({ cls := "TicketScales$Counter", name := "removePrize", desc := "(I)I" } : Jvm.MethodName)) ∈ lw_all := lw_g (lw_at lw_m4 37 rfl) rfl
theorem q825 : (Jvm.Cond.instanceMethod ({ cls := "TicketScales", name := "setPrice", desc := "(II)I" } : Jvm.MethodName)) ∈ lw_all := lw_g (lw_at lw_m4 46 rfl) rfl
theorem q826 : (Jvm.Cond.selects "TicketScales" ({ cls := "TicketScales", name := "setPrice", desc := "(II)I" } : Jvm.MethodName) ({ cls := "TicketScales", name := "setPrice", desc := "(II)I" } : Jvm.MethodName)) ∈ lw_all := lw_g (lw_at lw_m4 47 rfl) rfl
theorem q827 : (Jvm.Cond.code ({ cls := "TicketScales", name := "setPrice", desc := "(II)I" } : Jvm.MethodName) prog_1_method_19_code (3 : Nat) (Option.some Jvm.ClassFile.FieldType.int)) ∈ lw_all := lw_g (lw_at lw_m4 48 rfl) rfl
theorem q828 : (Jvm.Cond.static ({ cls := "TicketScales", name := "lambda$setPrice$11", desc := "(IILTicketScales$Counter;)I" } : Jvm.MethodName)) ∈ lw_all := lw_g (lw_at lw_m4 49 rfl) rfl
theorem q829 : (Jvm.Cond.code ({ cls := "TicketScales", name := "lambda$setPrice$11", desc := "(IILTicketScales$Counter;)I" } : Jvm.MethodName) prog_1_method_52_code (3 : Nat) (Option.some Jvm.ClassFile.FieldType.int)) ∈ lw_all := lw_g (lw_at lw_m4 50 rfl) rfl
theorem q830 : (Jvm.Cond.methodLink "TicketScales" (313 : Nat) ({ cls := "TicketScales$Counter", name := "setPrice", desc := "(II)I" } : Jvm.MethodName)) ∈ lw_all := lw_g (lw_at lw_m4 51 rfl) rfl
theorem q835 : (Jvm.Cond.instanceMethod ({ cls := "TicketScales", name := "buy", desc := "(III)I" } : Jvm.MethodName)) ∈ lw_all := lw_g (lw_at lw_m4 56 rfl) rfl
theorem q836 : (Jvm.Cond.selects "TicketScales" ({ cls := "TicketScales", name := "buy", desc := "(III)I" } : Jvm.MethodName) ({ cls := "TicketScales", name := "buy", desc := "(III)I" } : Jvm.MethodName)) ∈ lw_all := lw_g (lw_at lw_m4 57 rfl) rfl
theorem q837 : (Jvm.Cond.code ({ cls := "TicketScales", name := "buy", desc := "(III)I" } : Jvm.MethodName) prog_1_method_20_code (4 : Nat) (Option.some Jvm.ClassFile.FieldType.int)) ∈ lw_all := lw_g (lw_at lw_m4 58 rfl) rfl
theorem q838 : (Jvm.Cond.static ({ cls := "TicketScales", name := "lambda$buy$12", desc := "(IIILTicketScales$Counter;)I" } : Jvm.MethodName)) ∈ lw_all := lw_g (lw_at lw_m4 59 rfl) rfl
theorem q839 : (Jvm.Cond.code ({ cls := "TicketScales", name := "lambda$buy$12", desc := "(IIILTicketScales$Counter;)I" } : Jvm.MethodName) prog_1_method_51_code (4 : Nat) (Option.some Jvm.ClassFile.FieldType.int)) ∈ lw_all := lw_g (lw_at lw_m4 60 rfl) rfl
theorem q840 : (Jvm.Cond.methodLink "TicketScales" (310 : Nat) ({ cls := "TicketScales$Counter", name := "buy", desc := "(III)I" } : Jvm.MethodName)) ∈ lw_all := lw_g (lw_at lw_m4 61 rfl) rfl
theorem q853 : (Jvm.Cond.instanceMethod ({ cls := "TicketScales", name := "take", desc := "(I)I" } : Jvm.MethodName)) ∈ lw_all := lw_g (lw_at lw_m4 74 rfl) rfl
theorem q854 : (Jvm.Cond.selects "TicketScales" ({ cls := "TicketScales", name := "take", desc := "(I)I" } : Jvm.MethodName) ({ cls := "TicketScales", name := "take", desc := "(I)I" } : Jvm.MethodName)) ∈ lw_all := lw_g (lw_at lw_m4 75 rfl) rfl
theorem q855 : (Jvm.Cond.code ({ cls := "TicketScales", name := "take", desc := "(I)I" } : Jvm.MethodName) prog_1_method_22_code (2 : Nat) (Option.some Jvm.ClassFile.FieldType.int)) ∈ lw_all := lw_g (lw_at lw_m4 76 rfl) rfl
theorem q856 : (Jvm.Cond.methodLink "TicketScales" (113 : Nat) ({ cls := "TicketScales", name := "isSlot", desc := "(I)Z" } : Jvm.MethodName)) ∈ lw_all := lw_g (lw_at lw_m4 77 rfl) rfl
theorem q857 : (Jvm.Cond.static ({ cls := "TicketScales", name := "isSlot", desc := "(I)Z" } : Jvm.MethodName)) ∈ lw_all := lw_g (lw_at lw_m4 78 rfl) rfl
theorem q858 : (Jvm.Cond.code ({ cls := "TicketScales", name := "isSlot", desc := "(I)Z" } : Jvm.MethodName) prog_1_method_21_code (1 : Nat) (Option.some Jvm.ClassFile.FieldType.boolean)) ∈ lw_all := lw_g (lw_at lw_m4 79 rfl) rfl
theorem q859 : (Jvm.Cond.methodLink "TicketScales" (109 : Nat) ({ cls := "TicketScales", name := "isBetween", desc := "(III)Z" } : Jvm.MethodName)) ∈ lw_all := lw_g (lw_at lw_m4 80 rfl) rfl
theorem q860 : (Jvm.Cond.methodLink "TicketScales" (120 : Nat) ({ cls := "TicketScales", name := "counter", desc := "()LTicketScales$Counter;" } : Jvm.MethodName)) ∈ lw_all := lw_g (lw_at lw_m4 81 rfl) rfl
theorem q861 : (Jvm.Cond.privateMethod ({ cls := "TicketScales", name := "counter", desc := "()LTicketScales$Counter;" } : Jvm.MethodName)) ∈ lw_tbl := lw_at lw_m4 82 rfl
theorem q862 : (Jvm.Cond.instanceMethod ({ cls := "TicketScales", name := "counter", desc := "()LTicketScales$Counter;" } : Jvm.MethodName)) ∈ lw_all := lw_g (lw_at lw_m4 83 rfl) rfl
theorem q863 : (Jvm.Cond.code ({ cls := "TicketScales", name := "counter", desc := "()LTicketScales$Counter;" } : Jvm.MethodName) prog_1_method_5_code (1 : Nat) (Option.some (Jvm.ClassFile.FieldType.object "TicketScales$Counter"))) ∈ lw_all := lw_g (lw_at lw_m4 84 rfl) rfl
theorem q864 : (Jvm.Cond.methodLink "TicketScales" (123 : Nat) ({ cls := "TicketScales$Counter", name := "copy", desc := "()LTicketScales$Counter;" } : Jvm.MethodName)) ∈ lw_all := lw_g (lw_at lw_m4 85 rfl) rfl
theorem q865 : (Jvm.Cond.methodLink "TicketScales" (125 : Nat) ({ cls := "TicketScales$Counter", name := "points", desc := "()I" } : Jvm.MethodName)) ∈ lw_all := lw_g (lw_at lw_m4 86 rfl) rfl
theorem q870 : (Jvm.Cond.instanceMethod ({ cls := "TicketScales", name := "restore", desc := "(I)I" } : Jvm.MethodName)) ∈ lw_all := lw_g (lw_at lw_m4 91 rfl) rfl
theorem q871 : (Jvm.Cond.selects "TicketScales" ({ cls := "TicketScales", name := "restore", desc := "(I)I" } : Jvm.MethodName) ({ cls := "TicketScales", name := "restore", desc := "(I)I" } : Jvm.MethodName)) ∈ lw_all := lw_g (lw_at lw_m4 92 rfl) rfl
theorem q872 : (Jvm.Cond.code ({ cls := "TicketScales", name := "restore", desc := "(I)I" } : Jvm.MethodName) prog_1_method_23_code (2 : Nat) (Option.some Jvm.ClassFile.FieldType.int)) ∈ lw_all := lw_g (lw_at lw_m4 93 rfl) rfl
theorem q874 : (Jvm.Cond.instanceMethod ({ cls := "TicketScales", name := "undo", desc := "()I" } : Jvm.MethodName)) ∈ lw_all := lw_g (lw_at lw_m4 95 rfl) rfl
theorem q875 : (Jvm.Cond.selects "TicketScales" ({ cls := "TicketScales", name := "undo", desc := "()I" } : Jvm.MethodName) ({ cls := "TicketScales", name := "undo", desc := "()I" } : Jvm.MethodName)) ∈ lw_all := lw_g (lw_at lw_m4 96 rfl) rfl
theorem q876 : (Jvm.Cond.code ({ cls := "TicketScales", name := "undo", desc := "()I" } : Jvm.MethodName) prog_1_method_24_code (1 : Nat) (Option.some Jvm.ClassFile.FieldType.int)) ∈ lw_all := lw_g (lw_at lw_m4 97 rfl) rfl
theorem q877 : (Jvm.Cond.methodLink "TicketScales" (128 : Nat) ({ cls := "java/util/ArrayDeque", name := "isEmpty", desc := "()Z" } : Jvm.MethodName)) ∈ lw_all := lw_g (lw_at lw_m4 98 rfl) rfl
theorem q881 : (Jvm.Cond.methodLink "TicketScales" (132 : Nat) ({ cls := "java/util/ArrayDeque", name := "removeLast", desc := "()Ljava/lang/Object;" } : Jvm.MethodName)) ∈ lw_all := lw_g (lw_at lw_m4 102 rfl) rfl
theorem q893 : (Jvm.Cond.instanceMethod ({ cls := "TicketScales", name := "append", desc := "(I)I" } : Jvm.MethodName)) ∈ lw_all := lw_g (lw_at lw_m4 114 rfl) rfl
theorem q894 : (Jvm.Cond.selects "TicketScales" ({ cls := "TicketScales", name := "append", desc := "(I)I" } : Jvm.MethodName) ({ cls := "TicketScales", name := "append", desc := "(I)I" } : Jvm.MethodName)) ∈ lw_all := lw_g (lw_at lw_m4 115 rfl) rfl
theorem q895 : (Jvm.Cond.code ({ cls := "TicketScales", name := "append", desc := "(I)I" } : Jvm.MethodName) prog_1_method_25_code (2 : Nat) (Option.some Jvm.ClassFile.FieldType.int)) ∈ lw_all := lw_g (lw_at lw_m4 116 rfl) rfl
theorem q896 : (Jvm.Cond.methodLink "TicketScales" (135 : Nat) ({ cls := "java/lang/StringBuilder", name := "length", desc := "()I" } : Jvm.MethodName)) ∈ lw_all := lw_g (lw_at lw_m4 117 rfl) rfl
theorem q903 : (Jvm.Cond.methodLink "TicketScales" (138 : Nat) ({ cls := "java/lang/StringBuilder", name := "append", desc := "(C)Ljava/lang/StringBuilder;" } : Jvm.MethodName)) ∈ lw_all := lw_g (lw_at lw_m4 124 rfl) rfl
theorem q982 : (Jvm.Cond.instanceMethod ({ cls := "TicketScales", name := "clearText", desc := "()I" } : Jvm.MethodName)) ∈ lw_all := lw_g (lw_at lw_m4 203 rfl) rfl
theorem q983 : (Jvm.Cond.selects "TicketScales" ({ cls := "TicketScales", name := "clearText", desc := "()I" } : Jvm.MethodName) ({ cls := "TicketScales", name := "clearText", desc := "()I" } : Jvm.MethodName)) ∈ lw_all := lw_g (lw_at lw_m4 204 rfl) rfl
theorem q984 : (Jvm.Cond.code ({ cls := "TicketScales", name := "clearText", desc := "()I" } : Jvm.MethodName) prog_1_method_26_code (2 : Nat) (Option.some Jvm.ClassFile.FieldType.int)) ∈ lw_all := lw_g (lw_at lw_m4 205 rfl) rfl
theorem q985 : (Jvm.Cond.methodLink "TicketScales" (142 : Nat) ({ cls := "java/lang/StringBuilder", name := "setLength", desc := "(I)V" } : Jvm.MethodName)) ∈ lw_all := lw_g (lw_at lw_m4 206 rfl) rfl
theorem q1006 : (Jvm.Cond.instanceMethod ({ cls := "TicketScales", name := "run", desc := "()I" } : Jvm.MethodName)) ∈ lw_all := lw_g (lw_at lw_m4 227 rfl) rfl
theorem q1007 : (Jvm.Cond.selects "TicketScales" ({ cls := "TicketScales", name := "run", desc := "()I" } : Jvm.MethodName) ({ cls := "TicketScales", name := "run", desc := "()I" } : Jvm.MethodName)) ∈ lw_all := lw_g (lw_at lw_m4 228 rfl) rfl
theorem q1008 : (Jvm.Cond.codeWith ({ cls := "TicketScales", name := "run", desc := "()I" } : Jvm.MethodName) prog_1_method_27_code (4 : Nat) (Option.some Jvm.ClassFile.FieldType.int) [((21 : Nat), (25 : Nat), (28 : Nat), (154 : Nat))]) ∈ lw_all := lw_g (lw_at lw_m4 229 rfl) rfl
theorem q1009 : (Jvm.Cond.classLink "TicketScales" (154 : Nat) "TicketScales$FailureException") ∈ lw_all := lw_g (lw_at lw_m4 230 rfl) rfl
theorem q1010 : (Jvm.Cond.classLink "TicketScales" (146 : Nat) "TicketScales$Program") ∈ lw_all := lw_g (lw_at lw_m4 231 rfl) rfl
theorem q1012 : (Jvm.Cond.methodLink "TicketScales" (148 : Nat) ({ cls := "TicketScales$Program", name := "<init>", desc := "(LTicketScales;LTicketScales$Counter;)V" } : Jvm.MethodName)) ∈ lw_all := lw_g (lw_at lw_m4 233 rfl) rfl
theorem q1019 : (Jvm.Cond.fieldLinkNest "TicketScales" (160 : Nat) "TicketScales$Program" "commands" "I" "TicketScales") ∈ lw_tbl := lw_at lw_m5 0 rfl
theorem q1033 : (Jvm.Cond.methodLink "TicketScales" (151 : Nat) ({ cls := "TicketScales$Program", name := "run", desc := "()V" } : Jvm.MethodName)) ∈ lw_all := lw_g (lw_at lw_m5 14 rfl) rfl
theorem q1307 : (Jvm.Cond.fieldLinkNest "TicketScales" (156 : Nat) "TicketScales$FailureException" "place" "I" "TicketScales") ∈ lw_tbl := lw_at lw_m6 48 rfl
theorem q1425 : (Jvm.Cond.instanceMethod ({ cls := "TicketScales", name := "failure", desc := "(I)I" } : Jvm.MethodName)) ∈ lw_all := lw_g (lw_at lw_m6 166 rfl) rfl
theorem q1426 : (Jvm.Cond.selects "TicketScales" ({ cls := "TicketScales", name := "failure", desc := "(I)I" } : Jvm.MethodName) ({ cls := "TicketScales", name := "failure", desc := "(I)I" } : Jvm.MethodName)) ∈ lw_all := lw_g (lw_at lw_m6 167 rfl) rfl
theorem q1427 : (Jvm.Cond.code ({ cls := "TicketScales", name := "failure", desc := "(I)I" } : Jvm.MethodName) prog_1_method_28_code (2 : Nat) (Option.some Jvm.ClassFile.FieldType.int)) ∈ lw_all := lw_g (lw_at lw_m6 168 rfl) rfl
theorem q1428 : (Jvm.Cond.constant "TicketScales" (163 : Nat) (-100009 : Int32)) ∈ lw_all := lw_g (lw_at lw_m6 169 rfl) rfl
theorem q1430 : (Jvm.Cond.instanceMethod ({ cls := "TicketScales", name := "count", desc := "(I)I" } : Jvm.MethodName)) ∈ lw_all := lw_g (lw_at lw_m6 171 rfl) rfl
theorem q1431 : (Jvm.Cond.selects "TicketScales" ({ cls := "TicketScales", name := "count", desc := "(I)I" } : Jvm.MethodName) ({ cls := "TicketScales", name := "count", desc := "(I)I" } : Jvm.MethodName)) ∈ lw_all := lw_g (lw_at lw_m6 172 rfl) rfl
theorem q1432 : (Jvm.Cond.code ({ cls := "TicketScales", name := "count", desc := "(I)I" } : Jvm.MethodName) prog_1_method_32_code (2 : Nat) (Option.some Jvm.ClassFile.FieldType.int)) ∈ lw_all := lw_g (lw_at lw_m6 173 rfl) rfl
theorem q1433 : (Jvm.Cond.interfaceEntry "TicketScales" (211 : Nat)) ∈ lw_tbl := lw_at lw_m6 174 rfl
theorem q1434 : (Jvm.Cond.methodLink "TicketScales" (211 : Nat) ({ cls := "java/util/List", name := "size", desc := "()I" } : Jvm.MethodName)) ∈ lw_all := lw_g (lw_at lw_m6 175 rfl) rfl
theorem q1435 : (Jvm.Cond.methodLink "TicketScales" (212 : Nat) ({ cls := "TicketScales", name := "kept", desc := "()I" } : Jvm.MethodName)) ∈ lw_all := lw_g (lw_at lw_m6 176 rfl) rfl
theorem q1436 : (Jvm.Cond.privateMethod ({ cls := "TicketScales", name := "kept", desc := "()I" } : Jvm.MethodName)) ∈ lw_tbl := lw_at lw_m6 177 rfl
theorem q1437 : (Jvm.Cond.instanceMethod ({ cls := "TicketScales", name := "kept", desc := "()I" } : Jvm.MethodName)) ∈ lw_all := lw_g (lw_at lw_m6 178 rfl) rfl
theorem q1438 : (Jvm.Cond.code ({ cls := "TicketScales", name := "kept", desc := "()I" } : Jvm.MethodName) prog_1_method_29_code (4 : Nat) (Option.some Jvm.ClassFile.FieldType.int)) ∈ lw_all := lw_g (lw_at lw_m6 179 rfl) rfl
theorem q1439 : (Jvm.Cond.interfaceEntry "TicketScales" (168 : Nat)) ∈ lw_tbl := lw_at lw_m6 180 rfl
theorem q1440 : (Jvm.Cond.methodLink "TicketScales" (168 : Nat) ({ cls := "java/util/List", name := "iterator", desc := "()Ljava/util/Iterator;" } : Jvm.MethodName)) ∈ lw_all := lw_g (lw_at lw_m6 181 rfl) rfl
theorem q1441 : (Jvm.Cond.interfaceEntry "TicketScales" (174 : Nat)) ∈ lw_tbl := lw_at lw_m6 182 rfl
theorem q1442 : (Jvm.Cond.methodLink "TicketScales" (174 : Nat) ({ cls := "java/util/Iterator", name := "hasNext", desc := "()Z" } : Jvm.MethodName)) ∈ lw_all := lw_g (lw_at lw_m6 183 rfl) rfl
theorem q1443 : (Jvm.Cond.interfaceEntry "TicketScales" (179 : Nat)) ∈ lw_tbl := lw_at lw_m6 184 rfl
theorem q1444 : (Jvm.Cond.methodLink "TicketScales" (179 : Nat) ({ cls := "java/util/Iterator", name := "next", desc := "()Ljava/lang/Object;" } : Jvm.MethodName)) ∈ lw_all := lw_g (lw_at lw_m6 185 rfl) rfl
theorem q1445 : (Jvm.Cond.classLink "TicketScales" (182 : Nat) "TicketScales$Customer") ∈ lw_all := lw_g (lw_at lw_m6 186 rfl) rfl
theorem q1446 : (Jvm.Cond.methodLink "TicketScales" (217 : Nat) ({ cls := "TicketScales", name := "pieces", desc := "()I" } : Jvm.MethodName)) ∈ lw_all := lw_g (lw_at lw_m6 187 rfl) rfl
theorem q1447 : (Jvm.Cond.privateMethod ({ cls := "TicketScales", name := "pieces", desc := "()I" } : Jvm.MethodName)) ∈ lw_tbl := lw_at lw_m6 188 rfl
theorem q1448 : (Jvm.Cond.instanceMethod ({ cls := "TicketScales", name := "pieces", desc := "()I" } : Jvm.MethodName)) ∈ lw_all := lw_g (lw_at lw_m6 189 rfl) rfl
theorem q1449 : (Jvm.Cond.code ({ cls := "TicketScales", name := "pieces", desc := "()I" } : Jvm.MethodName) prog_1_method_30_code (4 : Nat) (Option.some Jvm.ClassFile.FieldType.int)) ∈ lw_all := lw_g (lw_at lw_m6 190 rfl) rfl
theorem q1450 : (Jvm.Cond.classLink "TicketScales" (191 : Nat) "TicketScales$Prize") ∈ lw_all := lw_g (lw_at lw_m6 191 rfl) rfl
theorem q1451 : (Jvm.Cond.methodLink "TicketScales" (220 : Nat) ({ cls := "TicketScales", name := "snapshots", desc := "()I" } : Jvm.MethodName)) ∈ lw_all := lw_g (lw_at lw_m6 192 rfl) rfl
theorem q1452 : (Jvm.Cond.privateMethod ({ cls := "TicketScales", name := "snapshots", desc := "()I" } : Jvm.MethodName)) ∈ lw_tbl := lw_at lw_m6 193 rfl
theorem q1453 : (Jvm.Cond.instanceMethod ({ cls := "TicketScales", name := "snapshots", desc := "()I" } : Jvm.MethodName)) ∈ lw_all := lw_g (lw_at lw_m6 194 rfl) rfl
theorem q1454 : (Jvm.Cond.code ({ cls := "TicketScales", name := "snapshots", desc := "()I" } : Jvm.MethodName) prog_1_method_31_code (6 : Nat) (Option.some Jvm.ClassFile.FieldType.int)) ∈ lw_all := lw_g (lw_at lw_m6 195 rfl) rfl
theorem q1456 : (Jvm.Cond.instanceMethod ({ cls := "TicketScales", name := "kind", desc := "(II)I" } : Jvm.MethodName)) ∈ lw_all := lw_g (lw_at lw_m6 197 rfl) rfl
theorem q1457 : (Jvm.Cond.selects "TicketScales" ({ cls := "TicketScales", name := "kind", desc := "(II)I" } : Jvm.MethodName) ({ cls := "TicketScales", name := "kind", desc := "(II)I" } : Jvm.MethodName)) ∈ lw_all := lw_g (lw_at lw_m6 198 rfl) rfl
theorem q1458 : (Jvm.Cond.code ({ cls := "TicketScales", name := "kind", desc := "(II)I" } : Jvm.MethodName) prog_1_method_34_code (3 : Nat) (Option.some Jvm.ClassFile.FieldType.int)) ∈ lw_all := lw_g (lw_at lw_m6 199 rfl) rfl
theorem q1459 : (Jvm.Cond.methodLink "TicketScales" (223 : Nat) ({ cls := "TicketScales", name := "isKind", desc := "(I)Z" } : Jvm.MethodName)) ∈ lw_all := lw_g (lw_at lw_m6 200 rfl) rfl
theorem q1460 : (Jvm.Cond.static ({ cls := "TicketScales", name := "isKind", desc := "(I)Z" } : Jvm.MethodName)) ∈ lw_all := lw_g (lw_at lw_m6 201 rfl) rfl
theorem q1461 : (Jvm.Cond.code ({ cls := "TicketScales", name := "isKind", desc := "(I)Z" } : Jvm.MethodName) prog_1_method_33_code (1 : Nat) (Option.some Jvm.ClassFile.FieldType.boolean)) ∈ lw_all := lw_g (lw_at lw_m6 202 rfl) rfl
theorem q1463 : (Jvm.Cond.instanceMethod ({ cls := "TicketScales", name := "customer", desc := "(II)I" } : Jvm.MethodName)) ∈ lw_all := lw_g (lw_at lw_m6 204 rfl) rfl
theorem q1464 : (Jvm.Cond.selects "TicketScales" ({ cls := "TicketScales", name := "customer", desc := "(II)I" } : Jvm.MethodName) ({ cls := "TicketScales", name := "customer", desc := "(II)I" } : Jvm.MethodName)) ∈ lw_all := lw_g (lw_at lw_m6 205 rfl) rfl
theorem q1465 : (Jvm.Cond.code ({ cls := "TicketScales", name := "customer", desc := "(II)I" } : Jvm.MethodName) prog_1_method_35_code (4 : Nat) (Option.some Jvm.ClassFile.FieldType.int)) ∈ lw_all := lw_g (lw_at lw_m6 206 rfl) rfl
theorem q1466 : (Jvm.Cond.methodLink "TicketScales" (232 : Nat) ({ cls := "TicketScales$Counter", name := "isCustomer", desc := "(I)Z" } : Jvm.MethodName)) ∈ lw_all := lw_g (lw_at lw_m6 207 rfl) rfl
theorem q1467 : (Jvm.Cond.interfaceEntry "TicketScales" (235 : Nat)) ∈ lw_tbl := lw_at lw_m6 208 rfl
theorem q1468 : (Jvm.Cond.methodLink "TicketScales" (235 : Nat) ({ cls := "java/util/List", name := "get", desc := "(I)Ljava/lang/Object;" } : Jvm.MethodName)) ∈ lw_all := lw_g (lw_at lw_m6 209 rfl) rfl
theorem q1469 : (Jvm.Cond.methodLink "TicketScales" (241 : Nat) ({ cls := "TicketScales$Weighing", name := "part", desc := "(I)I" } : Jvm.MethodName)) ∈ lw_all := lw_g (lw_at lw_m6 210 rfl) rfl
theorem q1474 : (Jvm.Cond.instanceMethod ({ cls := "TicketScales", name := "prize", desc := "(II)I" } : Jvm.MethodName)) ∈ lw_all := lw_g (lw_at lw_m6 215 rfl) rfl
theorem q1475 : (Jvm.Cond.selects "TicketScales" ({ cls := "TicketScales", name := "prize", desc := "(II)I" } : Jvm.MethodName) ({ cls := "TicketScales", name := "prize", desc := "(II)I" } : Jvm.MethodName)) ∈ lw_all := lw_g (lw_at lw_m6 216 rfl) rfl
theorem q1476 : (Jvm.Cond.code ({ cls := "TicketScales", name := "prize", desc := "(II)I" } : Jvm.MethodName) prog_1_method_36_code (3 : Nat) (Option.some Jvm.ClassFile.FieldType.int)) ∈ lw_all := lw_g (lw_at lw_m6 217 rfl) rfl
theorem q1477 : (Jvm.Cond.methodLink "TicketScales" (247 : Nat) ({ cls := "TicketScales$Counter", name := "isPrize", desc := "(I)Z" } : Jvm.MethodName)) ∈ lw_all := lw_g (lw_at lw_m6 218 rfl) rfl
theorem q1478 : (Jvm.Cond.methodLink "TicketScales" (250 : Nat) ({ cls := "TicketScales$Prize", name := "part", desc := "(I)I" } : Jvm.MethodName)) ∈ lw_all := lw_g (lw_at lw_m6 219 rfl) rfl
theorem q1484 : (Jvm.Cond.instanceMethod ({ cls := "TicketScales", name := "read", desc := "(I)I" } : Jvm.MethodName)) ∈ lw_all := lw_g (lw_at lw_m6 225 rfl) rfl
theorem q1485 : (Jvm.Cond.selects "TicketScales" ({ cls := "TicketScales", name := "read", desc := "(I)I" } : Jvm.MethodName) ({ cls := "TicketScales", name := "read", desc := "(I)I" } : Jvm.MethodName)) ∈ lw_all := lw_g (lw_at lw_m6 226 rfl) rfl
theorem q1486 : (Jvm.Cond.code ({ cls := "TicketScales", name := "read", desc := "(I)I" } : Jvm.MethodName) prog_1_method_37_code (2 : Nat) (Option.some Jvm.ClassFile.FieldType.int)) ∈ lw_all := lw_g (lw_at lw_m6 227 rfl) rfl
theorem q1487 : (Jvm.Cond.constant "TicketScales" (251 : Nat) (3000000 : Int32)) ∈ lw_all := lw_g (lw_at lw_m6 228 rfl) rfl
theorem q1488 : (Jvm.Cond.methodLink "TicketScales" (252 : Nat) ({ cls := "TicketScales$Counter", name := "read", desc := "(I)I" } : Jvm.MethodName)) ∈ lw_all := lw_g (lw_at lw_m6 229 rfl) rfl
theorem q1490 : (Jvm.Cond.instanceMethod ({ cls := "TicketScales", name := "allowed", desc := "(III)I" } : Jvm.MethodName)) ∈ lw_all := lw_g (lw_at lw_m6 231 rfl) rfl
theorem q1491 : (Jvm.Cond.selects "TicketScales" ({ cls := "TicketScales", name := "allowed", desc := "(III)I" } : Jvm.MethodName) ({ cls := "TicketScales", name := "allowed", desc := "(III)I" } : Jvm.MethodName)) ∈ lw_all := lw_g (lw_at lw_m6 232 rfl) rfl
theorem q1492 : (Jvm.Cond.code ({ cls := "TicketScales", name := "allowed", desc := "(III)I" } : Jvm.MethodName) prog_1_method_39_code (5 : Nat) (Option.some Jvm.ClassFile.FieldType.int)) ∈ lw_all := lw_g (lw_at lw_m6 233 rfl) rfl
theorem q1493 : (Jvm.Cond.methodLink "TicketScales" (255 : Nat) ({ cls := "TicketScales", name := "isReading", desc := "(I)Z" } : Jvm.MethodName)) ∈ lw_all := lw_g (lw_at lw_m6 234 rfl) rfl
theorem q1494 : (Jvm.Cond.static ({ cls := "TicketScales", name := "isReading", desc := "(I)Z" } : Jvm.MethodName)) ∈ lw_all := lw_g (lw_at lw_m6 235 rfl) rfl
theorem q1495 : (Jvm.Cond.code ({ cls := "TicketScales", name := "isReading", desc := "(I)Z" } : Jvm.MethodName) prog_1_method_38_code (1 : Nat) (Option.some Jvm.ClassFile.FieldType.boolean)) ∈ lw_all := lw_g (lw_at lw_m6 236 rfl) rfl
theorem q1496 : (Jvm.Cond.methodLink "TicketScales" (258 : Nat) ({ cls := "TicketScales$Counter", name := "allowed", desc := "(II)LTicketScales$Range;" } : Jvm.MethodName)) ∈ lw_all := lw_g (lw_at lw_m6 237 rfl) rfl
theorem q1497 : (Jvm.Cond.methodLink "TicketScales" (262 : Nat) ({ cls := "TicketScales$Range", name := "size", desc := "()I" } : Jvm.MethodName)) ∈ lw_all := lw_g (lw_at lw_m6 238 rfl) rfl
theorem q1499 : (Jvm.Cond.instanceMethod ({ cls := "TicketScales", name := "guess", desc := "(III)I" } : Jvm.MethodName)) ∈ lw_all := lw_g (lw_at lw_m7 0 rfl) rfl
theorem q1500 : (Jvm.Cond.selects "TicketScales" ({ cls := "TicketScales", name := "guess", desc := "(III)I" } : Jvm.MethodName) ({ cls := "TicketScales", name := "guess", desc := "(III)I" } : Jvm.MethodName)) ∈ lw_all := lw_g (lw_at lw_m7 1 rfl) rfl
theorem q1501 : (Jvm.Cond.code ({ cls := "TicketScales", name := "guess", desc := "(III)I" } : Jvm.MethodName) prog_1_method_41_code (4 : Nat) (Option.some Jvm.ClassFile.FieldType.int)) ∈ lw_all := lw_g (lw_at lw_m7 2 rfl) rfl
theorem q1502 : (Jvm.Cond.methodLink "TicketScales" (271 : Nat) ({ cls := "TicketScales", name := "isRule", desc := "(I)Z" } : Jvm.MethodName)) ∈ lw_all := lw_g (lw_at lw_m7 3 rfl) rfl
theorem q1503 : (Jvm.Cond.static ({ cls := "TicketScales", name := "isRule", desc := "(I)Z" } : Jvm.MethodName)) ∈ lw_all := lw_g (lw_at lw_m7 4 rfl) rfl
theorem q1504 : (Jvm.Cond.code ({ cls := "TicketScales", name := "isRule", desc := "(I)Z" } : Jvm.MethodName) prog_1_method_40_code (1 : Nat) (Option.some Jvm.ClassFile.FieldType.boolean)) ∈ lw_all := lw_g (lw_at lw_m7 5 rfl) rfl
theorem q1505 : (Jvm.Cond.methodLink "TicketScales" (274 : Nat) ({ cls := "TicketScales$Counter", name := "guess", desc := "(III)I" } : Jvm.MethodName)) ∈ lw_all := lw_g (lw_at lw_m7 6 rfl) rfl
theorem q1507 : (Jvm.Cond.instanceMethod ({ cls := "TicketScales", name := "apartUpTo", desc := "(I)I" } : Jvm.MethodName)) ∈ lw_all := lw_g (lw_at lw_m7 8 rfl) rfl
theorem q1508 : (Jvm.Cond.selects "TicketScales" ({ cls := "TicketScales", name := "apartUpTo", desc := "(I)I" } : Jvm.MethodName) ({ cls := "TicketScales", name := "apartUpTo", desc := "(I)I" } : Jvm.MethodName)) ∈ lw_all := lw_g (lw_at lw_m7 9 rfl) rfl
theorem q1509 : (Jvm.Cond.code ({ cls := "TicketScales", name := "apartUpTo", desc := "(I)I" } : Jvm.MethodName) prog_1_method_42_code (2 : Nat) (Option.some Jvm.ClassFile.FieldType.int)) ∈ lw_all := lw_g (lw_at lw_m7 10 rfl) rfl
theorem q1510 : (Jvm.Cond.methodLink "TicketScales" (278 : Nat) ({ cls := "TicketScales$Counter", name := "apartUpTo", desc := "(III)I" } : Jvm.MethodName)) ∈ lw_all := lw_g (lw_at lw_m7 11 rfl) rfl
theorem q1515 : (Jvm.Cond.instanceMethod ({ cls := "TicketScales", name := "bestStep", desc := "(II)I" } : Jvm.MethodName)) ∈ lw_all := lw_g (lw_at lw_m7 16 rfl) rfl
theorem q1516 : (Jvm.Cond.selects "TicketScales" ({ cls := "TicketScales", name := "bestStep", desc := "(II)I" } : Jvm.MethodName) ({ cls := "TicketScales", name := "bestStep", desc := "(II)I" } : Jvm.MethodName)) ∈ lw_all := lw_g (lw_at lw_m7 17 rfl) rfl
theorem q1517 : (Jvm.Cond.code ({ cls := "TicketScales", name := "bestStep", desc := "(II)I" } : Jvm.MethodName) prog_1_method_43_code (4 : Nat) (Option.some Jvm.ClassFile.FieldType.int)) ∈ lw_all := lw_g (lw_at lw_m7 18 rfl) rfl
theorem q1519 : (Jvm.Cond.instanceMethod ({ cls := "TicketScales", name := "mixed", desc := "(IIII)I" } : Jvm.MethodName)) ∈ lw_all := lw_g (lw_at lw_m7 20 rfl) rfl
theorem q1520 : (Jvm.Cond.selects "TicketScales" ({ cls := "TicketScales", name := "mixed", desc := "(IIII)I" } : Jvm.MethodName) ({ cls := "TicketScales", name := "mixed", desc := "(IIII)I" } : Jvm.MethodName)) ∈ lw_all := lw_g (lw_at lw_m7 21 rfl) rfl
theorem q1521 : (Jvm.Cond.code ({ cls := "TicketScales", name := "mixed", desc := "(IIII)I" } : Jvm.MethodName) prog_1_method_44_code (10 : Nat) (Option.some Jvm.ClassFile.FieldType.int)) ∈ lw_all := lw_g (lw_at lw_m7 22 rfl) rfl
theorem q1522 : (Jvm.Cond.methodLink "TicketScales" (281 : Nat) ({ cls := "TicketScales$Counter", name := "isMixed", desc := "(III)Z" } : Jvm.MethodName)) ∈ lw_all := lw_g (lw_at lw_m7 23 rfl) rfl
theorem q1527 : (Jvm.Cond.instanceMethod ({ cls := "TicketScales", name := "would", desc := "(I)I" } : Jvm.MethodName)) ∈ lw_all := lw_g (lw_at lw_m7 28 rfl) rfl
theorem q1528 : (Jvm.Cond.selects "TicketScales" ({ cls := "TicketScales", name := "would", desc := "(I)I" } : Jvm.MethodName) ({ cls := "TicketScales", name := "would", desc := "(I)I" } : Jvm.MethodName)) ∈ lw_all := lw_g (lw_at lw_m7 29 rfl) rfl
theorem q1529 : (Jvm.Cond.code ({ cls := "TicketScales", name := "would", desc := "(I)I" } : Jvm.MethodName) prog_1_method_45_code (3 : Nat) (Option.some Jvm.ClassFile.FieldType.int)) ∈ lw_all := lw_g (lw_at lw_m7 30 rfl) rfl
theorem q1530 : (Jvm.Cond.methodLink "TicketScales" (284 : Nat) ({ cls := "TicketScales$Counter", name := "would", desc := "(I)I" } : Jvm.MethodName)) ∈ lw_all := lw_g (lw_at lw_m7 31 rfl) rfl
theorem q1535 : (Jvm.Cond.constant "TicketScales" (287 : Nat) (100000 : Int32)) ∈ lw_all := lw_g (lw_at lw_m7 36 rfl) rfl
theorem q1537 : (Jvm.Cond.instanceMethod ({ cls := "TicketScales", name := "fairest", desc := "()I" } : Jvm.MethodName)) ∈ lw_all := lw_g (lw_at lw_m7 38 rfl) rfl
theorem q1538 : (Jvm.Cond.selects "TicketScales" ({ cls := "TicketScales", name := "fairest", desc := "()I" } : Jvm.MethodName) ({ cls := "TicketScales", name := "fairest", desc := "()I" } : Jvm.MethodName)) ∈ lw_all := lw_g (lw_at lw_m7 39 rfl) rfl
theorem q1539 : (Jvm.Cond.code ({ cls := "TicketScales", name := "fairest", desc := "()I" } : Jvm.MethodName) prog_1_method_46_code (4 : Nat) (Option.some Jvm.ClassFile.FieldType.int)) ∈ lw_all := lw_g (lw_at lw_m7 40 rfl) rfl
theorem q1540 : (Jvm.Cond.methodLink "TicketScales" (288 : Nat) ({ cls := "java/lang/Math", name := "abs", desc := "(I)I" } : Jvm.MethodName)) ∈ lw_all := lw_g (lw_at lw_m7 41 rfl) rfl
theorem q1542 : (Jvm.Cond.instanceMethod ({ cls := "TicketScales", name := "soldOut", desc := "(I)I" } : Jvm.MethodName)) ∈ lw_all := lw_g (lw_at lw_m7 43 rfl) rfl
theorem q1543 : (Jvm.Cond.selects "TicketScales" ({ cls := "TicketScales", name := "soldOut", desc := "(I)I" } : Jvm.MethodName) ({ cls := "TicketScales", name := "soldOut", desc := "(I)I" } : Jvm.MethodName)) ∈ lw_all := lw_g (lw_at lw_m7 44 rfl) rfl
theorem q1544 : (Jvm.Cond.code ({ cls := "TicketScales", name := "soldOut", desc := "(I)I" } : Jvm.MethodName) prog_1_method_47_code (2 : Nat) (Option.some Jvm.ClassFile.FieldType.int)) ∈ lw_all := lw_g (lw_at lw_m7 45 rfl) rfl
theorem q1545 : (Jvm.Cond.methodLink "TicketScales" (291 : Nat) ({ cls := "TicketScales$Prize", name := "soldOut", desc := "()I" } : Jvm.MethodName)) ∈ lw_all := lw_g (lw_at lw_m7 46 rfl) rfl
theorem q1553 : (Jvm.Cond.instanceMethod ({ cls := "TicketScales", name := "shop", desc := "(II)I" } : Jvm.MethodName)) ∈ lw_all := lw_g (lw_at lw_m7 54 rfl) rfl
theorem q1554 : (Jvm.Cond.selects "TicketScales" ({ cls := "TicketScales", name := "shop", desc := "(II)I" } : Jvm.MethodName) ({ cls := "TicketScales", name := "shop", desc := "(II)I" } : Jvm.MethodName)) ∈ lw_all := lw_g (lw_at lw_m7 55 rfl) rfl
theorem q1555 : (Jvm.Cond.code ({ cls := "TicketScales", name := "shop", desc := "(II)I" } : Jvm.MethodName) prog_1_method_50_code (7 : Nat) (Option.some Jvm.ClassFile.FieldType.int)) ∈ lw_all := lw_g (lw_at lw_m7 56 rfl) rfl
theorem q1556 : (Jvm.Cond.methodLink "TicketScales" (301 : Nat) ({ cls := "TicketScales", name := "nextByPrice", desc := "(I)I" } : Jvm.MethodName)) ∈ lw_all := lw_g (lw_at lw_m7 57 rfl) rfl
theorem q1557 : (Jvm.Cond.privateMethod ({ cls := "TicketScales", name := "nextByPrice", desc := "(I)I" } : Jvm.MethodName)) ∈ lw_tbl := lw_at lw_m7 58 rfl
theorem q1558 : (Jvm.Cond.instanceMethod ({ cls := "TicketScales", name := "nextByPrice", desc := "(I)I" } : Jvm.MethodName)) ∈ lw_all := lw_g (lw_at lw_m7 59 rfl) rfl
theorem q1559 : (Jvm.Cond.code ({ cls := "TicketScales", name := "nextByPrice", desc := "(I)I" } : Jvm.MethodName) prog_1_method_48_code (5 : Nat) (Option.some Jvm.ClassFile.FieldType.int)) ∈ lw_all := lw_g (lw_at lw_m7 60 rfl) rfl
theorem q1560 : (Jvm.Cond.methodLink "TicketScales" (294 : Nat) ({ cls := "TicketScales", name := "isCheaper", desc := "(II)Z" } : Jvm.MethodName)) ∈ lw_all := lw_g (lw_at lw_m7 61 rfl) rfl
theorem q1561 : (Jvm.Cond.privateMethod ({ cls := "TicketScales", name := "isCheaper", desc := "(II)Z" } : Jvm.MethodName)) ∈ lw_tbl := lw_at lw_m7 62 rfl
theorem q1562 : (Jvm.Cond.instanceMethod ({ cls := "TicketScales", name := "isCheaper", desc := "(II)Z" } : Jvm.MethodName)) ∈ lw_all := lw_g (lw_at lw_m7 63 rfl) rfl
theorem q1563 : (Jvm.Cond.code ({ cls := "TicketScales", name := "isCheaper", desc := "(II)Z" } : Jvm.MethodName) prog_1_method_49_code (5 : Nat) (Option.some Jvm.ClassFile.FieldType.boolean)) ∈ lw_all := lw_g (lw_at lw_m7 64 rfl) rfl
theorem q1564 : (Jvm.Cond.methodLink "TicketScales" (304 : Nat) ({ cls := "java/lang/Math", name := "min", desc := "(II)I" } : Jvm.MethodName)) ∈ lw_all := lw_g (lw_at lw_m7 65 rfl) rfl
theorem q1943 : (Jvm.Cond.castable "TicketScales" "java/lang/Object") ∈ lw_tbl := lw_at lw_m8 204 rfl
theorem in_X0 : ∀ w ∈ wsX00, w ∈ lw_all := lw_in wsX00 [251, 253, 255, 257] (by decide +kernel) (by decide +kernel)

/-! TicketScales$Program -/
set_option maxRecDepth 100000
def RX8 : String := "TicketScales$Program"
def TX8 : u_T := fun k => match k with
  | 0 => ("TicketScales$Program", "counter", "LTicketScales$Counter;", true)
  | 1 => ("TicketScales$Program", "position", "I", false)
  | 2 => ("TicketScales$Program", "commands", "I", false)
  | 3 => ("TicketScales$Program", "token", "LTicketScales$Slice;", false)
  | _ => ("TicketScales$Program", "this$0", "LTicketScales;", true)
def tyX8 : Nat → FieldType := fun k => match k with
  | 0 => .object "TicketScales$Counter"
  | 1 => .int
  | 2 => .int
  | 3 => .object "TicketScales$Slice"
  | _ => .object "TicketScales"
abbrev wsX80 : List Cond := u_ws RX8 TX8 5
theorem nmX8 : ∀ a, a < 5 → ∀ b, b < 5 → a ≠ b → (TX8 a).2.1 ≠ (TX8 b).2.1 := by decide +kernel
theorem tyX8_ok : ∀ k, k < 5 → parseFieldDescriptor (TX8 k).2.2.1 = some (tyX8 k) := by decide +kernel
abbrev cX8_init : ByteArray := prog_14_method_1_code
def yX8_init : MethodName := ⟨RX8, "<init>", "(LTicketScales;LTicketScales$Counter;)V"⟩
def dkwX8_init_0 : List UInt8 := [42, 43, 181, 0, 3, 42, 183, 0, 9, 42, 44, 181, 0, 15, 177]
abbrev dktX8_init_0 : List UInt8 := dkwX8_init_0 ++ []
theorem dksX8_init_0 : cX8_init.data.toList.drop 0 = dktX8_init_0 := by decide +kernel
theorem dX8_init_0 : decode cX8_init 0 = .ok (.aload_n 0, 1) := dk_42 (dk_at dksX8_init_0 0 rfl rfl)
theorem dX8_init_1 : decode cX8_init 1 = .ok (.aload_n 1, 1) := dk_43 (dk_at dksX8_init_0 1 rfl rfl)
theorem dX8_init_2 : decode cX8_init 2 = .ok (.putfield 3, 3) := dk_181 0 3 (dk_at dksX8_init_0 2 rfl rfl)
theorem dX8_init_5 : decode cX8_init 5 = .ok (.aload_n 0, 1) := dk_42 (dk_at dksX8_init_0 5 rfl rfl)
theorem dX8_init_6 : decode cX8_init 6 = .ok (.invokespecial 9, 3) := dk_183 0 9 (dk_at dksX8_init_0 6 rfl rfl)
theorem dX8_init_9 : decode cX8_init 9 = .ok (.aload_n 0, 1) := dk_42 (dk_at dksX8_init_0 9 rfl rfl)
theorem dX8_init_10 : decode cX8_init 10 = .ok (.aload_n 2, 1) := dk_44 (dk_at dksX8_init_0 10 rfl rfl)
theorem dX8_init_11 : decode cX8_init 11 = .ok (.putfield 15, 3) := dk_181 0 15 (dk_at dksX8_init_0 11 rfl rfl)
theorem dX8_init_14 : decode cX8_init 14 = .ok (.return_, 1) := dk_177 (dk_at dksX8_init_0 14 rfl rfl)
abbrev cX8_run : ByteArray := prog_14_method_11_code
def yX8_run : MethodName := ⟨RX8, "run", "()V"⟩
def dkwX8_run_3 : List UInt8 := [6, 43, 182, 0, 185, 79, 42, 180, 0, 3, 180, 0, 173, 7, 42, 180, 0, 167, 79, 43, 191, 177]
abbrev dktX8_run_3 : List UInt8 := dkwX8_run_3 ++ []
def dkwX8_run_2 : List UInt8 := [180, 0, 179, 79, 42, 180, 0, 3, 180, 0, 173, 5, 43, 182, 0, 182, 79, 42, 180, 0, 3, 180, 0, 173]
abbrev dktX8_run_2 : List UInt8 := dkwX8_run_2 ++ dktX8_run_3
def dkwX8_run_1 : List UInt8 := [76, 42, 180, 0, 3, 180, 0, 173, 3, 43, 182, 0, 177, 79, 42, 180, 0, 3, 180, 0, 173, 4, 43]
abbrev dktX8_run_1 : List UInt8 := dkwX8_run_1 ++ dktX8_run_2
def dkwX8_run_0 : List UInt8 := [42, 182, 0, 72, 42, 180, 0, 60, 182, 0, 78, 158, 0, 10, 42, 182, 0, 170, 167, 255, 242, 167, 0, 71]
abbrev dktX8_run_0 : List UInt8 := dkwX8_run_0 ++ dktX8_run_1
theorem dksX8_run_0 : cX8_run.data.toList.drop 0 = dktX8_run_0 := by decide +kernel
theorem dksX8_run_1 : cX8_run.data.toList.drop 24 = dktX8_run_1 := dk_seg dksX8_run_0 24 rfl rfl
theorem dksX8_run_2 : cX8_run.data.toList.drop 47 = dktX8_run_2 := dk_seg dksX8_run_1 23 rfl rfl
theorem dksX8_run_3 : cX8_run.data.toList.drop 71 = dktX8_run_3 := dk_seg dksX8_run_2 24 rfl rfl
theorem dX8_run_0 : decode cX8_run 0 = .ok (.aload_n 0, 1) := dk_42 (dk_at dksX8_run_0 0 rfl rfl)
theorem dX8_run_1 : decode cX8_run 1 = .ok (.invokevirtual 72, 3) := dk_182 0 72 (dk_at dksX8_run_0 1 rfl rfl)
theorem dX8_run_4 : decode cX8_run 4 = .ok (.aload_n 0, 1) := dk_42 (dk_at dksX8_run_0 4 rfl rfl)
theorem dX8_run_5 : decode cX8_run 5 = .ok (.getfield 60, 3) := dk_180 0 60 (dk_at dksX8_run_0 5 rfl rfl)
theorem dX8_run_8 : decode cX8_run 8 = .ok (.invokevirtual 78, 3) := dk_182 0 78 (dk_at dksX8_run_0 8 rfl rfl)
theorem dX8_run_11 : decode cX8_run 11 = .ok (.ifCond .le 10, 3) := dk_158 0 10 (dk_at dksX8_run_0 11 rfl rfl)
theorem dX8_run_14 : decode cX8_run 14 = .ok (.aload_n 0, 1) := dk_42 (dk_at dksX8_run_0 14 rfl rfl)
theorem dX8_run_15 : decode cX8_run 15 = .ok (.invokevirtual 170, 3) := dk_182 0 170 (dk_at dksX8_run_0 15 rfl rfl)
theorem dX8_run_18 : decode cX8_run 18 = .ok (.goto (-14), 3) := dk_167 255 242 (dk_at dksX8_run_0 18 rfl rfl)
theorem dX8_run_21 : decode cX8_run 21 = .ok (.goto 71, 3) := dk_167 0 71 (dk_at dksX8_run_0 21 rfl rfl)
theorem dX8_run_24 : decode cX8_run 24 = .ok (.astore_n 1, 1) := dk_76 (dk_at dksX8_run_1 0 rfl rfl)
theorem dX8_run_25 : decode cX8_run 25 = .ok (.aload_n 0, 1) := dk_42 (dk_at dksX8_run_1 1 rfl rfl)
theorem dX8_run_26 : decode cX8_run 26 = .ok (.getfield 3, 3) := dk_180 0 3 (dk_at dksX8_run_1 2 rfl rfl)
theorem dX8_run_29 : decode cX8_run 29 = .ok (.getfield 173, 3) := dk_180 0 173 (dk_at dksX8_run_1 5 rfl rfl)
theorem dX8_run_32 : decode cX8_run 32 = .ok (.iconst 0, 1) := dk_3 (dk_at dksX8_run_1 8 rfl rfl)
theorem dX8_run_33 : decode cX8_run 33 = .ok (.aload_n 1, 1) := dk_43 (dk_at dksX8_run_1 9 rfl rfl)
theorem dX8_run_34 : decode cX8_run 34 = .ok (.invokevirtual 177, 3) := dk_182 0 177 (dk_at dksX8_run_1 10 rfl rfl)
theorem dX8_run_37 : decode cX8_run 37 = .ok (.iastore, 1) := dk_79 (dk_at dksX8_run_1 13 rfl rfl)
theorem dX8_run_38 : decode cX8_run 38 = .ok (.aload_n 0, 1) := dk_42 (dk_at dksX8_run_1 14 rfl rfl)
theorem dX8_run_39 : decode cX8_run 39 = .ok (.getfield 3, 3) := dk_180 0 3 (dk_at dksX8_run_1 15 rfl rfl)
theorem dX8_run_42 : decode cX8_run 42 = .ok (.getfield 173, 3) := dk_180 0 173 (dk_at dksX8_run_1 18 rfl rfl)
theorem dX8_run_45 : decode cX8_run 45 = .ok (.iconst 1, 1) := dk_4 (dk_at dksX8_run_1 21 rfl rfl)
theorem dX8_run_46 : decode cX8_run 46 = .ok (.aload_n 1, 1) := dk_43 (dk_at dksX8_run_1 22 rfl rfl)
theorem dX8_run_47 : decode cX8_run 47 = .ok (.getfield 179, 3) := dk_180 0 179 (dk_at dksX8_run_2 0 rfl rfl)
theorem dX8_run_50 : decode cX8_run 50 = .ok (.iastore, 1) := dk_79 (dk_at dksX8_run_2 3 rfl rfl)
theorem dX8_run_51 : decode cX8_run 51 = .ok (.aload_n 0, 1) := dk_42 (dk_at dksX8_run_2 4 rfl rfl)
theorem dX8_run_52 : decode cX8_run 52 = .ok (.getfield 3, 3) := dk_180 0 3 (dk_at dksX8_run_2 5 rfl rfl)
theorem dX8_run_55 : decode cX8_run 55 = .ok (.getfield 173, 3) := dk_180 0 173 (dk_at dksX8_run_2 8 rfl rfl)
theorem dX8_run_58 : decode cX8_run 58 = .ok (.iconst 2, 1) := dk_5 (dk_at dksX8_run_2 11 rfl rfl)
theorem dX8_run_59 : decode cX8_run 59 = .ok (.aload_n 1, 1) := dk_43 (dk_at dksX8_run_2 12 rfl rfl)
theorem dX8_run_60 : decode cX8_run 60 = .ok (.invokevirtual 182, 3) := dk_182 0 182 (dk_at dksX8_run_2 13 rfl rfl)
theorem dX8_run_63 : decode cX8_run 63 = .ok (.iastore, 1) := dk_79 (dk_at dksX8_run_2 16 rfl rfl)
theorem dX8_run_64 : decode cX8_run 64 = .ok (.aload_n 0, 1) := dk_42 (dk_at dksX8_run_2 17 rfl rfl)
theorem dX8_run_65 : decode cX8_run 65 = .ok (.getfield 3, 3) := dk_180 0 3 (dk_at dksX8_run_2 18 rfl rfl)
theorem dX8_run_68 : decode cX8_run 68 = .ok (.getfield 173, 3) := dk_180 0 173 (dk_at dksX8_run_2 21 rfl rfl)
theorem dX8_run_71 : decode cX8_run 71 = .ok (.iconst 3, 1) := dk_6 (dk_at dksX8_run_3 0 rfl rfl)
theorem dX8_run_72 : decode cX8_run 72 = .ok (.aload_n 1, 1) := dk_43 (dk_at dksX8_run_3 1 rfl rfl)
theorem dX8_run_73 : decode cX8_run 73 = .ok (.invokevirtual 185, 3) := dk_182 0 185 (dk_at dksX8_run_3 2 rfl rfl)
theorem dX8_run_76 : decode cX8_run 76 = .ok (.iastore, 1) := dk_79 (dk_at dksX8_run_3 5 rfl rfl)
theorem dX8_run_77 : decode cX8_run 77 = .ok (.aload_n 0, 1) := dk_42 (dk_at dksX8_run_3 6 rfl rfl)
theorem dX8_run_78 : decode cX8_run 78 = .ok (.getfield 3, 3) := dk_180 0 3 (dk_at dksX8_run_3 7 rfl rfl)
theorem dX8_run_81 : decode cX8_run 81 = .ok (.getfield 173, 3) := dk_180 0 173 (dk_at dksX8_run_3 10 rfl rfl)
theorem dX8_run_84 : decode cX8_run 84 = .ok (.iconst 4, 1) := dk_7 (dk_at dksX8_run_3 13 rfl rfl)
theorem dX8_run_85 : decode cX8_run 85 = .ok (.aload_n 0, 1) := dk_42 (dk_at dksX8_run_3 14 rfl rfl)
theorem dX8_run_86 : decode cX8_run 86 = .ok (.getfield 167, 3) := dk_180 0 167 (dk_at dksX8_run_3 15 rfl rfl)
theorem dX8_run_89 : decode cX8_run 89 = .ok (.iastore, 1) := dk_79 (dk_at dksX8_run_3 18 rfl rfl)
theorem dX8_run_90 : decode cX8_run 90 = .ok (.aload_n 1, 1) := dk_43 (dk_at dksX8_run_3 19 rfl rfl)
theorem dX8_run_91 : decode cX8_run 91 = .ok (.athrow, 1) := dk_191 (dk_at dksX8_run_3 20 rfl rfl)
theorem dX8_run_92 : decode cX8_run 92 = .ok (.return_, 1) := dk_177 (dk_at dksX8_run_3 21 rfl rfl)
abbrev cX8_advance : ByteArray := prog_14_method_4_code
def yX8_advance : MethodName := ⟨RX8, "advance", "()V"⟩
def dkwX8_advance_4 : List UInt8 := [180, 0, 19, 183, 0, 57, 181, 0, 60, 177]
abbrev dktX8_advance_4 : List UInt8 := dkwX8_advance_4 ++ []
def dkwX8_advance_3 : List UInt8 := [182, 0, 27, 184, 0, 49, 181, 0, 19, 42, 187, 0, 55, 89, 42, 180, 0, 3, 180, 0, 23, 27, 42]
abbrev dktX8_advance_3 : List UInt8 := dkwX8_advance_3 ++ dktX8_advance_4
def dkwX8_advance_2 : List UInt8 := [16, 48, 16, 57, 182, 0, 45, 167, 0, 26, 42, 42, 180, 0, 19, 4, 96, 42, 180, 0, 3, 180, 0, 23]
abbrev dktX8_advance_2 : List UInt8 := dkwX8_advance_2 ++ dktX8_advance_3
def dkwX8_advance_1 : List UInt8 := [42, 16, 97, 16, 122, 182, 0, 45, 167, 0, 48, 42, 16, 48, 16, 57, 182, 0, 41, 153, 0, 14, 42]
abbrev dktX8_advance_1 : List UInt8 := dkwX8_advance_1 ++ dktX8_advance_2
def dkwX8_advance_0 : List UInt8 := [42, 16, 32, 16, 32, 182, 0, 45, 42, 180, 0, 19, 60, 42, 16, 97, 16, 122, 182, 0, 41, 153, 0, 14]
abbrev dktX8_advance_0 : List UInt8 := dkwX8_advance_0 ++ dktX8_advance_1
theorem dksX8_advance_0 : cX8_advance.data.toList.drop 0 = dktX8_advance_0 := by decide +kernel
theorem dksX8_advance_1 : cX8_advance.data.toList.drop 24 = dktX8_advance_1 := dk_seg dksX8_advance_0 24 rfl rfl
theorem dksX8_advance_2 : cX8_advance.data.toList.drop 47 = dktX8_advance_2 := dk_seg dksX8_advance_1 23 rfl rfl
theorem dksX8_advance_3 : cX8_advance.data.toList.drop 71 = dktX8_advance_3 := dk_seg dksX8_advance_2 24 rfl rfl
theorem dksX8_advance_4 : cX8_advance.data.toList.drop 94 = dktX8_advance_4 := dk_seg dksX8_advance_3 23 rfl rfl
theorem dX8_advance_0 : decode cX8_advance 0 = .ok (.aload_n 0, 1) := dk_42 (dk_at dksX8_advance_0 0 rfl rfl)
theorem dX8_advance_1 : decode cX8_advance 1 = .ok (.bipush 32, 2) := dk_16 32 (dk_at dksX8_advance_0 1 rfl rfl)
theorem dX8_advance_3 : decode cX8_advance 3 = .ok (.bipush 32, 2) := dk_16 32 (dk_at dksX8_advance_0 3 rfl rfl)
theorem dX8_advance_5 : decode cX8_advance 5 = .ok (.invokevirtual 45, 3) := dk_182 0 45 (dk_at dksX8_advance_0 5 rfl rfl)
theorem dX8_advance_8 : decode cX8_advance 8 = .ok (.aload_n 0, 1) := dk_42 (dk_at dksX8_advance_0 8 rfl rfl)
theorem dX8_advance_9 : decode cX8_advance 9 = .ok (.getfield 19, 3) := dk_180 0 19 (dk_at dksX8_advance_0 9 rfl rfl)
theorem dX8_advance_12 : decode cX8_advance 12 = .ok (.istore_n 1, 1) := dk_60 (dk_at dksX8_advance_0 12 rfl rfl)
theorem dX8_advance_13 : decode cX8_advance 13 = .ok (.aload_n 0, 1) := dk_42 (dk_at dksX8_advance_0 13 rfl rfl)
theorem dX8_advance_14 : decode cX8_advance 14 = .ok (.bipush 97, 2) := dk_16 97 (dk_at dksX8_advance_0 14 rfl rfl)
theorem dX8_advance_16 : decode cX8_advance 16 = .ok (.bipush 122, 2) := dk_16 122 (dk_at dksX8_advance_0 16 rfl rfl)
theorem dX8_advance_18 : decode cX8_advance 18 = .ok (.invokevirtual 41, 3) := dk_182 0 41 (dk_at dksX8_advance_0 18 rfl rfl)
theorem dX8_advance_21 : decode cX8_advance 21 = .ok (.ifCond .eq 14, 3) := dk_153 0 14 (dk_at dksX8_advance_0 21 rfl rfl)
theorem dX8_advance_24 : decode cX8_advance 24 = .ok (.aload_n 0, 1) := dk_42 (dk_at dksX8_advance_1 0 rfl rfl)
theorem dX8_advance_25 : decode cX8_advance 25 = .ok (.bipush 97, 2) := dk_16 97 (dk_at dksX8_advance_1 1 rfl rfl)
theorem dX8_advance_27 : decode cX8_advance 27 = .ok (.bipush 122, 2) := dk_16 122 (dk_at dksX8_advance_1 3 rfl rfl)
theorem dX8_advance_29 : decode cX8_advance 29 = .ok (.invokevirtual 45, 3) := dk_182 0 45 (dk_at dksX8_advance_1 5 rfl rfl)
theorem dX8_advance_32 : decode cX8_advance 32 = .ok (.goto 48, 3) := dk_167 0 48 (dk_at dksX8_advance_1 8 rfl rfl)
theorem dX8_advance_35 : decode cX8_advance 35 = .ok (.aload_n 0, 1) := dk_42 (dk_at dksX8_advance_1 11 rfl rfl)
theorem dX8_advance_36 : decode cX8_advance 36 = .ok (.bipush 48, 2) := dk_16 48 (dk_at dksX8_advance_1 12 rfl rfl)
theorem dX8_advance_38 : decode cX8_advance 38 = .ok (.bipush 57, 2) := dk_16 57 (dk_at dksX8_advance_1 14 rfl rfl)
theorem dX8_advance_40 : decode cX8_advance 40 = .ok (.invokevirtual 41, 3) := dk_182 0 41 (dk_at dksX8_advance_1 16 rfl rfl)
theorem dX8_advance_43 : decode cX8_advance 43 = .ok (.ifCond .eq 14, 3) := dk_153 0 14 (dk_at dksX8_advance_1 19 rfl rfl)
theorem dX8_advance_46 : decode cX8_advance 46 = .ok (.aload_n 0, 1) := dk_42 (dk_at dksX8_advance_1 22 rfl rfl)
theorem dX8_advance_47 : decode cX8_advance 47 = .ok (.bipush 48, 2) := dk_16 48 (dk_at dksX8_advance_2 0 rfl rfl)
theorem dX8_advance_49 : decode cX8_advance 49 = .ok (.bipush 57, 2) := dk_16 57 (dk_at dksX8_advance_2 2 rfl rfl)
theorem dX8_advance_51 : decode cX8_advance 51 = .ok (.invokevirtual 45, 3) := dk_182 0 45 (dk_at dksX8_advance_2 4 rfl rfl)
theorem dX8_advance_54 : decode cX8_advance 54 = .ok (.goto 26, 3) := dk_167 0 26 (dk_at dksX8_advance_2 7 rfl rfl)
theorem dX8_advance_57 : decode cX8_advance 57 = .ok (.aload_n 0, 1) := dk_42 (dk_at dksX8_advance_2 10 rfl rfl)
theorem dX8_advance_58 : decode cX8_advance 58 = .ok (.aload_n 0, 1) := dk_42 (dk_at dksX8_advance_2 11 rfl rfl)
theorem dX8_advance_59 : decode cX8_advance 59 = .ok (.getfield 19, 3) := dk_180 0 19 (dk_at dksX8_advance_2 12 rfl rfl)
theorem dX8_advance_62 : decode cX8_advance 62 = .ok (.iconst 1, 1) := dk_4 (dk_at dksX8_advance_2 15 rfl rfl)
theorem dX8_advance_63 : decode cX8_advance 63 = .ok (.iadd, 1) := dk_96 (dk_at dksX8_advance_2 16 rfl rfl)
theorem dX8_advance_64 : decode cX8_advance 64 = .ok (.aload_n 0, 1) := dk_42 (dk_at dksX8_advance_2 17 rfl rfl)
theorem dX8_advance_65 : decode cX8_advance 65 = .ok (.getfield 3, 3) := dk_180 0 3 (dk_at dksX8_advance_2 18 rfl rfl)
theorem dX8_advance_68 : decode cX8_advance 68 = .ok (.getfield 23, 3) := dk_180 0 23 (dk_at dksX8_advance_2 21 rfl rfl)
theorem dX8_advance_71 : decode cX8_advance 71 = .ok (.invokevirtual 27, 3) := dk_182 0 27 (dk_at dksX8_advance_3 0 rfl rfl)
theorem dX8_advance_74 : decode cX8_advance 74 = .ok (.invokestatic 49, 3) := dk_184 0 49 (dk_at dksX8_advance_3 3 rfl rfl)
theorem dX8_advance_77 : decode cX8_advance 77 = .ok (.putfield 19, 3) := dk_181 0 19 (dk_at dksX8_advance_3 6 rfl rfl)
theorem dX8_advance_80 : decode cX8_advance 80 = .ok (.aload_n 0, 1) := dk_42 (dk_at dksX8_advance_3 9 rfl rfl)
theorem dX8_advance_81 : decode cX8_advance 81 = .ok (.new 55, 3) := dk_187 0 55 (dk_at dksX8_advance_3 10 rfl rfl)
theorem dX8_advance_84 : decode cX8_advance 84 = .ok (.dup, 1) := dk_89 (dk_at dksX8_advance_3 13 rfl rfl)
theorem dX8_advance_85 : decode cX8_advance 85 = .ok (.aload_n 0, 1) := dk_42 (dk_at dksX8_advance_3 14 rfl rfl)
theorem dX8_advance_86 : decode cX8_advance 86 = .ok (.getfield 3, 3) := dk_180 0 3 (dk_at dksX8_advance_3 15 rfl rfl)
theorem dX8_advance_89 : decode cX8_advance 89 = .ok (.getfield 23, 3) := dk_180 0 23 (dk_at dksX8_advance_3 18 rfl rfl)
theorem dX8_advance_92 : decode cX8_advance 92 = .ok (.iload_n 1, 1) := dk_27 (dk_at dksX8_advance_3 21 rfl rfl)
theorem dX8_advance_93 : decode cX8_advance 93 = .ok (.aload_n 0, 1) := dk_42 (dk_at dksX8_advance_3 22 rfl rfl)
theorem dX8_advance_94 : decode cX8_advance 94 = .ok (.getfield 19, 3) := dk_180 0 19 (dk_at dksX8_advance_4 0 rfl rfl)
theorem dX8_advance_97 : decode cX8_advance 97 = .ok (.invokespecial 57, 3) := dk_183 0 57 (dk_at dksX8_advance_4 3 rfl rfl)
theorem dX8_advance_100 : decode cX8_advance 100 = .ok (.putfield 60, 3) := dk_181 0 60 (dk_at dksX8_advance_4 6 rfl rfl)
theorem dX8_advance_103 : decode cX8_advance 103 = .ok (.return_, 1) := dk_177 (dk_at dksX8_advance_4 9 rfl rfl)
abbrev cX8_pass : ByteArray := prog_14_method_3_code
def yX8_pass : MethodName := ⟨RX8, "pass", "(CC)V"⟩
def dkwX8_pass_0 : List UInt8 := [42, 27, 28, 182, 0, 41, 153, 0, 16, 42, 89, 180, 0, 19, 4, 96, 181, 0, 19, 167, 255, 237, 177]
abbrev dktX8_pass_0 : List UInt8 := dkwX8_pass_0 ++ []
theorem dksX8_pass_0 : cX8_pass.data.toList.drop 0 = dktX8_pass_0 := by decide +kernel
theorem dX8_pass_0 : decode cX8_pass 0 = .ok (.aload_n 0, 1) := dk_42 (dk_at dksX8_pass_0 0 rfl rfl)
theorem dX8_pass_1 : decode cX8_pass 1 = .ok (.iload_n 1, 1) := dk_27 (dk_at dksX8_pass_0 1 rfl rfl)
theorem dX8_pass_2 : decode cX8_pass 2 = .ok (.iload_n 2, 1) := dk_28 (dk_at dksX8_pass_0 2 rfl rfl)
theorem dX8_pass_3 : decode cX8_pass 3 = .ok (.invokevirtual 41, 3) := dk_182 0 41 (dk_at dksX8_pass_0 3 rfl rfl)
theorem dX8_pass_6 : decode cX8_pass 6 = .ok (.ifCond .eq 16, 3) := dk_153 0 16 (dk_at dksX8_pass_0 6 rfl rfl)
theorem dX8_pass_9 : decode cX8_pass 9 = .ok (.aload_n 0, 1) := dk_42 (dk_at dksX8_pass_0 9 rfl rfl)
theorem dX8_pass_10 : decode cX8_pass 10 = .ok (.dup, 1) := dk_89 (dk_at dksX8_pass_0 10 rfl rfl)
theorem dX8_pass_11 : decode cX8_pass 11 = .ok (.getfield 19, 3) := dk_180 0 19 (dk_at dksX8_pass_0 11 rfl rfl)
theorem dX8_pass_14 : decode cX8_pass 14 = .ok (.iconst 1, 1) := dk_4 (dk_at dksX8_pass_0 14 rfl rfl)
theorem dX8_pass_15 : decode cX8_pass 15 = .ok (.iadd, 1) := dk_96 (dk_at dksX8_pass_0 15 rfl rfl)
theorem dX8_pass_16 : decode cX8_pass 16 = .ok (.putfield 19, 3) := dk_181 0 19 (dk_at dksX8_pass_0 16 rfl rfl)
theorem dX8_pass_19 : decode cX8_pass 19 = .ok (.goto (-19), 3) := dk_167 255 237 (dk_at dksX8_pass_0 19 rfl rfl)
theorem dX8_pass_22 : decode cX8_pass 22 = .ok (.return_, 1) := dk_177 (dk_at dksX8_pass_0 22 rfl rfl)
abbrev cX8_isAt : ByteArray := prog_14_method_2_code
def yX8_isAt : MethodName := ⟨RX8, "isAt", "(CC)Z"⟩
def dkwX8_isAt_1 : List UInt8 := [42, 180, 0, 19, 182, 0, 33, 27, 28, 184, 0, 37, 153, 0, 7, 4, 167, 0, 4, 3, 172]
abbrev dktX8_isAt_1 : List UInt8 := dkwX8_isAt_1 ++ []
def dkwX8_isAt_0 : List UInt8 := [42, 180, 0, 19, 42, 180, 0, 3, 180, 0, 23, 182, 0, 27, 162, 0, 29, 42, 180, 0, 3, 180, 0, 23]
abbrev dktX8_isAt_0 : List UInt8 := dkwX8_isAt_0 ++ dktX8_isAt_1
theorem dksX8_isAt_0 : cX8_isAt.data.toList.drop 0 = dktX8_isAt_0 := by decide +kernel
theorem dksX8_isAt_1 : cX8_isAt.data.toList.drop 24 = dktX8_isAt_1 := dk_seg dksX8_isAt_0 24 rfl rfl
theorem dX8_isAt_0 : decode cX8_isAt 0 = .ok (.aload_n 0, 1) := dk_42 (dk_at dksX8_isAt_0 0 rfl rfl)
theorem dX8_isAt_1 : decode cX8_isAt 1 = .ok (.getfield 19, 3) := dk_180 0 19 (dk_at dksX8_isAt_0 1 rfl rfl)
theorem dX8_isAt_4 : decode cX8_isAt 4 = .ok (.aload_n 0, 1) := dk_42 (dk_at dksX8_isAt_0 4 rfl rfl)
theorem dX8_isAt_5 : decode cX8_isAt 5 = .ok (.getfield 3, 3) := dk_180 0 3 (dk_at dksX8_isAt_0 5 rfl rfl)
theorem dX8_isAt_8 : decode cX8_isAt 8 = .ok (.getfield 23, 3) := dk_180 0 23 (dk_at dksX8_isAt_0 8 rfl rfl)
theorem dX8_isAt_11 : decode cX8_isAt 11 = .ok (.invokevirtual 27, 3) := dk_182 0 27 (dk_at dksX8_isAt_0 11 rfl rfl)
theorem dX8_isAt_14 : decode cX8_isAt 14 = .ok (.if_icmp .ge 29, 3) := dk_162 0 29 (dk_at dksX8_isAt_0 14 rfl rfl)
theorem dX8_isAt_17 : decode cX8_isAt 17 = .ok (.aload_n 0, 1) := dk_42 (dk_at dksX8_isAt_0 17 rfl rfl)
theorem dX8_isAt_18 : decode cX8_isAt 18 = .ok (.getfield 3, 3) := dk_180 0 3 (dk_at dksX8_isAt_0 18 rfl rfl)
theorem dX8_isAt_21 : decode cX8_isAt 21 = .ok (.getfield 23, 3) := dk_180 0 23 (dk_at dksX8_isAt_0 21 rfl rfl)
theorem dX8_isAt_24 : decode cX8_isAt 24 = .ok (.aload_n 0, 1) := dk_42 (dk_at dksX8_isAt_1 0 rfl rfl)
theorem dX8_isAt_25 : decode cX8_isAt 25 = .ok (.getfield 19, 3) := dk_180 0 19 (dk_at dksX8_isAt_1 1 rfl rfl)
theorem dX8_isAt_28 : decode cX8_isAt 28 = .ok (.invokevirtual 33, 3) := dk_182 0 33 (dk_at dksX8_isAt_1 4 rfl rfl)
theorem dX8_isAt_31 : decode cX8_isAt 31 = .ok (.iload_n 1, 1) := dk_27 (dk_at dksX8_isAt_1 7 rfl rfl)
theorem dX8_isAt_32 : decode cX8_isAt 32 = .ok (.iload_n 2, 1) := dk_28 (dk_at dksX8_isAt_1 8 rfl rfl)
theorem dX8_isAt_33 : decode cX8_isAt 33 = .ok (.invokestatic 37, 3) := dk_184 0 37 (dk_at dksX8_isAt_1 9 rfl rfl)
theorem dX8_isAt_36 : decode cX8_isAt 36 = .ok (.ifCond .eq 7, 3) := dk_153 0 7 (dk_at dksX8_isAt_1 12 rfl rfl)
theorem dX8_isAt_39 : decode cX8_isAt 39 = .ok (.iconst 1, 1) := dk_4 (dk_at dksX8_isAt_1 15 rfl rfl)
theorem dX8_isAt_40 : decode cX8_isAt 40 = .ok (.goto 4, 3) := dk_167 0 4 (dk_at dksX8_isAt_1 16 rfl rfl)
theorem dX8_isAt_43 : decode cX8_isAt 43 = .ok (.iconst 0, 1) := dk_3 (dk_at dksX8_isAt_1 19 rfl rfl)
theorem dX8_isAt_44 : decode cX8_isAt 44 = .ok (.ireturn, 1) := dk_172 (dk_at dksX8_isAt_1 20 rfl rfl)
abbrev cX8_command : ByteArray := prog_14_method_10_code
def yX8_command : MethodName := ⟨RX8, "command", "()V"⟩
def dkwX8_command_5 : List UInt8 := [182, 0, 72, 42, 89, 180, 0, 167, 4, 96, 181, 0, 167, 177]
abbrev dktX8_command_5 : List UInt8 := dkwX8_command_5 ++ []
def dkwX8_command_4 : List UInt8 := [43, 45, 182, 0, 163, 167, 0, 16, 58, 5, 187, 0, 64, 89, 28, 25, 5, 183, 0, 69, 191, 42]
abbrev dktX8_command_4 : List UInt8 := dkwX8_command_4 ++ dktX8_command_5
def dkwX8_command_3 : List UInt8 := [54, 4, 21, 4, 154, 0, 19, 187, 0, 64, 89, 42, 180, 0, 60, 180, 0, 66, 1, 183, 0, 69, 191, 42]
abbrev dktX8_command_3 : List UInt8 := dkwX8_command_3 ++ dktX8_command_4
def dkwX8_command_2 : List UInt8 := [21, 4, 42, 182, 0, 160, 79, 132, 4, 1, 167, 255, 238, 42, 180, 0, 60, 16, 59, 16, 59, 182, 0, 75]
abbrev dktX8_command_2 : List UInt8 := dkwX8_command_2 ++ dktX8_command_3
def dkwX8_command_1 : List UInt8 := [45, 190, 158, 0, 7, 4, 167, 0, 4, 3, 182, 0, 80, 3, 54, 4, 21, 4, 45, 190, 162, 0, 17, 45]
abbrev dktX8_command_1 : List UInt8 := dkwX8_command_1 ++ dktX8_command_2
def dkwX8_command_0 : List UInt8 := [42, 180, 0, 60, 182, 0, 152, 76, 42, 180, 0, 60, 180, 0, 66, 61, 43, 184, 0, 156, 188, 10, 78, 42]
abbrev dktX8_command_0 : List UInt8 := dkwX8_command_0 ++ dktX8_command_1
theorem dksX8_command_0 : cX8_command.data.toList.drop 0 = dktX8_command_0 := by decide +kernel
theorem dksX8_command_1 : cX8_command.data.toList.drop 24 = dktX8_command_1 := dk_seg dksX8_command_0 24 rfl rfl
theorem dksX8_command_2 : cX8_command.data.toList.drop 48 = dktX8_command_2 := dk_seg dksX8_command_1 24 rfl rfl
theorem dksX8_command_3 : cX8_command.data.toList.drop 72 = dktX8_command_3 := dk_seg dksX8_command_2 24 rfl rfl
theorem dksX8_command_4 : cX8_command.data.toList.drop 96 = dktX8_command_4 := dk_seg dksX8_command_3 24 rfl rfl
theorem dksX8_command_5 : cX8_command.data.toList.drop 118 = dktX8_command_5 := dk_seg dksX8_command_4 22 rfl rfl
theorem dX8_command_0 : decode cX8_command 0 = .ok (.aload_n 0, 1) := dk_42 (dk_at dksX8_command_0 0 rfl rfl)
theorem dX8_command_1 : decode cX8_command 1 = .ok (.getfield 60, 3) := dk_180 0 60 (dk_at dksX8_command_0 1 rfl rfl)
theorem dX8_command_4 : decode cX8_command 4 = .ok (.invokevirtual 152, 3) := dk_182 0 152 (dk_at dksX8_command_0 4 rfl rfl)
theorem dX8_command_7 : decode cX8_command 7 = .ok (.astore_n 1, 1) := dk_76 (dk_at dksX8_command_0 7 rfl rfl)
theorem dX8_command_8 : decode cX8_command 8 = .ok (.aload_n 0, 1) := dk_42 (dk_at dksX8_command_0 8 rfl rfl)
theorem dX8_command_9 : decode cX8_command 9 = .ok (.getfield 60, 3) := dk_180 0 60 (dk_at dksX8_command_0 9 rfl rfl)
theorem dX8_command_12 : decode cX8_command 12 = .ok (.getfield 66, 3) := dk_180 0 66 (dk_at dksX8_command_0 12 rfl rfl)
theorem dX8_command_15 : decode cX8_command 15 = .ok (.istore_n 2, 1) := dk_61 (dk_at dksX8_command_0 15 rfl rfl)
theorem dX8_command_16 : decode cX8_command 16 = .ok (.aload_n 1, 1) := dk_43 (dk_at dksX8_command_0 16 rfl rfl)
theorem dX8_command_17 : decode cX8_command 17 = .ok (.invokestatic 156, 3) := dk_184 0 156 (dk_at dksX8_command_0 17 rfl rfl)
theorem dX8_command_20 : decode cX8_command 20 = .ok (.newarray .int, 2) := dk_188_10 (dk_at dksX8_command_0 20 rfl rfl)
theorem dX8_command_22 : decode cX8_command 22 = .ok (.astore_n 3, 1) := dk_78 (dk_at dksX8_command_0 22 rfl rfl)
theorem dX8_command_23 : decode cX8_command 23 = .ok (.aload_n 0, 1) := dk_42 (dk_at dksX8_command_0 23 rfl rfl)
theorem dX8_command_24 : decode cX8_command 24 = .ok (.aload_n 3, 1) := dk_45 (dk_at dksX8_command_1 0 rfl rfl)
theorem dX8_command_25 : decode cX8_command 25 = .ok (.arraylength, 1) := dk_190 (dk_at dksX8_command_1 1 rfl rfl)
theorem dX8_command_26 : decode cX8_command 26 = .ok (.ifCond .le 7, 3) := dk_158 0 7 (dk_at dksX8_command_1 2 rfl rfl)
theorem dX8_command_29 : decode cX8_command 29 = .ok (.iconst 1, 1) := dk_4 (dk_at dksX8_command_1 5 rfl rfl)
theorem dX8_command_30 : decode cX8_command 30 = .ok (.goto 4, 3) := dk_167 0 4 (dk_at dksX8_command_1 6 rfl rfl)
theorem dX8_command_33 : decode cX8_command 33 = .ok (.iconst 0, 1) := dk_3 (dk_at dksX8_command_1 9 rfl rfl)
theorem dX8_command_34 : decode cX8_command 34 = .ok (.invokevirtual 80, 3) := dk_182 0 80 (dk_at dksX8_command_1 10 rfl rfl)
theorem dX8_command_37 : decode cX8_command 37 = .ok (.iconst 0, 1) := dk_3 (dk_at dksX8_command_1 13 rfl rfl)
theorem dX8_command_38 : decode cX8_command 38 = .ok (.istore 4, 2) := dk_54 4 (dk_at dksX8_command_1 14 rfl rfl)
theorem dX8_command_40 : decode cX8_command 40 = .ok (.iload 4, 2) := dk_21 4 (dk_at dksX8_command_1 16 rfl rfl)
theorem dX8_command_42 : decode cX8_command 42 = .ok (.aload_n 3, 1) := dk_45 (dk_at dksX8_command_1 18 rfl rfl)
theorem dX8_command_43 : decode cX8_command 43 = .ok (.arraylength, 1) := dk_190 (dk_at dksX8_command_1 19 rfl rfl)
theorem dX8_command_44 : decode cX8_command 44 = .ok (.if_icmp .ge 17, 3) := dk_162 0 17 (dk_at dksX8_command_1 20 rfl rfl)
theorem dX8_command_47 : decode cX8_command 47 = .ok (.aload_n 3, 1) := dk_45 (dk_at dksX8_command_1 23 rfl rfl)
theorem dX8_command_48 : decode cX8_command 48 = .ok (.iload 4, 2) := dk_21 4 (dk_at dksX8_command_2 0 rfl rfl)
theorem dX8_command_50 : decode cX8_command 50 = .ok (.aload_n 0, 1) := dk_42 (dk_at dksX8_command_2 2 rfl rfl)
theorem dX8_command_51 : decode cX8_command 51 = .ok (.invokevirtual 160, 3) := dk_182 0 160 (dk_at dksX8_command_2 3 rfl rfl)
theorem dX8_command_54 : decode cX8_command 54 = .ok (.iastore, 1) := dk_79 (dk_at dksX8_command_2 6 rfl rfl)
theorem dX8_command_55 : decode cX8_command 55 = .ok (.iinc 4 1, 3) := dk_132 4 1 (dk_at dksX8_command_2 7 rfl rfl)
theorem dX8_command_58 : decode cX8_command 58 = .ok (.goto (-18), 3) := dk_167 255 238 (dk_at dksX8_command_2 10 rfl rfl)
theorem dX8_command_61 : decode cX8_command 61 = .ok (.aload_n 0, 1) := dk_42 (dk_at dksX8_command_2 13 rfl rfl)
theorem dX8_command_62 : decode cX8_command 62 = .ok (.getfield 60, 3) := dk_180 0 60 (dk_at dksX8_command_2 14 rfl rfl)
theorem dX8_command_65 : decode cX8_command 65 = .ok (.bipush 59, 2) := dk_16 59 (dk_at dksX8_command_2 17 rfl rfl)
theorem dX8_command_67 : decode cX8_command 67 = .ok (.bipush 59, 2) := dk_16 59 (dk_at dksX8_command_2 19 rfl rfl)
theorem dX8_command_69 : decode cX8_command 69 = .ok (.invokevirtual 75, 3) := dk_182 0 75 (dk_at dksX8_command_2 21 rfl rfl)
theorem dX8_command_72 : decode cX8_command 72 = .ok (.istore 4, 2) := dk_54 4 (dk_at dksX8_command_3 0 rfl rfl)
theorem dX8_command_74 : decode cX8_command 74 = .ok (.iload 4, 2) := dk_21 4 (dk_at dksX8_command_3 2 rfl rfl)
theorem dX8_command_76 : decode cX8_command 76 = .ok (.ifCond .ne 19, 3) := dk_154 0 19 (dk_at dksX8_command_3 4 rfl rfl)
theorem dX8_command_79 : decode cX8_command 79 = .ok (.new 64, 3) := dk_187 0 64 (dk_at dksX8_command_3 7 rfl rfl)
theorem dX8_command_82 : decode cX8_command 82 = .ok (.dup, 1) := dk_89 (dk_at dksX8_command_3 10 rfl rfl)
theorem dX8_command_83 : decode cX8_command 83 = .ok (.aload_n 0, 1) := dk_42 (dk_at dksX8_command_3 11 rfl rfl)
theorem dX8_command_84 : decode cX8_command 84 = .ok (.getfield 60, 3) := dk_180 0 60 (dk_at dksX8_command_3 12 rfl rfl)
theorem dX8_command_87 : decode cX8_command 87 = .ok (.getfield 66, 3) := dk_180 0 66 (dk_at dksX8_command_3 15 rfl rfl)
theorem dX8_command_90 : decode cX8_command 90 = .ok (.aconst_null, 1) := dk_1 (dk_at dksX8_command_3 18 rfl rfl)
theorem dX8_command_91 : decode cX8_command 91 = .ok (.invokespecial 69, 3) := dk_183 0 69 (dk_at dksX8_command_3 19 rfl rfl)
theorem dX8_command_94 : decode cX8_command 94 = .ok (.athrow, 1) := dk_191 (dk_at dksX8_command_3 22 rfl rfl)
theorem dX8_command_95 : decode cX8_command 95 = .ok (.aload_n 0, 1) := dk_42 (dk_at dksX8_command_3 23 rfl rfl)
theorem dX8_command_96 : decode cX8_command 96 = .ok (.aload_n 1, 1) := dk_43 (dk_at dksX8_command_4 0 rfl rfl)
theorem dX8_command_97 : decode cX8_command 97 = .ok (.aload_n 3, 1) := dk_45 (dk_at dksX8_command_4 1 rfl rfl)
theorem dX8_command_98 : decode cX8_command 98 = .ok (.invokevirtual 163, 3) := dk_182 0 163 (dk_at dksX8_command_4 2 rfl rfl)
theorem dX8_command_101 : decode cX8_command 101 = .ok (.goto 16, 3) := dk_167 0 16 (dk_at dksX8_command_4 5 rfl rfl)
theorem dX8_command_104 : decode cX8_command 104 = .ok (.astore 5, 2) := dk_58 5 (dk_at dksX8_command_4 8 rfl rfl)
theorem dX8_command_106 : decode cX8_command 106 = .ok (.new 64, 3) := dk_187 0 64 (dk_at dksX8_command_4 10 rfl rfl)
theorem dX8_command_109 : decode cX8_command 109 = .ok (.dup, 1) := dk_89 (dk_at dksX8_command_4 13 rfl rfl)
theorem dX8_command_110 : decode cX8_command 110 = .ok (.iload_n 2, 1) := dk_28 (dk_at dksX8_command_4 14 rfl rfl)
theorem dX8_command_111 : decode cX8_command 111 = .ok (.aload 5, 2) := dk_25 5 (dk_at dksX8_command_4 15 rfl rfl)
theorem dX8_command_113 : decode cX8_command 113 = .ok (.invokespecial 69, 3) := dk_183 0 69 (dk_at dksX8_command_4 17 rfl rfl)
theorem dX8_command_116 : decode cX8_command 116 = .ok (.athrow, 1) := dk_191 (dk_at dksX8_command_4 20 rfl rfl)
theorem dX8_command_117 : decode cX8_command 117 = .ok (.aload_n 0, 1) := dk_42 (dk_at dksX8_command_4 21 rfl rfl)
theorem dX8_command_118 : decode cX8_command 118 = .ok (.invokevirtual 72, 3) := dk_182 0 72 (dk_at dksX8_command_5 0 rfl rfl)
theorem dX8_command_121 : decode cX8_command 121 = .ok (.aload_n 0, 1) := dk_42 (dk_at dksX8_command_5 3 rfl rfl)
theorem dX8_command_122 : decode cX8_command 122 = .ok (.dup, 1) := dk_89 (dk_at dksX8_command_5 4 rfl rfl)
theorem dX8_command_123 : decode cX8_command 123 = .ok (.getfield 167, 3) := dk_180 0 167 (dk_at dksX8_command_5 5 rfl rfl)
theorem dX8_command_126 : decode cX8_command 126 = .ok (.iconst 1, 1) := dk_4 (dk_at dksX8_command_5 8 rfl rfl)
theorem dX8_command_127 : decode cX8_command 127 = .ok (.iadd, 1) := dk_96 (dk_at dksX8_command_5 9 rfl rfl)
theorem dX8_command_128 : decode cX8_command 128 = .ok (.putfield 167, 3) := dk_181 0 167 (dk_at dksX8_command_5 10 rfl rfl)
theorem dX8_command_131 : decode cX8_command 131 = .ok (.return_, 1) := dk_177 (dk_at dksX8_command_5 13 rfl rfl)
abbrev cX8_numbersOf : ByteArray := prog_14_method_7_code
def yX8_numbersOf : MethodName := ⟨RX8, "numbersOf", "(Ljava/lang/String;)I"⟩
def dkwX8_numbersOf_8 : List UInt8 := [4, 167, 0, 16, 5, 167, 0, 12, 6, 167, 0, 8, 8, 167, 0, 4, 3, 172]
abbrev dktX8_numbersOf_8 : List UInt8 := dkwX8_numbersOf_8 ++ []
def dkwX8_numbersOf_7 : List UInt8 := [170, 0, 0, 0, 0, 0, 0, 64, 0, 0, 0, 0, 0, 0, 0, 7, 0, 0, 0, 48, 0, 0, 0, 48, 0, 0, 0, 52, 0, 0, 0, 52, 0, 0, 0, 56, 0, 0, 0, 56, 0, 0, 0, 56, 0, 0, 0, 60]
abbrev dktX8_numbersOf_7 : List UInt8 := dkwX8_numbersOf_7 ++ dktX8_numbersOf_8
def dkwX8_numbersOf_6 : List UInt8 := [61, 167, 0, 15, 43, 18, 107, 182, 0, 91, 153, 0, 6, 16, 7, 61, 28]
abbrev dktX8_numbersOf_6 : List UInt8 := dkwX8_numbersOf_6 ++ dktX8_numbersOf_7
def dkwX8_numbersOf_5 : List UInt8 := [18, 103, 182, 0, 91, 153, 0, 35, 8, 61, 167, 0, 30, 43, 18, 105, 182, 0, 91, 153, 0, 21, 16, 6]
abbrev dktX8_numbersOf_5 : List UInt8 := dkwX8_numbersOf_5 ++ dktX8_numbersOf_6
def dkwX8_numbersOf_4 : List UInt8 := [153, 0, 63, 6, 61, 167, 0, 58, 43, 18, 101, 182, 0, 91, 153, 0, 49, 7, 61, 167, 0, 44, 43]
abbrev dktX8_numbersOf_4 : List UInt8 := dkwX8_numbersOf_4 ++ dktX8_numbersOf_5
def dkwX8_numbersOf_3 : List UInt8 := [61, 167, 0, 86, 43, 18, 97, 182, 0, 91, 153, 0, 77, 5, 61, 167, 0, 72, 43, 18, 99, 182, 0, 91]
abbrev dktX8_numbersOf_3 : List UInt8 := dkwX8_numbersOf_3 ++ dktX8_numbersOf_4
def dkwX8_numbersOf_2 : List UInt8 := [43, 18, 89, 182, 0, 91, 153, 0, 105, 3, 61, 167, 0, 100, 43, 18, 95, 182, 0, 91, 153, 0, 91, 4]
abbrev dktX8_numbersOf_2 : List UInt8 := dkwX8_numbersOf_2 ++ dktX8_numbersOf_3
def dkwX8_numbersOf_1 : List UInt8 := [171, 0, 0, 0, 0, 0, 0, 187, 0, 0, 0, 8, 0, 1, 126, 134, 0, 0, 0, 160, 0, 46, 175, 4, 0, 0, 0, 90, 0, 50, 59, 148, 0, 0, 0, 132, 0, 53, 150, 252, 0, 0, 0, 76, 5, 165, 168, 60, 0, 0, 0, 118, 6, 95, 180, 18, 0, 0, 0, 175, 6, 131, 9, 74, 0, 0, 0, 104, 6, 188, 109, 124, 0, 0, 0, 146]
abbrev dktX8_numbersOf_1 : List UInt8 := dkwX8_numbersOf_1 ++ dktX8_numbersOf_2
def dkwX8_numbersOf_0 : List UInt8 := [42, 76, 2, 61, 43, 182, 0, 84]
abbrev dktX8_numbersOf_0 : List UInt8 := dkwX8_numbersOf_0 ++ dktX8_numbersOf_1
theorem dksX8_numbersOf_0 : cX8_numbersOf.data.toList.drop 0 = dktX8_numbersOf_0 := by decide +kernel
theorem dksX8_numbersOf_1 : cX8_numbersOf.data.toList.drop 8 = dktX8_numbersOf_1 := dk_seg dksX8_numbersOf_0 8 rfl rfl
theorem dksX8_numbersOf_2 : cX8_numbersOf.data.toList.drop 84 = dktX8_numbersOf_2 := dk_seg dksX8_numbersOf_1 76 rfl rfl
theorem dksX8_numbersOf_3 : cX8_numbersOf.data.toList.drop 108 = dktX8_numbersOf_3 := dk_seg dksX8_numbersOf_2 24 rfl rfl
theorem dksX8_numbersOf_4 : cX8_numbersOf.data.toList.drop 132 = dktX8_numbersOf_4 := dk_seg dksX8_numbersOf_3 24 rfl rfl
theorem dksX8_numbersOf_5 : cX8_numbersOf.data.toList.drop 155 = dktX8_numbersOf_5 := dk_seg dksX8_numbersOf_4 23 rfl rfl
theorem dksX8_numbersOf_6 : cX8_numbersOf.data.toList.drop 179 = dktX8_numbersOf_6 := dk_seg dksX8_numbersOf_5 24 rfl rfl
theorem dksX8_numbersOf_7 : cX8_numbersOf.data.toList.drop 196 = dktX8_numbersOf_7 := dk_seg dksX8_numbersOf_6 17 rfl rfl
theorem dksX8_numbersOf_8 : cX8_numbersOf.data.toList.drop 244 = dktX8_numbersOf_8 := dk_seg dksX8_numbersOf_7 48 rfl rfl
theorem dX8_numbersOf_0 : decode cX8_numbersOf 0 = .ok (.aload_n 0, 1) := dk_42 (dk_at dksX8_numbersOf_0 0 rfl rfl)
theorem dX8_numbersOf_1 : decode cX8_numbersOf 1 = .ok (.astore_n 1, 1) := dk_76 (dk_at dksX8_numbersOf_0 1 rfl rfl)
theorem dX8_numbersOf_2 : decode cX8_numbersOf 2 = .ok (.iconst (-1), 1) := dk_2 (dk_at dksX8_numbersOf_0 2 rfl rfl)
theorem dX8_numbersOf_3 : decode cX8_numbersOf 3 = .ok (.istore_n 2, 1) := dk_61 (dk_at dksX8_numbersOf_0 3 rfl rfl)
theorem dX8_numbersOf_4 : decode cX8_numbersOf 4 = .ok (.aload_n 1, 1) := dk_43 (dk_at dksX8_numbersOf_0 4 rfl rfl)
theorem dX8_numbersOf_5 : decode cX8_numbersOf 5 = .ok (.invokevirtual 84, 3) := dk_182 0 84 (dk_at dksX8_numbersOf_0 5 rfl rfl)
theorem dX8_numbersOf_8 : decode cX8_numbersOf 8 = .ok (.lookupswitch 187 #[(97926, 160), (3059460, 90), (3292052, 132), (3512060, 76), (94742588, 118), (106935314, 175), (109250890, 104), (113012092, 146)], 76) := by decide +kernel
theorem dX8_numbersOf_84 : decode cX8_numbersOf 84 = .ok (.aload_n 1, 1) := dk_43 (dk_at dksX8_numbersOf_2 0 rfl rfl)
theorem dX8_numbersOf_85 : decode cX8_numbersOf 85 = .ok (.ldc 89, 2) := dk_18 89 (dk_at dksX8_numbersOf_2 1 rfl rfl)
theorem dX8_numbersOf_87 : decode cX8_numbersOf 87 = .ok (.invokevirtual 91, 3) := dk_182 0 91 (dk_at dksX8_numbersOf_2 3 rfl rfl)
theorem dX8_numbersOf_90 : decode cX8_numbersOf 90 = .ok (.ifCond .eq 105, 3) := dk_153 0 105 (dk_at dksX8_numbersOf_2 6 rfl rfl)
theorem dX8_numbersOf_93 : decode cX8_numbersOf 93 = .ok (.iconst 0, 1) := dk_3 (dk_at dksX8_numbersOf_2 9 rfl rfl)
theorem dX8_numbersOf_94 : decode cX8_numbersOf 94 = .ok (.istore_n 2, 1) := dk_61 (dk_at dksX8_numbersOf_2 10 rfl rfl)
theorem dX8_numbersOf_95 : decode cX8_numbersOf 95 = .ok (.goto 100, 3) := dk_167 0 100 (dk_at dksX8_numbersOf_2 11 rfl rfl)
theorem dX8_numbersOf_98 : decode cX8_numbersOf 98 = .ok (.aload_n 1, 1) := dk_43 (dk_at dksX8_numbersOf_2 14 rfl rfl)
theorem dX8_numbersOf_99 : decode cX8_numbersOf 99 = .ok (.ldc 95, 2) := dk_18 95 (dk_at dksX8_numbersOf_2 15 rfl rfl)
theorem dX8_numbersOf_101 : decode cX8_numbersOf 101 = .ok (.invokevirtual 91, 3) := dk_182 0 91 (dk_at dksX8_numbersOf_2 17 rfl rfl)
theorem dX8_numbersOf_104 : decode cX8_numbersOf 104 = .ok (.ifCond .eq 91, 3) := dk_153 0 91 (dk_at dksX8_numbersOf_2 20 rfl rfl)
theorem dX8_numbersOf_107 : decode cX8_numbersOf 107 = .ok (.iconst 1, 1) := dk_4 (dk_at dksX8_numbersOf_2 23 rfl rfl)
theorem dX8_numbersOf_108 : decode cX8_numbersOf 108 = .ok (.istore_n 2, 1) := dk_61 (dk_at dksX8_numbersOf_3 0 rfl rfl)
theorem dX8_numbersOf_109 : decode cX8_numbersOf 109 = .ok (.goto 86, 3) := dk_167 0 86 (dk_at dksX8_numbersOf_3 1 rfl rfl)
theorem dX8_numbersOf_112 : decode cX8_numbersOf 112 = .ok (.aload_n 1, 1) := dk_43 (dk_at dksX8_numbersOf_3 4 rfl rfl)
theorem dX8_numbersOf_113 : decode cX8_numbersOf 113 = .ok (.ldc 97, 2) := dk_18 97 (dk_at dksX8_numbersOf_3 5 rfl rfl)
theorem dX8_numbersOf_115 : decode cX8_numbersOf 115 = .ok (.invokevirtual 91, 3) := dk_182 0 91 (dk_at dksX8_numbersOf_3 7 rfl rfl)
theorem dX8_numbersOf_118 : decode cX8_numbersOf 118 = .ok (.ifCond .eq 77, 3) := dk_153 0 77 (dk_at dksX8_numbersOf_3 10 rfl rfl)
theorem dX8_numbersOf_121 : decode cX8_numbersOf 121 = .ok (.iconst 2, 1) := dk_5 (dk_at dksX8_numbersOf_3 13 rfl rfl)
theorem dX8_numbersOf_122 : decode cX8_numbersOf 122 = .ok (.istore_n 2, 1) := dk_61 (dk_at dksX8_numbersOf_3 14 rfl rfl)
theorem dX8_numbersOf_123 : decode cX8_numbersOf 123 = .ok (.goto 72, 3) := dk_167 0 72 (dk_at dksX8_numbersOf_3 15 rfl rfl)
theorem dX8_numbersOf_126 : decode cX8_numbersOf 126 = .ok (.aload_n 1, 1) := dk_43 (dk_at dksX8_numbersOf_3 18 rfl rfl)
theorem dX8_numbersOf_127 : decode cX8_numbersOf 127 = .ok (.ldc 99, 2) := dk_18 99 (dk_at dksX8_numbersOf_3 19 rfl rfl)
theorem dX8_numbersOf_129 : decode cX8_numbersOf 129 = .ok (.invokevirtual 91, 3) := dk_182 0 91 (dk_at dksX8_numbersOf_3 21 rfl rfl)
theorem dX8_numbersOf_132 : decode cX8_numbersOf 132 = .ok (.ifCond .eq 63, 3) := dk_153 0 63 (dk_at dksX8_numbersOf_4 0 rfl rfl)
theorem dX8_numbersOf_135 : decode cX8_numbersOf 135 = .ok (.iconst 3, 1) := dk_6 (dk_at dksX8_numbersOf_4 3 rfl rfl)
theorem dX8_numbersOf_136 : decode cX8_numbersOf 136 = .ok (.istore_n 2, 1) := dk_61 (dk_at dksX8_numbersOf_4 4 rfl rfl)
theorem dX8_numbersOf_137 : decode cX8_numbersOf 137 = .ok (.goto 58, 3) := dk_167 0 58 (dk_at dksX8_numbersOf_4 5 rfl rfl)
theorem dX8_numbersOf_140 : decode cX8_numbersOf 140 = .ok (.aload_n 1, 1) := dk_43 (dk_at dksX8_numbersOf_4 8 rfl rfl)
theorem dX8_numbersOf_141 : decode cX8_numbersOf 141 = .ok (.ldc 101, 2) := dk_18 101 (dk_at dksX8_numbersOf_4 9 rfl rfl)
theorem dX8_numbersOf_143 : decode cX8_numbersOf 143 = .ok (.invokevirtual 91, 3) := dk_182 0 91 (dk_at dksX8_numbersOf_4 11 rfl rfl)
theorem dX8_numbersOf_146 : decode cX8_numbersOf 146 = .ok (.ifCond .eq 49, 3) := dk_153 0 49 (dk_at dksX8_numbersOf_4 14 rfl rfl)
theorem dX8_numbersOf_149 : decode cX8_numbersOf 149 = .ok (.iconst 4, 1) := dk_7 (dk_at dksX8_numbersOf_4 17 rfl rfl)
theorem dX8_numbersOf_150 : decode cX8_numbersOf 150 = .ok (.istore_n 2, 1) := dk_61 (dk_at dksX8_numbersOf_4 18 rfl rfl)
theorem dX8_numbersOf_151 : decode cX8_numbersOf 151 = .ok (.goto 44, 3) := dk_167 0 44 (dk_at dksX8_numbersOf_4 19 rfl rfl)
theorem dX8_numbersOf_154 : decode cX8_numbersOf 154 = .ok (.aload_n 1, 1) := dk_43 (dk_at dksX8_numbersOf_4 22 rfl rfl)
theorem dX8_numbersOf_155 : decode cX8_numbersOf 155 = .ok (.ldc 103, 2) := dk_18 103 (dk_at dksX8_numbersOf_5 0 rfl rfl)
theorem dX8_numbersOf_157 : decode cX8_numbersOf 157 = .ok (.invokevirtual 91, 3) := dk_182 0 91 (dk_at dksX8_numbersOf_5 2 rfl rfl)
theorem dX8_numbersOf_160 : decode cX8_numbersOf 160 = .ok (.ifCond .eq 35, 3) := dk_153 0 35 (dk_at dksX8_numbersOf_5 5 rfl rfl)
theorem dX8_numbersOf_163 : decode cX8_numbersOf 163 = .ok (.iconst 5, 1) := dk_8 (dk_at dksX8_numbersOf_5 8 rfl rfl)
theorem dX8_numbersOf_164 : decode cX8_numbersOf 164 = .ok (.istore_n 2, 1) := dk_61 (dk_at dksX8_numbersOf_5 9 rfl rfl)
theorem dX8_numbersOf_165 : decode cX8_numbersOf 165 = .ok (.goto 30, 3) := dk_167 0 30 (dk_at dksX8_numbersOf_5 10 rfl rfl)
theorem dX8_numbersOf_168 : decode cX8_numbersOf 168 = .ok (.aload_n 1, 1) := dk_43 (dk_at dksX8_numbersOf_5 13 rfl rfl)
theorem dX8_numbersOf_169 : decode cX8_numbersOf 169 = .ok (.ldc 105, 2) := dk_18 105 (dk_at dksX8_numbersOf_5 14 rfl rfl)
theorem dX8_numbersOf_171 : decode cX8_numbersOf 171 = .ok (.invokevirtual 91, 3) := dk_182 0 91 (dk_at dksX8_numbersOf_5 16 rfl rfl)
theorem dX8_numbersOf_174 : decode cX8_numbersOf 174 = .ok (.ifCond .eq 21, 3) := dk_153 0 21 (dk_at dksX8_numbersOf_5 19 rfl rfl)
theorem dX8_numbersOf_177 : decode cX8_numbersOf 177 = .ok (.bipush 6, 2) := dk_16 6 (dk_at dksX8_numbersOf_5 22 rfl rfl)
theorem dX8_numbersOf_179 : decode cX8_numbersOf 179 = .ok (.istore_n 2, 1) := dk_61 (dk_at dksX8_numbersOf_6 0 rfl rfl)
theorem dX8_numbersOf_180 : decode cX8_numbersOf 180 = .ok (.goto 15, 3) := dk_167 0 15 (dk_at dksX8_numbersOf_6 1 rfl rfl)
theorem dX8_numbersOf_183 : decode cX8_numbersOf 183 = .ok (.aload_n 1, 1) := dk_43 (dk_at dksX8_numbersOf_6 4 rfl rfl)
theorem dX8_numbersOf_184 : decode cX8_numbersOf 184 = .ok (.ldc 107, 2) := dk_18 107 (dk_at dksX8_numbersOf_6 5 rfl rfl)
theorem dX8_numbersOf_186 : decode cX8_numbersOf 186 = .ok (.invokevirtual 91, 3) := dk_182 0 91 (dk_at dksX8_numbersOf_6 7 rfl rfl)
theorem dX8_numbersOf_189 : decode cX8_numbersOf 189 = .ok (.ifCond .eq 6, 3) := dk_153 0 6 (dk_at dksX8_numbersOf_6 10 rfl rfl)
theorem dX8_numbersOf_192 : decode cX8_numbersOf 192 = .ok (.bipush 7, 2) := dk_16 7 (dk_at dksX8_numbersOf_6 13 rfl rfl)
theorem dX8_numbersOf_194 : decode cX8_numbersOf 194 = .ok (.istore_n 2, 1) := dk_61 (dk_at dksX8_numbersOf_6 15 rfl rfl)
theorem dX8_numbersOf_195 : decode cX8_numbersOf 195 = .ok (.iload_n 2, 1) := dk_28 (dk_at dksX8_numbersOf_6 16 rfl rfl)
theorem dX8_numbersOf_196 : decode cX8_numbersOf 196 = .ok (.tableswitch 64 0 7 #[48, 48, 52, 52, 56, 56, 56, 60], 48) := by decide +kernel
theorem dX8_numbersOf_244 : decode cX8_numbersOf 244 = .ok (.iconst 1, 1) := dk_4 (dk_at dksX8_numbersOf_8 0 rfl rfl)
theorem dX8_numbersOf_245 : decode cX8_numbersOf 245 = .ok (.goto 16, 3) := dk_167 0 16 (dk_at dksX8_numbersOf_8 1 rfl rfl)
theorem dX8_numbersOf_248 : decode cX8_numbersOf 248 = .ok (.iconst 2, 1) := dk_5 (dk_at dksX8_numbersOf_8 4 rfl rfl)
theorem dX8_numbersOf_249 : decode cX8_numbersOf 249 = .ok (.goto 12, 3) := dk_167 0 12 (dk_at dksX8_numbersOf_8 5 rfl rfl)
theorem dX8_numbersOf_252 : decode cX8_numbersOf 252 = .ok (.iconst 3, 1) := dk_6 (dk_at dksX8_numbersOf_8 8 rfl rfl)
theorem dX8_numbersOf_253 : decode cX8_numbersOf 253 = .ok (.goto 8, 3) := dk_167 0 8 (dk_at dksX8_numbersOf_8 9 rfl rfl)
theorem dX8_numbersOf_256 : decode cX8_numbersOf 256 = .ok (.iconst 5, 1) := dk_8 (dk_at dksX8_numbersOf_8 12 rfl rfl)
theorem dX8_numbersOf_257 : decode cX8_numbersOf 257 = .ok (.goto 4, 3) := dk_167 0 4 (dk_at dksX8_numbersOf_8 13 rfl rfl)
theorem dX8_numbersOf_260 : decode cX8_numbersOf 260 = .ok (.iconst 0, 1) := dk_3 (dk_at dksX8_numbersOf_8 16 rfl rfl)
theorem dX8_numbersOf_261 : decode cX8_numbersOf 261 = .ok (.ireturn, 1) := dk_172 (dk_at dksX8_numbersOf_8 17 rfl rfl)
abbrev cX8_take : ByteArray := prog_14_method_5_code
def yX8_take : MethodName := ⟨RX8, "take", "(Z)V"⟩
def dkwX8_take_1 : List UInt8 := [177]
abbrev dktX8_take_1 : List UInt8 := dkwX8_take_1 ++ []
def dkwX8_take_0 : List UInt8 := [27, 154, 0, 19, 187, 0, 64, 89, 42, 180, 0, 60, 180, 0, 66, 1, 183, 0, 69, 191, 42, 182, 0, 72]
abbrev dktX8_take_0 : List UInt8 := dkwX8_take_0 ++ dktX8_take_1
theorem dksX8_take_0 : cX8_take.data.toList.drop 0 = dktX8_take_0 := by decide +kernel
theorem dksX8_take_1 : cX8_take.data.toList.drop 24 = dktX8_take_1 := dk_seg dksX8_take_0 24 rfl rfl
theorem dX8_take_0 : decode cX8_take 0 = .ok (.iload_n 1, 1) := dk_27 (dk_at dksX8_take_0 0 rfl rfl)
theorem dX8_take_1 : decode cX8_take 1 = .ok (.ifCond .ne 19, 3) := dk_154 0 19 (dk_at dksX8_take_0 1 rfl rfl)
theorem dX8_take_4 : decode cX8_take 4 = .ok (.new 64, 3) := dk_187 0 64 (dk_at dksX8_take_0 4 rfl rfl)
theorem dX8_take_7 : decode cX8_take 7 = .ok (.dup, 1) := dk_89 (dk_at dksX8_take_0 7 rfl rfl)
theorem dX8_take_8 : decode cX8_take 8 = .ok (.aload_n 0, 1) := dk_42 (dk_at dksX8_take_0 8 rfl rfl)
theorem dX8_take_9 : decode cX8_take 9 = .ok (.getfield 60, 3) := dk_180 0 60 (dk_at dksX8_take_0 9 rfl rfl)
theorem dX8_take_12 : decode cX8_take 12 = .ok (.getfield 66, 3) := dk_180 0 66 (dk_at dksX8_take_0 12 rfl rfl)
theorem dX8_take_15 : decode cX8_take 15 = .ok (.aconst_null, 1) := dk_1 (dk_at dksX8_take_0 15 rfl rfl)
theorem dX8_take_16 : decode cX8_take 16 = .ok (.invokespecial 69, 3) := dk_183 0 69 (dk_at dksX8_take_0 16 rfl rfl)
theorem dX8_take_19 : decode cX8_take 19 = .ok (.athrow, 1) := dk_191 (dk_at dksX8_take_0 19 rfl rfl)
theorem dX8_take_20 : decode cX8_take 20 = .ok (.aload_n 0, 1) := dk_42 (dk_at dksX8_take_0 20 rfl rfl)
theorem dX8_take_21 : decode cX8_take 21 = .ok (.invokevirtual 72, 3) := dk_182 0 72 (dk_at dksX8_take_0 21 rfl rfl)
theorem dX8_take_24 : decode cX8_take 24 = .ok (.return_, 1) := dk_177 (dk_at dksX8_take_1 0 rfl rfl)
abbrev cX8_number : ByteArray := prog_14_method_6_code
def yX8_number : MethodName := ⟨RX8, "number", "()I"⟩
def dkwX8_number_4 : List UInt8 := [167, 255, 221, 42, 28, 182, 0, 80, 27, 172]
abbrev dktX8_number_4 : List UInt8 := dkwX8_number_4 ++ []
def dkwX8_number_3 : List UInt8 := [28, 153, 0, 26, 16, 10, 27, 104, 42, 180, 0, 60, 29, 182, 0, 79, 96, 16, 48, 100, 60, 132, 3, 1]
abbrev dktX8_number_3 : List UInt8 := dkwX8_number_3 ++ dktX8_number_4
def dkwX8_number_2 : List UInt8 := [16, 48, 159, 0, 7, 4, 167, 0, 4, 3, 61, 3, 62, 29, 42, 180, 0, 60, 182, 0, 78, 162, 0, 30]
abbrev dktX8_number_2 : List UInt8 := dkwX8_number_2 ++ dktX8_number_3
def dkwX8_number_1 : List UInt8 := [16, 6, 163, 0, 31, 42, 180, 0, 60, 182, 0, 78, 4, 159, 0, 16, 42, 180, 0, 60, 3, 182, 0, 79]
abbrev dktX8_number_1 : List UInt8 := dkwX8_number_1 ++ dktX8_number_2
def dkwX8_number_0 : List UInt8 := [3, 60, 42, 180, 0, 60, 16, 48, 16, 57, 182, 0, 75, 153, 0, 43, 42, 180, 0, 60, 182, 0, 78]
abbrev dktX8_number_0 : List UInt8 := dkwX8_number_0 ++ dktX8_number_1
theorem dksX8_number_0 : cX8_number.data.toList.drop 0 = dktX8_number_0 := by decide +kernel
theorem dksX8_number_1 : cX8_number.data.toList.drop 23 = dktX8_number_1 := dk_seg dksX8_number_0 23 rfl rfl
theorem dksX8_number_2 : cX8_number.data.toList.drop 47 = dktX8_number_2 := dk_seg dksX8_number_1 24 rfl rfl
theorem dksX8_number_3 : cX8_number.data.toList.drop 71 = dktX8_number_3 := dk_seg dksX8_number_2 24 rfl rfl
theorem dksX8_number_4 : cX8_number.data.toList.drop 95 = dktX8_number_4 := dk_seg dksX8_number_3 24 rfl rfl
theorem dX8_number_0 : decode cX8_number 0 = .ok (.iconst 0, 1) := dk_3 (dk_at dksX8_number_0 0 rfl rfl)
theorem dX8_number_1 : decode cX8_number 1 = .ok (.istore_n 1, 1) := dk_60 (dk_at dksX8_number_0 1 rfl rfl)
theorem dX8_number_2 : decode cX8_number 2 = .ok (.aload_n 0, 1) := dk_42 (dk_at dksX8_number_0 2 rfl rfl)
theorem dX8_number_3 : decode cX8_number 3 = .ok (.getfield 60, 3) := dk_180 0 60 (dk_at dksX8_number_0 3 rfl rfl)
theorem dX8_number_6 : decode cX8_number 6 = .ok (.bipush 48, 2) := dk_16 48 (dk_at dksX8_number_0 6 rfl rfl)
theorem dX8_number_8 : decode cX8_number 8 = .ok (.bipush 57, 2) := dk_16 57 (dk_at dksX8_number_0 8 rfl rfl)
theorem dX8_number_10 : decode cX8_number 10 = .ok (.invokevirtual 75, 3) := dk_182 0 75 (dk_at dksX8_number_0 10 rfl rfl)
theorem dX8_number_13 : decode cX8_number 13 = .ok (.ifCond .eq 43, 3) := dk_153 0 43 (dk_at dksX8_number_0 13 rfl rfl)
theorem dX8_number_16 : decode cX8_number 16 = .ok (.aload_n 0, 1) := dk_42 (dk_at dksX8_number_0 16 rfl rfl)
theorem dX8_number_17 : decode cX8_number 17 = .ok (.getfield 60, 3) := dk_180 0 60 (dk_at dksX8_number_0 17 rfl rfl)
theorem dX8_number_20 : decode cX8_number 20 = .ok (.invokevirtual 78, 3) := dk_182 0 78 (dk_at dksX8_number_0 20 rfl rfl)
theorem dX8_number_23 : decode cX8_number 23 = .ok (.bipush 6, 2) := dk_16 6 (dk_at dksX8_number_1 0 rfl rfl)
theorem dX8_number_25 : decode cX8_number 25 = .ok (.if_icmp .gt 31, 3) := dk_163 0 31 (dk_at dksX8_number_1 2 rfl rfl)
theorem dX8_number_28 : decode cX8_number 28 = .ok (.aload_n 0, 1) := dk_42 (dk_at dksX8_number_1 5 rfl rfl)
theorem dX8_number_29 : decode cX8_number 29 = .ok (.getfield 60, 3) := dk_180 0 60 (dk_at dksX8_number_1 6 rfl rfl)
theorem dX8_number_32 : decode cX8_number 32 = .ok (.invokevirtual 78, 3) := dk_182 0 78 (dk_at dksX8_number_1 9 rfl rfl)
theorem dX8_number_35 : decode cX8_number 35 = .ok (.iconst 1, 1) := dk_4 (dk_at dksX8_number_1 12 rfl rfl)
theorem dX8_number_36 : decode cX8_number 36 = .ok (.if_icmp .eq 16, 3) := dk_159 0 16 (dk_at dksX8_number_1 13 rfl rfl)
theorem dX8_number_39 : decode cX8_number 39 = .ok (.aload_n 0, 1) := dk_42 (dk_at dksX8_number_1 16 rfl rfl)
theorem dX8_number_40 : decode cX8_number 40 = .ok (.getfield 60, 3) := dk_180 0 60 (dk_at dksX8_number_1 17 rfl rfl)
theorem dX8_number_43 : decode cX8_number 43 = .ok (.iconst 0, 1) := dk_3 (dk_at dksX8_number_1 20 rfl rfl)
theorem dX8_number_44 : decode cX8_number 44 = .ok (.invokevirtual 79, 3) := dk_182 0 79 (dk_at dksX8_number_1 21 rfl rfl)
theorem dX8_number_47 : decode cX8_number 47 = .ok (.bipush 48, 2) := dk_16 48 (dk_at dksX8_number_2 0 rfl rfl)
theorem dX8_number_49 : decode cX8_number 49 = .ok (.if_icmp .eq 7, 3) := dk_159 0 7 (dk_at dksX8_number_2 2 rfl rfl)
theorem dX8_number_52 : decode cX8_number 52 = .ok (.iconst 1, 1) := dk_4 (dk_at dksX8_number_2 5 rfl rfl)
theorem dX8_number_53 : decode cX8_number 53 = .ok (.goto 4, 3) := dk_167 0 4 (dk_at dksX8_number_2 6 rfl rfl)
theorem dX8_number_56 : decode cX8_number 56 = .ok (.iconst 0, 1) := dk_3 (dk_at dksX8_number_2 9 rfl rfl)
theorem dX8_number_57 : decode cX8_number 57 = .ok (.istore_n 2, 1) := dk_61 (dk_at dksX8_number_2 10 rfl rfl)
theorem dX8_number_58 : decode cX8_number 58 = .ok (.iconst 0, 1) := dk_3 (dk_at dksX8_number_2 11 rfl rfl)
theorem dX8_number_59 : decode cX8_number 59 = .ok (.istore_n 3, 1) := dk_62 (dk_at dksX8_number_2 12 rfl rfl)
theorem dX8_number_60 : decode cX8_number 60 = .ok (.iload_n 3, 1) := dk_29 (dk_at dksX8_number_2 13 rfl rfl)
theorem dX8_number_61 : decode cX8_number 61 = .ok (.aload_n 0, 1) := dk_42 (dk_at dksX8_number_2 14 rfl rfl)
theorem dX8_number_62 : decode cX8_number 62 = .ok (.getfield 60, 3) := dk_180 0 60 (dk_at dksX8_number_2 15 rfl rfl)
theorem dX8_number_65 : decode cX8_number 65 = .ok (.invokevirtual 78, 3) := dk_182 0 78 (dk_at dksX8_number_2 18 rfl rfl)
theorem dX8_number_68 : decode cX8_number 68 = .ok (.if_icmp .ge 30, 3) := dk_162 0 30 (dk_at dksX8_number_2 21 rfl rfl)
theorem dX8_number_71 : decode cX8_number 71 = .ok (.iload_n 2, 1) := dk_28 (dk_at dksX8_number_3 0 rfl rfl)
theorem dX8_number_72 : decode cX8_number 72 = .ok (.ifCond .eq 26, 3) := dk_153 0 26 (dk_at dksX8_number_3 1 rfl rfl)
theorem dX8_number_75 : decode cX8_number 75 = .ok (.bipush 10, 2) := dk_16 10 (dk_at dksX8_number_3 4 rfl rfl)
theorem dX8_number_77 : decode cX8_number 77 = .ok (.iload_n 1, 1) := dk_27 (dk_at dksX8_number_3 6 rfl rfl)
theorem dX8_number_78 : decode cX8_number 78 = .ok (.imul, 1) := dk_104 (dk_at dksX8_number_3 7 rfl rfl)
theorem dX8_number_79 : decode cX8_number 79 = .ok (.aload_n 0, 1) := dk_42 (dk_at dksX8_number_3 8 rfl rfl)
theorem dX8_number_80 : decode cX8_number 80 = .ok (.getfield 60, 3) := dk_180 0 60 (dk_at dksX8_number_3 9 rfl rfl)
theorem dX8_number_83 : decode cX8_number 83 = .ok (.iload_n 3, 1) := dk_29 (dk_at dksX8_number_3 12 rfl rfl)
theorem dX8_number_84 : decode cX8_number 84 = .ok (.invokevirtual 79, 3) := dk_182 0 79 (dk_at dksX8_number_3 13 rfl rfl)
theorem dX8_number_87 : decode cX8_number 87 = .ok (.iadd, 1) := dk_96 (dk_at dksX8_number_3 16 rfl rfl)
theorem dX8_number_88 : decode cX8_number 88 = .ok (.bipush 48, 2) := dk_16 48 (dk_at dksX8_number_3 17 rfl rfl)
theorem dX8_number_90 : decode cX8_number 90 = .ok (.isub, 1) := dk_100 (dk_at dksX8_number_3 19 rfl rfl)
theorem dX8_number_91 : decode cX8_number 91 = .ok (.istore_n 1, 1) := dk_60 (dk_at dksX8_number_3 20 rfl rfl)
theorem dX8_number_92 : decode cX8_number 92 = .ok (.iinc 3 1, 3) := dk_132 3 1 (dk_at dksX8_number_3 21 rfl rfl)
theorem dX8_number_95 : decode cX8_number 95 = .ok (.goto (-35), 3) := dk_167 255 221 (dk_at dksX8_number_4 0 rfl rfl)
theorem dX8_number_98 : decode cX8_number 98 = .ok (.aload_n 0, 1) := dk_42 (dk_at dksX8_number_4 3 rfl rfl)
theorem dX8_number_99 : decode cX8_number 99 = .ok (.iload_n 2, 1) := dk_28 (dk_at dksX8_number_4 4 rfl rfl)
theorem dX8_number_100 : decode cX8_number 100 = .ok (.invokevirtual 80, 3) := dk_182 0 80 (dk_at dksX8_number_4 5 rfl rfl)
theorem dX8_number_103 : decode cX8_number 103 = .ok (.iload_n 1, 1) := dk_27 (dk_at dksX8_number_4 8 rfl rfl)
theorem dX8_number_104 : decode cX8_number 104 = .ok (.ireturn, 1) := dk_172 (dk_at dksX8_number_4 9 rfl rfl)
abbrev cX8_make : ByteArray := prog_14_method_9_code
def yX8_make : MethodName := ⟨RX8, "make", "(Ljava/lang/String;[I)V"⟩
def dkwX8_make_1 : List UInt8 := [184, 0, 143, 153, 0, 12, 187, 0, 147, 89, 29, 183, 0, 149, 191, 177]
abbrev dktX8_make_1 : List UInt8 := dkwX8_make_1 ++ []
def dkwX8_make_0 : List UInt8 := [42, 43, 44, 182, 0, 135, 62, 29, 18, 139, 160, 0, 11, 187, 0, 140, 89, 183, 0, 142, 191, 29]
abbrev dktX8_make_0 : List UInt8 := dkwX8_make_0 ++ dktX8_make_1
theorem dksX8_make_0 : cX8_make.data.toList.drop 0 = dktX8_make_0 := by decide +kernel
theorem dksX8_make_1 : cX8_make.data.toList.drop 22 = dktX8_make_1 := dk_seg dksX8_make_0 22 rfl rfl
theorem dX8_make_0 : decode cX8_make 0 = .ok (.aload_n 0, 1) := dk_42 (dk_at dksX8_make_0 0 rfl rfl)
theorem dX8_make_1 : decode cX8_make 1 = .ok (.aload_n 1, 1) := dk_43 (dk_at dksX8_make_0 1 rfl rfl)
theorem dX8_make_2 : decode cX8_make 2 = .ok (.aload_n 2, 1) := dk_44 (dk_at dksX8_make_0 2 rfl rfl)
theorem dX8_make_3 : decode cX8_make 3 = .ok (.invokevirtual 135, 3) := dk_182 0 135 (dk_at dksX8_make_0 3 rfl rfl)
theorem dX8_make_6 : decode cX8_make 6 = .ok (.istore_n 3, 1) := dk_62 (dk_at dksX8_make_0 6 rfl rfl)
theorem dX8_make_7 : decode cX8_make 7 = .ok (.iload_n 3, 1) := dk_29 (dk_at dksX8_make_0 7 rfl rfl)
theorem dX8_make_8 : decode cX8_make 8 = .ok (.ldc 139, 2) := dk_18 139 (dk_at dksX8_make_0 8 rfl rfl)
theorem dX8_make_10 : decode cX8_make 10 = .ok (.if_icmp .ne 11, 3) := dk_160 0 11 (dk_at dksX8_make_0 10 rfl rfl)
theorem dX8_make_13 : decode cX8_make 13 = .ok (.new 140, 3) := dk_187 0 140 (dk_at dksX8_make_0 13 rfl rfl)
theorem dX8_make_16 : decode cX8_make 16 = .ok (.dup, 1) := dk_89 (dk_at dksX8_make_0 16 rfl rfl)
theorem dX8_make_17 : decode cX8_make 17 = .ok (.invokespecial 142, 3) := dk_183 0 142 (dk_at dksX8_make_0 17 rfl rfl)
theorem dX8_make_20 : decode cX8_make 20 = .ok (.athrow, 1) := dk_191 (dk_at dksX8_make_0 20 rfl rfl)
theorem dX8_make_21 : decode cX8_make 21 = .ok (.iload_n 3, 1) := dk_29 (dk_at dksX8_make_0 21 rfl rfl)
theorem dX8_make_22 : decode cX8_make 22 = .ok (.invokestatic 143, 3) := dk_184 0 143 (dk_at dksX8_make_1 0 rfl rfl)
theorem dX8_make_25 : decode cX8_make 25 = .ok (.ifCond .eq 12, 3) := dk_153 0 12 (dk_at dksX8_make_1 3 rfl rfl)
theorem dX8_make_28 : decode cX8_make 28 = .ok (.new 147, 3) := dk_187 0 147 (dk_at dksX8_make_1 6 rfl rfl)
theorem dX8_make_31 : decode cX8_make 31 = .ok (.dup, 1) := dk_89 (dk_at dksX8_make_1 9 rfl rfl)
theorem dX8_make_32 : decode cX8_make 32 = .ok (.iload_n 3, 1) := dk_29 (dk_at dksX8_make_1 10 rfl rfl)
theorem dX8_make_33 : decode cX8_make 33 = .ok (.invokespecial 149, 3) := dk_183 0 149 (dk_at dksX8_make_1 11 rfl rfl)
theorem dX8_make_36 : decode cX8_make 36 = .ok (.athrow, 1) := dk_191 (dk_at dksX8_make_1 14 rfl rfl)
theorem dX8_make_37 : decode cX8_make 37 = .ok (.return_, 1) := dk_177 (dk_at dksX8_make_1 15 rfl rfl)
abbrev cX8_call : ByteArray := prog_14_method_8_code
def yX8_call : MethodName := ⟨RX8, "call", "(Ljava/lang/String;[I)I"⟩
def dkwX8_call_13 : List UInt8 := [6, 46, 44, 7, 46, 182, 0, 131, 172]
abbrev dktX8_call_13 : List UInt8 := dkwX8_call_13 ++ []
def dkwX8_call_12 : List UInt8 := [44, 4, 46, 44, 5, 46, 182, 0, 129, 172, 42, 180, 0, 15, 44, 3, 46, 44, 4, 46, 44, 5, 46, 44]
abbrev dktX8_call_12 : List UInt8 := dkwX8_call_12 ++ dktX8_call_13
def dkwX8_call_11 : List UInt8 := [180, 0, 15, 44, 3, 46, 44, 4, 46, 44, 5, 46, 3, 182, 0, 126, 172, 42, 180, 0, 15, 44, 3, 46]
abbrev dktX8_call_11 : List UInt8 := dkwX8_call_11 ++ dktX8_call_12
def dkwX8_call_10 : List UInt8 := [182, 0, 120, 172, 42, 180, 0, 15, 44, 3, 46, 44, 4, 46, 44, 5, 46, 182, 0, 122, 172, 42]
abbrev dktX8_call_10 : List UInt8 := dkwX8_call_10 ++ dktX8_call_11
def dkwX8_call_9 : List UInt8 := [180, 0, 15, 44, 3, 46, 44, 4, 46, 182, 0, 117, 172, 42, 180, 0, 15, 44, 3, 46, 44, 4, 46]
abbrev dktX8_call_9 : List UInt8 := dkwX8_call_9 ++ dktX8_call_10
def dkwX8_call_8 : List UInt8 := [42, 180, 0, 15, 44, 3, 46, 182, 0, 109, 172, 42, 180, 0, 15, 44, 3, 46, 182, 0, 115, 172, 42]
abbrev dktX8_call_8 : List UInt8 := dkwX8_call_8 ++ dktX8_call_9
def dkwX8_call_7 : List UInt8 := [170, 0, 0, 0, 0, 0, 145, 0, 0, 0, 0, 0, 0, 0, 6, 0, 0, 0, 43, 0, 0, 0, 54, 0, 0, 0, 65, 0, 0, 0, 79, 0, 0, 0, 93, 0, 0, 0, 110, 0, 0, 0, 128]
abbrev dktX8_call_7 : List UInt8 := dkwX8_call_7 ++ dktX8_call_8
def dkwX8_call_6 : List UInt8 := [153, 0, 7, 16, 6, 54, 4, 21, 4]
abbrev dktX8_call_6 : List UInt8 := dkwX8_call_6 ++ dktX8_call_7
def dkwX8_call_5 : List UInt8 := [167, 0, 31, 45, 18, 103, 182, 0, 91, 153, 0, 22, 8, 54, 4, 167, 0, 16, 45, 18, 105, 182, 0, 91]
abbrev dktX8_call_5 : List UInt8 := dkwX8_call_5 ++ dktX8_call_6
def dkwX8_call_4 : List UInt8 := [182, 0, 91, 153, 0, 52, 6, 54, 4, 167, 0, 46, 45, 18, 101, 182, 0, 91, 153, 0, 37, 7, 54, 4]
abbrev dktX8_call_4 : List UInt8 := dkwX8_call_4 ++ dktX8_call_5
def dkwX8_call_3 : List UInt8 := [4, 54, 4, 167, 0, 76, 45, 18, 97, 182, 0, 91, 153, 0, 67, 5, 54, 4, 167, 0, 61, 45, 18, 99]
abbrev dktX8_call_3 : List UInt8 := dkwX8_call_3 ++ dktX8_call_4
def dkwX8_call_2 : List UInt8 := [45, 18, 89, 182, 0, 91, 153, 0, 97, 3, 54, 4, 167, 0, 91, 45, 18, 95, 182, 0, 91, 153, 0, 82]
abbrev dktX8_call_2 : List UInt8 := dkwX8_call_2 ++ dktX8_call_3
def dkwX8_call_1 : List UInt8 := [171, 0, 0, 0, 0, 0, 170, 0, 0, 0, 7, 0, 1, 126, 134, 0, 0, 0, 157, 0, 46, 175, 4, 0, 0, 0, 82, 0, 50, 59, 148, 0, 0, 0, 127, 0, 53, 150, 252, 0, 0, 0, 67, 5, 165, 168, 60, 0, 0, 0, 112, 6, 131, 9, 74, 0, 0, 0, 97, 6, 188, 109, 124, 0, 0, 0, 142]
abbrev dktX8_call_1 : List UInt8 := dkwX8_call_1 ++ dktX8_call_2
def dkwX8_call_0 : List UInt8 := [43, 78, 2, 54, 4, 45, 182, 0, 84]
abbrev dktX8_call_0 : List UInt8 := dkwX8_call_0 ++ dktX8_call_1
theorem dksX8_call_0 : cX8_call.data.toList.drop 0 = dktX8_call_0 := by decide +kernel
theorem dksX8_call_1 : cX8_call.data.toList.drop 9 = dktX8_call_1 := dk_seg dksX8_call_0 9 rfl rfl
theorem dksX8_call_2 : cX8_call.data.toList.drop 76 = dktX8_call_2 := dk_seg dksX8_call_1 67 rfl rfl
theorem dksX8_call_3 : cX8_call.data.toList.drop 100 = dktX8_call_3 := dk_seg dksX8_call_2 24 rfl rfl
theorem dksX8_call_4 : cX8_call.data.toList.drop 124 = dktX8_call_4 := dk_seg dksX8_call_3 24 rfl rfl
theorem dksX8_call_5 : cX8_call.data.toList.drop 148 = dktX8_call_5 := dk_seg dksX8_call_4 24 rfl rfl
theorem dksX8_call_6 : cX8_call.data.toList.drop 172 = dktX8_call_6 := dk_seg dksX8_call_5 24 rfl rfl
theorem dksX8_call_7 : cX8_call.data.toList.drop 181 = dktX8_call_7 := dk_seg dksX8_call_6 9 rfl rfl
theorem dksX8_call_8 : cX8_call.data.toList.drop 224 = dktX8_call_8 := dk_seg dksX8_call_7 43 rfl rfl
theorem dksX8_call_9 : cX8_call.data.toList.drop 247 = dktX8_call_9 := dk_seg dksX8_call_8 23 rfl rfl
theorem dksX8_call_10 : cX8_call.data.toList.drop 270 = dktX8_call_10 := dk_seg dksX8_call_9 23 rfl rfl
theorem dksX8_call_11 : cX8_call.data.toList.drop 292 = dktX8_call_11 := dk_seg dksX8_call_10 22 rfl rfl
theorem dksX8_call_12 : cX8_call.data.toList.drop 316 = dktX8_call_12 := dk_seg dksX8_call_11 24 rfl rfl
theorem dksX8_call_13 : cX8_call.data.toList.drop 340 = dktX8_call_13 := dk_seg dksX8_call_12 24 rfl rfl
theorem dX8_call_0 : decode cX8_call 0 = .ok (.aload_n 1, 1) := dk_43 (dk_at dksX8_call_0 0 rfl rfl)
theorem dX8_call_1 : decode cX8_call 1 = .ok (.astore_n 3, 1) := dk_78 (dk_at dksX8_call_0 1 rfl rfl)
theorem dX8_call_2 : decode cX8_call 2 = .ok (.iconst (-1), 1) := dk_2 (dk_at dksX8_call_0 2 rfl rfl)
theorem dX8_call_3 : decode cX8_call 3 = .ok (.istore 4, 2) := dk_54 4 (dk_at dksX8_call_0 3 rfl rfl)
theorem dX8_call_5 : decode cX8_call 5 = .ok (.aload_n 3, 1) := dk_45 (dk_at dksX8_call_0 5 rfl rfl)
theorem dX8_call_6 : decode cX8_call 6 = .ok (.invokevirtual 84, 3) := dk_182 0 84 (dk_at dksX8_call_0 6 rfl rfl)
theorem dX8_call_9 : decode cX8_call 9 = .ok (.lookupswitch 170 #[(97926, 157), (3059460, 82), (3292052, 127), (3512060, 67), (94742588, 112), (109250890, 97), (113012092, 142)], 67) := by decide +kernel
theorem dX8_call_76 : decode cX8_call 76 = .ok (.aload_n 3, 1) := dk_45 (dk_at dksX8_call_2 0 rfl rfl)
theorem dX8_call_77 : decode cX8_call 77 = .ok (.ldc 89, 2) := dk_18 89 (dk_at dksX8_call_2 1 rfl rfl)
theorem dX8_call_79 : decode cX8_call 79 = .ok (.invokevirtual 91, 3) := dk_182 0 91 (dk_at dksX8_call_2 3 rfl rfl)
theorem dX8_call_82 : decode cX8_call 82 = .ok (.ifCond .eq 97, 3) := dk_153 0 97 (dk_at dksX8_call_2 6 rfl rfl)
theorem dX8_call_85 : decode cX8_call 85 = .ok (.iconst 0, 1) := dk_3 (dk_at dksX8_call_2 9 rfl rfl)
theorem dX8_call_86 : decode cX8_call 86 = .ok (.istore 4, 2) := dk_54 4 (dk_at dksX8_call_2 10 rfl rfl)
theorem dX8_call_88 : decode cX8_call 88 = .ok (.goto 91, 3) := dk_167 0 91 (dk_at dksX8_call_2 12 rfl rfl)
theorem dX8_call_91 : decode cX8_call 91 = .ok (.aload_n 3, 1) := dk_45 (dk_at dksX8_call_2 15 rfl rfl)
theorem dX8_call_92 : decode cX8_call 92 = .ok (.ldc 95, 2) := dk_18 95 (dk_at dksX8_call_2 16 rfl rfl)
theorem dX8_call_94 : decode cX8_call 94 = .ok (.invokevirtual 91, 3) := dk_182 0 91 (dk_at dksX8_call_2 18 rfl rfl)
theorem dX8_call_97 : decode cX8_call 97 = .ok (.ifCond .eq 82, 3) := dk_153 0 82 (dk_at dksX8_call_2 21 rfl rfl)
theorem dX8_call_100 : decode cX8_call 100 = .ok (.iconst 1, 1) := dk_4 (dk_at dksX8_call_3 0 rfl rfl)
theorem dX8_call_101 : decode cX8_call 101 = .ok (.istore 4, 2) := dk_54 4 (dk_at dksX8_call_3 1 rfl rfl)
theorem dX8_call_103 : decode cX8_call 103 = .ok (.goto 76, 3) := dk_167 0 76 (dk_at dksX8_call_3 3 rfl rfl)
theorem dX8_call_106 : decode cX8_call 106 = .ok (.aload_n 3, 1) := dk_45 (dk_at dksX8_call_3 6 rfl rfl)
theorem dX8_call_107 : decode cX8_call 107 = .ok (.ldc 97, 2) := dk_18 97 (dk_at dksX8_call_3 7 rfl rfl)
theorem dX8_call_109 : decode cX8_call 109 = .ok (.invokevirtual 91, 3) := dk_182 0 91 (dk_at dksX8_call_3 9 rfl rfl)
theorem dX8_call_112 : decode cX8_call 112 = .ok (.ifCond .eq 67, 3) := dk_153 0 67 (dk_at dksX8_call_3 12 rfl rfl)
theorem dX8_call_115 : decode cX8_call 115 = .ok (.iconst 2, 1) := dk_5 (dk_at dksX8_call_3 15 rfl rfl)
theorem dX8_call_116 : decode cX8_call 116 = .ok (.istore 4, 2) := dk_54 4 (dk_at dksX8_call_3 16 rfl rfl)
theorem dX8_call_118 : decode cX8_call 118 = .ok (.goto 61, 3) := dk_167 0 61 (dk_at dksX8_call_3 18 rfl rfl)
theorem dX8_call_121 : decode cX8_call 121 = .ok (.aload_n 3, 1) := dk_45 (dk_at dksX8_call_3 21 rfl rfl)
theorem dX8_call_122 : decode cX8_call 122 = .ok (.ldc 99, 2) := dk_18 99 (dk_at dksX8_call_3 22 rfl rfl)
theorem dX8_call_124 : decode cX8_call 124 = .ok (.invokevirtual 91, 3) := dk_182 0 91 (dk_at dksX8_call_4 0 rfl rfl)
theorem dX8_call_127 : decode cX8_call 127 = .ok (.ifCond .eq 52, 3) := dk_153 0 52 (dk_at dksX8_call_4 3 rfl rfl)
theorem dX8_call_130 : decode cX8_call 130 = .ok (.iconst 3, 1) := dk_6 (dk_at dksX8_call_4 6 rfl rfl)
theorem dX8_call_131 : decode cX8_call 131 = .ok (.istore 4, 2) := dk_54 4 (dk_at dksX8_call_4 7 rfl rfl)
theorem dX8_call_133 : decode cX8_call 133 = .ok (.goto 46, 3) := dk_167 0 46 (dk_at dksX8_call_4 9 rfl rfl)
theorem dX8_call_136 : decode cX8_call 136 = .ok (.aload_n 3, 1) := dk_45 (dk_at dksX8_call_4 12 rfl rfl)
theorem dX8_call_137 : decode cX8_call 137 = .ok (.ldc 101, 2) := dk_18 101 (dk_at dksX8_call_4 13 rfl rfl)
theorem dX8_call_139 : decode cX8_call 139 = .ok (.invokevirtual 91, 3) := dk_182 0 91 (dk_at dksX8_call_4 15 rfl rfl)
theorem dX8_call_142 : decode cX8_call 142 = .ok (.ifCond .eq 37, 3) := dk_153 0 37 (dk_at dksX8_call_4 18 rfl rfl)
theorem dX8_call_145 : decode cX8_call 145 = .ok (.iconst 4, 1) := dk_7 (dk_at dksX8_call_4 21 rfl rfl)
theorem dX8_call_146 : decode cX8_call 146 = .ok (.istore 4, 2) := dk_54 4 (dk_at dksX8_call_4 22 rfl rfl)
theorem dX8_call_148 : decode cX8_call 148 = .ok (.goto 31, 3) := dk_167 0 31 (dk_at dksX8_call_5 0 rfl rfl)
theorem dX8_call_151 : decode cX8_call 151 = .ok (.aload_n 3, 1) := dk_45 (dk_at dksX8_call_5 3 rfl rfl)
theorem dX8_call_152 : decode cX8_call 152 = .ok (.ldc 103, 2) := dk_18 103 (dk_at dksX8_call_5 4 rfl rfl)
theorem dX8_call_154 : decode cX8_call 154 = .ok (.invokevirtual 91, 3) := dk_182 0 91 (dk_at dksX8_call_5 6 rfl rfl)
theorem dX8_call_157 : decode cX8_call 157 = .ok (.ifCond .eq 22, 3) := dk_153 0 22 (dk_at dksX8_call_5 9 rfl rfl)
theorem dX8_call_160 : decode cX8_call 160 = .ok (.iconst 5, 1) := dk_8 (dk_at dksX8_call_5 12 rfl rfl)
theorem dX8_call_161 : decode cX8_call 161 = .ok (.istore 4, 2) := dk_54 4 (dk_at dksX8_call_5 13 rfl rfl)
theorem dX8_call_163 : decode cX8_call 163 = .ok (.goto 16, 3) := dk_167 0 16 (dk_at dksX8_call_5 15 rfl rfl)
theorem dX8_call_166 : decode cX8_call 166 = .ok (.aload_n 3, 1) := dk_45 (dk_at dksX8_call_5 18 rfl rfl)
theorem dX8_call_167 : decode cX8_call 167 = .ok (.ldc 105, 2) := dk_18 105 (dk_at dksX8_call_5 19 rfl rfl)
theorem dX8_call_169 : decode cX8_call 169 = .ok (.invokevirtual 91, 3) := dk_182 0 91 (dk_at dksX8_call_5 21 rfl rfl)
theorem dX8_call_172 : decode cX8_call 172 = .ok (.ifCond .eq 7, 3) := dk_153 0 7 (dk_at dksX8_call_6 0 rfl rfl)
theorem dX8_call_175 : decode cX8_call 175 = .ok (.bipush 6, 2) := dk_16 6 (dk_at dksX8_call_6 3 rfl rfl)
theorem dX8_call_177 : decode cX8_call 177 = .ok (.istore 4, 2) := dk_54 4 (dk_at dksX8_call_6 5 rfl rfl)
theorem dX8_call_179 : decode cX8_call 179 = .ok (.iload 4, 2) := dk_21 4 (dk_at dksX8_call_6 7 rfl rfl)
theorem dX8_call_181 : decode cX8_call 181 = .ok (.tableswitch 145 0 6 #[43, 54, 65, 79, 93, 110, 128], 43) := by decide +kernel
theorem dX8_call_224 : decode cX8_call 224 = .ok (.aload_n 0, 1) := dk_42 (dk_at dksX8_call_8 0 rfl rfl)
theorem dX8_call_225 : decode cX8_call 225 = .ok (.getfield 15, 3) := dk_180 0 15 (dk_at dksX8_call_8 1 rfl rfl)
theorem dX8_call_228 : decode cX8_call 228 = .ok (.aload_n 2, 1) := dk_44 (dk_at dksX8_call_8 4 rfl rfl)
theorem dX8_call_229 : decode cX8_call 229 = .ok (.iconst 0, 1) := dk_3 (dk_at dksX8_call_8 5 rfl rfl)
theorem dX8_call_230 : decode cX8_call 230 = .ok (.iaload, 1) := dk_46 (dk_at dksX8_call_8 6 rfl rfl)
theorem dX8_call_231 : decode cX8_call 231 = .ok (.invokevirtual 109, 3) := dk_182 0 109 (dk_at dksX8_call_8 7 rfl rfl)
theorem dX8_call_234 : decode cX8_call 234 = .ok (.ireturn, 1) := dk_172 (dk_at dksX8_call_8 10 rfl rfl)
theorem dX8_call_235 : decode cX8_call 235 = .ok (.aload_n 0, 1) := dk_42 (dk_at dksX8_call_8 11 rfl rfl)
theorem dX8_call_236 : decode cX8_call 236 = .ok (.getfield 15, 3) := dk_180 0 15 (dk_at dksX8_call_8 12 rfl rfl)
theorem dX8_call_239 : decode cX8_call 239 = .ok (.aload_n 2, 1) := dk_44 (dk_at dksX8_call_8 15 rfl rfl)
theorem dX8_call_240 : decode cX8_call 240 = .ok (.iconst 0, 1) := dk_3 (dk_at dksX8_call_8 16 rfl rfl)
theorem dX8_call_241 : decode cX8_call 241 = .ok (.iaload, 1) := dk_46 (dk_at dksX8_call_8 17 rfl rfl)
theorem dX8_call_242 : decode cX8_call 242 = .ok (.invokevirtual 115, 3) := dk_182 0 115 (dk_at dksX8_call_8 18 rfl rfl)
theorem dX8_call_245 : decode cX8_call 245 = .ok (.ireturn, 1) := dk_172 (dk_at dksX8_call_8 21 rfl rfl)
theorem dX8_call_246 : decode cX8_call 246 = .ok (.aload_n 0, 1) := dk_42 (dk_at dksX8_call_8 22 rfl rfl)
theorem dX8_call_247 : decode cX8_call 247 = .ok (.getfield 15, 3) := dk_180 0 15 (dk_at dksX8_call_9 0 rfl rfl)
theorem dX8_call_250 : decode cX8_call 250 = .ok (.aload_n 2, 1) := dk_44 (dk_at dksX8_call_9 3 rfl rfl)
theorem dX8_call_251 : decode cX8_call 251 = .ok (.iconst 0, 1) := dk_3 (dk_at dksX8_call_9 4 rfl rfl)
theorem dX8_call_252 : decode cX8_call 252 = .ok (.iaload, 1) := dk_46 (dk_at dksX8_call_9 5 rfl rfl)
theorem dX8_call_253 : decode cX8_call 253 = .ok (.aload_n 2, 1) := dk_44 (dk_at dksX8_call_9 6 rfl rfl)
theorem dX8_call_254 : decode cX8_call 254 = .ok (.iconst 1, 1) := dk_4 (dk_at dksX8_call_9 7 rfl rfl)
theorem dX8_call_255 : decode cX8_call 255 = .ok (.iaload, 1) := dk_46 (dk_at dksX8_call_9 8 rfl rfl)
theorem dX8_call_256 : decode cX8_call 256 = .ok (.invokevirtual 117, 3) := dk_182 0 117 (dk_at dksX8_call_9 9 rfl rfl)
theorem dX8_call_259 : decode cX8_call 259 = .ok (.ireturn, 1) := dk_172 (dk_at dksX8_call_9 12 rfl rfl)
theorem dX8_call_260 : decode cX8_call 260 = .ok (.aload_n 0, 1) := dk_42 (dk_at dksX8_call_9 13 rfl rfl)
theorem dX8_call_261 : decode cX8_call 261 = .ok (.getfield 15, 3) := dk_180 0 15 (dk_at dksX8_call_9 14 rfl rfl)
theorem dX8_call_264 : decode cX8_call 264 = .ok (.aload_n 2, 1) := dk_44 (dk_at dksX8_call_9 17 rfl rfl)
theorem dX8_call_265 : decode cX8_call 265 = .ok (.iconst 0, 1) := dk_3 (dk_at dksX8_call_9 18 rfl rfl)
theorem dX8_call_266 : decode cX8_call 266 = .ok (.iaload, 1) := dk_46 (dk_at dksX8_call_9 19 rfl rfl)
theorem dX8_call_267 : decode cX8_call 267 = .ok (.aload_n 2, 1) := dk_44 (dk_at dksX8_call_9 20 rfl rfl)
theorem dX8_call_268 : decode cX8_call 268 = .ok (.iconst 1, 1) := dk_4 (dk_at dksX8_call_9 21 rfl rfl)
theorem dX8_call_269 : decode cX8_call 269 = .ok (.iaload, 1) := dk_46 (dk_at dksX8_call_9 22 rfl rfl)
theorem dX8_call_270 : decode cX8_call 270 = .ok (.invokevirtual 120, 3) := dk_182 0 120 (dk_at dksX8_call_10 0 rfl rfl)
theorem dX8_call_273 : decode cX8_call 273 = .ok (.ireturn, 1) := dk_172 (dk_at dksX8_call_10 3 rfl rfl)
theorem dX8_call_274 : decode cX8_call 274 = .ok (.aload_n 0, 1) := dk_42 (dk_at dksX8_call_10 4 rfl rfl)
theorem dX8_call_275 : decode cX8_call 275 = .ok (.getfield 15, 3) := dk_180 0 15 (dk_at dksX8_call_10 5 rfl rfl)
theorem dX8_call_278 : decode cX8_call 278 = .ok (.aload_n 2, 1) := dk_44 (dk_at dksX8_call_10 8 rfl rfl)
theorem dX8_call_279 : decode cX8_call 279 = .ok (.iconst 0, 1) := dk_3 (dk_at dksX8_call_10 9 rfl rfl)
theorem dX8_call_280 : decode cX8_call 280 = .ok (.iaload, 1) := dk_46 (dk_at dksX8_call_10 10 rfl rfl)
theorem dX8_call_281 : decode cX8_call 281 = .ok (.aload_n 2, 1) := dk_44 (dk_at dksX8_call_10 11 rfl rfl)
theorem dX8_call_282 : decode cX8_call 282 = .ok (.iconst 1, 1) := dk_4 (dk_at dksX8_call_10 12 rfl rfl)
theorem dX8_call_283 : decode cX8_call 283 = .ok (.iaload, 1) := dk_46 (dk_at dksX8_call_10 13 rfl rfl)
theorem dX8_call_284 : decode cX8_call 284 = .ok (.aload_n 2, 1) := dk_44 (dk_at dksX8_call_10 14 rfl rfl)
theorem dX8_call_285 : decode cX8_call 285 = .ok (.iconst 2, 1) := dk_5 (dk_at dksX8_call_10 15 rfl rfl)
theorem dX8_call_286 : decode cX8_call 286 = .ok (.iaload, 1) := dk_46 (dk_at dksX8_call_10 16 rfl rfl)
theorem dX8_call_287 : decode cX8_call 287 = .ok (.invokevirtual 122, 3) := dk_182 0 122 (dk_at dksX8_call_10 17 rfl rfl)
theorem dX8_call_290 : decode cX8_call 290 = .ok (.ireturn, 1) := dk_172 (dk_at dksX8_call_10 20 rfl rfl)
theorem dX8_call_291 : decode cX8_call 291 = .ok (.aload_n 0, 1) := dk_42 (dk_at dksX8_call_10 21 rfl rfl)
theorem dX8_call_292 : decode cX8_call 292 = .ok (.getfield 15, 3) := dk_180 0 15 (dk_at dksX8_call_11 0 rfl rfl)
theorem dX8_call_295 : decode cX8_call 295 = .ok (.aload_n 2, 1) := dk_44 (dk_at dksX8_call_11 3 rfl rfl)
theorem dX8_call_296 : decode cX8_call 296 = .ok (.iconst 0, 1) := dk_3 (dk_at dksX8_call_11 4 rfl rfl)
theorem dX8_call_297 : decode cX8_call 297 = .ok (.iaload, 1) := dk_46 (dk_at dksX8_call_11 5 rfl rfl)
theorem dX8_call_298 : decode cX8_call 298 = .ok (.aload_n 2, 1) := dk_44 (dk_at dksX8_call_11 6 rfl rfl)
theorem dX8_call_299 : decode cX8_call 299 = .ok (.iconst 1, 1) := dk_4 (dk_at dksX8_call_11 7 rfl rfl)
theorem dX8_call_300 : decode cX8_call 300 = .ok (.iaload, 1) := dk_46 (dk_at dksX8_call_11 8 rfl rfl)
theorem dX8_call_301 : decode cX8_call 301 = .ok (.aload_n 2, 1) := dk_44 (dk_at dksX8_call_11 9 rfl rfl)
theorem dX8_call_302 : decode cX8_call 302 = .ok (.iconst 2, 1) := dk_5 (dk_at dksX8_call_11 10 rfl rfl)
theorem dX8_call_303 : decode cX8_call 303 = .ok (.iaload, 1) := dk_46 (dk_at dksX8_call_11 11 rfl rfl)
theorem dX8_call_304 : decode cX8_call 304 = .ok (.iconst 0, 1) := dk_3 (dk_at dksX8_call_11 12 rfl rfl)
theorem dX8_call_305 : decode cX8_call 305 = .ok (.invokevirtual 126, 3) := dk_182 0 126 (dk_at dksX8_call_11 13 rfl rfl)
theorem dX8_call_308 : decode cX8_call 308 = .ok (.ireturn, 1) := dk_172 (dk_at dksX8_call_11 16 rfl rfl)
theorem dX8_call_309 : decode cX8_call 309 = .ok (.aload_n 0, 1) := dk_42 (dk_at dksX8_call_11 17 rfl rfl)
theorem dX8_call_310 : decode cX8_call 310 = .ok (.getfield 15, 3) := dk_180 0 15 (dk_at dksX8_call_11 18 rfl rfl)
theorem dX8_call_313 : decode cX8_call 313 = .ok (.aload_n 2, 1) := dk_44 (dk_at dksX8_call_11 21 rfl rfl)
theorem dX8_call_314 : decode cX8_call 314 = .ok (.iconst 0, 1) := dk_3 (dk_at dksX8_call_11 22 rfl rfl)
theorem dX8_call_315 : decode cX8_call 315 = .ok (.iaload, 1) := dk_46 (dk_at dksX8_call_11 23 rfl rfl)
theorem dX8_call_316 : decode cX8_call 316 = .ok (.aload_n 2, 1) := dk_44 (dk_at dksX8_call_12 0 rfl rfl)
theorem dX8_call_317 : decode cX8_call 317 = .ok (.iconst 1, 1) := dk_4 (dk_at dksX8_call_12 1 rfl rfl)
theorem dX8_call_318 : decode cX8_call 318 = .ok (.iaload, 1) := dk_46 (dk_at dksX8_call_12 2 rfl rfl)
theorem dX8_call_319 : decode cX8_call 319 = .ok (.aload_n 2, 1) := dk_44 (dk_at dksX8_call_12 3 rfl rfl)
theorem dX8_call_320 : decode cX8_call 320 = .ok (.iconst 2, 1) := dk_5 (dk_at dksX8_call_12 4 rfl rfl)
theorem dX8_call_321 : decode cX8_call 321 = .ok (.iaload, 1) := dk_46 (dk_at dksX8_call_12 5 rfl rfl)
theorem dX8_call_322 : decode cX8_call 322 = .ok (.invokevirtual 129, 3) := dk_182 0 129 (dk_at dksX8_call_12 6 rfl rfl)
theorem dX8_call_325 : decode cX8_call 325 = .ok (.ireturn, 1) := dk_172 (dk_at dksX8_call_12 9 rfl rfl)
theorem dX8_call_326 : decode cX8_call 326 = .ok (.aload_n 0, 1) := dk_42 (dk_at dksX8_call_12 10 rfl rfl)
theorem dX8_call_327 : decode cX8_call 327 = .ok (.getfield 15, 3) := dk_180 0 15 (dk_at dksX8_call_12 11 rfl rfl)
theorem dX8_call_330 : decode cX8_call 330 = .ok (.aload_n 2, 1) := dk_44 (dk_at dksX8_call_12 14 rfl rfl)
theorem dX8_call_331 : decode cX8_call 331 = .ok (.iconst 0, 1) := dk_3 (dk_at dksX8_call_12 15 rfl rfl)
theorem dX8_call_332 : decode cX8_call 332 = .ok (.iaload, 1) := dk_46 (dk_at dksX8_call_12 16 rfl rfl)
theorem dX8_call_333 : decode cX8_call 333 = .ok (.aload_n 2, 1) := dk_44 (dk_at dksX8_call_12 17 rfl rfl)
theorem dX8_call_334 : decode cX8_call 334 = .ok (.iconst 1, 1) := dk_4 (dk_at dksX8_call_12 18 rfl rfl)
theorem dX8_call_335 : decode cX8_call 335 = .ok (.iaload, 1) := dk_46 (dk_at dksX8_call_12 19 rfl rfl)
theorem dX8_call_336 : decode cX8_call 336 = .ok (.aload_n 2, 1) := dk_44 (dk_at dksX8_call_12 20 rfl rfl)
theorem dX8_call_337 : decode cX8_call 337 = .ok (.iconst 2, 1) := dk_5 (dk_at dksX8_call_12 21 rfl rfl)
theorem dX8_call_338 : decode cX8_call 338 = .ok (.iaload, 1) := dk_46 (dk_at dksX8_call_12 22 rfl rfl)
theorem dX8_call_339 : decode cX8_call 339 = .ok (.aload_n 2, 1) := dk_44 (dk_at dksX8_call_12 23 rfl rfl)
theorem dX8_call_340 : decode cX8_call 340 = .ok (.iconst 3, 1) := dk_6 (dk_at dksX8_call_13 0 rfl rfl)
theorem dX8_call_341 : decode cX8_call 341 = .ok (.iaload, 1) := dk_46 (dk_at dksX8_call_13 1 rfl rfl)
theorem dX8_call_342 : decode cX8_call 342 = .ok (.aload_n 2, 1) := dk_44 (dk_at dksX8_call_13 2 rfl rfl)
theorem dX8_call_343 : decode cX8_call 343 = .ok (.iconst 4, 1) := dk_7 (dk_at dksX8_call_13 3 rfl rfl)
theorem dX8_call_344 : decode cX8_call 344 = .ok (.iaload, 1) := dk_46 (dk_at dksX8_call_13 4 rfl rfl)
theorem dX8_call_345 : decode cX8_call 345 = .ok (.invokevirtual 131, 3) := dk_182 0 131 (dk_at dksX8_call_13 5 rfl rfl)
theorem dX8_call_348 : decode cX8_call 348 = .ok (.ireturn, 1) := dk_172 (dk_at dksX8_call_13 8 rfl rfl)
theorem q84 : (Jvm.Cond.initialized "TicketScales$Program") ∈ lw_all := lw_g (lw_at lw_m1 25 rfl) rfl
theorem q247 : (Jvm.Cond.fieldLinkNest "TicketScales$Program" (23 : Nat) "TicketScales" "text" "Ljava/lang/StringBuilder;" "TicketScales") ∈ lw_tbl := lw_at lw_m1 188 rfl
theorem q250 : (Jvm.Cond.fieldLinkNest "TicketScales$Program" (173 : Nat) "TicketScales" "failure" "[I" "TicketScales") ∈ lw_tbl := lw_at lw_m1 191 rfl
theorem q413 : (Jvm.Cond.selects "TicketScales$Program" ({ cls := "java/lang/Object", name := "getClass", desc := "()Ljava/lang/Class;" } : Jvm.MethodName) ({ cls := "java/lang/Object", name := "getClass", desc := "()Ljava/lang/Class;" } : Jvm.MethodName)) ∈ lw_all := lw_g (lw_at lw_m2 114 rfl) rfl
theorem q1011 : (Jvm.Cond.instantiable "TicketScales$Program" (5 : Nat)) ∈ lw_all := lw_g (lw_at lw_m4 232 rfl) rfl
theorem q1013 : (Jvm.Cond.instanceMethod ({ cls := "TicketScales$Program", name := "<init>", desc := "(LTicketScales;LTicketScales$Counter;)V" } : Jvm.MethodName)) ∈ lw_all := lw_g (lw_at lw_m4 234 rfl) rfl
theorem q1014 : (Jvm.Cond.code ({ cls := "TicketScales$Program", name := "<init>", desc := "(LTicketScales;LTicketScales$Counter;)V" } : Jvm.MethodName) prog_14_method_1_code (3 : Nat) (Option.none : Option Jvm.ClassFile.FieldType)) ∈ lw_all := lw_g (lw_at lw_m4 235 rfl) rfl
theorem q1015 : (Jvm.Cond.methodLink "TicketScales$Program" (9 : Nat) ({ cls := "java/lang/Object", name := "<init>", desc := "()V" } : Jvm.MethodName)) ∈ lw_all := lw_g (lw_at lw_m4 236 rfl) rfl
theorem q1016 : (Jvm.Cond.fieldLink "TicketScales$Program" (15 : Nat) "TicketScales$Program" "counter" "LTicketScales$Counter;") ∈ lw_all := lw_g (lw_at lw_m4 237 rfl) rfl
theorem q1017 : (Jvm.Cond.fieldLink "TicketScales$Program" (19 : Nat) "TicketScales$Program" "position" "I") ∈ lw_all := lw_g (lw_at lw_m4 238 rfl) rfl
theorem q1018 : (Jvm.Cond.fieldLink "TicketScales$Program" (167 : Nat) "TicketScales$Program" "commands" "I") ∈ lw_all := lw_g (lw_at lw_m4 239 rfl) rfl
theorem q1020 : (Jvm.Cond.fieldLink "TicketScales$Program" (60 : Nat) "TicketScales$Program" "token" "LTicketScales$Slice;") ∈ lw_all := lw_g (lw_at lw_m5 1 rfl) rfl
theorem q1021 : (Jvm.Cond.fieldLink "TicketScales$Program" (3 : Nat) "TicketScales$Program" "this$0" "LTicketScales;") ∈ lw_all := lw_g (lw_at lw_m5 2 rfl) rfl
theorem q1022 : (Jvm.Cond.laysFinal "TicketScales$Program" "TicketScales$Program" "counter" "LTicketScales$Counter;") ∈ lw_all := lw_g (lw_at lw_m5 3 rfl) rfl
theorem q1023 : (Jvm.Cond.soleField "TicketScales$Program" "counter") ∈ lw_all := lw_g (lw_at lw_m5 4 rfl) rfl
theorem q1024 : (Jvm.Cond.lays "TicketScales$Program" "TicketScales$Program" "position" "I") ∈ lw_all := lw_g (lw_at lw_m5 5 rfl) rfl
theorem q1025 : (Jvm.Cond.soleField "TicketScales$Program" "position") ∈ lw_all := lw_g (lw_at lw_m5 6 rfl) rfl
theorem q1026 : (Jvm.Cond.lays "TicketScales$Program" "TicketScales$Program" "commands" "I") ∈ lw_all := lw_g (lw_at lw_m5 7 rfl) rfl
theorem q1027 : (Jvm.Cond.soleField "TicketScales$Program" "commands") ∈ lw_all := lw_g (lw_at lw_m5 8 rfl) rfl
theorem q1028 : (Jvm.Cond.lays "TicketScales$Program" "TicketScales$Program" "token" "LTicketScales$Slice;") ∈ lw_all := lw_g (lw_at lw_m5 9 rfl) rfl
theorem q1029 : (Jvm.Cond.soleField "TicketScales$Program" "token") ∈ lw_all := lw_g (lw_at lw_m5 10 rfl) rfl
theorem q1030 : (Jvm.Cond.laysFinal "TicketScales$Program" "TicketScales$Program" "this$0" "LTicketScales;") ∈ lw_all := lw_g (lw_at lw_m5 11 rfl) rfl
theorem q1031 : (Jvm.Cond.soleField "TicketScales$Program" "this$0") ∈ lw_all := lw_g (lw_at lw_m5 12 rfl) rfl
theorem q1032 : (Jvm.Cond.superclass "TicketScales$Program" "java/lang/Object") ∈ lw_all := lw_g (lw_at lw_m5 13 rfl) rfl
theorem q1034 : (Jvm.Cond.instanceMethod ({ cls := "TicketScales$Program", name := "run", desc := "()V" } : Jvm.MethodName)) ∈ lw_all := lw_g (lw_at lw_m5 15 rfl) rfl
theorem q1035 : (Jvm.Cond.selects "TicketScales$Program" ({ cls := "TicketScales$Program", name := "run", desc := "()V" } : Jvm.MethodName) ({ cls := "TicketScales$Program", name := "run", desc := "()V" } : Jvm.MethodName)) ∈ lw_all := lw_g (lw_at lw_m5 16 rfl) rfl
theorem q1036 : (Jvm.Cond.codeWith ({ cls := "TicketScales$Program", name := "run", desc := "()V" } : Jvm.MethodName) prog_14_method_11_code (2 : Nat) (Option.none : Option Jvm.ClassFile.FieldType) [((4 : Nat), (21 : Nat), (24 : Nat), (64 : Nat))]) ∈ lw_all := lw_g (lw_at lw_m5 17 rfl) rfl
theorem q1037 : (Jvm.Cond.classLink "TicketScales$Program" (64 : Nat) "TicketScales$FailureException") ∈ lw_all := lw_g (lw_at lw_m5 18 rfl) rfl
theorem q1038 : (Jvm.Cond.methodLink "TicketScales$Program" (72 : Nat) ({ cls := "TicketScales$Program", name := "advance", desc := "()V" } : Jvm.MethodName)) ∈ lw_all := lw_g (lw_at lw_m5 19 rfl) rfl
theorem q1039 : (Jvm.Cond.privateMethod ({ cls := "TicketScales$Program", name := "advance", desc := "()V" } : Jvm.MethodName)) ∈ lw_tbl := lw_at lw_m5 20 rfl
theorem q1040 : (Jvm.Cond.instanceMethod ({ cls := "TicketScales$Program", name := "advance", desc := "()V" } : Jvm.MethodName)) ∈ lw_all := lw_g (lw_at lw_m5 21 rfl) rfl
theorem q1041 : (Jvm.Cond.code ({ cls := "TicketScales$Program", name := "advance", desc := "()V" } : Jvm.MethodName) prog_14_method_4_code (2 : Nat) (Option.none : Option Jvm.ClassFile.FieldType)) ∈ lw_all := lw_g (lw_at lw_m5 22 rfl) rfl
theorem q1042 : (Jvm.Cond.methodLink "TicketScales$Program" (45 : Nat) ({ cls := "TicketScales$Program", name := "pass", desc := "(CC)V" } : Jvm.MethodName)) ∈ lw_all := lw_g (lw_at lw_m5 23 rfl) rfl
theorem q1043 : (Jvm.Cond.privateMethod ({ cls := "TicketScales$Program", name := "pass", desc := "(CC)V" } : Jvm.MethodName)) ∈ lw_tbl := lw_at lw_m5 24 rfl
theorem q1044 : (Jvm.Cond.instanceMethod ({ cls := "TicketScales$Program", name := "pass", desc := "(CC)V" } : Jvm.MethodName)) ∈ lw_all := lw_g (lw_at lw_m5 25 rfl) rfl
theorem q1045 : (Jvm.Cond.code ({ cls := "TicketScales$Program", name := "pass", desc := "(CC)V" } : Jvm.MethodName) prog_14_method_3_code (3 : Nat) (Option.none : Option Jvm.ClassFile.FieldType)) ∈ lw_all := lw_g (lw_at lw_m5 26 rfl) rfl
theorem q1046 : (Jvm.Cond.methodLink "TicketScales$Program" (41 : Nat) ({ cls := "TicketScales$Program", name := "isAt", desc := "(CC)Z" } : Jvm.MethodName)) ∈ lw_all := lw_g (lw_at lw_m5 27 rfl) rfl
theorem q1047 : (Jvm.Cond.privateMethod ({ cls := "TicketScales$Program", name := "isAt", desc := "(CC)Z" } : Jvm.MethodName)) ∈ lw_tbl := lw_at lw_m5 28 rfl
theorem q1048 : (Jvm.Cond.instanceMethod ({ cls := "TicketScales$Program", name := "isAt", desc := "(CC)Z" } : Jvm.MethodName)) ∈ lw_all := lw_g (lw_at lw_m5 29 rfl) rfl
theorem q1049 : (Jvm.Cond.code ({ cls := "TicketScales$Program", name := "isAt", desc := "(CC)Z" } : Jvm.MethodName) prog_14_method_2_code (3 : Nat) (Option.some Jvm.ClassFile.FieldType.boolean)) ∈ lw_all := lw_g (lw_at lw_m5 30 rfl) rfl
theorem q1050 : (Jvm.Cond.methodLink "TicketScales$Program" (27 : Nat) ({ cls := "java/lang/StringBuilder", name := "length", desc := "()I" } : Jvm.MethodName)) ∈ lw_all := lw_g (lw_at lw_m5 31 rfl) rfl
theorem q1051 : (Jvm.Cond.methodLink "TicketScales$Program" (33 : Nat) ({ cls := "java/lang/StringBuilder", name := "charAt", desc := "(I)C" } : Jvm.MethodName)) ∈ lw_all := lw_g (lw_at lw_m5 32 rfl) rfl
theorem q1063 : (Jvm.Cond.methodLinkNest "TicketScales$Program" (37 : Nat) ({ cls := "TicketScales", name := "isBetween", desc := "(III)Z" } : Jvm.MethodName) "TicketScales") ∈ lw_tbl := lw_at lw_m5 44 rfl
theorem q1064 : (Jvm.Cond.methodLink "TicketScales$Program" (49 : Nat) ({ cls := "java/lang/Math", name := "min", desc := "(II)I" } : Jvm.MethodName)) ∈ lw_all := lw_g (lw_at lw_m5 45 rfl) rfl
theorem q1065 : (Jvm.Cond.classLink "TicketScales$Program" (55 : Nat) "TicketScales$Slice") ∈ lw_all := lw_g (lw_at lw_m5 46 rfl) rfl
theorem q1067 : (Jvm.Cond.methodLink "TicketScales$Program" (57 : Nat) ({ cls := "TicketScales$Slice", name := "<init>", desc := "(Ljava/lang/CharSequence;II)V" } : Jvm.MethodName)) ∈ lw_all := lw_g (lw_at lw_m5 48 rfl) rfl
theorem q1073 : (Jvm.Cond.fieldLinkNest "TicketScales$Program" (66 : Nat) "TicketScales$Slice" "from" "I" "TicketScales") ∈ lw_tbl := lw_at lw_m5 54 rfl
theorem q1082 : (Jvm.Cond.methodLink "TicketScales$Program" (78 : Nat) ({ cls := "TicketScales$Slice", name := "length", desc := "()I" } : Jvm.MethodName)) ∈ lw_all := lw_g (lw_at lw_m5 63 rfl) rfl
theorem q1086 : (Jvm.Cond.methodLink "TicketScales$Program" (170 : Nat) ({ cls := "TicketScales$Program", name := "command", desc := "()V" } : Jvm.MethodName)) ∈ lw_all := lw_g (lw_at lw_m5 67 rfl) rfl
theorem q1087 : (Jvm.Cond.privateMethod ({ cls := "TicketScales$Program", name := "command", desc := "()V" } : Jvm.MethodName)) ∈ lw_tbl := lw_at lw_m5 68 rfl
theorem q1088 : (Jvm.Cond.instanceMethod ({ cls := "TicketScales$Program", name := "command", desc := "()V" } : Jvm.MethodName)) ∈ lw_all := lw_g (lw_at lw_m5 69 rfl) rfl
theorem q1089 : (Jvm.Cond.codeWith ({ cls := "TicketScales$Program", name := "command", desc := "()V" } : Jvm.MethodName) prog_14_method_10_code (6 : Nat) (Option.none : Option Jvm.ClassFile.FieldType) [((95 : Nat), (101 : Nat), (104 : Nat), (140 : Nat)), ((95 : Nat), (101 : Nat), (104 : Nat), (147 : Nat))]) ∈ lw_all := lw_g (lw_at lw_m5 70 rfl) rfl
theorem q1090 : (Jvm.Cond.classLink "TicketScales$Program" (140 : Nat) "TicketScales$ArgumentException") ∈ lw_all := lw_g (lw_at lw_m5 71 rfl) rfl
theorem q1091 : (Jvm.Cond.classLink "TicketScales$Program" (147 : Nat) "TicketScales$RefusalException") ∈ lw_all := lw_g (lw_at lw_m5 72 rfl) rfl
theorem q1092 : (Jvm.Cond.methodLink "TicketScales$Program" (152 : Nat) ({ cls := "TicketScales$Slice", name := "toString", desc := "()Ljava/lang/String;" } : Jvm.MethodName)) ∈ lw_all := lw_g (lw_at lw_m5 73 rfl) rfl
theorem q1186 : (Jvm.Cond.methodLink "TicketScales$Program" (156 : Nat) ({ cls := "TicketScales$Program", name := "numbersOf", desc := "(Ljava/lang/String;)I" } : Jvm.MethodName)) ∈ lw_all := lw_g (lw_at lw_m5 167 rfl) rfl
theorem q1187 : (Jvm.Cond.static ({ cls := "TicketScales$Program", name := "numbersOf", desc := "(Ljava/lang/String;)I" } : Jvm.MethodName)) ∈ lw_all := lw_g (lw_at lw_m5 168 rfl) rfl
theorem q1188 : (Jvm.Cond.code ({ cls := "TicketScales$Program", name := "numbersOf", desc := "(Ljava/lang/String;)I" } : Jvm.MethodName) prog_14_method_7_code (3 : Nat) (Option.some Jvm.ClassFile.FieldType.int)) ∈ lw_all := lw_g (lw_at lw_m5 169 rfl) rfl
theorem q1189 : (Jvm.Cond.methodLink "TicketScales$Program" (84 : Nat) ({ cls := "java/lang/String", name := "hashCode", desc := "()I" } : Jvm.MethodName)) ∈ lw_all := lw_g (lw_at lw_m5 170 rfl) rfl
theorem q1238 : (Jvm.Cond.stringRef "TicketScales$Program" (89 : Nat) "rule") ∈ lw_tbl := lw_at lw_m5 219 rfl
theorem q1239 : (Jvm.Cond.methodLink "TicketScales$Program" (91 : Nat) ({ cls := "java/lang/String", name := "equals", desc := "(Ljava/lang/Object;)Z" } : Jvm.MethodName)) ∈ lw_all := lw_g (lw_at lw_m5 220 rfl) rfl
theorem q1247 : (Jvm.Cond.stringRef "TicketScales$Program" (95 : Nat) "come") ∈ lw_tbl := lw_at lw_m5 228 rfl
theorem q1248 : (Jvm.Cond.stringRef "TicketScales$Program" (97 : Nat) "scale") ∈ lw_tbl := lw_at lw_m5 229 rfl
theorem q1249 : (Jvm.Cond.stringRef "TicketScales$Program" (99 : Nat) "claim") ∈ lw_tbl := lw_at lw_m5 230 rfl
theorem q1250 : (Jvm.Cond.stringRef "TicketScales$Program" (101 : Nat) "kind") ∈ lw_tbl := lw_at lw_m5 231 rfl
theorem q1251 : (Jvm.Cond.stringRef "TicketScales$Program" (103 : Nat) "weigh") ∈ lw_tbl := lw_at lw_m5 232 rfl
theorem q1252 : (Jvm.Cond.stringRef "TicketScales$Program" (105 : Nat) "buy") ∈ lw_tbl := lw_at lw_m5 233 rfl
theorem q1253 : (Jvm.Cond.stringRef "TicketScales$Program" (107 : Nat) "prize") ∈ lw_tbl := lw_at lw_m5 234 rfl
theorem q1254 : (Jvm.Cond.methodLink "TicketScales$Program" (80 : Nat) ({ cls := "TicketScales$Program", name := "take", desc := "(Z)V" } : Jvm.MethodName)) ∈ lw_all := lw_g (lw_at lw_m5 235 rfl) rfl
theorem q1255 : (Jvm.Cond.privateMethod ({ cls := "TicketScales$Program", name := "take", desc := "(Z)V" } : Jvm.MethodName)) ∈ lw_tbl := lw_at lw_m5 236 rfl
theorem q1256 : (Jvm.Cond.instanceMethod ({ cls := "TicketScales$Program", name := "take", desc := "(Z)V" } : Jvm.MethodName)) ∈ lw_all := lw_g (lw_at lw_m5 237 rfl) rfl
theorem q1257 : (Jvm.Cond.code ({ cls := "TicketScales$Program", name := "take", desc := "(Z)V" } : Jvm.MethodName) prog_14_method_5_code (2 : Nat) (Option.none : Option Jvm.ClassFile.FieldType)) ∈ lw_all := lw_g (lw_at lw_m5 238 rfl) rfl
theorem q1296 : (Jvm.Cond.methodLink "TicketScales$Program" (69 : Nat) ({ cls := "TicketScales$FailureException", name := "<init>", desc := "(ILTicketScales$CallException;)V" } : Jvm.MethodName)) ∈ lw_all := lw_g (lw_at lw_m6 37 rfl) rfl
theorem q1306 : (Jvm.Cond.fieldLinkNest "TicketScales$Program" (179 : Nat) "TicketScales$FailureException" "place" "I" "TicketScales") ∈ lw_tbl := lw_at lw_m6 47 rfl
theorem q1323 : (Jvm.Cond.methodLink "TicketScales$Program" (160 : Nat) ({ cls := "TicketScales$Program", name := "number", desc := "()I" } : Jvm.MethodName)) ∈ lw_all := lw_g (lw_at lw_m6 64 rfl) rfl
theorem q1324 : (Jvm.Cond.privateMethod ({ cls := "TicketScales$Program", name := "number", desc := "()I" } : Jvm.MethodName)) ∈ lw_tbl := lw_at lw_m6 65 rfl
theorem q1325 : (Jvm.Cond.instanceMethod ({ cls := "TicketScales$Program", name := "number", desc := "()I" } : Jvm.MethodName)) ∈ lw_all := lw_g (lw_at lw_m6 66 rfl) rfl
theorem q1326 : (Jvm.Cond.code ({ cls := "TicketScales$Program", name := "number", desc := "()I" } : Jvm.MethodName) prog_14_method_6_code (4 : Nat) (Option.some Jvm.ClassFile.FieldType.int)) ∈ lw_all := lw_g (lw_at lw_m6 67 rfl) rfl
theorem q1327 : (Jvm.Cond.methodLink "TicketScales$Program" (75 : Nat) ({ cls := "TicketScales$Slice", name := "begins", desc := "(CC)Z" } : Jvm.MethodName)) ∈ lw_all := lw_g (lw_at lw_m6 68 rfl) rfl
theorem q1332 : (Jvm.Cond.methodLink "TicketScales$Program" (79 : Nat) ({ cls := "TicketScales$Slice", name := "charAt", desc := "(I)C" } : Jvm.MethodName)) ∈ lw_all := lw_g (lw_at lw_m6 73 rfl) rfl
theorem q1333 : (Jvm.Cond.methodLink "TicketScales$Program" (163 : Nat) ({ cls := "TicketScales$Program", name := "make", desc := "(Ljava/lang/String;[I)V" } : Jvm.MethodName)) ∈ lw_all := lw_g (lw_at lw_m6 74 rfl) rfl
theorem q1334 : (Jvm.Cond.privateMethod ({ cls := "TicketScales$Program", name := "make", desc := "(Ljava/lang/String;[I)V" } : Jvm.MethodName)) ∈ lw_tbl := lw_at lw_m6 75 rfl
theorem q1335 : (Jvm.Cond.instanceMethod ({ cls := "TicketScales$Program", name := "make", desc := "(Ljava/lang/String;[I)V" } : Jvm.MethodName)) ∈ lw_all := lw_g (lw_at lw_m6 76 rfl) rfl
theorem q1336 : (Jvm.Cond.code ({ cls := "TicketScales$Program", name := "make", desc := "(Ljava/lang/String;[I)V" } : Jvm.MethodName) prog_14_method_9_code (4 : Nat) (Option.none : Option Jvm.ClassFile.FieldType)) ∈ lw_all := lw_g (lw_at lw_m6 77 rfl) rfl
theorem q1337 : (Jvm.Cond.methodLink "TicketScales$Program" (135 : Nat) ({ cls := "TicketScales$Program", name := "call", desc := "(Ljava/lang/String;[I)I" } : Jvm.MethodName)) ∈ lw_all := lw_g (lw_at lw_m6 78 rfl) rfl
theorem q1338 : (Jvm.Cond.privateMethod ({ cls := "TicketScales$Program", name := "call", desc := "(Ljava/lang/String;[I)I" } : Jvm.MethodName)) ∈ lw_tbl := lw_at lw_m6 79 rfl
theorem q1339 : (Jvm.Cond.instanceMethod ({ cls := "TicketScales$Program", name := "call", desc := "(Ljava/lang/String;[I)I" } : Jvm.MethodName)) ∈ lw_all := lw_g (lw_at lw_m6 80 rfl) rfl
theorem q1340 : (Jvm.Cond.code ({ cls := "TicketScales$Program", name := "call", desc := "(Ljava/lang/String;[I)I" } : Jvm.MethodName) prog_14_method_8_code (5 : Nat) (Option.some Jvm.ClassFile.FieldType.int)) ∈ lw_all := lw_g (lw_at lw_m6 81 rfl) rfl
theorem q1341 : (Jvm.Cond.methodLink "TicketScales$Program" (109 : Nat) ({ cls := "TicketScales$Counter", name := "setRule", desc := "(I)I" } : Jvm.MethodName)) ∈ lw_all := lw_g (lw_at lw_m6 82 rfl) rfl
theorem q1342 : (Jvm.Cond.methodLink "TicketScales$Program" (115 : Nat) ({ cls := "TicketScales$Counter", name := "come", desc := "(I)I" } : Jvm.MethodName)) ∈ lw_all := lw_g (lw_at lw_m6 83 rfl) rfl
theorem q1343 : (Jvm.Cond.methodLink "TicketScales$Program" (117 : Nat) ({ cls := "TicketScales$Counter", name := "setScale", desc := "(II)I" } : Jvm.MethodName)) ∈ lw_all := lw_g (lw_at lw_m6 84 rfl) rfl
theorem q1344 : (Jvm.Cond.methodLink "TicketScales$Program" (120 : Nat) ({ cls := "TicketScales$Counter", name := "claim", desc := "(II)I" } : Jvm.MethodName)) ∈ lw_all := lw_g (lw_at lw_m6 85 rfl) rfl
theorem q1345 : (Jvm.Cond.methodLink "TicketScales$Program" (122 : Nat) ({ cls := "TicketScales$Counter", name := "setKind", desc := "(III)I" } : Jvm.MethodName)) ∈ lw_all := lw_g (lw_at lw_m6 86 rfl) rfl
theorem q1346 : (Jvm.Cond.methodLink "TicketScales$Program" (126 : Nat) ({ cls := "TicketScales$Counter", name := "weigh", desc := "(IIII)I" } : Jvm.MethodName)) ∈ lw_all := lw_g (lw_at lw_m6 87 rfl) rfl
theorem q1347 : (Jvm.Cond.methodLink "TicketScales$Program" (129 : Nat) ({ cls := "TicketScales$Counter", name := "buy", desc := "(III)I" } : Jvm.MethodName)) ∈ lw_all := lw_g (lw_at lw_m6 88 rfl) rfl
theorem q1348 : (Jvm.Cond.methodLink "TicketScales$Program" (131 : Nat) ({ cls := "TicketScales$Counter", name := "addPrize", desc := "(IIIII)I" } : Jvm.MethodName)) ∈ lw_all := lw_g (lw_at lw_m6 89 rfl) rfl
theorem q1349 : (Jvm.Cond.constant "TicketScales$Program" (139 : Nat) (-100001 : Int32)) ∈ lw_all := lw_g (lw_at lw_m6 90 rfl) rfl
theorem q1358 : (Jvm.Cond.methodLink "TicketScales$Program" (142 : Nat) ({ cls := "TicketScales$ArgumentException", name := "<init>", desc := "()V" } : Jvm.MethodName)) ∈ lw_all := lw_g (lw_at lw_m6 99 rfl) rfl
theorem q1378 : (Jvm.Cond.methodLinkNest "TicketScales$Program" (143 : Nat) ({ cls := "TicketScales", name := "isError", desc := "(I)Z" } : Jvm.MethodName) "TicketScales") ∈ lw_tbl := lw_at lw_m6 119 rfl
theorem q1387 : (Jvm.Cond.methodLink "TicketScales$Program" (149 : Nat) ({ cls := "TicketScales$RefusalException", name := "<init>", desc := "(I)V" } : Jvm.MethodName)) ∈ lw_all := lw_g (lw_at lw_m6 128 rfl) rfl
theorem q1394 : (Jvm.Cond.methodLink "TicketScales$Program" (177 : Nat) ({ cls := "TicketScales$FailureException", name := "kind", desc := "()I" } : Jvm.MethodName)) ∈ lw_all := lw_g (lw_at lw_m6 135 rfl) rfl
theorem q1414 : (Jvm.Cond.methodLink "TicketScales$Program" (182 : Nat) ({ cls := "TicketScales$FailureException", name := "depth", desc := "()I" } : Jvm.MethodName)) ∈ lw_all := lw_g (lw_at lw_m6 155 rfl) rfl
theorem q1419 : (Jvm.Cond.methodLink "TicketScales$Program" (185 : Nat) ({ cls := "TicketScales$FailureException", name := "code", desc := "()I" } : Jvm.MethodName)) ∈ lw_all := lw_g (lw_at lw_m6 160 rfl) rfl
theorem q1958 : (Jvm.Cond.castable "TicketScales$Program" "java/lang/Object") ∈ lw_tbl := lw_at lw_m8 219 rfl
theorem in_X8 : ∀ w ∈ wsX80, w ∈ lw_all := lw_in wsX80 [1022, 1024, 1026, 1028, 1030] (by decide +kernel) (by decide +kernel)
