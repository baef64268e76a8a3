/-! PittanceHouse -/
set_option maxRecDepth 100000
def RX0 : String := "PittanceHouse"
def TX0 : u_T := fun k => match k with
  | 0 => ("PittanceHouse", "house", "LPittanceHouse$House;", false)
  | 1 => ("PittanceHouse", "saved", "LPittanceHouse$House;", false)
  | 2 => ("PittanceHouse", "past", "Ljava/util/ArrayDeque;", true)
  | 3 => ("PittanceHouse", "reason", "I", false)
  | 4 => ("PittanceHouse", "detail", "I", false)
  | 5 => ("PittanceHouse", "aheads", "[LPittanceHouse$Ahead;", true)
  | 6 => ("PittanceHouse", "text", "Ljava/lang/StringBuilder;", true)
  | _ => ("PittanceHouse", "line", "Ljava/lang/String;", false)
def tyX0 : Nat → FieldType := fun k => match k with
  | 0 => .object "PittanceHouse$House"
  | 1 => .object "PittanceHouse$House"
  | 2 => .object "java/util/ArrayDeque"
  | 3 => .int
  | 4 => .int
  | 5 => .array (.object "PittanceHouse$Ahead")
  | 6 => .object "java/lang/StringBuilder"
  | _ => .object "java/lang/String"
abbrev wsX00 : List Cond := u_ws RX0 TX0 8
theorem nmX0 : ∀ a, a < 8 → ∀ b, b < 8 → a ≠ b → (TX0 a).2.1 ≠ (TX0 b).2.1 := by decide +kernel
theorem tyX0_ok : ∀ k, k < 8 → parseFieldDescriptor (TX0 k).2.2.1 = some (tyX0 k) := by decide +kernel
abbrev cX0_init : ByteArray := prog_1_method_1_code
def yX0_init : MethodName := ⟨RX0, "<init>", "()V"⟩
def dkwX0_init_3 : List UInt8 := [27, 186, 0, 46, 0, 0, 83, 177]
abbrev dktX0_init_3 : List UInt8 := dkwX0_init_3 ++ []
def dkwX0_init_2 : List UInt8 := [18, 36, 181, 0, 38, 4, 60, 42, 180, 0, 25, 3, 27, 186, 0, 42, 0, 0, 83, 42, 180, 0, 25, 4]
abbrev dktX0_init_2 : List UInt8 := dkwX0_init_2 ++ dktX0_init_3
def dkwX0_init_1 : List UInt8 := [181, 0, 19, 42, 5, 189, 0, 23, 181, 0, 25, 42, 187, 0, 29, 89, 183, 0, 31, 181, 0, 32, 42]
abbrev dktX0_init_1 : List UInt8 := dkwX0_init_1 ++ dktX0_init_2
def dkwX0_init_0 : List UInt8 := [42, 183, 0, 1, 42, 187, 0, 7, 89, 183, 0, 9, 181, 0, 10, 42, 187, 0, 16, 89, 183, 0, 18]
abbrev dktX0_init_0 : List UInt8 := dkwX0_init_0 ++ dktX0_init_1
theorem dksX0_init_0 : cX0_init.data.toList.drop 0 = dktX0_init_0 := by decide +kernel
theorem dksX0_init_1 : cX0_init.data.toList.drop 23 = dktX0_init_1 := dk_seg dksX0_init_0 23 rfl rfl
theorem dksX0_init_2 : cX0_init.data.toList.drop 46 = dktX0_init_2 := dk_seg dksX0_init_1 23 rfl rfl
theorem dksX0_init_3 : cX0_init.data.toList.drop 70 = dktX0_init_3 := dk_seg dksX0_init_2 24 rfl rfl
theorem dX0_init_0 : decode cX0_init 0 = .ok (.aload_n 0, 1) := dk_42 (dk_at dksX0_init_0 0 rfl rfl)
theorem dX0_init_1 : decode cX0_init 1 = .ok (.invokespecial 1, 3) := dk_183 0 1 (dk_at dksX0_init_0 1 rfl rfl)
theorem dX0_init_4 : decode cX0_init 4 = .ok (.aload_n 0, 1) := dk_42 (dk_at dksX0_init_0 4 rfl rfl)
theorem dX0_init_5 : decode cX0_init 5 = .ok (.new 7, 3) := dk_187 0 7 (dk_at dksX0_init_0 5 rfl rfl)
theorem dX0_init_8 : decode cX0_init 8 = .ok (.dup, 1) := dk_89 (dk_at dksX0_init_0 8 rfl rfl)
theorem dX0_init_9 : decode cX0_init 9 = .ok (.invokespecial 9, 3) := dk_183 0 9 (dk_at dksX0_init_0 9 rfl rfl)
theorem dX0_init_12 : decode cX0_init 12 = .ok (.putfield 10, 3) := dk_181 0 10 (dk_at dksX0_init_0 12 rfl rfl)
theorem dX0_init_15 : decode cX0_init 15 = .ok (.aload_n 0, 1) := dk_42 (dk_at dksX0_init_0 15 rfl rfl)
theorem dX0_init_16 : decode cX0_init 16 = .ok (.new 16, 3) := dk_187 0 16 (dk_at dksX0_init_0 16 rfl rfl)
theorem dX0_init_19 : decode cX0_init 19 = .ok (.dup, 1) := dk_89 (dk_at dksX0_init_0 19 rfl rfl)
theorem dX0_init_20 : decode cX0_init 20 = .ok (.invokespecial 18, 3) := dk_183 0 18 (dk_at dksX0_init_0 20 rfl rfl)
theorem dX0_init_23 : decode cX0_init 23 = .ok (.putfield 19, 3) := dk_181 0 19 (dk_at dksX0_init_1 0 rfl rfl)
theorem dX0_init_26 : decode cX0_init 26 = .ok (.aload_n 0, 1) := dk_42 (dk_at dksX0_init_1 3 rfl rfl)
theorem dX0_init_27 : decode cX0_init 27 = .ok (.iconst 2, 1) := dk_5 (dk_at dksX0_init_1 4 rfl rfl)
theorem dX0_init_28 : decode cX0_init 28 = .ok (.anewarray 23, 3) := dk_189 0 23 (dk_at dksX0_init_1 5 rfl rfl)
theorem dX0_init_31 : decode cX0_init 31 = .ok (.putfield 25, 3) := dk_181 0 25 (dk_at dksX0_init_1 8 rfl rfl)
theorem dX0_init_34 : decode cX0_init 34 = .ok (.aload_n 0, 1) := dk_42 (dk_at dksX0_init_1 11 rfl rfl)
theorem dX0_init_35 : decode cX0_init 35 = .ok (.new 29, 3) := dk_187 0 29 (dk_at dksX0_init_1 12 rfl rfl)
theorem dX0_init_38 : decode cX0_init 38 = .ok (.dup, 1) := dk_89 (dk_at dksX0_init_1 15 rfl rfl)
theorem dX0_init_39 : decode cX0_init 39 = .ok (.invokespecial 31, 3) := dk_183 0 31 (dk_at dksX0_init_1 16 rfl rfl)
theorem dX0_init_42 : decode cX0_init 42 = .ok (.putfield 32, 3) := dk_181 0 32 (dk_at dksX0_init_1 19 rfl rfl)
theorem dX0_init_45 : decode cX0_init 45 = .ok (.aload_n 0, 1) := dk_42 (dk_at dksX0_init_1 22 rfl rfl)
theorem dX0_init_46 : decode cX0_init 46 = .ok (.ldc 36, 2) := dk_18 36 (dk_at dksX0_init_2 0 rfl rfl)
theorem dX0_init_48 : decode cX0_init 48 = .ok (.putfield 38, 3) := dk_181 0 38 (dk_at dksX0_init_2 2 rfl rfl)
theorem dX0_init_51 : decode cX0_init 51 = .ok (.iconst 1, 1) := dk_4 (dk_at dksX0_init_2 5 rfl rfl)
theorem dX0_init_52 : decode cX0_init 52 = .ok (.istore_n 1, 1) := dk_60 (dk_at dksX0_init_2 6 rfl rfl)
theorem dX0_init_53 : decode cX0_init 53 = .ok (.aload_n 0, 1) := dk_42 (dk_at dksX0_init_2 7 rfl rfl)
theorem dX0_init_54 : decode cX0_init 54 = .ok (.getfield 25, 3) := dk_180 0 25 (dk_at dksX0_init_2 8 rfl rfl)
theorem dX0_init_57 : decode cX0_init 57 = .ok (.iconst 0, 1) := dk_3 (dk_at dksX0_init_2 11 rfl rfl)
theorem dX0_init_58 : decode cX0_init 58 = .ok (.iload_n 1, 1) := dk_27 (dk_at dksX0_init_2 12 rfl rfl)
theorem dX0_init_59 : decode cX0_init 59 = .ok (.invokedynamic 42, 5) := by decide +kernel
theorem dX0_init_64 : decode cX0_init 64 = .ok (.aastore, 1) := dk_83 (dk_at dksX0_init_2 18 rfl rfl)
theorem dX0_init_65 : decode cX0_init 65 = .ok (.aload_n 0, 1) := dk_42 (dk_at dksX0_init_2 19 rfl rfl)
theorem dX0_init_66 : decode cX0_init 66 = .ok (.getfield 25, 3) := dk_180 0 25 (dk_at dksX0_init_2 20 rfl rfl)
theorem dX0_init_69 : decode cX0_init 69 = .ok (.iconst 1, 1) := dk_4 (dk_at dksX0_init_2 23 rfl rfl)
theorem dX0_init_70 : decode cX0_init 70 = .ok (.iload_n 1, 1) := dk_27 (dk_at dksX0_init_3 0 rfl rfl)
theorem dX0_init_71 : decode cX0_init 71 = .ok (.invokedynamic 46, 5) := by decide +kernel
theorem dX0_init_76 : decode cX0_init 76 = .ok (.aastore, 1) := dk_83 (dk_at dksX0_init_3 6 rfl rfl)
theorem dX0_init_77 : decode cX0_init 77 = .ok (.return_, 1) := dk_177 (dk_at dksX0_init_3 7 rfl rfl)
abbrev cX0_lambda_new_0 : ByteArray := prog_1_method_51_code
def yX0_lambda_new_0 : MethodName := ⟨RX0, "lambda$new$0", "(III)Z"⟩
def dkwX0_lambda_new_0_0 : List UInt8 := [27, 28, 100, 26, 161, 0, 7, 4, 167, 0, 4, 3, 172]
abbrev dktX0_lambda_new_0_0 : List UInt8 := dkwX0_lambda_new_0_0 ++ []
theorem dksX0_lambda_new_0_0 : cX0_lambda_new_0.data.toList.drop 0 = dktX0_lambda_new_0_0 := by decide +kernel
theorem dX0_lambda_new_0_0 : decode cX0_lambda_new_0 0 = .ok (.iload_n 1, 1) := dk_27 (dk_at dksX0_lambda_new_0_0 0 rfl rfl)
theorem dX0_lambda_new_0_1 : decode cX0_lambda_new_0 1 = .ok (.iload_n 2, 1) := dk_28 (dk_at dksX0_lambda_new_0_0 1 rfl rfl)
theorem dX0_lambda_new_0_2 : decode cX0_lambda_new_0 2 = .ok (.isub, 1) := dk_100 (dk_at dksX0_lambda_new_0_0 2 rfl rfl)
theorem dX0_lambda_new_0_3 : decode cX0_lambda_new_0 3 = .ok (.iload_n 0, 1) := dk_26 (dk_at dksX0_lambda_new_0_0 3 rfl rfl)
theorem dX0_lambda_new_0_4 : decode cX0_lambda_new_0 4 = .ok (.if_icmp .lt 7, 3) := dk_161 0 7 (dk_at dksX0_lambda_new_0_0 4 rfl rfl)
theorem dX0_lambda_new_0_7 : decode cX0_lambda_new_0 7 = .ok (.iconst 1, 1) := dk_4 (dk_at dksX0_lambda_new_0_0 7 rfl rfl)
theorem dX0_lambda_new_0_8 : decode cX0_lambda_new_0 8 = .ok (.goto 4, 3) := dk_167 0 4 (dk_at dksX0_lambda_new_0_0 8 rfl rfl)
theorem dX0_lambda_new_0_11 : decode cX0_lambda_new_0 11 = .ok (.iconst 0, 1) := dk_3 (dk_at dksX0_lambda_new_0_0 11 rfl rfl)
theorem dX0_lambda_new_0_12 : decode cX0_lambda_new_0 12 = .ok (.ireturn, 1) := dk_172 (dk_at dksX0_lambda_new_0_0 12 rfl rfl)
abbrev cX0_lambda_new_1 : ByteArray := prog_1_method_50_code
def yX0_lambda_new_1 : MethodName := ⟨RX0, "lambda$new$1", "(III)Z"⟩
def dkwX0_lambda_new_1_0 : List UInt8 := [28, 27, 100, 26, 161, 0, 7, 4, 167, 0, 4, 3, 172]
abbrev dktX0_lambda_new_1_0 : List UInt8 := dkwX0_lambda_new_1_0 ++ []
theorem dksX0_lambda_new_1_0 : cX0_lambda_new_1.data.toList.drop 0 = dktX0_lambda_new_1_0 := by decide +kernel
theorem dX0_lambda_new_1_0 : decode cX0_lambda_new_1 0 = .ok (.iload_n 2, 1) := dk_28 (dk_at dksX0_lambda_new_1_0 0 rfl rfl)
theorem dX0_lambda_new_1_1 : decode cX0_lambda_new_1 1 = .ok (.iload_n 1, 1) := dk_27 (dk_at dksX0_lambda_new_1_0 1 rfl rfl)
theorem dX0_lambda_new_1_2 : decode cX0_lambda_new_1 2 = .ok (.isub, 1) := dk_100 (dk_at dksX0_lambda_new_1_0 2 rfl rfl)
theorem dX0_lambda_new_1_3 : decode cX0_lambda_new_1 3 = .ok (.iload_n 0, 1) := dk_26 (dk_at dksX0_lambda_new_1_0 3 rfl rfl)
theorem dX0_lambda_new_1_4 : decode cX0_lambda_new_1 4 = .ok (.if_icmp .lt 7, 3) := dk_161 0 7 (dk_at dksX0_lambda_new_1_0 4 rfl rfl)
theorem dX0_lambda_new_1_7 : decode cX0_lambda_new_1 7 = .ok (.iconst 1, 1) := dk_4 (dk_at dksX0_lambda_new_1_0 7 rfl rfl)
theorem dX0_lambda_new_1_8 : decode cX0_lambda_new_1 8 = .ok (.goto 4, 3) := dk_167 0 4 (dk_at dksX0_lambda_new_1_0 8 rfl rfl)
theorem dX0_lambda_new_1_11 : decode cX0_lambda_new_1 11 = .ok (.iconst 0, 1) := dk_3 (dk_at dksX0_lambda_new_1_0 11 rfl rfl)
theorem dX0_lambda_new_1_12 : decode cX0_lambda_new_1 12 = .ok (.ireturn, 1) := dk_172 (dk_at dksX0_lambda_new_1_0 12 rfl rfl)
abbrev cX0_come : ByteArray := prog_1_method_12_code
def yX0_come : MethodName := ⟨RX0, "come", "(IZ)I"⟩
def dkwX0_come_1 : List UInt8 := [42, 180, 0, 10, 27, 28, 182, 0, 113, 182, 0, 117, 172, 58, 4, 42, 25, 4, 182, 0, 121, 172]
abbrev dktX0_come_1 : List UInt8 := dkwX0_come_1 ++ []
def dkwX0_come_0 : List UInt8 := [27, 16, 50, 16, 90, 184, 0, 47, 154, 0, 6, 16, 244, 172, 42, 180, 0, 10, 182, 0, 109, 78, 42, 45]
abbrev dktX0_come_0 : List UInt8 := dkwX0_come_0 ++ dktX0_come_1
theorem dksX0_come_0 : cX0_come.data.toList.drop 0 = dktX0_come_0 := by decide +kernel
theorem dksX0_come_1 : cX0_come.data.toList.drop 24 = dktX0_come_1 := dk_seg dksX0_come_0 24 rfl rfl
theorem dX0_come_0 : decode cX0_come 0 = .ok (.iload_n 1, 1) := dk_27 (dk_at dksX0_come_0 0 rfl rfl)
theorem dX0_come_1 : decode cX0_come 1 = .ok (.bipush 50, 2) := dk_16 50 (dk_at dksX0_come_0 1 rfl rfl)
theorem dX0_come_3 : decode cX0_come 3 = .ok (.bipush 90, 2) := dk_16 90 (dk_at dksX0_come_0 3 rfl rfl)
theorem dX0_come_5 : decode cX0_come 5 = .ok (.invokestatic 47, 3) := dk_184 0 47 (dk_at dksX0_come_0 5 rfl rfl)
theorem dX0_come_8 : decode cX0_come 8 = .ok (.ifCond .ne 6, 3) := dk_154 0 6 (dk_at dksX0_come_0 8 rfl rfl)
theorem dX0_come_11 : decode cX0_come 11 = .ok (.bipush (-12), 2) := dk_16 244 (dk_at dksX0_come_0 11 rfl rfl)
theorem dX0_come_13 : decode cX0_come 13 = .ok (.ireturn, 1) := dk_172 (dk_at dksX0_come_0 13 rfl rfl)
theorem dX0_come_14 : decode cX0_come 14 = .ok (.aload_n 0, 1) := dk_42 (dk_at dksX0_come_0 14 rfl rfl)
theorem dX0_come_15 : decode cX0_come 15 = .ok (.getfield 10, 3) := dk_180 0 10 (dk_at dksX0_come_0 15 rfl rfl)
theorem dX0_come_18 : decode cX0_come 18 = .ok (.invokevirtual 109, 3) := dk_182 0 109 (dk_at dksX0_come_0 18 rfl rfl)
theorem dX0_come_21 : decode cX0_come 21 = .ok (.astore_n 3, 1) := dk_78 (dk_at dksX0_come_0 21 rfl rfl)
theorem dX0_come_22 : decode cX0_come 22 = .ok (.aload_n 0, 1) := dk_42 (dk_at dksX0_come_0 22 rfl rfl)
theorem dX0_come_23 : decode cX0_come 23 = .ok (.aload_n 3, 1) := dk_45 (dk_at dksX0_come_0 23 rfl rfl)
theorem dX0_come_24 : decode cX0_come 24 = .ok (.aload_n 0, 1) := dk_42 (dk_at dksX0_come_1 0 rfl rfl)
theorem dX0_come_25 : decode cX0_come 25 = .ok (.getfield 10, 3) := dk_180 0 10 (dk_at dksX0_come_1 1 rfl rfl)
theorem dX0_come_28 : decode cX0_come 28 = .ok (.iload_n 1, 1) := dk_27 (dk_at dksX0_come_1 4 rfl rfl)
theorem dX0_come_29 : decode cX0_come 29 = .ok (.iload_n 2, 1) := dk_28 (dk_at dksX0_come_1 5 rfl rfl)
theorem dX0_come_30 : decode cX0_come 30 = .ok (.invokevirtual 113, 3) := dk_182 0 113 (dk_at dksX0_come_1 6 rfl rfl)
theorem dX0_come_33 : decode cX0_come 33 = .ok (.invokevirtual 117, 3) := dk_182 0 117 (dk_at dksX0_come_1 9 rfl rfl)
theorem dX0_come_36 : decode cX0_come 36 = .ok (.ireturn, 1) := dk_172 (dk_at dksX0_come_1 12 rfl rfl)
theorem dX0_come_37 : decode cX0_come 37 = .ok (.astore 4, 2) := dk_58 4 (dk_at dksX0_come_1 13 rfl rfl)
theorem dX0_come_39 : decode cX0_come 39 = .ok (.aload_n 0, 1) := dk_42 (dk_at dksX0_come_1 15 rfl rfl)
theorem dX0_come_40 : decode cX0_come 40 = .ok (.aload 4, 2) := dk_25 4 (dk_at dksX0_come_1 16 rfl rfl)
theorem dX0_come_42 : decode cX0_come 42 = .ok (.invokevirtual 121, 3) := dk_182 0 121 (dk_at dksX0_come_1 18 rfl rfl)
theorem dX0_come_45 : decode cX0_come 45 = .ok (.ireturn, 1) := dk_172 (dk_at dksX0_come_1 21 rfl rfl)
abbrev cX0_isIn : ByteArray := prog_1_method_2_code
def yX0_isIn : MethodName := ⟨RX0, "isIn", "(III)Z"⟩
def dkwX0_isIn_0 : List UInt8 := [26, 27, 161, 0, 12, 26, 28, 163, 0, 7, 4, 167, 0, 4, 3, 172]
abbrev dktX0_isIn_0 : List UInt8 := dkwX0_isIn_0 ++ []
theorem dksX0_isIn_0 : cX0_isIn.data.toList.drop 0 = dktX0_isIn_0 := by decide +kernel
theorem dX0_isIn_0 : decode cX0_isIn 0 = .ok (.iload_n 0, 1) := dk_26 (dk_at dksX0_isIn_0 0 rfl rfl)
theorem dX0_isIn_1 : decode cX0_isIn 1 = .ok (.iload_n 1, 1) := dk_27 (dk_at dksX0_isIn_0 1 rfl rfl)
theorem dX0_isIn_2 : decode cX0_isIn 2 = .ok (.if_icmp .lt 12, 3) := dk_161 0 12 (dk_at dksX0_isIn_0 2 rfl rfl)
theorem dX0_isIn_5 : decode cX0_isIn 5 = .ok (.iload_n 0, 1) := dk_26 (dk_at dksX0_isIn_0 5 rfl rfl)
theorem dX0_isIn_6 : decode cX0_isIn 6 = .ok (.iload_n 2, 1) := dk_28 (dk_at dksX0_isIn_0 6 rfl rfl)
theorem dX0_isIn_7 : decode cX0_isIn 7 = .ok (.if_icmp .gt 7, 3) := dk_163 0 7 (dk_at dksX0_isIn_0 7 rfl rfl)
theorem dX0_isIn_10 : decode cX0_isIn 10 = .ok (.iconst 1, 1) := dk_4 (dk_at dksX0_isIn_0 10 rfl rfl)
theorem dX0_isIn_11 : decode cX0_isIn 11 = .ok (.goto 4, 3) := dk_167 0 4 (dk_at dksX0_isIn_0 11 rfl rfl)
theorem dX0_isIn_14 : decode cX0_isIn 14 = .ok (.iconst 0, 1) := dk_3 (dk_at dksX0_isIn_0 14 rfl rfl)
theorem dX0_isIn_15 : decode cX0_isIn 15 = .ok (.ireturn, 1) := dk_172 (dk_at dksX0_isIn_0 15 rfl rfl)
abbrev cX0_refuse : ByteArray := prog_1_method_8_code
def yX0_refuse : MethodName := ⟨RX0, "refuse", "(ZII)V"⟩
def dkwX0_refuse_0 : List UInt8 := [26, 153, 0, 13, 187, 0, 51, 89, 27, 28, 183, 0, 53, 191, 177]
abbrev dktX0_refuse_0 : List UInt8 := dkwX0_refuse_0 ++ []
theorem dksX0_refuse_0 : cX0_refuse.data.toList.drop 0 = dktX0_refuse_0 := by decide +kernel
theorem dX0_refuse_0 : decode cX0_refuse 0 = .ok (.iload_n 0, 1) := dk_26 (dk_at dksX0_refuse_0 0 rfl rfl)
theorem dX0_refuse_1 : decode cX0_refuse 1 = .ok (.ifCond .eq 13, 3) := dk_153 0 13 (dk_at dksX0_refuse_0 1 rfl rfl)
theorem dX0_refuse_4 : decode cX0_refuse 4 = .ok (.new 51, 3) := dk_187 0 51 (dk_at dksX0_refuse_0 4 rfl rfl)
theorem dX0_refuse_7 : decode cX0_refuse 7 = .ok (.dup, 1) := dk_89 (dk_at dksX0_refuse_0 7 rfl rfl)
theorem dX0_refuse_8 : decode cX0_refuse 8 = .ok (.iload_n 1, 1) := dk_27 (dk_at dksX0_refuse_0 8 rfl rfl)
theorem dX0_refuse_9 : decode cX0_refuse 9 = .ok (.iload_n 2, 1) := dk_28 (dk_at dksX0_refuse_0 9 rfl rfl)
theorem dX0_refuse_10 : decode cX0_refuse 10 = .ok (.invokespecial 53, 3) := dk_183 0 53 (dk_at dksX0_refuse_0 10 rfl rfl)
theorem dX0_refuse_13 : decode cX0_refuse 13 = .ok (.athrow, 1) := dk_191 (dk_at dksX0_refuse_0 13 rfl rfl)
theorem dX0_refuse_14 : decode cX0_refuse 14 = .ok (.return_, 1) := dk_177 (dk_at dksX0_refuse_0 14 rfl rfl)
abbrev cX0_changed : ByteArray := prog_1_method_11_code
def yX0_changed : MethodName := ⟨RX0, "changed", "(LPittanceHouse$House;I)I"⟩
def dkwX0_changed_1 : List UInt8 := [182, 0, 106, 87, 28, 172]
abbrev dktX0_changed_1 : List UInt8 := dkwX0_changed_1 ++ []
def dkwX0_changed_0 : List UInt8 := [42, 180, 0, 19, 43, 182, 0, 99, 42, 180, 0, 19, 182, 0, 103, 16, 8, 164, 0, 11, 42, 180, 0, 19]
abbrev dktX0_changed_0 : List UInt8 := dkwX0_changed_0 ++ dktX0_changed_1
theorem dksX0_changed_0 : cX0_changed.data.toList.drop 0 = dktX0_changed_0 := by decide +kernel
theorem dksX0_changed_1 : cX0_changed.data.toList.drop 24 = dktX0_changed_1 := dk_seg dksX0_changed_0 24 rfl rfl
theorem dX0_changed_0 : decode cX0_changed 0 = .ok (.aload_n 0, 1) := dk_42 (dk_at dksX0_changed_0 0 rfl rfl)
theorem dX0_changed_1 : decode cX0_changed 1 = .ok (.getfield 19, 3) := dk_180 0 19 (dk_at dksX0_changed_0 1 rfl rfl)
theorem dX0_changed_4 : decode cX0_changed 4 = .ok (.aload_n 1, 1) := dk_43 (dk_at dksX0_changed_0 4 rfl rfl)
theorem dX0_changed_5 : decode cX0_changed 5 = .ok (.invokevirtual 99, 3) := dk_182 0 99 (dk_at dksX0_changed_0 5 rfl rfl)
theorem dX0_changed_8 : decode cX0_changed 8 = .ok (.aload_n 0, 1) := dk_42 (dk_at dksX0_changed_0 8 rfl rfl)
theorem dX0_changed_9 : decode cX0_changed 9 = .ok (.getfield 19, 3) := dk_180 0 19 (dk_at dksX0_changed_0 9 rfl rfl)
theorem dX0_changed_12 : decode cX0_changed 12 = .ok (.invokevirtual 103, 3) := dk_182 0 103 (dk_at dksX0_changed_0 12 rfl rfl)
theorem dX0_changed_15 : decode cX0_changed 15 = .ok (.bipush 8, 2) := dk_16 8 (dk_at dksX0_changed_0 15 rfl rfl)
theorem dX0_changed_17 : decode cX0_changed 17 = .ok (.if_icmp .le 11, 3) := dk_164 0 11 (dk_at dksX0_changed_0 17 rfl rfl)
theorem dX0_changed_20 : decode cX0_changed 20 = .ok (.aload_n 0, 1) := dk_42 (dk_at dksX0_changed_0 20 rfl rfl)
theorem dX0_changed_21 : decode cX0_changed 21 = .ok (.getfield 19, 3) := dk_180 0 19 (dk_at dksX0_changed_0 21 rfl rfl)
theorem dX0_changed_24 : decode cX0_changed 24 = .ok (.invokevirtual 106, 3) := dk_182 0 106 (dk_at dksX0_changed_1 0 rfl rfl)
theorem dX0_changed_27 : decode cX0_changed 27 = .ok (.pop, 1) := dk_87 (dk_at dksX0_changed_1 3 rfl rfl)
theorem dX0_changed_28 : decode cX0_changed 28 = .ok (.iload_n 2, 1) := dk_28 (dk_at dksX0_changed_1 4 rfl rfl)
theorem dX0_changed_29 : decode cX0_changed 29 = .ok (.ireturn, 1) := dk_172 (dk_at dksX0_changed_1 5 rfl rfl)
abbrev cX0_refused : ByteArray := prog_1_method_9_code
def yX0_refused : MethodName := ⟨RX0, "refused", "(LPittanceHouse$Refused;)I"⟩
def dkwX0_refused_0 : List UInt8 := [42, 43, 180, 0, 56, 181, 0, 60, 42, 43, 180, 0, 61, 181, 0, 64, 16, 242, 172]
abbrev dktX0_refused_0 : List UInt8 := dkwX0_refused_0 ++ []
theorem dksX0_refused_0 : cX0_refused.data.toList.drop 0 = dktX0_refused_0 := by decide +kernel
theorem dX0_refused_0 : decode cX0_refused 0 = .ok (.aload_n 0, 1) := dk_42 (dk_at dksX0_refused_0 0 rfl rfl)
theorem dX0_refused_1 : decode cX0_refused 1 = .ok (.aload_n 1, 1) := dk_43 (dk_at dksX0_refused_0 1 rfl rfl)
theorem dX0_refused_2 : decode cX0_refused 2 = .ok (.getfield 56, 3) := dk_180 0 56 (dk_at dksX0_refused_0 2 rfl rfl)
theorem dX0_refused_5 : decode cX0_refused 5 = .ok (.putfield 60, 3) := dk_181 0 60 (dk_at dksX0_refused_0 5 rfl rfl)
theorem dX0_refused_8 : decode cX0_refused 8 = .ok (.aload_n 0, 1) := dk_42 (dk_at dksX0_refused_0 8 rfl rfl)
theorem dX0_refused_9 : decode cX0_refused 9 = .ok (.aload_n 1, 1) := dk_43 (dk_at dksX0_refused_0 9 rfl rfl)
theorem dX0_refused_10 : decode cX0_refused 10 = .ok (.getfield 61, 3) := dk_180 0 61 (dk_at dksX0_refused_0 10 rfl rfl)
theorem dX0_refused_13 : decode cX0_refused 13 = .ok (.putfield 64, 3) := dk_181 0 64 (dk_at dksX0_refused_0 13 rfl rfl)
theorem dX0_refused_16 : decode cX0_refused 16 = .ok (.bipush (-14), 2) := dk_16 242 (dk_at dksX0_refused_0 16 rfl rfl)
theorem dX0_refused_18 : decode cX0_refused 18 = .ok (.ireturn, 1) := dk_172 (dk_at dksX0_refused_0 18 rfl rfl)
abbrev cX0_withdraw : ByteArray := prog_1_method_13_code
def yX0_withdraw : MethodName := ⟨RX0, "withdraw", "(I)I"⟩
def dkwX0_withdraw_1 : List UInt8 := [42, 180, 0, 10, 27, 182, 0, 129, 182, 0, 117, 172, 78, 42, 45, 182, 0, 121, 172]
abbrev dktX0_withdraw_1 : List UInt8 := dkwX0_withdraw_1 ++ []
def dkwX0_withdraw_0 : List UInt8 := [42, 180, 0, 10, 27, 182, 0, 125, 154, 0, 6, 16, 245, 172, 42, 180, 0, 10, 182, 0, 109, 77, 42, 44]
abbrev dktX0_withdraw_0 : List UInt8 := dkwX0_withdraw_0 ++ dktX0_withdraw_1
theorem dksX0_withdraw_0 : cX0_withdraw.data.toList.drop 0 = dktX0_withdraw_0 := by decide +kernel
theorem dksX0_withdraw_1 : cX0_withdraw.data.toList.drop 24 = dktX0_withdraw_1 := dk_seg dksX0_withdraw_0 24 rfl rfl
theorem dX0_withdraw_0 : decode cX0_withdraw 0 = .ok (.aload_n 0, 1) := dk_42 (dk_at dksX0_withdraw_0 0 rfl rfl)
theorem dX0_withdraw_1 : decode cX0_withdraw 1 = .ok (.getfield 10, 3) := dk_180 0 10 (dk_at dksX0_withdraw_0 1 rfl rfl)
theorem dX0_withdraw_4 : decode cX0_withdraw 4 = .ok (.iload_n 1, 1) := dk_27 (dk_at dksX0_withdraw_0 4 rfl rfl)
theorem dX0_withdraw_5 : decode cX0_withdraw 5 = .ok (.invokevirtual 125, 3) := dk_182 0 125 (dk_at dksX0_withdraw_0 5 rfl rfl)
theorem dX0_withdraw_8 : decode cX0_withdraw 8 = .ok (.ifCond .ne 6, 3) := dk_154 0 6 (dk_at dksX0_withdraw_0 8 rfl rfl)
theorem dX0_withdraw_11 : decode cX0_withdraw 11 = .ok (.bipush (-11), 2) := dk_16 245 (dk_at dksX0_withdraw_0 11 rfl rfl)
theorem dX0_withdraw_13 : decode cX0_withdraw 13 = .ok (.ireturn, 1) := dk_172 (dk_at dksX0_withdraw_0 13 rfl rfl)
theorem dX0_withdraw_14 : decode cX0_withdraw 14 = .ok (.aload_n 0, 1) := dk_42 (dk_at dksX0_withdraw_0 14 rfl rfl)
theorem dX0_withdraw_15 : decode cX0_withdraw 15 = .ok (.getfield 10, 3) := dk_180 0 10 (dk_at dksX0_withdraw_0 15 rfl rfl)
theorem dX0_withdraw_18 : decode cX0_withdraw 18 = .ok (.invokevirtual 109, 3) := dk_182 0 109 (dk_at dksX0_withdraw_0 18 rfl rfl)
theorem dX0_withdraw_21 : decode cX0_withdraw 21 = .ok (.astore_n 2, 1) := dk_77 (dk_at dksX0_withdraw_0 21 rfl rfl)
theorem dX0_withdraw_22 : decode cX0_withdraw 22 = .ok (.aload_n 0, 1) := dk_42 (dk_at dksX0_withdraw_0 22 rfl rfl)
theorem dX0_withdraw_23 : decode cX0_withdraw 23 = .ok (.aload_n 2, 1) := dk_44 (dk_at dksX0_withdraw_0 23 rfl rfl)
theorem dX0_withdraw_24 : decode cX0_withdraw 24 = .ok (.aload_n 0, 1) := dk_42 (dk_at dksX0_withdraw_1 0 rfl rfl)
theorem dX0_withdraw_25 : decode cX0_withdraw 25 = .ok (.getfield 10, 3) := dk_180 0 10 (dk_at dksX0_withdraw_1 1 rfl rfl)
theorem dX0_withdraw_28 : decode cX0_withdraw 28 = .ok (.iload_n 1, 1) := dk_27 (dk_at dksX0_withdraw_1 4 rfl rfl)
theorem dX0_withdraw_29 : decode cX0_withdraw 29 = .ok (.invokevirtual 129, 3) := dk_182 0 129 (dk_at dksX0_withdraw_1 5 rfl rfl)
theorem dX0_withdraw_32 : decode cX0_withdraw 32 = .ok (.invokevirtual 117, 3) := dk_182 0 117 (dk_at dksX0_withdraw_1 8 rfl rfl)
theorem dX0_withdraw_35 : decode cX0_withdraw 35 = .ok (.ireturn, 1) := dk_172 (dk_at dksX0_withdraw_1 11 rfl rfl)
theorem dX0_withdraw_36 : decode cX0_withdraw 36 = .ok (.astore_n 3, 1) := dk_78 (dk_at dksX0_withdraw_1 12 rfl rfl)
theorem dX0_withdraw_37 : decode cX0_withdraw 37 = .ok (.aload_n 0, 1) := dk_42 (dk_at dksX0_withdraw_1 13 rfl rfl)
theorem dX0_withdraw_38 : decode cX0_withdraw 38 = .ok (.aload_n 3, 1) := dk_45 (dk_at dksX0_withdraw_1 14 rfl rfl)
theorem dX0_withdraw_39 : decode cX0_withdraw 39 = .ok (.invokevirtual 121, 3) := dk_182 0 121 (dk_at dksX0_withdraw_1 15 rfl rfl)
theorem dX0_withdraw_42 : decode cX0_withdraw 42 = .ok (.ireturn, 1) := dk_172 (dk_at dksX0_withdraw_1 18 rfl rfl)
abbrev cX0_voice : ByteArray := prog_1_method_14_code
def yX0_voice : MethodName := ⟨RX0, "voice", "(II)I"⟩
def dkwX0_voice_2 : List UInt8 := [58, 4, 42, 25, 4, 182, 0, 121, 172]
abbrev dktX0_voice_2 : List UInt8 := dkwX0_voice_2 ++ []
def dkwX0_voice_1 : List UInt8 := [172, 42, 180, 0, 10, 182, 0, 109, 78, 42, 45, 42, 180, 0, 10, 27, 28, 182, 0, 133, 182, 0, 117, 172]
abbrev dktX0_voice_1 : List UInt8 := dkwX0_voice_1 ++ dktX0_voice_2
def dkwX0_voice_0 : List UInt8 := [42, 180, 0, 10, 27, 182, 0, 125, 153, 0, 14, 42, 180, 0, 10, 28, 182, 0, 125, 154, 0, 6, 16, 245]
abbrev dktX0_voice_0 : List UInt8 := dkwX0_voice_0 ++ dktX0_voice_1
theorem dksX0_voice_0 : cX0_voice.data.toList.drop 0 = dktX0_voice_0 := by decide +kernel
theorem dksX0_voice_1 : cX0_voice.data.toList.drop 24 = dktX0_voice_1 := dk_seg dksX0_voice_0 24 rfl rfl
theorem dksX0_voice_2 : cX0_voice.data.toList.drop 48 = dktX0_voice_2 := dk_seg dksX0_voice_1 24 rfl rfl
theorem dX0_voice_0 : decode cX0_voice 0 = .ok (.aload_n 0, 1) := dk_42 (dk_at dksX0_voice_0 0 rfl rfl)
theorem dX0_voice_1 : decode cX0_voice 1 = .ok (.getfield 10, 3) := dk_180 0 10 (dk_at dksX0_voice_0 1 rfl rfl)
theorem dX0_voice_4 : decode cX0_voice 4 = .ok (.iload_n 1, 1) := dk_27 (dk_at dksX0_voice_0 4 rfl rfl)
theorem dX0_voice_5 : decode cX0_voice 5 = .ok (.invokevirtual 125, 3) := dk_182 0 125 (dk_at dksX0_voice_0 5 rfl rfl)
theorem dX0_voice_8 : decode cX0_voice 8 = .ok (.ifCond .eq 14, 3) := dk_153 0 14 (dk_at dksX0_voice_0 8 rfl rfl)
theorem dX0_voice_11 : decode cX0_voice 11 = .ok (.aload_n 0, 1) := dk_42 (dk_at dksX0_voice_0 11 rfl rfl)
theorem dX0_voice_12 : decode cX0_voice 12 = .ok (.getfield 10, 3) := dk_180 0 10 (dk_at dksX0_voice_0 12 rfl rfl)
theorem dX0_voice_15 : decode cX0_voice 15 = .ok (.iload_n 2, 1) := dk_28 (dk_at dksX0_voice_0 15 rfl rfl)
theorem dX0_voice_16 : decode cX0_voice 16 = .ok (.invokevirtual 125, 3) := dk_182 0 125 (dk_at dksX0_voice_0 16 rfl rfl)
theorem dX0_voice_19 : decode cX0_voice 19 = .ok (.ifCond .ne 6, 3) := dk_154 0 6 (dk_at dksX0_voice_0 19 rfl rfl)
theorem dX0_voice_22 : decode cX0_voice 22 = .ok (.bipush (-11), 2) := dk_16 245 (dk_at dksX0_voice_0 22 rfl rfl)
theorem dX0_voice_24 : decode cX0_voice 24 = .ok (.ireturn, 1) := dk_172 (dk_at dksX0_voice_1 0 rfl rfl)
theorem dX0_voice_25 : decode cX0_voice 25 = .ok (.aload_n 0, 1) := dk_42 (dk_at dksX0_voice_1 1 rfl rfl)
theorem dX0_voice_26 : decode cX0_voice 26 = .ok (.getfield 10, 3) := dk_180 0 10 (dk_at dksX0_voice_1 2 rfl rfl)
theorem dX0_voice_29 : decode cX0_voice 29 = .ok (.invokevirtual 109, 3) := dk_182 0 109 (dk_at dksX0_voice_1 5 rfl rfl)
theorem dX0_voice_32 : decode cX0_voice 32 = .ok (.astore_n 3, 1) := dk_78 (dk_at dksX0_voice_1 8 rfl rfl)
theorem dX0_voice_33 : decode cX0_voice 33 = .ok (.aload_n 0, 1) := dk_42 (dk_at dksX0_voice_1 9 rfl rfl)
theorem dX0_voice_34 : decode cX0_voice 34 = .ok (.aload_n 3, 1) := dk_45 (dk_at dksX0_voice_1 10 rfl rfl)
theorem dX0_voice_35 : decode cX0_voice 35 = .ok (.aload_n 0, 1) := dk_42 (dk_at dksX0_voice_1 11 rfl rfl)
theorem dX0_voice_36 : decode cX0_voice 36 = .ok (.getfield 10, 3) := dk_180 0 10 (dk_at dksX0_voice_1 12 rfl rfl)
theorem dX0_voice_39 : decode cX0_voice 39 = .ok (.iload_n 1, 1) := dk_27 (dk_at dksX0_voice_1 15 rfl rfl)
theorem dX0_voice_40 : decode cX0_voice 40 = .ok (.iload_n 2, 1) := dk_28 (dk_at dksX0_voice_1 16 rfl rfl)
theorem dX0_voice_41 : decode cX0_voice 41 = .ok (.invokevirtual 133, 3) := dk_182 0 133 (dk_at dksX0_voice_1 17 rfl rfl)
theorem dX0_voice_44 : decode cX0_voice 44 = .ok (.invokevirtual 117, 3) := dk_182 0 117 (dk_at dksX0_voice_1 20 rfl rfl)
theorem dX0_voice_47 : decode cX0_voice 47 = .ok (.ireturn, 1) := dk_172 (dk_at dksX0_voice_1 23 rfl rfl)
theorem dX0_voice_48 : decode cX0_voice 48 = .ok (.astore 4, 2) := dk_58 4 (dk_at dksX0_voice_2 0 rfl rfl)
theorem dX0_voice_50 : decode cX0_voice 50 = .ok (.aload_n 0, 1) := dk_42 (dk_at dksX0_voice_2 2 rfl rfl)
theorem dX0_voice_51 : decode cX0_voice 51 = .ok (.aload 4, 2) := dk_25 4 (dk_at dksX0_voice_2 3 rfl rfl)
theorem dX0_voice_53 : decode cX0_voice 53 = .ok (.invokevirtual 121, 3) := dk_182 0 121 (dk_at dksX0_voice_2 5 rfl rfl)
theorem dX0_voice_56 : decode cX0_voice 56 = .ok (.ireturn, 1) := dk_172 (dk_at dksX0_voice_2 8 rfl rfl)
abbrev cX0_choose : ByteArray := prog_1_method_15_code
def yX0_choose : MethodName := ⟨RX0, "choose", "(I)I"⟩
def dkwX0_choose_1 : List UInt8 := [27, 42, 180, 0, 25, 3, 50, 182, 0, 140, 182, 0, 117, 172, 78, 42, 45, 182, 0, 121, 172]
abbrev dktX0_choose_1 : List UInt8 := dkwX0_choose_1 ++ []
def dkwX0_choose_0 : List UInt8 := [27, 184, 0, 137, 154, 0, 6, 16, 245, 172, 42, 180, 0, 10, 182, 0, 109, 77, 42, 44, 42, 180, 0, 10]
abbrev dktX0_choose_0 : List UInt8 := dkwX0_choose_0 ++ dktX0_choose_1
theorem dksX0_choose_0 : cX0_choose.data.toList.drop 0 = dktX0_choose_0 := by decide +kernel
theorem dksX0_choose_1 : cX0_choose.data.toList.drop 24 = dktX0_choose_1 := dk_seg dksX0_choose_0 24 rfl rfl
theorem dX0_choose_0 : decode cX0_choose 0 = .ok (.iload_n 1, 1) := dk_27 (dk_at dksX0_choose_0 0 rfl rfl)
theorem dX0_choose_1 : decode cX0_choose 1 = .ok (.invokestatic 137, 3) := dk_184 0 137 (dk_at dksX0_choose_0 1 rfl rfl)
theorem dX0_choose_4 : decode cX0_choose 4 = .ok (.ifCond .ne 6, 3) := dk_154 0 6 (dk_at dksX0_choose_0 4 rfl rfl)
theorem dX0_choose_7 : decode cX0_choose 7 = .ok (.bipush (-11), 2) := dk_16 245 (dk_at dksX0_choose_0 7 rfl rfl)
theorem dX0_choose_9 : decode cX0_choose 9 = .ok (.ireturn, 1) := dk_172 (dk_at dksX0_choose_0 9 rfl rfl)
theorem dX0_choose_10 : decode cX0_choose 10 = .ok (.aload_n 0, 1) := dk_42 (dk_at dksX0_choose_0 10 rfl rfl)
theorem dX0_choose_11 : decode cX0_choose 11 = .ok (.getfield 10, 3) := dk_180 0 10 (dk_at dksX0_choose_0 11 rfl rfl)
theorem dX0_choose_14 : decode cX0_choose 14 = .ok (.invokevirtual 109, 3) := dk_182 0 109 (dk_at dksX0_choose_0 14 rfl rfl)
theorem dX0_choose_17 : decode cX0_choose 17 = .ok (.astore_n 2, 1) := dk_77 (dk_at dksX0_choose_0 17 rfl rfl)
theorem dX0_choose_18 : decode cX0_choose 18 = .ok (.aload_n 0, 1) := dk_42 (dk_at dksX0_choose_0 18 rfl rfl)
theorem dX0_choose_19 : decode cX0_choose 19 = .ok (.aload_n 2, 1) := dk_44 (dk_at dksX0_choose_0 19 rfl rfl)
theorem dX0_choose_20 : decode cX0_choose 20 = .ok (.aload_n 0, 1) := dk_42 (dk_at dksX0_choose_0 20 rfl rfl)
theorem dX0_choose_21 : decode cX0_choose 21 = .ok (.getfield 10, 3) := dk_180 0 10 (dk_at dksX0_choose_0 21 rfl rfl)
theorem dX0_choose_24 : decode cX0_choose 24 = .ok (.iload_n 1, 1) := dk_27 (dk_at dksX0_choose_1 0 rfl rfl)
theorem dX0_choose_25 : decode cX0_choose 25 = .ok (.aload_n 0, 1) := dk_42 (dk_at dksX0_choose_1 1 rfl rfl)
theorem dX0_choose_26 : decode cX0_choose 26 = .ok (.getfield 25, 3) := dk_180 0 25 (dk_at dksX0_choose_1 2 rfl rfl)
theorem dX0_choose_29 : decode cX0_choose 29 = .ok (.iconst 0, 1) := dk_3 (dk_at dksX0_choose_1 5 rfl rfl)
theorem dX0_choose_30 : decode cX0_choose 30 = .ok (.aaload, 1) := dk_50 (dk_at dksX0_choose_1 6 rfl rfl)
theorem dX0_choose_31 : decode cX0_choose 31 = .ok (.invokevirtual 140, 3) := dk_182 0 140 (dk_at dksX0_choose_1 7 rfl rfl)
theorem dX0_choose_34 : decode cX0_choose 34 = .ok (.invokevirtual 117, 3) := dk_182 0 117 (dk_at dksX0_choose_1 10 rfl rfl)
theorem dX0_choose_37 : decode cX0_choose 37 = .ok (.ireturn, 1) := dk_172 (dk_at dksX0_choose_1 13 rfl rfl)
theorem dX0_choose_38 : decode cX0_choose 38 = .ok (.astore_n 3, 1) := dk_78 (dk_at dksX0_choose_1 14 rfl rfl)
theorem dX0_choose_39 : decode cX0_choose 39 = .ok (.aload_n 0, 1) := dk_42 (dk_at dksX0_choose_1 15 rfl rfl)
theorem dX0_choose_40 : decode cX0_choose 40 = .ok (.aload_n 3, 1) := dk_45 (dk_at dksX0_choose_1 16 rfl rfl)
theorem dX0_choose_41 : decode cX0_choose 41 = .ok (.invokevirtual 121, 3) := dk_182 0 121 (dk_at dksX0_choose_1 17 rfl rfl)
theorem dX0_choose_44 : decode cX0_choose 44 = .ok (.ireturn, 1) := dk_172 (dk_at dksX0_choose_1 20 rfl rfl)
abbrev cX0_isCell : ByteArray := prog_1_method_3_code
def yX0_isCell : MethodName := ⟨RX0, "isCell", "(I)Z"⟩
def dkwX0_isCell_0 : List UInt8 := [26, 3, 16, 7, 184, 0, 47, 172]
abbrev dktX0_isCell_0 : List UInt8 := dkwX0_isCell_0 ++ []
theorem dksX0_isCell_0 : cX0_isCell.data.toList.drop 0 = dktX0_isCell_0 := by decide +kernel
theorem dX0_isCell_0 : decode cX0_isCell 0 = .ok (.iload_n 0, 1) := dk_26 (dk_at dksX0_isCell_0 0 rfl rfl)
theorem dX0_isCell_1 : decode cX0_isCell 1 = .ok (.iconst 0, 1) := dk_3 (dk_at dksX0_isCell_0 1 rfl rfl)
theorem dX0_isCell_2 : decode cX0_isCell 2 = .ok (.bipush 7, 2) := dk_16 7 (dk_at dksX0_isCell_0 2 rfl rfl)
theorem dX0_isCell_4 : decode cX0_isCell 4 = .ok (.invokestatic 47, 3) := dk_184 0 47 (dk_at dksX0_isCell_0 4 rfl rfl)
theorem dX0_isCell_7 : decode cX0_isCell 7 = .ok (.ireturn, 1) := dk_172 (dk_at dksX0_isCell_0 7 rfl rfl)
abbrev cX0_placed : ByteArray := prog_1_method_10_code
def yX0_placed : MethodName := ⟨RX0, "placed", "(Ljava/lang/Iterable;[ILPittanceHouse$Ahead;I)I"⟩
def dkwX0_placed_4 : List UInt8 := [25, 6, 180, 0, 96, 29, 160, 0, 6, 21, 5, 172, 167, 255, 163, 16, 245, 172]
abbrev dktX0_placed_4 : List UInt8 := dkwX0_placed_4 ++ []
def dkwX0_placed_3 : List UInt8 := [185, 0, 77, 1, 0, 192, 0, 81, 182, 0, 83, 54, 8, 25, 6, 21, 8, 182, 0, 92, 167, 255, 224]
abbrev dktX0_placed_3 : List UInt8 := dkwX0_placed_3 ++ dktX0_placed_4
def dkwX0_placed_2 : List UInt8 := [58, 6, 42, 185, 0, 65, 1, 0, 58, 7, 25, 7, 185, 0, 71, 1, 0, 153, 0, 28, 25, 7]
abbrev dktX0_placed_2 : List UInt8 := dkwX0_placed_2 ++ dktX0_placed_3
def dkwX0_placed_1 : List UInt8 := [185, 0, 77, 1, 0, 192, 0, 81, 182, 0, 83, 54, 5, 187, 0, 87, 89, 21, 5, 44, 43, 183, 0, 89]
abbrev dktX0_placed_1 : List UInt8 := dkwX0_placed_1 ++ dktX0_placed_2
def dkwX0_placed_0 : List UInt8 := [42, 185, 0, 65, 1, 0, 58, 4, 25, 4, 185, 0, 71, 1, 0, 153, 0, 89, 25, 4]
abbrev dktX0_placed_0 : List UInt8 := dkwX0_placed_0 ++ dktX0_placed_1
theorem dksX0_placed_0 : cX0_placed.data.toList.drop 0 = dktX0_placed_0 := by decide +kernel
theorem dksX0_placed_1 : cX0_placed.data.toList.drop 20 = dktX0_placed_1 := dk_seg dksX0_placed_0 20 rfl rfl
theorem dksX0_placed_2 : cX0_placed.data.toList.drop 44 = dktX0_placed_2 := dk_seg dksX0_placed_1 24 rfl rfl
theorem dksX0_placed_3 : cX0_placed.data.toList.drop 66 = dktX0_placed_3 := dk_seg dksX0_placed_2 22 rfl rfl
theorem dksX0_placed_4 : cX0_placed.data.toList.drop 89 = dktX0_placed_4 := dk_seg dksX0_placed_3 23 rfl rfl
theorem dX0_placed_0 : decode cX0_placed 0 = .ok (.aload_n 0, 1) := dk_42 (dk_at dksX0_placed_0 0 rfl rfl)
theorem dX0_placed_1 : decode cX0_placed 1 = .ok (.invokeinterface 65 1, 5) := by decide +kernel
theorem dX0_placed_6 : decode cX0_placed 6 = .ok (.astore 4, 2) := dk_58 4 (dk_at dksX0_placed_0 6 rfl rfl)
theorem dX0_placed_8 : decode cX0_placed 8 = .ok (.aload 4, 2) := dk_25 4 (dk_at dksX0_placed_0 8 rfl rfl)
theorem dX0_placed_10 : decode cX0_placed 10 = .ok (.invokeinterface 71 1, 5) := by decide +kernel
theorem dX0_placed_15 : decode cX0_placed 15 = .ok (.ifCond .eq 89, 3) := dk_153 0 89 (dk_at dksX0_placed_0 15 rfl rfl)
theorem dX0_placed_18 : decode cX0_placed 18 = .ok (.aload 4, 2) := dk_25 4 (dk_at dksX0_placed_0 18 rfl rfl)
theorem dX0_placed_20 : decode cX0_placed 20 = .ok (.invokeinterface 77 1, 5) := by decide +kernel
theorem dX0_placed_25 : decode cX0_placed 25 = .ok (.checkcast 81, 3) := dk_192 0 81 (dk_at dksX0_placed_1 5 rfl rfl)
theorem dX0_placed_28 : decode cX0_placed 28 = .ok (.invokevirtual 83, 3) := dk_182 0 83 (dk_at dksX0_placed_1 8 rfl rfl)
theorem dX0_placed_31 : decode cX0_placed 31 = .ok (.istore 5, 2) := dk_54 5 (dk_at dksX0_placed_1 11 rfl rfl)
theorem dX0_placed_33 : decode cX0_placed 33 = .ok (.new 87, 3) := dk_187 0 87 (dk_at dksX0_placed_1 13 rfl rfl)
theorem dX0_placed_36 : decode cX0_placed 36 = .ok (.dup, 1) := dk_89 (dk_at dksX0_placed_1 16 rfl rfl)
theorem dX0_placed_37 : decode cX0_placed 37 = .ok (.iload 5, 2) := dk_21 5 (dk_at dksX0_placed_1 17 rfl rfl)
theorem dX0_placed_39 : decode cX0_placed 39 = .ok (.aload_n 2, 1) := dk_44 (dk_at dksX0_placed_1 19 rfl rfl)
theorem dX0_placed_40 : decode cX0_placed 40 = .ok (.aload_n 1, 1) := dk_43 (dk_at dksX0_placed_1 20 rfl rfl)
theorem dX0_placed_41 : decode cX0_placed 41 = .ok (.invokespecial 89, 3) := dk_183 0 89 (dk_at dksX0_placed_1 21 rfl rfl)
theorem dX0_placed_44 : decode cX0_placed 44 = .ok (.astore 6, 2) := dk_58 6 (dk_at dksX0_placed_2 0 rfl rfl)
theorem dX0_placed_46 : decode cX0_placed 46 = .ok (.aload_n 0, 1) := dk_42 (dk_at dksX0_placed_2 2 rfl rfl)
theorem dX0_placed_47 : decode cX0_placed 47 = .ok (.invokeinterface 65 1, 5) := by decide +kernel
theorem dX0_placed_52 : decode cX0_placed 52 = .ok (.astore 7, 2) := dk_58 7 (dk_at dksX0_placed_2 8 rfl rfl)
theorem dX0_placed_54 : decode cX0_placed 54 = .ok (.aload 7, 2) := dk_25 7 (dk_at dksX0_placed_2 10 rfl rfl)
theorem dX0_placed_56 : decode cX0_placed 56 = .ok (.invokeinterface 71 1, 5) := by decide +kernel
theorem dX0_placed_61 : decode cX0_placed 61 = .ok (.ifCond .eq 28, 3) := dk_153 0 28 (dk_at dksX0_placed_2 17 rfl rfl)
theorem dX0_placed_64 : decode cX0_placed 64 = .ok (.aload 7, 2) := dk_25 7 (dk_at dksX0_placed_2 20 rfl rfl)
theorem dX0_placed_66 : decode cX0_placed 66 = .ok (.invokeinterface 77 1, 5) := by decide +kernel
theorem dX0_placed_71 : decode cX0_placed 71 = .ok (.checkcast 81, 3) := dk_192 0 81 (dk_at dksX0_placed_3 5 rfl rfl)
theorem dX0_placed_74 : decode cX0_placed 74 = .ok (.invokevirtual 83, 3) := dk_182 0 83 (dk_at dksX0_placed_3 8 rfl rfl)
theorem dX0_placed_77 : decode cX0_placed 77 = .ok (.istore 8, 2) := dk_54 8 (dk_at dksX0_placed_3 11 rfl rfl)
theorem dX0_placed_79 : decode cX0_placed 79 = .ok (.aload 6, 2) := dk_25 6 (dk_at dksX0_placed_3 13 rfl rfl)
theorem dX0_placed_81 : decode cX0_placed 81 = .ok (.iload 8, 2) := dk_21 8 (dk_at dksX0_placed_3 15 rfl rfl)
theorem dX0_placed_83 : decode cX0_placed 83 = .ok (.invokevirtual 92, 3) := dk_182 0 92 (dk_at dksX0_placed_3 17 rfl rfl)
theorem dX0_placed_86 : decode cX0_placed 86 = .ok (.goto (-32), 3) := dk_167 255 224 (dk_at dksX0_placed_3 20 rfl rfl)
theorem dX0_placed_89 : decode cX0_placed 89 = .ok (.aload 6, 2) := dk_25 6 (dk_at dksX0_placed_4 0 rfl rfl)
theorem dX0_placed_91 : decode cX0_placed 91 = .ok (.getfield 96, 3) := dk_180 0 96 (dk_at dksX0_placed_4 2 rfl rfl)
theorem dX0_placed_94 : decode cX0_placed 94 = .ok (.iload_n 3, 1) := dk_29 (dk_at dksX0_placed_4 5 rfl rfl)
theorem dX0_placed_95 : decode cX0_placed 95 = .ok (.if_icmp .ne 6, 3) := dk_160 0 6 (dk_at dksX0_placed_4 6 rfl rfl)
theorem dX0_placed_98 : decode cX0_placed 98 = .ok (.iload 5, 2) := dk_21 5 (dk_at dksX0_placed_4 9 rfl rfl)
theorem dX0_placed_100 : decode cX0_placed 100 = .ok (.ireturn, 1) := dk_172 (dk_at dksX0_placed_4 11 rfl rfl)
theorem dX0_placed_101 : decode cX0_placed 101 = .ok (.goto (-93), 3) := dk_167 255 163 (dk_at dksX0_placed_4 12 rfl rfl)
theorem dX0_placed_104 : decode cX0_placed 104 = .ok (.bipush (-11), 2) := dk_16 245 (dk_at dksX0_placed_4 15 rfl rfl)
theorem dX0_placed_106 : decode cX0_placed 106 = .ok (.ireturn, 1) := dk_172 (dk_at dksX0_placed_4 17 rfl rfl)
abbrev cX0_leave : ByteArray := prog_1_method_16_code
def yX0_leave : MethodName := ⟨RX0, "leave", "(I)I"⟩
def dkwX0_leave_1 : List UInt8 := [27, 182, 0, 144, 182, 0, 117, 172, 78, 42, 45, 182, 0, 121, 172]
abbrev dktX0_leave_1 : List UInt8 := dkwX0_leave_1 ++ []
def dkwX0_leave_0 : List UInt8 := [27, 184, 0, 137, 154, 0, 6, 16, 245, 172, 42, 180, 0, 10, 182, 0, 109, 77, 42, 44, 42, 180, 0, 10]
abbrev dktX0_leave_0 : List UInt8 := dkwX0_leave_0 ++ dktX0_leave_1
theorem dksX0_leave_0 : cX0_leave.data.toList.drop 0 = dktX0_leave_0 := by decide +kernel
theorem dksX0_leave_1 : cX0_leave.data.toList.drop 24 = dktX0_leave_1 := dk_seg dksX0_leave_0 24 rfl rfl
theorem dX0_leave_0 : decode cX0_leave 0 = .ok (.iload_n 1, 1) := dk_27 (dk_at dksX0_leave_0 0 rfl rfl)
theorem dX0_leave_1 : decode cX0_leave 1 = .ok (.invokestatic 137, 3) := dk_184 0 137 (dk_at dksX0_leave_0 1 rfl rfl)
theorem dX0_leave_4 : decode cX0_leave 4 = .ok (.ifCond .ne 6, 3) := dk_154 0 6 (dk_at dksX0_leave_0 4 rfl rfl)
theorem dX0_leave_7 : decode cX0_leave 7 = .ok (.bipush (-11), 2) := dk_16 245 (dk_at dksX0_leave_0 7 rfl rfl)
theorem dX0_leave_9 : decode cX0_leave 9 = .ok (.ireturn, 1) := dk_172 (dk_at dksX0_leave_0 9 rfl rfl)
theorem dX0_leave_10 : decode cX0_leave 10 = .ok (.aload_n 0, 1) := dk_42 (dk_at dksX0_leave_0 10 rfl rfl)
theorem dX0_leave_11 : decode cX0_leave 11 = .ok (.getfield 10, 3) := dk_180 0 10 (dk_at dksX0_leave_0 11 rfl rfl)
theorem dX0_leave_14 : decode cX0_leave 14 = .ok (.invokevirtual 109, 3) := dk_182 0 109 (dk_at dksX0_leave_0 14 rfl rfl)
theorem dX0_leave_17 : decode cX0_leave 17 = .ok (.astore_n 2, 1) := dk_77 (dk_at dksX0_leave_0 17 rfl rfl)
theorem dX0_leave_18 : decode cX0_leave 18 = .ok (.aload_n 0, 1) := dk_42 (dk_at dksX0_leave_0 18 rfl rfl)
theorem dX0_leave_19 : decode cX0_leave 19 = .ok (.aload_n 2, 1) := dk_44 (dk_at dksX0_leave_0 19 rfl rfl)
theorem dX0_leave_20 : decode cX0_leave 20 = .ok (.aload_n 0, 1) := dk_42 (dk_at dksX0_leave_0 20 rfl rfl)
theorem dX0_leave_21 : decode cX0_leave 21 = .ok (.getfield 10, 3) := dk_180 0 10 (dk_at dksX0_leave_0 21 rfl rfl)
theorem dX0_leave_24 : decode cX0_leave 24 = .ok (.iload_n 1, 1) := dk_27 (dk_at dksX0_leave_1 0 rfl rfl)
theorem dX0_leave_25 : decode cX0_leave 25 = .ok (.invokevirtual 144, 3) := dk_182 0 144 (dk_at dksX0_leave_1 1 rfl rfl)
theorem dX0_leave_28 : decode cX0_leave 28 = .ok (.invokevirtual 117, 3) := dk_182 0 117 (dk_at dksX0_leave_1 4 rfl rfl)
theorem dX0_leave_31 : decode cX0_leave 31 = .ok (.ireturn, 1) := dk_172 (dk_at dksX0_leave_1 7 rfl rfl)
theorem dX0_leave_32 : decode cX0_leave 32 = .ok (.astore_n 3, 1) := dk_78 (dk_at dksX0_leave_1 8 rfl rfl)
theorem dX0_leave_33 : decode cX0_leave 33 = .ok (.aload_n 0, 1) := dk_42 (dk_at dksX0_leave_1 9 rfl rfl)
theorem dX0_leave_34 : decode cX0_leave 34 = .ok (.aload_n 3, 1) := dk_45 (dk_at dksX0_leave_1 10 rfl rfl)
theorem dX0_leave_35 : decode cX0_leave 35 = .ok (.invokevirtual 121, 3) := dk_182 0 121 (dk_at dksX0_leave_1 11 rfl rfl)
theorem dX0_leave_38 : decode cX0_leave 38 = .ok (.ireturn, 1) := dk_172 (dk_at dksX0_leave_1 14 rfl rfl)
abbrev cX0_feast : ByteArray := prog_1_method_17_code
def yX0_feast : MethodName := ⟨RX0, "feast", "(II)I"⟩
def dkwX0_feast_1 : List UInt8 := [180, 0, 10, 27, 28, 182, 0, 151, 182, 0, 117, 172, 58, 4, 42, 25, 4, 182, 0, 121, 172]
abbrev dktX0_feast_1 : List UInt8 := dkwX0_feast_1 ++ []
def dkwX0_feast_0 : List UInt8 := [27, 28, 184, 0, 147, 154, 0, 6, 16, 244, 172, 42, 180, 0, 10, 182, 0, 109, 78, 42, 45, 42]
abbrev dktX0_feast_0 : List UInt8 := dkwX0_feast_0 ++ dktX0_feast_1
theorem dksX0_feast_0 : cX0_feast.data.toList.drop 0 = dktX0_feast_0 := by decide +kernel
theorem dksX0_feast_1 : cX0_feast.data.toList.drop 22 = dktX0_feast_1 := dk_seg dksX0_feast_0 22 rfl rfl
theorem dX0_feast_0 : decode cX0_feast 0 = .ok (.iload_n 1, 1) := dk_27 (dk_at dksX0_feast_0 0 rfl rfl)
theorem dX0_feast_1 : decode cX0_feast 1 = .ok (.iload_n 2, 1) := dk_28 (dk_at dksX0_feast_0 1 rfl rfl)
theorem dX0_feast_2 : decode cX0_feast 2 = .ok (.invokestatic 147, 3) := dk_184 0 147 (dk_at dksX0_feast_0 2 rfl rfl)
theorem dX0_feast_5 : decode cX0_feast 5 = .ok (.ifCond .ne 6, 3) := dk_154 0 6 (dk_at dksX0_feast_0 5 rfl rfl)
theorem dX0_feast_8 : decode cX0_feast 8 = .ok (.bipush (-12), 2) := dk_16 244 (dk_at dksX0_feast_0 8 rfl rfl)
theorem dX0_feast_10 : decode cX0_feast 10 = .ok (.ireturn, 1) := dk_172 (dk_at dksX0_feast_0 10 rfl rfl)
theorem dX0_feast_11 : decode cX0_feast 11 = .ok (.aload_n 0, 1) := dk_42 (dk_at dksX0_feast_0 11 rfl rfl)
theorem dX0_feast_12 : decode cX0_feast 12 = .ok (.getfield 10, 3) := dk_180 0 10 (dk_at dksX0_feast_0 12 rfl rfl)
theorem dX0_feast_15 : decode cX0_feast 15 = .ok (.invokevirtual 109, 3) := dk_182 0 109 (dk_at dksX0_feast_0 15 rfl rfl)
theorem dX0_feast_18 : decode cX0_feast 18 = .ok (.astore_n 3, 1) := dk_78 (dk_at dksX0_feast_0 18 rfl rfl)
theorem dX0_feast_19 : decode cX0_feast 19 = .ok (.aload_n 0, 1) := dk_42 (dk_at dksX0_feast_0 19 rfl rfl)
theorem dX0_feast_20 : decode cX0_feast 20 = .ok (.aload_n 3, 1) := dk_45 (dk_at dksX0_feast_0 20 rfl rfl)
theorem dX0_feast_21 : decode cX0_feast 21 = .ok (.aload_n 0, 1) := dk_42 (dk_at dksX0_feast_0 21 rfl rfl)
theorem dX0_feast_22 : decode cX0_feast 22 = .ok (.getfield 10, 3) := dk_180 0 10 (dk_at dksX0_feast_1 0 rfl rfl)
theorem dX0_feast_25 : decode cX0_feast 25 = .ok (.iload_n 1, 1) := dk_27 (dk_at dksX0_feast_1 3 rfl rfl)
theorem dX0_feast_26 : decode cX0_feast 26 = .ok (.iload_n 2, 1) := dk_28 (dk_at dksX0_feast_1 4 rfl rfl)
theorem dX0_feast_27 : decode cX0_feast 27 = .ok (.invokevirtual 151, 3) := dk_182 0 151 (dk_at dksX0_feast_1 5 rfl rfl)
theorem dX0_feast_30 : decode cX0_feast 30 = .ok (.invokevirtual 117, 3) := dk_182 0 117 (dk_at dksX0_feast_1 8 rfl rfl)
theorem dX0_feast_33 : decode cX0_feast 33 = .ok (.ireturn, 1) := dk_172 (dk_at dksX0_feast_1 11 rfl rfl)
theorem dX0_feast_34 : decode cX0_feast 34 = .ok (.astore 4, 2) := dk_58 4 (dk_at dksX0_feast_1 12 rfl rfl)
theorem dX0_feast_36 : decode cX0_feast 36 = .ok (.aload_n 0, 1) := dk_42 (dk_at dksX0_feast_1 14 rfl rfl)
theorem dX0_feast_37 : decode cX0_feast 37 = .ok (.aload 4, 2) := dk_25 4 (dk_at dksX0_feast_1 15 rfl rfl)
theorem dX0_feast_39 : decode cX0_feast 39 = .ok (.invokevirtual 121, 3) := dk_182 0 121 (dk_at dksX0_feast_1 17 rfl rfl)
theorem dX0_feast_42 : decode cX0_feast 42 = .ok (.ireturn, 1) := dk_172 (dk_at dksX0_feast_1 20 rfl rfl)
abbrev cX0_isFeast : ByteArray := prog_1_method_5_code
def yX0_isFeast : MethodName := ⟨RX0, "isFeast", "(II)Z"⟩
def dkwX0_isFeast_1 : List UInt8 := [3, 172]
abbrev dktX0_isFeast_1 : List UInt8 := dkwX0_isFeast_1 ++ []
def dkwX0_isFeast_0 : List UInt8 := [26, 3, 16, 51, 184, 0, 47, 153, 0, 17, 27, 4, 16, 9, 184, 0, 47, 153, 0, 7, 4, 167, 0, 4]
abbrev dktX0_isFeast_0 : List UInt8 := dkwX0_isFeast_0 ++ dktX0_isFeast_1
theorem dksX0_isFeast_0 : cX0_isFeast.data.toList.drop 0 = dktX0_isFeast_0 := by decide +kernel
theorem dksX0_isFeast_1 : cX0_isFeast.data.toList.drop 24 = dktX0_isFeast_1 := dk_seg dksX0_isFeast_0 24 rfl rfl
theorem dX0_isFeast_0 : decode cX0_isFeast 0 = .ok (.iload_n 0, 1) := dk_26 (dk_at dksX0_isFeast_0 0 rfl rfl)
theorem dX0_isFeast_1 : decode cX0_isFeast 1 = .ok (.iconst 0, 1) := dk_3 (dk_at dksX0_isFeast_0 1 rfl rfl)
theorem dX0_isFeast_2 : decode cX0_isFeast 2 = .ok (.bipush 51, 2) := dk_16 51 (dk_at dksX0_isFeast_0 2 rfl rfl)
theorem dX0_isFeast_4 : decode cX0_isFeast 4 = .ok (.invokestatic 47, 3) := dk_184 0 47 (dk_at dksX0_isFeast_0 4 rfl rfl)
theorem dX0_isFeast_7 : decode cX0_isFeast 7 = .ok (.ifCond .eq 17, 3) := dk_153 0 17 (dk_at dksX0_isFeast_0 7 rfl rfl)
theorem dX0_isFeast_10 : decode cX0_isFeast 10 = .ok (.iload_n 1, 1) := dk_27 (dk_at dksX0_isFeast_0 10 rfl rfl)
theorem dX0_isFeast_11 : decode cX0_isFeast 11 = .ok (.iconst 1, 1) := dk_4 (dk_at dksX0_isFeast_0 11 rfl rfl)
theorem dX0_isFeast_12 : decode cX0_isFeast 12 = .ok (.bipush 9, 2) := dk_16 9 (dk_at dksX0_isFeast_0 12 rfl rfl)
theorem dX0_isFeast_14 : decode cX0_isFeast 14 = .ok (.invokestatic 47, 3) := dk_184 0 47 (dk_at dksX0_isFeast_0 14 rfl rfl)
theorem dX0_isFeast_17 : decode cX0_isFeast 17 = .ok (.ifCond .eq 7, 3) := dk_153 0 7 (dk_at dksX0_isFeast_0 17 rfl rfl)
theorem dX0_isFeast_20 : decode cX0_isFeast 20 = .ok (.iconst 1, 1) := dk_4 (dk_at dksX0_isFeast_0 20 rfl rfl)
theorem dX0_isFeast_21 : decode cX0_isFeast 21 = .ok (.goto 4, 3) := dk_167 0 4 (dk_at dksX0_isFeast_0 21 rfl rfl)
theorem dX0_isFeast_24 : decode cX0_isFeast 24 = .ok (.iconst 0, 1) := dk_3 (dk_at dksX0_isFeast_1 0 rfl rfl)
theorem dX0_isFeast_25 : decode cX0_isFeast 25 = .ok (.ireturn, 1) := dk_172 (dk_at dksX0_isFeast_1 1 rfl rfl)
abbrev cX0_breach : ByteArray := prog_1_method_18_code
def yX0_breach : MethodName := ⟨RX0, "breach", "(II)I"⟩
def dkwX0_breach_2 : List UInt8 := [42, 25, 4, 182, 0, 121, 172]
abbrev dktX0_breach_2 : List UInt8 := dkwX0_breach_2 ++ []
def dkwX0_breach_1 : List UInt8 := [180, 0, 10, 182, 0, 109, 78, 42, 45, 42, 180, 0, 10, 27, 28, 182, 0, 157, 182, 0, 117, 172, 58, 4]
abbrev dktX0_breach_1 : List UInt8 := dkwX0_breach_1 ++ dktX0_breach_2
def dkwX0_breach_0 : List UInt8 := [42, 180, 0, 10, 27, 182, 0, 125, 153, 0, 10, 28, 184, 0, 154, 154, 0, 6, 16, 245, 172, 42]
abbrev dktX0_breach_0 : List UInt8 := dkwX0_breach_0 ++ dktX0_breach_1
theorem dksX0_breach_0 : cX0_breach.data.toList.drop 0 = dktX0_breach_0 := by decide +kernel
theorem dksX0_breach_1 : cX0_breach.data.toList.drop 22 = dktX0_breach_1 := dk_seg dksX0_breach_0 22 rfl rfl
theorem dksX0_breach_2 : cX0_breach.data.toList.drop 46 = dktX0_breach_2 := dk_seg dksX0_breach_1 24 rfl rfl
theorem dX0_breach_0 : decode cX0_breach 0 = .ok (.aload_n 0, 1) := dk_42 (dk_at dksX0_breach_0 0 rfl rfl)
theorem dX0_breach_1 : decode cX0_breach 1 = .ok (.getfield 10, 3) := dk_180 0 10 (dk_at dksX0_breach_0 1 rfl rfl)
theorem dX0_breach_4 : decode cX0_breach 4 = .ok (.iload_n 1, 1) := dk_27 (dk_at dksX0_breach_0 4 rfl rfl)
theorem dX0_breach_5 : decode cX0_breach 5 = .ok (.invokevirtual 125, 3) := dk_182 0 125 (dk_at dksX0_breach_0 5 rfl rfl)
theorem dX0_breach_8 : decode cX0_breach 8 = .ok (.ifCond .eq 10, 3) := dk_153 0 10 (dk_at dksX0_breach_0 8 rfl rfl)
theorem dX0_breach_11 : decode cX0_breach 11 = .ok (.iload_n 2, 1) := dk_28 (dk_at dksX0_breach_0 11 rfl rfl)
theorem dX0_breach_12 : decode cX0_breach 12 = .ok (.invokestatic 154, 3) := dk_184 0 154 (dk_at dksX0_breach_0 12 rfl rfl)
theorem dX0_breach_15 : decode cX0_breach 15 = .ok (.ifCond .ne 6, 3) := dk_154 0 6 (dk_at dksX0_breach_0 15 rfl rfl)
theorem dX0_breach_18 : decode cX0_breach 18 = .ok (.bipush (-11), 2) := dk_16 245 (dk_at dksX0_breach_0 18 rfl rfl)
theorem dX0_breach_20 : decode cX0_breach 20 = .ok (.ireturn, 1) := dk_172 (dk_at dksX0_breach_0 20 rfl rfl)
theorem dX0_breach_21 : decode cX0_breach 21 = .ok (.aload_n 0, 1) := dk_42 (dk_at dksX0_breach_0 21 rfl rfl)
theorem dX0_breach_22 : decode cX0_breach 22 = .ok (.getfield 10, 3) := dk_180 0 10 (dk_at dksX0_breach_1 0 rfl rfl)
theorem dX0_breach_25 : decode cX0_breach 25 = .ok (.invokevirtual 109, 3) := dk_182 0 109 (dk_at dksX0_breach_1 3 rfl rfl)
theorem dX0_breach_28 : decode cX0_breach 28 = .ok (.astore_n 3, 1) := dk_78 (dk_at dksX0_breach_1 6 rfl rfl)
theorem dX0_breach_29 : decode cX0_breach 29 = .ok (.aload_n 0, 1) := dk_42 (dk_at dksX0_breach_1 7 rfl rfl)
theorem dX0_breach_30 : decode cX0_breach 30 = .ok (.aload_n 3, 1) := dk_45 (dk_at dksX0_breach_1 8 rfl rfl)
theorem dX0_breach_31 : decode cX0_breach 31 = .ok (.aload_n 0, 1) := dk_42 (dk_at dksX0_breach_1 9 rfl rfl)
theorem dX0_breach_32 : decode cX0_breach 32 = .ok (.getfield 10, 3) := dk_180 0 10 (dk_at dksX0_breach_1 10 rfl rfl)
theorem dX0_breach_35 : decode cX0_breach 35 = .ok (.iload_n 1, 1) := dk_27 (dk_at dksX0_breach_1 13 rfl rfl)
theorem dX0_breach_36 : decode cX0_breach 36 = .ok (.iload_n 2, 1) := dk_28 (dk_at dksX0_breach_1 14 rfl rfl)
theorem dX0_breach_37 : decode cX0_breach 37 = .ok (.invokevirtual 157, 3) := dk_182 0 157 (dk_at dksX0_breach_1 15 rfl rfl)
theorem dX0_breach_40 : decode cX0_breach 40 = .ok (.invokevirtual 117, 3) := dk_182 0 117 (dk_at dksX0_breach_1 18 rfl rfl)
theorem dX0_breach_43 : decode cX0_breach 43 = .ok (.ireturn, 1) := dk_172 (dk_at dksX0_breach_1 21 rfl rfl)
theorem dX0_breach_44 : decode cX0_breach 44 = .ok (.astore 4, 2) := dk_58 4 (dk_at dksX0_breach_1 22 rfl rfl)
theorem dX0_breach_46 : decode cX0_breach 46 = .ok (.aload_n 0, 1) := dk_42 (dk_at dksX0_breach_2 0 rfl rfl)
theorem dX0_breach_47 : decode cX0_breach 47 = .ok (.aload 4, 2) := dk_25 4 (dk_at dksX0_breach_2 1 rfl rfl)
theorem dX0_breach_49 : decode cX0_breach 49 = .ok (.invokevirtual 121, 3) := dk_182 0 121 (dk_at dksX0_breach_2 3 rfl rfl)
theorem dX0_breach_52 : decode cX0_breach 52 = .ok (.ireturn, 1) := dk_172 (dk_at dksX0_breach_2 6 rfl rfl)
abbrev cX0_isRule : ByteArray := prog_1_method_4_code
def yX0_isRule : MethodName := ⟨RX0, "isRule", "(I)Z"⟩
def dkwX0_isRule_0 : List UInt8 := [26, 3, 7, 184, 0, 47, 172]
abbrev dktX0_isRule_0 : List UInt8 := dkwX0_isRule_0 ++ []
theorem dksX0_isRule_0 : cX0_isRule.data.toList.drop 0 = dktX0_isRule_0 := by decide +kernel
theorem dX0_isRule_0 : decode cX0_isRule 0 = .ok (.iload_n 0, 1) := dk_26 (dk_at dksX0_isRule_0 0 rfl rfl)
theorem dX0_isRule_1 : decode cX0_isRule 1 = .ok (.iconst 0, 1) := dk_3 (dk_at dksX0_isRule_0 1 rfl rfl)
theorem dX0_isRule_2 : decode cX0_isRule 2 = .ok (.iconst 4, 1) := dk_7 (dk_at dksX0_isRule_0 2 rfl rfl)
theorem dX0_isRule_3 : decode cX0_isRule 3 = .ok (.invokestatic 47, 3) := dk_184 0 47 (dk_at dksX0_isRule_0 3 rfl rfl)
theorem dX0_isRule_6 : decode cX0_isRule 6 = .ok (.ireturn, 1) := dk_172 (dk_at dksX0_isRule_0 6 rfl rfl)
abbrev cX0_pardon : ByteArray := prog_1_method_19_code
def yX0_pardon : MethodName := ⟨RX0, "pardon", "(I)I"⟩
def dkwX0_pardon_1 : List UInt8 := [42, 180, 0, 10, 27, 182, 0, 160, 182, 0, 117, 172, 78, 42, 45, 182, 0, 121, 172]
abbrev dktX0_pardon_1 : List UInt8 := dkwX0_pardon_1 ++ []
def dkwX0_pardon_0 : List UInt8 := [42, 180, 0, 10, 27, 182, 0, 125, 154, 0, 6, 16, 245, 172, 42, 180, 0, 10, 182, 0, 109, 77, 42, 44]
abbrev dktX0_pardon_0 : List UInt8 := dkwX0_pardon_0 ++ dktX0_pardon_1
theorem dksX0_pardon_0 : cX0_pardon.data.toList.drop 0 = dktX0_pardon_0 := by decide +kernel
theorem dksX0_pardon_1 : cX0_pardon.data.toList.drop 24 = dktX0_pardon_1 := dk_seg dksX0_pardon_0 24 rfl rfl
theorem dX0_pardon_0 : decode cX0_pardon 0 = .ok (.aload_n 0, 1) := dk_42 (dk_at dksX0_pardon_0 0 rfl rfl)
theorem dX0_pardon_1 : decode cX0_pardon 1 = .ok (.getfield 10, 3) := dk_180 0 10 (dk_at dksX0_pardon_0 1 rfl rfl)
theorem dX0_pardon_4 : decode cX0_pardon 4 = .ok (.iload_n 1, 1) := dk_27 (dk_at dksX0_pardon_0 4 rfl rfl)
theorem dX0_pardon_5 : decode cX0_pardon 5 = .ok (.invokevirtual 125, 3) := dk_182 0 125 (dk_at dksX0_pardon_0 5 rfl rfl)
theorem dX0_pardon_8 : decode cX0_pardon 8 = .ok (.ifCond .ne 6, 3) := dk_154 0 6 (dk_at dksX0_pardon_0 8 rfl rfl)
theorem dX0_pardon_11 : decode cX0_pardon 11 = .ok (.bipush (-11), 2) := dk_16 245 (dk_at dksX0_pardon_0 11 rfl rfl)
theorem dX0_pardon_13 : decode cX0_pardon 13 = .ok (.ireturn, 1) := dk_172 (dk_at dksX0_pardon_0 13 rfl rfl)
theorem dX0_pardon_14 : decode cX0_pardon 14 = .ok (.aload_n 0, 1) := dk_42 (dk_at dksX0_pardon_0 14 rfl rfl)
theorem dX0_pardon_15 : decode cX0_pardon 15 = .ok (.getfield 10, 3) := dk_180 0 10 (dk_at dksX0_pardon_0 15 rfl rfl)
theorem dX0_pardon_18 : decode cX0_pardon 18 = .ok (.invokevirtual 109, 3) := dk_182 0 109 (dk_at dksX0_pardon_0 18 rfl rfl)
theorem dX0_pardon_21 : decode cX0_pardon 21 = .ok (.astore_n 2, 1) := dk_77 (dk_at dksX0_pardon_0 21 rfl rfl)
theorem dX0_pardon_22 : decode cX0_pardon 22 = .ok (.aload_n 0, 1) := dk_42 (dk_at dksX0_pardon_0 22 rfl rfl)
theorem dX0_pardon_23 : decode cX0_pardon 23 = .ok (.aload_n 2, 1) := dk_44 (dk_at dksX0_pardon_0 23 rfl rfl)
theorem dX0_pardon_24 : decode cX0_pardon 24 = .ok (.aload_n 0, 1) := dk_42 (dk_at dksX0_pardon_1 0 rfl rfl)
theorem dX0_pardon_25 : decode cX0_pardon 25 = .ok (.getfield 10, 3) := dk_180 0 10 (dk_at dksX0_pardon_1 1 rfl rfl)
theorem dX0_pardon_28 : decode cX0_pardon 28 = .ok (.iload_n 1, 1) := dk_27 (dk_at dksX0_pardon_1 4 rfl rfl)
theorem dX0_pardon_29 : decode cX0_pardon 29 = .ok (.invokevirtual 160, 3) := dk_182 0 160 (dk_at dksX0_pardon_1 5 rfl rfl)
theorem dX0_pardon_32 : decode cX0_pardon 32 = .ok (.invokevirtual 117, 3) := dk_182 0 117 (dk_at dksX0_pardon_1 8 rfl rfl)
theorem dX0_pardon_35 : decode cX0_pardon 35 = .ok (.ireturn, 1) := dk_172 (dk_at dksX0_pardon_1 11 rfl rfl)
theorem dX0_pardon_36 : decode cX0_pardon 36 = .ok (.astore_n 3, 1) := dk_78 (dk_at dksX0_pardon_1 12 rfl rfl)
theorem dX0_pardon_37 : decode cX0_pardon 37 = .ok (.aload_n 0, 1) := dk_42 (dk_at dksX0_pardon_1 13 rfl rfl)
theorem dX0_pardon_38 : decode cX0_pardon 38 = .ok (.aload_n 3, 1) := dk_45 (dk_at dksX0_pardon_1 14 rfl rfl)
theorem dX0_pardon_39 : decode cX0_pardon 39 = .ok (.invokevirtual 121, 3) := dk_182 0 121 (dk_at dksX0_pardon_1 15 rfl rfl)
theorem dX0_pardon_42 : decode cX0_pardon 42 = .ok (.ireturn, 1) := dk_172 (dk_at dksX0_pardon_1 18 rfl rfl)
abbrev cX0_gift : ByteArray := prog_1_method_20_code
def yX0_gift : MethodName := ⟨RX0, "gift", "(I)I"⟩
def dkwX0_gift_1 : List UInt8 := [27, 182, 0, 166, 182, 0, 117, 172]
abbrev dktX0_gift_1 : List UInt8 := dkwX0_gift_1 ++ []
def dkwX0_gift_0 : List UInt8 := [27, 184, 0, 163, 154, 0, 6, 16, 244, 172, 42, 180, 0, 10, 182, 0, 109, 77, 42, 44, 42, 180, 0, 10]
abbrev dktX0_gift_0 : List UInt8 := dkwX0_gift_0 ++ dktX0_gift_1
theorem dksX0_gift_0 : cX0_gift.data.toList.drop 0 = dktX0_gift_0 := by decide +kernel
theorem dksX0_gift_1 : cX0_gift.data.toList.drop 24 = dktX0_gift_1 := dk_seg dksX0_gift_0 24 rfl rfl
theorem dX0_gift_0 : decode cX0_gift 0 = .ok (.iload_n 1, 1) := dk_27 (dk_at dksX0_gift_0 0 rfl rfl)
theorem dX0_gift_1 : decode cX0_gift 1 = .ok (.invokestatic 163, 3) := dk_184 0 163 (dk_at dksX0_gift_0 1 rfl rfl)
theorem dX0_gift_4 : decode cX0_gift 4 = .ok (.ifCond .ne 6, 3) := dk_154 0 6 (dk_at dksX0_gift_0 4 rfl rfl)
theorem dX0_gift_7 : decode cX0_gift 7 = .ok (.bipush (-12), 2) := dk_16 244 (dk_at dksX0_gift_0 7 rfl rfl)
theorem dX0_gift_9 : decode cX0_gift 9 = .ok (.ireturn, 1) := dk_172 (dk_at dksX0_gift_0 9 rfl rfl)
theorem dX0_gift_10 : decode cX0_gift 10 = .ok (.aload_n 0, 1) := dk_42 (dk_at dksX0_gift_0 10 rfl rfl)
theorem dX0_gift_11 : decode cX0_gift 11 = .ok (.getfield 10, 3) := dk_180 0 10 (dk_at dksX0_gift_0 11 rfl rfl)
theorem dX0_gift_14 : decode cX0_gift 14 = .ok (.invokevirtual 109, 3) := dk_182 0 109 (dk_at dksX0_gift_0 14 rfl rfl)
theorem dX0_gift_17 : decode cX0_gift 17 = .ok (.astore_n 2, 1) := dk_77 (dk_at dksX0_gift_0 17 rfl rfl)
theorem dX0_gift_18 : decode cX0_gift 18 = .ok (.aload_n 0, 1) := dk_42 (dk_at dksX0_gift_0 18 rfl rfl)
theorem dX0_gift_19 : decode cX0_gift 19 = .ok (.aload_n 2, 1) := dk_44 (dk_at dksX0_gift_0 19 rfl rfl)
theorem dX0_gift_20 : decode cX0_gift 20 = .ok (.aload_n 0, 1) := dk_42 (dk_at dksX0_gift_0 20 rfl rfl)
theorem dX0_gift_21 : decode cX0_gift 21 = .ok (.getfield 10, 3) := dk_180 0 10 (dk_at dksX0_gift_0 21 rfl rfl)
theorem dX0_gift_24 : decode cX0_gift 24 = .ok (.iload_n 1, 1) := dk_27 (dk_at dksX0_gift_1 0 rfl rfl)
theorem dX0_gift_25 : decode cX0_gift 25 = .ok (.invokevirtual 166, 3) := dk_182 0 166 (dk_at dksX0_gift_1 1 rfl rfl)
theorem dX0_gift_28 : decode cX0_gift 28 = .ok (.invokevirtual 117, 3) := dk_182 0 117 (dk_at dksX0_gift_1 4 rfl rfl)
theorem dX0_gift_31 : decode cX0_gift 31 = .ok (.ireturn, 1) := dk_172 (dk_at dksX0_gift_1 7 rfl rfl)
abbrev cX0_isGift : ByteArray := prog_1_method_6_code
def yX0_isGift : MethodName := ⟨RX0, "isGift", "(I)Z"⟩
def dkwX0_isGift_0 : List UInt8 := [26, 4, 17, 1, 244, 184, 0, 47, 172]
abbrev dktX0_isGift_0 : List UInt8 := dkwX0_isGift_0 ++ []
theorem dksX0_isGift_0 : cX0_isGift.data.toList.drop 0 = dktX0_isGift_0 := by decide +kernel
theorem dX0_isGift_0 : decode cX0_isGift 0 = .ok (.iload_n 0, 1) := dk_26 (dk_at dksX0_isGift_0 0 rfl rfl)
theorem dX0_isGift_1 : decode cX0_isGift 1 = .ok (.iconst 1, 1) := dk_4 (dk_at dksX0_isGift_0 1 rfl rfl)
theorem dX0_isGift_2 : decode cX0_isGift 2 = .ok (.sipush 500, 3) := dk_17 1 244 (dk_at dksX0_isGift_0 2 rfl rfl)
theorem dX0_isGift_5 : decode cX0_isGift 5 = .ok (.invokestatic 47, 3) := dk_184 0 47 (dk_at dksX0_isGift_0 5 rfl rfl)
theorem dX0_isGift_8 : decode cX0_isGift 8 = .ok (.ireturn, 1) := dk_172 (dk_at dksX0_isGift_0 8 rfl rfl)
abbrev cX0_weeks : ByteArray := prog_1_method_21_code
def yX0_weeks : MethodName := ⟨RX0, "weeks", "(I)I"⟩
def dkwX0_weeks_1 : List UInt8 := [27, 42, 180, 0, 25, 3, 50, 182, 0, 172, 182, 0, 117, 172]
abbrev dktX0_weeks_1 : List UInt8 := dkwX0_weeks_1 ++ []
def dkwX0_weeks_0 : List UInt8 := [27, 184, 0, 169, 154, 0, 6, 16, 244, 172, 42, 180, 0, 10, 182, 0, 109, 77, 42, 44, 42, 180, 0, 10]
abbrev dktX0_weeks_0 : List UInt8 := dkwX0_weeks_0 ++ dktX0_weeks_1
theorem dksX0_weeks_0 : cX0_weeks.data.toList.drop 0 = dktX0_weeks_0 := by decide +kernel
theorem dksX0_weeks_1 : cX0_weeks.data.toList.drop 24 = dktX0_weeks_1 := dk_seg dksX0_weeks_0 24 rfl rfl
theorem dX0_weeks_0 : decode cX0_weeks 0 = .ok (.iload_n 1, 1) := dk_27 (dk_at dksX0_weeks_0 0 rfl rfl)
theorem dX0_weeks_1 : decode cX0_weeks 1 = .ok (.invokestatic 169, 3) := dk_184 0 169 (dk_at dksX0_weeks_0 1 rfl rfl)
theorem dX0_weeks_4 : decode cX0_weeks 4 = .ok (.ifCond .ne 6, 3) := dk_154 0 6 (dk_at dksX0_weeks_0 4 rfl rfl)
theorem dX0_weeks_7 : decode cX0_weeks 7 = .ok (.bipush (-12), 2) := dk_16 244 (dk_at dksX0_weeks_0 7 rfl rfl)
theorem dX0_weeks_9 : decode cX0_weeks 9 = .ok (.ireturn, 1) := dk_172 (dk_at dksX0_weeks_0 9 rfl rfl)
theorem dX0_weeks_10 : decode cX0_weeks 10 = .ok (.aload_n 0, 1) := dk_42 (dk_at dksX0_weeks_0 10 rfl rfl)
theorem dX0_weeks_11 : decode cX0_weeks 11 = .ok (.getfield 10, 3) := dk_180 0 10 (dk_at dksX0_weeks_0 11 rfl rfl)
theorem dX0_weeks_14 : decode cX0_weeks 14 = .ok (.invokevirtual 109, 3) := dk_182 0 109 (dk_at dksX0_weeks_0 14 rfl rfl)
theorem dX0_weeks_17 : decode cX0_weeks 17 = .ok (.astore_n 2, 1) := dk_77 (dk_at dksX0_weeks_0 17 rfl rfl)
theorem dX0_weeks_18 : decode cX0_weeks 18 = .ok (.aload_n 0, 1) := dk_42 (dk_at dksX0_weeks_0 18 rfl rfl)
theorem dX0_weeks_19 : decode cX0_weeks 19 = .ok (.aload_n 2, 1) := dk_44 (dk_at dksX0_weeks_0 19 rfl rfl)
theorem dX0_weeks_20 : decode cX0_weeks 20 = .ok (.aload_n 0, 1) := dk_42 (dk_at dksX0_weeks_0 20 rfl rfl)
theorem dX0_weeks_21 : decode cX0_weeks 21 = .ok (.getfield 10, 3) := dk_180 0 10 (dk_at dksX0_weeks_0 21 rfl rfl)
theorem dX0_weeks_24 : decode cX0_weeks 24 = .ok (.iload_n 1, 1) := dk_27 (dk_at dksX0_weeks_1 0 rfl rfl)
theorem dX0_weeks_25 : decode cX0_weeks 25 = .ok (.aload_n 0, 1) := dk_42 (dk_at dksX0_weeks_1 1 rfl rfl)
theorem dX0_weeks_26 : decode cX0_weeks 26 = .ok (.getfield 25, 3) := dk_180 0 25 (dk_at dksX0_weeks_1 2 rfl rfl)
theorem dX0_weeks_29 : decode cX0_weeks 29 = .ok (.iconst 0, 1) := dk_3 (dk_at dksX0_weeks_1 5 rfl rfl)
theorem dX0_weeks_30 : decode cX0_weeks 30 = .ok (.aaload, 1) := dk_50 (dk_at dksX0_weeks_1 6 rfl rfl)
theorem dX0_weeks_31 : decode cX0_weeks 31 = .ok (.invokevirtual 172, 3) := dk_182 0 172 (dk_at dksX0_weeks_1 7 rfl rfl)
theorem dX0_weeks_34 : decode cX0_weeks 34 = .ok (.invokevirtual 117, 3) := dk_182 0 117 (dk_at dksX0_weeks_1 10 rfl rfl)
theorem dX0_weeks_37 : decode cX0_weeks 37 = .ok (.ireturn, 1) := dk_172 (dk_at dksX0_weeks_1 13 rfl rfl)
abbrev cX0_areWeeks : ByteArray := prog_1_method_7_code
def yX0_areWeeks : MethodName := ⟨RX0, "areWeeks", "(I)Z"⟩
def dkwX0_areWeeks_0 : List UInt8 := [26, 4, 16, 60, 184, 0, 47, 172]
abbrev dktX0_areWeeks_0 : List UInt8 := dkwX0_areWeeks_0 ++ []
theorem dksX0_areWeeks_0 : cX0_areWeeks.data.toList.drop 0 = dktX0_areWeeks_0 := by decide +kernel
theorem dX0_areWeeks_0 : decode cX0_areWeeks 0 = .ok (.iload_n 0, 1) := dk_26 (dk_at dksX0_areWeeks_0 0 rfl rfl)
theorem dX0_areWeeks_1 : decode cX0_areWeeks 1 = .ok (.iconst 1, 1) := dk_4 (dk_at dksX0_areWeeks_0 1 rfl rfl)
theorem dX0_areWeeks_2 : decode cX0_areWeeks 2 = .ok (.bipush 60, 2) := dk_16 60 (dk_at dksX0_areWeeks_0 2 rfl rfl)
theorem dX0_areWeeks_4 : decode cX0_areWeeks 4 = .ok (.invokestatic 47, 3) := dk_184 0 47 (dk_at dksX0_areWeeks_0 4 rfl rfl)
theorem dX0_areWeeks_7 : decode cX0_areWeeks 7 = .ok (.ireturn, 1) := dk_172 (dk_at dksX0_areWeeks_0 7 rfl rfl)
abbrev cX0_brotherOf : ByteArray := prog_1_method_22_code
def yX0_brotherOf : MethodName := ⟨RX0, "brotherOf", "(II)I"⟩
def dkwX0_brotherOf_1 : List UInt8 := [16, 245, 172]
abbrev dktX0_brotherOf_1 : List UInt8 := dkwX0_brotherOf_1 ++ []
def dkwX0_brotherOf_0 : List UInt8 := [42, 180, 0, 10, 27, 182, 0, 125, 153, 0, 15, 42, 180, 0, 10, 27, 28, 182, 0, 175, 167, 0, 5]
abbrev dktX0_brotherOf_0 : List UInt8 := dkwX0_brotherOf_0 ++ dktX0_brotherOf_1
theorem dksX0_brotherOf_0 : cX0_brotherOf.data.toList.drop 0 = dktX0_brotherOf_0 := by decide +kernel
theorem dksX0_brotherOf_1 : cX0_brotherOf.data.toList.drop 23 = dktX0_brotherOf_1 := dk_seg dksX0_brotherOf_0 23 rfl rfl
theorem dX0_brotherOf_0 : decode cX0_brotherOf 0 = .ok (.aload_n 0, 1) := dk_42 (dk_at dksX0_brotherOf_0 0 rfl rfl)
theorem dX0_brotherOf_1 : decode cX0_brotherOf 1 = .ok (.getfield 10, 3) := dk_180 0 10 (dk_at dksX0_brotherOf_0 1 rfl rfl)
theorem dX0_brotherOf_4 : decode cX0_brotherOf 4 = .ok (.iload_n 1, 1) := dk_27 (dk_at dksX0_brotherOf_0 4 rfl rfl)
theorem dX0_brotherOf_5 : decode cX0_brotherOf 5 = .ok (.invokevirtual 125, 3) := dk_182 0 125 (dk_at dksX0_brotherOf_0 5 rfl rfl)
theorem dX0_brotherOf_8 : decode cX0_brotherOf 8 = .ok (.ifCond .eq 15, 3) := dk_153 0 15 (dk_at dksX0_brotherOf_0 8 rfl rfl)
theorem dX0_brotherOf_11 : decode cX0_brotherOf 11 = .ok (.aload_n 0, 1) := dk_42 (dk_at dksX0_brotherOf_0 11 rfl rfl)
theorem dX0_brotherOf_12 : decode cX0_brotherOf 12 = .ok (.getfield 10, 3) := dk_180 0 10 (dk_at dksX0_brotherOf_0 12 rfl rfl)
theorem dX0_brotherOf_15 : decode cX0_brotherOf 15 = .ok (.iload_n 1, 1) := dk_27 (dk_at dksX0_brotherOf_0 15 rfl rfl)
theorem dX0_brotherOf_16 : decode cX0_brotherOf 16 = .ok (.iload_n 2, 1) := dk_28 (dk_at dksX0_brotherOf_0 16 rfl rfl)
theorem dX0_brotherOf_17 : decode cX0_brotherOf 17 = .ok (.invokevirtual 175, 3) := dk_182 0 175 (dk_at dksX0_brotherOf_0 17 rfl rfl)
theorem dX0_brotherOf_20 : decode cX0_brotherOf 20 = .ok (.goto 5, 3) := dk_167 0 5 (dk_at dksX0_brotherOf_0 20 rfl rfl)
theorem dX0_brotherOf_23 : decode cX0_brotherOf 23 = .ok (.bipush (-11), 2) := dk_16 245 (dk_at dksX0_brotherOf_1 0 rfl rfl)
theorem dX0_brotherOf_25 : decode cX0_brotherOf 25 = .ok (.ireturn, 1) := dk_172 (dk_at dksX0_brotherOf_1 2 rfl rfl)
abbrev cX0_broke : ByteArray := prog_1_method_23_code
def yX0_broke : MethodName := ⟨RX0, "broke", "(II)I"⟩
def dkwX0_broke_1 : List UInt8 := [180, 0, 178, 27, 182, 0, 182, 192, 0, 188, 180, 0, 190, 28, 46, 167, 0, 5, 16, 245, 172]
abbrev dktX0_broke_1 : List UInt8 := dkwX0_broke_1 ++ []
def dkwX0_broke_0 : List UInt8 := [42, 180, 0, 10, 27, 182, 0, 125, 153, 0, 32, 28, 184, 0, 154, 153, 0, 25, 42, 180, 0, 10]
abbrev dktX0_broke_0 : List UInt8 := dkwX0_broke_0 ++ dktX0_broke_1
theorem dksX0_broke_0 : cX0_broke.data.toList.drop 0 = dktX0_broke_0 := by decide +kernel
theorem dksX0_broke_1 : cX0_broke.data.toList.drop 22 = dktX0_broke_1 := dk_seg dksX0_broke_0 22 rfl rfl
theorem dX0_broke_0 : decode cX0_broke 0 = .ok (.aload_n 0, 1) := dk_42 (dk_at dksX0_broke_0 0 rfl rfl)
theorem dX0_broke_1 : decode cX0_broke 1 = .ok (.getfield 10, 3) := dk_180 0 10 (dk_at dksX0_broke_0 1 rfl rfl)
theorem dX0_broke_4 : decode cX0_broke 4 = .ok (.iload_n 1, 1) := dk_27 (dk_at dksX0_broke_0 4 rfl rfl)
theorem dX0_broke_5 : decode cX0_broke 5 = .ok (.invokevirtual 125, 3) := dk_182 0 125 (dk_at dksX0_broke_0 5 rfl rfl)
theorem dX0_broke_8 : decode cX0_broke 8 = .ok (.ifCond .eq 32, 3) := dk_153 0 32 (dk_at dksX0_broke_0 8 rfl rfl)
theorem dX0_broke_11 : decode cX0_broke 11 = .ok (.iload_n 2, 1) := dk_28 (dk_at dksX0_broke_0 11 rfl rfl)
theorem dX0_broke_12 : decode cX0_broke 12 = .ok (.invokestatic 154, 3) := dk_184 0 154 (dk_at dksX0_broke_0 12 rfl rfl)
theorem dX0_broke_15 : decode cX0_broke 15 = .ok (.ifCond .eq 25, 3) := dk_153 0 25 (dk_at dksX0_broke_0 15 rfl rfl)
theorem dX0_broke_18 : decode cX0_broke 18 = .ok (.aload_n 0, 1) := dk_42 (dk_at dksX0_broke_0 18 rfl rfl)
theorem dX0_broke_19 : decode cX0_broke 19 = .ok (.getfield 10, 3) := dk_180 0 10 (dk_at dksX0_broke_0 19 rfl rfl)
theorem dX0_broke_22 : decode cX0_broke 22 = .ok (.getfield 178, 3) := dk_180 0 178 (dk_at dksX0_broke_1 0 rfl rfl)
theorem dX0_broke_25 : decode cX0_broke 25 = .ok (.iload_n 1, 1) := dk_27 (dk_at dksX0_broke_1 3 rfl rfl)
theorem dX0_broke_26 : decode cX0_broke 26 = .ok (.invokevirtual 182, 3) := dk_182 0 182 (dk_at dksX0_broke_1 4 rfl rfl)
theorem dX0_broke_29 : decode cX0_broke 29 = .ok (.checkcast 188, 3) := dk_192 0 188 (dk_at dksX0_broke_1 7 rfl rfl)
theorem dX0_broke_32 : decode cX0_broke 32 = .ok (.getfield 190, 3) := dk_180 0 190 (dk_at dksX0_broke_1 10 rfl rfl)
theorem dX0_broke_35 : decode cX0_broke 35 = .ok (.iload_n 2, 1) := dk_28 (dk_at dksX0_broke_1 13 rfl rfl)
theorem dX0_broke_36 : decode cX0_broke 36 = .ok (.iaload, 1) := dk_46 (dk_at dksX0_broke_1 14 rfl rfl)
theorem dX0_broke_37 : decode cX0_broke 37 = .ok (.goto 5, 3) := dk_167 0 5 (dk_at dksX0_broke_1 15 rfl rfl)
theorem dX0_broke_40 : decode cX0_broke 40 = .ok (.bipush (-11), 2) := dk_16 245 (dk_at dksX0_broke_1 18 rfl rfl)
theorem dX0_broke_42 : decode cX0_broke 42 = .ok (.ireturn, 1) := dk_172 (dk_at dksX0_broke_1 20 rfl rfl)
abbrev cX0_inCell : ByteArray := prog_1_method_24_code
def yX0_inCell : MethodName := ⟨RX0, "inCell", "(I)I"⟩
def dkwX0_inCell_0 : List UInt8 := [27, 184, 0, 137, 153, 0, 15, 42, 180, 0, 10, 180, 0, 194, 27, 46, 167, 0, 5, 16, 245, 172]
abbrev dktX0_inCell_0 : List UInt8 := dkwX0_inCell_0 ++ []
theorem dksX0_inCell_0 : cX0_inCell.data.toList.drop 0 = dktX0_inCell_0 := by decide +kernel
theorem dX0_inCell_0 : decode cX0_inCell 0 = .ok (.iload_n 1, 1) := dk_27 (dk_at dksX0_inCell_0 0 rfl rfl)
theorem dX0_inCell_1 : decode cX0_inCell 1 = .ok (.invokestatic 137, 3) := dk_184 0 137 (dk_at dksX0_inCell_0 1 rfl rfl)
theorem dX0_inCell_4 : decode cX0_inCell 4 = .ok (.ifCond .eq 15, 3) := dk_153 0 15 (dk_at dksX0_inCell_0 4 rfl rfl)
theorem dX0_inCell_7 : decode cX0_inCell 7 = .ok (.aload_n 0, 1) := dk_42 (dk_at dksX0_inCell_0 7 rfl rfl)
theorem dX0_inCell_8 : decode cX0_inCell 8 = .ok (.getfield 10, 3) := dk_180 0 10 (dk_at dksX0_inCell_0 8 rfl rfl)
theorem dX0_inCell_11 : decode cX0_inCell 11 = .ok (.getfield 194, 3) := dk_180 0 194 (dk_at dksX0_inCell_0 11 rfl rfl)
theorem dX0_inCell_14 : decode cX0_inCell 14 = .ok (.iload_n 1, 1) := dk_27 (dk_at dksX0_inCell_0 14 rfl rfl)
theorem dX0_inCell_15 : decode cX0_inCell 15 = .ok (.iaload, 1) := dk_46 (dk_at dksX0_inCell_0 15 rfl rfl)
theorem dX0_inCell_16 : decode cX0_inCell 16 = .ok (.goto 5, 3) := dk_167 0 5 (dk_at dksX0_inCell_0 16 rfl rfl)
theorem dX0_inCell_19 : decode cX0_inCell 19 = .ok (.bipush (-11), 2) := dk_16 245 (dk_at dksX0_inCell_0 19 rfl rfl)
theorem dX0_inCell_21 : decode cX0_inCell 21 = .ok (.ireturn, 1) := dk_172 (dk_at dksX0_inCell_0 21 rfl rfl)
abbrev cX0_entitled : ByteArray := prog_1_method_26_code
def yX0_entitled : MethodName := ⟨RX0, "entitled", "()I"⟩
def dkwX0_entitled_0 : List UInt8 := [42, 180, 0, 10, 182, 0, 202, 184, 0, 206, 172]
abbrev dktX0_entitled_0 : List UInt8 := dkwX0_entitled_0 ++ []
theorem dksX0_entitled_0 : cX0_entitled.data.toList.drop 0 = dktX0_entitled_0 := by decide +kernel
theorem dX0_entitled_0 : decode cX0_entitled 0 = .ok (.aload_n 0, 1) := dk_42 (dk_at dksX0_entitled_0 0 rfl rfl)
theorem dX0_entitled_1 : decode cX0_entitled 1 = .ok (.getfield 10, 3) := dk_180 0 10 (dk_at dksX0_entitled_0 1 rfl rfl)
theorem dX0_entitled_4 : decode cX0_entitled 4 = .ok (.invokevirtual 202, 3) := dk_182 0 202 (dk_at dksX0_entitled_0 4 rfl rfl)
theorem dX0_entitled_7 : decode cX0_entitled 7 = .ok (.invokestatic 206, 3) := dk_184 0 206 (dk_at dksX0_entitled_0 7 rfl rfl)
theorem dX0_entitled_10 : decode cX0_entitled 10 = .ok (.ireturn, 1) := dk_172 (dk_at dksX0_entitled_0 10 rfl rfl)
abbrev cX0_bits : ByteArray := prog_1_method_25_code
def yX0_bits : MethodName := ⟨RX0, "bits", "(Ljava/util/BitSet;)I"⟩
def dkwX0_bits_1 : List UInt8 := [182, 0, 197, 61, 167, 255, 238, 27, 172]
abbrev dktX0_bits_1 : List UInt8 := dkwX0_bits_1 ++ []
def dkwX0_bits_0 : List UInt8 := [3, 60, 42, 3, 182, 0, 197, 61, 28, 155, 0, 20, 27, 4, 28, 120, 128, 60, 42, 28, 4, 96]
abbrev dktX0_bits_0 : List UInt8 := dkwX0_bits_0 ++ dktX0_bits_1
theorem dksX0_bits_0 : cX0_bits.data.toList.drop 0 = dktX0_bits_0 := by decide +kernel
theorem dksX0_bits_1 : cX0_bits.data.toList.drop 22 = dktX0_bits_1 := dk_seg dksX0_bits_0 22 rfl rfl
theorem dX0_bits_0 : decode cX0_bits 0 = .ok (.iconst 0, 1) := dk_3 (dk_at dksX0_bits_0 0 rfl rfl)
theorem dX0_bits_1 : decode cX0_bits 1 = .ok (.istore_n 1, 1) := dk_60 (dk_at dksX0_bits_0 1 rfl rfl)
theorem dX0_bits_2 : decode cX0_bits 2 = .ok (.aload_n 0, 1) := dk_42 (dk_at dksX0_bits_0 2 rfl rfl)
theorem dX0_bits_3 : decode cX0_bits 3 = .ok (.iconst 0, 1) := dk_3 (dk_at dksX0_bits_0 3 rfl rfl)
theorem dX0_bits_4 : decode cX0_bits 4 = .ok (.invokevirtual 197, 3) := dk_182 0 197 (dk_at dksX0_bits_0 4 rfl rfl)
theorem dX0_bits_7 : decode cX0_bits 7 = .ok (.istore_n 2, 1) := dk_61 (dk_at dksX0_bits_0 7 rfl rfl)
theorem dX0_bits_8 : decode cX0_bits 8 = .ok (.iload_n 2, 1) := dk_28 (dk_at dksX0_bits_0 8 rfl rfl)
theorem dX0_bits_9 : decode cX0_bits 9 = .ok (.ifCond .lt 20, 3) := dk_155 0 20 (dk_at dksX0_bits_0 9 rfl rfl)
theorem dX0_bits_12 : decode cX0_bits 12 = .ok (.iload_n 1, 1) := dk_27 (dk_at dksX0_bits_0 12 rfl rfl)
theorem dX0_bits_13 : decode cX0_bits 13 = .ok (.iconst 1, 1) := dk_4 (dk_at dksX0_bits_0 13 rfl rfl)
theorem dX0_bits_14 : decode cX0_bits 14 = .ok (.iload_n 2, 1) := dk_28 (dk_at dksX0_bits_0 14 rfl rfl)
theorem dX0_bits_15 : decode cX0_bits 15 = .ok (.ishl, 1) := dk_120 (dk_at dksX0_bits_0 15 rfl rfl)
theorem dX0_bits_16 : decode cX0_bits 16 = .ok (.ior, 1) := dk_128 (dk_at dksX0_bits_0 16 rfl rfl)
theorem dX0_bits_17 : decode cX0_bits 17 = .ok (.istore_n 1, 1) := dk_60 (dk_at dksX0_bits_0 17 rfl rfl)
theorem dX0_bits_18 : decode cX0_bits 18 = .ok (.aload_n 0, 1) := dk_42 (dk_at dksX0_bits_0 18 rfl rfl)
theorem dX0_bits_19 : decode cX0_bits 19 = .ok (.iload_n 2, 1) := dk_28 (dk_at dksX0_bits_0 19 rfl rfl)
theorem dX0_bits_20 : decode cX0_bits 20 = .ok (.iconst 1, 1) := dk_4 (dk_at dksX0_bits_0 20 rfl rfl)
theorem dX0_bits_21 : decode cX0_bits 21 = .ok (.iadd, 1) := dk_96 (dk_at dksX0_bits_0 21 rfl rfl)
theorem dX0_bits_22 : decode cX0_bits 22 = .ok (.invokevirtual 197, 3) := dk_182 0 197 (dk_at dksX0_bits_1 0 rfl rfl)
theorem dX0_bits_25 : decode cX0_bits 25 = .ok (.istore_n 2, 1) := dk_61 (dk_at dksX0_bits_1 3 rfl rfl)
theorem dX0_bits_26 : decode cX0_bits 26 = .ok (.goto (-18), 3) := dk_167 255 238 (dk_at dksX0_bits_1 4 rfl rfl)
theorem dX0_bits_29 : decode cX0_bits 29 = .ok (.iload_n 1, 1) := dk_27 (dk_at dksX0_bits_1 7 rfl rfl)
theorem dX0_bits_30 : decode cX0_bits 30 = .ok (.ireturn, 1) := dk_172 (dk_at dksX0_bits_1 8 rfl rfl)
abbrev cX0_entitledAgain : ByteArray := prog_1_method_27_code
def yX0_entitledAgain : MethodName := ⟨RX0, "entitledAgain", "()I"⟩
def dkwX0_entitledAgain_0 : List UInt8 := [42, 180, 0, 10, 182, 0, 210, 184, 0, 206, 172]
abbrev dktX0_entitledAgain_0 : List UInt8 := dkwX0_entitledAgain_0 ++ []
theorem dksX0_entitledAgain_0 : cX0_entitledAgain.data.toList.drop 0 = dktX0_entitledAgain_0 := by decide +kernel
theorem dX0_entitledAgain_0 : decode cX0_entitledAgain 0 = .ok (.aload_n 0, 1) := dk_42 (dk_at dksX0_entitledAgain_0 0 rfl rfl)
theorem dX0_entitledAgain_1 : decode cX0_entitledAgain 1 = .ok (.getfield 10, 3) := dk_180 0 10 (dk_at dksX0_entitledAgain_0 1 rfl rfl)
theorem dX0_entitledAgain_4 : decode cX0_entitledAgain 4 = .ok (.invokevirtual 210, 3) := dk_182 0 210 (dk_at dksX0_entitledAgain_0 4 rfl rfl)
theorem dX0_entitledAgain_7 : decode cX0_entitledAgain 7 = .ok (.invokestatic 206, 3) := dk_184 0 206 (dk_at dksX0_entitledAgain_0 7 rfl rfl)
theorem dX0_entitledAgain_10 : decode cX0_entitledAgain 10 = .ok (.ireturn, 1) := dk_172 (dk_at dksX0_entitledAgain_0 10 rfl rfl)
abbrev cX0_voices : ByteArray := prog_1_method_28_code
def yX0_voices : MethodName := ⟨RX0, "voices", "(I)I"⟩
def dkwX0_voices_1 : List UInt8 := [172]
abbrev dktX0_voices_1 : List UInt8 := dkwX0_voices_1 ++ []
def dkwX0_voices_0 : List UInt8 := [42, 180, 0, 10, 27, 182, 0, 125, 153, 0, 14, 42, 180, 0, 10, 27, 182, 0, 213, 167, 0, 5, 16, 245]
abbrev dktX0_voices_0 : List UInt8 := dkwX0_voices_0 ++ dktX0_voices_1
theorem dksX0_voices_0 : cX0_voices.data.toList.drop 0 = dktX0_voices_0 := by decide +kernel
theorem dksX0_voices_1 : cX0_voices.data.toList.drop 24 = dktX0_voices_1 := dk_seg dksX0_voices_0 24 rfl rfl
theorem dX0_voices_0 : decode cX0_voices 0 = .ok (.aload_n 0, 1) := dk_42 (dk_at dksX0_voices_0 0 rfl rfl)
theorem dX0_voices_1 : decode cX0_voices 1 = .ok (.getfield 10, 3) := dk_180 0 10 (dk_at dksX0_voices_0 1 rfl rfl)
theorem dX0_voices_4 : decode cX0_voices 4 = .ok (.iload_n 1, 1) := dk_27 (dk_at dksX0_voices_0 4 rfl rfl)
theorem dX0_voices_5 : decode cX0_voices 5 = .ok (.invokevirtual 125, 3) := dk_182 0 125 (dk_at dksX0_voices_0 5 rfl rfl)
theorem dX0_voices_8 : decode cX0_voices 8 = .ok (.ifCond .eq 14, 3) := dk_153 0 14 (dk_at dksX0_voices_0 8 rfl rfl)
theorem dX0_voices_11 : decode cX0_voices 11 = .ok (.aload_n 0, 1) := dk_42 (dk_at dksX0_voices_0 11 rfl rfl)
theorem dX0_voices_12 : decode cX0_voices 12 = .ok (.getfield 10, 3) := dk_180 0 10 (dk_at dksX0_voices_0 12 rfl rfl)
theorem dX0_voices_15 : decode cX0_voices 15 = .ok (.iload_n 1, 1) := dk_27 (dk_at dksX0_voices_0 15 rfl rfl)
theorem dX0_voices_16 : decode cX0_voices 16 = .ok (.invokevirtual 213, 3) := dk_182 0 213 (dk_at dksX0_voices_0 16 rfl rfl)
theorem dX0_voices_19 : decode cX0_voices 19 = .ok (.goto 5, 3) := dk_167 0 5 (dk_at dksX0_voices_0 19 rfl rfl)
theorem dX0_voices_22 : decode cX0_voices 22 = .ok (.bipush (-11), 2) := dk_16 245 (dk_at dksX0_voices_0 22 rfl rfl)
theorem dX0_voices_24 : decode cX0_voices 24 = .ok (.ireturn, 1) := dk_172 (dk_at dksX0_voices_1 0 rfl rfl)
abbrev cX0_voicesAgain : ByteArray := prog_1_method_29_code
def yX0_voicesAgain : MethodName := ⟨RX0, "voicesAgain", "(I)I"⟩
def dkwX0_voicesAgain_1 : List UInt8 := [16, 245, 172]
abbrev dktX0_voicesAgain_1 : List UInt8 := dkwX0_voicesAgain_1 ++ []
def dkwX0_voicesAgain_0 : List UInt8 := [42, 180, 0, 10, 27, 182, 0, 125, 153, 0, 15, 42, 180, 0, 10, 182, 0, 216, 27, 46, 167, 0, 5]
abbrev dktX0_voicesAgain_0 : List UInt8 := dkwX0_voicesAgain_0 ++ dktX0_voicesAgain_1
theorem dksX0_voicesAgain_0 : cX0_voicesAgain.data.toList.drop 0 = dktX0_voicesAgain_0 := by decide +kernel
theorem dksX0_voicesAgain_1 : cX0_voicesAgain.data.toList.drop 23 = dktX0_voicesAgain_1 := dk_seg dksX0_voicesAgain_0 23 rfl rfl
theorem dX0_voicesAgain_0 : decode cX0_voicesAgain 0 = .ok (.aload_n 0, 1) := dk_42 (dk_at dksX0_voicesAgain_0 0 rfl rfl)
theorem dX0_voicesAgain_1 : decode cX0_voicesAgain 1 = .ok (.getfield 10, 3) := dk_180 0 10 (dk_at dksX0_voicesAgain_0 1 rfl rfl)
theorem dX0_voicesAgain_4 : decode cX0_voicesAgain 4 = .ok (.iload_n 1, 1) := dk_27 (dk_at dksX0_voicesAgain_0 4 rfl rfl)
theorem dX0_voicesAgain_5 : decode cX0_voicesAgain 5 = .ok (.invokevirtual 125, 3) := dk_182 0 125 (dk_at dksX0_voicesAgain_0 5 rfl rfl)
theorem dX0_voicesAgain_8 : decode cX0_voicesAgain 8 = .ok (.ifCond .eq 15, 3) := dk_153 0 15 (dk_at dksX0_voicesAgain_0 8 rfl rfl)
theorem dX0_voicesAgain_11 : decode cX0_voicesAgain 11 = .ok (.aload_n 0, 1) := dk_42 (dk_at dksX0_voicesAgain_0 11 rfl rfl)
theorem dX0_voicesAgain_12 : decode cX0_voicesAgain 12 = .ok (.getfield 10, 3) := dk_180 0 10 (dk_at dksX0_voicesAgain_0 12 rfl rfl)
theorem dX0_voicesAgain_15 : decode cX0_voicesAgain 15 = .ok (.invokevirtual 216, 3) := dk_182 0 216 (dk_at dksX0_voicesAgain_0 15 rfl rfl)
theorem dX0_voicesAgain_18 : decode cX0_voicesAgain 18 = .ok (.iload_n 1, 1) := dk_27 (dk_at dksX0_voicesAgain_0 18 rfl rfl)
theorem dX0_voicesAgain_19 : decode cX0_voicesAgain 19 = .ok (.iaload, 1) := dk_46 (dk_at dksX0_voicesAgain_0 19 rfl rfl)
theorem dX0_voicesAgain_20 : decode cX0_voicesAgain 20 = .ok (.goto 5, 3) := dk_167 0 5 (dk_at dksX0_voicesAgain_0 20 rfl rfl)
theorem dX0_voicesAgain_23 : decode cX0_voicesAgain 23 = .ok (.bipush (-11), 2) := dk_16 245 (dk_at dksX0_voicesAgain_1 0 rfl rfl)
theorem dX0_voicesAgain_25 : decode cX0_voicesAgain 25 = .ok (.ireturn, 1) := dk_172 (dk_at dksX0_voicesAgain_1 2 rfl rfl)
abbrev cX0_ranked : ByteArray := prog_1_method_30_code
def yX0_ranked : MethodName := ⟨RX0, "ranked", "(I)I"⟩
def dkwX0_ranked_0 : List UInt8 := [42, 180, 0, 10, 27, 42, 180, 0, 25, 3, 50, 182, 0, 220, 172]
abbrev dktX0_ranked_0 : List UInt8 := dkwX0_ranked_0 ++ []
theorem dksX0_ranked_0 : cX0_ranked.data.toList.drop 0 = dktX0_ranked_0 := by decide +kernel
theorem dX0_ranked_0 : decode cX0_ranked 0 = .ok (.aload_n 0, 1) := dk_42 (dk_at dksX0_ranked_0 0 rfl rfl)
theorem dX0_ranked_1 : decode cX0_ranked 1 = .ok (.getfield 10, 3) := dk_180 0 10 (dk_at dksX0_ranked_0 1 rfl rfl)
theorem dX0_ranked_4 : decode cX0_ranked 4 = .ok (.iload_n 1, 1) := dk_27 (dk_at dksX0_ranked_0 4 rfl rfl)
theorem dX0_ranked_5 : decode cX0_ranked 5 = .ok (.aload_n 0, 1) := dk_42 (dk_at dksX0_ranked_0 5 rfl rfl)
theorem dX0_ranked_6 : decode cX0_ranked 6 = .ok (.getfield 25, 3) := dk_180 0 25 (dk_at dksX0_ranked_0 6 rfl rfl)
theorem dX0_ranked_9 : decode cX0_ranked 9 = .ok (.iconst 0, 1) := dk_3 (dk_at dksX0_ranked_0 9 rfl rfl)
theorem dX0_ranked_10 : decode cX0_ranked 10 = .ok (.aaload, 1) := dk_50 (dk_at dksX0_ranked_0 10 rfl rfl)
theorem dX0_ranked_11 : decode cX0_ranked 11 = .ok (.invokevirtual 220, 3) := dk_182 0 220 (dk_at dksX0_ranked_0 11 rfl rfl)
theorem dX0_ranked_14 : decode cX0_ranked 14 = .ok (.ireturn, 1) := dk_172 (dk_at dksX0_ranked_0 14 rfl rfl)
abbrev cX0_senior : ByteArray := prog_1_method_31_code
def yX0_senior : MethodName := ⟨RX0, "senior", "(I)I"⟩
def dkwX0_senior_3 : List UInt8 := [27, 184, 0, 230, 172]
abbrev dktX0_senior_3 : List UInt8 := dkwX0_senior_3 ++ []
def dkwX0_senior_2 : List UInt8 := [21, 5, 29, 79, 132, 3, 1, 167, 255, 223, 42, 180, 0, 10, 180, 0, 223, 44, 42, 180, 0, 25, 4, 50]
abbrev dktX0_senior_2 : List UInt8 := dkwX0_senior_2 ++ dktX0_senior_3
def dkwX0_senior_1 : List UInt8 := [185, 0, 71, 1, 0, 153, 0, 29, 25, 4, 185, 0, 77, 1, 0, 192, 0, 81, 182, 0, 83, 54, 5, 44]
abbrev dktX0_senior_1 : List UInt8 := dkwX0_senior_1 ++ dktX0_senior_2
def dkwX0_senior_0 : List UInt8 := [16, 16, 188, 10, 77, 3, 62, 42, 180, 0, 10, 180, 0, 223, 182, 0, 227, 58, 4, 25, 4]
abbrev dktX0_senior_0 : List UInt8 := dkwX0_senior_0 ++ dktX0_senior_1
theorem dksX0_senior_0 : cX0_senior.data.toList.drop 0 = dktX0_senior_0 := by decide +kernel
theorem dksX0_senior_1 : cX0_senior.data.toList.drop 21 = dktX0_senior_1 := dk_seg dksX0_senior_0 21 rfl rfl
theorem dksX0_senior_2 : cX0_senior.data.toList.drop 45 = dktX0_senior_2 := dk_seg dksX0_senior_1 24 rfl rfl
theorem dksX0_senior_3 : cX0_senior.data.toList.drop 69 = dktX0_senior_3 := dk_seg dksX0_senior_2 24 rfl rfl
theorem dX0_senior_0 : decode cX0_senior 0 = .ok (.bipush 16, 2) := dk_16 16 (dk_at dksX0_senior_0 0 rfl rfl)
theorem dX0_senior_2 : decode cX0_senior 2 = .ok (.newarray .int, 2) := dk_188_10 (dk_at dksX0_senior_0 2 rfl rfl)
theorem dX0_senior_4 : decode cX0_senior 4 = .ok (.astore_n 2, 1) := dk_77 (dk_at dksX0_senior_0 4 rfl rfl)
theorem dX0_senior_5 : decode cX0_senior 5 = .ok (.iconst 0, 1) := dk_3 (dk_at dksX0_senior_0 5 rfl rfl)
theorem dX0_senior_6 : decode cX0_senior 6 = .ok (.istore_n 3, 1) := dk_62 (dk_at dksX0_senior_0 6 rfl rfl)
theorem dX0_senior_7 : decode cX0_senior 7 = .ok (.aload_n 0, 1) := dk_42 (dk_at dksX0_senior_0 7 rfl rfl)
theorem dX0_senior_8 : decode cX0_senior 8 = .ok (.getfield 10, 3) := dk_180 0 10 (dk_at dksX0_senior_0 8 rfl rfl)
theorem dX0_senior_11 : decode cX0_senior 11 = .ok (.getfield 223, 3) := dk_180 0 223 (dk_at dksX0_senior_0 11 rfl rfl)
theorem dX0_senior_14 : decode cX0_senior 14 = .ok (.invokevirtual 227, 3) := dk_182 0 227 (dk_at dksX0_senior_0 14 rfl rfl)
theorem dX0_senior_17 : decode cX0_senior 17 = .ok (.astore 4, 2) := dk_58 4 (dk_at dksX0_senior_0 17 rfl rfl)
theorem dX0_senior_19 : decode cX0_senior 19 = .ok (.aload 4, 2) := dk_25 4 (dk_at dksX0_senior_0 19 rfl rfl)
theorem dX0_senior_21 : decode cX0_senior 21 = .ok (.invokeinterface 71 1, 5) := by decide +kernel
theorem dX0_senior_26 : decode cX0_senior 26 = .ok (.ifCond .eq 29, 3) := dk_153 0 29 (dk_at dksX0_senior_1 5 rfl rfl)
theorem dX0_senior_29 : decode cX0_senior 29 = .ok (.aload 4, 2) := dk_25 4 (dk_at dksX0_senior_1 8 rfl rfl)
theorem dX0_senior_31 : decode cX0_senior 31 = .ok (.invokeinterface 77 1, 5) := by decide +kernel
theorem dX0_senior_36 : decode cX0_senior 36 = .ok (.checkcast 81, 3) := dk_192 0 81 (dk_at dksX0_senior_1 15 rfl rfl)
theorem dX0_senior_39 : decode cX0_senior 39 = .ok (.invokevirtual 83, 3) := dk_182 0 83 (dk_at dksX0_senior_1 18 rfl rfl)
theorem dX0_senior_42 : decode cX0_senior 42 = .ok (.istore 5, 2) := dk_54 5 (dk_at dksX0_senior_1 21 rfl rfl)
theorem dX0_senior_44 : decode cX0_senior 44 = .ok (.aload_n 2, 1) := dk_44 (dk_at dksX0_senior_1 23 rfl rfl)
theorem dX0_senior_45 : decode cX0_senior 45 = .ok (.iload 5, 2) := dk_21 5 (dk_at dksX0_senior_2 0 rfl rfl)
theorem dX0_senior_47 : decode cX0_senior 47 = .ok (.iload_n 3, 1) := dk_29 (dk_at dksX0_senior_2 2 rfl rfl)
theorem dX0_senior_48 : decode cX0_senior 48 = .ok (.iastore, 1) := dk_79 (dk_at dksX0_senior_2 3 rfl rfl)
theorem dX0_senior_49 : decode cX0_senior 49 = .ok (.iinc 3 1, 3) := dk_132 3 1 (dk_at dksX0_senior_2 4 rfl rfl)
theorem dX0_senior_52 : decode cX0_senior 52 = .ok (.goto (-33), 3) := dk_167 255 223 (dk_at dksX0_senior_2 7 rfl rfl)
theorem dX0_senior_55 : decode cX0_senior 55 = .ok (.aload_n 0, 1) := dk_42 (dk_at dksX0_senior_2 10 rfl rfl)
theorem dX0_senior_56 : decode cX0_senior 56 = .ok (.getfield 10, 3) := dk_180 0 10 (dk_at dksX0_senior_2 11 rfl rfl)
theorem dX0_senior_59 : decode cX0_senior 59 = .ok (.getfield 223, 3) := dk_180 0 223 (dk_at dksX0_senior_2 14 rfl rfl)
theorem dX0_senior_62 : decode cX0_senior 62 = .ok (.aload_n 2, 1) := dk_44 (dk_at dksX0_senior_2 17 rfl rfl)
theorem dX0_senior_63 : decode cX0_senior 63 = .ok (.aload_n 0, 1) := dk_42 (dk_at dksX0_senior_2 18 rfl rfl)
theorem dX0_senior_64 : decode cX0_senior 64 = .ok (.getfield 25, 3) := dk_180 0 25 (dk_at dksX0_senior_2 19 rfl rfl)
theorem dX0_senior_67 : decode cX0_senior 67 = .ok (.iconst 1, 1) := dk_4 (dk_at dksX0_senior_2 22 rfl rfl)
theorem dX0_senior_68 : decode cX0_senior 68 = .ok (.aaload, 1) := dk_50 (dk_at dksX0_senior_2 23 rfl rfl)
theorem dX0_senior_69 : decode cX0_senior 69 = .ok (.iload_n 1, 1) := dk_27 (dk_at dksX0_senior_3 0 rfl rfl)
theorem dX0_senior_70 : decode cX0_senior 70 = .ok (.invokestatic 230, 3) := dk_184 0 230 (dk_at dksX0_senior_3 1 rfl rfl)
theorem dX0_senior_73 : decode cX0_senior 73 = .ok (.ireturn, 1) := dk_172 (dk_at dksX0_senior_3 4 rfl rfl)
abbrev cX0_shabby : ByteArray := prog_1_method_32_code
def yX0_shabby : MethodName := ⟨RX0, "shabby", "(I)I"⟩
def dkwX0_shabby_0 : List UInt8 := [42, 180, 0, 10, 27, 42, 180, 0, 25, 3, 50, 182, 0, 234, 172]
abbrev dktX0_shabby_0 : List UInt8 := dkwX0_shabby_0 ++ []
theorem dksX0_shabby_0 : cX0_shabby.data.toList.drop 0 = dktX0_shabby_0 := by decide +kernel
theorem dX0_shabby_0 : decode cX0_shabby 0 = .ok (.aload_n 0, 1) := dk_42 (dk_at dksX0_shabby_0 0 rfl rfl)
theorem dX0_shabby_1 : decode cX0_shabby 1 = .ok (.getfield 10, 3) := dk_180 0 10 (dk_at dksX0_shabby_0 1 rfl rfl)
theorem dX0_shabby_4 : decode cX0_shabby 4 = .ok (.iload_n 1, 1) := dk_27 (dk_at dksX0_shabby_0 4 rfl rfl)
theorem dX0_shabby_5 : decode cX0_shabby 5 = .ok (.aload_n 0, 1) := dk_42 (dk_at dksX0_shabby_0 5 rfl rfl)
theorem dX0_shabby_6 : decode cX0_shabby 6 = .ok (.getfield 25, 3) := dk_180 0 25 (dk_at dksX0_shabby_0 6 rfl rfl)
theorem dX0_shabby_9 : decode cX0_shabby 9 = .ok (.iconst 0, 1) := dk_3 (dk_at dksX0_shabby_0 9 rfl rfl)
theorem dX0_shabby_10 : decode cX0_shabby 10 = .ok (.aaload, 1) := dk_50 (dk_at dksX0_shabby_0 10 rfl rfl)
theorem dX0_shabby_11 : decode cX0_shabby 11 = .ok (.invokevirtual 234, 3) := dk_182 0 234 (dk_at dksX0_shabby_0 11 rfl rfl)
theorem dX0_shabby_14 : decode cX0_shabby 14 = .ok (.ireturn, 1) := dk_172 (dk_at dksX0_shabby_0 14 rfl rfl)
abbrev cX0_nextFeast : ByteArray := prog_1_method_33_code
def yX0_nextFeast : MethodName := ⟨RX0, "nextFeast", "()I"⟩
def dkwX0_nextFeast_0 : List UInt8 := [42, 180, 0, 10, 182, 0, 237, 172]
abbrev dktX0_nextFeast_0 : List UInt8 := dkwX0_nextFeast_0 ++ []
theorem dksX0_nextFeast_0 : cX0_nextFeast.data.toList.drop 0 = dktX0_nextFeast_0 := by decide +kernel
theorem dX0_nextFeast_0 : decode cX0_nextFeast 0 = .ok (.aload_n 0, 1) := dk_42 (dk_at dksX0_nextFeast_0 0 rfl rfl)
theorem dX0_nextFeast_1 : decode cX0_nextFeast 1 = .ok (.getfield 10, 3) := dk_180 0 10 (dk_at dksX0_nextFeast_0 1 rfl rfl)
theorem dX0_nextFeast_4 : decode cX0_nextFeast 4 = .ok (.invokevirtual 237, 3) := dk_182 0 237 (dk_at dksX0_nextFeast_0 4 rfl rfl)
theorem dX0_nextFeast_7 : decode cX0_nextFeast 7 = .ok (.ireturn, 1) := dk_172 (dk_at dksX0_nextFeast_0 7 rfl rfl)
abbrev cX0_wouldGet : ByteArray := prog_1_method_35_code
def yX0_wouldGet : MethodName := ⟨RX0, "wouldGet", "(II)I"⟩
def dkwX0_wouldGet_2 : List UInt8 := [180, 0, 10, 180, 0, 178, 27, 182, 0, 182, 192, 0, 188, 180, 0, 244, 100, 172]
abbrev dktX0_wouldGet_2 : List UInt8 := dkwX0_wouldGet_2 ++ []
def dkwX0_wouldGet_1 : List UInt8 := [16, 244, 172, 42, 28, 182, 0, 240, 180, 0, 178, 27, 182, 0, 182, 192, 0, 188, 180, 0, 244, 42]
abbrev dktX0_wouldGet_1 : List UInt8 := dkwX0_wouldGet_1 ++ dktX0_wouldGet_2
def dkwX0_wouldGet_0 : List UInt8 := [42, 180, 0, 10, 27, 182, 0, 125, 154, 0, 6, 16, 245, 172, 28, 3, 16, 60, 184, 0, 47, 154, 0, 6]
abbrev dktX0_wouldGet_0 : List UInt8 := dkwX0_wouldGet_0 ++ dktX0_wouldGet_1
theorem dksX0_wouldGet_0 : cX0_wouldGet.data.toList.drop 0 = dktX0_wouldGet_0 := by decide +kernel
theorem dksX0_wouldGet_1 : cX0_wouldGet.data.toList.drop 24 = dktX0_wouldGet_1 := dk_seg dksX0_wouldGet_0 24 rfl rfl
theorem dksX0_wouldGet_2 : cX0_wouldGet.data.toList.drop 46 = dktX0_wouldGet_2 := dk_seg dksX0_wouldGet_1 22 rfl rfl
theorem dX0_wouldGet_0 : decode cX0_wouldGet 0 = .ok (.aload_n 0, 1) := dk_42 (dk_at dksX0_wouldGet_0 0 rfl rfl)
theorem dX0_wouldGet_1 : decode cX0_wouldGet 1 = .ok (.getfield 10, 3) := dk_180 0 10 (dk_at dksX0_wouldGet_0 1 rfl rfl)
theorem dX0_wouldGet_4 : decode cX0_wouldGet 4 = .ok (.iload_n 1, 1) := dk_27 (dk_at dksX0_wouldGet_0 4 rfl rfl)
theorem dX0_wouldGet_5 : decode cX0_wouldGet 5 = .ok (.invokevirtual 125, 3) := dk_182 0 125 (dk_at dksX0_wouldGet_0 5 rfl rfl)
theorem dX0_wouldGet_8 : decode cX0_wouldGet 8 = .ok (.ifCond .ne 6, 3) := dk_154 0 6 (dk_at dksX0_wouldGet_0 8 rfl rfl)
theorem dX0_wouldGet_11 : decode cX0_wouldGet 11 = .ok (.bipush (-11), 2) := dk_16 245 (dk_at dksX0_wouldGet_0 11 rfl rfl)
theorem dX0_wouldGet_13 : decode cX0_wouldGet 13 = .ok (.ireturn, 1) := dk_172 (dk_at dksX0_wouldGet_0 13 rfl rfl)
theorem dX0_wouldGet_14 : decode cX0_wouldGet 14 = .ok (.iload_n 2, 1) := dk_28 (dk_at dksX0_wouldGet_0 14 rfl rfl)
theorem dX0_wouldGet_15 : decode cX0_wouldGet 15 = .ok (.iconst 0, 1) := dk_3 (dk_at dksX0_wouldGet_0 15 rfl rfl)
theorem dX0_wouldGet_16 : decode cX0_wouldGet 16 = .ok (.bipush 60, 2) := dk_16 60 (dk_at dksX0_wouldGet_0 16 rfl rfl)
theorem dX0_wouldGet_18 : decode cX0_wouldGet 18 = .ok (.invokestatic 47, 3) := dk_184 0 47 (dk_at dksX0_wouldGet_0 18 rfl rfl)
theorem dX0_wouldGet_21 : decode cX0_wouldGet 21 = .ok (.ifCond .ne 6, 3) := dk_154 0 6 (dk_at dksX0_wouldGet_0 21 rfl rfl)
theorem dX0_wouldGet_24 : decode cX0_wouldGet 24 = .ok (.bipush (-12), 2) := dk_16 244 (dk_at dksX0_wouldGet_1 0 rfl rfl)
theorem dX0_wouldGet_26 : decode cX0_wouldGet 26 = .ok (.ireturn, 1) := dk_172 (dk_at dksX0_wouldGet_1 2 rfl rfl)
theorem dX0_wouldGet_27 : decode cX0_wouldGet 27 = .ok (.aload_n 0, 1) := dk_42 (dk_at dksX0_wouldGet_1 3 rfl rfl)
theorem dX0_wouldGet_28 : decode cX0_wouldGet 28 = .ok (.iload_n 2, 1) := dk_28 (dk_at dksX0_wouldGet_1 4 rfl rfl)
theorem dX0_wouldGet_29 : decode cX0_wouldGet 29 = .ok (.invokevirtual 240, 3) := dk_182 0 240 (dk_at dksX0_wouldGet_1 5 rfl rfl)
theorem dX0_wouldGet_32 : decode cX0_wouldGet 32 = .ok (.getfield 178, 3) := dk_180 0 178 (dk_at dksX0_wouldGet_1 8 rfl rfl)
theorem dX0_wouldGet_35 : decode cX0_wouldGet 35 = .ok (.iload_n 1, 1) := dk_27 (dk_at dksX0_wouldGet_1 11 rfl rfl)
theorem dX0_wouldGet_36 : decode cX0_wouldGet 36 = .ok (.invokevirtual 182, 3) := dk_182 0 182 (dk_at dksX0_wouldGet_1 12 rfl rfl)
theorem dX0_wouldGet_39 : decode cX0_wouldGet 39 = .ok (.checkcast 188, 3) := dk_192 0 188 (dk_at dksX0_wouldGet_1 15 rfl rfl)
theorem dX0_wouldGet_42 : decode cX0_wouldGet 42 = .ok (.getfield 244, 3) := dk_180 0 244 (dk_at dksX0_wouldGet_1 18 rfl rfl)
theorem dX0_wouldGet_45 : decode cX0_wouldGet 45 = .ok (.aload_n 0, 1) := dk_42 (dk_at dksX0_wouldGet_1 21 rfl rfl)
theorem dX0_wouldGet_46 : decode cX0_wouldGet 46 = .ok (.getfield 10, 3) := dk_180 0 10 (dk_at dksX0_wouldGet_2 0 rfl rfl)
theorem dX0_wouldGet_49 : decode cX0_wouldGet 49 = .ok (.getfield 178, 3) := dk_180 0 178 (dk_at dksX0_wouldGet_2 3 rfl rfl)
theorem dX0_wouldGet_52 : decode cX0_wouldGet 52 = .ok (.iload_n 1, 1) := dk_27 (dk_at dksX0_wouldGet_2 6 rfl rfl)
theorem dX0_wouldGet_53 : decode cX0_wouldGet 53 = .ok (.invokevirtual 182, 3) := dk_182 0 182 (dk_at dksX0_wouldGet_2 7 rfl rfl)
theorem dX0_wouldGet_56 : decode cX0_wouldGet 56 = .ok (.checkcast 188, 3) := dk_192 0 188 (dk_at dksX0_wouldGet_2 10 rfl rfl)
theorem dX0_wouldGet_59 : decode cX0_wouldGet 59 = .ok (.getfield 244, 3) := dk_180 0 244 (dk_at dksX0_wouldGet_2 13 rfl rfl)
theorem dX0_wouldGet_62 : decode cX0_wouldGet 62 = .ok (.isub, 1) := dk_100 (dk_at dksX0_wouldGet_2 16 rfl rfl)
theorem dX0_wouldGet_63 : decode cX0_wouldGet 63 = .ok (.ireturn, 1) := dk_172 (dk_at dksX0_wouldGet_2 17 rfl rfl)
abbrev cX0_behind : ByteArray := prog_1_method_34_code
def yX0_behind : MethodName := ⟨RX0, "behind", "(I)LPittanceHouse$House;"⟩
def dkwX0_behind_1 : List UInt8 := [42, 180, 0, 10, 167, 0, 4, 44, 176]
abbrev dktX0_behind_1 : List UInt8 := dkwX0_behind_1 ++ []
def dkwX0_behind_0 : List UInt8 := [42, 180, 0, 10, 182, 0, 109, 77, 44, 27, 42, 180, 0, 25, 3, 50, 182, 0, 172, 62, 29, 156, 0, 10]
abbrev dktX0_behind_0 : List UInt8 := dkwX0_behind_0 ++ dktX0_behind_1
theorem dksX0_behind_0 : cX0_behind.data.toList.drop 0 = dktX0_behind_0 := by decide +kernel
theorem dksX0_behind_1 : cX0_behind.data.toList.drop 24 = dktX0_behind_1 := dk_seg dksX0_behind_0 24 rfl rfl
theorem dX0_behind_0 : decode cX0_behind 0 = .ok (.aload_n 0, 1) := dk_42 (dk_at dksX0_behind_0 0 rfl rfl)
theorem dX0_behind_1 : decode cX0_behind 1 = .ok (.getfield 10, 3) := dk_180 0 10 (dk_at dksX0_behind_0 1 rfl rfl)
theorem dX0_behind_4 : decode cX0_behind 4 = .ok (.invokevirtual 109, 3) := dk_182 0 109 (dk_at dksX0_behind_0 4 rfl rfl)
theorem dX0_behind_7 : decode cX0_behind 7 = .ok (.astore_n 2, 1) := dk_77 (dk_at dksX0_behind_0 7 rfl rfl)
theorem dX0_behind_8 : decode cX0_behind 8 = .ok (.aload_n 2, 1) := dk_44 (dk_at dksX0_behind_0 8 rfl rfl)
theorem dX0_behind_9 : decode cX0_behind 9 = .ok (.iload_n 1, 1) := dk_27 (dk_at dksX0_behind_0 9 rfl rfl)
theorem dX0_behind_10 : decode cX0_behind 10 = .ok (.aload_n 0, 1) := dk_42 (dk_at dksX0_behind_0 10 rfl rfl)
theorem dX0_behind_11 : decode cX0_behind 11 = .ok (.getfield 25, 3) := dk_180 0 25 (dk_at dksX0_behind_0 11 rfl rfl)
theorem dX0_behind_14 : decode cX0_behind 14 = .ok (.iconst 0, 1) := dk_3 (dk_at dksX0_behind_0 14 rfl rfl)
theorem dX0_behind_15 : decode cX0_behind 15 = .ok (.aaload, 1) := dk_50 (dk_at dksX0_behind_0 15 rfl rfl)
theorem dX0_behind_16 : decode cX0_behind 16 = .ok (.invokevirtual 172, 3) := dk_182 0 172 (dk_at dksX0_behind_0 16 rfl rfl)
theorem dX0_behind_19 : decode cX0_behind 19 = .ok (.istore_n 3, 1) := dk_62 (dk_at dksX0_behind_0 19 rfl rfl)
theorem dX0_behind_20 : decode cX0_behind 20 = .ok (.iload_n 3, 1) := dk_29 (dk_at dksX0_behind_0 20 rfl rfl)
theorem dX0_behind_21 : decode cX0_behind 21 = .ok (.ifCond .ge 10, 3) := dk_156 0 10 (dk_at dksX0_behind_0 21 rfl rfl)
theorem dX0_behind_24 : decode cX0_behind 24 = .ok (.aload_n 0, 1) := dk_42 (dk_at dksX0_behind_1 0 rfl rfl)
theorem dX0_behind_25 : decode cX0_behind 25 = .ok (.getfield 10, 3) := dk_180 0 10 (dk_at dksX0_behind_1 1 rfl rfl)
theorem dX0_behind_28 : decode cX0_behind 28 = .ok (.goto 4, 3) := dk_167 0 4 (dk_at dksX0_behind_1 4 rfl rfl)
theorem dX0_behind_31 : decode cX0_behind 31 = .ok (.aload_n 2, 1) := dk_44 (dk_at dksX0_behind_1 7 rfl rfl)
theorem dX0_behind_32 : decode cX0_behind 32 = .ok (.areturn, 1) := dk_176 (dk_at dksX0_behind_1 8 rfl rfl)
abbrev cX0_chestIn : ByteArray := prog_1_method_36_code
def yX0_chestIn : MethodName := ⟨RX0, "chestIn", "(I)I"⟩
def dkwX0_chestIn_0 : List UInt8 := [27, 3, 16, 60, 184, 0, 47, 153, 0, 14, 42, 27, 182, 0, 240, 180, 0, 247, 167, 0, 5, 16, 244, 172]
abbrev dktX0_chestIn_0 : List UInt8 := dkwX0_chestIn_0 ++ []
theorem dksX0_chestIn_0 : cX0_chestIn.data.toList.drop 0 = dktX0_chestIn_0 := by decide +kernel
theorem dX0_chestIn_0 : decode cX0_chestIn 0 = .ok (.iload_n 1, 1) := dk_27 (dk_at dksX0_chestIn_0 0 rfl rfl)
theorem dX0_chestIn_1 : decode cX0_chestIn 1 = .ok (.iconst 0, 1) := dk_3 (dk_at dksX0_chestIn_0 1 rfl rfl)
theorem dX0_chestIn_2 : decode cX0_chestIn 2 = .ok (.bipush 60, 2) := dk_16 60 (dk_at dksX0_chestIn_0 2 rfl rfl)
theorem dX0_chestIn_4 : decode cX0_chestIn 4 = .ok (.invokestatic 47, 3) := dk_184 0 47 (dk_at dksX0_chestIn_0 4 rfl rfl)
theorem dX0_chestIn_7 : decode cX0_chestIn 7 = .ok (.ifCond .eq 14, 3) := dk_153 0 14 (dk_at dksX0_chestIn_0 7 rfl rfl)
theorem dX0_chestIn_10 : decode cX0_chestIn 10 = .ok (.aload_n 0, 1) := dk_42 (dk_at dksX0_chestIn_0 10 rfl rfl)
theorem dX0_chestIn_11 : decode cX0_chestIn 11 = .ok (.iload_n 1, 1) := dk_27 (dk_at dksX0_chestIn_0 11 rfl rfl)
theorem dX0_chestIn_12 : decode cX0_chestIn 12 = .ok (.invokevirtual 240, 3) := dk_182 0 240 (dk_at dksX0_chestIn_0 12 rfl rfl)
theorem dX0_chestIn_15 : decode cX0_chestIn 15 = .ok (.getfield 247, 3) := dk_180 0 247 (dk_at dksX0_chestIn_0 15 rfl rfl)
theorem dX0_chestIn_18 : decode cX0_chestIn 18 = .ok (.goto 5, 3) := dk_167 0 5 (dk_at dksX0_chestIn_0 18 rfl rfl)
theorem dX0_chestIn_21 : decode cX0_chestIn 21 = .ok (.bipush (-12), 2) := dk_16 244 (dk_at dksX0_chestIn_0 21 rfl rfl)
theorem dX0_chestIn_23 : decode cX0_chestIn 23 = .ok (.ireturn, 1) := dk_172 (dk_at dksX0_chestIn_0 23 rfl rfl)
abbrev cX0_append : ByteArray := prog_1_method_37_code
def yX0_append : MethodName := ⟨RX0, "append", "(I)I"⟩
def dkwX0_append_1 : List UInt8 := [160, 0, 6, 16, 243, 172, 42, 180, 0, 32, 27, 146, 182, 0, 253, 87, 42, 180, 0, 32, 182, 0, 250, 172]
abbrev dktX0_append_1 : List UInt8 := dkwX0_append_1 ++ []
def dkwX0_append_0 : List UInt8 := [27, 16, 32, 16, 126, 184, 0, 47, 154, 0, 6, 16, 244, 172, 42, 180, 0, 32, 182, 0, 250, 16, 60]
abbrev dktX0_append_0 : List UInt8 := dkwX0_append_0 ++ dktX0_append_1
theorem dksX0_append_0 : cX0_append.data.toList.drop 0 = dktX0_append_0 := by decide +kernel
theorem dksX0_append_1 : cX0_append.data.toList.drop 23 = dktX0_append_1 := dk_seg dksX0_append_0 23 rfl rfl
theorem dX0_append_0 : decode cX0_append 0 = .ok (.iload_n 1, 1) := dk_27 (dk_at dksX0_append_0 0 rfl rfl)
theorem dX0_append_1 : decode cX0_append 1 = .ok (.bipush 32, 2) := dk_16 32 (dk_at dksX0_append_0 1 rfl rfl)
theorem dX0_append_3 : decode cX0_append 3 = .ok (.bipush 126, 2) := dk_16 126 (dk_at dksX0_append_0 3 rfl rfl)
theorem dX0_append_5 : decode cX0_append 5 = .ok (.invokestatic 47, 3) := dk_184 0 47 (dk_at dksX0_append_0 5 rfl rfl)
theorem dX0_append_8 : decode cX0_append 8 = .ok (.ifCond .ne 6, 3) := dk_154 0 6 (dk_at dksX0_append_0 8 rfl rfl)
theorem dX0_append_11 : decode cX0_append 11 = .ok (.bipush (-12), 2) := dk_16 244 (dk_at dksX0_append_0 11 rfl rfl)
theorem dX0_append_13 : decode cX0_append 13 = .ok (.ireturn, 1) := dk_172 (dk_at dksX0_append_0 13 rfl rfl)
theorem dX0_append_14 : decode cX0_append 14 = .ok (.aload_n 0, 1) := dk_42 (dk_at dksX0_append_0 14 rfl rfl)
theorem dX0_append_15 : decode cX0_append 15 = .ok (.getfield 32, 3) := dk_180 0 32 (dk_at dksX0_append_0 15 rfl rfl)
theorem dX0_append_18 : decode cX0_append 18 = .ok (.invokevirtual 250, 3) := dk_182 0 250 (dk_at dksX0_append_0 18 rfl rfl)
theorem dX0_append_21 : decode cX0_append 21 = .ok (.bipush 60, 2) := dk_16 60 (dk_at dksX0_append_0 21 rfl rfl)
theorem dX0_append_23 : decode cX0_append 23 = .ok (.if_icmp .ne 6, 3) := dk_160 0 6 (dk_at dksX0_append_1 0 rfl rfl)
theorem dX0_append_26 : decode cX0_append 26 = .ok (.bipush (-13), 2) := dk_16 243 (dk_at dksX0_append_1 3 rfl rfl)
theorem dX0_append_28 : decode cX0_append 28 = .ok (.ireturn, 1) := dk_172 (dk_at dksX0_append_1 5 rfl rfl)
theorem dX0_append_29 : decode cX0_append 29 = .ok (.aload_n 0, 1) := dk_42 (dk_at dksX0_append_1 6 rfl rfl)
theorem dX0_append_30 : decode cX0_append 30 = .ok (.getfield 32, 3) := dk_180 0 32 (dk_at dksX0_append_1 7 rfl rfl)
theorem dX0_append_33 : decode cX0_append 33 = .ok (.iload_n 1, 1) := dk_27 (dk_at dksX0_append_1 10 rfl rfl)
theorem dX0_append_34 : decode cX0_append 34 = .ok (.i2c, 1) := dk_146 (dk_at dksX0_append_1 11 rfl rfl)
theorem dX0_append_35 : decode cX0_append 35 = .ok (.invokevirtual 253, 3) := dk_182 0 253 (dk_at dksX0_append_1 12 rfl rfl)
theorem dX0_append_38 : decode cX0_append 38 = .ok (.pop, 1) := dk_87 (dk_at dksX0_append_1 15 rfl rfl)
theorem dX0_append_39 : decode cX0_append 39 = .ok (.aload_n 0, 1) := dk_42 (dk_at dksX0_append_1 16 rfl rfl)
theorem dX0_append_40 : decode cX0_append 40 = .ok (.getfield 32, 3) := dk_180 0 32 (dk_at dksX0_append_1 17 rfl rfl)
theorem dX0_append_43 : decode cX0_append 43 = .ok (.invokevirtual 250, 3) := dk_182 0 250 (dk_at dksX0_append_1 20 rfl rfl)
theorem dX0_append_46 : decode cX0_append 46 = .ok (.ireturn, 1) := dk_172 (dk_at dksX0_append_1 23 rfl rfl)
abbrev cX0_run : ByteArray := prog_1_method_38_code
def yX0_run : MethodName := ⟨RX0, "run", "()I"⟩
def dkwX0_run_6 : List UInt8 := [180, 0, 32, 3, 182, 1, 20, 28, 172, 58, 6, 42, 180, 0, 32, 3, 182, 1, 20, 25, 6, 191]
abbrev dktX0_run_6 : List UInt8 := dkwX0_run_6 ++ []
def dkwX0_run_5 : List UInt8 := [43, 180, 1, 25, 100, 61, 42, 180, 0, 32, 3, 182, 1, 20, 28, 172, 76, 42, 43, 182, 0, 121, 61, 42]
abbrev dktX0_run_5 : List UInt8 := dkwX0_run_5 ++ dktX0_run_6
def dkwX0_run_4 : List UInt8 := [42, 25, 4, 29, 182, 0, 117, 54, 5, 42, 180, 0, 32, 3, 182, 1, 20, 21, 5, 172, 76, 17, 252, 24]
abbrev dktX0_run_4 : List UInt8 := dkwX0_run_4 ++ dktX0_run_5
def dkwX0_run_3 : List UInt8 := [3, 16, 11, 29, 184, 1, 16, 132, 3, 1, 167, 255, 205, 42, 180, 0, 10, 58, 4, 42, 44, 181, 0, 10]
abbrev dktX0_run_3 : List UInt8 := dkwX0_run_3 ++ dktX0_run_4
def dkwX0_run_2 : List UInt8 := [192, 1, 10, 58, 5, 25, 5, 44, 42, 180, 0, 25, 3, 50, 182, 1, 12, 154, 0, 7, 4, 167, 0, 4]
abbrev dktX0_run_2 : List UInt8 := dkwX0_run_2 ++ dktX0_run_3
def dkwX0_run_1 : List UInt8 := [182, 0, 227, 58, 4, 25, 4, 185, 0, 71, 1, 0, 153, 0, 47, 25, 4, 185, 0, 77, 1, 0]
abbrev dktX0_run_1 : List UInt8 := dkwX0_run_1 ++ dktX0_run_2
def dkwX0_run_0 : List UInt8 := [187, 1, 1, 89, 42, 183, 1, 3, 182, 1, 6, 76, 42, 180, 0, 10, 182, 0, 109, 77, 3, 62, 43]
abbrev dktX0_run_0 : List UInt8 := dkwX0_run_0 ++ dktX0_run_1
theorem dksX0_run_0 : cX0_run.data.toList.drop 0 = dktX0_run_0 := by decide +kernel
theorem dksX0_run_1 : cX0_run.data.toList.drop 23 = dktX0_run_1 := dk_seg dksX0_run_0 23 rfl rfl
theorem dksX0_run_2 : cX0_run.data.toList.drop 45 = dktX0_run_2 := dk_seg dksX0_run_1 22 rfl rfl
theorem dksX0_run_3 : cX0_run.data.toList.drop 69 = dktX0_run_3 := dk_seg dksX0_run_2 24 rfl rfl
theorem dksX0_run_4 : cX0_run.data.toList.drop 93 = dktX0_run_4 := dk_seg dksX0_run_3 24 rfl rfl
theorem dksX0_run_5 : cX0_run.data.toList.drop 117 = dktX0_run_5 := dk_seg dksX0_run_4 24 rfl rfl
theorem dksX0_run_6 : cX0_run.data.toList.drop 141 = dktX0_run_6 := dk_seg dksX0_run_5 24 rfl rfl
theorem dX0_run_0 : decode cX0_run 0 = .ok (.new 257, 3) := dk_187 1 1 (dk_at dksX0_run_0 0 rfl rfl)
theorem dX0_run_3 : decode cX0_run 3 = .ok (.dup, 1) := dk_89 (dk_at dksX0_run_0 3 rfl rfl)
theorem dX0_run_4 : decode cX0_run 4 = .ok (.aload_n 0, 1) := dk_42 (dk_at dksX0_run_0 4 rfl rfl)
theorem dX0_run_5 : decode cX0_run 5 = .ok (.invokespecial 259, 3) := dk_183 1 3 (dk_at dksX0_run_0 5 rfl rfl)
theorem dX0_run_8 : decode cX0_run 8 = .ok (.invokevirtual 262, 3) := dk_182 1 6 (dk_at dksX0_run_0 8 rfl rfl)
theorem dX0_run_11 : decode cX0_run 11 = .ok (.astore_n 1, 1) := dk_76 (dk_at dksX0_run_0 11 rfl rfl)
theorem dX0_run_12 : decode cX0_run 12 = .ok (.aload_n 0, 1) := dk_42 (dk_at dksX0_run_0 12 rfl rfl)
theorem dX0_run_13 : decode cX0_run 13 = .ok (.getfield 10, 3) := dk_180 0 10 (dk_at dksX0_run_0 13 rfl rfl)
theorem dX0_run_16 : decode cX0_run 16 = .ok (.invokevirtual 109, 3) := dk_182 0 109 (dk_at dksX0_run_0 16 rfl rfl)
theorem dX0_run_19 : decode cX0_run 19 = .ok (.astore_n 2, 1) := dk_77 (dk_at dksX0_run_0 19 rfl rfl)
theorem dX0_run_20 : decode cX0_run 20 = .ok (.iconst 0, 1) := dk_3 (dk_at dksX0_run_0 20 rfl rfl)
theorem dX0_run_21 : decode cX0_run 21 = .ok (.istore_n 3, 1) := dk_62 (dk_at dksX0_run_0 21 rfl rfl)
theorem dX0_run_22 : decode cX0_run 22 = .ok (.aload_n 1, 1) := dk_43 (dk_at dksX0_run_0 22 rfl rfl)
theorem dX0_run_23 : decode cX0_run 23 = .ok (.invokevirtual 227, 3) := dk_182 0 227 (dk_at dksX0_run_1 0 rfl rfl)
theorem dX0_run_26 : decode cX0_run 26 = .ok (.astore 4, 2) := dk_58 4 (dk_at dksX0_run_1 3 rfl rfl)
theorem dX0_run_28 : decode cX0_run 28 = .ok (.aload 4, 2) := dk_25 4 (dk_at dksX0_run_1 5 rfl rfl)
theorem dX0_run_30 : decode cX0_run 30 = .ok (.invokeinterface 71 1, 5) := by decide +kernel
theorem dX0_run_35 : decode cX0_run 35 = .ok (.ifCond .eq 47, 3) := dk_153 0 47 (dk_at dksX0_run_1 12 rfl rfl)
theorem dX0_run_38 : decode cX0_run 38 = .ok (.aload 4, 2) := dk_25 4 (dk_at dksX0_run_1 15 rfl rfl)
theorem dX0_run_40 : decode cX0_run 40 = .ok (.invokeinterface 77 1, 5) := by decide +kernel
theorem dX0_run_45 : decode cX0_run 45 = .ok (.checkcast 266, 3) := dk_192 1 10 (dk_at dksX0_run_2 0 rfl rfl)
theorem dX0_run_48 : decode cX0_run 48 = .ok (.astore 5, 2) := dk_58 5 (dk_at dksX0_run_2 3 rfl rfl)
theorem dX0_run_50 : decode cX0_run 50 = .ok (.aload 5, 2) := dk_25 5 (dk_at dksX0_run_2 5 rfl rfl)
theorem dX0_run_52 : decode cX0_run 52 = .ok (.aload_n 2, 1) := dk_44 (dk_at dksX0_run_2 7 rfl rfl)
theorem dX0_run_53 : decode cX0_run 53 = .ok (.aload_n 0, 1) := dk_42 (dk_at dksX0_run_2 8 rfl rfl)
theorem dX0_run_54 : decode cX0_run 54 = .ok (.getfield 25, 3) := dk_180 0 25 (dk_at dksX0_run_2 9 rfl rfl)
theorem dX0_run_57 : decode cX0_run 57 = .ok (.iconst 0, 1) := dk_3 (dk_at dksX0_run_2 12 rfl rfl)
theorem dX0_run_58 : decode cX0_run 58 = .ok (.aaload, 1) := dk_50 (dk_at dksX0_run_2 13 rfl rfl)
theorem dX0_run_59 : decode cX0_run 59 = .ok (.invokevirtual 268, 3) := dk_182 1 12 (dk_at dksX0_run_2 14 rfl rfl)
theorem dX0_run_62 : decode cX0_run 62 = .ok (.ifCond .ne 7, 3) := dk_154 0 7 (dk_at dksX0_run_2 17 rfl rfl)
theorem dX0_run_65 : decode cX0_run 65 = .ok (.iconst 1, 1) := dk_4 (dk_at dksX0_run_2 20 rfl rfl)
theorem dX0_run_66 : decode cX0_run 66 = .ok (.goto 4, 3) := dk_167 0 4 (dk_at dksX0_run_2 21 rfl rfl)
theorem dX0_run_69 : decode cX0_run 69 = .ok (.iconst 0, 1) := dk_3 (dk_at dksX0_run_3 0 rfl rfl)
theorem dX0_run_70 : decode cX0_run 70 = .ok (.bipush 11, 2) := dk_16 11 (dk_at dksX0_run_3 1 rfl rfl)
theorem dX0_run_72 : decode cX0_run 72 = .ok (.iload_n 3, 1) := dk_29 (dk_at dksX0_run_3 3 rfl rfl)
theorem dX0_run_73 : decode cX0_run 73 = .ok (.invokestatic 272, 3) := dk_184 1 16 (dk_at dksX0_run_3 4 rfl rfl)
theorem dX0_run_76 : decode cX0_run 76 = .ok (.iinc 3 1, 3) := dk_132 3 1 (dk_at dksX0_run_3 7 rfl rfl)
theorem dX0_run_79 : decode cX0_run 79 = .ok (.goto (-51), 3) := dk_167 255 205 (dk_at dksX0_run_3 10 rfl rfl)
theorem dX0_run_82 : decode cX0_run 82 = .ok (.aload_n 0, 1) := dk_42 (dk_at dksX0_run_3 13 rfl rfl)
theorem dX0_run_83 : decode cX0_run 83 = .ok (.getfield 10, 3) := dk_180 0 10 (dk_at dksX0_run_3 14 rfl rfl)
theorem dX0_run_86 : decode cX0_run 86 = .ok (.astore 4, 2) := dk_58 4 (dk_at dksX0_run_3 17 rfl rfl)
theorem dX0_run_88 : decode cX0_run 88 = .ok (.aload_n 0, 1) := dk_42 (dk_at dksX0_run_3 19 rfl rfl)
theorem dX0_run_89 : decode cX0_run 89 = .ok (.aload_n 2, 1) := dk_44 (dk_at dksX0_run_3 20 rfl rfl)
theorem dX0_run_90 : decode cX0_run 90 = .ok (.putfield 10, 3) := dk_181 0 10 (dk_at dksX0_run_3 21 rfl rfl)
theorem dX0_run_93 : decode cX0_run 93 = .ok (.aload_n 0, 1) := dk_42 (dk_at dksX0_run_4 0 rfl rfl)
theorem dX0_run_94 : decode cX0_run 94 = .ok (.aload 4, 2) := dk_25 4 (dk_at dksX0_run_4 1 rfl rfl)
theorem dX0_run_96 : decode cX0_run 96 = .ok (.iload_n 3, 1) := dk_29 (dk_at dksX0_run_4 3 rfl rfl)
theorem dX0_run_97 : decode cX0_run 97 = .ok (.invokevirtual 117, 3) := dk_182 0 117 (dk_at dksX0_run_4 4 rfl rfl)
theorem dX0_run_100 : decode cX0_run 100 = .ok (.istore 5, 2) := dk_54 5 (dk_at dksX0_run_4 7 rfl rfl)
theorem dX0_run_102 : decode cX0_run 102 = .ok (.aload_n 0, 1) := dk_42 (dk_at dksX0_run_4 9 rfl rfl)
theorem dX0_run_103 : decode cX0_run 103 = .ok (.getfield 32, 3) := dk_180 0 32 (dk_at dksX0_run_4 10 rfl rfl)
theorem dX0_run_106 : decode cX0_run 106 = .ok (.iconst 0, 1) := dk_3 (dk_at dksX0_run_4 13 rfl rfl)
theorem dX0_run_107 : decode cX0_run 107 = .ok (.invokevirtual 276, 3) := dk_182 1 20 (dk_at dksX0_run_4 14 rfl rfl)
theorem dX0_run_110 : decode cX0_run 110 = .ok (.iload 5, 2) := dk_21 5 (dk_at dksX0_run_4 17 rfl rfl)
theorem dX0_run_112 : decode cX0_run 112 = .ok (.ireturn, 1) := dk_172 (dk_at dksX0_run_4 19 rfl rfl)
theorem dX0_run_113 : decode cX0_run 113 = .ok (.astore_n 1, 1) := dk_76 (dk_at dksX0_run_4 20 rfl rfl)
theorem dX0_run_114 : decode cX0_run 114 = .ok (.sipush (-1000), 3) := dk_17 252 24 (dk_at dksX0_run_4 21 rfl rfl)
theorem dX0_run_117 : decode cX0_run 117 = .ok (.aload_n 1, 1) := dk_43 (dk_at dksX0_run_5 0 rfl rfl)
theorem dX0_run_118 : decode cX0_run 118 = .ok (.getfield 281, 3) := dk_180 1 25 (dk_at dksX0_run_5 1 rfl rfl)
theorem dX0_run_121 : decode cX0_run 121 = .ok (.isub, 1) := dk_100 (dk_at dksX0_run_5 4 rfl rfl)
theorem dX0_run_122 : decode cX0_run 122 = .ok (.istore_n 2, 1) := dk_61 (dk_at dksX0_run_5 5 rfl rfl)
theorem dX0_run_123 : decode cX0_run 123 = .ok (.aload_n 0, 1) := dk_42 (dk_at dksX0_run_5 6 rfl rfl)
theorem dX0_run_124 : decode cX0_run 124 = .ok (.getfield 32, 3) := dk_180 0 32 (dk_at dksX0_run_5 7 rfl rfl)
theorem dX0_run_127 : decode cX0_run 127 = .ok (.iconst 0, 1) := dk_3 (dk_at dksX0_run_5 10 rfl rfl)
theorem dX0_run_128 : decode cX0_run 128 = .ok (.invokevirtual 276, 3) := dk_182 1 20 (dk_at dksX0_run_5 11 rfl rfl)
theorem dX0_run_131 : decode cX0_run 131 = .ok (.iload_n 2, 1) := dk_28 (dk_at dksX0_run_5 14 rfl rfl)
theorem dX0_run_132 : decode cX0_run 132 = .ok (.ireturn, 1) := dk_172 (dk_at dksX0_run_5 15 rfl rfl)
theorem dX0_run_133 : decode cX0_run 133 = .ok (.astore_n 1, 1) := dk_76 (dk_at dksX0_run_5 16 rfl rfl)
theorem dX0_run_134 : decode cX0_run 134 = .ok (.aload_n 0, 1) := dk_42 (dk_at dksX0_run_5 17 rfl rfl)
theorem dX0_run_135 : decode cX0_run 135 = .ok (.aload_n 1, 1) := dk_43 (dk_at dksX0_run_5 18 rfl rfl)
theorem dX0_run_136 : decode cX0_run 136 = .ok (.invokevirtual 121, 3) := dk_182 0 121 (dk_at dksX0_run_5 19 rfl rfl)
theorem dX0_run_139 : decode cX0_run 139 = .ok (.istore_n 2, 1) := dk_61 (dk_at dksX0_run_5 22 rfl rfl)
theorem dX0_run_140 : decode cX0_run 140 = .ok (.aload_n 0, 1) := dk_42 (dk_at dksX0_run_5 23 rfl rfl)
theorem dX0_run_141 : decode cX0_run 141 = .ok (.getfield 32, 3) := dk_180 0 32 (dk_at dksX0_run_6 0 rfl rfl)
theorem dX0_run_144 : decode cX0_run 144 = .ok (.iconst 0, 1) := dk_3 (dk_at dksX0_run_6 3 rfl rfl)
theorem dX0_run_145 : decode cX0_run 145 = .ok (.invokevirtual 276, 3) := dk_182 1 20 (dk_at dksX0_run_6 4 rfl rfl)
theorem dX0_run_148 : decode cX0_run 148 = .ok (.iload_n 2, 1) := dk_28 (dk_at dksX0_run_6 7 rfl rfl)
theorem dX0_run_149 : decode cX0_run 149 = .ok (.ireturn, 1) := dk_172 (dk_at dksX0_run_6 8 rfl rfl)
theorem dX0_run_150 : decode cX0_run 150 = .ok (.astore 6, 2) := dk_58 6 (dk_at dksX0_run_6 9 rfl rfl)
theorem dX0_run_152 : decode cX0_run 152 = .ok (.aload_n 0, 1) := dk_42 (dk_at dksX0_run_6 11 rfl rfl)
theorem dX0_run_153 : decode cX0_run 153 = .ok (.getfield 32, 3) := dk_180 0 32 (dk_at dksX0_run_6 12 rfl rfl)
theorem dX0_run_156 : decode cX0_run 156 = .ok (.iconst 0, 1) := dk_3 (dk_at dksX0_run_6 15 rfl rfl)
theorem dX0_run_157 : decode cX0_run 157 = .ok (.invokevirtual 276, 3) := dk_182 1 20 (dk_at dksX0_run_6 16 rfl rfl)
theorem dX0_run_160 : decode cX0_run 160 = .ok (.aload 6, 2) := dk_25 6 (dk_at dksX0_run_6 19 rfl rfl)
theorem dX0_run_162 : decode cX0_run 162 = .ok (.athrow, 1) := dk_191 (dk_at dksX0_run_6 21 rfl rfl)
abbrev cX0_tell : ByteArray := prog_1_method_39_code
def yX0_tell : MethodName := ⟨RX0, "tell", "()I"⟩
def dkwX0_tell_0 : List UInt8 := [42, 42, 180, 0, 10, 182, 1, 28, 181, 0, 38, 42, 180, 0, 38, 182, 1, 32, 172]
abbrev dktX0_tell_0 : List UInt8 := dkwX0_tell_0 ++ []
theorem dksX0_tell_0 : cX0_tell.data.toList.drop 0 = dktX0_tell_0 := by decide +kernel
theorem dX0_tell_0 : decode cX0_tell 0 = .ok (.aload_n 0, 1) := dk_42 (dk_at dksX0_tell_0 0 rfl rfl)
theorem dX0_tell_1 : decode cX0_tell 1 = .ok (.aload_n 0, 1) := dk_42 (dk_at dksX0_tell_0 1 rfl rfl)
theorem dX0_tell_2 : decode cX0_tell 2 = .ok (.getfield 10, 3) := dk_180 0 10 (dk_at dksX0_tell_0 2 rfl rfl)
theorem dX0_tell_5 : decode cX0_tell 5 = .ok (.invokevirtual 284, 3) := dk_182 1 28 (dk_at dksX0_tell_0 5 rfl rfl)
theorem dX0_tell_8 : decode cX0_tell 8 = .ok (.putfield 38, 3) := dk_181 0 38 (dk_at dksX0_tell_0 8 rfl rfl)
theorem dX0_tell_11 : decode cX0_tell 11 = .ok (.aload_n 0, 1) := dk_42 (dk_at dksX0_tell_0 11 rfl rfl)
theorem dX0_tell_12 : decode cX0_tell 12 = .ok (.getfield 38, 3) := dk_180 0 38 (dk_at dksX0_tell_0 12 rfl rfl)
theorem dX0_tell_15 : decode cX0_tell 15 = .ok (.invokevirtual 288, 3) := dk_182 1 32 (dk_at dksX0_tell_0 15 rfl rfl)
theorem dX0_tell_18 : decode cX0_tell 18 = .ok (.ireturn, 1) := dk_172 (dk_at dksX0_tell_0 18 rfl rfl)
abbrev cX0_tellWaiting : ByteArray := prog_1_method_40_code
def yX0_tellWaiting : MethodName := ⟨RX0, "tellWaiting", "()I"⟩
def dkwX0_tellWaiting_0 : List UInt8 := [42, 42, 180, 0, 10, 182, 1, 35, 181, 0, 38, 42, 180, 0, 38, 182, 1, 32, 172]
abbrev dktX0_tellWaiting_0 : List UInt8 := dkwX0_tellWaiting_0 ++ []
theorem dksX0_tellWaiting_0 : cX0_tellWaiting.data.toList.drop 0 = dktX0_tellWaiting_0 := by decide +kernel
theorem dX0_tellWaiting_0 : decode cX0_tellWaiting 0 = .ok (.aload_n 0, 1) := dk_42 (dk_at dksX0_tellWaiting_0 0 rfl rfl)
theorem dX0_tellWaiting_1 : decode cX0_tellWaiting 1 = .ok (.aload_n 0, 1) := dk_42 (dk_at dksX0_tellWaiting_0 1 rfl rfl)
theorem dX0_tellWaiting_2 : decode cX0_tellWaiting 2 = .ok (.getfield 10, 3) := dk_180 0 10 (dk_at dksX0_tellWaiting_0 2 rfl rfl)
theorem dX0_tellWaiting_5 : decode cX0_tellWaiting 5 = .ok (.invokevirtual 291, 3) := dk_182 1 35 (dk_at dksX0_tellWaiting_0 5 rfl rfl)
theorem dX0_tellWaiting_8 : decode cX0_tellWaiting 8 = .ok (.putfield 38, 3) := dk_181 0 38 (dk_at dksX0_tellWaiting_0 8 rfl rfl)
theorem dX0_tellWaiting_11 : decode cX0_tellWaiting 11 = .ok (.aload_n 0, 1) := dk_42 (dk_at dksX0_tellWaiting_0 11 rfl rfl)
theorem dX0_tellWaiting_12 : decode cX0_tellWaiting 12 = .ok (.getfield 38, 3) := dk_180 0 38 (dk_at dksX0_tellWaiting_0 12 rfl rfl)
theorem dX0_tellWaiting_15 : decode cX0_tellWaiting 15 = .ok (.invokevirtual 288, 3) := dk_182 1 32 (dk_at dksX0_tellWaiting_0 15 rfl rfl)
theorem dX0_tellWaiting_18 : decode cX0_tellWaiting 18 = .ok (.ireturn, 1) := dk_172 (dk_at dksX0_tellWaiting_0 18 rfl rfl)
abbrev cX0_character : ByteArray := prog_1_method_41_code
def yX0_character : MethodName := ⟨RX0, "character", "(I)I"⟩
def dkwX0_character_1 : List UInt8 := [182, 1, 38, 167, 0, 5, 16, 245, 172]
abbrev dktX0_character_1 : List UInt8 := dkwX0_character_1 ++ []
def dkwX0_character_0 : List UInt8 := [27, 3, 42, 180, 0, 38, 182, 1, 32, 4, 100, 184, 0, 47, 153, 0, 14, 42, 180, 0, 38, 27]
abbrev dktX0_character_0 : List UInt8 := dkwX0_character_0 ++ dktX0_character_1
theorem dksX0_character_0 : cX0_character.data.toList.drop 0 = dktX0_character_0 := by decide +kernel
theorem dksX0_character_1 : cX0_character.data.toList.drop 22 = dktX0_character_1 := dk_seg dksX0_character_0 22 rfl rfl
theorem dX0_character_0 : decode cX0_character 0 = .ok (.iload_n 1, 1) := dk_27 (dk_at dksX0_character_0 0 rfl rfl)
theorem dX0_character_1 : decode cX0_character 1 = .ok (.iconst 0, 1) := dk_3 (dk_at dksX0_character_0 1 rfl rfl)
theorem dX0_character_2 : decode cX0_character 2 = .ok (.aload_n 0, 1) := dk_42 (dk_at dksX0_character_0 2 rfl rfl)
theorem dX0_character_3 : decode cX0_character 3 = .ok (.getfield 38, 3) := dk_180 0 38 (dk_at dksX0_character_0 3 rfl rfl)
theorem dX0_character_6 : decode cX0_character 6 = .ok (.invokevirtual 288, 3) := dk_182 1 32 (dk_at dksX0_character_0 6 rfl rfl)
theorem dX0_character_9 : decode cX0_character 9 = .ok (.iconst 1, 1) := dk_4 (dk_at dksX0_character_0 9 rfl rfl)
theorem dX0_character_10 : decode cX0_character 10 = .ok (.isub, 1) := dk_100 (dk_at dksX0_character_0 10 rfl rfl)
theorem dX0_character_11 : decode cX0_character 11 = .ok (.invokestatic 47, 3) := dk_184 0 47 (dk_at dksX0_character_0 11 rfl rfl)
theorem dX0_character_14 : decode cX0_character 14 = .ok (.ifCond .eq 14, 3) := dk_153 0 14 (dk_at dksX0_character_0 14 rfl rfl)
theorem dX0_character_17 : decode cX0_character 17 = .ok (.aload_n 0, 1) := dk_42 (dk_at dksX0_character_0 17 rfl rfl)
theorem dX0_character_18 : decode cX0_character 18 = .ok (.getfield 38, 3) := dk_180 0 38 (dk_at dksX0_character_0 18 rfl rfl)
theorem dX0_character_21 : decode cX0_character 21 = .ok (.iload_n 1, 1) := dk_27 (dk_at dksX0_character_0 21 rfl rfl)
theorem dX0_character_22 : decode cX0_character 22 = .ok (.invokevirtual 294, 3) := dk_182 1 38 (dk_at dksX0_character_1 0 rfl rfl)
theorem dX0_character_25 : decode cX0_character 25 = .ok (.goto 5, 3) := dk_167 0 5 (dk_at dksX0_character_1 3 rfl rfl)
theorem dX0_character_28 : decode cX0_character 28 = .ok (.bipush (-11), 2) := dk_16 245 (dk_at dksX0_character_1 6 rfl rfl)
theorem dX0_character_30 : decode cX0_character 30 = .ok (.ireturn, 1) := dk_172 (dk_at dksX0_character_1 8 rfl rfl)
abbrev cX0_reason : ByteArray := prog_1_method_42_code
def yX0_reason : MethodName := ⟨RX0, "reason", "(Z)I"⟩
def dkwX0_reason_1 : List UInt8 := [180, 0, 60, 172]
abbrev dktX0_reason_1 : List UInt8 := dkwX0_reason_1 ++ []
def dkwX0_reason_0 : List UInt8 := [42, 180, 0, 60, 154, 0, 8, 16, 241, 167, 0, 18, 27, 153, 0, 10, 42, 180, 0, 64, 167, 0, 7, 42]
abbrev dktX0_reason_0 : List UInt8 := dkwX0_reason_0 ++ dktX0_reason_1
theorem dksX0_reason_0 : cX0_reason.data.toList.drop 0 = dktX0_reason_0 := by decide +kernel
theorem dksX0_reason_1 : cX0_reason.data.toList.drop 24 = dktX0_reason_1 := dk_seg dksX0_reason_0 24 rfl rfl
theorem dX0_reason_0 : decode cX0_reason 0 = .ok (.aload_n 0, 1) := dk_42 (dk_at dksX0_reason_0 0 rfl rfl)
theorem dX0_reason_1 : decode cX0_reason 1 = .ok (.getfield 60, 3) := dk_180 0 60 (dk_at dksX0_reason_0 1 rfl rfl)
theorem dX0_reason_4 : decode cX0_reason 4 = .ok (.ifCond .ne 8, 3) := dk_154 0 8 (dk_at dksX0_reason_0 4 rfl rfl)
theorem dX0_reason_7 : decode cX0_reason 7 = .ok (.bipush (-15), 2) := dk_16 241 (dk_at dksX0_reason_0 7 rfl rfl)
theorem dX0_reason_9 : decode cX0_reason 9 = .ok (.goto 18, 3) := dk_167 0 18 (dk_at dksX0_reason_0 9 rfl rfl)
theorem dX0_reason_12 : decode cX0_reason 12 = .ok (.iload_n 1, 1) := dk_27 (dk_at dksX0_reason_0 12 rfl rfl)
theorem dX0_reason_13 : decode cX0_reason 13 = .ok (.ifCond .eq 10, 3) := dk_153 0 10 (dk_at dksX0_reason_0 13 rfl rfl)
theorem dX0_reason_16 : decode cX0_reason 16 = .ok (.aload_n 0, 1) := dk_42 (dk_at dksX0_reason_0 16 rfl rfl)
theorem dX0_reason_17 : decode cX0_reason 17 = .ok (.getfield 64, 3) := dk_180 0 64 (dk_at dksX0_reason_0 17 rfl rfl)
theorem dX0_reason_20 : decode cX0_reason 20 = .ok (.goto 7, 3) := dk_167 0 7 (dk_at dksX0_reason_0 20 rfl rfl)
theorem dX0_reason_23 : decode cX0_reason 23 = .ok (.aload_n 0, 1) := dk_42 (dk_at dksX0_reason_0 23 rfl rfl)
theorem dX0_reason_24 : decode cX0_reason 24 = .ok (.getfield 60, 3) := dk_180 0 60 (dk_at dksX0_reason_1 0 rfl rfl)
theorem dX0_reason_27 : decode cX0_reason 27 = .ok (.ireturn, 1) := dk_172 (dk_at dksX0_reason_1 3 rfl rfl)
abbrev cX0_account : ByteArray := prog_1_method_43_code
def yX0_account : MethodName := ⟨RX0, "account", "(I)I"⟩
def dkwX0_account_8 : List UInt8 := [182, 0, 103, 167, 0, 5, 16, 244, 172]
abbrev dktX0_account_8 : List UInt8 := dkwX0_account_8 ++ []
def dkwX0_account_7 : List UInt8 := [180, 0, 10, 180, 1, 70, 167, 0, 25, 42, 180, 0, 32, 182, 0, 250, 167, 0, 15, 42, 180, 0, 19]
abbrev dktX0_account_7 : List UInt8 := dkwX0_account_7 ++ dktX0_account_8
def dkwX0_account_6 : List UInt8 := [167, 0, 55, 42, 180, 0, 10, 180, 1, 64, 167, 0, 45, 42, 180, 0, 10, 180, 1, 67, 167, 0, 35, 42]
abbrev dktX0_account_6 : List UInt8 := dkwX0_account_6 ++ dktX0_account_7
def dkwX0_account_5 : List UInt8 := [180, 0, 247, 167, 0, 75, 42, 180, 0, 10, 180, 1, 58, 167, 0, 65, 42, 180, 0, 10, 180, 1, 61]
abbrev dktX0_account_5 : List UInt8 := dkwX0_account_5 ++ dktX0_account_6
def dkwX0_account_4 : List UInt8 := [180, 0, 10, 182, 1, 52, 167, 0, 95, 42, 180, 0, 10, 182, 1, 55, 167, 0, 85, 42, 180, 0, 10]
abbrev dktX0_account_4 : List UInt8 := dkwX0_account_4 ++ dktX0_account_5
def dkwX0_account_3 : List UInt8 := [180, 0, 178, 182, 1, 48, 167, 0, 118, 42, 180, 0, 10, 27, 6, 100, 182, 1, 49, 167, 0, 105, 42]
abbrev dktX0_account_3 : List UInt8 := dkwX0_account_3 ++ dktX0_account_4
def dkwX0_account_2 : List UInt8 := [42, 180, 0, 10, 180, 1, 42, 167, 0, 141, 42, 180, 0, 10, 180, 1, 45, 167, 0, 131, 42, 180, 0, 10]
abbrev dktX0_account_2 : List UInt8 := dkwX0_account_2 ++ dktX0_account_3
def dkwX0_account_1 : List UInt8 := [170, 0, 0, 0, 0, 0, 229, 0, 0, 0, 0, 0, 0, 0, 16, 0, 0, 0, 83, 0, 0, 0, 93, 0, 0, 0, 103, 0, 0, 0, 116, 0, 0, 0, 116, 0, 0, 0, 116, 0, 0, 0, 116, 0, 0, 0, 129, 0, 0, 0, 139, 0, 0, 0, 149, 0, 0, 0, 159, 0, 0, 0, 169, 0, 0, 0, 179, 0, 0, 0, 189, 0, 0, 0, 199, 0, 0, 0, 209, 0, 0, 0, 219]
abbrev dktX0_account_1 : List UInt8 := dkwX0_account_1 ++ dktX0_account_2
def dkwX0_account_0 : List UInt8 := [27]
abbrev dktX0_account_0 : List UInt8 := dkwX0_account_0 ++ dktX0_account_1
theorem dksX0_account_0 : cX0_account.data.toList.drop 0 = dktX0_account_0 := by decide +kernel
theorem dksX0_account_1 : cX0_account.data.toList.drop 1 = dktX0_account_1 := dk_seg dksX0_account_0 1 rfl rfl
theorem dksX0_account_2 : cX0_account.data.toList.drop 84 = dktX0_account_2 := dk_seg dksX0_account_1 83 rfl rfl
theorem dksX0_account_3 : cX0_account.data.toList.drop 108 = dktX0_account_3 := dk_seg dksX0_account_2 24 rfl rfl
theorem dksX0_account_4 : cX0_account.data.toList.drop 131 = dktX0_account_4 := dk_seg dksX0_account_3 23 rfl rfl
theorem dksX0_account_5 : cX0_account.data.toList.drop 154 = dktX0_account_5 := dk_seg dksX0_account_4 23 rfl rfl
theorem dksX0_account_6 : cX0_account.data.toList.drop 177 = dktX0_account_6 := dk_seg dksX0_account_5 23 rfl rfl
theorem dksX0_account_7 : cX0_account.data.toList.drop 201 = dktX0_account_7 := dk_seg dksX0_account_6 24 rfl rfl
theorem dksX0_account_8 : cX0_account.data.toList.drop 224 = dktX0_account_8 := dk_seg dksX0_account_7 23 rfl rfl
theorem dX0_account_0 : decode cX0_account 0 = .ok (.iload_n 1, 1) := dk_27 (dk_at dksX0_account_0 0 rfl rfl)
theorem dX0_account_1 : decode cX0_account 1 = .ok (.tableswitch 229 0 16 #[83, 93, 103, 116, 116, 116, 116, 129, 139, 149, 159, 169, 179, 189, 199, 209, 219], 83) := by decide +kernel
theorem dX0_account_84 : decode cX0_account 84 = .ok (.aload_n 0, 1) := dk_42 (dk_at dksX0_account_2 0 rfl rfl)
theorem dX0_account_85 : decode cX0_account 85 = .ok (.getfield 10, 3) := dk_180 0 10 (dk_at dksX0_account_2 1 rfl rfl)
theorem dX0_account_88 : decode cX0_account 88 = .ok (.getfield 298, 3) := dk_180 1 42 (dk_at dksX0_account_2 4 rfl rfl)
theorem dX0_account_91 : decode cX0_account 91 = .ok (.goto 141, 3) := dk_167 0 141 (dk_at dksX0_account_2 7 rfl rfl)
theorem dX0_account_94 : decode cX0_account 94 = .ok (.aload_n 0, 1) := dk_42 (dk_at dksX0_account_2 10 rfl rfl)
theorem dX0_account_95 : decode cX0_account 95 = .ok (.getfield 10, 3) := dk_180 0 10 (dk_at dksX0_account_2 11 rfl rfl)
theorem dX0_account_98 : decode cX0_account 98 = .ok (.getfield 301, 3) := dk_180 1 45 (dk_at dksX0_account_2 14 rfl rfl)
theorem dX0_account_101 : decode cX0_account 101 = .ok (.goto 131, 3) := dk_167 0 131 (dk_at dksX0_account_2 17 rfl rfl)
theorem dX0_account_104 : decode cX0_account 104 = .ok (.aload_n 0, 1) := dk_42 (dk_at dksX0_account_2 20 rfl rfl)
theorem dX0_account_105 : decode cX0_account 105 = .ok (.getfield 10, 3) := dk_180 0 10 (dk_at dksX0_account_2 21 rfl rfl)
theorem dX0_account_108 : decode cX0_account 108 = .ok (.getfield 178, 3) := dk_180 0 178 (dk_at dksX0_account_3 0 rfl rfl)
theorem dX0_account_111 : decode cX0_account 111 = .ok (.invokevirtual 304, 3) := dk_182 1 48 (dk_at dksX0_account_3 3 rfl rfl)
theorem dX0_account_114 : decode cX0_account 114 = .ok (.goto 118, 3) := dk_167 0 118 (dk_at dksX0_account_3 6 rfl rfl)
theorem dX0_account_117 : decode cX0_account 117 = .ok (.aload_n 0, 1) := dk_42 (dk_at dksX0_account_3 9 rfl rfl)
theorem dX0_account_118 : decode cX0_account 118 = .ok (.getfield 10, 3) := dk_180 0 10 (dk_at dksX0_account_3 10 rfl rfl)
theorem dX0_account_121 : decode cX0_account 121 = .ok (.iload_n 1, 1) := dk_27 (dk_at dksX0_account_3 13 rfl rfl)
theorem dX0_account_122 : decode cX0_account 122 = .ok (.iconst 3, 1) := dk_6 (dk_at dksX0_account_3 14 rfl rfl)
theorem dX0_account_123 : decode cX0_account 123 = .ok (.isub, 1) := dk_100 (dk_at dksX0_account_3 15 rfl rfl)
theorem dX0_account_124 : decode cX0_account 124 = .ok (.invokevirtual 305, 3) := dk_182 1 49 (dk_at dksX0_account_3 16 rfl rfl)
theorem dX0_account_127 : decode cX0_account 127 = .ok (.goto 105, 3) := dk_167 0 105 (dk_at dksX0_account_3 19 rfl rfl)
theorem dX0_account_130 : decode cX0_account 130 = .ok (.aload_n 0, 1) := dk_42 (dk_at dksX0_account_3 22 rfl rfl)
theorem dX0_account_131 : decode cX0_account 131 = .ok (.getfield 10, 3) := dk_180 0 10 (dk_at dksX0_account_4 0 rfl rfl)
theorem dX0_account_134 : decode cX0_account 134 = .ok (.invokevirtual 308, 3) := dk_182 1 52 (dk_at dksX0_account_4 3 rfl rfl)
theorem dX0_account_137 : decode cX0_account 137 = .ok (.goto 95, 3) := dk_167 0 95 (dk_at dksX0_account_4 6 rfl rfl)
theorem dX0_account_140 : decode cX0_account 140 = .ok (.aload_n 0, 1) := dk_42 (dk_at dksX0_account_4 9 rfl rfl)
theorem dX0_account_141 : decode cX0_account 141 = .ok (.getfield 10, 3) := dk_180 0 10 (dk_at dksX0_account_4 10 rfl rfl)
theorem dX0_account_144 : decode cX0_account 144 = .ok (.invokevirtual 311, 3) := dk_182 1 55 (dk_at dksX0_account_4 13 rfl rfl)
theorem dX0_account_147 : decode cX0_account 147 = .ok (.goto 85, 3) := dk_167 0 85 (dk_at dksX0_account_4 16 rfl rfl)
theorem dX0_account_150 : decode cX0_account 150 = .ok (.aload_n 0, 1) := dk_42 (dk_at dksX0_account_4 19 rfl rfl)
theorem dX0_account_151 : decode cX0_account 151 = .ok (.getfield 10, 3) := dk_180 0 10 (dk_at dksX0_account_4 20 rfl rfl)
theorem dX0_account_154 : decode cX0_account 154 = .ok (.getfield 247, 3) := dk_180 0 247 (dk_at dksX0_account_5 0 rfl rfl)
theorem dX0_account_157 : decode cX0_account 157 = .ok (.goto 75, 3) := dk_167 0 75 (dk_at dksX0_account_5 3 rfl rfl)
theorem dX0_account_160 : decode cX0_account 160 = .ok (.aload_n 0, 1) := dk_42 (dk_at dksX0_account_5 6 rfl rfl)
theorem dX0_account_161 : decode cX0_account 161 = .ok (.getfield 10, 3) := dk_180 0 10 (dk_at dksX0_account_5 7 rfl rfl)
theorem dX0_account_164 : decode cX0_account 164 = .ok (.getfield 314, 3) := dk_180 1 58 (dk_at dksX0_account_5 10 rfl rfl)
theorem dX0_account_167 : decode cX0_account 167 = .ok (.goto 65, 3) := dk_167 0 65 (dk_at dksX0_account_5 13 rfl rfl)
theorem dX0_account_170 : decode cX0_account 170 = .ok (.aload_n 0, 1) := dk_42 (dk_at dksX0_account_5 16 rfl rfl)
theorem dX0_account_171 : decode cX0_account 171 = .ok (.getfield 10, 3) := dk_180 0 10 (dk_at dksX0_account_5 17 rfl rfl)
theorem dX0_account_174 : decode cX0_account 174 = .ok (.getfield 317, 3) := dk_180 1 61 (dk_at dksX0_account_5 20 rfl rfl)
theorem dX0_account_177 : decode cX0_account 177 = .ok (.goto 55, 3) := dk_167 0 55 (dk_at dksX0_account_6 0 rfl rfl)
theorem dX0_account_180 : decode cX0_account 180 = .ok (.aload_n 0, 1) := dk_42 (dk_at dksX0_account_6 3 rfl rfl)
theorem dX0_account_181 : decode cX0_account 181 = .ok (.getfield 10, 3) := dk_180 0 10 (dk_at dksX0_account_6 4 rfl rfl)
theorem dX0_account_184 : decode cX0_account 184 = .ok (.getfield 320, 3) := dk_180 1 64 (dk_at dksX0_account_6 7 rfl rfl)
theorem dX0_account_187 : decode cX0_account 187 = .ok (.goto 45, 3) := dk_167 0 45 (dk_at dksX0_account_6 10 rfl rfl)
theorem dX0_account_190 : decode cX0_account 190 = .ok (.aload_n 0, 1) := dk_42 (dk_at dksX0_account_6 13 rfl rfl)
theorem dX0_account_191 : decode cX0_account 191 = .ok (.getfield 10, 3) := dk_180 0 10 (dk_at dksX0_account_6 14 rfl rfl)
theorem dX0_account_194 : decode cX0_account 194 = .ok (.getfield 323, 3) := dk_180 1 67 (dk_at dksX0_account_6 17 rfl rfl)
theorem dX0_account_197 : decode cX0_account 197 = .ok (.goto 35, 3) := dk_167 0 35 (dk_at dksX0_account_6 20 rfl rfl)
theorem dX0_account_200 : decode cX0_account 200 = .ok (.aload_n 0, 1) := dk_42 (dk_at dksX0_account_6 23 rfl rfl)
theorem dX0_account_201 : decode cX0_account 201 = .ok (.getfield 10, 3) := dk_180 0 10 (dk_at dksX0_account_7 0 rfl rfl)
theorem dX0_account_204 : decode cX0_account 204 = .ok (.getfield 326, 3) := dk_180 1 70 (dk_at dksX0_account_7 3 rfl rfl)
theorem dX0_account_207 : decode cX0_account 207 = .ok (.goto 25, 3) := dk_167 0 25 (dk_at dksX0_account_7 6 rfl rfl)
theorem dX0_account_210 : decode cX0_account 210 = .ok (.aload_n 0, 1) := dk_42 (dk_at dksX0_account_7 9 rfl rfl)
theorem dX0_account_211 : decode cX0_account 211 = .ok (.getfield 32, 3) := dk_180 0 32 (dk_at dksX0_account_7 10 rfl rfl)
theorem dX0_account_214 : decode cX0_account 214 = .ok (.invokevirtual 250, 3) := dk_182 0 250 (dk_at dksX0_account_7 13 rfl rfl)
theorem dX0_account_217 : decode cX0_account 217 = .ok (.goto 15, 3) := dk_167 0 15 (dk_at dksX0_account_7 16 rfl rfl)
theorem dX0_account_220 : decode cX0_account 220 = .ok (.aload_n 0, 1) := dk_42 (dk_at dksX0_account_7 19 rfl rfl)
theorem dX0_account_221 : decode cX0_account 221 = .ok (.getfield 19, 3) := dk_180 0 19 (dk_at dksX0_account_7 20 rfl rfl)
theorem dX0_account_224 : decode cX0_account 224 = .ok (.invokevirtual 103, 3) := dk_182 0 103 (dk_at dksX0_account_8 0 rfl rfl)
theorem dX0_account_227 : decode cX0_account 227 = .ok (.goto 5, 3) := dk_167 0 5 (dk_at dksX0_account_8 3 rfl rfl)
theorem dX0_account_230 : decode cX0_account 230 = .ok (.bipush (-12), 2) := dk_16 244 (dk_at dksX0_account_8 6 rfl rfl)
theorem dX0_account_232 : decode cX0_account 232 = .ok (.ireturn, 1) := dk_172 (dk_at dksX0_account_8 8 rfl rfl)
abbrev cX0_isBalanced : ByteArray := prog_1_method_44_code
def yX0_isBalanced : MethodName := ⟨RX0, "isBalanced", "()I"⟩
def dkwX0_isBalanced_0 : List UInt8 := [42, 180, 0, 10, 182, 1, 73, 153, 0, 7, 4, 167, 0, 4, 3, 172]
abbrev dktX0_isBalanced_0 : List UInt8 := dkwX0_isBalanced_0 ++ []
theorem dksX0_isBalanced_0 : cX0_isBalanced.data.toList.drop 0 = dktX0_isBalanced_0 := by decide +kernel
theorem dX0_isBalanced_0 : decode cX0_isBalanced 0 = .ok (.aload_n 0, 1) := dk_42 (dk_at dksX0_isBalanced_0 0 rfl rfl)
theorem dX0_isBalanced_1 : decode cX0_isBalanced 1 = .ok (.getfield 10, 3) := dk_180 0 10 (dk_at dksX0_isBalanced_0 1 rfl rfl)
theorem dX0_isBalanced_4 : decode cX0_isBalanced 4 = .ok (.invokevirtual 329, 3) := dk_182 1 73 (dk_at dksX0_isBalanced_0 4 rfl rfl)
theorem dX0_isBalanced_7 : decode cX0_isBalanced 7 = .ok (.ifCond .eq 7, 3) := dk_153 0 7 (dk_at dksX0_isBalanced_0 7 rfl rfl)
theorem dX0_isBalanced_10 : decode cX0_isBalanced 10 = .ok (.iconst 1, 1) := dk_4 (dk_at dksX0_isBalanced_0 10 rfl rfl)
theorem dX0_isBalanced_11 : decode cX0_isBalanced 11 = .ok (.goto 4, 3) := dk_167 0 4 (dk_at dksX0_isBalanced_0 11 rfl rfl)
theorem dX0_isBalanced_14 : decode cX0_isBalanced 14 = .ok (.iconst 0, 1) := dk_3 (dk_at dksX0_isBalanced_0 14 rfl rfl)
theorem dX0_isBalanced_15 : decode cX0_isBalanced 15 = .ok (.ireturn, 1) := dk_172 (dk_at dksX0_isBalanced_0 15 rfl rfl)
abbrev cX0_meanAge : ByteArray := prog_1_method_45_code
def yX0_meanAge : MethodName := ⟨RX0, "meanAge", "()D"⟩
def dkwX0_meanAge_1 : List UInt8 := [182, 1, 77, 135, 27, 135, 111, 175]
abbrev dktX0_meanAge_1 : List UInt8 := dkwX0_meanAge_1 ++ []
def dkwX0_meanAge_0 : List UInt8 := [42, 180, 0, 10, 180, 0, 223, 182, 1, 76, 60, 27, 154, 0, 7, 14, 167, 0, 14, 42, 180, 0, 10]
abbrev dktX0_meanAge_0 : List UInt8 := dkwX0_meanAge_0 ++ dktX0_meanAge_1
theorem dksX0_meanAge_0 : cX0_meanAge.data.toList.drop 0 = dktX0_meanAge_0 := by decide +kernel
theorem dksX0_meanAge_1 : cX0_meanAge.data.toList.drop 23 = dktX0_meanAge_1 := dk_seg dksX0_meanAge_0 23 rfl rfl
theorem dX0_meanAge_0 : decode cX0_meanAge 0 = .ok (.aload_n 0, 1) := dk_42 (dk_at dksX0_meanAge_0 0 rfl rfl)
theorem dX0_meanAge_1 : decode cX0_meanAge 1 = .ok (.getfield 10, 3) := dk_180 0 10 (dk_at dksX0_meanAge_0 1 rfl rfl)
theorem dX0_meanAge_4 : decode cX0_meanAge 4 = .ok (.getfield 223, 3) := dk_180 0 223 (dk_at dksX0_meanAge_0 4 rfl rfl)
theorem dX0_meanAge_7 : decode cX0_meanAge 7 = .ok (.invokevirtual 332, 3) := dk_182 1 76 (dk_at dksX0_meanAge_0 7 rfl rfl)
theorem dX0_meanAge_10 : decode cX0_meanAge 10 = .ok (.istore_n 1, 1) := dk_60 (dk_at dksX0_meanAge_0 10 rfl rfl)
theorem dX0_meanAge_11 : decode cX0_meanAge 11 = .ok (.iload_n 1, 1) := dk_27 (dk_at dksX0_meanAge_0 11 rfl rfl)
theorem dX0_meanAge_12 : decode cX0_meanAge 12 = .ok (.ifCond .ne 7, 3) := dk_154 0 7 (dk_at dksX0_meanAge_0 12 rfl rfl)
theorem dX0_meanAge_15 : decode cX0_meanAge 15 = .ok (.dconst 0, 1) := dk_14 (dk_at dksX0_meanAge_0 15 rfl rfl)
theorem dX0_meanAge_16 : decode cX0_meanAge 16 = .ok (.goto 14, 3) := dk_167 0 14 (dk_at dksX0_meanAge_0 16 rfl rfl)
theorem dX0_meanAge_19 : decode cX0_meanAge 19 = .ok (.aload_n 0, 1) := dk_42 (dk_at dksX0_meanAge_0 19 rfl rfl)
theorem dX0_meanAge_20 : decode cX0_meanAge 20 = .ok (.getfield 10, 3) := dk_180 0 10 (dk_at dksX0_meanAge_0 20 rfl rfl)
theorem dX0_meanAge_23 : decode cX0_meanAge 23 = .ok (.invokevirtual 333, 3) := dk_182 1 77 (dk_at dksX0_meanAge_1 0 rfl rfl)
theorem dX0_meanAge_26 : decode cX0_meanAge 26 = .ok (.i2d, 1) := dk_135 (dk_at dksX0_meanAge_1 3 rfl rfl)
theorem dX0_meanAge_27 : decode cX0_meanAge 27 = .ok (.iload_n 1, 1) := dk_27 (dk_at dksX0_meanAge_1 4 rfl rfl)
theorem dX0_meanAge_28 : decode cX0_meanAge 28 = .ok (.i2d, 1) := dk_135 (dk_at dksX0_meanAge_1 5 rfl rfl)
theorem dX0_meanAge_29 : decode cX0_meanAge 29 = .ok (.ddiv, 1) := dk_111 (dk_at dksX0_meanAge_1 6 rfl rfl)
theorem dX0_meanAge_30 : decode cX0_meanAge 30 = .ok (.dreturn, 1) := dk_175 (dk_at dksX0_meanAge_1 7 rfl rfl)
abbrev cX0_entitledShare : ByteArray := prog_1_method_46_code
def yX0_entitledShare : MethodName := ⟨RX0, "entitledShare", "()F"⟩
def dkwX0_entitledShare_1 : List UInt8 := [182, 1, 80, 134, 27, 134, 110, 174]
abbrev dktX0_entitledShare_1 : List UInt8 := dkwX0_entitledShare_1 ++ []
def dkwX0_entitledShare_0 : List UInt8 := [42, 180, 0, 10, 180, 0, 223, 182, 1, 76, 60, 27, 154, 0, 7, 11, 167, 0, 14, 42, 180, 0, 10]
abbrev dktX0_entitledShare_0 : List UInt8 := dkwX0_entitledShare_0 ++ dktX0_entitledShare_1
theorem dksX0_entitledShare_0 : cX0_entitledShare.data.toList.drop 0 = dktX0_entitledShare_0 := by decide +kernel
theorem dksX0_entitledShare_1 : cX0_entitledShare.data.toList.drop 23 = dktX0_entitledShare_1 := dk_seg dksX0_entitledShare_0 23 rfl rfl
theorem dX0_entitledShare_0 : decode cX0_entitledShare 0 = .ok (.aload_n 0, 1) := dk_42 (dk_at dksX0_entitledShare_0 0 rfl rfl)
theorem dX0_entitledShare_1 : decode cX0_entitledShare 1 = .ok (.getfield 10, 3) := dk_180 0 10 (dk_at dksX0_entitledShare_0 1 rfl rfl)
theorem dX0_entitledShare_4 : decode cX0_entitledShare 4 = .ok (.getfield 223, 3) := dk_180 0 223 (dk_at dksX0_entitledShare_0 4 rfl rfl)
theorem dX0_entitledShare_7 : decode cX0_entitledShare 7 = .ok (.invokevirtual 332, 3) := dk_182 1 76 (dk_at dksX0_entitledShare_0 7 rfl rfl)
theorem dX0_entitledShare_10 : decode cX0_entitledShare 10 = .ok (.istore_n 1, 1) := dk_60 (dk_at dksX0_entitledShare_0 10 rfl rfl)
theorem dX0_entitledShare_11 : decode cX0_entitledShare 11 = .ok (.iload_n 1, 1) := dk_27 (dk_at dksX0_entitledShare_0 11 rfl rfl)
theorem dX0_entitledShare_12 : decode cX0_entitledShare 12 = .ok (.ifCond .ne 7, 3) := dk_154 0 7 (dk_at dksX0_entitledShare_0 12 rfl rfl)
theorem dX0_entitledShare_15 : decode cX0_entitledShare 15 = .ok (.fconst 0, 1) := dk_11 (dk_at dksX0_entitledShare_0 15 rfl rfl)
theorem dX0_entitledShare_16 : decode cX0_entitledShare 16 = .ok (.goto 14, 3) := dk_167 0 14 (dk_at dksX0_entitledShare_0 16 rfl rfl)
theorem dX0_entitledShare_19 : decode cX0_entitledShare 19 = .ok (.aload_n 0, 1) := dk_42 (dk_at dksX0_entitledShare_0 19 rfl rfl)
theorem dX0_entitledShare_20 : decode cX0_entitledShare 20 = .ok (.getfield 10, 3) := dk_180 0 10 (dk_at dksX0_entitledShare_0 20 rfl rfl)
theorem dX0_entitledShare_23 : decode cX0_entitledShare 23 = .ok (.invokevirtual 336, 3) := dk_182 1 80 (dk_at dksX0_entitledShare_1 0 rfl rfl)
theorem dX0_entitledShare_26 : decode cX0_entitledShare 26 = .ok (.i2f, 1) := dk_134 (dk_at dksX0_entitledShare_1 3 rfl rfl)
theorem dX0_entitledShare_27 : decode cX0_entitledShare 27 = .ok (.iload_n 1, 1) := dk_27 (dk_at dksX0_entitledShare_1 4 rfl rfl)
theorem dX0_entitledShare_28 : decode cX0_entitledShare 28 = .ok (.i2f, 1) := dk_134 (dk_at dksX0_entitledShare_1 5 rfl rfl)
theorem dX0_entitledShare_29 : decode cX0_entitledShare 29 = .ok (.fdiv, 1) := dk_110 (dk_at dksX0_entitledShare_1 6 rfl rfl)
theorem dX0_entitledShare_30 : decode cX0_entitledShare 30 = .ok (.freturn, 1) := dk_174 (dk_at dksX0_entitledShare_1 7 rfl rfl)
abbrev cX0_undo : ByteArray := prog_1_method_47_code
def yX0_undo : MethodName := ⟨RX0, "undo", "()I"⟩
def dkwX0_undo_1 : List UInt8 := [181, 0, 10, 42, 180, 0, 19, 182, 0, 103, 172]
abbrev dktX0_undo_1 : List UInt8 := dkwX0_undo_1 ++ []
def dkwX0_undo_0 : List UInt8 := [42, 180, 0, 19, 182, 1, 83, 153, 0, 6, 16, 241, 172, 42, 42, 180, 0, 19, 182, 1, 86, 192, 0, 7]
abbrev dktX0_undo_0 : List UInt8 := dkwX0_undo_0 ++ dktX0_undo_1
theorem dksX0_undo_0 : cX0_undo.data.toList.drop 0 = dktX0_undo_0 := by decide +kernel
theorem dksX0_undo_1 : cX0_undo.data.toList.drop 24 = dktX0_undo_1 := dk_seg dksX0_undo_0 24 rfl rfl
theorem dX0_undo_0 : decode cX0_undo 0 = .ok (.aload_n 0, 1) := dk_42 (dk_at dksX0_undo_0 0 rfl rfl)
theorem dX0_undo_1 : decode cX0_undo 1 = .ok (.getfield 19, 3) := dk_180 0 19 (dk_at dksX0_undo_0 1 rfl rfl)
theorem dX0_undo_4 : decode cX0_undo 4 = .ok (.invokevirtual 339, 3) := dk_182 1 83 (dk_at dksX0_undo_0 4 rfl rfl)
theorem dX0_undo_7 : decode cX0_undo 7 = .ok (.ifCond .eq 6, 3) := dk_153 0 6 (dk_at dksX0_undo_0 7 rfl rfl)
theorem dX0_undo_10 : decode cX0_undo 10 = .ok (.bipush (-15), 2) := dk_16 241 (dk_at dksX0_undo_0 10 rfl rfl)
theorem dX0_undo_12 : decode cX0_undo 12 = .ok (.ireturn, 1) := dk_172 (dk_at dksX0_undo_0 12 rfl rfl)
theorem dX0_undo_13 : decode cX0_undo 13 = .ok (.aload_n 0, 1) := dk_42 (dk_at dksX0_undo_0 13 rfl rfl)
theorem dX0_undo_14 : decode cX0_undo 14 = .ok (.aload_n 0, 1) := dk_42 (dk_at dksX0_undo_0 14 rfl rfl)
theorem dX0_undo_15 : decode cX0_undo 15 = .ok (.getfield 19, 3) := dk_180 0 19 (dk_at dksX0_undo_0 15 rfl rfl)
theorem dX0_undo_18 : decode cX0_undo 18 = .ok (.invokevirtual 342, 3) := dk_182 1 86 (dk_at dksX0_undo_0 18 rfl rfl)
theorem dX0_undo_21 : decode cX0_undo 21 = .ok (.checkcast 7, 3) := dk_192 0 7 (dk_at dksX0_undo_0 21 rfl rfl)
theorem dX0_undo_24 : decode cX0_undo 24 = .ok (.putfield 10, 3) := dk_181 0 10 (dk_at dksX0_undo_1 0 rfl rfl)
theorem dX0_undo_27 : decode cX0_undo 27 = .ok (.aload_n 0, 1) := dk_42 (dk_at dksX0_undo_1 3 rfl rfl)
theorem dX0_undo_28 : decode cX0_undo 28 = .ok (.getfield 19, 3) := dk_180 0 19 (dk_at dksX0_undo_1 4 rfl rfl)
theorem dX0_undo_31 : decode cX0_undo 31 = .ok (.invokevirtual 103, 3) := dk_182 0 103 (dk_at dksX0_undo_1 7 rfl rfl)
theorem dX0_undo_34 : decode cX0_undo 34 = .ok (.ireturn, 1) := dk_172 (dk_at dksX0_undo_1 10 rfl rfl)
abbrev cX0_save : ByteArray := prog_1_method_48_code
def yX0_save : MethodName := ⟨RX0, "save", "()I"⟩
def dkwX0_save_0 : List UInt8 := [42, 42, 180, 0, 10, 182, 0, 109, 181, 1, 89, 42, 180, 1, 89, 180, 0, 178, 182, 1, 48, 172]
abbrev dktX0_save_0 : List UInt8 := dkwX0_save_0 ++ []
theorem dksX0_save_0 : cX0_save.data.toList.drop 0 = dktX0_save_0 := by decide +kernel
theorem dX0_save_0 : decode cX0_save 0 = .ok (.aload_n 0, 1) := dk_42 (dk_at dksX0_save_0 0 rfl rfl)
theorem dX0_save_1 : decode cX0_save 1 = .ok (.aload_n 0, 1) := dk_42 (dk_at dksX0_save_0 1 rfl rfl)
theorem dX0_save_2 : decode cX0_save 2 = .ok (.getfield 10, 3) := dk_180 0 10 (dk_at dksX0_save_0 2 rfl rfl)
theorem dX0_save_5 : decode cX0_save 5 = .ok (.invokevirtual 109, 3) := dk_182 0 109 (dk_at dksX0_save_0 5 rfl rfl)
theorem dX0_save_8 : decode cX0_save 8 = .ok (.putfield 345, 3) := dk_181 1 89 (dk_at dksX0_save_0 8 rfl rfl)
theorem dX0_save_11 : decode cX0_save 11 = .ok (.aload_n 0, 1) := dk_42 (dk_at dksX0_save_0 11 rfl rfl)
theorem dX0_save_12 : decode cX0_save 12 = .ok (.getfield 345, 3) := dk_180 1 89 (dk_at dksX0_save_0 12 rfl rfl)
theorem dX0_save_15 : decode cX0_save 15 = .ok (.getfield 178, 3) := dk_180 0 178 (dk_at dksX0_save_0 15 rfl rfl)
theorem dX0_save_18 : decode cX0_save 18 = .ok (.invokevirtual 304, 3) := dk_182 1 48 (dk_at dksX0_save_0 18 rfl rfl)
theorem dX0_save_21 : decode cX0_save 21 = .ok (.ireturn, 1) := dk_172 (dk_at dksX0_save_0 21 rfl rfl)
abbrev cX0_restore : ByteArray := prog_1_method_49_code
def yX0_restore : MethodName := ⟨RX0, "restore", "()I"⟩
def dkwX0_restore_1 : List UInt8 := [180, 0, 19, 182, 1, 92, 42, 180, 0, 10, 180, 0, 178, 182, 1, 48, 172]
abbrev dktX0_restore_1 : List UInt8 := dkwX0_restore_1 ++ []
def dkwX0_restore_0 : List UInt8 := [42, 180, 1, 89, 199, 0, 6, 16, 241, 172, 42, 42, 180, 1, 89, 182, 0, 109, 181, 0, 10, 42]
abbrev dktX0_restore_0 : List UInt8 := dkwX0_restore_0 ++ dktX0_restore_1
theorem dksX0_restore_0 : cX0_restore.data.toList.drop 0 = dktX0_restore_0 := by decide +kernel
theorem dksX0_restore_1 : cX0_restore.data.toList.drop 22 = dktX0_restore_1 := dk_seg dksX0_restore_0 22 rfl rfl
theorem dX0_restore_0 : decode cX0_restore 0 = .ok (.aload_n 0, 1) := dk_42 (dk_at dksX0_restore_0 0 rfl rfl)
theorem dX0_restore_1 : decode cX0_restore 1 = .ok (.getfield 345, 3) := dk_180 1 89 (dk_at dksX0_restore_0 1 rfl rfl)
theorem dX0_restore_4 : decode cX0_restore 4 = .ok (.ifnonnull 6, 3) := dk_199 0 6 (dk_at dksX0_restore_0 4 rfl rfl)
theorem dX0_restore_7 : decode cX0_restore 7 = .ok (.bipush (-15), 2) := dk_16 241 (dk_at dksX0_restore_0 7 rfl rfl)
theorem dX0_restore_9 : decode cX0_restore 9 = .ok (.ireturn, 1) := dk_172 (dk_at dksX0_restore_0 9 rfl rfl)
theorem dX0_restore_10 : decode cX0_restore 10 = .ok (.aload_n 0, 1) := dk_42 (dk_at dksX0_restore_0 10 rfl rfl)
theorem dX0_restore_11 : decode cX0_restore 11 = .ok (.aload_n 0, 1) := dk_42 (dk_at dksX0_restore_0 11 rfl rfl)
theorem dX0_restore_12 : decode cX0_restore 12 = .ok (.getfield 345, 3) := dk_180 1 89 (dk_at dksX0_restore_0 12 rfl rfl)
theorem dX0_restore_15 : decode cX0_restore 15 = .ok (.invokevirtual 109, 3) := dk_182 0 109 (dk_at dksX0_restore_0 15 rfl rfl)
theorem dX0_restore_18 : decode cX0_restore 18 = .ok (.putfield 10, 3) := dk_181 0 10 (dk_at dksX0_restore_0 18 rfl rfl)
theorem dX0_restore_21 : decode cX0_restore 21 = .ok (.aload_n 0, 1) := dk_42 (dk_at dksX0_restore_0 21 rfl rfl)
theorem dX0_restore_22 : decode cX0_restore 22 = .ok (.getfield 19, 3) := dk_180 0 19 (dk_at dksX0_restore_1 0 rfl rfl)
theorem dX0_restore_25 : decode cX0_restore 25 = .ok (.invokevirtual 348, 3) := dk_182 1 92 (dk_at dksX0_restore_1 3 rfl rfl)
theorem dX0_restore_28 : decode cX0_restore 28 = .ok (.aload_n 0, 1) := dk_42 (dk_at dksX0_restore_1 6 rfl rfl)
theorem dX0_restore_29 : decode cX0_restore 29 = .ok (.getfield 10, 3) := dk_180 0 10 (dk_at dksX0_restore_1 7 rfl rfl)
theorem dX0_restore_32 : decode cX0_restore 32 = .ok (.getfield 178, 3) := dk_180 0 178 (dk_at dksX0_restore_1 10 rfl rfl)
theorem dX0_restore_35 : decode cX0_restore 35 = .ok (.invokevirtual 304, 3) := dk_182 1 48 (dk_at dksX0_restore_1 13 rfl rfl)
theorem dX0_restore_38 : decode cX0_restore 38 = .ok (.ireturn, 1) := dk_172 (dk_at dksX0_restore_1 16 rfl rfl)
theorem q98 : (Jvm.Cond.initialized "PittanceHouse") ∈ lw_all := lw_g (lw_at lw_m1 1 rfl) rfl
theorem q145 : (Jvm.Cond.instantiable "PittanceHouse" (8 : Nat)) ∈ lw_all := lw_g (lw_at lw_m1 48 rfl) rfl
theorem q147 : (Jvm.Cond.instanceMethod ({ cls := "PittanceHouse", name := "<init>", desc := "()V" } : Jvm.MethodName)) ∈ lw_all := lw_g (lw_at lw_m1 50 rfl) rfl
theorem q148 : (Jvm.Cond.code ({ cls := "PittanceHouse", name := "<init>", desc := "()V" } : Jvm.MethodName) prog_1_method_1_code (2 : Nat) (Option.none : Option Jvm.ClassFile.FieldType)) ∈ lw_all := lw_g (lw_at lw_m1 51 rfl) rfl
theorem q149 : (Jvm.Cond.methodLink "PittanceHouse" (1 : Nat) ({ cls := "java/lang/Object", name := "<init>", desc := "()V" } : Jvm.MethodName)) ∈ lw_all := lw_g (lw_at lw_m1 52 rfl) rfl
theorem q152 : (Jvm.Cond.classLink "PittanceHouse" (7 : Nat) "PittanceHouse$House") ∈ lw_all := lw_g (lw_at lw_m1 55 rfl) rfl
theorem q154 : (Jvm.Cond.methodLink "PittanceHouse" (9 : Nat) ({ cls := "PittanceHouse$House", name := "<init>", desc := "()V" } : Jvm.MethodName)) ∈ lw_all := lw_g (lw_at lw_m1 57 rfl) rfl
theorem q216 : (Jvm.Cond.fieldLinkNest "PittanceHouse" (178 : Nat) "PittanceHouse$House" "brethren" "Ljava/util/ArrayList;" "PittanceHouse") ∈ lw_tbl := lw_at lw_m1 119 rfl
theorem q219 : (Jvm.Cond.fieldLinkNest "PittanceHouse" (223 : Nat) "PittanceHouse$House" "seniors" "Ljava/util/LinkedList;" "PittanceHouse") ∈ lw_tbl := lw_at lw_m1 122 rfl
theorem q222 : (Jvm.Cond.fieldLinkNest "PittanceHouse" (194 : Nat) "PittanceHouse$House" "cells" "[I" "PittanceHouse") ∈ lw_tbl := lw_at lw_m1 125 rfl
theorem q225 : (Jvm.Cond.fieldLinkNest "PittanceHouse" (298 : Nat) "PittanceHouse$House" "year" "I" "PittanceHouse") ∈ lw_tbl := lw_at lw_m1 128 rfl
theorem q227 : (Jvm.Cond.fieldLinkNest "PittanceHouse" (301 : Nat) "PittanceHouse$House" "week" "I" "PittanceHouse") ∈ lw_tbl := lw_at lw_m1 130 rfl
theorem q229 : (Jvm.Cond.fieldLinkNest "PittanceHouse" (247 : Nat) "PittanceHouse$House" "chest" "I" "PittanceHouse") ∈ lw_tbl := lw_at lw_m1 132 rfl
theorem q231 : (Jvm.Cond.fieldLinkNest "PittanceHouse" (314 : Nat) "PittanceHouse$House" "came" "I" "PittanceHouse") ∈ lw_tbl := lw_at lw_m1 134 rfl
theorem q233 : (Jvm.Cond.fieldLinkNest "PittanceHouse" (317 : Nat) "PittanceHouse$House" "paid" "I" "PittanceHouse") ∈ lw_tbl := lw_at lw_m1 136 rfl
theorem q235 : (Jvm.Cond.fieldLinkNest "PittanceHouse" (320 : Nat) "PittanceHouse$House" "paidForGowns" "I" "PittanceHouse") ∈ lw_tbl := lw_at lw_m1 138 rfl
theorem q237 : (Jvm.Cond.fieldLinkNest "PittanceHouse" (323 : Nat) "PittanceHouse$House" "gowns" "I" "PittanceHouse") ∈ lw_tbl := lw_at lw_m1 140 rfl
theorem q239 : (Jvm.Cond.fieldLinkNest "PittanceHouse" (326 : Nat) "PittanceHouse$House" "pardons" "I" "PittanceHouse") ∈ lw_tbl := lw_at lw_m1 142 rfl
theorem q268 : (Jvm.Cond.classLink "PittanceHouse" (16 : Nat) "java/util/ArrayDeque") ∈ lw_all := lw_g (lw_at lw_m1 171 rfl) rfl
theorem q270 : (Jvm.Cond.methodLink "PittanceHouse" (18 : Nat) ({ cls := "java/util/ArrayDeque", name := "<init>", desc := "()V" } : Jvm.MethodName)) ∈ lw_all := lw_g (lw_at lw_m1 173 rfl) rfl
theorem q287 : (Jvm.Cond.classLink "PittanceHouse" (23 : Nat) "PittanceHouse$Ahead") ∈ lw_all := lw_g (lw_at lw_m1 190 rfl) rfl
theorem q289 : (Jvm.Cond.classLink "PittanceHouse" (29 : Nat) "java/lang/StringBuilder") ∈ lw_all := lw_g (lw_at lw_m1 192 rfl) rfl
theorem q291 : (Jvm.Cond.methodLink "PittanceHouse" (31 : Nat) ({ cls := "java/lang/StringBuilder", name := "<init>", desc := "()V" } : Jvm.MethodName)) ∈ lw_all := lw_g (lw_at lw_m1 194 rfl) rfl
theorem q322 : (Jvm.Cond.stringRef "PittanceHouse" (36 : Nat) "") ∈ lw_tbl := lw_at lw_m1 225 rfl
theorem q323 : (Jvm.Cond.static ({ cls := "PittanceHouse", name := "lambda$new$0", desc := "(III)Z" } : Jvm.MethodName)) ∈ lw_all := lw_g (lw_at lw_m1 226 rfl) rfl
theorem q324 : (Jvm.Cond.code ({ cls := "PittanceHouse", name := "lambda$new$0", desc := "(III)Z" } : Jvm.MethodName) prog_1_method_51_code (3 : Nat) (Option.some Jvm.ClassFile.FieldType.boolean)) ∈ lw_all := lw_g (lw_at lw_m1 227 rfl) rfl
theorem q325 : (Jvm.Cond.static ({ cls := "PittanceHouse", name := "lambda$new$1", desc := "(III)Z" } : Jvm.MethodName)) ∈ lw_all := lw_g (lw_at lw_m1 228 rfl) rfl
theorem q326 : (Jvm.Cond.code ({ cls := "PittanceHouse", name := "lambda$new$1", desc := "(III)Z" } : Jvm.MethodName) prog_1_method_50_code (3 : Nat) (Option.some Jvm.ClassFile.FieldType.boolean)) ∈ lw_all := lw_g (lw_at lw_m1 229 rfl) rfl
theorem q327 : (Jvm.Cond.fieldLink "PittanceHouse" (10 : Nat) "PittanceHouse" "house" "LPittanceHouse$House;") ∈ lw_all := lw_g (lw_at lw_m1 230 rfl) rfl
theorem q328 : (Jvm.Cond.fieldLink "PittanceHouse" (345 : Nat) "PittanceHouse" "saved" "LPittanceHouse$House;") ∈ lw_all := lw_g (lw_at lw_m1 231 rfl) rfl
theorem q329 : (Jvm.Cond.fieldLink "PittanceHouse" (19 : Nat) "PittanceHouse" "past" "Ljava/util/ArrayDeque;") ∈ lw_all := lw_g (lw_at lw_m1 232 rfl) rfl
theorem q330 : (Jvm.Cond.fieldLink "PittanceHouse" (60 : Nat) "PittanceHouse" "reason" "I") ∈ lw_all := lw_g (lw_at lw_m1 233 rfl) rfl
theorem q331 : (Jvm.Cond.fieldLink "PittanceHouse" (64 : Nat) "PittanceHouse" "detail" "I") ∈ lw_all := lw_g (lw_at lw_m1 234 rfl) rfl
theorem q332 : (Jvm.Cond.fieldLink "PittanceHouse" (25 : Nat) "PittanceHouse" "aheads" "[LPittanceHouse$Ahead;") ∈ lw_all := lw_g (lw_at lw_m1 235 rfl) rfl
theorem q333 : (Jvm.Cond.fieldLink "PittanceHouse" (32 : Nat) "PittanceHouse" "text" "Ljava/lang/StringBuilder;") ∈ lw_all := lw_g (lw_at lw_m1 236 rfl) rfl
theorem q335 : (Jvm.Cond.fieldLink "PittanceHouse" (38 : Nat) "PittanceHouse" "line" "Ljava/lang/String;") ∈ lw_all := lw_g (lw_at lw_m1 238 rfl) rfl
theorem q336 : (Jvm.Cond.lays "PittanceHouse" "PittanceHouse" "house" "LPittanceHouse$House;") ∈ lw_all := lw_g (lw_at lw_m1 239 rfl) rfl
theorem q337 : (Jvm.Cond.soleField "PittanceHouse" "house") ∈ lw_all := lw_g (lw_at lw_m2 0 rfl) rfl
theorem q338 : (Jvm.Cond.lays "PittanceHouse" "PittanceHouse" "saved" "LPittanceHouse$House;") ∈ lw_all := lw_g (lw_at lw_m2 1 rfl) rfl
theorem q339 : (Jvm.Cond.soleField "PittanceHouse" "saved") ∈ lw_all := lw_g (lw_at lw_m2 2 rfl) rfl
theorem q340 : (Jvm.Cond.laysFinal "PittanceHouse" "PittanceHouse" "past" "Ljava/util/ArrayDeque;") ∈ lw_all := lw_g (lw_at lw_m2 3 rfl) rfl
theorem q341 : (Jvm.Cond.soleField "PittanceHouse" "past") ∈ lw_all := lw_g (lw_at lw_m2 4 rfl) rfl
theorem q342 : (Jvm.Cond.lays "PittanceHouse" "PittanceHouse" "reason" "I") ∈ lw_all := lw_g (lw_at lw_m2 5 rfl) rfl
theorem q343 : (Jvm.Cond.soleField "PittanceHouse" "reason") ∈ lw_all := lw_g (lw_at lw_m2 6 rfl) rfl
theorem q344 : (Jvm.Cond.lays "PittanceHouse" "PittanceHouse" "detail" "I") ∈ lw_all := lw_g (lw_at lw_m2 7 rfl) rfl
theorem q345 : (Jvm.Cond.soleField "PittanceHouse" "detail") ∈ lw_all := lw_g (lw_at lw_m2 8 rfl) rfl
theorem q346 : (Jvm.Cond.laysFinal "PittanceHouse" "PittanceHouse" "aheads" "[LPittanceHouse$Ahead;") ∈ lw_all := lw_g (lw_at lw_m2 9 rfl) rfl
theorem q347 : (Jvm.Cond.soleField "PittanceHouse" "aheads") ∈ lw_all := lw_g (lw_at lw_m2 10 rfl) rfl
theorem q348 : (Jvm.Cond.laysFinal "PittanceHouse" "PittanceHouse" "text" "Ljava/lang/StringBuilder;") ∈ lw_all := lw_g (lw_at lw_m2 11 rfl) rfl
theorem q349 : (Jvm.Cond.soleField "PittanceHouse" "text") ∈ lw_all := lw_g (lw_at lw_m2 12 rfl) rfl
theorem q350 : (Jvm.Cond.lays "PittanceHouse" "PittanceHouse" "line" "Ljava/lang/String;") ∈ lw_all := lw_g (lw_at lw_m2 13 rfl) rfl
theorem q351 : (Jvm.Cond.soleField "PittanceHouse" "line") ∈ lw_all := lw_g (lw_at lw_m2 14 rfl) rfl
theorem q352 : (Jvm.Cond.superclass "PittanceHouse" "java/lang/Object") ∈ lw_all := lw_g (lw_at lw_m2 15 rfl) rfl
theorem q354 : (Jvm.Cond.instanceMethod ({ cls := "PittanceHouse", name := "come", desc := "(IZ)I" } : Jvm.MethodName)) ∈ lw_all := lw_g (lw_at lw_m2 17 rfl) rfl
theorem q355 : (Jvm.Cond.selects "PittanceHouse" ({ cls := "PittanceHouse", name := "come", desc := "(IZ)I" } : Jvm.MethodName) ({ cls := "PittanceHouse", name := "come", desc := "(IZ)I" } : Jvm.MethodName)) ∈ lw_all := lw_g (lw_at lw_m2 18 rfl) rfl
theorem q356 : (Jvm.Cond.codeWith ({ cls := "PittanceHouse", name := "come", desc := "(IZ)I" } : Jvm.MethodName) prog_1_method_12_code (5 : Nat) (Option.some Jvm.ClassFile.FieldType.int) [((22 : Nat), (36 : Nat), (37 : Nat), (51 : Nat))]) ∈ lw_all := lw_g (lw_at lw_m2 19 rfl) rfl
theorem q357 : (Jvm.Cond.classLink "PittanceHouse" (51 : Nat) "PittanceHouse$Refused") ∈ lw_all := lw_g (lw_at lw_m2 20 rfl) rfl
theorem q358 : (Jvm.Cond.methodLink "PittanceHouse" (47 : Nat) ({ cls := "PittanceHouse", name := "isIn", desc := "(III)Z" } : Jvm.MethodName)) ∈ lw_all := lw_g (lw_at lw_m2 21 rfl) rfl
theorem q359 : (Jvm.Cond.static ({ cls := "PittanceHouse", name := "isIn", desc := "(III)Z" } : Jvm.MethodName)) ∈ lw_all := lw_g (lw_at lw_m2 22 rfl) rfl
theorem q360 : (Jvm.Cond.code ({ cls := "PittanceHouse", name := "isIn", desc := "(III)Z" } : Jvm.MethodName) prog_1_method_2_code (3 : Nat) (Option.some Jvm.ClassFile.FieldType.boolean)) ∈ lw_all := lw_g (lw_at lw_m2 23 rfl) rfl
theorem q361 : (Jvm.Cond.methodLink "PittanceHouse" (109 : Nat) ({ cls := "PittanceHouse$House", name := "copy", desc := "()LPittanceHouse$House;" } : Jvm.MethodName)) ∈ lw_all := lw_g (lw_at lw_m2 24 rfl) rfl
theorem q591 : (Jvm.Cond.selects "PittanceHouse" ({ cls := "java/lang/Object", name := "getClass", desc := "()Ljava/lang/Class;" } : Jvm.MethodName) ({ cls := "java/lang/Object", name := "getClass", desc := "()Ljava/lang/Class;" } : Jvm.MethodName)) ∈ lw_all := lw_g (lw_at lw_m3 14 rfl) rfl
theorem q884 : (Jvm.Cond.fieldLinkNest "PittanceHouse" (244 : Nat) "PittanceHouse$Brother" "pence" "I" "PittanceHouse") ∈ lw_tbl := lw_at lw_m4 67 rfl
theorem q888 : (Jvm.Cond.fieldLinkNest "PittanceHouse" (190 : Nat) "PittanceHouse$Brother" "broke" "[I" "PittanceHouse") ∈ lw_tbl := lw_at lw_m4 71 rfl
theorem q1070 : (Jvm.Cond.methodLink "PittanceHouse" (113 : Nat) ({ cls := "PittanceHouse$House", name := "comes", desc := "(IZ)I" } : Jvm.MethodName)) ∈ lw_all := lw_g (lw_at lw_m5 13 rfl) rfl
theorem q1076 : (Jvm.Cond.static ({ cls := "PittanceHouse", name := "refuse", desc := "(ZII)V" } : Jvm.MethodName)) ∈ lw_all := lw_g (lw_at lw_m5 19 rfl) rfl
theorem q1077 : (Jvm.Cond.code ({ cls := "PittanceHouse", name := "refuse", desc := "(ZII)V" } : Jvm.MethodName) prog_1_method_8_code (3 : Nat) (Option.none : Option Jvm.ClassFile.FieldType)) ∈ lw_all := lw_g (lw_at lw_m5 20 rfl) rfl
theorem q1086 : (Jvm.Cond.methodLink "PittanceHouse" (53 : Nat) ({ cls := "PittanceHouse$Refused", name := "<init>", desc := "(II)V" } : Jvm.MethodName)) ∈ lw_all := lw_g (lw_at lw_m5 29 rfl) rfl
theorem q1096 : (Jvm.Cond.fieldLinkNest "PittanceHouse" (56 : Nat) "PittanceHouse$Refused" "reason" "I" "PittanceHouse") ∈ lw_tbl := lw_at lw_m5 39 rfl
theorem q1098 : (Jvm.Cond.fieldLinkNest "PittanceHouse" (61 : Nat) "PittanceHouse$Refused" "detail" "I" "PittanceHouse") ∈ lw_tbl := lw_at lw_m5 41 rfl
theorem q1106 : (Jvm.Cond.methodLink "PittanceHouse" (117 : Nat) ({ cls := "PittanceHouse", name := "changed", desc := "(LPittanceHouse$House;I)I" } : Jvm.MethodName)) ∈ lw_all := lw_g (lw_at lw_m5 49 rfl) rfl
theorem q1107 : (Jvm.Cond.privateMethod ({ cls := "PittanceHouse", name := "changed", desc := "(LPittanceHouse$House;I)I" } : Jvm.MethodName)) ∈ lw_tbl := lw_at lw_m5 50 rfl
theorem q1108 : (Jvm.Cond.instanceMethod ({ cls := "PittanceHouse", name := "changed", desc := "(LPittanceHouse$House;I)I" } : Jvm.MethodName)) ∈ lw_all := lw_g (lw_at lw_m5 51 rfl) rfl
theorem q1109 : (Jvm.Cond.code ({ cls := "PittanceHouse", name := "changed", desc := "(LPittanceHouse$House;I)I" } : Jvm.MethodName) prog_1_method_11_code (3 : Nat) (Option.some Jvm.ClassFile.FieldType.int)) ∈ lw_all := lw_g (lw_at lw_m5 52 rfl) rfl
theorem q1110 : (Jvm.Cond.methodLink "PittanceHouse" (99 : Nat) ({ cls := "java/util/ArrayDeque", name := "addLast", desc := "(Ljava/lang/Object;)V" } : Jvm.MethodName)) ∈ lw_all := lw_g (lw_at lw_m5 53 rfl) rfl
theorem q1127 : (Jvm.Cond.methodLink "PittanceHouse" (103 : Nat) ({ cls := "java/util/ArrayDeque", name := "size", desc := "()I" } : Jvm.MethodName)) ∈ lw_all := lw_g (lw_at lw_m5 70 rfl) rfl
theorem q1134 : (Jvm.Cond.methodLink "PittanceHouse" (106 : Nat) ({ cls := "java/util/ArrayDeque", name := "removeFirst", desc := "()Ljava/lang/Object;" } : Jvm.MethodName)) ∈ lw_all := lw_g (lw_at lw_m5 77 rfl) rfl
theorem q1145 : (Jvm.Cond.methodLink "PittanceHouse" (121 : Nat) ({ cls := "PittanceHouse", name := "refused", desc := "(LPittanceHouse$Refused;)I" } : Jvm.MethodName)) ∈ lw_all := lw_g (lw_at lw_m5 88 rfl) rfl
theorem q1146 : (Jvm.Cond.privateMethod ({ cls := "PittanceHouse", name := "refused", desc := "(LPittanceHouse$Refused;)I" } : Jvm.MethodName)) ∈ lw_tbl := lw_at lw_m5 89 rfl
theorem q1147 : (Jvm.Cond.instanceMethod ({ cls := "PittanceHouse", name := "refused", desc := "(LPittanceHouse$Refused;)I" } : Jvm.MethodName)) ∈ lw_all := lw_g (lw_at lw_m5 90 rfl) rfl
theorem q1148 : (Jvm.Cond.code ({ cls := "PittanceHouse", name := "refused", desc := "(LPittanceHouse$Refused;)I" } : Jvm.MethodName) prog_1_method_9_code (2 : Nat) (Option.some Jvm.ClassFile.FieldType.int)) ∈ lw_all := lw_g (lw_at lw_m5 91 rfl) rfl
theorem q1150 : (Jvm.Cond.instanceMethod ({ cls := "PittanceHouse", name := "withdraw", desc := "(I)I" } : Jvm.MethodName)) ∈ lw_all := lw_g (lw_at lw_m5 93 rfl) rfl
theorem q1151 : (Jvm.Cond.selects "PittanceHouse" ({ cls := "PittanceHouse", name := "withdraw", desc := "(I)I" } : Jvm.MethodName) ({ cls := "PittanceHouse", name := "withdraw", desc := "(I)I" } : Jvm.MethodName)) ∈ lw_all := lw_g (lw_at lw_m5 94 rfl) rfl
theorem q1152 : (Jvm.Cond.codeWith ({ cls := "PittanceHouse", name := "withdraw", desc := "(I)I" } : Jvm.MethodName) prog_1_method_13_code (4 : Nat) (Option.some Jvm.ClassFile.FieldType.int) [((22 : Nat), (35 : Nat), (36 : Nat), (51 : Nat))]) ∈ lw_all := lw_g (lw_at lw_m5 95 rfl) rfl
theorem q1153 : (Jvm.Cond.methodLink "PittanceHouse" (125 : Nat) ({ cls := "PittanceHouse$House", name := "has", desc := "(I)Z" } : Jvm.MethodName)) ∈ lw_all := lw_g (lw_at lw_m5 96 rfl) rfl
theorem q1158 : (Jvm.Cond.methodLink "PittanceHouse" (129 : Nat) ({ cls := "PittanceHouse$House", name := "withdraws", desc := "(I)I" } : Jvm.MethodName)) ∈ lw_all := lw_g (lw_at lw_m5 101 rfl) rfl
theorem q1278 : (Jvm.Cond.instanceMethod ({ cls := "PittanceHouse", name := "voice", desc := "(II)I" } : Jvm.MethodName)) ∈ lw_all := lw_g (lw_at lw_m5 221 rfl) rfl
theorem q1279 : (Jvm.Cond.selects "PittanceHouse" ({ cls := "PittanceHouse", name := "voice", desc := "(II)I" } : Jvm.MethodName) ({ cls := "PittanceHouse", name := "voice", desc := "(II)I" } : Jvm.MethodName)) ∈ lw_all := lw_g (lw_at lw_m5 222 rfl) rfl
theorem q1280 : (Jvm.Cond.codeWith ({ cls := "PittanceHouse", name := "voice", desc := "(II)I" } : Jvm.MethodName) prog_1_method_14_code (5 : Nat) (Option.some Jvm.ClassFile.FieldType.int) [((33 : Nat), (47 : Nat), (48 : Nat), (51 : Nat))]) ∈ lw_all := lw_g (lw_at lw_m5 223 rfl) rfl
theorem q1281 : (Jvm.Cond.methodLink "PittanceHouse" (133 : Nat) ({ cls := "PittanceHouse$House", name := "gives", desc := "(II)I" } : Jvm.MethodName)) ∈ lw_all := lw_g (lw_at lw_m5 224 rfl) rfl
theorem q1294 : (Jvm.Cond.instanceMethod ({ cls := "PittanceHouse", name := "choose", desc := "(I)I" } : Jvm.MethodName)) ∈ lw_all := lw_g (lw_at lw_m5 237 rfl) rfl
theorem q1295 : (Jvm.Cond.selects "PittanceHouse" ({ cls := "PittanceHouse", name := "choose", desc := "(I)I" } : Jvm.MethodName) ({ cls := "PittanceHouse", name := "choose", desc := "(I)I" } : Jvm.MethodName)) ∈ lw_all := lw_g (lw_at lw_m5 238 rfl) rfl
theorem q1296 : (Jvm.Cond.codeWith ({ cls := "PittanceHouse", name := "choose", desc := "(I)I" } : Jvm.MethodName) prog_1_method_15_code (4 : Nat) (Option.some Jvm.ClassFile.FieldType.int) [((18 : Nat), (37 : Nat), (38 : Nat), (51 : Nat))]) ∈ lw_all := lw_g (lw_at lw_m5 239 rfl) rfl
theorem q1297 : (Jvm.Cond.methodLink "PittanceHouse" (137 : Nat) ({ cls := "PittanceHouse", name := "isCell", desc := "(I)Z" } : Jvm.MethodName)) ∈ lw_all := lw_g (lw_at lw_m6 0 rfl) rfl
theorem q1298 : (Jvm.Cond.static ({ cls := "PittanceHouse", name := "isCell", desc := "(I)Z" } : Jvm.MethodName)) ∈ lw_all := lw_g (lw_at lw_m6 1 rfl) rfl
theorem q1299 : (Jvm.Cond.code ({ cls := "PittanceHouse", name := "isCell", desc := "(I)Z" } : Jvm.MethodName) prog_1_method_3_code (1 : Nat) (Option.some Jvm.ClassFile.FieldType.boolean)) ∈ lw_all := lw_g (lw_at lw_m6 2 rfl) rfl
theorem q1300 : (Jvm.Cond.methodLink "PittanceHouse" (140 : Nat) ({ cls := "PittanceHouse$House", name := "chooses", desc := "(ILPittanceHouse$Ahead;)I" } : Jvm.MethodName)) ∈ lw_all := lw_g (lw_at lw_m6 3 rfl) rfl
theorem q1320 : (Jvm.Cond.static ({ cls := "PittanceHouse", name := "placed", desc := "(Ljava/lang/Iterable;[ILPittanceHouse$Ahead;I)I" } : Jvm.MethodName)) ∈ lw_all := lw_g (lw_at lw_m6 23 rfl) rfl
theorem q1321 : (Jvm.Cond.code ({ cls := "PittanceHouse", name := "placed", desc := "(Ljava/lang/Iterable;[ILPittanceHouse$Ahead;I)I" } : Jvm.MethodName) prog_1_method_10_code (9 : Nat) (Option.some Jvm.ClassFile.FieldType.int)) ∈ lw_all := lw_g (lw_at lw_m6 24 rfl) rfl
theorem q1322 : (Jvm.Cond.interfaceEntry "PittanceHouse" (65 : Nat)) ∈ lw_tbl := lw_at lw_m6 25 rfl
theorem q1323 : (Jvm.Cond.methodLink "PittanceHouse" (65 : Nat) ({ cls := "java/lang/Iterable", name := "iterator", desc := "()Ljava/util/Iterator;" } : Jvm.MethodName)) ∈ lw_all := lw_g (lw_at lw_m6 26 rfl) rfl
theorem q1378 : (Jvm.Cond.interfaceEntry "PittanceHouse" (71 : Nat)) ∈ lw_tbl := lw_at lw_m6 81 rfl
theorem q1379 : (Jvm.Cond.methodLink "PittanceHouse" (71 : Nat) ({ cls := "java/util/Iterator", name := "hasNext", desc := "()Z" } : Jvm.MethodName)) ∈ lw_all := lw_g (lw_at lw_m6 82 rfl) rfl
theorem q1380 : (Jvm.Cond.interfaceEntry "PittanceHouse" (77 : Nat)) ∈ lw_tbl := lw_at lw_m6 83 rfl
theorem q1381 : (Jvm.Cond.methodLink "PittanceHouse" (77 : Nat) ({ cls := "java/util/Iterator", name := "next", desc := "()Ljava/lang/Object;" } : Jvm.MethodName)) ∈ lw_all := lw_g (lw_at lw_m6 84 rfl) rfl
theorem q1382 : (Jvm.Cond.classLink "PittanceHouse" (81 : Nat) "java/lang/Integer") ∈ lw_all := lw_g (lw_at lw_m6 85 rfl) rfl
theorem q1383 : (Jvm.Cond.methodLink "PittanceHouse" (83 : Nat) ({ cls := "java/lang/Integer", name := "intValue", desc := "()I" } : Jvm.MethodName)) ∈ lw_all := lw_g (lw_at lw_m6 86 rfl) rfl
theorem q1384 : (Jvm.Cond.classLink "PittanceHouse" (87 : Nat) "PittanceHouse$1Count") ∈ lw_all := lw_g (lw_at lw_m6 87 rfl) rfl
theorem q1386 : (Jvm.Cond.methodLink "PittanceHouse" (89 : Nat) ({ cls := "PittanceHouse$1Count", name := "<init>", desc := "(ILPittanceHouse$Ahead;[I)V" } : Jvm.MethodName)) ∈ lw_all := lw_g (lw_at lw_m6 89 rfl) rfl
theorem q1393 : (Jvm.Cond.fieldLinkNest "PittanceHouse" (96 : Nat) "PittanceHouse$1Count" "many" "I" "PittanceHouse") ∈ lw_tbl := lw_at lw_m6 96 rfl
theorem q1407 : (Jvm.Cond.methodLink "PittanceHouse" (92 : Nat) ({ cls := "PittanceHouse$1Count", name := "meets", desc := "(I)V" } : Jvm.MethodName)) ∈ lw_all := lw_g (lw_at lw_m6 110 rfl) rfl
theorem q1420 : (Jvm.Cond.instanceMethod ({ cls := "PittanceHouse", name := "leave", desc := "(I)I" } : Jvm.MethodName)) ∈ lw_all := lw_g (lw_at lw_m6 123 rfl) rfl
theorem q1421 : (Jvm.Cond.selects "PittanceHouse" ({ cls := "PittanceHouse", name := "leave", desc := "(I)I" } : Jvm.MethodName) ({ cls := "PittanceHouse", name := "leave", desc := "(I)I" } : Jvm.MethodName)) ∈ lw_all := lw_g (lw_at lw_m6 124 rfl) rfl
theorem q1422 : (Jvm.Cond.codeWith ({ cls := "PittanceHouse", name := "leave", desc := "(I)I" } : Jvm.MethodName) prog_1_method_16_code (4 : Nat) (Option.some Jvm.ClassFile.FieldType.int) [((18 : Nat), (31 : Nat), (32 : Nat), (51 : Nat))]) ∈ lw_all := lw_g (lw_at lw_m6 125 rfl) rfl
theorem q1423 : (Jvm.Cond.methodLink "PittanceHouse" (144 : Nat) ({ cls := "PittanceHouse$House", name := "leaves", desc := "(I)I" } : Jvm.MethodName)) ∈ lw_all := lw_g (lw_at lw_m6 126 rfl) rfl
theorem q1432 : (Jvm.Cond.instanceMethod ({ cls := "PittanceHouse", name := "feast", desc := "(II)I" } : Jvm.MethodName)) ∈ lw_all := lw_g (lw_at lw_m6 135 rfl) rfl
theorem q1433 : (Jvm.Cond.selects "PittanceHouse" ({ cls := "PittanceHouse", name := "feast", desc := "(II)I" } : Jvm.MethodName) ({ cls := "PittanceHouse", name := "feast", desc := "(II)I" } : Jvm.MethodName)) ∈ lw_all := lw_g (lw_at lw_m6 136 rfl) rfl
theorem q1434 : (Jvm.Cond.codeWith ({ cls := "PittanceHouse", name := "feast", desc := "(II)I" } : Jvm.MethodName) prog_1_method_17_code (5 : Nat) (Option.some Jvm.ClassFile.FieldType.int) [((19 : Nat), (33 : Nat), (34 : Nat), (51 : Nat))]) ∈ lw_all := lw_g (lw_at lw_m6 137 rfl) rfl
theorem q1435 : (Jvm.Cond.methodLink "PittanceHouse" (147 : Nat) ({ cls := "PittanceHouse", name := "isFeast", desc := "(II)Z" } : Jvm.MethodName)) ∈ lw_all := lw_g (lw_at lw_m6 138 rfl) rfl
theorem q1436 : (Jvm.Cond.static ({ cls := "PittanceHouse", name := "isFeast", desc := "(II)Z" } : Jvm.MethodName)) ∈ lw_all := lw_g (lw_at lw_m6 139 rfl) rfl
theorem q1437 : (Jvm.Cond.code ({ cls := "PittanceHouse", name := "isFeast", desc := "(II)Z" } : Jvm.MethodName) prog_1_method_5_code (2 : Nat) (Option.some Jvm.ClassFile.FieldType.boolean)) ∈ lw_all := lw_g (lw_at lw_m6 140 rfl) rfl
theorem q1438 : (Jvm.Cond.methodLink "PittanceHouse" (151 : Nat) ({ cls := "PittanceHouse$House", name := "tellsFeast", desc := "(II)I" } : Jvm.MethodName)) ∈ lw_all := lw_g (lw_at lw_m6 141 rfl) rfl
theorem q1447 : (Jvm.Cond.instanceMethod ({ cls := "PittanceHouse", name := "breach", desc := "(II)I" } : Jvm.MethodName)) ∈ lw_all := lw_g (lw_at lw_m6 150 rfl) rfl
theorem q1448 : (Jvm.Cond.selects "PittanceHouse" ({ cls := "PittanceHouse", name := "breach", desc := "(II)I" } : Jvm.MethodName) ({ cls := "PittanceHouse", name := "breach", desc := "(II)I" } : Jvm.MethodName)) ∈ lw_all := lw_g (lw_at lw_m6 151 rfl) rfl
theorem q1449 : (Jvm.Cond.codeWith ({ cls := "PittanceHouse", name := "breach", desc := "(II)I" } : Jvm.MethodName) prog_1_method_18_code (5 : Nat) (Option.some Jvm.ClassFile.FieldType.int) [((29 : Nat), (43 : Nat), (44 : Nat), (51 : Nat))]) ∈ lw_all := lw_g (lw_at lw_m6 152 rfl) rfl
theorem q1450 : (Jvm.Cond.methodLink "PittanceHouse" (154 : Nat) ({ cls := "PittanceHouse", name := "isRule", desc := "(I)Z" } : Jvm.MethodName)) ∈ lw_all := lw_g (lw_at lw_m6 153 rfl) rfl
theorem q1451 : (Jvm.Cond.static ({ cls := "PittanceHouse", name := "isRule", desc := "(I)Z" } : Jvm.MethodName)) ∈ lw_all := lw_g (lw_at lw_m6 154 rfl) rfl
theorem q1452 : (Jvm.Cond.code ({ cls := "PittanceHouse", name := "isRule", desc := "(I)Z" } : Jvm.MethodName) prog_1_method_4_code (1 : Nat) (Option.some Jvm.ClassFile.FieldType.boolean)) ∈ lw_all := lw_g (lw_at lw_m6 155 rfl) rfl
theorem q1453 : (Jvm.Cond.methodLink "PittanceHouse" (157 : Nat) ({ cls := "PittanceHouse$House", name := "breaks", desc := "(II)I" } : Jvm.MethodName)) ∈ lw_all := lw_g (lw_at lw_m6 156 rfl) rfl
theorem q1462 : (Jvm.Cond.instanceMethod ({ cls := "PittanceHouse", name := "pardon", desc := "(I)I" } : Jvm.MethodName)) ∈ lw_all := lw_g (lw_at lw_m6 165 rfl) rfl
theorem q1463 : (Jvm.Cond.selects "PittanceHouse" ({ cls := "PittanceHouse", name := "pardon", desc := "(I)I" } : Jvm.MethodName) ({ cls := "PittanceHouse", name := "pardon", desc := "(I)I" } : Jvm.MethodName)) ∈ lw_all := lw_g (lw_at lw_m6 166 rfl) rfl
theorem q1464 : (Jvm.Cond.codeWith ({ cls := "PittanceHouse", name := "pardon", desc := "(I)I" } : Jvm.MethodName) prog_1_method_19_code (4 : Nat) (Option.some Jvm.ClassFile.FieldType.int) [((22 : Nat), (35 : Nat), (36 : Nat), (51 : Nat))]) ∈ lw_all := lw_g (lw_at lw_m6 167 rfl) rfl
theorem q1465 : (Jvm.Cond.methodLink "PittanceHouse" (160 : Nat) ({ cls := "PittanceHouse$House", name := "pardoned", desc := "(I)I" } : Jvm.MethodName)) ∈ lw_all := lw_g (lw_at lw_m6 168 rfl) rfl
theorem q1470 : (Jvm.Cond.instanceMethod ({ cls := "PittanceHouse", name := "gift", desc := "(I)I" } : Jvm.MethodName)) ∈ lw_all := lw_g (lw_at lw_m6 173 rfl) rfl
theorem q1471 : (Jvm.Cond.selects "PittanceHouse" ({ cls := "PittanceHouse", name := "gift", desc := "(I)I" } : Jvm.MethodName) ({ cls := "PittanceHouse", name := "gift", desc := "(I)I" } : Jvm.MethodName)) ∈ lw_all := lw_g (lw_at lw_m6 174 rfl) rfl
theorem q1472 : (Jvm.Cond.code ({ cls := "PittanceHouse", name := "gift", desc := "(I)I" } : Jvm.MethodName) prog_1_method_20_code (3 : Nat) (Option.some Jvm.ClassFile.FieldType.int)) ∈ lw_all := lw_g (lw_at lw_m6 175 rfl) rfl
theorem q1473 : (Jvm.Cond.methodLink "PittanceHouse" (163 : Nat) ({ cls := "PittanceHouse", name := "isGift", desc := "(I)Z" } : Jvm.MethodName)) ∈ lw_all := lw_g (lw_at lw_m6 176 rfl) rfl
theorem q1474 : (Jvm.Cond.static ({ cls := "PittanceHouse", name := "isGift", desc := "(I)Z" } : Jvm.MethodName)) ∈ lw_all := lw_g (lw_at lw_m6 177 rfl) rfl
theorem q1475 : (Jvm.Cond.code ({ cls := "PittanceHouse", name := "isGift", desc := "(I)Z" } : Jvm.MethodName) prog_1_method_6_code (1 : Nat) (Option.some Jvm.ClassFile.FieldType.boolean)) ∈ lw_all := lw_g (lw_at lw_m6 178 rfl) rfl
theorem q1476 : (Jvm.Cond.methodLink "PittanceHouse" (166 : Nat) ({ cls := "PittanceHouse$House", name := "isGiven", desc := "(I)I" } : Jvm.MethodName)) ∈ lw_all := lw_g (lw_at lw_m6 179 rfl) rfl
theorem q1486 : (Jvm.Cond.instanceMethod ({ cls := "PittanceHouse", name := "weeks", desc := "(I)I" } : Jvm.MethodName)) ∈ lw_all := lw_g (lw_at lw_m6 189 rfl) rfl
theorem q1487 : (Jvm.Cond.selects "PittanceHouse" ({ cls := "PittanceHouse", name := "weeks", desc := "(I)I" } : Jvm.MethodName) ({ cls := "PittanceHouse", name := "weeks", desc := "(I)I" } : Jvm.MethodName)) ∈ lw_all := lw_g (lw_at lw_m6 190 rfl) rfl
theorem q1488 : (Jvm.Cond.code ({ cls := "PittanceHouse", name := "weeks", desc := "(I)I" } : Jvm.MethodName) prog_1_method_21_code (3 : Nat) (Option.some Jvm.ClassFile.FieldType.int)) ∈ lw_all := lw_g (lw_at lw_m6 191 rfl) rfl
theorem q1489 : (Jvm.Cond.methodLink "PittanceHouse" (169 : Nat) ({ cls := "PittanceHouse", name := "areWeeks", desc := "(I)Z" } : Jvm.MethodName)) ∈ lw_all := lw_g (lw_at lw_m6 192 rfl) rfl
theorem q1490 : (Jvm.Cond.static ({ cls := "PittanceHouse", name := "areWeeks", desc := "(I)Z" } : Jvm.MethodName)) ∈ lw_all := lw_g (lw_at lw_m6 193 rfl) rfl
theorem q1491 : (Jvm.Cond.code ({ cls := "PittanceHouse", name := "areWeeks", desc := "(I)Z" } : Jvm.MethodName) prog_1_method_7_code (1 : Nat) (Option.some Jvm.ClassFile.FieldType.boolean)) ∈ lw_all := lw_g (lw_at lw_m6 194 rfl) rfl
theorem q1492 : (Jvm.Cond.methodLink "PittanceHouse" (172 : Nat) ({ cls := "PittanceHouse$House", name := "weeksGo", desc := "(ILPittanceHouse$Ahead;)I" } : Jvm.MethodName)) ∈ lw_all := lw_g (lw_at lw_m6 195 rfl) rfl
theorem q1550 : (Jvm.Cond.instanceMethod ({ cls := "PittanceHouse", name := "brotherOf", desc := "(II)I" } : Jvm.MethodName)) ∈ lw_all := lw_g (lw_at lw_m7 13 rfl) rfl
theorem q1551 : (Jvm.Cond.selects "PittanceHouse" ({ cls := "PittanceHouse", name := "brotherOf", desc := "(II)I" } : Jvm.MethodName) ({ cls := "PittanceHouse", name := "brotherOf", desc := "(II)I" } : Jvm.MethodName)) ∈ lw_all := lw_g (lw_at lw_m7 14 rfl) rfl
theorem q1552 : (Jvm.Cond.code ({ cls := "PittanceHouse", name := "brotherOf", desc := "(II)I" } : Jvm.MethodName) prog_1_method_22_code (3 : Nat) (Option.some Jvm.ClassFile.FieldType.int)) ∈ lw_all := lw_g (lw_at lw_m7 15 rfl) rfl
theorem q1553 : (Jvm.Cond.methodLink "PittanceHouse" (175 : Nat) ({ cls := "PittanceHouse$House", name := "value", desc := "(II)I" } : Jvm.MethodName)) ∈ lw_all := lw_g (lw_at lw_m7 16 rfl) rfl
theorem q1566 : (Jvm.Cond.instanceMethod ({ cls := "PittanceHouse", name := "broke", desc := "(II)I" } : Jvm.MethodName)) ∈ lw_all := lw_g (lw_at lw_m7 29 rfl) rfl
theorem q1567 : (Jvm.Cond.selects "PittanceHouse" ({ cls := "PittanceHouse", name := "broke", desc := "(II)I" } : Jvm.MethodName) ({ cls := "PittanceHouse", name := "broke", desc := "(II)I" } : Jvm.MethodName)) ∈ lw_all := lw_g (lw_at lw_m7 30 rfl) rfl
theorem q1568 : (Jvm.Cond.code ({ cls := "PittanceHouse", name := "broke", desc := "(II)I" } : Jvm.MethodName) prog_1_method_23_code (3 : Nat) (Option.some Jvm.ClassFile.FieldType.int)) ∈ lw_all := lw_g (lw_at lw_m7 31 rfl) rfl
theorem q1569 : (Jvm.Cond.methodLink "PittanceHouse" (182 : Nat) ({ cls := "java/util/ArrayList", name := "get", desc := "(I)Ljava/lang/Object;" } : Jvm.MethodName)) ∈ lw_all := lw_g (lw_at lw_m7 32 rfl) rfl
theorem q1570 : (Jvm.Cond.classLink "PittanceHouse" (188 : Nat) "PittanceHouse$Brother") ∈ lw_all := lw_g (lw_at lw_m7 33 rfl) rfl
theorem q1572 : (Jvm.Cond.instanceMethod ({ cls := "PittanceHouse", name := "inCell", desc := "(I)I" } : Jvm.MethodName)) ∈ lw_all := lw_g (lw_at lw_m7 35 rfl) rfl
theorem q1573 : (Jvm.Cond.selects "PittanceHouse" ({ cls := "PittanceHouse", name := "inCell", desc := "(I)I" } : Jvm.MethodName) ({ cls := "PittanceHouse", name := "inCell", desc := "(I)I" } : Jvm.MethodName)) ∈ lw_all := lw_g (lw_at lw_m7 36 rfl) rfl
theorem q1574 : (Jvm.Cond.code ({ cls := "PittanceHouse", name := "inCell", desc := "(I)I" } : Jvm.MethodName) prog_1_method_24_code (2 : Nat) (Option.some Jvm.ClassFile.FieldType.int)) ∈ lw_all := lw_g (lw_at lw_m7 37 rfl) rfl
theorem q1576 : (Jvm.Cond.instanceMethod ({ cls := "PittanceHouse", name := "entitled", desc := "()I" } : Jvm.MethodName)) ∈ lw_all := lw_g (lw_at lw_m7 39 rfl) rfl
theorem q1577 : (Jvm.Cond.selects "PittanceHouse" ({ cls := "PittanceHouse", name := "entitled", desc := "()I" } : Jvm.MethodName) ({ cls := "PittanceHouse", name := "entitled", desc := "()I" } : Jvm.MethodName)) ∈ lw_all := lw_g (lw_at lw_m7 40 rfl) rfl
theorem q1578 : (Jvm.Cond.code ({ cls := "PittanceHouse", name := "entitled", desc := "()I" } : Jvm.MethodName) prog_1_method_26_code (1 : Nat) (Option.some Jvm.ClassFile.FieldType.int)) ∈ lw_all := lw_g (lw_at lw_m7 41 rfl) rfl
theorem q1579 : (Jvm.Cond.methodLink "PittanceHouse" (202 : Nat) ({ cls := "PittanceHouse$House", name := "entitled", desc := "()Ljava/util/BitSet;" } : Jvm.MethodName)) ∈ lw_all := lw_g (lw_at lw_m7 42 rfl) rfl
theorem q1647 : (Jvm.Cond.methodLink "PittanceHouse" (206 : Nat) ({ cls := "PittanceHouse", name := "bits", desc := "(Ljava/util/BitSet;)I" } : Jvm.MethodName)) ∈ lw_all := lw_g (lw_at lw_m7 110 rfl) rfl
theorem q1648 : (Jvm.Cond.static ({ cls := "PittanceHouse", name := "bits", desc := "(Ljava/util/BitSet;)I" } : Jvm.MethodName)) ∈ lw_all := lw_g (lw_at lw_m7 111 rfl) rfl
theorem q1649 : (Jvm.Cond.code ({ cls := "PittanceHouse", name := "bits", desc := "(Ljava/util/BitSet;)I" } : Jvm.MethodName) prog_1_method_25_code (3 : Nat) (Option.some Jvm.ClassFile.FieldType.int)) ∈ lw_all := lw_g (lw_at lw_m7 112 rfl) rfl
theorem q1650 : (Jvm.Cond.methodLink "PittanceHouse" (197 : Nat) ({ cls := "java/util/BitSet", name := "nextSetBit", desc := "(I)I" } : Jvm.MethodName)) ∈ lw_all := lw_g (lw_at lw_m7 113 rfl) rfl
theorem q1662 : (Jvm.Cond.instanceMethod ({ cls := "PittanceHouse", name := "entitledAgain", desc := "()I" } : Jvm.MethodName)) ∈ lw_all := lw_g (lw_at lw_m7 125 rfl) rfl
theorem q1663 : (Jvm.Cond.selects "PittanceHouse" ({ cls := "PittanceHouse", name := "entitledAgain", desc := "()I" } : Jvm.MethodName) ({ cls := "PittanceHouse", name := "entitledAgain", desc := "()I" } : Jvm.MethodName)) ∈ lw_all := lw_g (lw_at lw_m7 126 rfl) rfl
theorem q1664 : (Jvm.Cond.code ({ cls := "PittanceHouse", name := "entitledAgain", desc := "()I" } : Jvm.MethodName) prog_1_method_27_code (1 : Nat) (Option.some Jvm.ClassFile.FieldType.int)) ∈ lw_all := lw_g (lw_at lw_m7 127 rfl) rfl
theorem q1665 : (Jvm.Cond.methodLink "PittanceHouse" (210 : Nat) ({ cls := "PittanceHouse$House", name := "entitledAgain", desc := "()Ljava/util/BitSet;" } : Jvm.MethodName)) ∈ lw_all := lw_g (lw_at lw_m7 128 rfl) rfl
theorem q1671 : (Jvm.Cond.instanceMethod ({ cls := "PittanceHouse", name := "voices", desc := "(I)I" } : Jvm.MethodName)) ∈ lw_all := lw_g (lw_at lw_m7 134 rfl) rfl
theorem q1672 : (Jvm.Cond.selects "PittanceHouse" ({ cls := "PittanceHouse", name := "voices", desc := "(I)I" } : Jvm.MethodName) ({ cls := "PittanceHouse", name := "voices", desc := "(I)I" } : Jvm.MethodName)) ∈ lw_all := lw_g (lw_at lw_m7 135 rfl) rfl
theorem q1673 : (Jvm.Cond.code ({ cls := "PittanceHouse", name := "voices", desc := "(I)I" } : Jvm.MethodName) prog_1_method_28_code (2 : Nat) (Option.some Jvm.ClassFile.FieldType.int)) ∈ lw_all := lw_g (lw_at lw_m7 136 rfl) rfl
theorem q1674 : (Jvm.Cond.methodLink "PittanceHouse" (213 : Nat) ({ cls := "PittanceHouse$House", name := "voices", desc := "(I)I" } : Jvm.MethodName)) ∈ lw_all := lw_g (lw_at lw_m7 137 rfl) rfl
theorem q1676 : (Jvm.Cond.instanceMethod ({ cls := "PittanceHouse", name := "voicesAgain", desc := "(I)I" } : Jvm.MethodName)) ∈ lw_all := lw_g (lw_at lw_m7 139 rfl) rfl
theorem q1677 : (Jvm.Cond.selects "PittanceHouse" ({ cls := "PittanceHouse", name := "voicesAgain", desc := "(I)I" } : Jvm.MethodName) ({ cls := "PittanceHouse", name := "voicesAgain", desc := "(I)I" } : Jvm.MethodName)) ∈ lw_all := lw_g (lw_at lw_m7 140 rfl) rfl
theorem q1678 : (Jvm.Cond.code ({ cls := "PittanceHouse", name := "voicesAgain", desc := "(I)I" } : Jvm.MethodName) prog_1_method_29_code (2 : Nat) (Option.some Jvm.ClassFile.FieldType.int)) ∈ lw_all := lw_g (lw_at lw_m7 141 rfl) rfl
theorem q1679 : (Jvm.Cond.methodLink "PittanceHouse" (216 : Nat) ({ cls := "PittanceHouse$House", name := "allVoices", desc := "()[I" } : Jvm.MethodName)) ∈ lw_all := lw_g (lw_at lw_m7 142 rfl) rfl
theorem q1681 : (Jvm.Cond.instanceMethod ({ cls := "PittanceHouse", name := "ranked", desc := "(I)I" } : Jvm.MethodName)) ∈ lw_all := lw_g (lw_at lw_m7 144 rfl) rfl
theorem q1682 : (Jvm.Cond.selects "PittanceHouse" ({ cls := "PittanceHouse", name := "ranked", desc := "(I)I" } : Jvm.MethodName) ({ cls := "PittanceHouse", name := "ranked", desc := "(I)I" } : Jvm.MethodName)) ∈ lw_all := lw_g (lw_at lw_m7 145 rfl) rfl
theorem q1683 : (Jvm.Cond.code ({ cls := "PittanceHouse", name := "ranked", desc := "(I)I" } : Jvm.MethodName) prog_1_method_30_code (2 : Nat) (Option.some Jvm.ClassFile.FieldType.int)) ∈ lw_all := lw_g (lw_at lw_m7 146 rfl) rfl
theorem q1684 : (Jvm.Cond.methodLink "PittanceHouse" (220 : Nat) ({ cls := "PittanceHouse$House", name := "ranked", desc := "(ILPittanceHouse$Ahead;)I" } : Jvm.MethodName)) ∈ lw_all := lw_g (lw_at lw_m7 147 rfl) rfl
theorem q1686 : (Jvm.Cond.instanceMethod ({ cls := "PittanceHouse", name := "senior", desc := "(I)I" } : Jvm.MethodName)) ∈ lw_all := lw_g (lw_at lw_m7 149 rfl) rfl
theorem q1687 : (Jvm.Cond.selects "PittanceHouse" ({ cls := "PittanceHouse", name := "senior", desc := "(I)I" } : Jvm.MethodName) ({ cls := "PittanceHouse", name := "senior", desc := "(I)I" } : Jvm.MethodName)) ∈ lw_all := lw_g (lw_at lw_m7 150 rfl) rfl
theorem q1688 : (Jvm.Cond.code ({ cls := "PittanceHouse", name := "senior", desc := "(I)I" } : Jvm.MethodName) prog_1_method_31_code (6 : Nat) (Option.some Jvm.ClassFile.FieldType.int)) ∈ lw_all := lw_g (lw_at lw_m7 151 rfl) rfl
theorem q1689 : (Jvm.Cond.methodLink "PittanceHouse" (227 : Nat) ({ cls := "java/util/LinkedList", name := "iterator", desc := "()Ljava/util/Iterator;" } : Jvm.MethodName)) ∈ lw_all := lw_g (lw_at lw_m7 152 rfl) rfl
theorem q1690 : (Jvm.Cond.methodLink "PittanceHouse" (230 : Nat) ({ cls := "PittanceHouse", name := "placed", desc := "(Ljava/lang/Iterable;[ILPittanceHouse$Ahead;I)I" } : Jvm.MethodName)) ∈ lw_all := lw_g (lw_at lw_m7 153 rfl) rfl
theorem q1692 : (Jvm.Cond.instanceMethod ({ cls := "PittanceHouse", name := "shabby", desc := "(I)I" } : Jvm.MethodName)) ∈ lw_all := lw_g (lw_at lw_m7 155 rfl) rfl
theorem q1693 : (Jvm.Cond.selects "PittanceHouse" ({ cls := "PittanceHouse", name := "shabby", desc := "(I)I" } : Jvm.MethodName) ({ cls := "PittanceHouse", name := "shabby", desc := "(I)I" } : Jvm.MethodName)) ∈ lw_all := lw_g (lw_at lw_m7 156 rfl) rfl
theorem q1694 : (Jvm.Cond.code ({ cls := "PittanceHouse", name := "shabby", desc := "(I)I" } : Jvm.MethodName) prog_1_method_32_code (2 : Nat) (Option.some Jvm.ClassFile.FieldType.int)) ∈ lw_all := lw_g (lw_at lw_m7 157 rfl) rfl
theorem q1695 : (Jvm.Cond.methodLink "PittanceHouse" (234 : Nat) ({ cls := "PittanceHouse$House", name := "shabby", desc := "(ILPittanceHouse$Ahead;)I" } : Jvm.MethodName)) ∈ lw_all := lw_g (lw_at lw_m7 158 rfl) rfl
theorem q1697 : (Jvm.Cond.instanceMethod ({ cls := "PittanceHouse", name := "nextFeast", desc := "()I" } : Jvm.MethodName)) ∈ lw_all := lw_g (lw_at lw_m7 160 rfl) rfl
theorem q1698 : (Jvm.Cond.selects "PittanceHouse" ({ cls := "PittanceHouse", name := "nextFeast", desc := "()I" } : Jvm.MethodName) ({ cls := "PittanceHouse", name := "nextFeast", desc := "()I" } : Jvm.MethodName)) ∈ lw_all := lw_g (lw_at lw_m7 161 rfl) rfl
theorem q1699 : (Jvm.Cond.code ({ cls := "PittanceHouse", name := "nextFeast", desc := "()I" } : Jvm.MethodName) prog_1_method_33_code (1 : Nat) (Option.some Jvm.ClassFile.FieldType.int)) ∈ lw_all := lw_g (lw_at lw_m7 162 rfl) rfl
theorem q1700 : (Jvm.Cond.methodLink "PittanceHouse" (237 : Nat) ({ cls := "PittanceHouse$House", name := "nextFeast", desc := "()I" } : Jvm.MethodName)) ∈ lw_all := lw_g (lw_at lw_m7 163 rfl) rfl
theorem q1705 : (Jvm.Cond.instanceMethod ({ cls := "PittanceHouse", name := "wouldGet", desc := "(II)I" } : Jvm.MethodName)) ∈ lw_all := lw_g (lw_at lw_m7 168 rfl) rfl
theorem q1706 : (Jvm.Cond.selects "PittanceHouse" ({ cls := "PittanceHouse", name := "wouldGet", desc := "(II)I" } : Jvm.MethodName) ({ cls := "PittanceHouse", name := "wouldGet", desc := "(II)I" } : Jvm.MethodName)) ∈ lw_all := lw_g (lw_at lw_m7 169 rfl) rfl
theorem q1707 : (Jvm.Cond.code ({ cls := "PittanceHouse", name := "wouldGet", desc := "(II)I" } : Jvm.MethodName) prog_1_method_35_code (3 : Nat) (Option.some Jvm.ClassFile.FieldType.int)) ∈ lw_all := lw_g (lw_at lw_m7 170 rfl) rfl
theorem q1708 : (Jvm.Cond.methodLink "PittanceHouse" (240 : Nat) ({ cls := "PittanceHouse", name := "behind", desc := "(I)LPittanceHouse$House;" } : Jvm.MethodName)) ∈ lw_all := lw_g (lw_at lw_m7 171 rfl) rfl
theorem q1709 : (Jvm.Cond.privateMethod ({ cls := "PittanceHouse", name := "behind", desc := "(I)LPittanceHouse$House;" } : Jvm.MethodName)) ∈ lw_tbl := lw_at lw_m7 172 rfl
theorem q1710 : (Jvm.Cond.instanceMethod ({ cls := "PittanceHouse", name := "behind", desc := "(I)LPittanceHouse$House;" } : Jvm.MethodName)) ∈ lw_all := lw_g (lw_at lw_m7 173 rfl) rfl
theorem q1711 : (Jvm.Cond.code ({ cls := "PittanceHouse", name := "behind", desc := "(I)LPittanceHouse$House;" } : Jvm.MethodName) prog_1_method_34_code (4 : Nat) (Option.some (Jvm.ClassFile.FieldType.object "PittanceHouse$House"))) ∈ lw_all := lw_g (lw_at lw_m7 174 rfl) rfl
theorem q1713 : (Jvm.Cond.instanceMethod ({ cls := "PittanceHouse", name := "chestIn", desc := "(I)I" } : Jvm.MethodName)) ∈ lw_all := lw_g (lw_at lw_m7 176 rfl) rfl
theorem q1714 : (Jvm.Cond.selects "PittanceHouse" ({ cls := "PittanceHouse", name := "chestIn", desc := "(I)I" } : Jvm.MethodName) ({ cls := "PittanceHouse", name := "chestIn", desc := "(I)I" } : Jvm.MethodName)) ∈ lw_all := lw_g (lw_at lw_m7 177 rfl) rfl
theorem q1715 : (Jvm.Cond.code ({ cls := "PittanceHouse", name := "chestIn", desc := "(I)I" } : Jvm.MethodName) prog_1_method_36_code (2 : Nat) (Option.some Jvm.ClassFile.FieldType.int)) ∈ lw_all := lw_g (lw_at lw_m7 178 rfl) rfl
theorem q1717 : (Jvm.Cond.instanceMethod ({ cls := "PittanceHouse", name := "append", desc := "(I)I" } : Jvm.MethodName)) ∈ lw_all := lw_g (lw_at lw_m7 180 rfl) rfl
theorem q1718 : (Jvm.Cond.selects "PittanceHouse" ({ cls := "PittanceHouse", name := "append", desc := "(I)I" } : Jvm.MethodName) ({ cls := "PittanceHouse", name := "append", desc := "(I)I" } : Jvm.MethodName)) ∈ lw_all := lw_g (lw_at lw_m7 181 rfl) rfl
theorem q1719 : (Jvm.Cond.code ({ cls := "PittanceHouse", name := "append", desc := "(I)I" } : Jvm.MethodName) prog_1_method_37_code (2 : Nat) (Option.some Jvm.ClassFile.FieldType.int)) ∈ lw_all := lw_g (lw_at lw_m7 182 rfl) rfl
theorem q1720 : (Jvm.Cond.methodLink "PittanceHouse" (250 : Nat) ({ cls := "java/lang/StringBuilder", name := "length", desc := "()I" } : Jvm.MethodName)) ∈ lw_all := lw_g (lw_at lw_m7 183 rfl) rfl
theorem q1721 : (Jvm.Cond.methodLink "PittanceHouse" (253 : Nat) ({ cls := "java/lang/StringBuilder", name := "append", desc := "(C)Ljava/lang/StringBuilder;" } : Jvm.MethodName)) ∈ lw_all := lw_g (lw_at lw_m7 184 rfl) rfl
theorem q1742 : (Jvm.Cond.instanceMethod ({ cls := "PittanceHouse", name := "run", desc := "()I" } : Jvm.MethodName)) ∈ lw_all := lw_g (lw_at lw_m7 205 rfl) rfl
theorem q1743 : (Jvm.Cond.selects "PittanceHouse" ({ cls := "PittanceHouse", name := "run", desc := "()I" } : Jvm.MethodName) ({ cls := "PittanceHouse", name := "run", desc := "()I" } : Jvm.MethodName)) ∈ lw_all := lw_g (lw_at lw_m7 206 rfl) rfl
theorem q1744 : (Jvm.Cond.codeWith ({ cls := "PittanceHouse", name := "run", desc := "()I" } : Jvm.MethodName) prog_1_method_38_code (7 : Nat) (Option.some Jvm.ClassFile.FieldType.int) [((0 : Nat), (102 : Nat), (113 : Nat), (279 : Nat)), ((0 : Nat), (102 : Nat), (133 : Nat), (51 : Nat)), ((0 : Nat), (102 : Nat), (150 : Nat), (0 : Nat)), ((113 : Nat), (123 : Nat), (150 : Nat), (0 : Nat)), ((133 : Nat), (140 : Nat), (150 : Nat), (0 : Nat)), ((150 : Nat), (152 : Nat), (150 : Nat), (0 : Nat))]) ∈ lw_all := lw_g (lw_at lw_m7 207 rfl) rfl
theorem q1745 : (Jvm.Cond.classLink "PittanceHouse" (279 : Nat) "PittanceHouse$Wrong") ∈ lw_all := lw_g (lw_at lw_m7 208 rfl) rfl
theorem q1746 : (Jvm.Cond.classLink "PittanceHouse" (257 : Nat) "PittanceHouse$Reader") ∈ lw_all := lw_g (lw_at lw_m7 209 rfl) rfl
theorem q1748 : (Jvm.Cond.methodLinkNest "PittanceHouse" (259 : Nat) ({ cls := "PittanceHouse$Reader", name := "<init>", desc := "(LPittanceHouse;)V" } : Jvm.MethodName) "PittanceHouse") ∈ lw_tbl := lw_at lw_m7 211 rfl
theorem q1772 : (Jvm.Cond.methodLink "PittanceHouse" (262 : Nat) ({ cls := "PittanceHouse$Reader", name := "orders", desc := "()Ljava/util/LinkedList;" } : Jvm.MethodName)) ∈ lw_all := lw_g (lw_at lw_m7 235 rfl) rfl
theorem q1841 : (Jvm.Cond.fieldLinkNest "PittanceHouse" (281 : Nat) "PittanceHouse$Wrong" "at" "I" "PittanceHouse") ∈ lw_tbl := lw_at lw_m8 64 rfl
theorem q1930 : (Jvm.Cond.classLink "PittanceHouse" (266 : Nat) "PittanceHouse$Order") ∈ lw_all := lw_g (lw_at lw_m8 153 rfl) rfl
theorem q1931 : (Jvm.Cond.methodLink "PittanceHouse" (268 : Nat) ({ cls := "PittanceHouse$Order", name := "isCarriedOut", desc := "(LPittanceHouse$House;LPittanceHouse$Ahead;)Z" } : Jvm.MethodName)) ∈ lw_all := lw_g (lw_at lw_m8 154 rfl) rfl
theorem q1963 : (Jvm.Cond.methodLink "PittanceHouse" (272 : Nat) ({ cls := "PittanceHouse", name := "refuse", desc := "(ZII)V" } : Jvm.MethodName)) ∈ lw_all := lw_g (lw_at lw_m8 186 rfl) rfl
theorem q1964 : (Jvm.Cond.methodLink "PittanceHouse" (276 : Nat) ({ cls := "java/lang/StringBuilder", name := "setLength", desc := "(I)V" } : Jvm.MethodName)) ∈ lw_all := lw_g (lw_at lw_m8 187 rfl) rfl
theorem q1985 : (Jvm.Cond.instanceMethod ({ cls := "PittanceHouse", name := "tell", desc := "()I" } : Jvm.MethodName)) ∈ lw_all := lw_g (lw_at lw_m8 208 rfl) rfl
theorem q1986 : (Jvm.Cond.selects "PittanceHouse" ({ cls := "PittanceHouse", name := "tell", desc := "()I" } : Jvm.MethodName) ({ cls := "PittanceHouse", name := "tell", desc := "()I" } : Jvm.MethodName)) ∈ lw_all := lw_g (lw_at lw_m8 209 rfl) rfl
theorem q1987 : (Jvm.Cond.code ({ cls := "PittanceHouse", name := "tell", desc := "()I" } : Jvm.MethodName) prog_1_method_39_code (1 : Nat) (Option.some Jvm.ClassFile.FieldType.int)) ∈ lw_all := lw_g (lw_at lw_m8 210 rfl) rfl
theorem q1988 : (Jvm.Cond.methodLink "PittanceHouse" (284 : Nat) ({ cls := "PittanceHouse$House", name := "cellsTold", desc := "()Ljava/lang/String;" } : Jvm.MethodName)) ∈ lw_all := lw_g (lw_at lw_m8 211 rfl) rfl
theorem q2026 : (Jvm.Cond.methodLink "PittanceHouse" (288 : Nat) ({ cls := "java/lang/String", name := "length", desc := "()I" } : Jvm.MethodName)) ∈ lw_all := lw_g (lw_at lw_m9 9 rfl) rfl
theorem q2028 : (Jvm.Cond.instanceMethod ({ cls := "PittanceHouse", name := "tellWaiting", desc := "()I" } : Jvm.MethodName)) ∈ lw_all := lw_g (lw_at lw_m9 11 rfl) rfl
theorem q2029 : (Jvm.Cond.selects "PittanceHouse" ({ cls := "PittanceHouse", name := "tellWaiting", desc := "()I" } : Jvm.MethodName) ({ cls := "PittanceHouse", name := "tellWaiting", desc := "()I" } : Jvm.MethodName)) ∈ lw_all := lw_g (lw_at lw_m9 12 rfl) rfl
theorem q2030 : (Jvm.Cond.code ({ cls := "PittanceHouse", name := "tellWaiting", desc := "()I" } : Jvm.MethodName) prog_1_method_40_code (1 : Nat) (Option.some Jvm.ClassFile.FieldType.int)) ∈ lw_all := lw_g (lw_at lw_m9 13 rfl) rfl
theorem q2031 : (Jvm.Cond.methodLink "PittanceHouse" (291 : Nat) ({ cls := "PittanceHouse$House", name := "lineTold", desc := "()Ljava/lang/String;" } : Jvm.MethodName)) ∈ lw_all := lw_g (lw_at lw_m9 14 rfl) rfl
theorem q2039 : (Jvm.Cond.instanceMethod ({ cls := "PittanceHouse", name := "character", desc := "(I)I" } : Jvm.MethodName)) ∈ lw_all := lw_g (lw_at lw_m9 22 rfl) rfl
theorem q2040 : (Jvm.Cond.selects "PittanceHouse" ({ cls := "PittanceHouse", name := "character", desc := "(I)I" } : Jvm.MethodName) ({ cls := "PittanceHouse", name := "character", desc := "(I)I" } : Jvm.MethodName)) ∈ lw_all := lw_g (lw_at lw_m9 23 rfl) rfl
theorem q2041 : (Jvm.Cond.code ({ cls := "PittanceHouse", name := "character", desc := "(I)I" } : Jvm.MethodName) prog_1_method_41_code (2 : Nat) (Option.some Jvm.ClassFile.FieldType.int)) ∈ lw_all := lw_g (lw_at lw_m9 24 rfl) rfl
theorem q2042 : (Jvm.Cond.methodLink "PittanceHouse" (294 : Nat) ({ cls := "java/lang/String", name := "charAt", desc := "(I)C" } : Jvm.MethodName)) ∈ lw_all := lw_g (lw_at lw_m9 25 rfl) rfl
theorem q2044 : (Jvm.Cond.instanceMethod ({ cls := "PittanceHouse", name := "reason", desc := "(Z)I" } : Jvm.MethodName)) ∈ lw_all := lw_g (lw_at lw_m9 27 rfl) rfl
theorem q2045 : (Jvm.Cond.selects "PittanceHouse" ({ cls := "PittanceHouse", name := "reason", desc := "(Z)I" } : Jvm.MethodName) ({ cls := "PittanceHouse", name := "reason", desc := "(Z)I" } : Jvm.MethodName)) ∈ lw_all := lw_g (lw_at lw_m9 28 rfl) rfl
theorem q2046 : (Jvm.Cond.code ({ cls := "PittanceHouse", name := "reason", desc := "(Z)I" } : Jvm.MethodName) prog_1_method_42_code (2 : Nat) (Option.some Jvm.ClassFile.FieldType.int)) ∈ lw_all := lw_g (lw_at lw_m9 29 rfl) rfl
theorem q2048 : (Jvm.Cond.instanceMethod ({ cls := "PittanceHouse", name := "account", desc := "(I)I" } : Jvm.MethodName)) ∈ lw_all := lw_g (lw_at lw_m9 31 rfl) rfl
theorem q2049 : (Jvm.Cond.selects "PittanceHouse" ({ cls := "PittanceHouse", name := "account", desc := "(I)I" } : Jvm.MethodName) ({ cls := "PittanceHouse", name := "account", desc := "(I)I" } : Jvm.MethodName)) ∈ lw_all := lw_g (lw_at lw_m9 32 rfl) rfl
theorem q2050 : (Jvm.Cond.code ({ cls := "PittanceHouse", name := "account", desc := "(I)I" } : Jvm.MethodName) prog_1_method_43_code (2 : Nat) (Option.some Jvm.ClassFile.FieldType.int)) ∈ lw_all := lw_g (lw_at lw_m9 33 rfl) rfl
theorem q2051 : (Jvm.Cond.methodLink "PittanceHouse" (304 : Nat) ({ cls := "java/util/ArrayList", name := "size", desc := "()I" } : Jvm.MethodName)) ∈ lw_all := lw_g (lw_at lw_m9 34 rfl) rfl
theorem q2052 : (Jvm.Cond.methodLink "PittanceHouse" (305 : Nat) ({ cls := "PittanceHouse$House", name := "so", desc := "(I)I" } : Jvm.MethodName)) ∈ lw_all := lw_g (lw_at lw_m9 35 rfl) rfl
theorem q2056 : (Jvm.Cond.methodLink "PittanceHouse" (308 : Nat) ({ cls := "PittanceHouse$House", name := "underBan", desc := "()I" } : Jvm.MethodName)) ∈ lw_all := lw_g (lw_at lw_m9 39 rfl) rfl
theorem q2060 : (Jvm.Cond.methodLink "PittanceHouse" (311 : Nat) ({ cls := "PittanceHouse$House", name := "feasts", desc := "()I" } : Jvm.MethodName)) ∈ lw_all := lw_g (lw_at lw_m9 43 rfl) rfl
theorem q2062 : (Jvm.Cond.instanceMethod ({ cls := "PittanceHouse", name := "isBalanced", desc := "()I" } : Jvm.MethodName)) ∈ lw_all := lw_g (lw_at lw_m9 45 rfl) rfl
theorem q2063 : (Jvm.Cond.selects "PittanceHouse" ({ cls := "PittanceHouse", name := "isBalanced", desc := "()I" } : Jvm.MethodName) ({ cls := "PittanceHouse", name := "isBalanced", desc := "()I" } : Jvm.MethodName)) ∈ lw_all := lw_g (lw_at lw_m9 46 rfl) rfl
theorem q2064 : (Jvm.Cond.code ({ cls := "PittanceHouse", name := "isBalanced", desc := "()I" } : Jvm.MethodName) prog_1_method_44_code (1 : Nat) (Option.some Jvm.ClassFile.FieldType.int)) ∈ lw_all := lw_g (lw_at lw_m9 47 rfl) rfl
theorem q2065 : (Jvm.Cond.methodLink "PittanceHouse" (329 : Nat) ({ cls := "PittanceHouse$House", name := "isBalanced", desc := "()Z" } : Jvm.MethodName)) ∈ lw_all := lw_g (lw_at lw_m9 48 rfl) rfl
theorem q2085 : (Jvm.Cond.instanceMethod ({ cls := "PittanceHouse", name := "meanAge", desc := "()D" } : Jvm.MethodName)) ∈ lw_all := lw_g (lw_at lw_m9 68 rfl) rfl
theorem q2086 : (Jvm.Cond.selects "PittanceHouse" ({ cls := "PittanceHouse", name := "meanAge", desc := "()D" } : Jvm.MethodName) ({ cls := "PittanceHouse", name := "meanAge", desc := "()D" } : Jvm.MethodName)) ∈ lw_all := lw_g (lw_at lw_m9 69 rfl) rfl
theorem q2087 : (Jvm.Cond.code ({ cls := "PittanceHouse", name := "meanAge", desc := "()D" } : Jvm.MethodName) prog_1_method_45_code (2 : Nat) (Option.some Jvm.ClassFile.FieldType.double)) ∈ lw_all := lw_g (lw_at lw_m9 70 rfl) rfl
theorem q2088 : (Jvm.Cond.methodLink "PittanceHouse" (332 : Nat) ({ cls := "java/util/LinkedList", name := "size", desc := "()I" } : Jvm.MethodName)) ∈ lw_all := lw_g (lw_at lw_m9 71 rfl) rfl
theorem q2089 : (Jvm.Cond.methodLink "PittanceHouse" (333 : Nat) ({ cls := "PittanceHouse$House", name := "ages", desc := "()I" } : Jvm.MethodName)) ∈ lw_all := lw_g (lw_at lw_m9 72 rfl) rfl
theorem q2094 : (Jvm.Cond.instanceMethod ({ cls := "PittanceHouse", name := "entitledShare", desc := "()F" } : Jvm.MethodName)) ∈ lw_all := lw_g (lw_at lw_m9 77 rfl) rfl
theorem q2095 : (Jvm.Cond.selects "PittanceHouse" ({ cls := "PittanceHouse", name := "entitledShare", desc := "()F" } : Jvm.MethodName) ({ cls := "PittanceHouse", name := "entitledShare", desc := "()F" } : Jvm.MethodName)) ∈ lw_all := lw_g (lw_at lw_m9 78 rfl) rfl
theorem q2096 : (Jvm.Cond.code ({ cls := "PittanceHouse", name := "entitledShare", desc := "()F" } : Jvm.MethodName) prog_1_method_46_code (2 : Nat) (Option.some Jvm.ClassFile.FieldType.float)) ∈ lw_all := lw_g (lw_at lw_m9 79 rfl) rfl
theorem q2097 : (Jvm.Cond.methodLink "PittanceHouse" (336 : Nat) ({ cls := "PittanceHouse$House", name := "entitledMany", desc := "()I" } : Jvm.MethodName)) ∈ lw_all := lw_g (lw_at lw_m9 80 rfl) rfl
theorem q2099 : (Jvm.Cond.instanceMethod ({ cls := "PittanceHouse", name := "undo", desc := "()I" } : Jvm.MethodName)) ∈ lw_all := lw_g (lw_at lw_m9 82 rfl) rfl
theorem q2100 : (Jvm.Cond.selects "PittanceHouse" ({ cls := "PittanceHouse", name := "undo", desc := "()I" } : Jvm.MethodName) ({ cls := "PittanceHouse", name := "undo", desc := "()I" } : Jvm.MethodName)) ∈ lw_all := lw_g (lw_at lw_m9 83 rfl) rfl
theorem q2101 : (Jvm.Cond.code ({ cls := "PittanceHouse", name := "undo", desc := "()I" } : Jvm.MethodName) prog_1_method_47_code (1 : Nat) (Option.some Jvm.ClassFile.FieldType.int)) ∈ lw_all := lw_g (lw_at lw_m9 84 rfl) rfl
theorem q2102 : (Jvm.Cond.methodLink "PittanceHouse" (339 : Nat) ({ cls := "java/util/ArrayDeque", name := "isEmpty", desc := "()Z" } : Jvm.MethodName)) ∈ lw_all := lw_g (lw_at lw_m9 85 rfl) rfl
theorem q2106 : (Jvm.Cond.methodLink "PittanceHouse" (342 : Nat) ({ cls := "java/util/ArrayDeque", name := "removeLast", desc := "()Ljava/lang/Object;" } : Jvm.MethodName)) ∈ lw_all := lw_g (lw_at lw_m9 89 rfl) rfl
theorem q2115 : (Jvm.Cond.instanceMethod ({ cls := "PittanceHouse", name := "save", desc := "()I" } : Jvm.MethodName)) ∈ lw_all := lw_g (lw_at lw_m9 98 rfl) rfl
theorem q2116 : (Jvm.Cond.selects "PittanceHouse" ({ cls := "PittanceHouse", name := "save", desc := "()I" } : Jvm.MethodName) ({ cls := "PittanceHouse", name := "save", desc := "()I" } : Jvm.MethodName)) ∈ lw_all := lw_g (lw_at lw_m9 99 rfl) rfl
theorem q2117 : (Jvm.Cond.code ({ cls := "PittanceHouse", name := "save", desc := "()I" } : Jvm.MethodName) prog_1_method_48_code (1 : Nat) (Option.some Jvm.ClassFile.FieldType.int)) ∈ lw_all := lw_g (lw_at lw_m9 100 rfl) rfl
theorem q2119 : (Jvm.Cond.instanceMethod ({ cls := "PittanceHouse", name := "restore", desc := "()I" } : Jvm.MethodName)) ∈ lw_all := lw_g (lw_at lw_m9 102 rfl) rfl
theorem q2120 : (Jvm.Cond.selects "PittanceHouse" ({ cls := "PittanceHouse", name := "restore", desc := "()I" } : Jvm.MethodName) ({ cls := "PittanceHouse", name := "restore", desc := "()I" } : Jvm.MethodName)) ∈ lw_all := lw_g (lw_at lw_m9 103 rfl) rfl
theorem q2121 : (Jvm.Cond.code ({ cls := "PittanceHouse", name := "restore", desc := "()I" } : Jvm.MethodName) prog_1_method_49_code (1 : Nat) (Option.some Jvm.ClassFile.FieldType.int)) ∈ lw_all := lw_g (lw_at lw_m9 104 rfl) rfl
theorem q2122 : (Jvm.Cond.methodLink "PittanceHouse" (348 : Nat) ({ cls := "java/util/ArrayDeque", name := "clear", desc := "()V" } : Jvm.MethodName)) ∈ lw_all := lw_g (lw_at lw_m9 105 rfl) rfl
theorem q2610 : (Jvm.Cond.castable "PittanceHouse" "java/lang/Object") ∈ lw_tbl := lw_at lw_m11 113 rfl
theorem in_X0 : ∀ w ∈ wsX00, w ∈ lw_all := lw_in wsX00 [336, 338, 340, 342, 344, 346, 348, 350] (by decide +kernel) (by decide +kernel)
/-! PittanceHouse$House -/
set_option maxRecDepth 100000
def RX1 : String := "PittanceHouse$House"
def TX1 : u_T := fun k => match k with
  | 0 => ("PittanceHouse$House", "brethren", "Ljava/util/ArrayList;", true)
  | 1 => ("PittanceHouse$House", "line", "Ljava/util/LinkedList;", true)
  | 2 => ("PittanceHouse$House", "seniors", "Ljava/util/LinkedList;", true)
  | 3 => ("PittanceHouse$House", "cells", "[I", true)
  | 4 => ("PittanceHouse$House", "feasts", "[I", true)
  | 5 => ("PittanceHouse$House", "year", "I", false)
  | 6 => ("PittanceHouse$House", "week", "I", false)
  | 7 => ("PittanceHouse$House", "chest", "I", false)
  | 8 => ("PittanceHouse$House", "came", "I", false)
  | 9 => ("PittanceHouse$House", "paid", "I", false)
  | 10 => ("PittanceHouse$House", "paidForGowns", "I", false)
  | 11 => ("PittanceHouse$House", "gowns", "I", false)
  | _ => ("PittanceHouse$House", "pardons", "I", false)
def tyX1 : Nat → FieldType := fun k => match k with
  | 0 => .object "java/util/ArrayList"
  | 1 => .object "java/util/LinkedList"
  | 2 => .object "java/util/LinkedList"
  | 3 => .array .int
  | 4 => .array .int
  | 5 => .int
  | 6 => .int
  | 7 => .int
  | 8 => .int
  | 9 => .int
  | 10 => .int
  | 11 => .int
  | _ => .int
abbrev wsX10 : List Cond := u_ws RX1 TX1 13
set_option maxRecDepth 100000 in
theorem nmX1 : ∀ a, a < 13 → ∀ b, b < 13 → a ≠ b → (TX1 a).2.1 ≠ (TX1 b).2.1 := by decide +kernel
set_option maxRecDepth 100000 in
theorem tyX1_ok : ∀ k, k < 13 → parseFieldDescriptor (TX1 k).2.2.1 = some (tyX1 k) := by decide +kernel
abbrev cX1_init : ByteArray := prog_5_method_1_code
def yX1_init : MethodName := ⟨RX1, "<init>", "()V"⟩
def dkwX1_init_3 : List UInt8 := [162, 0, 17, 42, 180, 0, 30, 27, 16, 241, 79, 132, 1, 1, 167, 255, 239, 177]
abbrev dktX1_init_3 : List UInt8 := dkwX1_init_3 ++ []
def dkwX1_init_2 : List UInt8 := [181, 0, 30, 42, 16, 52, 188, 10, 181, 0, 34, 42, 16, 100, 181, 0, 37, 3, 60, 27, 16, 8]
abbrev dktX1_init_2 : List UInt8 := dkwX1_init_2 ++ dktX1_init_3
def dkwX1_init_1 : List UInt8 := [183, 0, 22, 181, 0, 23, 42, 187, 0, 20, 89, 183, 0, 22, 181, 0, 27, 42, 16, 8, 188, 10]
abbrev dktX1_init_1 : List UInt8 := dkwX1_init_1 ++ dktX1_init_2
def dkwX1_init_0 : List UInt8 := [42, 183, 0, 3, 42, 187, 0, 9, 89, 16, 16, 183, 0, 11, 181, 0, 14, 42, 187, 0, 20, 89]
abbrev dktX1_init_0 : List UInt8 := dkwX1_init_0 ++ dktX1_init_1
theorem dksX1_init_0 : cX1_init.data.toList.drop 0 = dktX1_init_0 := by decide +kernel
theorem dksX1_init_1 : cX1_init.data.toList.drop 22 = dktX1_init_1 := dk_seg dksX1_init_0 22 rfl rfl
theorem dksX1_init_2 : cX1_init.data.toList.drop 44 = dktX1_init_2 := dk_seg dksX1_init_1 22 rfl rfl
theorem dksX1_init_3 : cX1_init.data.toList.drop 66 = dktX1_init_3 := dk_seg dksX1_init_2 22 rfl rfl
theorem dX1_init_0 : decode cX1_init 0 = .ok (.aload_n 0, 1) := dk_42 (dk_at dksX1_init_0 0 rfl rfl)
theorem dX1_init_1 : decode cX1_init 1 = .ok (.invokespecial 3, 3) := dk_183 0 3 (dk_at dksX1_init_0 1 rfl rfl)
theorem dX1_init_4 : decode cX1_init 4 = .ok (.aload_n 0, 1) := dk_42 (dk_at dksX1_init_0 4 rfl rfl)
theorem dX1_init_5 : decode cX1_init 5 = .ok (.new 9, 3) := dk_187 0 9 (dk_at dksX1_init_0 5 rfl rfl)
theorem dX1_init_8 : decode cX1_init 8 = .ok (.dup, 1) := dk_89 (dk_at dksX1_init_0 8 rfl rfl)
theorem dX1_init_9 : decode cX1_init 9 = .ok (.bipush 16, 2) := dk_16 16 (dk_at dksX1_init_0 9 rfl rfl)
theorem dX1_init_11 : decode cX1_init 11 = .ok (.invokespecial 11, 3) := dk_183 0 11 (dk_at dksX1_init_0 11 rfl rfl)
theorem dX1_init_14 : decode cX1_init 14 = .ok (.putfield 14, 3) := dk_181 0 14 (dk_at dksX1_init_0 14 rfl rfl)
theorem dX1_init_17 : decode cX1_init 17 = .ok (.aload_n 0, 1) := dk_42 (dk_at dksX1_init_0 17 rfl rfl)
theorem dX1_init_18 : decode cX1_init 18 = .ok (.new 20, 3) := dk_187 0 20 (dk_at dksX1_init_0 18 rfl rfl)
theorem dX1_init_21 : decode cX1_init 21 = .ok (.dup, 1) := dk_89 (dk_at dksX1_init_0 21 rfl rfl)
theorem dX1_init_22 : decode cX1_init 22 = .ok (.invokespecial 22, 3) := dk_183 0 22 (dk_at dksX1_init_1 0 rfl rfl)
theorem dX1_init_25 : decode cX1_init 25 = .ok (.putfield 23, 3) := dk_181 0 23 (dk_at dksX1_init_1 3 rfl rfl)
theorem dX1_init_28 : decode cX1_init 28 = .ok (.aload_n 0, 1) := dk_42 (dk_at dksX1_init_1 6 rfl rfl)
theorem dX1_init_29 : decode cX1_init 29 = .ok (.new 20, 3) := dk_187 0 20 (dk_at dksX1_init_1 7 rfl rfl)
theorem dX1_init_32 : decode cX1_init 32 = .ok (.dup, 1) := dk_89 (dk_at dksX1_init_1 10 rfl rfl)
theorem dX1_init_33 : decode cX1_init 33 = .ok (.invokespecial 22, 3) := dk_183 0 22 (dk_at dksX1_init_1 11 rfl rfl)
theorem dX1_init_36 : decode cX1_init 36 = .ok (.putfield 27, 3) := dk_181 0 27 (dk_at dksX1_init_1 14 rfl rfl)
theorem dX1_init_39 : decode cX1_init 39 = .ok (.aload_n 0, 1) := dk_42 (dk_at dksX1_init_1 17 rfl rfl)
theorem dX1_init_40 : decode cX1_init 40 = .ok (.bipush 8, 2) := dk_16 8 (dk_at dksX1_init_1 18 rfl rfl)
theorem dX1_init_42 : decode cX1_init 42 = .ok (.newarray .int, 2) := dk_188_10 (dk_at dksX1_init_1 20 rfl rfl)
theorem dX1_init_44 : decode cX1_init 44 = .ok (.putfield 30, 3) := dk_181 0 30 (dk_at dksX1_init_2 0 rfl rfl)
theorem dX1_init_47 : decode cX1_init 47 = .ok (.aload_n 0, 1) := dk_42 (dk_at dksX1_init_2 3 rfl rfl)
theorem dX1_init_48 : decode cX1_init 48 = .ok (.bipush 52, 2) := dk_16 52 (dk_at dksX1_init_2 4 rfl rfl)
theorem dX1_init_50 : decode cX1_init 50 = .ok (.newarray .int, 2) := dk_188_10 (dk_at dksX1_init_2 6 rfl rfl)
theorem dX1_init_52 : decode cX1_init 52 = .ok (.putfield 34, 3) := dk_181 0 34 (dk_at dksX1_init_2 8 rfl rfl)
theorem dX1_init_55 : decode cX1_init 55 = .ok (.aload_n 0, 1) := dk_42 (dk_at dksX1_init_2 11 rfl rfl)
theorem dX1_init_56 : decode cX1_init 56 = .ok (.bipush 100, 2) := dk_16 100 (dk_at dksX1_init_2 12 rfl rfl)
theorem dX1_init_58 : decode cX1_init 58 = .ok (.putfield 37, 3) := dk_181 0 37 (dk_at dksX1_init_2 14 rfl rfl)
theorem dX1_init_61 : decode cX1_init 61 = .ok (.iconst 0, 1) := dk_3 (dk_at dksX1_init_2 17 rfl rfl)
theorem dX1_init_62 : decode cX1_init 62 = .ok (.istore_n 1, 1) := dk_60 (dk_at dksX1_init_2 18 rfl rfl)
theorem dX1_init_63 : decode cX1_init 63 = .ok (.iload_n 1, 1) := dk_27 (dk_at dksX1_init_2 19 rfl rfl)
theorem dX1_init_64 : decode cX1_init 64 = .ok (.bipush 8, 2) := dk_16 8 (dk_at dksX1_init_2 20 rfl rfl)
theorem dX1_init_66 : decode cX1_init 66 = .ok (.if_icmp .ge 17, 3) := dk_162 0 17 (dk_at dksX1_init_3 0 rfl rfl)
theorem dX1_init_69 : decode cX1_init 69 = .ok (.aload_n 0, 1) := dk_42 (dk_at dksX1_init_3 3 rfl rfl)
theorem dX1_init_70 : decode cX1_init 70 = .ok (.getfield 30, 3) := dk_180 0 30 (dk_at dksX1_init_3 4 rfl rfl)
theorem dX1_init_73 : decode cX1_init 73 = .ok (.iload_n 1, 1) := dk_27 (dk_at dksX1_init_3 7 rfl rfl)
theorem dX1_init_74 : decode cX1_init 74 = .ok (.bipush (-15), 2) := dk_16 241 (dk_at dksX1_init_3 8 rfl rfl)
theorem dX1_init_76 : decode cX1_init 76 = .ok (.iastore, 1) := dk_79 (dk_at dksX1_init_3 10 rfl rfl)
theorem dX1_init_77 : decode cX1_init 77 = .ok (.iinc 1 1, 3) := dk_132 1 1 (dk_at dksX1_init_3 11 rfl rfl)
theorem dX1_init_80 : decode cX1_init 80 = .ok (.goto (-17), 3) := dk_167 255 239 (dk_at dksX1_init_3 14 rfl rfl)
theorem dX1_init_83 : decode cX1_init 83 = .ok (.return_, 1) := dk_177 (dk_at dksX1_init_3 17 rfl rfl)
abbrev cX1_copy : ByteArray := prog_5_method_2_code
def yX1_copy : MethodName := ⟨RX1, "copy", "()LPittanceHouse$House;"⟩
def dkwX1_copy_7 : List UInt8 := [180, 0, 34, 3, 16, 52, 184, 0, 81, 43, 42, 182, 0, 87, 43, 176]
abbrev dktX1_copy_7 : List UInt8 := dkwX1_copy_7 ++ []
def dkwX1_copy_6 : List UInt8 := [167, 255, 223, 42, 180, 0, 30, 3, 43, 180, 0, 30, 3, 16, 8, 184, 0, 81, 42, 180, 0, 34, 3, 43]
abbrev dktX1_copy_6 : List UInt8 := dkwX1_copy_6 ++ dktX1_copy_7
def dkwX1_copy_5 : List UInt8 := [185, 0, 52, 1, 0, 192, 0, 67, 182, 0, 69, 62, 43, 180, 0, 27, 29, 184, 0, 73, 182, 0, 77]
abbrev dktX1_copy_5 : List UInt8 := dkwX1_copy_5 ++ dktX1_copy_6
def dkwX1_copy_4 : List UInt8 := [167, 255, 223, 42, 180, 0, 27, 182, 0, 66, 77, 44, 185, 0, 46, 1, 0, 153, 0, 30, 44]
abbrev dktX1_copy_4 : List UInt8 := dkwX1_copy_4 ++ dktX1_copy_5
def dkwX1_copy_3 : List UInt8 := [185, 0, 52, 1, 0, 192, 0, 67, 182, 0, 69, 62, 43, 180, 0, 23, 29, 184, 0, 73, 182, 0, 77]
abbrev dktX1_copy_3 : List UInt8 := dkwX1_copy_3 ++ dktX1_copy_4
def dkwX1_copy_2 : List UInt8 := [87, 167, 255, 225, 42, 180, 0, 23, 182, 0, 66, 77, 44, 185, 0, 46, 1, 0, 153, 0, 30, 44]
abbrev dktX1_copy_2 : List UInt8 := dkwX1_copy_2 ++ dktX1_copy_3
def dkwX1_copy_1 : List UInt8 := [153, 0, 28, 44, 185, 0, 52, 1, 0, 192, 0, 56, 78, 43, 180, 0, 14, 45, 182, 0, 58, 182, 0, 62]
abbrev dktX1_copy_1 : List UInt8 := dkwX1_copy_1 ++ dktX1_copy_2
def dkwX1_copy_0 : List UInt8 := [187, 0, 15, 89, 183, 0, 41, 76, 42, 180, 0, 14, 182, 0, 42, 77, 44, 185, 0, 46, 1, 0]
abbrev dktX1_copy_0 : List UInt8 := dkwX1_copy_0 ++ dktX1_copy_1
theorem dksX1_copy_0 : cX1_copy.data.toList.drop 0 = dktX1_copy_0 := by decide +kernel
theorem dksX1_copy_1 : cX1_copy.data.toList.drop 22 = dktX1_copy_1 := dk_seg dksX1_copy_0 22 rfl rfl
theorem dksX1_copy_2 : cX1_copy.data.toList.drop 46 = dktX1_copy_2 := dk_seg dksX1_copy_1 24 rfl rfl
theorem dksX1_copy_3 : cX1_copy.data.toList.drop 68 = dktX1_copy_3 := dk_seg dksX1_copy_2 22 rfl rfl
theorem dksX1_copy_4 : cX1_copy.data.toList.drop 91 = dktX1_copy_4 := dk_seg dksX1_copy_3 23 rfl rfl
theorem dksX1_copy_5 : cX1_copy.data.toList.drop 112 = dktX1_copy_5 := dk_seg dksX1_copy_4 21 rfl rfl
theorem dksX1_copy_6 : cX1_copy.data.toList.drop 135 = dktX1_copy_6 := dk_seg dksX1_copy_5 23 rfl rfl
theorem dksX1_copy_7 : cX1_copy.data.toList.drop 159 = dktX1_copy_7 := dk_seg dksX1_copy_6 24 rfl rfl
theorem dX1_copy_0 : decode cX1_copy 0 = .ok (.new 15, 3) := dk_187 0 15 (dk_at dksX1_copy_0 0 rfl rfl)
theorem dX1_copy_3 : decode cX1_copy 3 = .ok (.dup, 1) := dk_89 (dk_at dksX1_copy_0 3 rfl rfl)
theorem dX1_copy_4 : decode cX1_copy 4 = .ok (.invokespecial 41, 3) := dk_183 0 41 (dk_at dksX1_copy_0 4 rfl rfl)
theorem dX1_copy_7 : decode cX1_copy 7 = .ok (.astore_n 1, 1) := dk_76 (dk_at dksX1_copy_0 7 rfl rfl)
theorem dX1_copy_8 : decode cX1_copy 8 = .ok (.aload_n 0, 1) := dk_42 (dk_at dksX1_copy_0 8 rfl rfl)
theorem dX1_copy_9 : decode cX1_copy 9 = .ok (.getfield 14, 3) := dk_180 0 14 (dk_at dksX1_copy_0 9 rfl rfl)
theorem dX1_copy_12 : decode cX1_copy 12 = .ok (.invokevirtual 42, 3) := dk_182 0 42 (dk_at dksX1_copy_0 12 rfl rfl)
theorem dX1_copy_15 : decode cX1_copy 15 = .ok (.astore_n 2, 1) := dk_77 (dk_at dksX1_copy_0 15 rfl rfl)
theorem dX1_copy_16 : decode cX1_copy 16 = .ok (.aload_n 2, 1) := dk_44 (dk_at dksX1_copy_0 16 rfl rfl)
theorem dX1_copy_17 : decode cX1_copy 17 = .ok (.invokeinterface 46 1, 5) := by decide +kernel
theorem dX1_copy_22 : decode cX1_copy 22 = .ok (.ifCond .eq 28, 3) := dk_153 0 28 (dk_at dksX1_copy_1 0 rfl rfl)
theorem dX1_copy_25 : decode cX1_copy 25 = .ok (.aload_n 2, 1) := dk_44 (dk_at dksX1_copy_1 3 rfl rfl)
theorem dX1_copy_26 : decode cX1_copy 26 = .ok (.invokeinterface 52 1, 5) := by decide +kernel
theorem dX1_copy_31 : decode cX1_copy 31 = .ok (.checkcast 56, 3) := dk_192 0 56 (dk_at dksX1_copy_1 9 rfl rfl)
theorem dX1_copy_34 : decode cX1_copy 34 = .ok (.astore_n 3, 1) := dk_78 (dk_at dksX1_copy_1 12 rfl rfl)
theorem dX1_copy_35 : decode cX1_copy 35 = .ok (.aload_n 1, 1) := dk_43 (dk_at dksX1_copy_1 13 rfl rfl)
theorem dX1_copy_36 : decode cX1_copy 36 = .ok (.getfield 14, 3) := dk_180 0 14 (dk_at dksX1_copy_1 14 rfl rfl)
theorem dX1_copy_39 : decode cX1_copy 39 = .ok (.aload_n 3, 1) := dk_45 (dk_at dksX1_copy_1 17 rfl rfl)
theorem dX1_copy_40 : decode cX1_copy 40 = .ok (.invokevirtual 58, 3) := dk_182 0 58 (dk_at dksX1_copy_1 18 rfl rfl)
theorem dX1_copy_43 : decode cX1_copy 43 = .ok (.invokevirtual 62, 3) := dk_182 0 62 (dk_at dksX1_copy_1 21 rfl rfl)
theorem dX1_copy_46 : decode cX1_copy 46 = .ok (.pop, 1) := dk_87 (dk_at dksX1_copy_2 0 rfl rfl)
theorem dX1_copy_47 : decode cX1_copy 47 = .ok (.goto (-31), 3) := dk_167 255 225 (dk_at dksX1_copy_2 1 rfl rfl)
theorem dX1_copy_50 : decode cX1_copy 50 = .ok (.aload_n 0, 1) := dk_42 (dk_at dksX1_copy_2 4 rfl rfl)
theorem dX1_copy_51 : decode cX1_copy 51 = .ok (.getfield 23, 3) := dk_180 0 23 (dk_at dksX1_copy_2 5 rfl rfl)
theorem dX1_copy_54 : decode cX1_copy 54 = .ok (.invokevirtual 66, 3) := dk_182 0 66 (dk_at dksX1_copy_2 8 rfl rfl)
theorem dX1_copy_57 : decode cX1_copy 57 = .ok (.astore_n 2, 1) := dk_77 (dk_at dksX1_copy_2 11 rfl rfl)
theorem dX1_copy_58 : decode cX1_copy 58 = .ok (.aload_n 2, 1) := dk_44 (dk_at dksX1_copy_2 12 rfl rfl)
theorem dX1_copy_59 : decode cX1_copy 59 = .ok (.invokeinterface 46 1, 5) := by decide +kernel
theorem dX1_copy_64 : decode cX1_copy 64 = .ok (.ifCond .eq 30, 3) := dk_153 0 30 (dk_at dksX1_copy_2 18 rfl rfl)
theorem dX1_copy_67 : decode cX1_copy 67 = .ok (.aload_n 2, 1) := dk_44 (dk_at dksX1_copy_2 21 rfl rfl)
theorem dX1_copy_68 : decode cX1_copy 68 = .ok (.invokeinterface 52 1, 5) := by decide +kernel
theorem dX1_copy_73 : decode cX1_copy 73 = .ok (.checkcast 67, 3) := dk_192 0 67 (dk_at dksX1_copy_3 5 rfl rfl)
theorem dX1_copy_76 : decode cX1_copy 76 = .ok (.invokevirtual 69, 3) := dk_182 0 69 (dk_at dksX1_copy_3 8 rfl rfl)
theorem dX1_copy_79 : decode cX1_copy 79 = .ok (.istore_n 3, 1) := dk_62 (dk_at dksX1_copy_3 11 rfl rfl)
theorem dX1_copy_80 : decode cX1_copy 80 = .ok (.aload_n 1, 1) := dk_43 (dk_at dksX1_copy_3 12 rfl rfl)
theorem dX1_copy_81 : decode cX1_copy 81 = .ok (.getfield 23, 3) := dk_180 0 23 (dk_at dksX1_copy_3 13 rfl rfl)
theorem dX1_copy_84 : decode cX1_copy 84 = .ok (.iload_n 3, 1) := dk_29 (dk_at dksX1_copy_3 16 rfl rfl)
theorem dX1_copy_85 : decode cX1_copy 85 = .ok (.invokestatic 73, 3) := dk_184 0 73 (dk_at dksX1_copy_3 17 rfl rfl)
theorem dX1_copy_88 : decode cX1_copy 88 = .ok (.invokevirtual 77, 3) := dk_182 0 77 (dk_at dksX1_copy_3 20 rfl rfl)
theorem dX1_copy_91 : decode cX1_copy 91 = .ok (.goto (-33), 3) := dk_167 255 223 (dk_at dksX1_copy_4 0 rfl rfl)
theorem dX1_copy_94 : decode cX1_copy 94 = .ok (.aload_n 0, 1) := dk_42 (dk_at dksX1_copy_4 3 rfl rfl)
theorem dX1_copy_95 : decode cX1_copy 95 = .ok (.getfield 27, 3) := dk_180 0 27 (dk_at dksX1_copy_4 4 rfl rfl)
theorem dX1_copy_98 : decode cX1_copy 98 = .ok (.invokevirtual 66, 3) := dk_182 0 66 (dk_at dksX1_copy_4 7 rfl rfl)
theorem dX1_copy_101 : decode cX1_copy 101 = .ok (.astore_n 2, 1) := dk_77 (dk_at dksX1_copy_4 10 rfl rfl)
theorem dX1_copy_102 : decode cX1_copy 102 = .ok (.aload_n 2, 1) := dk_44 (dk_at dksX1_copy_4 11 rfl rfl)
theorem dX1_copy_103 : decode cX1_copy 103 = .ok (.invokeinterface 46 1, 5) := by decide +kernel
theorem dX1_copy_108 : decode cX1_copy 108 = .ok (.ifCond .eq 30, 3) := dk_153 0 30 (dk_at dksX1_copy_4 17 rfl rfl)
theorem dX1_copy_111 : decode cX1_copy 111 = .ok (.aload_n 2, 1) := dk_44 (dk_at dksX1_copy_4 20 rfl rfl)
theorem dX1_copy_112 : decode cX1_copy 112 = .ok (.invokeinterface 52 1, 5) := by decide +kernel
theorem dX1_copy_117 : decode cX1_copy 117 = .ok (.checkcast 67, 3) := dk_192 0 67 (dk_at dksX1_copy_5 5 rfl rfl)
theorem dX1_copy_120 : decode cX1_copy 120 = .ok (.invokevirtual 69, 3) := dk_182 0 69 (dk_at dksX1_copy_5 8 rfl rfl)
theorem dX1_copy_123 : decode cX1_copy 123 = .ok (.istore_n 3, 1) := dk_62 (dk_at dksX1_copy_5 11 rfl rfl)
theorem dX1_copy_124 : decode cX1_copy 124 = .ok (.aload_n 1, 1) := dk_43 (dk_at dksX1_copy_5 12 rfl rfl)
theorem dX1_copy_125 : decode cX1_copy 125 = .ok (.getfield 27, 3) := dk_180 0 27 (dk_at dksX1_copy_5 13 rfl rfl)
theorem dX1_copy_128 : decode cX1_copy 128 = .ok (.iload_n 3, 1) := dk_29 (dk_at dksX1_copy_5 16 rfl rfl)
theorem dX1_copy_129 : decode cX1_copy 129 = .ok (.invokestatic 73, 3) := dk_184 0 73 (dk_at dksX1_copy_5 17 rfl rfl)
theorem dX1_copy_132 : decode cX1_copy 132 = .ok (.invokevirtual 77, 3) := dk_182 0 77 (dk_at dksX1_copy_5 20 rfl rfl)
theorem dX1_copy_135 : decode cX1_copy 135 = .ok (.goto (-33), 3) := dk_167 255 223 (dk_at dksX1_copy_6 0 rfl rfl)
theorem dX1_copy_138 : decode cX1_copy 138 = .ok (.aload_n 0, 1) := dk_42 (dk_at dksX1_copy_6 3 rfl rfl)
theorem dX1_copy_139 : decode cX1_copy 139 = .ok (.getfield 30, 3) := dk_180 0 30 (dk_at dksX1_copy_6 4 rfl rfl)
theorem dX1_copy_142 : decode cX1_copy 142 = .ok (.iconst 0, 1) := dk_3 (dk_at dksX1_copy_6 7 rfl rfl)
theorem dX1_copy_143 : decode cX1_copy 143 = .ok (.aload_n 1, 1) := dk_43 (dk_at dksX1_copy_6 8 rfl rfl)
theorem dX1_copy_144 : decode cX1_copy 144 = .ok (.getfield 30, 3) := dk_180 0 30 (dk_at dksX1_copy_6 9 rfl rfl)
theorem dX1_copy_147 : decode cX1_copy 147 = .ok (.iconst 0, 1) := dk_3 (dk_at dksX1_copy_6 12 rfl rfl)
theorem dX1_copy_148 : decode cX1_copy 148 = .ok (.bipush 8, 2) := dk_16 8 (dk_at dksX1_copy_6 13 rfl rfl)
theorem dX1_copy_150 : decode cX1_copy 150 = .ok (.invokestatic 81, 3) := dk_184 0 81 (dk_at dksX1_copy_6 15 rfl rfl)
theorem dX1_copy_153 : decode cX1_copy 153 = .ok (.aload_n 0, 1) := dk_42 (dk_at dksX1_copy_6 18 rfl rfl)
theorem dX1_copy_154 : decode cX1_copy 154 = .ok (.getfield 34, 3) := dk_180 0 34 (dk_at dksX1_copy_6 19 rfl rfl)
theorem dX1_copy_157 : decode cX1_copy 157 = .ok (.iconst 0, 1) := dk_3 (dk_at dksX1_copy_6 22 rfl rfl)
theorem dX1_copy_158 : decode cX1_copy 158 = .ok (.aload_n 1, 1) := dk_43 (dk_at dksX1_copy_6 23 rfl rfl)
theorem dX1_copy_159 : decode cX1_copy 159 = .ok (.getfield 34, 3) := dk_180 0 34 (dk_at dksX1_copy_7 0 rfl rfl)
theorem dX1_copy_162 : decode cX1_copy 162 = .ok (.iconst 0, 1) := dk_3 (dk_at dksX1_copy_7 3 rfl rfl)
theorem dX1_copy_163 : decode cX1_copy 163 = .ok (.bipush 52, 2) := dk_16 52 (dk_at dksX1_copy_7 4 rfl rfl)
theorem dX1_copy_165 : decode cX1_copy 165 = .ok (.invokestatic 81, 3) := dk_184 0 81 (dk_at dksX1_copy_7 6 rfl rfl)
theorem dX1_copy_168 : decode cX1_copy 168 = .ok (.aload_n 1, 1) := dk_43 (dk_at dksX1_copy_7 9 rfl rfl)
theorem dX1_copy_169 : decode cX1_copy 169 = .ok (.aload_n 0, 1) := dk_42 (dk_at dksX1_copy_7 10 rfl rfl)
theorem dX1_copy_170 : decode cX1_copy 170 = .ok (.invokevirtual 87, 3) := dk_182 0 87 (dk_at dksX1_copy_7 11 rfl rfl)
theorem dX1_copy_173 : decode cX1_copy 173 = .ok (.aload_n 1, 1) := dk_43 (dk_at dksX1_copy_7 14 rfl rfl)
theorem dX1_copy_174 : decode cX1_copy 174 = .ok (.areturn, 1) := dk_176 (dk_at dksX1_copy_7 15 rfl rfl)
abbrev cX1_takesNumbers : ByteArray := prog_5_method_3_code
def yX1_takesNumbers : MethodName := ⟨RX1, "takesNumbers", "(LPittanceHouse$House;)V"⟩
def dkwX1_takesNumbers_2 : List UInt8 := [42, 43, 180, 0, 106, 181, 0, 106, 42, 43, 180, 0, 109, 181, 0, 109, 177]
abbrev dktX1_takesNumbers_2 : List UInt8 := dkwX1_takesNumbers_2 ++ []
def dkwX1_takesNumbers_1 : List UInt8 := [42, 43, 180, 0, 97, 181, 0, 97, 42, 43, 180, 0, 100, 181, 0, 100, 42, 43, 180, 0, 103, 181, 0, 103]
abbrev dktX1_takesNumbers_1 : List UInt8 := dkwX1_takesNumbers_1 ++ dktX1_takesNumbers_2
def dkwX1_takesNumbers_0 : List UInt8 := [42, 43, 180, 0, 91, 181, 0, 91, 42, 43, 180, 0, 94, 181, 0, 94, 42, 43, 180, 0, 37, 181, 0, 37]
abbrev dktX1_takesNumbers_0 : List UInt8 := dkwX1_takesNumbers_0 ++ dktX1_takesNumbers_1
theorem dksX1_takesNumbers_0 : cX1_takesNumbers.data.toList.drop 0 = dktX1_takesNumbers_0 := by decide +kernel
theorem dksX1_takesNumbers_1 : cX1_takesNumbers.data.toList.drop 24 = dktX1_takesNumbers_1 := dk_seg dksX1_takesNumbers_0 24 rfl rfl
theorem dksX1_takesNumbers_2 : cX1_takesNumbers.data.toList.drop 48 = dktX1_takesNumbers_2 := dk_seg dksX1_takesNumbers_1 24 rfl rfl
theorem dX1_takesNumbers_0 : decode cX1_takesNumbers 0 = .ok (.aload_n 0, 1) := dk_42 (dk_at dksX1_takesNumbers_0 0 rfl rfl)
theorem dX1_takesNumbers_1 : decode cX1_takesNumbers 1 = .ok (.aload_n 1, 1) := dk_43 (dk_at dksX1_takesNumbers_0 1 rfl rfl)
theorem dX1_takesNumbers_2 : decode cX1_takesNumbers 2 = .ok (.getfield 91, 3) := dk_180 0 91 (dk_at dksX1_takesNumbers_0 2 rfl rfl)
theorem dX1_takesNumbers_5 : decode cX1_takesNumbers 5 = .ok (.putfield 91, 3) := dk_181 0 91 (dk_at dksX1_takesNumbers_0 5 rfl rfl)
theorem dX1_takesNumbers_8 : decode cX1_takesNumbers 8 = .ok (.aload_n 0, 1) := dk_42 (dk_at dksX1_takesNumbers_0 8 rfl rfl)
theorem dX1_takesNumbers_9 : decode cX1_takesNumbers 9 = .ok (.aload_n 1, 1) := dk_43 (dk_at dksX1_takesNumbers_0 9 rfl rfl)
theorem dX1_takesNumbers_10 : decode cX1_takesNumbers 10 = .ok (.getfield 94, 3) := dk_180 0 94 (dk_at dksX1_takesNumbers_0 10 rfl rfl)
theorem dX1_takesNumbers_13 : decode cX1_takesNumbers 13 = .ok (.putfield 94, 3) := dk_181 0 94 (dk_at dksX1_takesNumbers_0 13 rfl rfl)
theorem dX1_takesNumbers_16 : decode cX1_takesNumbers 16 = .ok (.aload_n 0, 1) := dk_42 (dk_at dksX1_takesNumbers_0 16 rfl rfl)
theorem dX1_takesNumbers_17 : decode cX1_takesNumbers 17 = .ok (.aload_n 1, 1) := dk_43 (dk_at dksX1_takesNumbers_0 17 rfl rfl)
theorem dX1_takesNumbers_18 : decode cX1_takesNumbers 18 = .ok (.getfield 37, 3) := dk_180 0 37 (dk_at dksX1_takesNumbers_0 18 rfl rfl)
theorem dX1_takesNumbers_21 : decode cX1_takesNumbers 21 = .ok (.putfield 37, 3) := dk_181 0 37 (dk_at dksX1_takesNumbers_0 21 rfl rfl)
theorem dX1_takesNumbers_24 : decode cX1_takesNumbers 24 = .ok (.aload_n 0, 1) := dk_42 (dk_at dksX1_takesNumbers_1 0 rfl rfl)
theorem dX1_takesNumbers_25 : decode cX1_takesNumbers 25 = .ok (.aload_n 1, 1) := dk_43 (dk_at dksX1_takesNumbers_1 1 rfl rfl)
theorem dX1_takesNumbers_26 : decode cX1_takesNumbers 26 = .ok (.getfield 97, 3) := dk_180 0 97 (dk_at dksX1_takesNumbers_1 2 rfl rfl)
theorem dX1_takesNumbers_29 : decode cX1_takesNumbers 29 = .ok (.putfield 97, 3) := dk_181 0 97 (dk_at dksX1_takesNumbers_1 5 rfl rfl)
theorem dX1_takesNumbers_32 : decode cX1_takesNumbers 32 = .ok (.aload_n 0, 1) := dk_42 (dk_at dksX1_takesNumbers_1 8 rfl rfl)
theorem dX1_takesNumbers_33 : decode cX1_takesNumbers 33 = .ok (.aload_n 1, 1) := dk_43 (dk_at dksX1_takesNumbers_1 9 rfl rfl)
theorem dX1_takesNumbers_34 : decode cX1_takesNumbers 34 = .ok (.getfield 100, 3) := dk_180 0 100 (dk_at dksX1_takesNumbers_1 10 rfl rfl)
theorem dX1_takesNumbers_37 : decode cX1_takesNumbers 37 = .ok (.putfield 100, 3) := dk_181 0 100 (dk_at dksX1_takesNumbers_1 13 rfl rfl)
theorem dX1_takesNumbers_40 : decode cX1_takesNumbers 40 = .ok (.aload_n 0, 1) := dk_42 (dk_at dksX1_takesNumbers_1 16 rfl rfl)
theorem dX1_takesNumbers_41 : decode cX1_takesNumbers 41 = .ok (.aload_n 1, 1) := dk_43 (dk_at dksX1_takesNumbers_1 17 rfl rfl)
theorem dX1_takesNumbers_42 : decode cX1_takesNumbers 42 = .ok (.getfield 103, 3) := dk_180 0 103 (dk_at dksX1_takesNumbers_1 18 rfl rfl)
theorem dX1_takesNumbers_45 : decode cX1_takesNumbers 45 = .ok (.putfield 103, 3) := dk_181 0 103 (dk_at dksX1_takesNumbers_1 21 rfl rfl)
theorem dX1_takesNumbers_48 : decode cX1_takesNumbers 48 = .ok (.aload_n 0, 1) := dk_42 (dk_at dksX1_takesNumbers_2 0 rfl rfl)
theorem dX1_takesNumbers_49 : decode cX1_takesNumbers 49 = .ok (.aload_n 1, 1) := dk_43 (dk_at dksX1_takesNumbers_2 1 rfl rfl)
theorem dX1_takesNumbers_50 : decode cX1_takesNumbers 50 = .ok (.getfield 106, 3) := dk_180 0 106 (dk_at dksX1_takesNumbers_2 2 rfl rfl)
theorem dX1_takesNumbers_53 : decode cX1_takesNumbers 53 = .ok (.putfield 106, 3) := dk_181 0 106 (dk_at dksX1_takesNumbers_2 5 rfl rfl)
theorem dX1_takesNumbers_56 : decode cX1_takesNumbers 56 = .ok (.aload_n 0, 1) := dk_42 (dk_at dksX1_takesNumbers_2 8 rfl rfl)
theorem dX1_takesNumbers_57 : decode cX1_takesNumbers 57 = .ok (.aload_n 1, 1) := dk_43 (dk_at dksX1_takesNumbers_2 9 rfl rfl)
theorem dX1_takesNumbers_58 : decode cX1_takesNumbers 58 = .ok (.getfield 109, 3) := dk_180 0 109 (dk_at dksX1_takesNumbers_2 10 rfl rfl)
theorem dX1_takesNumbers_61 : decode cX1_takesNumbers 61 = .ok (.putfield 109, 3) := dk_181 0 109 (dk_at dksX1_takesNumbers_2 13 rfl rfl)
theorem dX1_takesNumbers_64 : decode cX1_takesNumbers 64 = .ok (.return_, 1) := dk_177 (dk_at dksX1_takesNumbers_2 16 rfl rfl)
abbrev cX1_comes : ByteArray := prog_5_method_6_code
def yX1_comes : MethodName := ⟨RX1, "comes", "(IZ)I"⟩
def dkwX1_comes_2 : List UInt8 := [87, 42, 180, 0, 23, 29, 184, 0, 73, 182, 0, 77, 29, 172]
abbrev dktX1_comes_2 : List UInt8 := dkwX1_comes_2 ++ []
def dkwX1_comes_1 : List UInt8 := [180, 0, 14, 182, 0, 112, 62, 42, 180, 0, 14, 187, 0, 56, 89, 29, 27, 28, 183, 0, 127, 182, 0, 62]
abbrev dktX1_comes_1 : List UInt8 := dkwX1_comes_1 ++ dktX1_comes_2
def dkwX1_comes_0 : List UInt8 := [42, 180, 0, 14, 182, 0, 112, 16, 16, 160, 0, 7, 4, 167, 0, 4, 3, 4, 16, 16, 184, 0, 123, 42]
abbrev dktX1_comes_0 : List UInt8 := dkwX1_comes_0 ++ dktX1_comes_1
theorem dksX1_comes_0 : cX1_comes.data.toList.drop 0 = dktX1_comes_0 := by decide +kernel
theorem dksX1_comes_1 : cX1_comes.data.toList.drop 24 = dktX1_comes_1 := dk_seg dksX1_comes_0 24 rfl rfl
theorem dksX1_comes_2 : cX1_comes.data.toList.drop 48 = dktX1_comes_2 := dk_seg dksX1_comes_1 24 rfl rfl
theorem dX1_comes_0 : decode cX1_comes 0 = .ok (.aload_n 0, 1) := dk_42 (dk_at dksX1_comes_0 0 rfl rfl)
theorem dX1_comes_1 : decode cX1_comes 1 = .ok (.getfield 14, 3) := dk_180 0 14 (dk_at dksX1_comes_0 1 rfl rfl)
theorem dX1_comes_4 : decode cX1_comes 4 = .ok (.invokevirtual 112, 3) := dk_182 0 112 (dk_at dksX1_comes_0 4 rfl rfl)
theorem dX1_comes_7 : decode cX1_comes 7 = .ok (.bipush 16, 2) := dk_16 16 (dk_at dksX1_comes_0 7 rfl rfl)
theorem dX1_comes_9 : decode cX1_comes 9 = .ok (.if_icmp .ne 7, 3) := dk_160 0 7 (dk_at dksX1_comes_0 9 rfl rfl)
theorem dX1_comes_12 : decode cX1_comes 12 = .ok (.iconst 1, 1) := dk_4 (dk_at dksX1_comes_0 12 rfl rfl)
theorem dX1_comes_13 : decode cX1_comes 13 = .ok (.goto 4, 3) := dk_167 0 4 (dk_at dksX1_comes_0 13 rfl rfl)
theorem dX1_comes_16 : decode cX1_comes 16 = .ok (.iconst 0, 1) := dk_3 (dk_at dksX1_comes_0 16 rfl rfl)
theorem dX1_comes_17 : decode cX1_comes 17 = .ok (.iconst 1, 1) := dk_4 (dk_at dksX1_comes_0 17 rfl rfl)
theorem dX1_comes_18 : decode cX1_comes 18 = .ok (.bipush 16, 2) := dk_16 16 (dk_at dksX1_comes_0 18 rfl rfl)
theorem dX1_comes_20 : decode cX1_comes 20 = .ok (.invokestatic 123, 3) := dk_184 0 123 (dk_at dksX1_comes_0 20 rfl rfl)
theorem dX1_comes_23 : decode cX1_comes 23 = .ok (.aload_n 0, 1) := dk_42 (dk_at dksX1_comes_0 23 rfl rfl)
theorem dX1_comes_24 : decode cX1_comes 24 = .ok (.getfield 14, 3) := dk_180 0 14 (dk_at dksX1_comes_1 0 rfl rfl)
theorem dX1_comes_27 : decode cX1_comes 27 = .ok (.invokevirtual 112, 3) := dk_182 0 112 (dk_at dksX1_comes_1 3 rfl rfl)
theorem dX1_comes_30 : decode cX1_comes 30 = .ok (.istore_n 3, 1) := dk_62 (dk_at dksX1_comes_1 6 rfl rfl)
theorem dX1_comes_31 : decode cX1_comes 31 = .ok (.aload_n 0, 1) := dk_42 (dk_at dksX1_comes_1 7 rfl rfl)
theorem dX1_comes_32 : decode cX1_comes 32 = .ok (.getfield 14, 3) := dk_180 0 14 (dk_at dksX1_comes_1 8 rfl rfl)
theorem dX1_comes_35 : decode cX1_comes 35 = .ok (.new 56, 3) := dk_187 0 56 (dk_at dksX1_comes_1 11 rfl rfl)
theorem dX1_comes_38 : decode cX1_comes 38 = .ok (.dup, 1) := dk_89 (dk_at dksX1_comes_1 14 rfl rfl)
theorem dX1_comes_39 : decode cX1_comes 39 = .ok (.iload_n 3, 1) := dk_29 (dk_at dksX1_comes_1 15 rfl rfl)
theorem dX1_comes_40 : decode cX1_comes 40 = .ok (.iload_n 1, 1) := dk_27 (dk_at dksX1_comes_1 16 rfl rfl)
theorem dX1_comes_41 : decode cX1_comes 41 = .ok (.iload_n 2, 1) := dk_28 (dk_at dksX1_comes_1 17 rfl rfl)
theorem dX1_comes_42 : decode cX1_comes 42 = .ok (.invokespecial 127, 3) := dk_183 0 127 (dk_at dksX1_comes_1 18 rfl rfl)
theorem dX1_comes_45 : decode cX1_comes 45 = .ok (.invokevirtual 62, 3) := dk_182 0 62 (dk_at dksX1_comes_1 21 rfl rfl)
theorem dX1_comes_48 : decode cX1_comes 48 = .ok (.pop, 1) := dk_87 (dk_at dksX1_comes_2 0 rfl rfl)
theorem dX1_comes_49 : decode cX1_comes 49 = .ok (.aload_n 0, 1) := dk_42 (dk_at dksX1_comes_2 1 rfl rfl)
theorem dX1_comes_50 : decode cX1_comes 50 = .ok (.getfield 23, 3) := dk_180 0 23 (dk_at dksX1_comes_2 2 rfl rfl)
theorem dX1_comes_53 : decode cX1_comes 53 = .ok (.iload_n 3, 1) := dk_29 (dk_at dksX1_comes_2 5 rfl rfl)
theorem dX1_comes_54 : decode cX1_comes 54 = .ok (.invokestatic 73, 3) := dk_184 0 73 (dk_at dksX1_comes_2 6 rfl rfl)
theorem dX1_comes_57 : decode cX1_comes 57 = .ok (.invokevirtual 77, 3) := dk_182 0 77 (dk_at dksX1_comes_2 9 rfl rfl)
theorem dX1_comes_60 : decode cX1_comes 60 = .ok (.iload_n 3, 1) := dk_29 (dk_at dksX1_comes_2 12 rfl rfl)
theorem dX1_comes_61 : decode cX1_comes 61 = .ok (.ireturn, 1) := dk_172 (dk_at dksX1_comes_2 13 rfl rfl)
abbrev cX1_has : ByteArray := prog_5_method_4_code
def yX1_has : MethodName := ⟨RX1, "has", "(I)Z"⟩
def dkwX1_has_0 : List UInt8 := [27, 3, 42, 180, 0, 14, 182, 0, 112, 4, 100, 184, 0, 115, 172]
abbrev dktX1_has_0 : List UInt8 := dkwX1_has_0 ++ []
theorem dksX1_has_0 : cX1_has.data.toList.drop 0 = dktX1_has_0 := by decide +kernel
theorem dX1_has_0 : decode cX1_has 0 = .ok (.iload_n 1, 1) := dk_27 (dk_at dksX1_has_0 0 rfl rfl)
theorem dX1_has_1 : decode cX1_has 1 = .ok (.iconst 0, 1) := dk_3 (dk_at dksX1_has_0 1 rfl rfl)
theorem dX1_has_2 : decode cX1_has 2 = .ok (.aload_n 0, 1) := dk_42 (dk_at dksX1_has_0 2 rfl rfl)
theorem dX1_has_3 : decode cX1_has 3 = .ok (.getfield 14, 3) := dk_180 0 14 (dk_at dksX1_has_0 3 rfl rfl)
theorem dX1_has_6 : decode cX1_has 6 = .ok (.invokevirtual 112, 3) := dk_182 0 112 (dk_at dksX1_has_0 6 rfl rfl)
theorem dX1_has_9 : decode cX1_has 9 = .ok (.iconst 1, 1) := dk_4 (dk_at dksX1_has_0 9 rfl rfl)
theorem dX1_has_10 : decode cX1_has 10 = .ok (.isub, 1) := dk_100 (dk_at dksX1_has_0 10 rfl rfl)
theorem dX1_has_11 : decode cX1_has 11 = .ok (.invokestatic 115, 3) := dk_184 0 115 (dk_at dksX1_has_0 11 rfl rfl)
theorem dX1_has_14 : decode cX1_has 14 = .ok (.ireturn, 1) := dk_172 (dk_at dksX1_has_0 14 rfl rfl)
abbrev cX1_withdraws : ByteArray := prog_5_method_9_code
def yX1_withdraws : MethodName := ⟨RX1, "withdraws", "(I)I"⟩
def dkwX1_withdraws_1 : List UInt8 := [42, 27, 182, 0, 147, 44, 6, 182, 0, 150, 42, 180, 0, 23, 182, 0, 153, 172]
abbrev dktX1_withdraws_1 : List UInt8 := dkwX1_withdraws_1 ++ []
def dkwX1_withdraws_0 : List UInt8 := [42, 180, 0, 14, 27, 182, 0, 136, 192, 0, 56, 77, 44, 182, 0, 140, 42, 180, 0, 23, 27, 184, 0, 143]
abbrev dktX1_withdraws_0 : List UInt8 := dkwX1_withdraws_0 ++ dktX1_withdraws_1
theorem dksX1_withdraws_0 : cX1_withdraws.data.toList.drop 0 = dktX1_withdraws_0 := by decide +kernel
theorem dksX1_withdraws_1 : cX1_withdraws.data.toList.drop 24 = dktX1_withdraws_1 := dk_seg dksX1_withdraws_0 24 rfl rfl
theorem dX1_withdraws_0 : decode cX1_withdraws 0 = .ok (.aload_n 0, 1) := dk_42 (dk_at dksX1_withdraws_0 0 rfl rfl)
theorem dX1_withdraws_1 : decode cX1_withdraws 1 = .ok (.getfield 14, 3) := dk_180 0 14 (dk_at dksX1_withdraws_0 1 rfl rfl)
theorem dX1_withdraws_4 : decode cX1_withdraws 4 = .ok (.iload_n 1, 1) := dk_27 (dk_at dksX1_withdraws_0 4 rfl rfl)
theorem dX1_withdraws_5 : decode cX1_withdraws 5 = .ok (.invokevirtual 136, 3) := dk_182 0 136 (dk_at dksX1_withdraws_0 5 rfl rfl)
theorem dX1_withdraws_8 : decode cX1_withdraws 8 = .ok (.checkcast 56, 3) := dk_192 0 56 (dk_at dksX1_withdraws_0 8 rfl rfl)
theorem dX1_withdraws_11 : decode cX1_withdraws 11 = .ok (.astore_n 2, 1) := dk_77 (dk_at dksX1_withdraws_0 11 rfl rfl)
theorem dX1_withdraws_12 : decode cX1_withdraws 12 = .ok (.aload_n 2, 1) := dk_44 (dk_at dksX1_withdraws_0 12 rfl rfl)
theorem dX1_withdraws_13 : decode cX1_withdraws 13 = .ok (.invokevirtual 140, 3) := dk_182 0 140 (dk_at dksX1_withdraws_0 13 rfl rfl)
theorem dX1_withdraws_16 : decode cX1_withdraws 16 = .ok (.aload_n 0, 1) := dk_42 (dk_at dksX1_withdraws_0 16 rfl rfl)
theorem dX1_withdraws_17 : decode cX1_withdraws 17 = .ok (.getfield 23, 3) := dk_180 0 23 (dk_at dksX1_withdraws_0 17 rfl rfl)
theorem dX1_withdraws_20 : decode cX1_withdraws 20 = .ok (.iload_n 1, 1) := dk_27 (dk_at dksX1_withdraws_0 20 rfl rfl)
theorem dX1_withdraws_21 : decode cX1_withdraws 21 = .ok (.invokestatic 143, 3) := dk_184 0 143 (dk_at dksX1_withdraws_0 21 rfl rfl)
theorem dX1_withdraws_24 : decode cX1_withdraws 24 = .ok (.aload_n 0, 1) := dk_42 (dk_at dksX1_withdraws_1 0 rfl rfl)
theorem dX1_withdraws_25 : decode cX1_withdraws 25 = .ok (.iload_n 1, 1) := dk_27 (dk_at dksX1_withdraws_1 1 rfl rfl)
theorem dX1_withdraws_26 : decode cX1_withdraws 26 = .ok (.invokevirtual 147, 3) := dk_182 0 147 (dk_at dksX1_withdraws_1 2 rfl rfl)
theorem dX1_withdraws_29 : decode cX1_withdraws 29 = .ok (.aload_n 2, 1) := dk_44 (dk_at dksX1_withdraws_1 5 rfl rfl)
theorem dX1_withdraws_30 : decode cX1_withdraws 30 = .ok (.iconst 3, 1) := dk_6 (dk_at dksX1_withdraws_1 6 rfl rfl)
theorem dX1_withdraws_31 : decode cX1_withdraws 31 = .ok (.invokevirtual 150, 3) := dk_182 0 150 (dk_at dksX1_withdraws_1 7 rfl rfl)
theorem dX1_withdraws_34 : decode cX1_withdraws 34 = .ok (.aload_n 0, 1) := dk_42 (dk_at dksX1_withdraws_1 10 rfl rfl)
theorem dX1_withdraws_35 : decode cX1_withdraws 35 = .ok (.getfield 23, 3) := dk_180 0 23 (dk_at dksX1_withdraws_1 11 rfl rfl)
theorem dX1_withdraws_38 : decode cX1_withdraws 38 = .ok (.invokevirtual 153, 3) := dk_182 0 153 (dk_at dksX1_withdraws_1 14 rfl rfl)
theorem dX1_withdraws_41 : decode cX1_withdraws 41 = .ok (.ireturn, 1) := dk_172 (dk_at dksX1_withdraws_1 17 rfl rfl)
abbrev cX1_takesFrom : ByteArray := prog_5_method_7_code
def yX1_takesFrom : MethodName := ⟨RX1, "takesFrom", "(Ljava/util/LinkedList;I)V"⟩
def dkwX1_takesFrom_1 : List UInt8 := [182, 0, 69, 62, 29, 27, 160, 0, 9, 44, 185, 0, 130, 1, 0, 167, 255, 223, 177]
abbrev dktX1_takesFrom_1 : List UInt8 := dkwX1_takesFrom_1 ++ []
def dkwX1_takesFrom_0 : List UInt8 := [42, 182, 0, 66, 77, 44, 185, 0, 46, 1, 0, 153, 0, 30, 44, 185, 0, 52, 1, 0, 192, 0, 67]
abbrev dktX1_takesFrom_0 : List UInt8 := dkwX1_takesFrom_0 ++ dktX1_takesFrom_1
theorem dksX1_takesFrom_0 : cX1_takesFrom.data.toList.drop 0 = dktX1_takesFrom_0 := by decide +kernel
theorem dksX1_takesFrom_1 : cX1_takesFrom.data.toList.drop 23 = dktX1_takesFrom_1 := dk_seg dksX1_takesFrom_0 23 rfl rfl
theorem dX1_takesFrom_0 : decode cX1_takesFrom 0 = .ok (.aload_n 0, 1) := dk_42 (dk_at dksX1_takesFrom_0 0 rfl rfl)
theorem dX1_takesFrom_1 : decode cX1_takesFrom 1 = .ok (.invokevirtual 66, 3) := dk_182 0 66 (dk_at dksX1_takesFrom_0 1 rfl rfl)
theorem dX1_takesFrom_4 : decode cX1_takesFrom 4 = .ok (.astore_n 2, 1) := dk_77 (dk_at dksX1_takesFrom_0 4 rfl rfl)
theorem dX1_takesFrom_5 : decode cX1_takesFrom 5 = .ok (.aload_n 2, 1) := dk_44 (dk_at dksX1_takesFrom_0 5 rfl rfl)
theorem dX1_takesFrom_6 : decode cX1_takesFrom 6 = .ok (.invokeinterface 46 1, 5) := by decide +kernel
theorem dX1_takesFrom_11 : decode cX1_takesFrom 11 = .ok (.ifCond .eq 30, 3) := dk_153 0 30 (dk_at dksX1_takesFrom_0 11 rfl rfl)
theorem dX1_takesFrom_14 : decode cX1_takesFrom 14 = .ok (.aload_n 2, 1) := dk_44 (dk_at dksX1_takesFrom_0 14 rfl rfl)
theorem dX1_takesFrom_15 : decode cX1_takesFrom 15 = .ok (.invokeinterface 52 1, 5) := by decide +kernel
theorem dX1_takesFrom_20 : decode cX1_takesFrom 20 = .ok (.checkcast 67, 3) := dk_192 0 67 (dk_at dksX1_takesFrom_0 20 rfl rfl)
theorem dX1_takesFrom_23 : decode cX1_takesFrom 23 = .ok (.invokevirtual 69, 3) := dk_182 0 69 (dk_at dksX1_takesFrom_1 0 rfl rfl)
theorem dX1_takesFrom_26 : decode cX1_takesFrom 26 = .ok (.istore_n 3, 1) := dk_62 (dk_at dksX1_takesFrom_1 3 rfl rfl)
theorem dX1_takesFrom_27 : decode cX1_takesFrom 27 = .ok (.iload_n 3, 1) := dk_29 (dk_at dksX1_takesFrom_1 4 rfl rfl)
theorem dX1_takesFrom_28 : decode cX1_takesFrom 28 = .ok (.iload_n 1, 1) := dk_27 (dk_at dksX1_takesFrom_1 5 rfl rfl)
theorem dX1_takesFrom_29 : decode cX1_takesFrom 29 = .ok (.if_icmp .ne 9, 3) := dk_160 0 9 (dk_at dksX1_takesFrom_1 6 rfl rfl)
theorem dX1_takesFrom_32 : decode cX1_takesFrom 32 = .ok (.aload_n 2, 1) := dk_44 (dk_at dksX1_takesFrom_1 9 rfl rfl)
theorem dX1_takesFrom_33 : decode cX1_takesFrom 33 = .ok (.invokeinterface 130 1, 5) := by decide +kernel
theorem dX1_takesFrom_38 : decode cX1_takesFrom 38 = .ok (.goto (-33), 3) := dk_167 255 223 (dk_at dksX1_takesFrom_1 15 rfl rfl)
theorem dX1_takesFrom_41 : decode cX1_takesFrom 41 = .ok (.return_, 1) := dk_177 (dk_at dksX1_takesFrom_1 18 rfl rfl)
abbrev cX1_noVoices : ByteArray := prog_5_method_8_code
def yX1_noVoices : MethodName := ⟨RX1, "noVoices", "(I)V"⟩
def dkwX1_noVoices_2 : List UInt8 := [181, 0, 133, 167, 255, 216, 177]
abbrev dktX1_noVoices_2 : List UInt8 := dkwX1_noVoices_2 ++ []
def dkwX1_noVoices_1 : List UInt8 := [192, 0, 56, 78, 45, 45, 180, 0, 133, 27, 160, 0, 8, 16, 241, 167, 0, 7, 45, 180, 0, 133]
abbrev dktX1_noVoices_1 : List UInt8 := dkwX1_noVoices_1 ++ dktX1_noVoices_2
def dkwX1_noVoices_0 : List UInt8 := [42, 180, 0, 14, 182, 0, 42, 77, 44, 185, 0, 46, 1, 0, 153, 0, 37, 44, 185, 0, 52, 1, 0]
abbrev dktX1_noVoices_0 : List UInt8 := dkwX1_noVoices_0 ++ dktX1_noVoices_1
theorem dksX1_noVoices_0 : cX1_noVoices.data.toList.drop 0 = dktX1_noVoices_0 := by decide +kernel
theorem dksX1_noVoices_1 : cX1_noVoices.data.toList.drop 23 = dktX1_noVoices_1 := dk_seg dksX1_noVoices_0 23 rfl rfl
theorem dksX1_noVoices_2 : cX1_noVoices.data.toList.drop 45 = dktX1_noVoices_2 := dk_seg dksX1_noVoices_1 22 rfl rfl
theorem dX1_noVoices_0 : decode cX1_noVoices 0 = .ok (.aload_n 0, 1) := dk_42 (dk_at dksX1_noVoices_0 0 rfl rfl)
theorem dX1_noVoices_1 : decode cX1_noVoices 1 = .ok (.getfield 14, 3) := dk_180 0 14 (dk_at dksX1_noVoices_0 1 rfl rfl)
theorem dX1_noVoices_4 : decode cX1_noVoices 4 = .ok (.invokevirtual 42, 3) := dk_182 0 42 (dk_at dksX1_noVoices_0 4 rfl rfl)
theorem dX1_noVoices_7 : decode cX1_noVoices 7 = .ok (.astore_n 2, 1) := dk_77 (dk_at dksX1_noVoices_0 7 rfl rfl)
theorem dX1_noVoices_8 : decode cX1_noVoices 8 = .ok (.aload_n 2, 1) := dk_44 (dk_at dksX1_noVoices_0 8 rfl rfl)
theorem dX1_noVoices_9 : decode cX1_noVoices 9 = .ok (.invokeinterface 46 1, 5) := by decide +kernel
theorem dX1_noVoices_14 : decode cX1_noVoices 14 = .ok (.ifCond .eq 37, 3) := dk_153 0 37 (dk_at dksX1_noVoices_0 14 rfl rfl)
theorem dX1_noVoices_17 : decode cX1_noVoices 17 = .ok (.aload_n 2, 1) := dk_44 (dk_at dksX1_noVoices_0 17 rfl rfl)
theorem dX1_noVoices_18 : decode cX1_noVoices 18 = .ok (.invokeinterface 52 1, 5) := by decide +kernel
theorem dX1_noVoices_23 : decode cX1_noVoices 23 = .ok (.checkcast 56, 3) := dk_192 0 56 (dk_at dksX1_noVoices_1 0 rfl rfl)
theorem dX1_noVoices_26 : decode cX1_noVoices 26 = .ok (.astore_n 3, 1) := dk_78 (dk_at dksX1_noVoices_1 3 rfl rfl)
theorem dX1_noVoices_27 : decode cX1_noVoices 27 = .ok (.aload_n 3, 1) := dk_45 (dk_at dksX1_noVoices_1 4 rfl rfl)
theorem dX1_noVoices_28 : decode cX1_noVoices 28 = .ok (.aload_n 3, 1) := dk_45 (dk_at dksX1_noVoices_1 5 rfl rfl)
theorem dX1_noVoices_29 : decode cX1_noVoices 29 = .ok (.getfield 133, 3) := dk_180 0 133 (dk_at dksX1_noVoices_1 6 rfl rfl)
theorem dX1_noVoices_32 : decode cX1_noVoices 32 = .ok (.iload_n 1, 1) := dk_27 (dk_at dksX1_noVoices_1 9 rfl rfl)
theorem dX1_noVoices_33 : decode cX1_noVoices 33 = .ok (.if_icmp .ne 8, 3) := dk_160 0 8 (dk_at dksX1_noVoices_1 10 rfl rfl)
theorem dX1_noVoices_36 : decode cX1_noVoices 36 = .ok (.bipush (-15), 2) := dk_16 241 (dk_at dksX1_noVoices_1 13 rfl rfl)
theorem dX1_noVoices_38 : decode cX1_noVoices 38 = .ok (.goto 7, 3) := dk_167 0 7 (dk_at dksX1_noVoices_1 15 rfl rfl)
theorem dX1_noVoices_41 : decode cX1_noVoices 41 = .ok (.aload_n 3, 1) := dk_45 (dk_at dksX1_noVoices_1 18 rfl rfl)
theorem dX1_noVoices_42 : decode cX1_noVoices 42 = .ok (.getfield 133, 3) := dk_180 0 133 (dk_at dksX1_noVoices_1 19 rfl rfl)
theorem dX1_noVoices_45 : decode cX1_noVoices 45 = .ok (.putfield 133, 3) := dk_181 0 133 (dk_at dksX1_noVoices_2 0 rfl rfl)
theorem dX1_noVoices_48 : decode cX1_noVoices 48 = .ok (.goto (-40), 3) := dk_167 255 216 (dk_at dksX1_noVoices_2 3 rfl rfl)
theorem dX1_noVoices_51 : decode cX1_noVoices 51 = .ok (.return_, 1) := dk_177 (dk_at dksX1_noVoices_2 6 rfl rfl)
abbrev cX1_gives : ByteArray := prog_5_method_12_code
def yX1_gives : MethodName := ⟨RX1, "gives", "(II)I"⟩
def dkwX1_gives_2 : List UInt8 := [182, 0, 140, 45, 28, 181, 0, 133, 42, 28, 182, 0, 164, 172]
abbrev dktX1_gives_2 : List UInt8 := dkwX1_gives_2 ++ []
def dkwX1_gives_1 : List UInt8 := [167, 0, 4, 3, 7, 45, 180, 0, 161, 184, 0, 123, 42, 180, 0, 14, 28, 182, 0, 136, 192, 0, 56]
abbrev dktX1_gives_1 : List UInt8 := dkwX1_gives_1 ++ dktX1_gives_2
def dkwX1_gives_0 : List UInt8 := [42, 180, 0, 14, 27, 182, 0, 136, 192, 0, 56, 78, 45, 182, 0, 158, 45, 180, 0, 161, 158, 0, 7, 4]
abbrev dktX1_gives_0 : List UInt8 := dkwX1_gives_0 ++ dktX1_gives_1
theorem dksX1_gives_0 : cX1_gives.data.toList.drop 0 = dktX1_gives_0 := by decide +kernel
theorem dksX1_gives_1 : cX1_gives.data.toList.drop 24 = dktX1_gives_1 := dk_seg dksX1_gives_0 24 rfl rfl
theorem dksX1_gives_2 : cX1_gives.data.toList.drop 47 = dktX1_gives_2 := dk_seg dksX1_gives_1 23 rfl rfl
theorem dX1_gives_0 : decode cX1_gives 0 = .ok (.aload_n 0, 1) := dk_42 (dk_at dksX1_gives_0 0 rfl rfl)
theorem dX1_gives_1 : decode cX1_gives 1 = .ok (.getfield 14, 3) := dk_180 0 14 (dk_at dksX1_gives_0 1 rfl rfl)
theorem dX1_gives_4 : decode cX1_gives 4 = .ok (.iload_n 1, 1) := dk_27 (dk_at dksX1_gives_0 4 rfl rfl)
theorem dX1_gives_5 : decode cX1_gives 5 = .ok (.invokevirtual 136, 3) := dk_182 0 136 (dk_at dksX1_gives_0 5 rfl rfl)
theorem dX1_gives_8 : decode cX1_gives 8 = .ok (.checkcast 56, 3) := dk_192 0 56 (dk_at dksX1_gives_0 8 rfl rfl)
theorem dX1_gives_11 : decode cX1_gives 11 = .ok (.astore_n 3, 1) := dk_78 (dk_at dksX1_gives_0 11 rfl rfl)
theorem dX1_gives_12 : decode cX1_gives 12 = .ok (.aload_n 3, 1) := dk_45 (dk_at dksX1_gives_0 12 rfl rfl)
theorem dX1_gives_13 : decode cX1_gives 13 = .ok (.invokevirtual 158, 3) := dk_182 0 158 (dk_at dksX1_gives_0 13 rfl rfl)
theorem dX1_gives_16 : decode cX1_gives 16 = .ok (.aload_n 3, 1) := dk_45 (dk_at dksX1_gives_0 16 rfl rfl)
theorem dX1_gives_17 : decode cX1_gives 17 = .ok (.getfield 161, 3) := dk_180 0 161 (dk_at dksX1_gives_0 17 rfl rfl)
theorem dX1_gives_20 : decode cX1_gives 20 = .ok (.ifCond .le 7, 3) := dk_158 0 7 (dk_at dksX1_gives_0 20 rfl rfl)
theorem dX1_gives_23 : decode cX1_gives 23 = .ok (.iconst 1, 1) := dk_4 (dk_at dksX1_gives_0 23 rfl rfl)
theorem dX1_gives_24 : decode cX1_gives 24 = .ok (.goto 4, 3) := dk_167 0 4 (dk_at dksX1_gives_1 0 rfl rfl)
theorem dX1_gives_27 : decode cX1_gives 27 = .ok (.iconst 0, 1) := dk_3 (dk_at dksX1_gives_1 3 rfl rfl)
theorem dX1_gives_28 : decode cX1_gives 28 = .ok (.iconst 4, 1) := dk_7 (dk_at dksX1_gives_1 4 rfl rfl)
theorem dX1_gives_29 : decode cX1_gives 29 = .ok (.aload_n 3, 1) := dk_45 (dk_at dksX1_gives_1 5 rfl rfl)
theorem dX1_gives_30 : decode cX1_gives 30 = .ok (.getfield 161, 3) := dk_180 0 161 (dk_at dksX1_gives_1 6 rfl rfl)
theorem dX1_gives_33 : decode cX1_gives 33 = .ok (.invokestatic 123, 3) := dk_184 0 123 (dk_at dksX1_gives_1 9 rfl rfl)
theorem dX1_gives_36 : decode cX1_gives 36 = .ok (.aload_n 0, 1) := dk_42 (dk_at dksX1_gives_1 12 rfl rfl)
theorem dX1_gives_37 : decode cX1_gives 37 = .ok (.getfield 14, 3) := dk_180 0 14 (dk_at dksX1_gives_1 13 rfl rfl)
theorem dX1_gives_40 : decode cX1_gives 40 = .ok (.iload_n 2, 1) := dk_28 (dk_at dksX1_gives_1 16 rfl rfl)
theorem dX1_gives_41 : decode cX1_gives 41 = .ok (.invokevirtual 136, 3) := dk_182 0 136 (dk_at dksX1_gives_1 17 rfl rfl)
theorem dX1_gives_44 : decode cX1_gives 44 = .ok (.checkcast 56, 3) := dk_192 0 56 (dk_at dksX1_gives_1 20 rfl rfl)
theorem dX1_gives_47 : decode cX1_gives 47 = .ok (.invokevirtual 140, 3) := dk_182 0 140 (dk_at dksX1_gives_2 0 rfl rfl)
theorem dX1_gives_50 : decode cX1_gives 50 = .ok (.aload_n 3, 1) := dk_45 (dk_at dksX1_gives_2 3 rfl rfl)
theorem dX1_gives_51 : decode cX1_gives 51 = .ok (.iload_n 2, 1) := dk_28 (dk_at dksX1_gives_2 4 rfl rfl)
theorem dX1_gives_52 : decode cX1_gives 52 = .ok (.putfield 133, 3) := dk_181 0 133 (dk_at dksX1_gives_2 5 rfl rfl)
theorem dX1_gives_55 : decode cX1_gives 55 = .ok (.aload_n 0, 1) := dk_42 (dk_at dksX1_gives_2 8 rfl rfl)
theorem dX1_gives_56 : decode cX1_gives 56 = .ok (.iload_n 2, 1) := dk_28 (dk_at dksX1_gives_2 9 rfl rfl)
theorem dX1_gives_57 : decode cX1_gives 57 = .ok (.invokevirtual 164, 3) := dk_182 0 164 (dk_at dksX1_gives_2 10 rfl rfl)
theorem dX1_gives_60 : decode cX1_gives 60 = .ok (.ireturn, 1) := dk_172 (dk_at dksX1_gives_2 13 rfl rfl)
abbrev cX1_voices : ByteArray := prog_5_method_10_code
def yX1_voices : MethodName := ⟨RX1, "voices", "(I)I"⟩
def dkwX1_voices_3 : List UInt8 := [28, 104, 167, 0, 4, 28, 172]
abbrev dktX1_voices_3 : List UInt8 := dkwX1_voices_3 ++ []
def dkwX1_voices_2 : List UInt8 := [3, 96, 61, 167, 255, 219, 42, 180, 0, 14, 27, 182, 0, 136, 192, 0, 56, 180, 0, 154, 153, 0, 9, 5]
abbrev dktX1_voices_2 : List UInt8 := dkwX1_voices_2 ++ dktX1_voices_3
def dkwX1_voices_1 : List UInt8 := [185, 0, 52, 1, 0, 192, 0, 56, 58, 4, 28, 25, 4, 180, 0, 133, 27, 160, 0, 7, 4, 167, 0, 4]
abbrev dktX1_voices_1 : List UInt8 := dkwX1_voices_1 ++ dktX1_voices_2
def dkwX1_voices_0 : List UInt8 := [3, 61, 42, 180, 0, 14, 182, 0, 42, 78, 45, 185, 0, 46, 1, 0, 153, 0, 34, 45]
abbrev dktX1_voices_0 : List UInt8 := dkwX1_voices_0 ++ dktX1_voices_1
theorem dksX1_voices_0 : cX1_voices.data.toList.drop 0 = dktX1_voices_0 := by decide +kernel
theorem dksX1_voices_1 : cX1_voices.data.toList.drop 20 = dktX1_voices_1 := dk_seg dksX1_voices_0 20 rfl rfl
theorem dksX1_voices_2 : cX1_voices.data.toList.drop 44 = dktX1_voices_2 := dk_seg dksX1_voices_1 24 rfl rfl
theorem dksX1_voices_3 : cX1_voices.data.toList.drop 68 = dktX1_voices_3 := dk_seg dksX1_voices_2 24 rfl rfl
theorem dX1_voices_0 : decode cX1_voices 0 = .ok (.iconst 0, 1) := dk_3 (dk_at dksX1_voices_0 0 rfl rfl)
theorem dX1_voices_1 : decode cX1_voices 1 = .ok (.istore_n 2, 1) := dk_61 (dk_at dksX1_voices_0 1 rfl rfl)
theorem dX1_voices_2 : decode cX1_voices 2 = .ok (.aload_n 0, 1) := dk_42 (dk_at dksX1_voices_0 2 rfl rfl)
theorem dX1_voices_3 : decode cX1_voices 3 = .ok (.getfield 14, 3) := dk_180 0 14 (dk_at dksX1_voices_0 3 rfl rfl)
theorem dX1_voices_6 : decode cX1_voices 6 = .ok (.invokevirtual 42, 3) := dk_182 0 42 (dk_at dksX1_voices_0 6 rfl rfl)
theorem dX1_voices_9 : decode cX1_voices 9 = .ok (.astore_n 3, 1) := dk_78 (dk_at dksX1_voices_0 9 rfl rfl)
theorem dX1_voices_10 : decode cX1_voices 10 = .ok (.aload_n 3, 1) := dk_45 (dk_at dksX1_voices_0 10 rfl rfl)
theorem dX1_voices_11 : decode cX1_voices 11 = .ok (.invokeinterface 46 1, 5) := by decide +kernel
theorem dX1_voices_16 : decode cX1_voices 16 = .ok (.ifCond .eq 34, 3) := dk_153 0 34 (dk_at dksX1_voices_0 16 rfl rfl)
theorem dX1_voices_19 : decode cX1_voices 19 = .ok (.aload_n 3, 1) := dk_45 (dk_at dksX1_voices_0 19 rfl rfl)
theorem dX1_voices_20 : decode cX1_voices 20 = .ok (.invokeinterface 52 1, 5) := by decide +kernel
theorem dX1_voices_25 : decode cX1_voices 25 = .ok (.checkcast 56, 3) := dk_192 0 56 (dk_at dksX1_voices_1 5 rfl rfl)
theorem dX1_voices_28 : decode cX1_voices 28 = .ok (.astore 4, 2) := dk_58 4 (dk_at dksX1_voices_1 8 rfl rfl)
theorem dX1_voices_30 : decode cX1_voices 30 = .ok (.iload_n 2, 1) := dk_28 (dk_at dksX1_voices_1 10 rfl rfl)
theorem dX1_voices_31 : decode cX1_voices 31 = .ok (.aload 4, 2) := dk_25 4 (dk_at dksX1_voices_1 11 rfl rfl)
theorem dX1_voices_33 : decode cX1_voices 33 = .ok (.getfield 133, 3) := dk_180 0 133 (dk_at dksX1_voices_1 13 rfl rfl)
theorem dX1_voices_36 : decode cX1_voices 36 = .ok (.iload_n 1, 1) := dk_27 (dk_at dksX1_voices_1 16 rfl rfl)
theorem dX1_voices_37 : decode cX1_voices 37 = .ok (.if_icmp .ne 7, 3) := dk_160 0 7 (dk_at dksX1_voices_1 17 rfl rfl)
theorem dX1_voices_40 : decode cX1_voices 40 = .ok (.iconst 1, 1) := dk_4 (dk_at dksX1_voices_1 20 rfl rfl)
theorem dX1_voices_41 : decode cX1_voices 41 = .ok (.goto 4, 3) := dk_167 0 4 (dk_at dksX1_voices_1 21 rfl rfl)
theorem dX1_voices_44 : decode cX1_voices 44 = .ok (.iconst 0, 1) := dk_3 (dk_at dksX1_voices_2 0 rfl rfl)
theorem dX1_voices_45 : decode cX1_voices 45 = .ok (.iadd, 1) := dk_96 (dk_at dksX1_voices_2 1 rfl rfl)
theorem dX1_voices_46 : decode cX1_voices 46 = .ok (.istore_n 2, 1) := dk_61 (dk_at dksX1_voices_2 2 rfl rfl)
theorem dX1_voices_47 : decode cX1_voices 47 = .ok (.goto (-37), 3) := dk_167 255 219 (dk_at dksX1_voices_2 3 rfl rfl)
theorem dX1_voices_50 : decode cX1_voices 50 = .ok (.aload_n 0, 1) := dk_42 (dk_at dksX1_voices_2 6 rfl rfl)
theorem dX1_voices_51 : decode cX1_voices 51 = .ok (.getfield 14, 3) := dk_180 0 14 (dk_at dksX1_voices_2 7 rfl rfl)
theorem dX1_voices_54 : decode cX1_voices 54 = .ok (.iload_n 1, 1) := dk_27 (dk_at dksX1_voices_2 10 rfl rfl)
theorem dX1_voices_55 : decode cX1_voices 55 = .ok (.invokevirtual 136, 3) := dk_182 0 136 (dk_at dksX1_voices_2 11 rfl rfl)
theorem dX1_voices_58 : decode cX1_voices 58 = .ok (.checkcast 56, 3) := dk_192 0 56 (dk_at dksX1_voices_2 14 rfl rfl)
theorem dX1_voices_61 : decode cX1_voices 61 = .ok (.getfield 154, 3) := dk_180 0 154 (dk_at dksX1_voices_2 17 rfl rfl)
theorem dX1_voices_64 : decode cX1_voices 64 = .ok (.ifCond .eq 9, 3) := dk_153 0 9 (dk_at dksX1_voices_2 20 rfl rfl)
theorem dX1_voices_67 : decode cX1_voices 67 = .ok (.iconst 2, 1) := dk_5 (dk_at dksX1_voices_2 23 rfl rfl)
theorem dX1_voices_68 : decode cX1_voices 68 = .ok (.iload_n 2, 1) := dk_28 (dk_at dksX1_voices_3 0 rfl rfl)
theorem dX1_voices_69 : decode cX1_voices 69 = .ok (.imul, 1) := dk_104 (dk_at dksX1_voices_3 1 rfl rfl)
theorem dX1_voices_70 : decode cX1_voices 70 = .ok (.goto 4, 3) := dk_167 0 4 (dk_at dksX1_voices_3 2 rfl rfl)
theorem dX1_voices_73 : decode cX1_voices 73 = .ok (.iload_n 2, 1) := dk_28 (dk_at dksX1_voices_3 5 rfl rfl)
theorem dX1_voices_74 : decode cX1_voices 74 = .ok (.ireturn, 1) := dk_172 (dk_at dksX1_voices_3 6 rfl rfl)
abbrev cX1_chooses : ByteArray := prog_5_method_14_code
def yX1_chooses : MethodName := ⟨RX1, "chooses", "(ILPittanceHouse$Ahead;)I"⟩
def dkwX1_chooses_3 : List UInt8 := [180, 0, 30, 27, 29, 79, 42, 180, 0, 14, 29, 182, 0, 136, 192, 0, 56, 27, 182, 0, 183, 29, 172]
abbrev dktX1_chooses_3 : List UInt8 := dkwX1_chooses_3 ++ []
def dkwX1_chooses_2 : List UInt8 := [180, 0, 23, 29, 184, 0, 143, 42, 29, 182, 0, 147, 42, 180, 0, 27, 29, 184, 0, 73, 182, 0, 77, 42]
abbrev dktX1_chooses_2 : List UInt8 := dkwX1_chooses_2 ++ dktX1_chooses_3
def dkwX1_chooses_1 : List UInt8 := [184, 0, 123, 42, 180, 0, 23, 182, 0, 176, 16, 6, 27, 184, 0, 123, 42, 3, 44, 182, 0, 179, 62, 42]
abbrev dktX1_chooses_1 : List UInt8 := dkwX1_chooses_1 ++ dktX1_chooses_2
def dkwX1_chooses_0 : List UInt8 := [42, 180, 0, 30, 27, 46, 16, 241, 159, 0, 7, 4, 167, 0, 4, 3, 8, 42, 180, 0, 30, 27, 46]
abbrev dktX1_chooses_0 : List UInt8 := dkwX1_chooses_0 ++ dktX1_chooses_1
theorem dksX1_chooses_0 : cX1_chooses.data.toList.drop 0 = dktX1_chooses_0 := by decide +kernel
theorem dksX1_chooses_1 : cX1_chooses.data.toList.drop 23 = dktX1_chooses_1 := dk_seg dksX1_chooses_0 23 rfl rfl
theorem dksX1_chooses_2 : cX1_chooses.data.toList.drop 47 = dktX1_chooses_2 := dk_seg dksX1_chooses_1 24 rfl rfl
theorem dksX1_chooses_3 : cX1_chooses.data.toList.drop 71 = dktX1_chooses_3 := dk_seg dksX1_chooses_2 24 rfl rfl
theorem dX1_chooses_0 : decode cX1_chooses 0 = .ok (.aload_n 0, 1) := dk_42 (dk_at dksX1_chooses_0 0 rfl rfl)
theorem dX1_chooses_1 : decode cX1_chooses 1 = .ok (.getfield 30, 3) := dk_180 0 30 (dk_at dksX1_chooses_0 1 rfl rfl)
theorem dX1_chooses_4 : decode cX1_chooses 4 = .ok (.iload_n 1, 1) := dk_27 (dk_at dksX1_chooses_0 4 rfl rfl)
theorem dX1_chooses_5 : decode cX1_chooses 5 = .ok (.iaload, 1) := dk_46 (dk_at dksX1_chooses_0 5 rfl rfl)
theorem dX1_chooses_6 : decode cX1_chooses 6 = .ok (.bipush (-15), 2) := dk_16 241 (dk_at dksX1_chooses_0 6 rfl rfl)
theorem dX1_chooses_8 : decode cX1_chooses 8 = .ok (.if_icmp .eq 7, 3) := dk_159 0 7 (dk_at dksX1_chooses_0 8 rfl rfl)
theorem dX1_chooses_11 : decode cX1_chooses 11 = .ok (.iconst 1, 1) := dk_4 (dk_at dksX1_chooses_0 11 rfl rfl)
theorem dX1_chooses_12 : decode cX1_chooses 12 = .ok (.goto 4, 3) := dk_167 0 4 (dk_at dksX1_chooses_0 12 rfl rfl)
theorem dX1_chooses_15 : decode cX1_chooses 15 = .ok (.iconst 0, 1) := dk_3 (dk_at dksX1_chooses_0 15 rfl rfl)
theorem dX1_chooses_16 : decode cX1_chooses 16 = .ok (.iconst 5, 1) := dk_8 (dk_at dksX1_chooses_0 16 rfl rfl)
theorem dX1_chooses_17 : decode cX1_chooses 17 = .ok (.aload_n 0, 1) := dk_42 (dk_at dksX1_chooses_0 17 rfl rfl)
theorem dX1_chooses_18 : decode cX1_chooses 18 = .ok (.getfield 30, 3) := dk_180 0 30 (dk_at dksX1_chooses_0 18 rfl rfl)
theorem dX1_chooses_21 : decode cX1_chooses 21 = .ok (.iload_n 1, 1) := dk_27 (dk_at dksX1_chooses_0 21 rfl rfl)
theorem dX1_chooses_22 : decode cX1_chooses 22 = .ok (.iaload, 1) := dk_46 (dk_at dksX1_chooses_0 22 rfl rfl)
theorem dX1_chooses_23 : decode cX1_chooses 23 = .ok (.invokestatic 123, 3) := dk_184 0 123 (dk_at dksX1_chooses_1 0 rfl rfl)
theorem dX1_chooses_26 : decode cX1_chooses 26 = .ok (.aload_n 0, 1) := dk_42 (dk_at dksX1_chooses_1 3 rfl rfl)
theorem dX1_chooses_27 : decode cX1_chooses 27 = .ok (.getfield 23, 3) := dk_180 0 23 (dk_at dksX1_chooses_1 4 rfl rfl)
theorem dX1_chooses_30 : decode cX1_chooses 30 = .ok (.invokevirtual 176, 3) := dk_182 0 176 (dk_at dksX1_chooses_1 7 rfl rfl)
theorem dX1_chooses_33 : decode cX1_chooses 33 = .ok (.bipush 6, 2) := dk_16 6 (dk_at dksX1_chooses_1 10 rfl rfl)
theorem dX1_chooses_35 : decode cX1_chooses 35 = .ok (.iload_n 1, 1) := dk_27 (dk_at dksX1_chooses_1 12 rfl rfl)
theorem dX1_chooses_36 : decode cX1_chooses 36 = .ok (.invokestatic 123, 3) := dk_184 0 123 (dk_at dksX1_chooses_1 13 rfl rfl)
theorem dX1_chooses_39 : decode cX1_chooses 39 = .ok (.aload_n 0, 1) := dk_42 (dk_at dksX1_chooses_1 16 rfl rfl)
theorem dX1_chooses_40 : decode cX1_chooses 40 = .ok (.iconst 0, 1) := dk_3 (dk_at dksX1_chooses_1 17 rfl rfl)
theorem dX1_chooses_41 : decode cX1_chooses 41 = .ok (.aload_n 2, 1) := dk_44 (dk_at dksX1_chooses_1 18 rfl rfl)
theorem dX1_chooses_42 : decode cX1_chooses 42 = .ok (.invokevirtual 179, 3) := dk_182 0 179 (dk_at dksX1_chooses_1 19 rfl rfl)
theorem dX1_chooses_45 : decode cX1_chooses 45 = .ok (.istore_n 3, 1) := dk_62 (dk_at dksX1_chooses_1 22 rfl rfl)
theorem dX1_chooses_46 : decode cX1_chooses 46 = .ok (.aload_n 0, 1) := dk_42 (dk_at dksX1_chooses_1 23 rfl rfl)
theorem dX1_chooses_47 : decode cX1_chooses 47 = .ok (.getfield 23, 3) := dk_180 0 23 (dk_at dksX1_chooses_2 0 rfl rfl)
theorem dX1_chooses_50 : decode cX1_chooses 50 = .ok (.iload_n 3, 1) := dk_29 (dk_at dksX1_chooses_2 3 rfl rfl)
theorem dX1_chooses_51 : decode cX1_chooses 51 = .ok (.invokestatic 143, 3) := dk_184 0 143 (dk_at dksX1_chooses_2 4 rfl rfl)
theorem dX1_chooses_54 : decode cX1_chooses 54 = .ok (.aload_n 0, 1) := dk_42 (dk_at dksX1_chooses_2 7 rfl rfl)
theorem dX1_chooses_55 : decode cX1_chooses 55 = .ok (.iload_n 3, 1) := dk_29 (dk_at dksX1_chooses_2 8 rfl rfl)
theorem dX1_chooses_56 : decode cX1_chooses 56 = .ok (.invokevirtual 147, 3) := dk_182 0 147 (dk_at dksX1_chooses_2 9 rfl rfl)
theorem dX1_chooses_59 : decode cX1_chooses 59 = .ok (.aload_n 0, 1) := dk_42 (dk_at dksX1_chooses_2 12 rfl rfl)
theorem dX1_chooses_60 : decode cX1_chooses 60 = .ok (.getfield 27, 3) := dk_180 0 27 (dk_at dksX1_chooses_2 13 rfl rfl)
theorem dX1_chooses_63 : decode cX1_chooses 63 = .ok (.iload_n 3, 1) := dk_29 (dk_at dksX1_chooses_2 16 rfl rfl)
theorem dX1_chooses_64 : decode cX1_chooses 64 = .ok (.invokestatic 73, 3) := dk_184 0 73 (dk_at dksX1_chooses_2 17 rfl rfl)
theorem dX1_chooses_67 : decode cX1_chooses 67 = .ok (.invokevirtual 77, 3) := dk_182 0 77 (dk_at dksX1_chooses_2 20 rfl rfl)
theorem dX1_chooses_70 : decode cX1_chooses 70 = .ok (.aload_n 0, 1) := dk_42 (dk_at dksX1_chooses_2 23 rfl rfl)
theorem dX1_chooses_71 : decode cX1_chooses 71 = .ok (.getfield 30, 3) := dk_180 0 30 (dk_at dksX1_chooses_3 0 rfl rfl)
theorem dX1_chooses_74 : decode cX1_chooses 74 = .ok (.iload_n 1, 1) := dk_27 (dk_at dksX1_chooses_3 3 rfl rfl)
theorem dX1_chooses_75 : decode cX1_chooses 75 = .ok (.iload_n 3, 1) := dk_29 (dk_at dksX1_chooses_3 4 rfl rfl)
theorem dX1_chooses_76 : decode cX1_chooses 76 = .ok (.iastore, 1) := dk_79 (dk_at dksX1_chooses_3 5 rfl rfl)
theorem dX1_chooses_77 : decode cX1_chooses 77 = .ok (.aload_n 0, 1) := dk_42 (dk_at dksX1_chooses_3 6 rfl rfl)
theorem dX1_chooses_78 : decode cX1_chooses 78 = .ok (.getfield 14, 3) := dk_180 0 14 (dk_at dksX1_chooses_3 7 rfl rfl)
theorem dX1_chooses_81 : decode cX1_chooses 81 = .ok (.iload_n 3, 1) := dk_29 (dk_at dksX1_chooses_3 10 rfl rfl)
theorem dX1_chooses_82 : decode cX1_chooses 82 = .ok (.invokevirtual 136, 3) := dk_182 0 136 (dk_at dksX1_chooses_3 11 rfl rfl)
theorem dX1_chooses_85 : decode cX1_chooses 85 = .ok (.checkcast 56, 3) := dk_192 0 56 (dk_at dksX1_chooses_3 14 rfl rfl)
theorem dX1_chooses_88 : decode cX1_chooses 88 = .ok (.iload_n 1, 1) := dk_27 (dk_at dksX1_chooses_3 17 rfl rfl)
theorem dX1_chooses_89 : decode cX1_chooses 89 = .ok (.invokevirtual 183, 3) := dk_182 0 183 (dk_at dksX1_chooses_3 18 rfl rfl)
theorem dX1_chooses_92 : decode cX1_chooses 92 = .ok (.iload_n 3, 1) := dk_29 (dk_at dksX1_chooses_3 21 rfl rfl)
theorem dX1_chooses_93 : decode cX1_chooses 93 = .ok (.ireturn, 1) := dk_172 (dk_at dksX1_chooses_3 22 rfl rfl)
abbrev cX1_ranked : ByteArray := prog_5_method_13_code
def yX1_ranked : MethodName := ⟨RX1, "ranked", "(ILPittanceHouse$Ahead;)I"⟩
def dkwX1_ranked_0 : List UInt8 := [42, 180, 0, 23, 42, 182, 0, 168, 44, 27, 184, 0, 172, 172]
abbrev dktX1_ranked_0 : List UInt8 := dkwX1_ranked_0 ++ []
theorem dksX1_ranked_0 : cX1_ranked.data.toList.drop 0 = dktX1_ranked_0 := by decide +kernel
theorem dX1_ranked_0 : decode cX1_ranked 0 = .ok (.aload_n 0, 1) := dk_42 (dk_at dksX1_ranked_0 0 rfl rfl)
theorem dX1_ranked_1 : decode cX1_ranked 1 = .ok (.getfield 23, 3) := dk_180 0 23 (dk_at dksX1_ranked_0 1 rfl rfl)
theorem dX1_ranked_4 : decode cX1_ranked 4 = .ok (.aload_n 0, 1) := dk_42 (dk_at dksX1_ranked_0 4 rfl rfl)
theorem dX1_ranked_5 : decode cX1_ranked 5 = .ok (.invokevirtual 168, 3) := dk_182 0 168 (dk_at dksX1_ranked_0 5 rfl rfl)
theorem dX1_ranked_8 : decode cX1_ranked 8 = .ok (.aload_n 2, 1) := dk_44 (dk_at dksX1_ranked_0 8 rfl rfl)
theorem dX1_ranked_9 : decode cX1_ranked 9 = .ok (.iload_n 1, 1) := dk_27 (dk_at dksX1_ranked_0 9 rfl rfl)
theorem dX1_ranked_10 : decode cX1_ranked 10 = .ok (.invokestatic 172, 3) := dk_184 0 172 (dk_at dksX1_ranked_0 10 rfl rfl)
theorem dX1_ranked_13 : decode cX1_ranked 13 = .ok (.ireturn, 1) := dk_172 (dk_at dksX1_ranked_0 13 rfl rfl)
abbrev cX1_allVoices : ByteArray := prog_5_method_11_code
def yX1_allVoices : MethodName := ⟨RX1, "allVoices", "()[I"⟩
def dkwX1_allVoices_3 : List UInt8 := [167, 0, 4, 4, 96, 79, 167, 255, 194, 43, 176]
abbrev dktX1_allVoices_3 : List UInt8 := dkwX1_allVoices_3 ++ []
def dkwX1_allVoices_2 : List UInt8 := [46, 42, 180, 0, 14, 45, 180, 0, 133, 182, 0, 136, 192, 0, 56, 180, 0, 154, 153, 0, 7, 5]
abbrev dktX1_allVoices_2 : List UInt8 := dkwX1_allVoices_2 ++ dktX1_allVoices_3
def dkwX1_allVoices_1 : List UInt8 := [185, 0, 52, 1, 0, 192, 0, 56, 78, 45, 180, 0, 133, 16, 241, 159, 0, 37, 43, 45, 180, 0, 133, 92]
abbrev dktX1_allVoices_1 : List UInt8 := dkwX1_allVoices_1 ++ dktX1_allVoices_2
def dkwX1_allVoices_0 : List UInt8 := [16, 16, 188, 10, 76, 42, 180, 0, 14, 182, 0, 42, 77, 44, 185, 0, 46, 1, 0, 153, 0, 59, 44]
abbrev dktX1_allVoices_0 : List UInt8 := dkwX1_allVoices_0 ++ dktX1_allVoices_1
theorem dksX1_allVoices_0 : cX1_allVoices.data.toList.drop 0 = dktX1_allVoices_0 := by decide +kernel
theorem dksX1_allVoices_1 : cX1_allVoices.data.toList.drop 23 = dktX1_allVoices_1 := dk_seg dksX1_allVoices_0 23 rfl rfl
theorem dksX1_allVoices_2 : cX1_allVoices.data.toList.drop 47 = dktX1_allVoices_2 := dk_seg dksX1_allVoices_1 24 rfl rfl
theorem dksX1_allVoices_3 : cX1_allVoices.data.toList.drop 69 = dktX1_allVoices_3 := dk_seg dksX1_allVoices_2 22 rfl rfl
theorem dX1_allVoices_0 : decode cX1_allVoices 0 = .ok (.bipush 16, 2) := dk_16 16 (dk_at dksX1_allVoices_0 0 rfl rfl)
theorem dX1_allVoices_2 : decode cX1_allVoices 2 = .ok (.newarray .int, 2) := dk_188_10 (dk_at dksX1_allVoices_0 2 rfl rfl)
theorem dX1_allVoices_4 : decode cX1_allVoices 4 = .ok (.astore_n 1, 1) := dk_76 (dk_at dksX1_allVoices_0 4 rfl rfl)
theorem dX1_allVoices_5 : decode cX1_allVoices 5 = .ok (.aload_n 0, 1) := dk_42 (dk_at dksX1_allVoices_0 5 rfl rfl)
theorem dX1_allVoices_6 : decode cX1_allVoices 6 = .ok (.getfield 14, 3) := dk_180 0 14 (dk_at dksX1_allVoices_0 6 rfl rfl)
theorem dX1_allVoices_9 : decode cX1_allVoices 9 = .ok (.invokevirtual 42, 3) := dk_182 0 42 (dk_at dksX1_allVoices_0 9 rfl rfl)
theorem dX1_allVoices_12 : decode cX1_allVoices 12 = .ok (.astore_n 2, 1) := dk_77 (dk_at dksX1_allVoices_0 12 rfl rfl)
theorem dX1_allVoices_13 : decode cX1_allVoices 13 = .ok (.aload_n 2, 1) := dk_44 (dk_at dksX1_allVoices_0 13 rfl rfl)
theorem dX1_allVoices_14 : decode cX1_allVoices 14 = .ok (.invokeinterface 46 1, 5) := by decide +kernel
theorem dX1_allVoices_19 : decode cX1_allVoices 19 = .ok (.ifCond .eq 59, 3) := dk_153 0 59 (dk_at dksX1_allVoices_0 19 rfl rfl)
theorem dX1_allVoices_22 : decode cX1_allVoices 22 = .ok (.aload_n 2, 1) := dk_44 (dk_at dksX1_allVoices_0 22 rfl rfl)
theorem dX1_allVoices_23 : decode cX1_allVoices 23 = .ok (.invokeinterface 52 1, 5) := by decide +kernel
theorem dX1_allVoices_28 : decode cX1_allVoices 28 = .ok (.checkcast 56, 3) := dk_192 0 56 (dk_at dksX1_allVoices_1 5 rfl rfl)
theorem dX1_allVoices_31 : decode cX1_allVoices 31 = .ok (.astore_n 3, 1) := dk_78 (dk_at dksX1_allVoices_1 8 rfl rfl)
theorem dX1_allVoices_32 : decode cX1_allVoices 32 = .ok (.aload_n 3, 1) := dk_45 (dk_at dksX1_allVoices_1 9 rfl rfl)
theorem dX1_allVoices_33 : decode cX1_allVoices 33 = .ok (.getfield 133, 3) := dk_180 0 133 (dk_at dksX1_allVoices_1 10 rfl rfl)
theorem dX1_allVoices_36 : decode cX1_allVoices 36 = .ok (.bipush (-15), 2) := dk_16 241 (dk_at dksX1_allVoices_1 13 rfl rfl)
theorem dX1_allVoices_38 : decode cX1_allVoices 38 = .ok (.if_icmp .eq 37, 3) := dk_159 0 37 (dk_at dksX1_allVoices_1 15 rfl rfl)
theorem dX1_allVoices_41 : decode cX1_allVoices 41 = .ok (.aload_n 1, 1) := dk_43 (dk_at dksX1_allVoices_1 18 rfl rfl)
theorem dX1_allVoices_42 : decode cX1_allVoices 42 = .ok (.aload_n 3, 1) := dk_45 (dk_at dksX1_allVoices_1 19 rfl rfl)
theorem dX1_allVoices_43 : decode cX1_allVoices 43 = .ok (.getfield 133, 3) := dk_180 0 133 (dk_at dksX1_allVoices_1 20 rfl rfl)
theorem dX1_allVoices_46 : decode cX1_allVoices 46 = .ok (.dup2, 1) := dk_92 (dk_at dksX1_allVoices_1 23 rfl rfl)
theorem dX1_allVoices_47 : decode cX1_allVoices 47 = .ok (.iaload, 1) := dk_46 (dk_at dksX1_allVoices_2 0 rfl rfl)
theorem dX1_allVoices_48 : decode cX1_allVoices 48 = .ok (.aload_n 0, 1) := dk_42 (dk_at dksX1_allVoices_2 1 rfl rfl)
theorem dX1_allVoices_49 : decode cX1_allVoices 49 = .ok (.getfield 14, 3) := dk_180 0 14 (dk_at dksX1_allVoices_2 2 rfl rfl)
theorem dX1_allVoices_52 : decode cX1_allVoices 52 = .ok (.aload_n 3, 1) := dk_45 (dk_at dksX1_allVoices_2 5 rfl rfl)
theorem dX1_allVoices_53 : decode cX1_allVoices 53 = .ok (.getfield 133, 3) := dk_180 0 133 (dk_at dksX1_allVoices_2 6 rfl rfl)
theorem dX1_allVoices_56 : decode cX1_allVoices 56 = .ok (.invokevirtual 136, 3) := dk_182 0 136 (dk_at dksX1_allVoices_2 9 rfl rfl)
theorem dX1_allVoices_59 : decode cX1_allVoices 59 = .ok (.checkcast 56, 3) := dk_192 0 56 (dk_at dksX1_allVoices_2 12 rfl rfl)
theorem dX1_allVoices_62 : decode cX1_allVoices 62 = .ok (.getfield 154, 3) := dk_180 0 154 (dk_at dksX1_allVoices_2 15 rfl rfl)
theorem dX1_allVoices_65 : decode cX1_allVoices 65 = .ok (.ifCond .eq 7, 3) := dk_153 0 7 (dk_at dksX1_allVoices_2 18 rfl rfl)
theorem dX1_allVoices_68 : decode cX1_allVoices 68 = .ok (.iconst 2, 1) := dk_5 (dk_at dksX1_allVoices_2 21 rfl rfl)
theorem dX1_allVoices_69 : decode cX1_allVoices 69 = .ok (.goto 4, 3) := dk_167 0 4 (dk_at dksX1_allVoices_3 0 rfl rfl)
theorem dX1_allVoices_72 : decode cX1_allVoices 72 = .ok (.iconst 1, 1) := dk_4 (dk_at dksX1_allVoices_3 3 rfl rfl)
theorem dX1_allVoices_73 : decode cX1_allVoices 73 = .ok (.iadd, 1) := dk_96 (dk_at dksX1_allVoices_3 4 rfl rfl)
theorem dX1_allVoices_74 : decode cX1_allVoices 74 = .ok (.iastore, 1) := dk_79 (dk_at dksX1_allVoices_3 5 rfl rfl)
theorem dX1_allVoices_75 : decode cX1_allVoices 75 = .ok (.goto (-62), 3) := dk_167 255 194 (dk_at dksX1_allVoices_3 6 rfl rfl)
theorem dX1_allVoices_78 : decode cX1_allVoices 78 = .ok (.aload_n 1, 1) := dk_43 (dk_at dksX1_allVoices_3 9 rfl rfl)
theorem dX1_allVoices_79 : decode cX1_allVoices 79 = .ok (.areturn, 1) := dk_176 (dk_at dksX1_allVoices_3 10 rfl rfl)
abbrev cX1_leaves : ByteArray := prog_5_method_16_code
def yX1_leaves : MethodName := ⟨RX1, "leaves", "(I)I"⟩
def dkwX1_leaves_1 : List UInt8 := [42, 42, 180, 0, 14, 28, 182, 0, 136, 192, 0, 56, 6, 182, 0, 192, 28, 172]
abbrev dktX1_leaves_1 : List UInt8 := dkwX1_leaves_1 ++ []
def dkwX1_leaves_0 : List UInt8 := [42, 180, 0, 30, 27, 46, 61, 28, 16, 241, 160, 0, 7, 4, 167, 0, 4, 3, 16, 7, 27, 184, 0, 123]
abbrev dktX1_leaves_0 : List UInt8 := dkwX1_leaves_0 ++ dktX1_leaves_1
theorem dksX1_leaves_0 : cX1_leaves.data.toList.drop 0 = dktX1_leaves_0 := by decide +kernel
theorem dksX1_leaves_1 : cX1_leaves.data.toList.drop 24 = dktX1_leaves_1 := dk_seg dksX1_leaves_0 24 rfl rfl
theorem dX1_leaves_0 : decode cX1_leaves 0 = .ok (.aload_n 0, 1) := dk_42 (dk_at dksX1_leaves_0 0 rfl rfl)
theorem dX1_leaves_1 : decode cX1_leaves 1 = .ok (.getfield 30, 3) := dk_180 0 30 (dk_at dksX1_leaves_0 1 rfl rfl)
theorem dX1_leaves_4 : decode cX1_leaves 4 = .ok (.iload_n 1, 1) := dk_27 (dk_at dksX1_leaves_0 4 rfl rfl)
theorem dX1_leaves_5 : decode cX1_leaves 5 = .ok (.iaload, 1) := dk_46 (dk_at dksX1_leaves_0 5 rfl rfl)
theorem dX1_leaves_6 : decode cX1_leaves 6 = .ok (.istore_n 2, 1) := dk_61 (dk_at dksX1_leaves_0 6 rfl rfl)
theorem dX1_leaves_7 : decode cX1_leaves 7 = .ok (.iload_n 2, 1) := dk_28 (dk_at dksX1_leaves_0 7 rfl rfl)
theorem dX1_leaves_8 : decode cX1_leaves 8 = .ok (.bipush (-15), 2) := dk_16 241 (dk_at dksX1_leaves_0 8 rfl rfl)
theorem dX1_leaves_10 : decode cX1_leaves 10 = .ok (.if_icmp .ne 7, 3) := dk_160 0 7 (dk_at dksX1_leaves_0 10 rfl rfl)
theorem dX1_leaves_13 : decode cX1_leaves 13 = .ok (.iconst 1, 1) := dk_4 (dk_at dksX1_leaves_0 13 rfl rfl)
theorem dX1_leaves_14 : decode cX1_leaves 14 = .ok (.goto 4, 3) := dk_167 0 4 (dk_at dksX1_leaves_0 14 rfl rfl)
theorem dX1_leaves_17 : decode cX1_leaves 17 = .ok (.iconst 0, 1) := dk_3 (dk_at dksX1_leaves_0 17 rfl rfl)
theorem dX1_leaves_18 : decode cX1_leaves 18 = .ok (.bipush 7, 2) := dk_16 7 (dk_at dksX1_leaves_0 18 rfl rfl)
theorem dX1_leaves_20 : decode cX1_leaves 20 = .ok (.iload_n 1, 1) := dk_27 (dk_at dksX1_leaves_0 20 rfl rfl)
theorem dX1_leaves_21 : decode cX1_leaves 21 = .ok (.invokestatic 123, 3) := dk_184 0 123 (dk_at dksX1_leaves_0 21 rfl rfl)
theorem dX1_leaves_24 : decode cX1_leaves 24 = .ok (.aload_n 0, 1) := dk_42 (dk_at dksX1_leaves_1 0 rfl rfl)
theorem dX1_leaves_25 : decode cX1_leaves 25 = .ok (.aload_n 0, 1) := dk_42 (dk_at dksX1_leaves_1 1 rfl rfl)
theorem dX1_leaves_26 : decode cX1_leaves 26 = .ok (.getfield 14, 3) := dk_180 0 14 (dk_at dksX1_leaves_1 2 rfl rfl)
theorem dX1_leaves_29 : decode cX1_leaves 29 = .ok (.iload_n 2, 1) := dk_28 (dk_at dksX1_leaves_1 5 rfl rfl)
theorem dX1_leaves_30 : decode cX1_leaves 30 = .ok (.invokevirtual 136, 3) := dk_182 0 136 (dk_at dksX1_leaves_1 6 rfl rfl)
theorem dX1_leaves_33 : decode cX1_leaves 33 = .ok (.checkcast 56, 3) := dk_192 0 56 (dk_at dksX1_leaves_1 9 rfl rfl)
theorem dX1_leaves_36 : decode cX1_leaves 36 = .ok (.iconst 3, 1) := dk_6 (dk_at dksX1_leaves_1 12 rfl rfl)
theorem dX1_leaves_37 : decode cX1_leaves 37 = .ok (.invokevirtual 192, 3) := dk_182 0 192 (dk_at dksX1_leaves_1 13 rfl rfl)
theorem dX1_leaves_40 : decode cX1_leaves 40 = .ok (.iload_n 2, 1) := dk_28 (dk_at dksX1_leaves_1 16 rfl rfl)
theorem dX1_leaves_41 : decode cX1_leaves 41 = .ok (.ireturn, 1) := dk_172 (dk_at dksX1_leaves_1 17 rfl rfl)
abbrev cX1_goes : ByteArray := prog_5_method_15_code
def yX1_goes : MethodName := ⟨RX1, "goes", "(LPittanceHouse$Brother;I)V"⟩
def dkwX1_goes_1 : List UInt8 := [182, 0, 150, 177]
abbrev dktX1_goes_1 : List UInt8 := dkwX1_goes_1 ++ []
def dkwX1_goes_0 : List UInt8 := [42, 180, 0, 30, 43, 180, 0, 186, 16, 241, 79, 42, 180, 0, 27, 43, 180, 0, 189, 184, 0, 143, 43, 28]
abbrev dktX1_goes_0 : List UInt8 := dkwX1_goes_0 ++ dktX1_goes_1
theorem dksX1_goes_0 : cX1_goes.data.toList.drop 0 = dktX1_goes_0 := by decide +kernel
theorem dksX1_goes_1 : cX1_goes.data.toList.drop 24 = dktX1_goes_1 := dk_seg dksX1_goes_0 24 rfl rfl
theorem dX1_goes_0 : decode cX1_goes 0 = .ok (.aload_n 0, 1) := dk_42 (dk_at dksX1_goes_0 0 rfl rfl)
theorem dX1_goes_1 : decode cX1_goes 1 = .ok (.getfield 30, 3) := dk_180 0 30 (dk_at dksX1_goes_0 1 rfl rfl)
theorem dX1_goes_4 : decode cX1_goes 4 = .ok (.aload_n 1, 1) := dk_43 (dk_at dksX1_goes_0 4 rfl rfl)
theorem dX1_goes_5 : decode cX1_goes 5 = .ok (.getfield 186, 3) := dk_180 0 186 (dk_at dksX1_goes_0 5 rfl rfl)
theorem dX1_goes_8 : decode cX1_goes 8 = .ok (.bipush (-15), 2) := dk_16 241 (dk_at dksX1_goes_0 8 rfl rfl)
theorem dX1_goes_10 : decode cX1_goes 10 = .ok (.iastore, 1) := dk_79 (dk_at dksX1_goes_0 10 rfl rfl)
theorem dX1_goes_11 : decode cX1_goes 11 = .ok (.aload_n 0, 1) := dk_42 (dk_at dksX1_goes_0 11 rfl rfl)
theorem dX1_goes_12 : decode cX1_goes 12 = .ok (.getfield 27, 3) := dk_180 0 27 (dk_at dksX1_goes_0 12 rfl rfl)
theorem dX1_goes_15 : decode cX1_goes 15 = .ok (.aload_n 1, 1) := dk_43 (dk_at dksX1_goes_0 15 rfl rfl)
theorem dX1_goes_16 : decode cX1_goes 16 = .ok (.getfield 189, 3) := dk_180 0 189 (dk_at dksX1_goes_0 16 rfl rfl)
theorem dX1_goes_19 : decode cX1_goes 19 = .ok (.invokestatic 143, 3) := dk_184 0 143 (dk_at dksX1_goes_0 19 rfl rfl)
theorem dX1_goes_22 : decode cX1_goes 22 = .ok (.aload_n 1, 1) := dk_43 (dk_at dksX1_goes_0 22 rfl rfl)
theorem dX1_goes_23 : decode cX1_goes 23 = .ok (.iload_n 2, 1) := dk_28 (dk_at dksX1_goes_0 23 rfl rfl)
theorem dX1_goes_24 : decode cX1_goes 24 = .ok (.invokevirtual 150, 3) := dk_182 0 150 (dk_at dksX1_goes_1 0 rfl rfl)
theorem dX1_goes_27 : decode cX1_goes 27 = .ok (.return_, 1) := dk_177 (dk_at dksX1_goes_1 3 rfl rfl)
abbrev cX1_tellsFeast : ByteArray := prog_5_method_18_code
def yX1_tellsFeast : MethodName := ⟨RX1, "tellsFeast", "(II)I"⟩
def dkwX1_tellsFeast_1 : List UInt8 := [16, 8, 16, 6, 184, 0, 123, 42, 180, 0, 34, 27, 28, 79, 42, 182, 0, 195, 172]
abbrev dktX1_tellsFeast_1 : List UInt8 := dkwX1_tellsFeast_1 ++ []
def dkwX1_tellsFeast_0 : List UInt8 := [42, 180, 0, 34, 27, 46, 154, 0, 16, 42, 182, 0, 195, 16, 6, 160, 0, 7, 4, 167, 0, 4, 3]
abbrev dktX1_tellsFeast_0 : List UInt8 := dkwX1_tellsFeast_0 ++ dktX1_tellsFeast_1
theorem dksX1_tellsFeast_0 : cX1_tellsFeast.data.toList.drop 0 = dktX1_tellsFeast_0 := by decide +kernel
theorem dksX1_tellsFeast_1 : cX1_tellsFeast.data.toList.drop 23 = dktX1_tellsFeast_1 := dk_seg dksX1_tellsFeast_0 23 rfl rfl
theorem dX1_tellsFeast_0 : decode cX1_tellsFeast 0 = .ok (.aload_n 0, 1) := dk_42 (dk_at dksX1_tellsFeast_0 0 rfl rfl)
theorem dX1_tellsFeast_1 : decode cX1_tellsFeast 1 = .ok (.getfield 34, 3) := dk_180 0 34 (dk_at dksX1_tellsFeast_0 1 rfl rfl)
theorem dX1_tellsFeast_4 : decode cX1_tellsFeast 4 = .ok (.iload_n 1, 1) := dk_27 (dk_at dksX1_tellsFeast_0 4 rfl rfl)
theorem dX1_tellsFeast_5 : decode cX1_tellsFeast 5 = .ok (.iaload, 1) := dk_46 (dk_at dksX1_tellsFeast_0 5 rfl rfl)
theorem dX1_tellsFeast_6 : decode cX1_tellsFeast 6 = .ok (.ifCond .ne 16, 3) := dk_154 0 16 (dk_at dksX1_tellsFeast_0 6 rfl rfl)
theorem dX1_tellsFeast_9 : decode cX1_tellsFeast 9 = .ok (.aload_n 0, 1) := dk_42 (dk_at dksX1_tellsFeast_0 9 rfl rfl)
theorem dX1_tellsFeast_10 : decode cX1_tellsFeast 10 = .ok (.invokevirtual 195, 3) := dk_182 0 195 (dk_at dksX1_tellsFeast_0 10 rfl rfl)
theorem dX1_tellsFeast_13 : decode cX1_tellsFeast 13 = .ok (.bipush 6, 2) := dk_16 6 (dk_at dksX1_tellsFeast_0 13 rfl rfl)
theorem dX1_tellsFeast_15 : decode cX1_tellsFeast 15 = .ok (.if_icmp .ne 7, 3) := dk_160 0 7 (dk_at dksX1_tellsFeast_0 15 rfl rfl)
theorem dX1_tellsFeast_18 : decode cX1_tellsFeast 18 = .ok (.iconst 1, 1) := dk_4 (dk_at dksX1_tellsFeast_0 18 rfl rfl)
theorem dX1_tellsFeast_19 : decode cX1_tellsFeast 19 = .ok (.goto 4, 3) := dk_167 0 4 (dk_at dksX1_tellsFeast_0 19 rfl rfl)
theorem dX1_tellsFeast_22 : decode cX1_tellsFeast 22 = .ok (.iconst 0, 1) := dk_3 (dk_at dksX1_tellsFeast_0 22 rfl rfl)
theorem dX1_tellsFeast_23 : decode cX1_tellsFeast 23 = .ok (.bipush 8, 2) := dk_16 8 (dk_at dksX1_tellsFeast_1 0 rfl rfl)
theorem dX1_tellsFeast_25 : decode cX1_tellsFeast 25 = .ok (.bipush 6, 2) := dk_16 6 (dk_at dksX1_tellsFeast_1 2 rfl rfl)
theorem dX1_tellsFeast_27 : decode cX1_tellsFeast 27 = .ok (.invokestatic 123, 3) := dk_184 0 123 (dk_at dksX1_tellsFeast_1 4 rfl rfl)
theorem dX1_tellsFeast_30 : decode cX1_tellsFeast 30 = .ok (.aload_n 0, 1) := dk_42 (dk_at dksX1_tellsFeast_1 7 rfl rfl)
theorem dX1_tellsFeast_31 : decode cX1_tellsFeast 31 = .ok (.getfield 34, 3) := dk_180 0 34 (dk_at dksX1_tellsFeast_1 8 rfl rfl)
theorem dX1_tellsFeast_34 : decode cX1_tellsFeast 34 = .ok (.iload_n 1, 1) := dk_27 (dk_at dksX1_tellsFeast_1 11 rfl rfl)
theorem dX1_tellsFeast_35 : decode cX1_tellsFeast 35 = .ok (.iload_n 2, 1) := dk_28 (dk_at dksX1_tellsFeast_1 12 rfl rfl)
theorem dX1_tellsFeast_36 : decode cX1_tellsFeast 36 = .ok (.iastore, 1) := dk_79 (dk_at dksX1_tellsFeast_1 13 rfl rfl)
theorem dX1_tellsFeast_37 : decode cX1_tellsFeast 37 = .ok (.aload_n 0, 1) := dk_42 (dk_at dksX1_tellsFeast_1 14 rfl rfl)
theorem dX1_tellsFeast_38 : decode cX1_tellsFeast 38 = .ok (.invokevirtual 195, 3) := dk_182 0 195 (dk_at dksX1_tellsFeast_1 15 rfl rfl)
theorem dX1_tellsFeast_41 : decode cX1_tellsFeast 41 = .ok (.ireturn, 1) := dk_172 (dk_at dksX1_tellsFeast_1 18 rfl rfl)
abbrev cX1_feasts : ByteArray := prog_5_method_17_code
def yX1_feasts : MethodName := ⟨RX1, "feasts", "()I"⟩
def dkwX1_feasts_1 : List UInt8 := [54, 5, 27, 21, 5, 158, 0, 7, 4, 167, 0, 4, 3, 96, 60, 132, 4, 1, 167, 255, 228, 27, 172]
abbrev dktX1_feasts_1 : List UInt8 := dkwX1_feasts_1 ++ []
def dkwX1_feasts_0 : List UInt8 := [3, 60, 42, 180, 0, 34, 77, 44, 190, 62, 3, 54, 4, 21, 4, 29, 162, 0, 28, 44, 21, 4, 46]
abbrev dktX1_feasts_0 : List UInt8 := dkwX1_feasts_0 ++ dktX1_feasts_1
theorem dksX1_feasts_0 : cX1_feasts.data.toList.drop 0 = dktX1_feasts_0 := by decide +kernel
theorem dksX1_feasts_1 : cX1_feasts.data.toList.drop 23 = dktX1_feasts_1 := dk_seg dksX1_feasts_0 23 rfl rfl
theorem dX1_feasts_0 : decode cX1_feasts 0 = .ok (.iconst 0, 1) := dk_3 (dk_at dksX1_feasts_0 0 rfl rfl)
theorem dX1_feasts_1 : decode cX1_feasts 1 = .ok (.istore_n 1, 1) := dk_60 (dk_at dksX1_feasts_0 1 rfl rfl)
theorem dX1_feasts_2 : decode cX1_feasts 2 = .ok (.aload_n 0, 1) := dk_42 (dk_at dksX1_feasts_0 2 rfl rfl)
theorem dX1_feasts_3 : decode cX1_feasts 3 = .ok (.getfield 34, 3) := dk_180 0 34 (dk_at dksX1_feasts_0 3 rfl rfl)
theorem dX1_feasts_6 : decode cX1_feasts 6 = .ok (.astore_n 2, 1) := dk_77 (dk_at dksX1_feasts_0 6 rfl rfl)
theorem dX1_feasts_7 : decode cX1_feasts 7 = .ok (.aload_n 2, 1) := dk_44 (dk_at dksX1_feasts_0 7 rfl rfl)
theorem dX1_feasts_8 : decode cX1_feasts 8 = .ok (.arraylength, 1) := dk_190 (dk_at dksX1_feasts_0 8 rfl rfl)
theorem dX1_feasts_9 : decode cX1_feasts 9 = .ok (.istore_n 3, 1) := dk_62 (dk_at dksX1_feasts_0 9 rfl rfl)
theorem dX1_feasts_10 : decode cX1_feasts 10 = .ok (.iconst 0, 1) := dk_3 (dk_at dksX1_feasts_0 10 rfl rfl)
theorem dX1_feasts_11 : decode cX1_feasts 11 = .ok (.istore 4, 2) := dk_54 4 (dk_at dksX1_feasts_0 11 rfl rfl)
theorem dX1_feasts_13 : decode cX1_feasts 13 = .ok (.iload 4, 2) := dk_21 4 (dk_at dksX1_feasts_0 13 rfl rfl)
theorem dX1_feasts_15 : decode cX1_feasts 15 = .ok (.iload_n 3, 1) := dk_29 (dk_at dksX1_feasts_0 15 rfl rfl)
theorem dX1_feasts_16 : decode cX1_feasts 16 = .ok (.if_icmp .ge 28, 3) := dk_162 0 28 (dk_at dksX1_feasts_0 16 rfl rfl)
theorem dX1_feasts_19 : decode cX1_feasts 19 = .ok (.aload_n 2, 1) := dk_44 (dk_at dksX1_feasts_0 19 rfl rfl)
theorem dX1_feasts_20 : decode cX1_feasts 20 = .ok (.iload 4, 2) := dk_21 4 (dk_at dksX1_feasts_0 20 rfl rfl)
theorem dX1_feasts_22 : decode cX1_feasts 22 = .ok (.iaload, 1) := dk_46 (dk_at dksX1_feasts_0 22 rfl rfl)
theorem dX1_feasts_23 : decode cX1_feasts 23 = .ok (.istore 5, 2) := dk_54 5 (dk_at dksX1_feasts_1 0 rfl rfl)
theorem dX1_feasts_25 : decode cX1_feasts 25 = .ok (.iload_n 1, 1) := dk_27 (dk_at dksX1_feasts_1 2 rfl rfl)
theorem dX1_feasts_26 : decode cX1_feasts 26 = .ok (.iload 5, 2) := dk_21 5 (dk_at dksX1_feasts_1 3 rfl rfl)
theorem dX1_feasts_28 : decode cX1_feasts 28 = .ok (.ifCond .le 7, 3) := dk_158 0 7 (dk_at dksX1_feasts_1 5 rfl rfl)
theorem dX1_feasts_31 : decode cX1_feasts 31 = .ok (.iconst 1, 1) := dk_4 (dk_at dksX1_feasts_1 8 rfl rfl)
theorem dX1_feasts_32 : decode cX1_feasts 32 = .ok (.goto 4, 3) := dk_167 0 4 (dk_at dksX1_feasts_1 9 rfl rfl)
theorem dX1_feasts_35 : decode cX1_feasts 35 = .ok (.iconst 0, 1) := dk_3 (dk_at dksX1_feasts_1 12 rfl rfl)
theorem dX1_feasts_36 : decode cX1_feasts 36 = .ok (.iadd, 1) := dk_96 (dk_at dksX1_feasts_1 13 rfl rfl)
theorem dX1_feasts_37 : decode cX1_feasts 37 = .ok (.istore_n 1, 1) := dk_60 (dk_at dksX1_feasts_1 14 rfl rfl)
theorem dX1_feasts_38 : decode cX1_feasts 38 = .ok (.iinc 4 1, 3) := dk_132 4 1 (dk_at dksX1_feasts_1 15 rfl rfl)
theorem dX1_feasts_41 : decode cX1_feasts 41 = .ok (.goto (-28), 3) := dk_167 255 228 (dk_at dksX1_feasts_1 18 rfl rfl)
theorem dX1_feasts_44 : decode cX1_feasts 44 = .ok (.iload_n 1, 1) := dk_27 (dk_at dksX1_feasts_1 21 rfl rfl)
theorem dX1_feasts_45 : decode cX1_feasts 45 = .ok (.ireturn, 1) := dk_172 (dk_at dksX1_feasts_1 22 rfl rfl)
abbrev cX1_breaks : ByteArray := prog_5_method_19_code
def yX1_breaks : MethodName := ⟨RX1, "breaks", "(II)I"⟩
def dkwX1_breaks_1 : List UInt8 := [42, 45, 5, 182, 0, 192, 45, 180, 0, 161, 172]
abbrev dktX1_breaks_1 : List UInt8 := dkwX1_breaks_1 ++ []
def dkwX1_breaks_0 : List UInt8 := [42, 180, 0, 14, 27, 182, 0, 136, 192, 0, 56, 78, 45, 182, 0, 158, 45, 28, 182, 0, 197, 153, 0, 9]
abbrev dktX1_breaks_0 : List UInt8 := dkwX1_breaks_0 ++ dktX1_breaks_1
theorem dksX1_breaks_0 : cX1_breaks.data.toList.drop 0 = dktX1_breaks_0 := by decide +kernel
theorem dksX1_breaks_1 : cX1_breaks.data.toList.drop 24 = dktX1_breaks_1 := dk_seg dksX1_breaks_0 24 rfl rfl
theorem dX1_breaks_0 : decode cX1_breaks 0 = .ok (.aload_n 0, 1) := dk_42 (dk_at dksX1_breaks_0 0 rfl rfl)
theorem dX1_breaks_1 : decode cX1_breaks 1 = .ok (.getfield 14, 3) := dk_180 0 14 (dk_at dksX1_breaks_0 1 rfl rfl)
theorem dX1_breaks_4 : decode cX1_breaks 4 = .ok (.iload_n 1, 1) := dk_27 (dk_at dksX1_breaks_0 4 rfl rfl)
theorem dX1_breaks_5 : decode cX1_breaks 5 = .ok (.invokevirtual 136, 3) := dk_182 0 136 (dk_at dksX1_breaks_0 5 rfl rfl)
theorem dX1_breaks_8 : decode cX1_breaks 8 = .ok (.checkcast 56, 3) := dk_192 0 56 (dk_at dksX1_breaks_0 8 rfl rfl)
theorem dX1_breaks_11 : decode cX1_breaks 11 = .ok (.astore_n 3, 1) := dk_78 (dk_at dksX1_breaks_0 11 rfl rfl)
theorem dX1_breaks_12 : decode cX1_breaks 12 = .ok (.aload_n 3, 1) := dk_45 (dk_at dksX1_breaks_0 12 rfl rfl)
theorem dX1_breaks_13 : decode cX1_breaks 13 = .ok (.invokevirtual 158, 3) := dk_182 0 158 (dk_at dksX1_breaks_0 13 rfl rfl)
theorem dX1_breaks_16 : decode cX1_breaks 16 = .ok (.aload_n 3, 1) := dk_45 (dk_at dksX1_breaks_0 16 rfl rfl)
theorem dX1_breaks_17 : decode cX1_breaks 17 = .ok (.iload_n 2, 1) := dk_28 (dk_at dksX1_breaks_0 17 rfl rfl)
theorem dX1_breaks_18 : decode cX1_breaks 18 = .ok (.invokevirtual 197, 3) := dk_182 0 197 (dk_at dksX1_breaks_0 18 rfl rfl)
theorem dX1_breaks_21 : decode cX1_breaks 21 = .ok (.ifCond .eq 9, 3) := dk_153 0 9 (dk_at dksX1_breaks_0 21 rfl rfl)
theorem dX1_breaks_24 : decode cX1_breaks 24 = .ok (.aload_n 0, 1) := dk_42 (dk_at dksX1_breaks_1 0 rfl rfl)
theorem dX1_breaks_25 : decode cX1_breaks 25 = .ok (.aload_n 3, 1) := dk_45 (dk_at dksX1_breaks_1 1 rfl rfl)
theorem dX1_breaks_26 : decode cX1_breaks 26 = .ok (.iconst 2, 1) := dk_5 (dk_at dksX1_breaks_1 2 rfl rfl)
theorem dX1_breaks_27 : decode cX1_breaks 27 = .ok (.invokevirtual 192, 3) := dk_182 0 192 (dk_at dksX1_breaks_1 3 rfl rfl)
theorem dX1_breaks_30 : decode cX1_breaks 30 = .ok (.aload_n 3, 1) := dk_45 (dk_at dksX1_breaks_1 6 rfl rfl)
theorem dX1_breaks_31 : decode cX1_breaks 31 = .ok (.getfield 161, 3) := dk_180 0 161 (dk_at dksX1_breaks_1 7 rfl rfl)
theorem dX1_breaks_34 : decode cX1_breaks 34 = .ok (.ireturn, 1) := dk_172 (dk_at dksX1_breaks_1 10 rfl rfl)
abbrev cX1_pardoned : ByteArray := prog_5_method_20_code
def yX1_pardoned : MethodName := ⟨RX1, "pardoned", "(I)I"⟩
def dkwX1_pardoned_3 : List UInt8 := [181, 0, 109, 29, 172]
abbrev dktX1_pardoned_3 : List UInt8 := dkwX1_pardoned_3 ++ []
def dkwX1_pardoned_2 : List UInt8 := [16, 9, 5, 184, 0, 123, 44, 180, 0, 161, 62, 44, 3, 181, 0, 161, 42, 89, 180, 0, 109, 4, 96]
abbrev dktX1_pardoned_2 : List UInt8 := dkwX1_pardoned_2 ++ dktX1_pardoned_3
def dkwX1_pardoned_1 : List UInt8 := [167, 0, 4, 3, 16, 10, 27, 184, 0, 123, 42, 180, 0, 109, 5, 160, 0, 7, 4, 167, 0, 4, 3]
abbrev dktX1_pardoned_1 : List UInt8 := dkwX1_pardoned_1 ++ dktX1_pardoned_2
def dkwX1_pardoned_0 : List UInt8 := [42, 180, 0, 14, 27, 182, 0, 136, 192, 0, 56, 77, 44, 182, 0, 158, 44, 180, 0, 161, 154, 0, 7, 4]
abbrev dktX1_pardoned_0 : List UInt8 := dkwX1_pardoned_0 ++ dktX1_pardoned_1
theorem dksX1_pardoned_0 : cX1_pardoned.data.toList.drop 0 = dktX1_pardoned_0 := by decide +kernel
theorem dksX1_pardoned_1 : cX1_pardoned.data.toList.drop 24 = dktX1_pardoned_1 := dk_seg dksX1_pardoned_0 24 rfl rfl
theorem dksX1_pardoned_2 : cX1_pardoned.data.toList.drop 47 = dktX1_pardoned_2 := dk_seg dksX1_pardoned_1 23 rfl rfl
theorem dksX1_pardoned_3 : cX1_pardoned.data.toList.drop 70 = dktX1_pardoned_3 := dk_seg dksX1_pardoned_2 23 rfl rfl
theorem dX1_pardoned_0 : decode cX1_pardoned 0 = .ok (.aload_n 0, 1) := dk_42 (dk_at dksX1_pardoned_0 0 rfl rfl)
theorem dX1_pardoned_1 : decode cX1_pardoned 1 = .ok (.getfield 14, 3) := dk_180 0 14 (dk_at dksX1_pardoned_0 1 rfl rfl)
theorem dX1_pardoned_4 : decode cX1_pardoned 4 = .ok (.iload_n 1, 1) := dk_27 (dk_at dksX1_pardoned_0 4 rfl rfl)
theorem dX1_pardoned_5 : decode cX1_pardoned 5 = .ok (.invokevirtual 136, 3) := dk_182 0 136 (dk_at dksX1_pardoned_0 5 rfl rfl)
theorem dX1_pardoned_8 : decode cX1_pardoned 8 = .ok (.checkcast 56, 3) := dk_192 0 56 (dk_at dksX1_pardoned_0 8 rfl rfl)
theorem dX1_pardoned_11 : decode cX1_pardoned 11 = .ok (.astore_n 2, 1) := dk_77 (dk_at dksX1_pardoned_0 11 rfl rfl)
theorem dX1_pardoned_12 : decode cX1_pardoned 12 = .ok (.aload_n 2, 1) := dk_44 (dk_at dksX1_pardoned_0 12 rfl rfl)
theorem dX1_pardoned_13 : decode cX1_pardoned 13 = .ok (.invokevirtual 158, 3) := dk_182 0 158 (dk_at dksX1_pardoned_0 13 rfl rfl)
theorem dX1_pardoned_16 : decode cX1_pardoned 16 = .ok (.aload_n 2, 1) := dk_44 (dk_at dksX1_pardoned_0 16 rfl rfl)
theorem dX1_pardoned_17 : decode cX1_pardoned 17 = .ok (.getfield 161, 3) := dk_180 0 161 (dk_at dksX1_pardoned_0 17 rfl rfl)
theorem dX1_pardoned_20 : decode cX1_pardoned 20 = .ok (.ifCond .ne 7, 3) := dk_154 0 7 (dk_at dksX1_pardoned_0 20 rfl rfl)
theorem dX1_pardoned_23 : decode cX1_pardoned 23 = .ok (.iconst 1, 1) := dk_4 (dk_at dksX1_pardoned_0 23 rfl rfl)
theorem dX1_pardoned_24 : decode cX1_pardoned 24 = .ok (.goto 4, 3) := dk_167 0 4 (dk_at dksX1_pardoned_1 0 rfl rfl)
theorem dX1_pardoned_27 : decode cX1_pardoned 27 = .ok (.iconst 0, 1) := dk_3 (dk_at dksX1_pardoned_1 3 rfl rfl)
theorem dX1_pardoned_28 : decode cX1_pardoned 28 = .ok (.bipush 10, 2) := dk_16 10 (dk_at dksX1_pardoned_1 4 rfl rfl)
theorem dX1_pardoned_30 : decode cX1_pardoned 30 = .ok (.iload_n 1, 1) := dk_27 (dk_at dksX1_pardoned_1 6 rfl rfl)
theorem dX1_pardoned_31 : decode cX1_pardoned 31 = .ok (.invokestatic 123, 3) := dk_184 0 123 (dk_at dksX1_pardoned_1 7 rfl rfl)
theorem dX1_pardoned_34 : decode cX1_pardoned 34 = .ok (.aload_n 0, 1) := dk_42 (dk_at dksX1_pardoned_1 10 rfl rfl)
theorem dX1_pardoned_35 : decode cX1_pardoned 35 = .ok (.getfield 109, 3) := dk_180 0 109 (dk_at dksX1_pardoned_1 11 rfl rfl)
theorem dX1_pardoned_38 : decode cX1_pardoned 38 = .ok (.iconst 2, 1) := dk_5 (dk_at dksX1_pardoned_1 14 rfl rfl)
theorem dX1_pardoned_39 : decode cX1_pardoned 39 = .ok (.if_icmp .ne 7, 3) := dk_160 0 7 (dk_at dksX1_pardoned_1 15 rfl rfl)
theorem dX1_pardoned_42 : decode cX1_pardoned 42 = .ok (.iconst 1, 1) := dk_4 (dk_at dksX1_pardoned_1 18 rfl rfl)
theorem dX1_pardoned_43 : decode cX1_pardoned 43 = .ok (.goto 4, 3) := dk_167 0 4 (dk_at dksX1_pardoned_1 19 rfl rfl)
theorem dX1_pardoned_46 : decode cX1_pardoned 46 = .ok (.iconst 0, 1) := dk_3 (dk_at dksX1_pardoned_1 22 rfl rfl)
theorem dX1_pardoned_47 : decode cX1_pardoned 47 = .ok (.bipush 9, 2) := dk_16 9 (dk_at dksX1_pardoned_2 0 rfl rfl)
theorem dX1_pardoned_49 : decode cX1_pardoned 49 = .ok (.iconst 2, 1) := dk_5 (dk_at dksX1_pardoned_2 2 rfl rfl)
theorem dX1_pardoned_50 : decode cX1_pardoned 50 = .ok (.invokestatic 123, 3) := dk_184 0 123 (dk_at dksX1_pardoned_2 3 rfl rfl)
theorem dX1_pardoned_53 : decode cX1_pardoned 53 = .ok (.aload_n 2, 1) := dk_44 (dk_at dksX1_pardoned_2 6 rfl rfl)
theorem dX1_pardoned_54 : decode cX1_pardoned 54 = .ok (.getfield 161, 3) := dk_180 0 161 (dk_at dksX1_pardoned_2 7 rfl rfl)
theorem dX1_pardoned_57 : decode cX1_pardoned 57 = .ok (.istore_n 3, 1) := dk_62 (dk_at dksX1_pardoned_2 10 rfl rfl)
theorem dX1_pardoned_58 : decode cX1_pardoned 58 = .ok (.aload_n 2, 1) := dk_44 (dk_at dksX1_pardoned_2 11 rfl rfl)
theorem dX1_pardoned_59 : decode cX1_pardoned 59 = .ok (.iconst 0, 1) := dk_3 (dk_at dksX1_pardoned_2 12 rfl rfl)
theorem dX1_pardoned_60 : decode cX1_pardoned 60 = .ok (.putfield 161, 3) := dk_181 0 161 (dk_at dksX1_pardoned_2 13 rfl rfl)
theorem dX1_pardoned_63 : decode cX1_pardoned 63 = .ok (.aload_n 0, 1) := dk_42 (dk_at dksX1_pardoned_2 16 rfl rfl)
theorem dX1_pardoned_64 : decode cX1_pardoned 64 = .ok (.dup, 1) := dk_89 (dk_at dksX1_pardoned_2 17 rfl rfl)
theorem dX1_pardoned_65 : decode cX1_pardoned 65 = .ok (.getfield 109, 3) := dk_180 0 109 (dk_at dksX1_pardoned_2 18 rfl rfl)
theorem dX1_pardoned_68 : decode cX1_pardoned 68 = .ok (.iconst 1, 1) := dk_4 (dk_at dksX1_pardoned_2 21 rfl rfl)
theorem dX1_pardoned_69 : decode cX1_pardoned 69 = .ok (.iadd, 1) := dk_96 (dk_at dksX1_pardoned_2 22 rfl rfl)
theorem dX1_pardoned_70 : decode cX1_pardoned 70 = .ok (.putfield 109, 3) := dk_181 0 109 (dk_at dksX1_pardoned_3 0 rfl rfl)
theorem dX1_pardoned_73 : decode cX1_pardoned 73 = .ok (.iload_n 3, 1) := dk_29 (dk_at dksX1_pardoned_3 3 rfl rfl)
theorem dX1_pardoned_74 : decode cX1_pardoned 74 = .ok (.ireturn, 1) := dk_172 (dk_at dksX1_pardoned_3 4 rfl rfl)
abbrev cX1_isGiven : ByteArray := prog_5_method_22_code
def yX1_isGiven : MethodName := ⟨RX1, "isGiven", "(I)I"⟩
def dkwX1_isGiven_0 : List UInt8 := [42, 27, 182, 0, 207, 42, 180, 0, 37, 172]
abbrev dktX1_isGiven_0 : List UInt8 := dkwX1_isGiven_0 ++ []
theorem dksX1_isGiven_0 : cX1_isGiven.data.toList.drop 0 = dktX1_isGiven_0 := by decide +kernel
theorem dX1_isGiven_0 : decode cX1_isGiven 0 = .ok (.aload_n 0, 1) := dk_42 (dk_at dksX1_isGiven_0 0 rfl rfl)
theorem dX1_isGiven_1 : decode cX1_isGiven 1 = .ok (.iload_n 1, 1) := dk_27 (dk_at dksX1_isGiven_0 1 rfl rfl)
theorem dX1_isGiven_2 : decode cX1_isGiven 2 = .ok (.invokevirtual 207, 3) := dk_182 0 207 (dk_at dksX1_isGiven_0 2 rfl rfl)
theorem dX1_isGiven_5 : decode cX1_isGiven 5 = .ok (.aload_n 0, 1) := dk_42 (dk_at dksX1_isGiven_0 5 rfl rfl)
theorem dX1_isGiven_6 : decode cX1_isGiven 6 = .ok (.getfield 37, 3) := dk_180 0 37 (dk_at dksX1_isGiven_0 6 rfl rfl)
theorem dX1_isGiven_9 : decode cX1_isGiven 9 = .ok (.ireturn, 1) := dk_172 (dk_at dksX1_isGiven_0 9 rfl rfl)
abbrev cX1_comesIn : ByteArray := prog_5_method_21_code
def yX1_comesIn : MethodName := ⟨RX1, "comesIn", "(I)V"⟩
def dkwX1_comesIn_1 : List UInt8 := [89, 180, 0, 97, 28, 96, 181, 0, 97, 177]
abbrev dktX1_comesIn_1 : List UInt8 := dkwX1_comesIn_1 ++ []
def dkwX1_comesIn_0 : List UInt8 := [27, 17, 39, 15, 42, 180, 0, 37, 100, 184, 0, 201, 61, 42, 89, 180, 0, 37, 28, 96, 181, 0, 37, 42]
abbrev dktX1_comesIn_0 : List UInt8 := dkwX1_comesIn_0 ++ dktX1_comesIn_1
theorem dksX1_comesIn_0 : cX1_comesIn.data.toList.drop 0 = dktX1_comesIn_0 := by decide +kernel
theorem dksX1_comesIn_1 : cX1_comesIn.data.toList.drop 24 = dktX1_comesIn_1 := dk_seg dksX1_comesIn_0 24 rfl rfl
theorem dX1_comesIn_0 : decode cX1_comesIn 0 = .ok (.iload_n 1, 1) := dk_27 (dk_at dksX1_comesIn_0 0 rfl rfl)
theorem dX1_comesIn_1 : decode cX1_comesIn 1 = .ok (.sipush 9999, 3) := dk_17 39 15 (dk_at dksX1_comesIn_0 1 rfl rfl)
theorem dX1_comesIn_4 : decode cX1_comesIn 4 = .ok (.aload_n 0, 1) := dk_42 (dk_at dksX1_comesIn_0 4 rfl rfl)
theorem dX1_comesIn_5 : decode cX1_comesIn 5 = .ok (.getfield 37, 3) := dk_180 0 37 (dk_at dksX1_comesIn_0 5 rfl rfl)
theorem dX1_comesIn_8 : decode cX1_comesIn 8 = .ok (.isub, 1) := dk_100 (dk_at dksX1_comesIn_0 8 rfl rfl)
theorem dX1_comesIn_9 : decode cX1_comesIn 9 = .ok (.invokestatic 201, 3) := dk_184 0 201 (dk_at dksX1_comesIn_0 9 rfl rfl)
theorem dX1_comesIn_12 : decode cX1_comesIn 12 = .ok (.istore_n 2, 1) := dk_61 (dk_at dksX1_comesIn_0 12 rfl rfl)
theorem dX1_comesIn_13 : decode cX1_comesIn 13 = .ok (.aload_n 0, 1) := dk_42 (dk_at dksX1_comesIn_0 13 rfl rfl)
theorem dX1_comesIn_14 : decode cX1_comesIn 14 = .ok (.dup, 1) := dk_89 (dk_at dksX1_comesIn_0 14 rfl rfl)
theorem dX1_comesIn_15 : decode cX1_comesIn 15 = .ok (.getfield 37, 3) := dk_180 0 37 (dk_at dksX1_comesIn_0 15 rfl rfl)
theorem dX1_comesIn_18 : decode cX1_comesIn 18 = .ok (.iload_n 2, 1) := dk_28 (dk_at dksX1_comesIn_0 18 rfl rfl)
theorem dX1_comesIn_19 : decode cX1_comesIn 19 = .ok (.iadd, 1) := dk_96 (dk_at dksX1_comesIn_0 19 rfl rfl)
theorem dX1_comesIn_20 : decode cX1_comesIn 20 = .ok (.putfield 37, 3) := dk_181 0 37 (dk_at dksX1_comesIn_0 20 rfl rfl)
theorem dX1_comesIn_23 : decode cX1_comesIn 23 = .ok (.aload_n 0, 1) := dk_42 (dk_at dksX1_comesIn_0 23 rfl rfl)
theorem dX1_comesIn_24 : decode cX1_comesIn 24 = .ok (.dup, 1) := dk_89 (dk_at dksX1_comesIn_1 0 rfl rfl)
theorem dX1_comesIn_25 : decode cX1_comesIn 25 = .ok (.getfield 97, 3) := dk_180 0 97 (dk_at dksX1_comesIn_1 1 rfl rfl)
theorem dX1_comesIn_28 : decode cX1_comesIn 28 = .ok (.iload_n 2, 1) := dk_28 (dk_at dksX1_comesIn_1 4 rfl rfl)
theorem dX1_comesIn_29 : decode cX1_comesIn 29 = .ok (.iadd, 1) := dk_96 (dk_at dksX1_comesIn_1 5 rfl rfl)
theorem dX1_comesIn_30 : decode cX1_comesIn 30 = .ok (.putfield 97, 3) := dk_181 0 97 (dk_at dksX1_comesIn_1 6 rfl rfl)
theorem dX1_comesIn_33 : decode cX1_comesIn 33 = .ok (.return_, 1) := dk_177 (dk_at dksX1_comesIn_1 9 rfl rfl)
abbrev cX1_weeksGo : ByteArray := prog_5_method_30_code
def yX1_weeksGo : MethodName := ⟨RX1, "weeksGo", "(ILPittanceHouse$Ahead;)I"⟩
def dkwX1_weeksGo_1 : List UInt8 := [167, 255, 239, 29, 172]
abbrev dktX1_weeksGo_1 : List UInt8 := dkwX1_weeksGo_1 ++ []
def dkwX1_weeksGo_0 : List UInt8 := [3, 62, 3, 54, 4, 21, 4, 27, 162, 0, 17, 29, 42, 44, 182, 0, 254, 96, 62, 132, 4, 1]
abbrev dktX1_weeksGo_0 : List UInt8 := dkwX1_weeksGo_0 ++ dktX1_weeksGo_1
theorem dksX1_weeksGo_0 : cX1_weeksGo.data.toList.drop 0 = dktX1_weeksGo_0 := by decide +kernel
theorem dksX1_weeksGo_1 : cX1_weeksGo.data.toList.drop 22 = dktX1_weeksGo_1 := dk_seg dksX1_weeksGo_0 22 rfl rfl
theorem dX1_weeksGo_0 : decode cX1_weeksGo 0 = .ok (.iconst 0, 1) := dk_3 (dk_at dksX1_weeksGo_0 0 rfl rfl)
theorem dX1_weeksGo_1 : decode cX1_weeksGo 1 = .ok (.istore_n 3, 1) := dk_62 (dk_at dksX1_weeksGo_0 1 rfl rfl)
theorem dX1_weeksGo_2 : decode cX1_weeksGo 2 = .ok (.iconst 0, 1) := dk_3 (dk_at dksX1_weeksGo_0 2 rfl rfl)
theorem dX1_weeksGo_3 : decode cX1_weeksGo 3 = .ok (.istore 4, 2) := dk_54 4 (dk_at dksX1_weeksGo_0 3 rfl rfl)
theorem dX1_weeksGo_5 : decode cX1_weeksGo 5 = .ok (.iload 4, 2) := dk_21 4 (dk_at dksX1_weeksGo_0 5 rfl rfl)
theorem dX1_weeksGo_7 : decode cX1_weeksGo 7 = .ok (.iload_n 1, 1) := dk_27 (dk_at dksX1_weeksGo_0 7 rfl rfl)
theorem dX1_weeksGo_8 : decode cX1_weeksGo 8 = .ok (.if_icmp .ge 17, 3) := dk_162 0 17 (dk_at dksX1_weeksGo_0 8 rfl rfl)
theorem dX1_weeksGo_11 : decode cX1_weeksGo 11 = .ok (.iload_n 3, 1) := dk_29 (dk_at dksX1_weeksGo_0 11 rfl rfl)
theorem dX1_weeksGo_12 : decode cX1_weeksGo 12 = .ok (.aload_n 0, 1) := dk_42 (dk_at dksX1_weeksGo_0 12 rfl rfl)
theorem dX1_weeksGo_13 : decode cX1_weeksGo 13 = .ok (.aload_n 2, 1) := dk_44 (dk_at dksX1_weeksGo_0 13 rfl rfl)
theorem dX1_weeksGo_14 : decode cX1_weeksGo 14 = .ok (.invokevirtual 254, 3) := dk_182 0 254 (dk_at dksX1_weeksGo_0 14 rfl rfl)
theorem dX1_weeksGo_17 : decode cX1_weeksGo 17 = .ok (.iadd, 1) := dk_96 (dk_at dksX1_weeksGo_0 17 rfl rfl)
theorem dX1_weeksGo_18 : decode cX1_weeksGo 18 = .ok (.istore_n 3, 1) := dk_62 (dk_at dksX1_weeksGo_0 18 rfl rfl)
theorem dX1_weeksGo_19 : decode cX1_weeksGo 19 = .ok (.iinc 4 1, 3) := dk_132 4 1 (dk_at dksX1_weeksGo_0 19 rfl rfl)
theorem dX1_weeksGo_22 : decode cX1_weeksGo 22 = .ok (.goto (-17), 3) := dk_167 255 239 (dk_at dksX1_weeksGo_1 0 rfl rfl)
theorem dX1_weeksGo_25 : decode cX1_weeksGo 25 = .ok (.iload_n 3, 1) := dk_29 (dk_at dksX1_weeksGo_1 3 rfl rfl)
theorem dX1_weeksGo_26 : decode cX1_weeksGo 26 = .ok (.ireturn, 1) := dk_172 (dk_at dksX1_weeksGo_1 4 rfl rfl)
abbrev cX1_weekGoes : ByteArray := prog_5_method_29_code
def yX1_weekGoes : MethodName := ⟨RX1, "weekGoes", "(LPittanceHouse$Ahead;)I"⟩
def dkwX1_weekGoes_4 : List UInt8 := [160, 0, 8, 42, 43, 182, 0, 251, 28, 172]
abbrev dktX1_weekGoes_4 : List UInt8 := dkwX1_weekGoes_4 ++ []
def dkwX1_weekGoes_3 : List UInt8 := [182, 0, 153, 100, 104, 182, 0, 207, 42, 89, 180, 0, 94, 4, 96, 181, 0, 94, 42, 180, 0, 94, 16, 52]
abbrev dktX1_weekGoes_3 : List UInt8 := dkwX1_weekGoes_3 ++ dktX1_weekGoes_4
def dkwX1_weekGoes_2 : List UInt8 := [158, 0, 7, 4, 167, 0, 4, 3, 100, 181, 0, 161, 167, 255, 213, 42, 5, 16, 8, 42, 180, 0, 27]
abbrev dktX1_weekGoes_2 : List UInt8 := dkwX1_weekGoes_2 ++ dktX1_weekGoes_3
def dkwX1_weekGoes_1 : List UInt8 := [45, 185, 0, 52, 1, 0, 192, 0, 56, 58, 4, 25, 4, 89, 180, 0, 161, 25, 4, 180, 0, 161]
abbrev dktX1_weekGoes_1 : List UInt8 := dkwX1_weekGoes_1 ++ dktX1_weekGoes_2
def dkwX1_weekGoes_0 : List UInt8 := [42, 182, 0, 248, 61, 42, 182, 0, 210, 185, 0, 214, 1, 0, 78, 45, 185, 0, 46, 1, 0, 153, 0, 40]
abbrev dktX1_weekGoes_0 : List UInt8 := dkwX1_weekGoes_0 ++ dktX1_weekGoes_1
theorem dksX1_weekGoes_0 : cX1_weekGoes.data.toList.drop 0 = dktX1_weekGoes_0 := by decide +kernel
theorem dksX1_weekGoes_1 : cX1_weekGoes.data.toList.drop 24 = dktX1_weekGoes_1 := dk_seg dksX1_weekGoes_0 24 rfl rfl
theorem dksX1_weekGoes_2 : cX1_weekGoes.data.toList.drop 46 = dktX1_weekGoes_2 := dk_seg dksX1_weekGoes_1 22 rfl rfl
theorem dksX1_weekGoes_3 : cX1_weekGoes.data.toList.drop 69 = dktX1_weekGoes_3 := dk_seg dksX1_weekGoes_2 23 rfl rfl
theorem dksX1_weekGoes_4 : cX1_weekGoes.data.toList.drop 93 = dktX1_weekGoes_4 := dk_seg dksX1_weekGoes_3 24 rfl rfl
theorem dX1_weekGoes_0 : decode cX1_weekGoes 0 = .ok (.aload_n 0, 1) := dk_42 (dk_at dksX1_weekGoes_0 0 rfl rfl)
theorem dX1_weekGoes_1 : decode cX1_weekGoes 1 = .ok (.invokevirtual 248, 3) := dk_182 0 248 (dk_at dksX1_weekGoes_0 1 rfl rfl)
theorem dX1_weekGoes_4 : decode cX1_weekGoes 4 = .ok (.istore_n 2, 1) := dk_61 (dk_at dksX1_weekGoes_0 4 rfl rfl)
theorem dX1_weekGoes_5 : decode cX1_weekGoes 5 = .ok (.aload_n 0, 1) := dk_42 (dk_at dksX1_weekGoes_0 5 rfl rfl)
theorem dX1_weekGoes_6 : decode cX1_weekGoes 6 = .ok (.invokevirtual 210, 3) := dk_182 0 210 (dk_at dksX1_weekGoes_0 6 rfl rfl)
theorem dX1_weekGoes_9 : decode cX1_weekGoes 9 = .ok (.invokeinterface 214 1, 5) := by decide +kernel
theorem dX1_weekGoes_14 : decode cX1_weekGoes 14 = .ok (.astore_n 3, 1) := dk_78 (dk_at dksX1_weekGoes_0 14 rfl rfl)
theorem dX1_weekGoes_15 : decode cX1_weekGoes 15 = .ok (.aload_n 3, 1) := dk_45 (dk_at dksX1_weekGoes_0 15 rfl rfl)
theorem dX1_weekGoes_16 : decode cX1_weekGoes 16 = .ok (.invokeinterface 46 1, 5) := by decide +kernel
theorem dX1_weekGoes_21 : decode cX1_weekGoes 21 = .ok (.ifCond .eq 40, 3) := dk_153 0 40 (dk_at dksX1_weekGoes_0 21 rfl rfl)
theorem dX1_weekGoes_24 : decode cX1_weekGoes 24 = .ok (.aload_n 3, 1) := dk_45 (dk_at dksX1_weekGoes_1 0 rfl rfl)
theorem dX1_weekGoes_25 : decode cX1_weekGoes 25 = .ok (.invokeinterface 52 1, 5) := by decide +kernel
theorem dX1_weekGoes_30 : decode cX1_weekGoes 30 = .ok (.checkcast 56, 3) := dk_192 0 56 (dk_at dksX1_weekGoes_1 6 rfl rfl)
theorem dX1_weekGoes_33 : decode cX1_weekGoes 33 = .ok (.astore 4, 2) := dk_58 4 (dk_at dksX1_weekGoes_1 9 rfl rfl)
theorem dX1_weekGoes_35 : decode cX1_weekGoes 35 = .ok (.aload 4, 2) := dk_25 4 (dk_at dksX1_weekGoes_1 11 rfl rfl)
theorem dX1_weekGoes_37 : decode cX1_weekGoes 37 = .ok (.dup, 1) := dk_89 (dk_at dksX1_weekGoes_1 13 rfl rfl)
theorem dX1_weekGoes_38 : decode cX1_weekGoes 38 = .ok (.getfield 161, 3) := dk_180 0 161 (dk_at dksX1_weekGoes_1 14 rfl rfl)
theorem dX1_weekGoes_41 : decode cX1_weekGoes 41 = .ok (.aload 4, 2) := dk_25 4 (dk_at dksX1_weekGoes_1 17 rfl rfl)
theorem dX1_weekGoes_43 : decode cX1_weekGoes 43 = .ok (.getfield 161, 3) := dk_180 0 161 (dk_at dksX1_weekGoes_1 19 rfl rfl)
theorem dX1_weekGoes_46 : decode cX1_weekGoes 46 = .ok (.ifCond .le 7, 3) := dk_158 0 7 (dk_at dksX1_weekGoes_2 0 rfl rfl)
theorem dX1_weekGoes_49 : decode cX1_weekGoes 49 = .ok (.iconst 1, 1) := dk_4 (dk_at dksX1_weekGoes_2 3 rfl rfl)
theorem dX1_weekGoes_50 : decode cX1_weekGoes 50 = .ok (.goto 4, 3) := dk_167 0 4 (dk_at dksX1_weekGoes_2 4 rfl rfl)
theorem dX1_weekGoes_53 : decode cX1_weekGoes 53 = .ok (.iconst 0, 1) := dk_3 (dk_at dksX1_weekGoes_2 7 rfl rfl)
theorem dX1_weekGoes_54 : decode cX1_weekGoes 54 = .ok (.isub, 1) := dk_100 (dk_at dksX1_weekGoes_2 8 rfl rfl)
theorem dX1_weekGoes_55 : decode cX1_weekGoes 55 = .ok (.putfield 161, 3) := dk_181 0 161 (dk_at dksX1_weekGoes_2 9 rfl rfl)
theorem dX1_weekGoes_58 : decode cX1_weekGoes 58 = .ok (.goto (-43), 3) := dk_167 255 213 (dk_at dksX1_weekGoes_2 12 rfl rfl)
theorem dX1_weekGoes_61 : decode cX1_weekGoes 61 = .ok (.aload_n 0, 1) := dk_42 (dk_at dksX1_weekGoes_2 15 rfl rfl)
theorem dX1_weekGoes_62 : decode cX1_weekGoes 62 = .ok (.iconst 2, 1) := dk_5 (dk_at dksX1_weekGoes_2 16 rfl rfl)
theorem dX1_weekGoes_63 : decode cX1_weekGoes 63 = .ok (.bipush 8, 2) := dk_16 8 (dk_at dksX1_weekGoes_2 17 rfl rfl)
theorem dX1_weekGoes_65 : decode cX1_weekGoes 65 = .ok (.aload_n 0, 1) := dk_42 (dk_at dksX1_weekGoes_2 19 rfl rfl)
theorem dX1_weekGoes_66 : decode cX1_weekGoes 66 = .ok (.getfield 27, 3) := dk_180 0 27 (dk_at dksX1_weekGoes_2 20 rfl rfl)
theorem dX1_weekGoes_69 : decode cX1_weekGoes 69 = .ok (.invokevirtual 153, 3) := dk_182 0 153 (dk_at dksX1_weekGoes_3 0 rfl rfl)
theorem dX1_weekGoes_72 : decode cX1_weekGoes 72 = .ok (.isub, 1) := dk_100 (dk_at dksX1_weekGoes_3 3 rfl rfl)
theorem dX1_weekGoes_73 : decode cX1_weekGoes 73 = .ok (.imul, 1) := dk_104 (dk_at dksX1_weekGoes_3 4 rfl rfl)
theorem dX1_weekGoes_74 : decode cX1_weekGoes 74 = .ok (.invokevirtual 207, 3) := dk_182 0 207 (dk_at dksX1_weekGoes_3 5 rfl rfl)
theorem dX1_weekGoes_77 : decode cX1_weekGoes 77 = .ok (.aload_n 0, 1) := dk_42 (dk_at dksX1_weekGoes_3 8 rfl rfl)
theorem dX1_weekGoes_78 : decode cX1_weekGoes 78 = .ok (.dup, 1) := dk_89 (dk_at dksX1_weekGoes_3 9 rfl rfl)
theorem dX1_weekGoes_79 : decode cX1_weekGoes 79 = .ok (.getfield 94, 3) := dk_180 0 94 (dk_at dksX1_weekGoes_3 10 rfl rfl)
theorem dX1_weekGoes_82 : decode cX1_weekGoes 82 = .ok (.iconst 1, 1) := dk_4 (dk_at dksX1_weekGoes_3 13 rfl rfl)
theorem dX1_weekGoes_83 : decode cX1_weekGoes 83 = .ok (.iadd, 1) := dk_96 (dk_at dksX1_weekGoes_3 14 rfl rfl)
theorem dX1_weekGoes_84 : decode cX1_weekGoes 84 = .ok (.putfield 94, 3) := dk_181 0 94 (dk_at dksX1_weekGoes_3 15 rfl rfl)
theorem dX1_weekGoes_87 : decode cX1_weekGoes 87 = .ok (.aload_n 0, 1) := dk_42 (dk_at dksX1_weekGoes_3 18 rfl rfl)
theorem dX1_weekGoes_88 : decode cX1_weekGoes 88 = .ok (.getfield 94, 3) := dk_180 0 94 (dk_at dksX1_weekGoes_3 19 rfl rfl)
theorem dX1_weekGoes_91 : decode cX1_weekGoes 91 = .ok (.bipush 52, 2) := dk_16 52 (dk_at dksX1_weekGoes_3 22 rfl rfl)
theorem dX1_weekGoes_93 : decode cX1_weekGoes 93 = .ok (.if_icmp .ne 8, 3) := dk_160 0 8 (dk_at dksX1_weekGoes_4 0 rfl rfl)
theorem dX1_weekGoes_96 : decode cX1_weekGoes 96 = .ok (.aload_n 0, 1) := dk_42 (dk_at dksX1_weekGoes_4 3 rfl rfl)
theorem dX1_weekGoes_97 : decode cX1_weekGoes 97 = .ok (.aload_n 1, 1) := dk_43 (dk_at dksX1_weekGoes_4 4 rfl rfl)
theorem dX1_weekGoes_98 : decode cX1_weekGoes 98 = .ok (.invokevirtual 251, 3) := dk_182 0 251 (dk_at dksX1_weekGoes_4 5 rfl rfl)
theorem dX1_weekGoes_101 : decode cX1_weekGoes 101 = .ok (.iload_n 2, 1) := dk_28 (dk_at dksX1_weekGoes_4 8 rfl rfl)
theorem dX1_weekGoes_102 : decode cX1_weekGoes 102 = .ok (.ireturn, 1) := dk_172 (dk_at dksX1_weekGoes_4 9 rfl rfl)
abbrev cX1_feastIsHeld : ByteArray := prog_5_method_24_code
def yX1_feastIsHeld : MethodName := ⟨RX1, "feastIsHeld", "()I"⟩
def dkwX1_feastIsHeld_6 : List UInt8 := [27, 104, 172]
abbrev dktX1_feastIsHeld_6 : List UInt8 := dkwX1_feastIsHeld_6 ++ []
def dkwX1_feastIsHeld_5 : List UInt8 := [89, 180, 0, 37, 28, 27, 104, 100, 181, 0, 37, 42, 89, 180, 0, 100, 28, 27, 104, 96, 181, 0, 100, 28]
abbrev dktX1_feastIsHeld_5 : List UInt8 := dkwX1_feastIsHeld_5 ++ dktX1_feastIsHeld_6
def dkwX1_feastIsHeld_4 : List UInt8 := [180, 0, 223, 25, 4, 182, 0, 217, 153, 0, 7, 28, 167, 0, 4, 3, 96, 181, 0, 223, 167, 255, 213, 42]
abbrev dktX1_feastIsHeld_4 : List UInt8 := dkwX1_feastIsHeld_4 ++ dktX1_feastIsHeld_5
def dkwX1_feastIsHeld_3 : List UInt8 := [45, 185, 0, 46, 1, 0, 153, 0, 40, 45, 185, 0, 52, 1, 0, 192, 0, 56, 58, 4, 25, 4, 89]
abbrev dktX1_feastIsHeld_3 : List UInt8 := dkwX1_feastIsHeld_3 ++ dktX1_feastIsHeld_4
def dkwX1_feastIsHeld_2 : List UInt8 := [180, 0, 94, 46, 167, 0, 9, 42, 180, 0, 37, 27, 108, 61, 42, 182, 0, 210, 185, 0, 214, 1, 0, 78]
abbrev dktX1_feastIsHeld_2 : List UInt8 := dkwX1_feastIsHeld_2 ++ dktX1_feastIsHeld_3
def dkwX1_feastIsHeld_1 : List UInt8 := [180, 0, 34, 42, 180, 0, 94, 46, 27, 104, 42, 180, 0, 37, 163, 0, 15, 42, 180, 0, 34, 42]
abbrev dktX1_feastIsHeld_1 : List UInt8 := dkwX1_feastIsHeld_1 ++ dktX1_feastIsHeld_2
def dkwX1_feastIsHeld_0 : List UInt8 := [42, 182, 0, 220, 60, 42, 180, 0, 34, 42, 180, 0, 94, 46, 153, 0, 7, 27, 154, 0, 5, 3, 172, 42]
abbrev dktX1_feastIsHeld_0 : List UInt8 := dkwX1_feastIsHeld_0 ++ dktX1_feastIsHeld_1
theorem dksX1_feastIsHeld_0 : cX1_feastIsHeld.data.toList.drop 0 = dktX1_feastIsHeld_0 := by decide +kernel
theorem dksX1_feastIsHeld_1 : cX1_feastIsHeld.data.toList.drop 24 = dktX1_feastIsHeld_1 := dk_seg dksX1_feastIsHeld_0 24 rfl rfl
theorem dksX1_feastIsHeld_2 : cX1_feastIsHeld.data.toList.drop 46 = dktX1_feastIsHeld_2 := dk_seg dksX1_feastIsHeld_1 22 rfl rfl
theorem dksX1_feastIsHeld_3 : cX1_feastIsHeld.data.toList.drop 70 = dktX1_feastIsHeld_3 := dk_seg dksX1_feastIsHeld_2 24 rfl rfl
theorem dksX1_feastIsHeld_4 : cX1_feastIsHeld.data.toList.drop 93 = dktX1_feastIsHeld_4 := dk_seg dksX1_feastIsHeld_3 23 rfl rfl
theorem dksX1_feastIsHeld_5 : cX1_feastIsHeld.data.toList.drop 117 = dktX1_feastIsHeld_5 := dk_seg dksX1_feastIsHeld_4 24 rfl rfl
theorem dksX1_feastIsHeld_6 : cX1_feastIsHeld.data.toList.drop 141 = dktX1_feastIsHeld_6 := dk_seg dksX1_feastIsHeld_5 24 rfl rfl
theorem dX1_feastIsHeld_0 : decode cX1_feastIsHeld 0 = .ok (.aload_n 0, 1) := dk_42 (dk_at dksX1_feastIsHeld_0 0 rfl rfl)
theorem dX1_feastIsHeld_1 : decode cX1_feastIsHeld 1 = .ok (.invokevirtual 220, 3) := dk_182 0 220 (dk_at dksX1_feastIsHeld_0 1 rfl rfl)
theorem dX1_feastIsHeld_4 : decode cX1_feastIsHeld 4 = .ok (.istore_n 1, 1) := dk_60 (dk_at dksX1_feastIsHeld_0 4 rfl rfl)
theorem dX1_feastIsHeld_5 : decode cX1_feastIsHeld 5 = .ok (.aload_n 0, 1) := dk_42 (dk_at dksX1_feastIsHeld_0 5 rfl rfl)
theorem dX1_feastIsHeld_6 : decode cX1_feastIsHeld 6 = .ok (.getfield 34, 3) := dk_180 0 34 (dk_at dksX1_feastIsHeld_0 6 rfl rfl)
theorem dX1_feastIsHeld_9 : decode cX1_feastIsHeld 9 = .ok (.aload_n 0, 1) := dk_42 (dk_at dksX1_feastIsHeld_0 9 rfl rfl)
theorem dX1_feastIsHeld_10 : decode cX1_feastIsHeld 10 = .ok (.getfield 94, 3) := dk_180 0 94 (dk_at dksX1_feastIsHeld_0 10 rfl rfl)
theorem dX1_feastIsHeld_13 : decode cX1_feastIsHeld 13 = .ok (.iaload, 1) := dk_46 (dk_at dksX1_feastIsHeld_0 13 rfl rfl)
theorem dX1_feastIsHeld_14 : decode cX1_feastIsHeld 14 = .ok (.ifCond .eq 7, 3) := dk_153 0 7 (dk_at dksX1_feastIsHeld_0 14 rfl rfl)
theorem dX1_feastIsHeld_17 : decode cX1_feastIsHeld 17 = .ok (.iload_n 1, 1) := dk_27 (dk_at dksX1_feastIsHeld_0 17 rfl rfl)
theorem dX1_feastIsHeld_18 : decode cX1_feastIsHeld 18 = .ok (.ifCond .ne 5, 3) := dk_154 0 5 (dk_at dksX1_feastIsHeld_0 18 rfl rfl)
theorem dX1_feastIsHeld_21 : decode cX1_feastIsHeld 21 = .ok (.iconst 0, 1) := dk_3 (dk_at dksX1_feastIsHeld_0 21 rfl rfl)
theorem dX1_feastIsHeld_22 : decode cX1_feastIsHeld 22 = .ok (.ireturn, 1) := dk_172 (dk_at dksX1_feastIsHeld_0 22 rfl rfl)
theorem dX1_feastIsHeld_23 : decode cX1_feastIsHeld 23 = .ok (.aload_n 0, 1) := dk_42 (dk_at dksX1_feastIsHeld_0 23 rfl rfl)
theorem dX1_feastIsHeld_24 : decode cX1_feastIsHeld 24 = .ok (.getfield 34, 3) := dk_180 0 34 (dk_at dksX1_feastIsHeld_1 0 rfl rfl)
theorem dX1_feastIsHeld_27 : decode cX1_feastIsHeld 27 = .ok (.aload_n 0, 1) := dk_42 (dk_at dksX1_feastIsHeld_1 3 rfl rfl)
theorem dX1_feastIsHeld_28 : decode cX1_feastIsHeld 28 = .ok (.getfield 94, 3) := dk_180 0 94 (dk_at dksX1_feastIsHeld_1 4 rfl rfl)
theorem dX1_feastIsHeld_31 : decode cX1_feastIsHeld 31 = .ok (.iaload, 1) := dk_46 (dk_at dksX1_feastIsHeld_1 7 rfl rfl)
theorem dX1_feastIsHeld_32 : decode cX1_feastIsHeld 32 = .ok (.iload_n 1, 1) := dk_27 (dk_at dksX1_feastIsHeld_1 8 rfl rfl)
theorem dX1_feastIsHeld_33 : decode cX1_feastIsHeld 33 = .ok (.imul, 1) := dk_104 (dk_at dksX1_feastIsHeld_1 9 rfl rfl)
theorem dX1_feastIsHeld_34 : decode cX1_feastIsHeld 34 = .ok (.aload_n 0, 1) := dk_42 (dk_at dksX1_feastIsHeld_1 10 rfl rfl)
theorem dX1_feastIsHeld_35 : decode cX1_feastIsHeld 35 = .ok (.getfield 37, 3) := dk_180 0 37 (dk_at dksX1_feastIsHeld_1 11 rfl rfl)
theorem dX1_feastIsHeld_38 : decode cX1_feastIsHeld 38 = .ok (.if_icmp .gt 15, 3) := dk_163 0 15 (dk_at dksX1_feastIsHeld_1 14 rfl rfl)
theorem dX1_feastIsHeld_41 : decode cX1_feastIsHeld 41 = .ok (.aload_n 0, 1) := dk_42 (dk_at dksX1_feastIsHeld_1 17 rfl rfl)
theorem dX1_feastIsHeld_42 : decode cX1_feastIsHeld 42 = .ok (.getfield 34, 3) := dk_180 0 34 (dk_at dksX1_feastIsHeld_1 18 rfl rfl)
theorem dX1_feastIsHeld_45 : decode cX1_feastIsHeld 45 = .ok (.aload_n 0, 1) := dk_42 (dk_at dksX1_feastIsHeld_1 21 rfl rfl)
theorem dX1_feastIsHeld_46 : decode cX1_feastIsHeld 46 = .ok (.getfield 94, 3) := dk_180 0 94 (dk_at dksX1_feastIsHeld_2 0 rfl rfl)
theorem dX1_feastIsHeld_49 : decode cX1_feastIsHeld 49 = .ok (.iaload, 1) := dk_46 (dk_at dksX1_feastIsHeld_2 3 rfl rfl)
theorem dX1_feastIsHeld_50 : decode cX1_feastIsHeld 50 = .ok (.goto 9, 3) := dk_167 0 9 (dk_at dksX1_feastIsHeld_2 4 rfl rfl)
theorem dX1_feastIsHeld_53 : decode cX1_feastIsHeld 53 = .ok (.aload_n 0, 1) := dk_42 (dk_at dksX1_feastIsHeld_2 7 rfl rfl)
theorem dX1_feastIsHeld_54 : decode cX1_feastIsHeld 54 = .ok (.getfield 37, 3) := dk_180 0 37 (dk_at dksX1_feastIsHeld_2 8 rfl rfl)
theorem dX1_feastIsHeld_57 : decode cX1_feastIsHeld 57 = .ok (.iload_n 1, 1) := dk_27 (dk_at dksX1_feastIsHeld_2 11 rfl rfl)
theorem dX1_feastIsHeld_58 : decode cX1_feastIsHeld 58 = .ok (.idiv, 1) := dk_108 (dk_at dksX1_feastIsHeld_2 12 rfl rfl)
theorem dX1_feastIsHeld_59 : decode cX1_feastIsHeld 59 = .ok (.istore_n 2, 1) := dk_61 (dk_at dksX1_feastIsHeld_2 13 rfl rfl)
theorem dX1_feastIsHeld_60 : decode cX1_feastIsHeld 60 = .ok (.aload_n 0, 1) := dk_42 (dk_at dksX1_feastIsHeld_2 14 rfl rfl)
theorem dX1_feastIsHeld_61 : decode cX1_feastIsHeld 61 = .ok (.invokevirtual 210, 3) := dk_182 0 210 (dk_at dksX1_feastIsHeld_2 15 rfl rfl)
theorem dX1_feastIsHeld_64 : decode cX1_feastIsHeld 64 = .ok (.invokeinterface 214 1, 5) := by decide +kernel
theorem dX1_feastIsHeld_69 : decode cX1_feastIsHeld 69 = .ok (.astore_n 3, 1) := dk_78 (dk_at dksX1_feastIsHeld_2 23 rfl rfl)
theorem dX1_feastIsHeld_70 : decode cX1_feastIsHeld 70 = .ok (.aload_n 3, 1) := dk_45 (dk_at dksX1_feastIsHeld_3 0 rfl rfl)
theorem dX1_feastIsHeld_71 : decode cX1_feastIsHeld 71 = .ok (.invokeinterface 46 1, 5) := by decide +kernel
theorem dX1_feastIsHeld_76 : decode cX1_feastIsHeld 76 = .ok (.ifCond .eq 40, 3) := dk_153 0 40 (dk_at dksX1_feastIsHeld_3 6 rfl rfl)
theorem dX1_feastIsHeld_79 : decode cX1_feastIsHeld 79 = .ok (.aload_n 3, 1) := dk_45 (dk_at dksX1_feastIsHeld_3 9 rfl rfl)
theorem dX1_feastIsHeld_80 : decode cX1_feastIsHeld 80 = .ok (.invokeinterface 52 1, 5) := by decide +kernel
theorem dX1_feastIsHeld_85 : decode cX1_feastIsHeld 85 = .ok (.checkcast 56, 3) := dk_192 0 56 (dk_at dksX1_feastIsHeld_3 15 rfl rfl)
theorem dX1_feastIsHeld_88 : decode cX1_feastIsHeld 88 = .ok (.astore 4, 2) := dk_58 4 (dk_at dksX1_feastIsHeld_3 18 rfl rfl)
theorem dX1_feastIsHeld_90 : decode cX1_feastIsHeld 90 = .ok (.aload 4, 2) := dk_25 4 (dk_at dksX1_feastIsHeld_3 20 rfl rfl)
theorem dX1_feastIsHeld_92 : decode cX1_feastIsHeld 92 = .ok (.dup, 1) := dk_89 (dk_at dksX1_feastIsHeld_3 22 rfl rfl)
theorem dX1_feastIsHeld_93 : decode cX1_feastIsHeld 93 = .ok (.getfield 223, 3) := dk_180 0 223 (dk_at dksX1_feastIsHeld_4 0 rfl rfl)
theorem dX1_feastIsHeld_96 : decode cX1_feastIsHeld 96 = .ok (.aload 4, 2) := dk_25 4 (dk_at dksX1_feastIsHeld_4 3 rfl rfl)
theorem dX1_feastIsHeld_98 : decode cX1_feastIsHeld 98 = .ok (.invokevirtual 217, 3) := dk_182 0 217 (dk_at dksX1_feastIsHeld_4 5 rfl rfl)
theorem dX1_feastIsHeld_101 : decode cX1_feastIsHeld 101 = .ok (.ifCond .eq 7, 3) := dk_153 0 7 (dk_at dksX1_feastIsHeld_4 8 rfl rfl)
theorem dX1_feastIsHeld_104 : decode cX1_feastIsHeld 104 = .ok (.iload_n 2, 1) := dk_28 (dk_at dksX1_feastIsHeld_4 11 rfl rfl)
theorem dX1_feastIsHeld_105 : decode cX1_feastIsHeld 105 = .ok (.goto 4, 3) := dk_167 0 4 (dk_at dksX1_feastIsHeld_4 12 rfl rfl)
theorem dX1_feastIsHeld_108 : decode cX1_feastIsHeld 108 = .ok (.iconst 0, 1) := dk_3 (dk_at dksX1_feastIsHeld_4 15 rfl rfl)
theorem dX1_feastIsHeld_109 : decode cX1_feastIsHeld 109 = .ok (.iadd, 1) := dk_96 (dk_at dksX1_feastIsHeld_4 16 rfl rfl)
theorem dX1_feastIsHeld_110 : decode cX1_feastIsHeld 110 = .ok (.putfield 223, 3) := dk_181 0 223 (dk_at dksX1_feastIsHeld_4 17 rfl rfl)
theorem dX1_feastIsHeld_113 : decode cX1_feastIsHeld 113 = .ok (.goto (-43), 3) := dk_167 255 213 (dk_at dksX1_feastIsHeld_4 20 rfl rfl)
theorem dX1_feastIsHeld_116 : decode cX1_feastIsHeld 116 = .ok (.aload_n 0, 1) := dk_42 (dk_at dksX1_feastIsHeld_4 23 rfl rfl)
theorem dX1_feastIsHeld_117 : decode cX1_feastIsHeld 117 = .ok (.dup, 1) := dk_89 (dk_at dksX1_feastIsHeld_5 0 rfl rfl)
theorem dX1_feastIsHeld_118 : decode cX1_feastIsHeld 118 = .ok (.getfield 37, 3) := dk_180 0 37 (dk_at dksX1_feastIsHeld_5 1 rfl rfl)
theorem dX1_feastIsHeld_121 : decode cX1_feastIsHeld 121 = .ok (.iload_n 2, 1) := dk_28 (dk_at dksX1_feastIsHeld_5 4 rfl rfl)
theorem dX1_feastIsHeld_122 : decode cX1_feastIsHeld 122 = .ok (.iload_n 1, 1) := dk_27 (dk_at dksX1_feastIsHeld_5 5 rfl rfl)
theorem dX1_feastIsHeld_123 : decode cX1_feastIsHeld 123 = .ok (.imul, 1) := dk_104 (dk_at dksX1_feastIsHeld_5 6 rfl rfl)
theorem dX1_feastIsHeld_124 : decode cX1_feastIsHeld 124 = .ok (.isub, 1) := dk_100 (dk_at dksX1_feastIsHeld_5 7 rfl rfl)
theorem dX1_feastIsHeld_125 : decode cX1_feastIsHeld 125 = .ok (.putfield 37, 3) := dk_181 0 37 (dk_at dksX1_feastIsHeld_5 8 rfl rfl)
theorem dX1_feastIsHeld_128 : decode cX1_feastIsHeld 128 = .ok (.aload_n 0, 1) := dk_42 (dk_at dksX1_feastIsHeld_5 11 rfl rfl)
theorem dX1_feastIsHeld_129 : decode cX1_feastIsHeld 129 = .ok (.dup, 1) := dk_89 (dk_at dksX1_feastIsHeld_5 12 rfl rfl)
theorem dX1_feastIsHeld_130 : decode cX1_feastIsHeld 130 = .ok (.getfield 100, 3) := dk_180 0 100 (dk_at dksX1_feastIsHeld_5 13 rfl rfl)
theorem dX1_feastIsHeld_133 : decode cX1_feastIsHeld 133 = .ok (.iload_n 2, 1) := dk_28 (dk_at dksX1_feastIsHeld_5 16 rfl rfl)
theorem dX1_feastIsHeld_134 : decode cX1_feastIsHeld 134 = .ok (.iload_n 1, 1) := dk_27 (dk_at dksX1_feastIsHeld_5 17 rfl rfl)
theorem dX1_feastIsHeld_135 : decode cX1_feastIsHeld 135 = .ok (.imul, 1) := dk_104 (dk_at dksX1_feastIsHeld_5 18 rfl rfl)
theorem dX1_feastIsHeld_136 : decode cX1_feastIsHeld 136 = .ok (.iadd, 1) := dk_96 (dk_at dksX1_feastIsHeld_5 19 rfl rfl)
theorem dX1_feastIsHeld_137 : decode cX1_feastIsHeld 137 = .ok (.putfield 100, 3) := dk_181 0 100 (dk_at dksX1_feastIsHeld_5 20 rfl rfl)
theorem dX1_feastIsHeld_140 : decode cX1_feastIsHeld 140 = .ok (.iload_n 2, 1) := dk_28 (dk_at dksX1_feastIsHeld_5 23 rfl rfl)
theorem dX1_feastIsHeld_141 : decode cX1_feastIsHeld 141 = .ok (.iload_n 1, 1) := dk_27 (dk_at dksX1_feastIsHeld_6 0 rfl rfl)
theorem dX1_feastIsHeld_142 : decode cX1_feastIsHeld 142 = .ok (.imul, 1) := dk_104 (dk_at dksX1_feastIsHeld_6 1 rfl rfl)
theorem dX1_feastIsHeld_143 : decode cX1_feastIsHeld 143 = .ok (.ireturn, 1) := dk_172 (dk_at dksX1_feastIsHeld_6 2 rfl rfl)
abbrev cX1_entitledMany : ByteArray := prog_5_method_23_code
def yX1_entitledMany : MethodName := ⟨RX1, "entitledMany", "()I"⟩
def dkwX1_entitledMany_2 : List UInt8 := [167, 255, 222, 27, 172]
abbrev dktX1_entitledMany_2 : List UInt8 := dkwX1_entitledMany_2 ++ []
def dkwX1_entitledMany_1 : List UInt8 := [185, 0, 52, 1, 0, 192, 0, 56, 78, 27, 45, 182, 0, 217, 153, 0, 7, 4, 167, 0, 4, 3, 96, 60]
abbrev dktX1_entitledMany_1 : List UInt8 := dkwX1_entitledMany_1 ++ dktX1_entitledMany_2
def dkwX1_entitledMany_0 : List UInt8 := [3, 60, 42, 182, 0, 210, 185, 0, 214, 1, 0, 77, 44, 185, 0, 46, 1, 0, 153, 0, 31, 44]
abbrev dktX1_entitledMany_0 : List UInt8 := dkwX1_entitledMany_0 ++ dktX1_entitledMany_1
theorem dksX1_entitledMany_0 : cX1_entitledMany.data.toList.drop 0 = dktX1_entitledMany_0 := by decide +kernel
theorem dksX1_entitledMany_1 : cX1_entitledMany.data.toList.drop 22 = dktX1_entitledMany_1 := dk_seg dksX1_entitledMany_0 22 rfl rfl
theorem dksX1_entitledMany_2 : cX1_entitledMany.data.toList.drop 46 = dktX1_entitledMany_2 := dk_seg dksX1_entitledMany_1 24 rfl rfl
theorem dX1_entitledMany_0 : decode cX1_entitledMany 0 = .ok (.iconst 0, 1) := dk_3 (dk_at dksX1_entitledMany_0 0 rfl rfl)
theorem dX1_entitledMany_1 : decode cX1_entitledMany 1 = .ok (.istore_n 1, 1) := dk_60 (dk_at dksX1_entitledMany_0 1 rfl rfl)
theorem dX1_entitledMany_2 : decode cX1_entitledMany 2 = .ok (.aload_n 0, 1) := dk_42 (dk_at dksX1_entitledMany_0 2 rfl rfl)
theorem dX1_entitledMany_3 : decode cX1_entitledMany 3 = .ok (.invokevirtual 210, 3) := dk_182 0 210 (dk_at dksX1_entitledMany_0 3 rfl rfl)
theorem dX1_entitledMany_6 : decode cX1_entitledMany 6 = .ok (.invokeinterface 214 1, 5) := by decide +kernel
theorem dX1_entitledMany_11 : decode cX1_entitledMany 11 = .ok (.astore_n 2, 1) := dk_77 (dk_at dksX1_entitledMany_0 11 rfl rfl)
theorem dX1_entitledMany_12 : decode cX1_entitledMany 12 = .ok (.aload_n 2, 1) := dk_44 (dk_at dksX1_entitledMany_0 12 rfl rfl)
theorem dX1_entitledMany_13 : decode cX1_entitledMany 13 = .ok (.invokeinterface 46 1, 5) := by decide +kernel
theorem dX1_entitledMany_18 : decode cX1_entitledMany 18 = .ok (.ifCond .eq 31, 3) := dk_153 0 31 (dk_at dksX1_entitledMany_0 18 rfl rfl)
theorem dX1_entitledMany_21 : decode cX1_entitledMany 21 = .ok (.aload_n 2, 1) := dk_44 (dk_at dksX1_entitledMany_0 21 rfl rfl)
theorem dX1_entitledMany_22 : decode cX1_entitledMany 22 = .ok (.invokeinterface 52 1, 5) := by decide +kernel
theorem dX1_entitledMany_27 : decode cX1_entitledMany 27 = .ok (.checkcast 56, 3) := dk_192 0 56 (dk_at dksX1_entitledMany_1 5 rfl rfl)
theorem dX1_entitledMany_30 : decode cX1_entitledMany 30 = .ok (.astore_n 3, 1) := dk_78 (dk_at dksX1_entitledMany_1 8 rfl rfl)
theorem dX1_entitledMany_31 : decode cX1_entitledMany 31 = .ok (.iload_n 1, 1) := dk_27 (dk_at dksX1_entitledMany_1 9 rfl rfl)
theorem dX1_entitledMany_32 : decode cX1_entitledMany 32 = .ok (.aload_n 3, 1) := dk_45 (dk_at dksX1_entitledMany_1 10 rfl rfl)
theorem dX1_entitledMany_33 : decode cX1_entitledMany 33 = .ok (.invokevirtual 217, 3) := dk_182 0 217 (dk_at dksX1_entitledMany_1 11 rfl rfl)
theorem dX1_entitledMany_36 : decode cX1_entitledMany 36 = .ok (.ifCond .eq 7, 3) := dk_153 0 7 (dk_at dksX1_entitledMany_1 14 rfl rfl)
theorem dX1_entitledMany_39 : decode cX1_entitledMany 39 = .ok (.iconst 1, 1) := dk_4 (dk_at dksX1_entitledMany_1 17 rfl rfl)
theorem dX1_entitledMany_40 : decode cX1_entitledMany 40 = .ok (.goto 4, 3) := dk_167 0 4 (dk_at dksX1_entitledMany_1 18 rfl rfl)
theorem dX1_entitledMany_43 : decode cX1_entitledMany 43 = .ok (.iconst 0, 1) := dk_3 (dk_at dksX1_entitledMany_1 21 rfl rfl)
theorem dX1_entitledMany_44 : decode cX1_entitledMany 44 = .ok (.iadd, 1) := dk_96 (dk_at dksX1_entitledMany_1 22 rfl rfl)
theorem dX1_entitledMany_45 : decode cX1_entitledMany 45 = .ok (.istore_n 1, 1) := dk_60 (dk_at dksX1_entitledMany_1 23 rfl rfl)
theorem dX1_entitledMany_46 : decode cX1_entitledMany 46 = .ok (.goto (-34), 3) := dk_167 255 222 (dk_at dksX1_entitledMany_2 0 rfl rfl)
theorem dX1_entitledMany_49 : decode cX1_entitledMany 49 = .ok (.iload_n 1, 1) := dk_27 (dk_at dksX1_entitledMany_2 3 rfl rfl)
theorem dX1_entitledMany_50 : decode cX1_entitledMany 50 = .ok (.ireturn, 1) := dk_172 (dk_at dksX1_entitledMany_2 4 rfl rfl)
abbrev cX1_inCells : ByteArray := prog_5_method_5_code
def yX1_inCells : MethodName := ⟨RX1, "inCells", "()Ljava/lang/Iterable;"⟩
def dkwX1_inCells_0 : List UInt8 := [187, 0, 119, 89, 42, 183, 0, 121, 176]
abbrev dktX1_inCells_0 : List UInt8 := dkwX1_inCells_0 ++ []
theorem dksX1_inCells_0 : cX1_inCells.data.toList.drop 0 = dktX1_inCells_0 := by decide +kernel
theorem dX1_inCells_0 : decode cX1_inCells 0 = .ok (.new 119, 3) := dk_187 0 119 (dk_at dksX1_inCells_0 0 rfl rfl)
theorem dX1_inCells_3 : decode cX1_inCells 3 = .ok (.dup, 1) := dk_89 (dk_at dksX1_inCells_0 3 rfl rfl)
theorem dX1_inCells_4 : decode cX1_inCells 4 = .ok (.aload_n 0, 1) := dk_42 (dk_at dksX1_inCells_0 4 rfl rfl)
theorem dX1_inCells_5 : decode cX1_inCells 5 = .ok (.invokespecial 121, 3) := dk_183 0 121 (dk_at dksX1_inCells_0 5 rfl rfl)
theorem dX1_inCells_8 : decode cX1_inCells 8 = .ok (.areturn, 1) := dk_176 (dk_at dksX1_inCells_0 8 rfl rfl)
abbrev cX1_yearBegins : ByteArray := prog_5_method_28_code
def yX1_yearBegins : MethodName := ⟨RX1, "yearBegins", "(LPittanceHouse$Ahead;)V"⟩
def dkwX1_yearBegins_4 : List UInt8 := [43, 182, 0, 244, 177]
abbrev dktX1_yearBegins_4 : List UInt8 := dkwX1_yearBegins_4 ++ []
def dkwX1_yearBegins_3 : List UInt8 := [180, 0, 226, 45, 180, 0, 241, 4, 160, 0, 7, 4, 167, 0, 4, 3, 96, 181, 0, 226, 167, 255, 194, 42]
abbrev dktX1_yearBegins_3 : List UInt8 := dkwX1_yearBegins_3 ++ dktX1_yearBegins_4
def dkwX1_yearBegins_2 : List UInt8 := [89, 180, 0, 235, 45, 182, 0, 238, 153, 0, 7, 4, 167, 0, 4, 3, 96, 181, 0, 235, 45, 89]
abbrev dktX1_yearBegins_2 : List UInt8 := dkwX1_yearBegins_2 ++ dktX1_yearBegins_3
def dkwX1_yearBegins_1 : List UInt8 := [182, 0, 42, 77, 44, 185, 0, 46, 1, 0, 153, 0, 59, 44, 185, 0, 52, 1, 0, 192, 0, 56, 78, 45]
abbrev dktX1_yearBegins_1 : List UInt8 := dkwX1_yearBegins_1 ++ dktX1_yearBegins_2
def dkwX1_yearBegins_0 : List UInt8 := [42, 89, 180, 0, 91, 4, 96, 181, 0, 91, 42, 3, 181, 0, 94, 42, 3, 181, 0, 109, 42, 180, 0, 14]
abbrev dktX1_yearBegins_0 : List UInt8 := dkwX1_yearBegins_0 ++ dktX1_yearBegins_1
theorem dksX1_yearBegins_0 : cX1_yearBegins.data.toList.drop 0 = dktX1_yearBegins_0 := by decide +kernel
theorem dksX1_yearBegins_1 : cX1_yearBegins.data.toList.drop 24 = dktX1_yearBegins_1 := dk_seg dksX1_yearBegins_0 24 rfl rfl
theorem dksX1_yearBegins_2 : cX1_yearBegins.data.toList.drop 48 = dktX1_yearBegins_2 := dk_seg dksX1_yearBegins_1 24 rfl rfl
theorem dksX1_yearBegins_3 : cX1_yearBegins.data.toList.drop 70 = dktX1_yearBegins_3 := dk_seg dksX1_yearBegins_2 22 rfl rfl
theorem dksX1_yearBegins_4 : cX1_yearBegins.data.toList.drop 94 = dktX1_yearBegins_4 := dk_seg dksX1_yearBegins_3 24 rfl rfl
theorem dX1_yearBegins_0 : decode cX1_yearBegins 0 = .ok (.aload_n 0, 1) := dk_42 (dk_at dksX1_yearBegins_0 0 rfl rfl)
theorem dX1_yearBegins_1 : decode cX1_yearBegins 1 = .ok (.dup, 1) := dk_89 (dk_at dksX1_yearBegins_0 1 rfl rfl)
theorem dX1_yearBegins_2 : decode cX1_yearBegins 2 = .ok (.getfield 91, 3) := dk_180 0 91 (dk_at dksX1_yearBegins_0 2 rfl rfl)
theorem dX1_yearBegins_5 : decode cX1_yearBegins 5 = .ok (.iconst 1, 1) := dk_4 (dk_at dksX1_yearBegins_0 5 rfl rfl)
theorem dX1_yearBegins_6 : decode cX1_yearBegins 6 = .ok (.iadd, 1) := dk_96 (dk_at dksX1_yearBegins_0 6 rfl rfl)
theorem dX1_yearBegins_7 : decode cX1_yearBegins 7 = .ok (.putfield 91, 3) := dk_181 0 91 (dk_at dksX1_yearBegins_0 7 rfl rfl)
theorem dX1_yearBegins_10 : decode cX1_yearBegins 10 = .ok (.aload_n 0, 1) := dk_42 (dk_at dksX1_yearBegins_0 10 rfl rfl)
theorem dX1_yearBegins_11 : decode cX1_yearBegins 11 = .ok (.iconst 0, 1) := dk_3 (dk_at dksX1_yearBegins_0 11 rfl rfl)
theorem dX1_yearBegins_12 : decode cX1_yearBegins 12 = .ok (.putfield 94, 3) := dk_181 0 94 (dk_at dksX1_yearBegins_0 12 rfl rfl)
theorem dX1_yearBegins_15 : decode cX1_yearBegins 15 = .ok (.aload_n 0, 1) := dk_42 (dk_at dksX1_yearBegins_0 15 rfl rfl)
theorem dX1_yearBegins_16 : decode cX1_yearBegins 16 = .ok (.iconst 0, 1) := dk_3 (dk_at dksX1_yearBegins_0 16 rfl rfl)
theorem dX1_yearBegins_17 : decode cX1_yearBegins 17 = .ok (.putfield 109, 3) := dk_181 0 109 (dk_at dksX1_yearBegins_0 17 rfl rfl)
theorem dX1_yearBegins_20 : decode cX1_yearBegins 20 = .ok (.aload_n 0, 1) := dk_42 (dk_at dksX1_yearBegins_0 20 rfl rfl)
theorem dX1_yearBegins_21 : decode cX1_yearBegins 21 = .ok (.getfield 14, 3) := dk_180 0 14 (dk_at dksX1_yearBegins_0 21 rfl rfl)
theorem dX1_yearBegins_24 : decode cX1_yearBegins 24 = .ok (.invokevirtual 42, 3) := dk_182 0 42 (dk_at dksX1_yearBegins_1 0 rfl rfl)
theorem dX1_yearBegins_27 : decode cX1_yearBegins 27 = .ok (.astore_n 2, 1) := dk_77 (dk_at dksX1_yearBegins_1 3 rfl rfl)
theorem dX1_yearBegins_28 : decode cX1_yearBegins 28 = .ok (.aload_n 2, 1) := dk_44 (dk_at dksX1_yearBegins_1 4 rfl rfl)
theorem dX1_yearBegins_29 : decode cX1_yearBegins 29 = .ok (.invokeinterface 46 1, 5) := by decide +kernel
theorem dX1_yearBegins_34 : decode cX1_yearBegins 34 = .ok (.ifCond .eq 59, 3) := dk_153 0 59 (dk_at dksX1_yearBegins_1 10 rfl rfl)
theorem dX1_yearBegins_37 : decode cX1_yearBegins 37 = .ok (.aload_n 2, 1) := dk_44 (dk_at dksX1_yearBegins_1 13 rfl rfl)
theorem dX1_yearBegins_38 : decode cX1_yearBegins 38 = .ok (.invokeinterface 52 1, 5) := by decide +kernel
theorem dX1_yearBegins_43 : decode cX1_yearBegins 43 = .ok (.checkcast 56, 3) := dk_192 0 56 (dk_at dksX1_yearBegins_1 19 rfl rfl)
theorem dX1_yearBegins_46 : decode cX1_yearBegins 46 = .ok (.astore_n 3, 1) := dk_78 (dk_at dksX1_yearBegins_1 22 rfl rfl)
theorem dX1_yearBegins_47 : decode cX1_yearBegins 47 = .ok (.aload_n 3, 1) := dk_45 (dk_at dksX1_yearBegins_1 23 rfl rfl)
theorem dX1_yearBegins_48 : decode cX1_yearBegins 48 = .ok (.dup, 1) := dk_89 (dk_at dksX1_yearBegins_2 0 rfl rfl)
theorem dX1_yearBegins_49 : decode cX1_yearBegins 49 = .ok (.getfield 235, 3) := dk_180 0 235 (dk_at dksX1_yearBegins_2 1 rfl rfl)
theorem dX1_yearBegins_52 : decode cX1_yearBegins 52 = .ok (.aload_n 3, 1) := dk_45 (dk_at dksX1_yearBegins_2 4 rfl rfl)
theorem dX1_yearBegins_53 : decode cX1_yearBegins 53 = .ok (.invokevirtual 238, 3) := dk_182 0 238 (dk_at dksX1_yearBegins_2 5 rfl rfl)
theorem dX1_yearBegins_56 : decode cX1_yearBegins 56 = .ok (.ifCond .eq 7, 3) := dk_153 0 7 (dk_at dksX1_yearBegins_2 8 rfl rfl)
theorem dX1_yearBegins_59 : decode cX1_yearBegins 59 = .ok (.iconst 1, 1) := dk_4 (dk_at dksX1_yearBegins_2 11 rfl rfl)
theorem dX1_yearBegins_60 : decode cX1_yearBegins 60 = .ok (.goto 4, 3) := dk_167 0 4 (dk_at dksX1_yearBegins_2 12 rfl rfl)
theorem dX1_yearBegins_63 : decode cX1_yearBegins 63 = .ok (.iconst 0, 1) := dk_3 (dk_at dksX1_yearBegins_2 15 rfl rfl)
theorem dX1_yearBegins_64 : decode cX1_yearBegins 64 = .ok (.iadd, 1) := dk_96 (dk_at dksX1_yearBegins_2 16 rfl rfl)
theorem dX1_yearBegins_65 : decode cX1_yearBegins 65 = .ok (.putfield 235, 3) := dk_181 0 235 (dk_at dksX1_yearBegins_2 17 rfl rfl)
theorem dX1_yearBegins_68 : decode cX1_yearBegins 68 = .ok (.aload_n 3, 1) := dk_45 (dk_at dksX1_yearBegins_2 20 rfl rfl)
theorem dX1_yearBegins_69 : decode cX1_yearBegins 69 = .ok (.dup, 1) := dk_89 (dk_at dksX1_yearBegins_2 21 rfl rfl)
theorem dX1_yearBegins_70 : decode cX1_yearBegins 70 = .ok (.getfield 226, 3) := dk_180 0 226 (dk_at dksX1_yearBegins_3 0 rfl rfl)
theorem dX1_yearBegins_73 : decode cX1_yearBegins 73 = .ok (.aload_n 3, 1) := dk_45 (dk_at dksX1_yearBegins_3 3 rfl rfl)
theorem dX1_yearBegins_74 : decode cX1_yearBegins 74 = .ok (.getfield 241, 3) := dk_180 0 241 (dk_at dksX1_yearBegins_3 4 rfl rfl)
theorem dX1_yearBegins_77 : decode cX1_yearBegins 77 = .ok (.iconst 1, 1) := dk_4 (dk_at dksX1_yearBegins_3 7 rfl rfl)
theorem dX1_yearBegins_78 : decode cX1_yearBegins 78 = .ok (.if_icmp .ne 7, 3) := dk_160 0 7 (dk_at dksX1_yearBegins_3 8 rfl rfl)
theorem dX1_yearBegins_81 : decode cX1_yearBegins 81 = .ok (.iconst 1, 1) := dk_4 (dk_at dksX1_yearBegins_3 11 rfl rfl)
theorem dX1_yearBegins_82 : decode cX1_yearBegins 82 = .ok (.goto 4, 3) := dk_167 0 4 (dk_at dksX1_yearBegins_3 12 rfl rfl)
theorem dX1_yearBegins_85 : decode cX1_yearBegins 85 = .ok (.iconst 0, 1) := dk_3 (dk_at dksX1_yearBegins_3 15 rfl rfl)
theorem dX1_yearBegins_86 : decode cX1_yearBegins 86 = .ok (.iadd, 1) := dk_96 (dk_at dksX1_yearBegins_3 16 rfl rfl)
theorem dX1_yearBegins_87 : decode cX1_yearBegins 87 = .ok (.putfield 226, 3) := dk_181 0 226 (dk_at dksX1_yearBegins_3 17 rfl rfl)
theorem dX1_yearBegins_90 : decode cX1_yearBegins 90 = .ok (.goto (-62), 3) := dk_167 255 194 (dk_at dksX1_yearBegins_3 20 rfl rfl)
theorem dX1_yearBegins_93 : decode cX1_yearBegins 93 = .ok (.aload_n 0, 1) := dk_42 (dk_at dksX1_yearBegins_3 23 rfl rfl)
theorem dX1_yearBegins_94 : decode cX1_yearBegins 94 = .ok (.aload_n 1, 1) := dk_43 (dk_at dksX1_yearBegins_4 0 rfl rfl)
theorem dX1_yearBegins_95 : decode cX1_yearBegins 95 = .ok (.invokevirtual 244, 3) := dk_182 0 244 (dk_at dksX1_yearBegins_4 1 rfl rfl)
theorem dX1_yearBegins_98 : decode cX1_yearBegins 98 = .ok (.return_, 1) := dk_177 (dk_at dksX1_yearBegins_4 4 rfl rfl)
abbrev cX1_newGowns : ByteArray := prog_5_method_27_code
def yX1_newGowns : MethodName := ⟨RX1, "newGowns", "(LPittanceHouse$Ahead;)V"⟩
def dkwX1_newGowns_3 : List UInt8 := [96, 181, 0, 103, 42, 89, 180, 0, 106, 4, 96, 181, 0, 106, 132, 2, 1, 167, 255, 170, 177]
abbrev dktX1_newGowns_3 : List UInt8 := dkwX1_newGowns_3 ++ []
def dkwX1_newGowns_2 : List UInt8 := [177, 45, 3, 181, 0, 226, 42, 89, 180, 0, 37, 16, 8, 100, 181, 0, 37, 42, 89, 180, 0, 103, 16, 8]
abbrev dktX1_newGowns_2 : List UInt8 := dkwX1_newGowns_2 ++ dktX1_newGowns_3
def dkwX1_newGowns_1 : List UInt8 := [180, 0, 14, 42, 3, 43, 182, 0, 232, 182, 0, 136, 192, 0, 56, 78, 45, 180, 0, 226, 5, 162, 0, 4]
abbrev dktX1_newGowns_1 : List UInt8 := dkwX1_newGowns_1 ++ dktX1_newGowns_2
def dkwX1_newGowns_0 : List UInt8 := [3, 61, 28, 42, 180, 0, 27, 182, 0, 153, 162, 0, 81, 42, 180, 0, 37, 16, 8, 161, 0, 72, 42]
abbrev dktX1_newGowns_0 : List UInt8 := dkwX1_newGowns_0 ++ dktX1_newGowns_1
theorem dksX1_newGowns_0 : cX1_newGowns.data.toList.drop 0 = dktX1_newGowns_0 := by decide +kernel
theorem dksX1_newGowns_1 : cX1_newGowns.data.toList.drop 23 = dktX1_newGowns_1 := dk_seg dksX1_newGowns_0 23 rfl rfl
theorem dksX1_newGowns_2 : cX1_newGowns.data.toList.drop 47 = dktX1_newGowns_2 := dk_seg dksX1_newGowns_1 24 rfl rfl
theorem dksX1_newGowns_3 : cX1_newGowns.data.toList.drop 71 = dktX1_newGowns_3 := dk_seg dksX1_newGowns_2 24 rfl rfl
theorem dX1_newGowns_0 : decode cX1_newGowns 0 = .ok (.iconst 0, 1) := dk_3 (dk_at dksX1_newGowns_0 0 rfl rfl)
theorem dX1_newGowns_1 : decode cX1_newGowns 1 = .ok (.istore_n 2, 1) := dk_61 (dk_at dksX1_newGowns_0 1 rfl rfl)
theorem dX1_newGowns_2 : decode cX1_newGowns 2 = .ok (.iload_n 2, 1) := dk_28 (dk_at dksX1_newGowns_0 2 rfl rfl)
theorem dX1_newGowns_3 : decode cX1_newGowns 3 = .ok (.aload_n 0, 1) := dk_42 (dk_at dksX1_newGowns_0 3 rfl rfl)
theorem dX1_newGowns_4 : decode cX1_newGowns 4 = .ok (.getfield 27, 3) := dk_180 0 27 (dk_at dksX1_newGowns_0 4 rfl rfl)
theorem dX1_newGowns_7 : decode cX1_newGowns 7 = .ok (.invokevirtual 153, 3) := dk_182 0 153 (dk_at dksX1_newGowns_0 7 rfl rfl)
theorem dX1_newGowns_10 : decode cX1_newGowns 10 = .ok (.if_icmp .ge 81, 3) := dk_162 0 81 (dk_at dksX1_newGowns_0 10 rfl rfl)
theorem dX1_newGowns_13 : decode cX1_newGowns 13 = .ok (.aload_n 0, 1) := dk_42 (dk_at dksX1_newGowns_0 13 rfl rfl)
theorem dX1_newGowns_14 : decode cX1_newGowns 14 = .ok (.getfield 37, 3) := dk_180 0 37 (dk_at dksX1_newGowns_0 14 rfl rfl)
theorem dX1_newGowns_17 : decode cX1_newGowns 17 = .ok (.bipush 8, 2) := dk_16 8 (dk_at dksX1_newGowns_0 17 rfl rfl)
theorem dX1_newGowns_19 : decode cX1_newGowns 19 = .ok (.if_icmp .lt 72, 3) := dk_161 0 72 (dk_at dksX1_newGowns_0 19 rfl rfl)
theorem dX1_newGowns_22 : decode cX1_newGowns 22 = .ok (.aload_n 0, 1) := dk_42 (dk_at dksX1_newGowns_0 22 rfl rfl)
theorem dX1_newGowns_23 : decode cX1_newGowns 23 = .ok (.getfield 14, 3) := dk_180 0 14 (dk_at dksX1_newGowns_1 0 rfl rfl)
theorem dX1_newGowns_26 : decode cX1_newGowns 26 = .ok (.aload_n 0, 1) := dk_42 (dk_at dksX1_newGowns_1 3 rfl rfl)
theorem dX1_newGowns_27 : decode cX1_newGowns 27 = .ok (.iconst 0, 1) := dk_3 (dk_at dksX1_newGowns_1 4 rfl rfl)
theorem dX1_newGowns_28 : decode cX1_newGowns 28 = .ok (.aload_n 1, 1) := dk_43 (dk_at dksX1_newGowns_1 5 rfl rfl)
theorem dX1_newGowns_29 : decode cX1_newGowns 29 = .ok (.invokevirtual 232, 3) := dk_182 0 232 (dk_at dksX1_newGowns_1 6 rfl rfl)
theorem dX1_newGowns_32 : decode cX1_newGowns 32 = .ok (.invokevirtual 136, 3) := dk_182 0 136 (dk_at dksX1_newGowns_1 9 rfl rfl)
theorem dX1_newGowns_35 : decode cX1_newGowns 35 = .ok (.checkcast 56, 3) := dk_192 0 56 (dk_at dksX1_newGowns_1 12 rfl rfl)
theorem dX1_newGowns_38 : decode cX1_newGowns 38 = .ok (.astore_n 3, 1) := dk_78 (dk_at dksX1_newGowns_1 15 rfl rfl)
theorem dX1_newGowns_39 : decode cX1_newGowns 39 = .ok (.aload_n 3, 1) := dk_45 (dk_at dksX1_newGowns_1 16 rfl rfl)
theorem dX1_newGowns_40 : decode cX1_newGowns 40 = .ok (.getfield 226, 3) := dk_180 0 226 (dk_at dksX1_newGowns_1 17 rfl rfl)
theorem dX1_newGowns_43 : decode cX1_newGowns 43 = .ok (.iconst 2, 1) := dk_5 (dk_at dksX1_newGowns_1 20 rfl rfl)
theorem dX1_newGowns_44 : decode cX1_newGowns 44 = .ok (.if_icmp .ge 4, 3) := dk_162 0 4 (dk_at dksX1_newGowns_1 21 rfl rfl)
theorem dX1_newGowns_47 : decode cX1_newGowns 47 = .ok (.return_, 1) := dk_177 (dk_at dksX1_newGowns_2 0 rfl rfl)
theorem dX1_newGowns_48 : decode cX1_newGowns 48 = .ok (.aload_n 3, 1) := dk_45 (dk_at dksX1_newGowns_2 1 rfl rfl)
theorem dX1_newGowns_49 : decode cX1_newGowns 49 = .ok (.iconst 0, 1) := dk_3 (dk_at dksX1_newGowns_2 2 rfl rfl)
theorem dX1_newGowns_50 : decode cX1_newGowns 50 = .ok (.putfield 226, 3) := dk_181 0 226 (dk_at dksX1_newGowns_2 3 rfl rfl)
theorem dX1_newGowns_53 : decode cX1_newGowns 53 = .ok (.aload_n 0, 1) := dk_42 (dk_at dksX1_newGowns_2 6 rfl rfl)
theorem dX1_newGowns_54 : decode cX1_newGowns 54 = .ok (.dup, 1) := dk_89 (dk_at dksX1_newGowns_2 7 rfl rfl)
theorem dX1_newGowns_55 : decode cX1_newGowns 55 = .ok (.getfield 37, 3) := dk_180 0 37 (dk_at dksX1_newGowns_2 8 rfl rfl)
theorem dX1_newGowns_58 : decode cX1_newGowns 58 = .ok (.bipush 8, 2) := dk_16 8 (dk_at dksX1_newGowns_2 11 rfl rfl)
theorem dX1_newGowns_60 : decode cX1_newGowns 60 = .ok (.isub, 1) := dk_100 (dk_at dksX1_newGowns_2 13 rfl rfl)
theorem dX1_newGowns_61 : decode cX1_newGowns 61 = .ok (.putfield 37, 3) := dk_181 0 37 (dk_at dksX1_newGowns_2 14 rfl rfl)
theorem dX1_newGowns_64 : decode cX1_newGowns 64 = .ok (.aload_n 0, 1) := dk_42 (dk_at dksX1_newGowns_2 17 rfl rfl)
theorem dX1_newGowns_65 : decode cX1_newGowns 65 = .ok (.dup, 1) := dk_89 (dk_at dksX1_newGowns_2 18 rfl rfl)
theorem dX1_newGowns_66 : decode cX1_newGowns 66 = .ok (.getfield 103, 3) := dk_180 0 103 (dk_at dksX1_newGowns_2 19 rfl rfl)
theorem dX1_newGowns_69 : decode cX1_newGowns 69 = .ok (.bipush 8, 2) := dk_16 8 (dk_at dksX1_newGowns_2 22 rfl rfl)
theorem dX1_newGowns_71 : decode cX1_newGowns 71 = .ok (.iadd, 1) := dk_96 (dk_at dksX1_newGowns_3 0 rfl rfl)
theorem dX1_newGowns_72 : decode cX1_newGowns 72 = .ok (.putfield 103, 3) := dk_181 0 103 (dk_at dksX1_newGowns_3 1 rfl rfl)
theorem dX1_newGowns_75 : decode cX1_newGowns 75 = .ok (.aload_n 0, 1) := dk_42 (dk_at dksX1_newGowns_3 4 rfl rfl)
theorem dX1_newGowns_76 : decode cX1_newGowns 76 = .ok (.dup, 1) := dk_89 (dk_at dksX1_newGowns_3 5 rfl rfl)
theorem dX1_newGowns_77 : decode cX1_newGowns 77 = .ok (.getfield 106, 3) := dk_180 0 106 (dk_at dksX1_newGowns_3 6 rfl rfl)
theorem dX1_newGowns_80 : decode cX1_newGowns 80 = .ok (.iconst 1, 1) := dk_4 (dk_at dksX1_newGowns_3 9 rfl rfl)
theorem dX1_newGowns_81 : decode cX1_newGowns 81 = .ok (.iadd, 1) := dk_96 (dk_at dksX1_newGowns_3 10 rfl rfl)
theorem dX1_newGowns_82 : decode cX1_newGowns 82 = .ok (.putfield 106, 3) := dk_181 0 106 (dk_at dksX1_newGowns_3 11 rfl rfl)
theorem dX1_newGowns_85 : decode cX1_newGowns 85 = .ok (.iinc 2 1, 3) := dk_132 2 1 (dk_at dksX1_newGowns_3 14 rfl rfl)
theorem dX1_newGowns_88 : decode cX1_newGowns 88 = .ok (.goto (-86), 3) := dk_167 255 170 (dk_at dksX1_newGowns_3 17 rfl rfl)
theorem dX1_newGowns_91 : decode cX1_newGowns 91 = .ok (.return_, 1) := dk_177 (dk_at dksX1_newGowns_3 20 rfl rfl)
abbrev cX1_shabby : ByteArray := prog_5_method_26_code
def yX1_shabby : MethodName := ⟨RX1, "shabby", "(ILPittanceHouse$Ahead;)I"⟩
def dkwX1_shabby_0 : List UInt8 := [42, 180, 0, 27, 42, 182, 0, 229, 44, 27, 184, 0, 172, 172]
abbrev dktX1_shabby_0 : List UInt8 := dkwX1_shabby_0 ++ []
theorem dksX1_shabby_0 : cX1_shabby.data.toList.drop 0 = dktX1_shabby_0 := by decide +kernel
theorem dX1_shabby_0 : decode cX1_shabby 0 = .ok (.aload_n 0, 1) := dk_42 (dk_at dksX1_shabby_0 0 rfl rfl)
theorem dX1_shabby_1 : decode cX1_shabby 1 = .ok (.getfield 27, 3) := dk_180 0 27 (dk_at dksX1_shabby_0 1 rfl rfl)
theorem dX1_shabby_4 : decode cX1_shabby 4 = .ok (.aload_n 0, 1) := dk_42 (dk_at dksX1_shabby_0 4 rfl rfl)
theorem dX1_shabby_5 : decode cX1_shabby 5 = .ok (.invokevirtual 229, 3) := dk_182 0 229 (dk_at dksX1_shabby_0 5 rfl rfl)
theorem dX1_shabby_8 : decode cX1_shabby 8 = .ok (.aload_n 2, 1) := dk_44 (dk_at dksX1_shabby_0 8 rfl rfl)
theorem dX1_shabby_9 : decode cX1_shabby 9 = .ok (.iload_n 1, 1) := dk_27 (dk_at dksX1_shabby_0 9 rfl rfl)
theorem dX1_shabby_10 : decode cX1_shabby 10 = .ok (.invokestatic 172, 3) := dk_184 0 172 (dk_at dksX1_shabby_0 10 rfl rfl)
theorem dX1_shabby_13 : decode cX1_shabby 13 = .ok (.ireturn, 1) := dk_172 (dk_at dksX1_shabby_0 13 rfl rfl)
abbrev cX1_gownsBy : ByteArray := prog_5_method_25_code
def yX1_gownsBy : MethodName := ⟨RX1, "gownsBy", "()[I"⟩
def dkwX1_gownsBy_1 : List UInt8 := [185, 0, 52, 1, 0, 192, 0, 56, 78, 43, 45, 180, 0, 189, 45, 180, 0, 226, 79, 167, 255, 227, 43, 176]
abbrev dktX1_gownsBy_1 : List UInt8 := dkwX1_gownsBy_1 ++ []
def dkwX1_gownsBy_0 : List UInt8 := [16, 16, 188, 10, 76, 42, 180, 0, 14, 182, 0, 42, 77, 44, 185, 0, 46, 1, 0, 153, 0, 26, 44]
abbrev dktX1_gownsBy_0 : List UInt8 := dkwX1_gownsBy_0 ++ dktX1_gownsBy_1
theorem dksX1_gownsBy_0 : cX1_gownsBy.data.toList.drop 0 = dktX1_gownsBy_0 := by decide +kernel
theorem dksX1_gownsBy_1 : cX1_gownsBy.data.toList.drop 23 = dktX1_gownsBy_1 := dk_seg dksX1_gownsBy_0 23 rfl rfl
theorem dX1_gownsBy_0 : decode cX1_gownsBy 0 = .ok (.bipush 16, 2) := dk_16 16 (dk_at dksX1_gownsBy_0 0 rfl rfl)
theorem dX1_gownsBy_2 : decode cX1_gownsBy 2 = .ok (.newarray .int, 2) := dk_188_10 (dk_at dksX1_gownsBy_0 2 rfl rfl)
theorem dX1_gownsBy_4 : decode cX1_gownsBy 4 = .ok (.astore_n 1, 1) := dk_76 (dk_at dksX1_gownsBy_0 4 rfl rfl)
theorem dX1_gownsBy_5 : decode cX1_gownsBy 5 = .ok (.aload_n 0, 1) := dk_42 (dk_at dksX1_gownsBy_0 5 rfl rfl)
theorem dX1_gownsBy_6 : decode cX1_gownsBy 6 = .ok (.getfield 14, 3) := dk_180 0 14 (dk_at dksX1_gownsBy_0 6 rfl rfl)
theorem dX1_gownsBy_9 : decode cX1_gownsBy 9 = .ok (.invokevirtual 42, 3) := dk_182 0 42 (dk_at dksX1_gownsBy_0 9 rfl rfl)
theorem dX1_gownsBy_12 : decode cX1_gownsBy 12 = .ok (.astore_n 2, 1) := dk_77 (dk_at dksX1_gownsBy_0 12 rfl rfl)
theorem dX1_gownsBy_13 : decode cX1_gownsBy 13 = .ok (.aload_n 2, 1) := dk_44 (dk_at dksX1_gownsBy_0 13 rfl rfl)
theorem dX1_gownsBy_14 : decode cX1_gownsBy 14 = .ok (.invokeinterface 46 1, 5) := by decide +kernel
theorem dX1_gownsBy_19 : decode cX1_gownsBy 19 = .ok (.ifCond .eq 26, 3) := dk_153 0 26 (dk_at dksX1_gownsBy_0 19 rfl rfl)
theorem dX1_gownsBy_22 : decode cX1_gownsBy 22 = .ok (.aload_n 2, 1) := dk_44 (dk_at dksX1_gownsBy_0 22 rfl rfl)
theorem dX1_gownsBy_23 : decode cX1_gownsBy 23 = .ok (.invokeinterface 52 1, 5) := by decide +kernel
theorem dX1_gownsBy_28 : decode cX1_gownsBy 28 = .ok (.checkcast 56, 3) := dk_192 0 56 (dk_at dksX1_gownsBy_1 5 rfl rfl)
theorem dX1_gownsBy_31 : decode cX1_gownsBy 31 = .ok (.astore_n 3, 1) := dk_78 (dk_at dksX1_gownsBy_1 8 rfl rfl)
theorem dX1_gownsBy_32 : decode cX1_gownsBy 32 = .ok (.aload_n 1, 1) := dk_43 (dk_at dksX1_gownsBy_1 9 rfl rfl)
theorem dX1_gownsBy_33 : decode cX1_gownsBy 33 = .ok (.aload_n 3, 1) := dk_45 (dk_at dksX1_gownsBy_1 10 rfl rfl)
theorem dX1_gownsBy_34 : decode cX1_gownsBy 34 = .ok (.getfield 189, 3) := dk_180 0 189 (dk_at dksX1_gownsBy_1 11 rfl rfl)
theorem dX1_gownsBy_37 : decode cX1_gownsBy 37 = .ok (.aload_n 3, 1) := dk_45 (dk_at dksX1_gownsBy_1 14 rfl rfl)
theorem dX1_gownsBy_38 : decode cX1_gownsBy 38 = .ok (.getfield 226, 3) := dk_180 0 226 (dk_at dksX1_gownsBy_1 15 rfl rfl)
theorem dX1_gownsBy_41 : decode cX1_gownsBy 41 = .ok (.iastore, 1) := dk_79 (dk_at dksX1_gownsBy_1 18 rfl rfl)
theorem dX1_gownsBy_42 : decode cX1_gownsBy 42 = .ok (.goto (-29), 3) := dk_167 255 227 (dk_at dksX1_gownsBy_1 19 rfl rfl)
theorem dX1_gownsBy_45 : decode cX1_gownsBy 45 = .ok (.aload_n 1, 1) := dk_43 (dk_at dksX1_gownsBy_1 22 rfl rfl)
theorem dX1_gownsBy_46 : decode cX1_gownsBy 46 = .ok (.areturn, 1) := dk_176 (dk_at dksX1_gownsBy_1 23 rfl rfl)
abbrev cX1_value : ByteArray := prog_5_method_33_code
def yX1_value : MethodName := ⟨RX1, "value", "(II)I"⟩
def dkwX1_value_6 : List UInt8 := [167, 0, 5, 16, 244, 172]
abbrev dktX1_value_6 : List UInt8 := dkwX1_value_6 ++ []
def dkwX1_value_5 : List UInt8 := [167, 0, 27, 45, 182, 1, 2, 167, 0, 20, 45, 180, 0, 133, 167, 0, 13, 42, 27, 182, 1, 5]
abbrev dktX1_value_5 : List UInt8 := dkwX1_value_5 ++ dktX1_value_6
def dkwX1_value_4 : List UInt8 := [180, 0, 226, 167, 0, 46, 16, 241, 167, 0, 41, 45, 180, 0, 161, 167, 0, 34, 45, 180, 0, 223]
abbrev dktX1_value_4 : List UInt8 := dkwX1_value_4 ++ dktX1_value_5
def dkwX1_value_3 : List UInt8 := [180, 0, 241, 167, 0, 68, 45, 180, 0, 186, 167, 0, 61, 45, 180, 0, 241, 4, 160, 0, 10, 45]
abbrev dktX1_value_3 : List UInt8 := dkwX1_value_3 ++ dktX1_value_4
def dkwX1_value_2 : List UInt8 := [45, 180, 0, 235, 167, 0, 90, 45, 180, 0, 154, 153, 0, 7, 4, 167, 0, 79, 3, 167, 0, 75, 45]
abbrev dktX1_value_2 : List UInt8 := dkwX1_value_2 ++ dktX1_value_3
def dkwX1_value_1 : List UInt8 := [170, 0, 0, 0, 0, 0, 147, 0, 0, 0, 0, 0, 0, 0, 9, 0, 0, 0, 55, 0, 0, 0, 62, 0, 0, 0, 77, 0, 0, 0, 84, 0, 0, 0, 91, 0, 0, 0, 111, 0, 0, 0, 118, 0, 0, 0, 125, 0, 0, 0, 132, 0, 0, 0, 139]
abbrev dktX1_value_1 : List UInt8 := dkwX1_value_1 ++ dktX1_value_2
def dkwX1_value_0 : List UInt8 := [42, 180, 0, 14, 27, 182, 0, 136, 192, 0, 56, 78, 28]
abbrev dktX1_value_0 : List UInt8 := dkwX1_value_0 ++ dktX1_value_1
theorem dksX1_value_0 : cX1_value.data.toList.drop 0 = dktX1_value_0 := by decide +kernel
theorem dksX1_value_1 : cX1_value.data.toList.drop 13 = dktX1_value_1 := dk_seg dksX1_value_0 13 rfl rfl
theorem dksX1_value_2 : cX1_value.data.toList.drop 68 = dktX1_value_2 := dk_seg dksX1_value_1 55 rfl rfl
theorem dksX1_value_3 : cX1_value.data.toList.drop 91 = dktX1_value_3 := dk_seg dksX1_value_2 23 rfl rfl
theorem dksX1_value_4 : cX1_value.data.toList.drop 113 = dktX1_value_4 := dk_seg dksX1_value_3 22 rfl rfl
theorem dksX1_value_5 : cX1_value.data.toList.drop 135 = dktX1_value_5 := dk_seg dksX1_value_4 22 rfl rfl
theorem dksX1_value_6 : cX1_value.data.toList.drop 157 = dktX1_value_6 := dk_seg dksX1_value_5 22 rfl rfl
theorem dX1_value_0 : decode cX1_value 0 = .ok (.aload_n 0, 1) := dk_42 (dk_at dksX1_value_0 0 rfl rfl)
theorem dX1_value_1 : decode cX1_value 1 = .ok (.getfield 14, 3) := dk_180 0 14 (dk_at dksX1_value_0 1 rfl rfl)
theorem dX1_value_4 : decode cX1_value 4 = .ok (.iload_n 1, 1) := dk_27 (dk_at dksX1_value_0 4 rfl rfl)
theorem dX1_value_5 : decode cX1_value 5 = .ok (.invokevirtual 136, 3) := dk_182 0 136 (dk_at dksX1_value_0 5 rfl rfl)
theorem dX1_value_8 : decode cX1_value 8 = .ok (.checkcast 56, 3) := dk_192 0 56 (dk_at dksX1_value_0 8 rfl rfl)
theorem dX1_value_11 : decode cX1_value 11 = .ok (.astore_n 3, 1) := dk_78 (dk_at dksX1_value_0 11 rfl rfl)
theorem dX1_value_12 : decode cX1_value 12 = .ok (.iload_n 2, 1) := dk_28 (dk_at dksX1_value_0 12 rfl rfl)
theorem dX1_value_13 : decode cX1_value 13 = .ok (.tableswitch 147 0 9 #[55, 62, 77, 84, 91, 111, 118, 125, 132, 139], 55) := by decide +kernel
theorem dX1_value_68 : decode cX1_value 68 = .ok (.aload_n 3, 1) := dk_45 (dk_at dksX1_value_2 0 rfl rfl)
theorem dX1_value_69 : decode cX1_value 69 = .ok (.getfield 235, 3) := dk_180 0 235 (dk_at dksX1_value_2 1 rfl rfl)
theorem dX1_value_72 : decode cX1_value 72 = .ok (.goto 90, 3) := dk_167 0 90 (dk_at dksX1_value_2 4 rfl rfl)
theorem dX1_value_75 : decode cX1_value 75 = .ok (.aload_n 3, 1) := dk_45 (dk_at dksX1_value_2 7 rfl rfl)
theorem dX1_value_76 : decode cX1_value 76 = .ok (.getfield 154, 3) := dk_180 0 154 (dk_at dksX1_value_2 8 rfl rfl)
theorem dX1_value_79 : decode cX1_value 79 = .ok (.ifCond .eq 7, 3) := dk_153 0 7 (dk_at dksX1_value_2 11 rfl rfl)
theorem dX1_value_82 : decode cX1_value 82 = .ok (.iconst 1, 1) := dk_4 (dk_at dksX1_value_2 14 rfl rfl)
theorem dX1_value_83 : decode cX1_value 83 = .ok (.goto 79, 3) := dk_167 0 79 (dk_at dksX1_value_2 15 rfl rfl)
theorem dX1_value_86 : decode cX1_value 86 = .ok (.iconst 0, 1) := dk_3 (dk_at dksX1_value_2 18 rfl rfl)
theorem dX1_value_87 : decode cX1_value 87 = .ok (.goto 75, 3) := dk_167 0 75 (dk_at dksX1_value_2 19 rfl rfl)
theorem dX1_value_90 : decode cX1_value 90 = .ok (.aload_n 3, 1) := dk_45 (dk_at dksX1_value_2 22 rfl rfl)
theorem dX1_value_91 : decode cX1_value 91 = .ok (.getfield 241, 3) := dk_180 0 241 (dk_at dksX1_value_3 0 rfl rfl)
theorem dX1_value_94 : decode cX1_value 94 = .ok (.goto 68, 3) := dk_167 0 68 (dk_at dksX1_value_3 3 rfl rfl)
theorem dX1_value_97 : decode cX1_value 97 = .ok (.aload_n 3, 1) := dk_45 (dk_at dksX1_value_3 6 rfl rfl)
theorem dX1_value_98 : decode cX1_value 98 = .ok (.getfield 186, 3) := dk_180 0 186 (dk_at dksX1_value_3 7 rfl rfl)
theorem dX1_value_101 : decode cX1_value 101 = .ok (.goto 61, 3) := dk_167 0 61 (dk_at dksX1_value_3 10 rfl rfl)
theorem dX1_value_104 : decode cX1_value 104 = .ok (.aload_n 3, 1) := dk_45 (dk_at dksX1_value_3 13 rfl rfl)
theorem dX1_value_105 : decode cX1_value 105 = .ok (.getfield 241, 3) := dk_180 0 241 (dk_at dksX1_value_3 14 rfl rfl)
theorem dX1_value_108 : decode cX1_value 108 = .ok (.iconst 1, 1) := dk_4 (dk_at dksX1_value_3 17 rfl rfl)
theorem dX1_value_109 : decode cX1_value 109 = .ok (.if_icmp .ne 10, 3) := dk_160 0 10 (dk_at dksX1_value_3 18 rfl rfl)
theorem dX1_value_112 : decode cX1_value 112 = .ok (.aload_n 3, 1) := dk_45 (dk_at dksX1_value_3 21 rfl rfl)
theorem dX1_value_113 : decode cX1_value 113 = .ok (.getfield 226, 3) := dk_180 0 226 (dk_at dksX1_value_4 0 rfl rfl)
theorem dX1_value_116 : decode cX1_value 116 = .ok (.goto 46, 3) := dk_167 0 46 (dk_at dksX1_value_4 3 rfl rfl)
theorem dX1_value_119 : decode cX1_value 119 = .ok (.bipush (-15), 2) := dk_16 241 (dk_at dksX1_value_4 6 rfl rfl)
theorem dX1_value_121 : decode cX1_value 121 = .ok (.goto 41, 3) := dk_167 0 41 (dk_at dksX1_value_4 8 rfl rfl)
theorem dX1_value_124 : decode cX1_value 124 = .ok (.aload_n 3, 1) := dk_45 (dk_at dksX1_value_4 11 rfl rfl)
theorem dX1_value_125 : decode cX1_value 125 = .ok (.getfield 161, 3) := dk_180 0 161 (dk_at dksX1_value_4 12 rfl rfl)
theorem dX1_value_128 : decode cX1_value 128 = .ok (.goto 34, 3) := dk_167 0 34 (dk_at dksX1_value_4 15 rfl rfl)
theorem dX1_value_131 : decode cX1_value 131 = .ok (.aload_n 3, 1) := dk_45 (dk_at dksX1_value_4 18 rfl rfl)
theorem dX1_value_132 : decode cX1_value 132 = .ok (.getfield 223, 3) := dk_180 0 223 (dk_at dksX1_value_4 19 rfl rfl)
theorem dX1_value_135 : decode cX1_value 135 = .ok (.goto 27, 3) := dk_167 0 27 (dk_at dksX1_value_5 0 rfl rfl)
theorem dX1_value_138 : decode cX1_value 138 = .ok (.aload_n 3, 1) := dk_45 (dk_at dksX1_value_5 3 rfl rfl)
theorem dX1_value_139 : decode cX1_value 139 = .ok (.invokevirtual 258, 3) := dk_182 1 2 (dk_at dksX1_value_5 4 rfl rfl)
theorem dX1_value_142 : decode cX1_value 142 = .ok (.goto 20, 3) := dk_167 0 20 (dk_at dksX1_value_5 7 rfl rfl)
theorem dX1_value_145 : decode cX1_value 145 = .ok (.aload_n 3, 1) := dk_45 (dk_at dksX1_value_5 10 rfl rfl)
theorem dX1_value_146 : decode cX1_value 146 = .ok (.getfield 133, 3) := dk_180 0 133 (dk_at dksX1_value_5 11 rfl rfl)
theorem dX1_value_149 : decode cX1_value 149 = .ok (.goto 13, 3) := dk_167 0 13 (dk_at dksX1_value_5 14 rfl rfl)
theorem dX1_value_152 : decode cX1_value 152 = .ok (.aload_n 0, 1) := dk_42 (dk_at dksX1_value_5 17 rfl rfl)
theorem dX1_value_153 : decode cX1_value 153 = .ok (.iload_n 1, 1) := dk_27 (dk_at dksX1_value_5 18 rfl rfl)
theorem dX1_value_154 : decode cX1_value 154 = .ok (.invokevirtual 261, 3) := dk_182 1 5 (dk_at dksX1_value_5 19 rfl rfl)
theorem dX1_value_157 : decode cX1_value 157 = .ok (.goto 5, 3) := dk_167 0 5 (dk_at dksX1_value_6 0 rfl rfl)
theorem dX1_value_160 : decode cX1_value 160 = .ok (.bipush (-12), 2) := dk_16 244 (dk_at dksX1_value_6 3 rfl rfl)
theorem dX1_value_162 : decode cX1_value 162 = .ok (.ireturn, 1) := dk_172 (dk_at dksX1_value_6 5 rfl rfl)
abbrev cX1_place : ByteArray := prog_5_method_32_code
def yX1_place : MethodName := ⟨RX1, "place", "(I)I"⟩
def dkwX1_place_2 : List UInt8 := [167, 255, 222, 16, 241, 172]
abbrev dktX1_place_2 : List UInt8 := dkwX1_place_2 ++ []
def dkwX1_place_1 : List UInt8 := [185, 0, 52, 1, 0, 192, 0, 67, 182, 0, 69, 54, 4, 21, 4, 27, 160, 0, 5, 28, 172, 132, 2, 1]
abbrev dktX1_place_1 : List UInt8 := dkwX1_place_1 ++ dktX1_place_2
def dkwX1_place_0 : List UInt8 := [3, 61, 42, 180, 0, 23, 182, 0, 66, 78, 45, 185, 0, 46, 1, 0, 153, 0, 31, 45]
abbrev dktX1_place_0 : List UInt8 := dkwX1_place_0 ++ dktX1_place_1
theorem dksX1_place_0 : cX1_place.data.toList.drop 0 = dktX1_place_0 := by decide +kernel
theorem dksX1_place_1 : cX1_place.data.toList.drop 20 = dktX1_place_1 := dk_seg dksX1_place_0 20 rfl rfl
theorem dksX1_place_2 : cX1_place.data.toList.drop 44 = dktX1_place_2 := dk_seg dksX1_place_1 24 rfl rfl
theorem dX1_place_0 : decode cX1_place 0 = .ok (.iconst 0, 1) := dk_3 (dk_at dksX1_place_0 0 rfl rfl)
theorem dX1_place_1 : decode cX1_place 1 = .ok (.istore_n 2, 1) := dk_61 (dk_at dksX1_place_0 1 rfl rfl)
theorem dX1_place_2 : decode cX1_place 2 = .ok (.aload_n 0, 1) := dk_42 (dk_at dksX1_place_0 2 rfl rfl)
theorem dX1_place_3 : decode cX1_place 3 = .ok (.getfield 23, 3) := dk_180 0 23 (dk_at dksX1_place_0 3 rfl rfl)
theorem dX1_place_6 : decode cX1_place 6 = .ok (.invokevirtual 66, 3) := dk_182 0 66 (dk_at dksX1_place_0 6 rfl rfl)
theorem dX1_place_9 : decode cX1_place 9 = .ok (.astore_n 3, 1) := dk_78 (dk_at dksX1_place_0 9 rfl rfl)
theorem dX1_place_10 : decode cX1_place 10 = .ok (.aload_n 3, 1) := dk_45 (dk_at dksX1_place_0 10 rfl rfl)
theorem dX1_place_11 : decode cX1_place 11 = .ok (.invokeinterface 46 1, 5) := by decide +kernel
theorem dX1_place_16 : decode cX1_place 16 = .ok (.ifCond .eq 31, 3) := dk_153 0 31 (dk_at dksX1_place_0 16 rfl rfl)
theorem dX1_place_19 : decode cX1_place 19 = .ok (.aload_n 3, 1) := dk_45 (dk_at dksX1_place_0 19 rfl rfl)
theorem dX1_place_20 : decode cX1_place 20 = .ok (.invokeinterface 52 1, 5) := by decide +kernel
theorem dX1_place_25 : decode cX1_place 25 = .ok (.checkcast 67, 3) := dk_192 0 67 (dk_at dksX1_place_1 5 rfl rfl)
theorem dX1_place_28 : decode cX1_place 28 = .ok (.invokevirtual 69, 3) := dk_182 0 69 (dk_at dksX1_place_1 8 rfl rfl)
theorem dX1_place_31 : decode cX1_place 31 = .ok (.istore 4, 2) := dk_54 4 (dk_at dksX1_place_1 11 rfl rfl)
theorem dX1_place_33 : decode cX1_place 33 = .ok (.iload 4, 2) := dk_21 4 (dk_at dksX1_place_1 13 rfl rfl)
theorem dX1_place_35 : decode cX1_place 35 = .ok (.iload_n 1, 1) := dk_27 (dk_at dksX1_place_1 15 rfl rfl)
theorem dX1_place_36 : decode cX1_place 36 = .ok (.if_icmp .ne 5, 3) := dk_160 0 5 (dk_at dksX1_place_1 16 rfl rfl)
theorem dX1_place_39 : decode cX1_place 39 = .ok (.iload_n 2, 1) := dk_28 (dk_at dksX1_place_1 19 rfl rfl)
theorem dX1_place_40 : decode cX1_place 40 = .ok (.ireturn, 1) := dk_172 (dk_at dksX1_place_1 20 rfl rfl)
theorem dX1_place_41 : decode cX1_place 41 = .ok (.iinc 2 1, 3) := dk_132 2 1 (dk_at dksX1_place_1 21 rfl rfl)
theorem dX1_place_44 : decode cX1_place 44 = .ok (.goto (-34), 3) := dk_167 255 222 (dk_at dksX1_place_2 0 rfl rfl)
theorem dX1_place_47 : decode cX1_place 47 = .ok (.bipush (-15), 2) := dk_16 241 (dk_at dksX1_place_2 3 rfl rfl)
theorem dX1_place_49 : decode cX1_place 49 = .ok (.ireturn, 1) := dk_172 (dk_at dksX1_place_2 5 rfl rfl)
abbrev cX1_entitled : ByteArray := prog_5_method_34_code
def yX1_entitled : MethodName := ⟨RX1, "entitled", "()Ljava/util/BitSet;"⟩
def dkwX1_entitled_2 : List UInt8 := [182, 1, 11, 167, 255, 225, 43, 176]
abbrev dktX1_entitled_2 : List UInt8 := dkwX1_entitled_2 ++ []
def dkwX1_entitled_1 : List UInt8 := [153, 0, 28, 44, 185, 0, 52, 1, 0, 192, 0, 56, 78, 43, 45, 180, 0, 189, 45, 182, 0, 217]
abbrev dktX1_entitled_1 : List UInt8 := dkwX1_entitled_1 ++ dktX1_entitled_2
def dkwX1_entitled_0 : List UInt8 := [187, 1, 8, 89, 16, 16, 183, 1, 10, 76, 42, 180, 0, 14, 182, 0, 42, 77, 44, 185, 0, 46, 1, 0]
abbrev dktX1_entitled_0 : List UInt8 := dkwX1_entitled_0 ++ dktX1_entitled_1
theorem dksX1_entitled_0 : cX1_entitled.data.toList.drop 0 = dktX1_entitled_0 := by decide +kernel
theorem dksX1_entitled_1 : cX1_entitled.data.toList.drop 24 = dktX1_entitled_1 := dk_seg dksX1_entitled_0 24 rfl rfl
theorem dksX1_entitled_2 : cX1_entitled.data.toList.drop 46 = dktX1_entitled_2 := dk_seg dksX1_entitled_1 22 rfl rfl
theorem dX1_entitled_0 : decode cX1_entitled 0 = .ok (.new 264, 3) := dk_187 1 8 (dk_at dksX1_entitled_0 0 rfl rfl)
theorem dX1_entitled_3 : decode cX1_entitled 3 = .ok (.dup, 1) := dk_89 (dk_at dksX1_entitled_0 3 rfl rfl)
theorem dX1_entitled_4 : decode cX1_entitled 4 = .ok (.bipush 16, 2) := dk_16 16 (dk_at dksX1_entitled_0 4 rfl rfl)
theorem dX1_entitled_6 : decode cX1_entitled 6 = .ok (.invokespecial 266, 3) := dk_183 1 10 (dk_at dksX1_entitled_0 6 rfl rfl)
theorem dX1_entitled_9 : decode cX1_entitled 9 = .ok (.astore_n 1, 1) := dk_76 (dk_at dksX1_entitled_0 9 rfl rfl)
theorem dX1_entitled_10 : decode cX1_entitled 10 = .ok (.aload_n 0, 1) := dk_42 (dk_at dksX1_entitled_0 10 rfl rfl)
theorem dX1_entitled_11 : decode cX1_entitled 11 = .ok (.getfield 14, 3) := dk_180 0 14 (dk_at dksX1_entitled_0 11 rfl rfl)
theorem dX1_entitled_14 : decode cX1_entitled 14 = .ok (.invokevirtual 42, 3) := dk_182 0 42 (dk_at dksX1_entitled_0 14 rfl rfl)
theorem dX1_entitled_17 : decode cX1_entitled 17 = .ok (.astore_n 2, 1) := dk_77 (dk_at dksX1_entitled_0 17 rfl rfl)
theorem dX1_entitled_18 : decode cX1_entitled 18 = .ok (.aload_n 2, 1) := dk_44 (dk_at dksX1_entitled_0 18 rfl rfl)
theorem dX1_entitled_19 : decode cX1_entitled 19 = .ok (.invokeinterface 46 1, 5) := by decide +kernel
theorem dX1_entitled_24 : decode cX1_entitled 24 = .ok (.ifCond .eq 28, 3) := dk_153 0 28 (dk_at dksX1_entitled_1 0 rfl rfl)
theorem dX1_entitled_27 : decode cX1_entitled 27 = .ok (.aload_n 2, 1) := dk_44 (dk_at dksX1_entitled_1 3 rfl rfl)
theorem dX1_entitled_28 : decode cX1_entitled 28 = .ok (.invokeinterface 52 1, 5) := by decide +kernel
theorem dX1_entitled_33 : decode cX1_entitled 33 = .ok (.checkcast 56, 3) := dk_192 0 56 (dk_at dksX1_entitled_1 9 rfl rfl)
theorem dX1_entitled_36 : decode cX1_entitled 36 = .ok (.astore_n 3, 1) := dk_78 (dk_at dksX1_entitled_1 12 rfl rfl)
theorem dX1_entitled_37 : decode cX1_entitled 37 = .ok (.aload_n 1, 1) := dk_43 (dk_at dksX1_entitled_1 13 rfl rfl)
theorem dX1_entitled_38 : decode cX1_entitled 38 = .ok (.aload_n 3, 1) := dk_45 (dk_at dksX1_entitled_1 14 rfl rfl)
theorem dX1_entitled_39 : decode cX1_entitled 39 = .ok (.getfield 189, 3) := dk_180 0 189 (dk_at dksX1_entitled_1 15 rfl rfl)
theorem dX1_entitled_42 : decode cX1_entitled 42 = .ok (.aload_n 3, 1) := dk_45 (dk_at dksX1_entitled_1 18 rfl rfl)
theorem dX1_entitled_43 : decode cX1_entitled 43 = .ok (.invokevirtual 217, 3) := dk_182 0 217 (dk_at dksX1_entitled_1 19 rfl rfl)
theorem dX1_entitled_46 : decode cX1_entitled 46 = .ok (.invokevirtual 267, 3) := dk_182 1 11 (dk_at dksX1_entitled_2 0 rfl rfl)
theorem dX1_entitled_49 : decode cX1_entitled 49 = .ok (.goto (-31), 3) := dk_167 255 225 (dk_at dksX1_entitled_2 3 rfl rfl)
theorem dX1_entitled_52 : decode cX1_entitled 52 = .ok (.aload_n 1, 1) := dk_43 (dk_at dksX1_entitled_2 6 rfl rfl)
theorem dX1_entitled_53 : decode cX1_entitled 53 = .ok (.areturn, 1) := dk_176 (dk_at dksX1_entitled_2 7 rfl rfl)
abbrev cX1_entitledAgain : ByteArray := prog_5_method_35_code
def yX1_entitledAgain : MethodName := ⟨RX1, "entitledAgain", "()Ljava/util/BitSet;"⟩
def dkwX1_entitledAgain_2 : List UInt8 := [154, 0, 13, 43, 42, 180, 0, 30, 28, 46, 182, 1, 15, 132, 2, 1, 167, 255, 204, 43, 176]
abbrev dktX1_entitledAgain_2 : List UInt8 := dkwX1_entitledAgain_2 ++ []
def dkwX1_entitledAgain_1 : List UInt8 := [16, 241, 159, 0, 35, 42, 180, 0, 14, 42, 180, 0, 30, 28, 46, 182, 0, 136, 192, 0, 56, 180, 0, 161]
abbrev dktX1_entitledAgain_1 : List UInt8 := dkwX1_entitledAgain_1 ++ dktX1_entitledAgain_2
def dkwX1_entitledAgain_0 : List UInt8 := [187, 1, 8, 89, 16, 16, 183, 1, 10, 76, 3, 61, 28, 16, 8, 162, 0, 52, 42, 180, 0, 30, 28, 46]
abbrev dktX1_entitledAgain_0 : List UInt8 := dkwX1_entitledAgain_0 ++ dktX1_entitledAgain_1
theorem dksX1_entitledAgain_0 : cX1_entitledAgain.data.toList.drop 0 = dktX1_entitledAgain_0 := by decide +kernel
theorem dksX1_entitledAgain_1 : cX1_entitledAgain.data.toList.drop 24 = dktX1_entitledAgain_1 := dk_seg dksX1_entitledAgain_0 24 rfl rfl
theorem dksX1_entitledAgain_2 : cX1_entitledAgain.data.toList.drop 48 = dktX1_entitledAgain_2 := dk_seg dksX1_entitledAgain_1 24 rfl rfl
theorem dX1_entitledAgain_0 : decode cX1_entitledAgain 0 = .ok (.new 264, 3) := dk_187 1 8 (dk_at dksX1_entitledAgain_0 0 rfl rfl)
theorem dX1_entitledAgain_3 : decode cX1_entitledAgain 3 = .ok (.dup, 1) := dk_89 (dk_at dksX1_entitledAgain_0 3 rfl rfl)
theorem dX1_entitledAgain_4 : decode cX1_entitledAgain 4 = .ok (.bipush 16, 2) := dk_16 16 (dk_at dksX1_entitledAgain_0 4 rfl rfl)
theorem dX1_entitledAgain_6 : decode cX1_entitledAgain 6 = .ok (.invokespecial 266, 3) := dk_183 1 10 (dk_at dksX1_entitledAgain_0 6 rfl rfl)
theorem dX1_entitledAgain_9 : decode cX1_entitledAgain 9 = .ok (.astore_n 1, 1) := dk_76 (dk_at dksX1_entitledAgain_0 9 rfl rfl)
theorem dX1_entitledAgain_10 : decode cX1_entitledAgain 10 = .ok (.iconst 0, 1) := dk_3 (dk_at dksX1_entitledAgain_0 10 rfl rfl)
theorem dX1_entitledAgain_11 : decode cX1_entitledAgain 11 = .ok (.istore_n 2, 1) := dk_61 (dk_at dksX1_entitledAgain_0 11 rfl rfl)
theorem dX1_entitledAgain_12 : decode cX1_entitledAgain 12 = .ok (.iload_n 2, 1) := dk_28 (dk_at dksX1_entitledAgain_0 12 rfl rfl)
theorem dX1_entitledAgain_13 : decode cX1_entitledAgain 13 = .ok (.bipush 8, 2) := dk_16 8 (dk_at dksX1_entitledAgain_0 13 rfl rfl)
theorem dX1_entitledAgain_15 : decode cX1_entitledAgain 15 = .ok (.if_icmp .ge 52, 3) := dk_162 0 52 (dk_at dksX1_entitledAgain_0 15 rfl rfl)
theorem dX1_entitledAgain_18 : decode cX1_entitledAgain 18 = .ok (.aload_n 0, 1) := dk_42 (dk_at dksX1_entitledAgain_0 18 rfl rfl)
theorem dX1_entitledAgain_19 : decode cX1_entitledAgain 19 = .ok (.getfield 30, 3) := dk_180 0 30 (dk_at dksX1_entitledAgain_0 19 rfl rfl)
theorem dX1_entitledAgain_22 : decode cX1_entitledAgain 22 = .ok (.iload_n 2, 1) := dk_28 (dk_at dksX1_entitledAgain_0 22 rfl rfl)
theorem dX1_entitledAgain_23 : decode cX1_entitledAgain 23 = .ok (.iaload, 1) := dk_46 (dk_at dksX1_entitledAgain_0 23 rfl rfl)
theorem dX1_entitledAgain_24 : decode cX1_entitledAgain 24 = .ok (.bipush (-15), 2) := dk_16 241 (dk_at dksX1_entitledAgain_1 0 rfl rfl)
theorem dX1_entitledAgain_26 : decode cX1_entitledAgain 26 = .ok (.if_icmp .eq 35, 3) := dk_159 0 35 (dk_at dksX1_entitledAgain_1 2 rfl rfl)
theorem dX1_entitledAgain_29 : decode cX1_entitledAgain 29 = .ok (.aload_n 0, 1) := dk_42 (dk_at dksX1_entitledAgain_1 5 rfl rfl)
theorem dX1_entitledAgain_30 : decode cX1_entitledAgain 30 = .ok (.getfield 14, 3) := dk_180 0 14 (dk_at dksX1_entitledAgain_1 6 rfl rfl)
theorem dX1_entitledAgain_33 : decode cX1_entitledAgain 33 = .ok (.aload_n 0, 1) := dk_42 (dk_at dksX1_entitledAgain_1 9 rfl rfl)
theorem dX1_entitledAgain_34 : decode cX1_entitledAgain 34 = .ok (.getfield 30, 3) := dk_180 0 30 (dk_at dksX1_entitledAgain_1 10 rfl rfl)
theorem dX1_entitledAgain_37 : decode cX1_entitledAgain 37 = .ok (.iload_n 2, 1) := dk_28 (dk_at dksX1_entitledAgain_1 13 rfl rfl)
theorem dX1_entitledAgain_38 : decode cX1_entitledAgain 38 = .ok (.iaload, 1) := dk_46 (dk_at dksX1_entitledAgain_1 14 rfl rfl)
theorem dX1_entitledAgain_39 : decode cX1_entitledAgain 39 = .ok (.invokevirtual 136, 3) := dk_182 0 136 (dk_at dksX1_entitledAgain_1 15 rfl rfl)
theorem dX1_entitledAgain_42 : decode cX1_entitledAgain 42 = .ok (.checkcast 56, 3) := dk_192 0 56 (dk_at dksX1_entitledAgain_1 18 rfl rfl)
theorem dX1_entitledAgain_45 : decode cX1_entitledAgain 45 = .ok (.getfield 161, 3) := dk_180 0 161 (dk_at dksX1_entitledAgain_1 21 rfl rfl)
theorem dX1_entitledAgain_48 : decode cX1_entitledAgain 48 = .ok (.ifCond .ne 13, 3) := dk_154 0 13 (dk_at dksX1_entitledAgain_2 0 rfl rfl)
theorem dX1_entitledAgain_51 : decode cX1_entitledAgain 51 = .ok (.aload_n 1, 1) := dk_43 (dk_at dksX1_entitledAgain_2 3 rfl rfl)
theorem dX1_entitledAgain_52 : decode cX1_entitledAgain 52 = .ok (.aload_n 0, 1) := dk_42 (dk_at dksX1_entitledAgain_2 4 rfl rfl)
theorem dX1_entitledAgain_53 : decode cX1_entitledAgain 53 = .ok (.getfield 30, 3) := dk_180 0 30 (dk_at dksX1_entitledAgain_2 5 rfl rfl)
theorem dX1_entitledAgain_56 : decode cX1_entitledAgain 56 = .ok (.iload_n 2, 1) := dk_28 (dk_at dksX1_entitledAgain_2 8 rfl rfl)
theorem dX1_entitledAgain_57 : decode cX1_entitledAgain 57 = .ok (.iaload, 1) := dk_46 (dk_at dksX1_entitledAgain_2 9 rfl rfl)
theorem dX1_entitledAgain_58 : decode cX1_entitledAgain 58 = .ok (.invokevirtual 271, 3) := dk_182 1 15 (dk_at dksX1_entitledAgain_2 10 rfl rfl)
theorem dX1_entitledAgain_61 : decode cX1_entitledAgain 61 = .ok (.iinc 2 1, 3) := dk_132 2 1 (dk_at dksX1_entitledAgain_2 13 rfl rfl)
theorem dX1_entitledAgain_64 : decode cX1_entitledAgain 64 = .ok (.goto (-52), 3) := dk_167 255 204 (dk_at dksX1_entitledAgain_2 16 rfl rfl)
theorem dX1_entitledAgain_67 : decode cX1_entitledAgain 67 = .ok (.aload_n 1, 1) := dk_43 (dk_at dksX1_entitledAgain_2 19 rfl rfl)
theorem dX1_entitledAgain_68 : decode cX1_entitledAgain 68 = .ok (.areturn, 1) := dk_176 (dk_at dksX1_entitledAgain_2 20 rfl rfl)
abbrev cX1_nextFeast : ByteArray := prog_5_method_31_code
def yX1_nextFeast : MethodName := ⟨RX1, "nextFeast", "()I"⟩
def dkwX1_nextFeast_1 : List UInt8 := [158, 0, 5, 27, 172, 132, 1, 1, 167, 255, 228, 16, 241, 172]
abbrev dktX1_nextFeast_1 : List UInt8 := dkwX1_nextFeast_1 ++ []
def dkwX1_nextFeast_0 : List UInt8 := [3, 60, 27, 16, 52, 162, 0, 28, 42, 180, 0, 34, 42, 180, 0, 94, 27, 96, 16, 52, 112, 46]
abbrev dktX1_nextFeast_0 : List UInt8 := dkwX1_nextFeast_0 ++ dktX1_nextFeast_1
theorem dksX1_nextFeast_0 : cX1_nextFeast.data.toList.drop 0 = dktX1_nextFeast_0 := by decide +kernel
theorem dksX1_nextFeast_1 : cX1_nextFeast.data.toList.drop 22 = dktX1_nextFeast_1 := dk_seg dksX1_nextFeast_0 22 rfl rfl
theorem dX1_nextFeast_0 : decode cX1_nextFeast 0 = .ok (.iconst 0, 1) := dk_3 (dk_at dksX1_nextFeast_0 0 rfl rfl)
theorem dX1_nextFeast_1 : decode cX1_nextFeast 1 = .ok (.istore_n 1, 1) := dk_60 (dk_at dksX1_nextFeast_0 1 rfl rfl)
theorem dX1_nextFeast_2 : decode cX1_nextFeast 2 = .ok (.iload_n 1, 1) := dk_27 (dk_at dksX1_nextFeast_0 2 rfl rfl)
theorem dX1_nextFeast_3 : decode cX1_nextFeast 3 = .ok (.bipush 52, 2) := dk_16 52 (dk_at dksX1_nextFeast_0 3 rfl rfl)
theorem dX1_nextFeast_5 : decode cX1_nextFeast 5 = .ok (.if_icmp .ge 28, 3) := dk_162 0 28 (dk_at dksX1_nextFeast_0 5 rfl rfl)
theorem dX1_nextFeast_8 : decode cX1_nextFeast 8 = .ok (.aload_n 0, 1) := dk_42 (dk_at dksX1_nextFeast_0 8 rfl rfl)
theorem dX1_nextFeast_9 : decode cX1_nextFeast 9 = .ok (.getfield 34, 3) := dk_180 0 34 (dk_at dksX1_nextFeast_0 9 rfl rfl)
theorem dX1_nextFeast_12 : decode cX1_nextFeast 12 = .ok (.aload_n 0, 1) := dk_42 (dk_at dksX1_nextFeast_0 12 rfl rfl)
theorem dX1_nextFeast_13 : decode cX1_nextFeast 13 = .ok (.getfield 94, 3) := dk_180 0 94 (dk_at dksX1_nextFeast_0 13 rfl rfl)
theorem dX1_nextFeast_16 : decode cX1_nextFeast 16 = .ok (.iload_n 1, 1) := dk_27 (dk_at dksX1_nextFeast_0 16 rfl rfl)
theorem dX1_nextFeast_17 : decode cX1_nextFeast 17 = .ok (.iadd, 1) := dk_96 (dk_at dksX1_nextFeast_0 17 rfl rfl)
theorem dX1_nextFeast_18 : decode cX1_nextFeast 18 = .ok (.bipush 52, 2) := dk_16 52 (dk_at dksX1_nextFeast_0 18 rfl rfl)
theorem dX1_nextFeast_20 : decode cX1_nextFeast 20 = .ok (.irem, 1) := dk_112 (dk_at dksX1_nextFeast_0 20 rfl rfl)
theorem dX1_nextFeast_21 : decode cX1_nextFeast 21 = .ok (.iaload, 1) := dk_46 (dk_at dksX1_nextFeast_0 21 rfl rfl)
theorem dX1_nextFeast_22 : decode cX1_nextFeast 22 = .ok (.ifCond .le 5, 3) := dk_158 0 5 (dk_at dksX1_nextFeast_1 0 rfl rfl)
theorem dX1_nextFeast_25 : decode cX1_nextFeast 25 = .ok (.iload_n 1, 1) := dk_27 (dk_at dksX1_nextFeast_1 3 rfl rfl)
theorem dX1_nextFeast_26 : decode cX1_nextFeast 26 = .ok (.ireturn, 1) := dk_172 (dk_at dksX1_nextFeast_1 4 rfl rfl)
theorem dX1_nextFeast_27 : decode cX1_nextFeast 27 = .ok (.iinc 1 1, 3) := dk_132 1 1 (dk_at dksX1_nextFeast_1 5 rfl rfl)
theorem dX1_nextFeast_30 : decode cX1_nextFeast 30 = .ok (.goto (-28), 3) := dk_167 255 228 (dk_at dksX1_nextFeast_1 8 rfl rfl)
theorem dX1_nextFeast_33 : decode cX1_nextFeast 33 = .ok (.bipush (-15), 2) := dk_16 241 (dk_at dksX1_nextFeast_1 11 rfl rfl)
theorem dX1_nextFeast_35 : decode cX1_nextFeast 35 = .ok (.ireturn, 1) := dk_172 (dk_at dksX1_nextFeast_1 13 rfl rfl)
abbrev cX1_cellsTold : ByteArray := prog_5_method_40_code
def yX1_cellsTold : MethodName := ⟨RX1, "cellsTold", "()Ljava/lang/String;"⟩
def dkwX1_cellsTold_5 : List UInt8 := [132, 2, 1, 167, 255, 143, 43, 182, 1, 46, 176]
abbrev dktX1_cellsTold_5 : List UInt8 := dkwX1_cellsTold_5 ++ []
def dkwX1_cellsTold_4 : List UInt8 := [182, 1, 32, 45, 180, 0, 226, 5, 161, 0, 9, 19, 1, 44, 167, 0, 6, 19, 1, 28, 182, 1, 32, 87]
abbrev dktX1_cellsTold_4 : List UInt8 := dkwX1_cellsTold_4 ++ dktX1_cellsTold_5
def dkwX1_cellsTold_3 : List UInt8 := [43, 45, 180, 0, 189, 182, 1, 39, 45, 180, 0, 161, 158, 0, 9, 19, 1, 42, 167, 0, 6, 19, 1, 28]
abbrev dktX1_cellsTold_3 : List UInt8 := dkwX1_cellsTold_3 ++ dktX1_cellsTold_4
def dkwX1_cellsTold_2 : List UInt8 := [182, 1, 36, 87, 167, 0, 68, 42, 180, 0, 14, 42, 180, 0, 30, 28, 46, 182, 0, 136, 192, 0, 56, 78]
abbrev dktX1_cellsTold_2 : List UInt8 := dkwX1_cellsTold_2 ++ dktX1_cellsTold_3
def dkwX1_cellsTold_1 : List UInt8 := [167, 0, 6, 19, 1, 30, 182, 1, 32, 87, 42, 180, 0, 30, 28, 46, 16, 241, 160, 0, 13, 43, 16, 45]
abbrev dktX1_cellsTold_1 : List UInt8 := dkwX1_cellsTold_1 ++ dktX1_cellsTold_2
def dkwX1_cellsTold_0 : List UInt8 := [187, 1, 25, 89, 183, 1, 27, 76, 3, 61, 28, 16, 8, 162, 0, 113, 43, 28, 154, 0, 9, 19, 1, 28]
abbrev dktX1_cellsTold_0 : List UInt8 := dkwX1_cellsTold_0 ++ dktX1_cellsTold_1
theorem dksX1_cellsTold_0 : cX1_cellsTold.data.toList.drop 0 = dktX1_cellsTold_0 := by decide +kernel
theorem dksX1_cellsTold_1 : cX1_cellsTold.data.toList.drop 24 = dktX1_cellsTold_1 := dk_seg dksX1_cellsTold_0 24 rfl rfl
theorem dksX1_cellsTold_2 : cX1_cellsTold.data.toList.drop 48 = dktX1_cellsTold_2 := dk_seg dksX1_cellsTold_1 24 rfl rfl
theorem dksX1_cellsTold_3 : cX1_cellsTold.data.toList.drop 72 = dktX1_cellsTold_3 := dk_seg dksX1_cellsTold_2 24 rfl rfl
theorem dksX1_cellsTold_4 : cX1_cellsTold.data.toList.drop 96 = dktX1_cellsTold_4 := dk_seg dksX1_cellsTold_3 24 rfl rfl
theorem dksX1_cellsTold_5 : cX1_cellsTold.data.toList.drop 120 = dktX1_cellsTold_5 := dk_seg dksX1_cellsTold_4 24 rfl rfl
theorem dX1_cellsTold_0 : decode cX1_cellsTold 0 = .ok (.new 281, 3) := dk_187 1 25 (dk_at dksX1_cellsTold_0 0 rfl rfl)
theorem dX1_cellsTold_3 : decode cX1_cellsTold 3 = .ok (.dup, 1) := dk_89 (dk_at dksX1_cellsTold_0 3 rfl rfl)
theorem dX1_cellsTold_4 : decode cX1_cellsTold 4 = .ok (.invokespecial 283, 3) := dk_183 1 27 (dk_at dksX1_cellsTold_0 4 rfl rfl)
theorem dX1_cellsTold_7 : decode cX1_cellsTold 7 = .ok (.astore_n 1, 1) := dk_76 (dk_at dksX1_cellsTold_0 7 rfl rfl)
theorem dX1_cellsTold_8 : decode cX1_cellsTold 8 = .ok (.iconst 0, 1) := dk_3 (dk_at dksX1_cellsTold_0 8 rfl rfl)
theorem dX1_cellsTold_9 : decode cX1_cellsTold 9 = .ok (.istore_n 2, 1) := dk_61 (dk_at dksX1_cellsTold_0 9 rfl rfl)
theorem dX1_cellsTold_10 : decode cX1_cellsTold 10 = .ok (.iload_n 2, 1) := dk_28 (dk_at dksX1_cellsTold_0 10 rfl rfl)
theorem dX1_cellsTold_11 : decode cX1_cellsTold 11 = .ok (.bipush 8, 2) := dk_16 8 (dk_at dksX1_cellsTold_0 11 rfl rfl)
theorem dX1_cellsTold_13 : decode cX1_cellsTold 13 = .ok (.if_icmp .ge 113, 3) := dk_162 0 113 (dk_at dksX1_cellsTold_0 13 rfl rfl)
theorem dX1_cellsTold_16 : decode cX1_cellsTold 16 = .ok (.aload_n 1, 1) := dk_43 (dk_at dksX1_cellsTold_0 16 rfl rfl)
theorem dX1_cellsTold_17 : decode cX1_cellsTold 17 = .ok (.iload_n 2, 1) := dk_28 (dk_at dksX1_cellsTold_0 17 rfl rfl)
theorem dX1_cellsTold_18 : decode cX1_cellsTold 18 = .ok (.ifCond .ne 9, 3) := dk_154 0 9 (dk_at dksX1_cellsTold_0 18 rfl rfl)
theorem dX1_cellsTold_21 : decode cX1_cellsTold 21 = .ok (.ldc_w 284, 3) := dk_19 1 28 (dk_at dksX1_cellsTold_0 21 rfl rfl)
theorem dX1_cellsTold_24 : decode cX1_cellsTold 24 = .ok (.goto 6, 3) := dk_167 0 6 (dk_at dksX1_cellsTold_1 0 rfl rfl)
theorem dX1_cellsTold_27 : decode cX1_cellsTold 27 = .ok (.ldc_w 286, 3) := dk_19 1 30 (dk_at dksX1_cellsTold_1 3 rfl rfl)
theorem dX1_cellsTold_30 : decode cX1_cellsTold 30 = .ok (.invokevirtual 288, 3) := dk_182 1 32 (dk_at dksX1_cellsTold_1 6 rfl rfl)
theorem dX1_cellsTold_33 : decode cX1_cellsTold 33 = .ok (.pop, 1) := dk_87 (dk_at dksX1_cellsTold_1 9 rfl rfl)
theorem dX1_cellsTold_34 : decode cX1_cellsTold 34 = .ok (.aload_n 0, 1) := dk_42 (dk_at dksX1_cellsTold_1 10 rfl rfl)
theorem dX1_cellsTold_35 : decode cX1_cellsTold 35 = .ok (.getfield 30, 3) := dk_180 0 30 (dk_at dksX1_cellsTold_1 11 rfl rfl)
theorem dX1_cellsTold_38 : decode cX1_cellsTold 38 = .ok (.iload_n 2, 1) := dk_28 (dk_at dksX1_cellsTold_1 14 rfl rfl)
theorem dX1_cellsTold_39 : decode cX1_cellsTold 39 = .ok (.iaload, 1) := dk_46 (dk_at dksX1_cellsTold_1 15 rfl rfl)
theorem dX1_cellsTold_40 : decode cX1_cellsTold 40 = .ok (.bipush (-15), 2) := dk_16 241 (dk_at dksX1_cellsTold_1 16 rfl rfl)
theorem dX1_cellsTold_42 : decode cX1_cellsTold 42 = .ok (.if_icmp .ne 13, 3) := dk_160 0 13 (dk_at dksX1_cellsTold_1 18 rfl rfl)
theorem dX1_cellsTold_45 : decode cX1_cellsTold 45 = .ok (.aload_n 1, 1) := dk_43 (dk_at dksX1_cellsTold_1 21 rfl rfl)
theorem dX1_cellsTold_46 : decode cX1_cellsTold 46 = .ok (.bipush 45, 2) := dk_16 45 (dk_at dksX1_cellsTold_1 22 rfl rfl)
theorem dX1_cellsTold_48 : decode cX1_cellsTold 48 = .ok (.invokevirtual 292, 3) := dk_182 1 36 (dk_at dksX1_cellsTold_2 0 rfl rfl)
theorem dX1_cellsTold_51 : decode cX1_cellsTold 51 = .ok (.pop, 1) := dk_87 (dk_at dksX1_cellsTold_2 3 rfl rfl)
theorem dX1_cellsTold_52 : decode cX1_cellsTold 52 = .ok (.goto 68, 3) := dk_167 0 68 (dk_at dksX1_cellsTold_2 4 rfl rfl)
theorem dX1_cellsTold_55 : decode cX1_cellsTold 55 = .ok (.aload_n 0, 1) := dk_42 (dk_at dksX1_cellsTold_2 7 rfl rfl)
theorem dX1_cellsTold_56 : decode cX1_cellsTold 56 = .ok (.getfield 14, 3) := dk_180 0 14 (dk_at dksX1_cellsTold_2 8 rfl rfl)
theorem dX1_cellsTold_59 : decode cX1_cellsTold 59 = .ok (.aload_n 0, 1) := dk_42 (dk_at dksX1_cellsTold_2 11 rfl rfl)
theorem dX1_cellsTold_60 : decode cX1_cellsTold 60 = .ok (.getfield 30, 3) := dk_180 0 30 (dk_at dksX1_cellsTold_2 12 rfl rfl)
theorem dX1_cellsTold_63 : decode cX1_cellsTold 63 = .ok (.iload_n 2, 1) := dk_28 (dk_at dksX1_cellsTold_2 15 rfl rfl)
theorem dX1_cellsTold_64 : decode cX1_cellsTold 64 = .ok (.iaload, 1) := dk_46 (dk_at dksX1_cellsTold_2 16 rfl rfl)
theorem dX1_cellsTold_65 : decode cX1_cellsTold 65 = .ok (.invokevirtual 136, 3) := dk_182 0 136 (dk_at dksX1_cellsTold_2 17 rfl rfl)
theorem dX1_cellsTold_68 : decode cX1_cellsTold 68 = .ok (.checkcast 56, 3) := dk_192 0 56 (dk_at dksX1_cellsTold_2 20 rfl rfl)
theorem dX1_cellsTold_71 : decode cX1_cellsTold 71 = .ok (.astore_n 3, 1) := dk_78 (dk_at dksX1_cellsTold_2 23 rfl rfl)
theorem dX1_cellsTold_72 : decode cX1_cellsTold 72 = .ok (.aload_n 1, 1) := dk_43 (dk_at dksX1_cellsTold_3 0 rfl rfl)
theorem dX1_cellsTold_73 : decode cX1_cellsTold 73 = .ok (.aload_n 3, 1) := dk_45 (dk_at dksX1_cellsTold_3 1 rfl rfl)
theorem dX1_cellsTold_74 : decode cX1_cellsTold 74 = .ok (.getfield 189, 3) := dk_180 0 189 (dk_at dksX1_cellsTold_3 2 rfl rfl)
theorem dX1_cellsTold_77 : decode cX1_cellsTold 77 = .ok (.invokevirtual 295, 3) := dk_182 1 39 (dk_at dksX1_cellsTold_3 5 rfl rfl)
theorem dX1_cellsTold_80 : decode cX1_cellsTold 80 = .ok (.aload_n 3, 1) := dk_45 (dk_at dksX1_cellsTold_3 8 rfl rfl)
theorem dX1_cellsTold_81 : decode cX1_cellsTold 81 = .ok (.getfield 161, 3) := dk_180 0 161 (dk_at dksX1_cellsTold_3 9 rfl rfl)
theorem dX1_cellsTold_84 : decode cX1_cellsTold 84 = .ok (.ifCond .le 9, 3) := dk_158 0 9 (dk_at dksX1_cellsTold_3 12 rfl rfl)
theorem dX1_cellsTold_87 : decode cX1_cellsTold 87 = .ok (.ldc_w 298, 3) := dk_19 1 42 (dk_at dksX1_cellsTold_3 15 rfl rfl)
theorem dX1_cellsTold_90 : decode cX1_cellsTold 90 = .ok (.goto 6, 3) := dk_167 0 6 (dk_at dksX1_cellsTold_3 18 rfl rfl)
theorem dX1_cellsTold_93 : decode cX1_cellsTold 93 = .ok (.ldc_w 284, 3) := dk_19 1 28 (dk_at dksX1_cellsTold_3 21 rfl rfl)
theorem dX1_cellsTold_96 : decode cX1_cellsTold 96 = .ok (.invokevirtual 288, 3) := dk_182 1 32 (dk_at dksX1_cellsTold_4 0 rfl rfl)
theorem dX1_cellsTold_99 : decode cX1_cellsTold 99 = .ok (.aload_n 3, 1) := dk_45 (dk_at dksX1_cellsTold_4 3 rfl rfl)
theorem dX1_cellsTold_100 : decode cX1_cellsTold 100 = .ok (.getfield 226, 3) := dk_180 0 226 (dk_at dksX1_cellsTold_4 4 rfl rfl)
theorem dX1_cellsTold_103 : decode cX1_cellsTold 103 = .ok (.iconst 2, 1) := dk_5 (dk_at dksX1_cellsTold_4 7 rfl rfl)
theorem dX1_cellsTold_104 : decode cX1_cellsTold 104 = .ok (.if_icmp .lt 9, 3) := dk_161 0 9 (dk_at dksX1_cellsTold_4 8 rfl rfl)
theorem dX1_cellsTold_107 : decode cX1_cellsTold 107 = .ok (.ldc_w 300, 3) := dk_19 1 44 (dk_at dksX1_cellsTold_4 11 rfl rfl)
theorem dX1_cellsTold_110 : decode cX1_cellsTold 110 = .ok (.goto 6, 3) := dk_167 0 6 (dk_at dksX1_cellsTold_4 14 rfl rfl)
theorem dX1_cellsTold_113 : decode cX1_cellsTold 113 = .ok (.ldc_w 284, 3) := dk_19 1 28 (dk_at dksX1_cellsTold_4 17 rfl rfl)
theorem dX1_cellsTold_116 : decode cX1_cellsTold 116 = .ok (.invokevirtual 288, 3) := dk_182 1 32 (dk_at dksX1_cellsTold_4 20 rfl rfl)
theorem dX1_cellsTold_119 : decode cX1_cellsTold 119 = .ok (.pop, 1) := dk_87 (dk_at dksX1_cellsTold_4 23 rfl rfl)
theorem dX1_cellsTold_120 : decode cX1_cellsTold 120 = .ok (.iinc 2 1, 3) := dk_132 2 1 (dk_at dksX1_cellsTold_5 0 rfl rfl)
theorem dX1_cellsTold_123 : decode cX1_cellsTold 123 = .ok (.goto (-113), 3) := dk_167 255 143 (dk_at dksX1_cellsTold_5 3 rfl rfl)
theorem dX1_cellsTold_126 : decode cX1_cellsTold 126 = .ok (.aload_n 1, 1) := dk_43 (dk_at dksX1_cellsTold_5 6 rfl rfl)
theorem dX1_cellsTold_127 : decode cX1_cellsTold 127 = .ok (.invokevirtual 302, 3) := dk_182 1 46 (dk_at dksX1_cellsTold_5 7 rfl rfl)
theorem dX1_cellsTold_130 : decode cX1_cellsTold 130 = .ok (.areturn, 1) := dk_176 (dk_at dksX1_cellsTold_5 10 rfl rfl)
abbrev cX1_lineTold : ByteArray := prog_5_method_41_code
def yX1_lineTold : MethodName := ⟨RX1, "lineTold", "()Ljava/lang/String;"⟩
def dkwX1_lineTold_4 : List UInt8 := [182, 1, 36, 42, 29, 182, 0, 164, 182, 1, 39, 87, 167, 255, 167, 43, 182, 1, 46, 176]
abbrev dktX1_lineTold_4 : List UInt8 := dkwX1_lineTold_4 ++ []
def dkwX1_lineTold_3 : List UInt8 := [192, 0, 56, 180, 0, 154, 153, 0, 9, 19, 1, 55, 167, 0, 6, 19, 1, 28, 182, 1, 32, 16, 58]
abbrev dktX1_lineTold_3 : List UInt8 := dkwX1_lineTold_3 ++ dktX1_lineTold_4
def dkwX1_lineTold_2 : List UInt8 := [19, 1, 28, 167, 0, 6, 19, 1, 53, 182, 1, 32, 29, 182, 1, 39, 42, 180, 0, 14, 29, 182, 0, 136]
abbrev dktX1_lineTold_2 : List UInt8 := dkwX1_lineTold_2 ++ dktX1_lineTold_3
def dkwX1_lineTold_1 : List UInt8 := [153, 0, 86, 44, 185, 0, 52, 1, 0, 192, 0, 67, 182, 0, 69, 62, 43, 43, 182, 1, 50, 154, 0, 9]
abbrev dktX1_lineTold_1 : List UInt8 := dkwX1_lineTold_1 ++ dktX1_lineTold_2
def dkwX1_lineTold_0 : List UInt8 := [187, 1, 25, 89, 183, 1, 27, 76, 42, 180, 0, 23, 182, 0, 66, 77, 44, 185, 0, 46, 1, 0]
abbrev dktX1_lineTold_0 : List UInt8 := dkwX1_lineTold_0 ++ dktX1_lineTold_1
theorem dksX1_lineTold_0 : cX1_lineTold.data.toList.drop 0 = dktX1_lineTold_0 := by decide +kernel
theorem dksX1_lineTold_1 : cX1_lineTold.data.toList.drop 22 = dktX1_lineTold_1 := dk_seg dksX1_lineTold_0 22 rfl rfl
theorem dksX1_lineTold_2 : cX1_lineTold.data.toList.drop 46 = dktX1_lineTold_2 := dk_seg dksX1_lineTold_1 24 rfl rfl
theorem dksX1_lineTold_3 : cX1_lineTold.data.toList.drop 70 = dktX1_lineTold_3 := dk_seg dksX1_lineTold_2 24 rfl rfl
theorem dksX1_lineTold_4 : cX1_lineTold.data.toList.drop 93 = dktX1_lineTold_4 := dk_seg dksX1_lineTold_3 23 rfl rfl
theorem dX1_lineTold_0 : decode cX1_lineTold 0 = .ok (.new 281, 3) := dk_187 1 25 (dk_at dksX1_lineTold_0 0 rfl rfl)
theorem dX1_lineTold_3 : decode cX1_lineTold 3 = .ok (.dup, 1) := dk_89 (dk_at dksX1_lineTold_0 3 rfl rfl)
theorem dX1_lineTold_4 : decode cX1_lineTold 4 = .ok (.invokespecial 283, 3) := dk_183 1 27 (dk_at dksX1_lineTold_0 4 rfl rfl)
theorem dX1_lineTold_7 : decode cX1_lineTold 7 = .ok (.astore_n 1, 1) := dk_76 (dk_at dksX1_lineTold_0 7 rfl rfl)
theorem dX1_lineTold_8 : decode cX1_lineTold 8 = .ok (.aload_n 0, 1) := dk_42 (dk_at dksX1_lineTold_0 8 rfl rfl)
theorem dX1_lineTold_9 : decode cX1_lineTold 9 = .ok (.getfield 23, 3) := dk_180 0 23 (dk_at dksX1_lineTold_0 9 rfl rfl)
theorem dX1_lineTold_12 : decode cX1_lineTold 12 = .ok (.invokevirtual 66, 3) := dk_182 0 66 (dk_at dksX1_lineTold_0 12 rfl rfl)
theorem dX1_lineTold_15 : decode cX1_lineTold 15 = .ok (.astore_n 2, 1) := dk_77 (dk_at dksX1_lineTold_0 15 rfl rfl)
theorem dX1_lineTold_16 : decode cX1_lineTold 16 = .ok (.aload_n 2, 1) := dk_44 (dk_at dksX1_lineTold_0 16 rfl rfl)
theorem dX1_lineTold_17 : decode cX1_lineTold 17 = .ok (.invokeinterface 46 1, 5) := by decide +kernel
theorem dX1_lineTold_22 : decode cX1_lineTold 22 = .ok (.ifCond .eq 86, 3) := dk_153 0 86 (dk_at dksX1_lineTold_1 0 rfl rfl)
theorem dX1_lineTold_25 : decode cX1_lineTold 25 = .ok (.aload_n 2, 1) := dk_44 (dk_at dksX1_lineTold_1 3 rfl rfl)
theorem dX1_lineTold_26 : decode cX1_lineTold 26 = .ok (.invokeinterface 52 1, 5) := by decide +kernel
theorem dX1_lineTold_31 : decode cX1_lineTold 31 = .ok (.checkcast 67, 3) := dk_192 0 67 (dk_at dksX1_lineTold_1 9 rfl rfl)
theorem dX1_lineTold_34 : decode cX1_lineTold 34 = .ok (.invokevirtual 69, 3) := dk_182 0 69 (dk_at dksX1_lineTold_1 12 rfl rfl)
theorem dX1_lineTold_37 : decode cX1_lineTold 37 = .ok (.istore_n 3, 1) := dk_62 (dk_at dksX1_lineTold_1 15 rfl rfl)
theorem dX1_lineTold_38 : decode cX1_lineTold 38 = .ok (.aload_n 1, 1) := dk_43 (dk_at dksX1_lineTold_1 16 rfl rfl)
theorem dX1_lineTold_39 : decode cX1_lineTold 39 = .ok (.aload_n 1, 1) := dk_43 (dk_at dksX1_lineTold_1 17 rfl rfl)
theorem dX1_lineTold_40 : decode cX1_lineTold 40 = .ok (.invokevirtual 306, 3) := dk_182 1 50 (dk_at dksX1_lineTold_1 18 rfl rfl)
theorem dX1_lineTold_43 : decode cX1_lineTold 43 = .ok (.ifCond .ne 9, 3) := dk_154 0 9 (dk_at dksX1_lineTold_1 21 rfl rfl)
theorem dX1_lineTold_46 : decode cX1_lineTold 46 = .ok (.ldc_w 284, 3) := dk_19 1 28 (dk_at dksX1_lineTold_2 0 rfl rfl)
theorem dX1_lineTold_49 : decode cX1_lineTold 49 = .ok (.goto 6, 3) := dk_167 0 6 (dk_at dksX1_lineTold_2 3 rfl rfl)
theorem dX1_lineTold_52 : decode cX1_lineTold 52 = .ok (.ldc_w 309, 3) := dk_19 1 53 (dk_at dksX1_lineTold_2 6 rfl rfl)
theorem dX1_lineTold_55 : decode cX1_lineTold 55 = .ok (.invokevirtual 288, 3) := dk_182 1 32 (dk_at dksX1_lineTold_2 9 rfl rfl)
theorem dX1_lineTold_58 : decode cX1_lineTold 58 = .ok (.iload_n 3, 1) := dk_29 (dk_at dksX1_lineTold_2 12 rfl rfl)
theorem dX1_lineTold_59 : decode cX1_lineTold 59 = .ok (.invokevirtual 295, 3) := dk_182 1 39 (dk_at dksX1_lineTold_2 13 rfl rfl)
theorem dX1_lineTold_62 : decode cX1_lineTold 62 = .ok (.aload_n 0, 1) := dk_42 (dk_at dksX1_lineTold_2 16 rfl rfl)
theorem dX1_lineTold_63 : decode cX1_lineTold 63 = .ok (.getfield 14, 3) := dk_180 0 14 (dk_at dksX1_lineTold_2 17 rfl rfl)
theorem dX1_lineTold_66 : decode cX1_lineTold 66 = .ok (.iload_n 3, 1) := dk_29 (dk_at dksX1_lineTold_2 20 rfl rfl)
theorem dX1_lineTold_67 : decode cX1_lineTold 67 = .ok (.invokevirtual 136, 3) := dk_182 0 136 (dk_at dksX1_lineTold_2 21 rfl rfl)
theorem dX1_lineTold_70 : decode cX1_lineTold 70 = .ok (.checkcast 56, 3) := dk_192 0 56 (dk_at dksX1_lineTold_3 0 rfl rfl)
theorem dX1_lineTold_73 : decode cX1_lineTold 73 = .ok (.getfield 154, 3) := dk_180 0 154 (dk_at dksX1_lineTold_3 3 rfl rfl)
theorem dX1_lineTold_76 : decode cX1_lineTold 76 = .ok (.ifCond .eq 9, 3) := dk_153 0 9 (dk_at dksX1_lineTold_3 6 rfl rfl)
theorem dX1_lineTold_79 : decode cX1_lineTold 79 = .ok (.ldc_w 311, 3) := dk_19 1 55 (dk_at dksX1_lineTold_3 9 rfl rfl)
theorem dX1_lineTold_82 : decode cX1_lineTold 82 = .ok (.goto 6, 3) := dk_167 0 6 (dk_at dksX1_lineTold_3 12 rfl rfl)
theorem dX1_lineTold_85 : decode cX1_lineTold 85 = .ok (.ldc_w 284, 3) := dk_19 1 28 (dk_at dksX1_lineTold_3 15 rfl rfl)
theorem dX1_lineTold_88 : decode cX1_lineTold 88 = .ok (.invokevirtual 288, 3) := dk_182 1 32 (dk_at dksX1_lineTold_3 18 rfl rfl)
theorem dX1_lineTold_91 : decode cX1_lineTold 91 = .ok (.bipush 58, 2) := dk_16 58 (dk_at dksX1_lineTold_3 21 rfl rfl)
theorem dX1_lineTold_93 : decode cX1_lineTold 93 = .ok (.invokevirtual 292, 3) := dk_182 1 36 (dk_at dksX1_lineTold_4 0 rfl rfl)
theorem dX1_lineTold_96 : decode cX1_lineTold 96 = .ok (.aload_n 0, 1) := dk_42 (dk_at dksX1_lineTold_4 3 rfl rfl)
theorem dX1_lineTold_97 : decode cX1_lineTold 97 = .ok (.iload_n 3, 1) := dk_29 (dk_at dksX1_lineTold_4 4 rfl rfl)
theorem dX1_lineTold_98 : decode cX1_lineTold 98 = .ok (.invokevirtual 164, 3) := dk_182 0 164 (dk_at dksX1_lineTold_4 5 rfl rfl)
theorem dX1_lineTold_101 : decode cX1_lineTold 101 = .ok (.invokevirtual 295, 3) := dk_182 1 39 (dk_at dksX1_lineTold_4 8 rfl rfl)
theorem dX1_lineTold_104 : decode cX1_lineTold 104 = .ok (.pop, 1) := dk_87 (dk_at dksX1_lineTold_4 11 rfl rfl)
theorem dX1_lineTold_105 : decode cX1_lineTold 105 = .ok (.goto (-89), 3) := dk_167 255 167 (dk_at dksX1_lineTold_4 12 rfl rfl)
theorem dX1_lineTold_108 : decode cX1_lineTold 108 = .ok (.aload_n 1, 1) := dk_43 (dk_at dksX1_lineTold_4 15 rfl rfl)
theorem dX1_lineTold_109 : decode cX1_lineTold 109 = .ok (.invokevirtual 302, 3) := dk_182 1 46 (dk_at dksX1_lineTold_4 16 rfl rfl)
theorem dX1_lineTold_112 : decode cX1_lineTold 112 = .ok (.areturn, 1) := dk_176 (dk_at dksX1_lineTold_4 19 rfl rfl)
abbrev cX1_so : ByteArray := prog_5_method_36_code
def yX1_so : MethodName := ⟨RX1, "so", "(I)I"⟩
def dkwX1_so_2 : List UInt8 := [3, 96, 61, 167, 255, 219, 28, 172]
abbrev dktX1_so_2 : List UInt8 := dkwX1_so_2 ++ []
def dkwX1_so_1 : List UInt8 := [185, 0, 52, 1, 0, 192, 0, 56, 58, 4, 28, 25, 4, 180, 0, 241, 27, 160, 0, 7, 4, 167, 0, 4]
abbrev dktX1_so_1 : List UInt8 := dkwX1_so_1 ++ dktX1_so_2
def dkwX1_so_0 : List UInt8 := [3, 61, 42, 180, 0, 14, 182, 0, 42, 78, 45, 185, 0, 46, 1, 0, 153, 0, 34, 45]
abbrev dktX1_so_0 : List UInt8 := dkwX1_so_0 ++ dktX1_so_1
theorem dksX1_so_0 : cX1_so.data.toList.drop 0 = dktX1_so_0 := by decide +kernel
theorem dksX1_so_1 : cX1_so.data.toList.drop 20 = dktX1_so_1 := dk_seg dksX1_so_0 20 rfl rfl
theorem dksX1_so_2 : cX1_so.data.toList.drop 44 = dktX1_so_2 := dk_seg dksX1_so_1 24 rfl rfl
theorem dX1_so_0 : decode cX1_so 0 = .ok (.iconst 0, 1) := dk_3 (dk_at dksX1_so_0 0 rfl rfl)
theorem dX1_so_1 : decode cX1_so 1 = .ok (.istore_n 2, 1) := dk_61 (dk_at dksX1_so_0 1 rfl rfl)
theorem dX1_so_2 : decode cX1_so 2 = .ok (.aload_n 0, 1) := dk_42 (dk_at dksX1_so_0 2 rfl rfl)
theorem dX1_so_3 : decode cX1_so 3 = .ok (.getfield 14, 3) := dk_180 0 14 (dk_at dksX1_so_0 3 rfl rfl)
theorem dX1_so_6 : decode cX1_so 6 = .ok (.invokevirtual 42, 3) := dk_182 0 42 (dk_at dksX1_so_0 6 rfl rfl)
theorem dX1_so_9 : decode cX1_so 9 = .ok (.astore_n 3, 1) := dk_78 (dk_at dksX1_so_0 9 rfl rfl)
theorem dX1_so_10 : decode cX1_so 10 = .ok (.aload_n 3, 1) := dk_45 (dk_at dksX1_so_0 10 rfl rfl)
theorem dX1_so_11 : decode cX1_so 11 = .ok (.invokeinterface 46 1, 5) := by decide +kernel
theorem dX1_so_16 : decode cX1_so 16 = .ok (.ifCond .eq 34, 3) := dk_153 0 34 (dk_at dksX1_so_0 16 rfl rfl)
theorem dX1_so_19 : decode cX1_so 19 = .ok (.aload_n 3, 1) := dk_45 (dk_at dksX1_so_0 19 rfl rfl)
theorem dX1_so_20 : decode cX1_so 20 = .ok (.invokeinterface 52 1, 5) := by decide +kernel
theorem dX1_so_25 : decode cX1_so 25 = .ok (.checkcast 56, 3) := dk_192 0 56 (dk_at dksX1_so_1 5 rfl rfl)
theorem dX1_so_28 : decode cX1_so 28 = .ok (.astore 4, 2) := dk_58 4 (dk_at dksX1_so_1 8 rfl rfl)
theorem dX1_so_30 : decode cX1_so 30 = .ok (.iload_n 2, 1) := dk_28 (dk_at dksX1_so_1 10 rfl rfl)
theorem dX1_so_31 : decode cX1_so 31 = .ok (.aload 4, 2) := dk_25 4 (dk_at dksX1_so_1 11 rfl rfl)
theorem dX1_so_33 : decode cX1_so 33 = .ok (.getfield 241, 3) := dk_180 0 241 (dk_at dksX1_so_1 13 rfl rfl)
theorem dX1_so_36 : decode cX1_so 36 = .ok (.iload_n 1, 1) := dk_27 (dk_at dksX1_so_1 16 rfl rfl)
theorem dX1_so_37 : decode cX1_so 37 = .ok (.if_icmp .ne 7, 3) := dk_160 0 7 (dk_at dksX1_so_1 17 rfl rfl)
theorem dX1_so_40 : decode cX1_so 40 = .ok (.iconst 1, 1) := dk_4 (dk_at dksX1_so_1 20 rfl rfl)
theorem dX1_so_41 : decode cX1_so 41 = .ok (.goto 4, 3) := dk_167 0 4 (dk_at dksX1_so_1 21 rfl rfl)
theorem dX1_so_44 : decode cX1_so 44 = .ok (.iconst 0, 1) := dk_3 (dk_at dksX1_so_2 0 rfl rfl)
theorem dX1_so_45 : decode cX1_so 45 = .ok (.iadd, 1) := dk_96 (dk_at dksX1_so_2 1 rfl rfl)
theorem dX1_so_46 : decode cX1_so 46 = .ok (.istore_n 2, 1) := dk_61 (dk_at dksX1_so_2 2 rfl rfl)
theorem dX1_so_47 : decode cX1_so 47 = .ok (.goto (-37), 3) := dk_167 255 219 (dk_at dksX1_so_2 3 rfl rfl)
theorem dX1_so_50 : decode cX1_so 50 = .ok (.iload_n 2, 1) := dk_28 (dk_at dksX1_so_2 6 rfl rfl)
theorem dX1_so_51 : decode cX1_so 51 = .ok (.ireturn, 1) := dk_172 (dk_at dksX1_so_2 7 rfl rfl)
abbrev cX1_underBan : ByteArray := prog_5_method_37_code
def yX1_underBan : MethodName := ⟨RX1, "underBan", "()I"⟩
def dkwX1_underBan_2 : List UInt8 := [167, 255, 222, 27, 172]
abbrev dktX1_underBan_2 : List UInt8 := dkwX1_underBan_2 ++ []
def dkwX1_underBan_1 : List UInt8 := [185, 0, 52, 1, 0, 192, 0, 56, 78, 27, 45, 180, 0, 161, 158, 0, 7, 4, 167, 0, 4, 3, 96, 60]
abbrev dktX1_underBan_1 : List UInt8 := dkwX1_underBan_1 ++ dktX1_underBan_2
def dkwX1_underBan_0 : List UInt8 := [3, 60, 42, 182, 0, 210, 185, 0, 214, 1, 0, 77, 44, 185, 0, 46, 1, 0, 153, 0, 31, 44]
abbrev dktX1_underBan_0 : List UInt8 := dkwX1_underBan_0 ++ dktX1_underBan_1
theorem dksX1_underBan_0 : cX1_underBan.data.toList.drop 0 = dktX1_underBan_0 := by decide +kernel
theorem dksX1_underBan_1 : cX1_underBan.data.toList.drop 22 = dktX1_underBan_1 := dk_seg dksX1_underBan_0 22 rfl rfl
theorem dksX1_underBan_2 : cX1_underBan.data.toList.drop 46 = dktX1_underBan_2 := dk_seg dksX1_underBan_1 24 rfl rfl
theorem dX1_underBan_0 : decode cX1_underBan 0 = .ok (.iconst 0, 1) := dk_3 (dk_at dksX1_underBan_0 0 rfl rfl)
theorem dX1_underBan_1 : decode cX1_underBan 1 = .ok (.istore_n 1, 1) := dk_60 (dk_at dksX1_underBan_0 1 rfl rfl)
theorem dX1_underBan_2 : decode cX1_underBan 2 = .ok (.aload_n 0, 1) := dk_42 (dk_at dksX1_underBan_0 2 rfl rfl)
theorem dX1_underBan_3 : decode cX1_underBan 3 = .ok (.invokevirtual 210, 3) := dk_182 0 210 (dk_at dksX1_underBan_0 3 rfl rfl)
theorem dX1_underBan_6 : decode cX1_underBan 6 = .ok (.invokeinterface 214 1, 5) := by decide +kernel
theorem dX1_underBan_11 : decode cX1_underBan 11 = .ok (.astore_n 2, 1) := dk_77 (dk_at dksX1_underBan_0 11 rfl rfl)
theorem dX1_underBan_12 : decode cX1_underBan 12 = .ok (.aload_n 2, 1) := dk_44 (dk_at dksX1_underBan_0 12 rfl rfl)
theorem dX1_underBan_13 : decode cX1_underBan 13 = .ok (.invokeinterface 46 1, 5) := by decide +kernel
theorem dX1_underBan_18 : decode cX1_underBan 18 = .ok (.ifCond .eq 31, 3) := dk_153 0 31 (dk_at dksX1_underBan_0 18 rfl rfl)
theorem dX1_underBan_21 : decode cX1_underBan 21 = .ok (.aload_n 2, 1) := dk_44 (dk_at dksX1_underBan_0 21 rfl rfl)
theorem dX1_underBan_22 : decode cX1_underBan 22 = .ok (.invokeinterface 52 1, 5) := by decide +kernel
theorem dX1_underBan_27 : decode cX1_underBan 27 = .ok (.checkcast 56, 3) := dk_192 0 56 (dk_at dksX1_underBan_1 5 rfl rfl)
theorem dX1_underBan_30 : decode cX1_underBan 30 = .ok (.astore_n 3, 1) := dk_78 (dk_at dksX1_underBan_1 8 rfl rfl)
theorem dX1_underBan_31 : decode cX1_underBan 31 = .ok (.iload_n 1, 1) := dk_27 (dk_at dksX1_underBan_1 9 rfl rfl)
theorem dX1_underBan_32 : decode cX1_underBan 32 = .ok (.aload_n 3, 1) := dk_45 (dk_at dksX1_underBan_1 10 rfl rfl)
theorem dX1_underBan_33 : decode cX1_underBan 33 = .ok (.getfield 161, 3) := dk_180 0 161 (dk_at dksX1_underBan_1 11 rfl rfl)
theorem dX1_underBan_36 : decode cX1_underBan 36 = .ok (.ifCond .le 7, 3) := dk_158 0 7 (dk_at dksX1_underBan_1 14 rfl rfl)
theorem dX1_underBan_39 : decode cX1_underBan 39 = .ok (.iconst 1, 1) := dk_4 (dk_at dksX1_underBan_1 17 rfl rfl)
theorem dX1_underBan_40 : decode cX1_underBan 40 = .ok (.goto 4, 3) := dk_167 0 4 (dk_at dksX1_underBan_1 18 rfl rfl)
theorem dX1_underBan_43 : decode cX1_underBan 43 = .ok (.iconst 0, 1) := dk_3 (dk_at dksX1_underBan_1 21 rfl rfl)
theorem dX1_underBan_44 : decode cX1_underBan 44 = .ok (.iadd, 1) := dk_96 (dk_at dksX1_underBan_1 22 rfl rfl)
theorem dX1_underBan_45 : decode cX1_underBan 45 = .ok (.istore_n 1, 1) := dk_60 (dk_at dksX1_underBan_1 23 rfl rfl)
theorem dX1_underBan_46 : decode cX1_underBan 46 = .ok (.goto (-34), 3) := dk_167 255 222 (dk_at dksX1_underBan_2 0 rfl rfl)
theorem dX1_underBan_49 : decode cX1_underBan 49 = .ok (.iload_n 1, 1) := dk_27 (dk_at dksX1_underBan_2 3 rfl rfl)
theorem dX1_underBan_50 : decode cX1_underBan 50 = .ok (.ireturn, 1) := dk_172 (dk_at dksX1_underBan_2 4 rfl rfl)
abbrev cX1_isBalanced : ByteArray := prog_5_method_39_code
def yX1_isBalanced : MethodName := ⟨RX1, "isBalanced", "()Z"⟩
def dkwX1_isBalanced_9 : List UInt8 := [182, 1, 22, 160, 0, 7, 4, 167, 0, 4, 3, 172]
abbrev dktX1_isBalanced_9 : List UInt8 := dkwX1_isBalanced_9 ++ []
def dkwX1_isBalanced_8 : List UInt8 := [153, 0, 34, 44, 182, 1, 19, 42, 4, 182, 1, 22, 160, 0, 22, 42, 180, 0, 27, 182, 0, 153, 42, 4]
abbrev dktX1_isBalanced_8 : List UInt8 := dkwX1_isBalanced_8 ++ dktX1_isBalanced_9
def dkwX1_isBalanced_7 : List UInt8 := [160, 0, 7, 4, 167, 0, 4, 3, 126, 62, 44, 25, 5, 180, 0, 189, 182, 1, 15, 167, 255, 178, 29]
abbrev dktX1_isBalanced_7 : List UInt8 := dkwX1_isBalanced_7 ++ dktX1_isBalanced_8
def dkwX1_isBalanced_6 : List UInt8 := [180, 0, 30, 25, 5, 180, 0, 186, 46, 25, 5, 180, 0, 189, 160, 0, 16, 25, 5, 180, 0, 241, 4]
abbrev dktX1_isBalanced_6 : List UInt8 := dkwX1_isBalanced_6 ++ dktX1_isBalanced_7
def dkwX1_isBalanced_5 : List UInt8 := [185, 0, 52, 1, 0, 192, 0, 56, 58, 5, 29, 44, 25, 5, 180, 0, 189, 182, 1, 17, 154, 0, 34, 42]
abbrev dktX1_isBalanced_5 : List UInt8 := dkwX1_isBalanced_5 ++ dktX1_isBalanced_6
def dkwX1_isBalanced_4 : List UInt8 := [182, 0, 210, 185, 0, 214, 1, 0, 58, 4, 25, 4, 185, 0, 46, 1, 0, 153, 0, 74, 25, 4]
abbrev dktX1_isBalanced_4 : List UInt8 := dkwX1_isBalanced_4 ++ dktX1_isBalanced_5
def dkwX1_isBalanced_3 : List UInt8 := [180, 0, 103, 100, 160, 0, 15, 27, 42, 180, 0, 100, 160, 0, 7, 4, 167, 0, 4, 3, 62, 42]
abbrev dktX1_isBalanced_3 : List UInt8 := dkwX1_isBalanced_3 ++ dktX1_isBalanced_4
def dkwX1_isBalanced_2 : List UInt8 := [16, 16, 183, 1, 10, 77, 42, 180, 0, 37, 16, 100, 42, 180, 0, 97, 96, 42, 180, 0, 100, 100, 42]
abbrev dktX1_isBalanced_2 : List UInt8 := dkwX1_isBalanced_2 ++ dktX1_isBalanced_3
def dkwX1_isBalanced_1 : List UInt8 := [185, 0, 52, 1, 0, 192, 0, 56, 78, 27, 45, 180, 0, 223, 96, 60, 167, 255, 230, 187, 1, 8, 89]
abbrev dktX1_isBalanced_1 : List UInt8 := dkwX1_isBalanced_1 ++ dktX1_isBalanced_2
def dkwX1_isBalanced_0 : List UInt8 := [3, 60, 42, 180, 0, 14, 182, 0, 42, 77, 44, 185, 0, 46, 1, 0, 153, 0, 23, 44]
abbrev dktX1_isBalanced_0 : List UInt8 := dkwX1_isBalanced_0 ++ dktX1_isBalanced_1
theorem dksX1_isBalanced_0 : cX1_isBalanced.data.toList.drop 0 = dktX1_isBalanced_0 := by decide +kernel
theorem dksX1_isBalanced_1 : cX1_isBalanced.data.toList.drop 20 = dktX1_isBalanced_1 := dk_seg dksX1_isBalanced_0 20 rfl rfl
theorem dksX1_isBalanced_2 : cX1_isBalanced.data.toList.drop 43 = dktX1_isBalanced_2 := dk_seg dksX1_isBalanced_1 23 rfl rfl
theorem dksX1_isBalanced_3 : cX1_isBalanced.data.toList.drop 66 = dktX1_isBalanced_3 := dk_seg dksX1_isBalanced_2 23 rfl rfl
theorem dksX1_isBalanced_4 : cX1_isBalanced.data.toList.drop 88 = dktX1_isBalanced_4 := dk_seg dksX1_isBalanced_3 22 rfl rfl
theorem dksX1_isBalanced_5 : cX1_isBalanced.data.toList.drop 110 = dktX1_isBalanced_5 := dk_seg dksX1_isBalanced_4 22 rfl rfl
theorem dksX1_isBalanced_6 : cX1_isBalanced.data.toList.drop 134 = dktX1_isBalanced_6 := dk_seg dksX1_isBalanced_5 24 rfl rfl
theorem dksX1_isBalanced_7 : cX1_isBalanced.data.toList.drop 157 = dktX1_isBalanced_7 := dk_seg dksX1_isBalanced_6 23 rfl rfl
theorem dksX1_isBalanced_8 : cX1_isBalanced.data.toList.drop 180 = dktX1_isBalanced_8 := dk_seg dksX1_isBalanced_7 23 rfl rfl
theorem dksX1_isBalanced_9 : cX1_isBalanced.data.toList.drop 204 = dktX1_isBalanced_9 := dk_seg dksX1_isBalanced_8 24 rfl rfl
theorem dX1_isBalanced_0 : decode cX1_isBalanced 0 = .ok (.iconst 0, 1) := dk_3 (dk_at dksX1_isBalanced_0 0 rfl rfl)
theorem dX1_isBalanced_1 : decode cX1_isBalanced 1 = .ok (.istore_n 1, 1) := dk_60 (dk_at dksX1_isBalanced_0 1 rfl rfl)
theorem dX1_isBalanced_2 : decode cX1_isBalanced 2 = .ok (.aload_n 0, 1) := dk_42 (dk_at dksX1_isBalanced_0 2 rfl rfl)
theorem dX1_isBalanced_3 : decode cX1_isBalanced 3 = .ok (.getfield 14, 3) := dk_180 0 14 (dk_at dksX1_isBalanced_0 3 rfl rfl)
theorem dX1_isBalanced_6 : decode cX1_isBalanced 6 = .ok (.invokevirtual 42, 3) := dk_182 0 42 (dk_at dksX1_isBalanced_0 6 rfl rfl)
theorem dX1_isBalanced_9 : decode cX1_isBalanced 9 = .ok (.astore_n 2, 1) := dk_77 (dk_at dksX1_isBalanced_0 9 rfl rfl)
theorem dX1_isBalanced_10 : decode cX1_isBalanced 10 = .ok (.aload_n 2, 1) := dk_44 (dk_at dksX1_isBalanced_0 10 rfl rfl)
theorem dX1_isBalanced_11 : decode cX1_isBalanced 11 = .ok (.invokeinterface 46 1, 5) := by decide +kernel
theorem dX1_isBalanced_16 : decode cX1_isBalanced 16 = .ok (.ifCond .eq 23, 3) := dk_153 0 23 (dk_at dksX1_isBalanced_0 16 rfl rfl)
theorem dX1_isBalanced_19 : decode cX1_isBalanced 19 = .ok (.aload_n 2, 1) := dk_44 (dk_at dksX1_isBalanced_0 19 rfl rfl)
theorem dX1_isBalanced_20 : decode cX1_isBalanced 20 = .ok (.invokeinterface 52 1, 5) := by decide +kernel
theorem dX1_isBalanced_25 : decode cX1_isBalanced 25 = .ok (.checkcast 56, 3) := dk_192 0 56 (dk_at dksX1_isBalanced_1 5 rfl rfl)
theorem dX1_isBalanced_28 : decode cX1_isBalanced 28 = .ok (.astore_n 3, 1) := dk_78 (dk_at dksX1_isBalanced_1 8 rfl rfl)
theorem dX1_isBalanced_29 : decode cX1_isBalanced 29 = .ok (.iload_n 1, 1) := dk_27 (dk_at dksX1_isBalanced_1 9 rfl rfl)
theorem dX1_isBalanced_30 : decode cX1_isBalanced 30 = .ok (.aload_n 3, 1) := dk_45 (dk_at dksX1_isBalanced_1 10 rfl rfl)
theorem dX1_isBalanced_31 : decode cX1_isBalanced 31 = .ok (.getfield 223, 3) := dk_180 0 223 (dk_at dksX1_isBalanced_1 11 rfl rfl)
theorem dX1_isBalanced_34 : decode cX1_isBalanced 34 = .ok (.iadd, 1) := dk_96 (dk_at dksX1_isBalanced_1 14 rfl rfl)
theorem dX1_isBalanced_35 : decode cX1_isBalanced 35 = .ok (.istore_n 1, 1) := dk_60 (dk_at dksX1_isBalanced_1 15 rfl rfl)
theorem dX1_isBalanced_36 : decode cX1_isBalanced 36 = .ok (.goto (-26), 3) := dk_167 255 230 (dk_at dksX1_isBalanced_1 16 rfl rfl)
theorem dX1_isBalanced_39 : decode cX1_isBalanced 39 = .ok (.new 264, 3) := dk_187 1 8 (dk_at dksX1_isBalanced_1 19 rfl rfl)
theorem dX1_isBalanced_42 : decode cX1_isBalanced 42 = .ok (.dup, 1) := dk_89 (dk_at dksX1_isBalanced_1 22 rfl rfl)
theorem dX1_isBalanced_43 : decode cX1_isBalanced 43 = .ok (.bipush 16, 2) := dk_16 16 (dk_at dksX1_isBalanced_2 0 rfl rfl)
theorem dX1_isBalanced_45 : decode cX1_isBalanced 45 = .ok (.invokespecial 266, 3) := dk_183 1 10 (dk_at dksX1_isBalanced_2 2 rfl rfl)
theorem dX1_isBalanced_48 : decode cX1_isBalanced 48 = .ok (.astore_n 2, 1) := dk_77 (dk_at dksX1_isBalanced_2 5 rfl rfl)
theorem dX1_isBalanced_49 : decode cX1_isBalanced 49 = .ok (.aload_n 0, 1) := dk_42 (dk_at dksX1_isBalanced_2 6 rfl rfl)
theorem dX1_isBalanced_50 : decode cX1_isBalanced 50 = .ok (.getfield 37, 3) := dk_180 0 37 (dk_at dksX1_isBalanced_2 7 rfl rfl)
theorem dX1_isBalanced_53 : decode cX1_isBalanced 53 = .ok (.bipush 100, 2) := dk_16 100 (dk_at dksX1_isBalanced_2 10 rfl rfl)
theorem dX1_isBalanced_55 : decode cX1_isBalanced 55 = .ok (.aload_n 0, 1) := dk_42 (dk_at dksX1_isBalanced_2 12 rfl rfl)
theorem dX1_isBalanced_56 : decode cX1_isBalanced 56 = .ok (.getfield 97, 3) := dk_180 0 97 (dk_at dksX1_isBalanced_2 13 rfl rfl)
theorem dX1_isBalanced_59 : decode cX1_isBalanced 59 = .ok (.iadd, 1) := dk_96 (dk_at dksX1_isBalanced_2 16 rfl rfl)
theorem dX1_isBalanced_60 : decode cX1_isBalanced 60 = .ok (.aload_n 0, 1) := dk_42 (dk_at dksX1_isBalanced_2 17 rfl rfl)
theorem dX1_isBalanced_61 : decode cX1_isBalanced 61 = .ok (.getfield 100, 3) := dk_180 0 100 (dk_at dksX1_isBalanced_2 18 rfl rfl)
theorem dX1_isBalanced_64 : decode cX1_isBalanced 64 = .ok (.isub, 1) := dk_100 (dk_at dksX1_isBalanced_2 21 rfl rfl)
theorem dX1_isBalanced_65 : decode cX1_isBalanced 65 = .ok (.aload_n 0, 1) := dk_42 (dk_at dksX1_isBalanced_2 22 rfl rfl)
theorem dX1_isBalanced_66 : decode cX1_isBalanced 66 = .ok (.getfield 103, 3) := dk_180 0 103 (dk_at dksX1_isBalanced_3 0 rfl rfl)
theorem dX1_isBalanced_69 : decode cX1_isBalanced 69 = .ok (.isub, 1) := dk_100 (dk_at dksX1_isBalanced_3 3 rfl rfl)
theorem dX1_isBalanced_70 : decode cX1_isBalanced 70 = .ok (.if_icmp .ne 15, 3) := dk_160 0 15 (dk_at dksX1_isBalanced_3 4 rfl rfl)
theorem dX1_isBalanced_73 : decode cX1_isBalanced 73 = .ok (.iload_n 1, 1) := dk_27 (dk_at dksX1_isBalanced_3 7 rfl rfl)
theorem dX1_isBalanced_74 : decode cX1_isBalanced 74 = .ok (.aload_n 0, 1) := dk_42 (dk_at dksX1_isBalanced_3 8 rfl rfl)
theorem dX1_isBalanced_75 : decode cX1_isBalanced 75 = .ok (.getfield 100, 3) := dk_180 0 100 (dk_at dksX1_isBalanced_3 9 rfl rfl)
theorem dX1_isBalanced_78 : decode cX1_isBalanced 78 = .ok (.if_icmp .ne 7, 3) := dk_160 0 7 (dk_at dksX1_isBalanced_3 12 rfl rfl)
theorem dX1_isBalanced_81 : decode cX1_isBalanced 81 = .ok (.iconst 1, 1) := dk_4 (dk_at dksX1_isBalanced_3 15 rfl rfl)
theorem dX1_isBalanced_82 : decode cX1_isBalanced 82 = .ok (.goto 4, 3) := dk_167 0 4 (dk_at dksX1_isBalanced_3 16 rfl rfl)
theorem dX1_isBalanced_85 : decode cX1_isBalanced 85 = .ok (.iconst 0, 1) := dk_3 (dk_at dksX1_isBalanced_3 19 rfl rfl)
theorem dX1_isBalanced_86 : decode cX1_isBalanced 86 = .ok (.istore_n 3, 1) := dk_62 (dk_at dksX1_isBalanced_3 20 rfl rfl)
theorem dX1_isBalanced_87 : decode cX1_isBalanced 87 = .ok (.aload_n 0, 1) := dk_42 (dk_at dksX1_isBalanced_3 21 rfl rfl)
theorem dX1_isBalanced_88 : decode cX1_isBalanced 88 = .ok (.invokevirtual 210, 3) := dk_182 0 210 (dk_at dksX1_isBalanced_4 0 rfl rfl)
theorem dX1_isBalanced_91 : decode cX1_isBalanced 91 = .ok (.invokeinterface 214 1, 5) := by decide +kernel
theorem dX1_isBalanced_96 : decode cX1_isBalanced 96 = .ok (.astore 4, 2) := dk_58 4 (dk_at dksX1_isBalanced_4 8 rfl rfl)
theorem dX1_isBalanced_98 : decode cX1_isBalanced 98 = .ok (.aload 4, 2) := dk_25 4 (dk_at dksX1_isBalanced_4 10 rfl rfl)
theorem dX1_isBalanced_100 : decode cX1_isBalanced 100 = .ok (.invokeinterface 46 1, 5) := by decide +kernel
theorem dX1_isBalanced_105 : decode cX1_isBalanced 105 = .ok (.ifCond .eq 74, 3) := dk_153 0 74 (dk_at dksX1_isBalanced_4 17 rfl rfl)
theorem dX1_isBalanced_108 : decode cX1_isBalanced 108 = .ok (.aload 4, 2) := dk_25 4 (dk_at dksX1_isBalanced_4 20 rfl rfl)
theorem dX1_isBalanced_110 : decode cX1_isBalanced 110 = .ok (.invokeinterface 52 1, 5) := by decide +kernel
theorem dX1_isBalanced_115 : decode cX1_isBalanced 115 = .ok (.checkcast 56, 3) := dk_192 0 56 (dk_at dksX1_isBalanced_5 5 rfl rfl)
theorem dX1_isBalanced_118 : decode cX1_isBalanced 118 = .ok (.astore 5, 2) := dk_58 5 (dk_at dksX1_isBalanced_5 8 rfl rfl)
theorem dX1_isBalanced_120 : decode cX1_isBalanced 120 = .ok (.iload_n 3, 1) := dk_29 (dk_at dksX1_isBalanced_5 10 rfl rfl)
theorem dX1_isBalanced_121 : decode cX1_isBalanced 121 = .ok (.aload_n 2, 1) := dk_44 (dk_at dksX1_isBalanced_5 11 rfl rfl)
theorem dX1_isBalanced_122 : decode cX1_isBalanced 122 = .ok (.aload 5, 2) := dk_25 5 (dk_at dksX1_isBalanced_5 12 rfl rfl)
theorem dX1_isBalanced_124 : decode cX1_isBalanced 124 = .ok (.getfield 189, 3) := dk_180 0 189 (dk_at dksX1_isBalanced_5 14 rfl rfl)
theorem dX1_isBalanced_127 : decode cX1_isBalanced 127 = .ok (.invokevirtual 273, 3) := dk_182 1 17 (dk_at dksX1_isBalanced_5 17 rfl rfl)
theorem dX1_isBalanced_130 : decode cX1_isBalanced 130 = .ok (.ifCond .ne 34, 3) := dk_154 0 34 (dk_at dksX1_isBalanced_5 20 rfl rfl)
theorem dX1_isBalanced_133 : decode cX1_isBalanced 133 = .ok (.aload_n 0, 1) := dk_42 (dk_at dksX1_isBalanced_5 23 rfl rfl)
theorem dX1_isBalanced_134 : decode cX1_isBalanced 134 = .ok (.getfield 30, 3) := dk_180 0 30 (dk_at dksX1_isBalanced_6 0 rfl rfl)
theorem dX1_isBalanced_137 : decode cX1_isBalanced 137 = .ok (.aload 5, 2) := dk_25 5 (dk_at dksX1_isBalanced_6 3 rfl rfl)
theorem dX1_isBalanced_139 : decode cX1_isBalanced 139 = .ok (.getfield 186, 3) := dk_180 0 186 (dk_at dksX1_isBalanced_6 5 rfl rfl)
theorem dX1_isBalanced_142 : decode cX1_isBalanced 142 = .ok (.iaload, 1) := dk_46 (dk_at dksX1_isBalanced_6 8 rfl rfl)
theorem dX1_isBalanced_143 : decode cX1_isBalanced 143 = .ok (.aload 5, 2) := dk_25 5 (dk_at dksX1_isBalanced_6 9 rfl rfl)
theorem dX1_isBalanced_145 : decode cX1_isBalanced 145 = .ok (.getfield 189, 3) := dk_180 0 189 (dk_at dksX1_isBalanced_6 11 rfl rfl)
theorem dX1_isBalanced_148 : decode cX1_isBalanced 148 = .ok (.if_icmp .ne 16, 3) := dk_160 0 16 (dk_at dksX1_isBalanced_6 14 rfl rfl)
theorem dX1_isBalanced_151 : decode cX1_isBalanced 151 = .ok (.aload 5, 2) := dk_25 5 (dk_at dksX1_isBalanced_6 17 rfl rfl)
theorem dX1_isBalanced_153 : decode cX1_isBalanced 153 = .ok (.getfield 241, 3) := dk_180 0 241 (dk_at dksX1_isBalanced_6 19 rfl rfl)
theorem dX1_isBalanced_156 : decode cX1_isBalanced 156 = .ok (.iconst 1, 1) := dk_4 (dk_at dksX1_isBalanced_6 22 rfl rfl)
theorem dX1_isBalanced_157 : decode cX1_isBalanced 157 = .ok (.if_icmp .ne 7, 3) := dk_160 0 7 (dk_at dksX1_isBalanced_7 0 rfl rfl)
theorem dX1_isBalanced_160 : decode cX1_isBalanced 160 = .ok (.iconst 1, 1) := dk_4 (dk_at dksX1_isBalanced_7 3 rfl rfl)
theorem dX1_isBalanced_161 : decode cX1_isBalanced 161 = .ok (.goto 4, 3) := dk_167 0 4 (dk_at dksX1_isBalanced_7 4 rfl rfl)
theorem dX1_isBalanced_164 : decode cX1_isBalanced 164 = .ok (.iconst 0, 1) := dk_3 (dk_at dksX1_isBalanced_7 7 rfl rfl)
theorem dX1_isBalanced_165 : decode cX1_isBalanced 165 = .ok (.iand, 1) := dk_126 (dk_at dksX1_isBalanced_7 8 rfl rfl)
theorem dX1_isBalanced_166 : decode cX1_isBalanced 166 = .ok (.istore_n 3, 1) := dk_62 (dk_at dksX1_isBalanced_7 9 rfl rfl)
theorem dX1_isBalanced_167 : decode cX1_isBalanced 167 = .ok (.aload_n 2, 1) := dk_44 (dk_at dksX1_isBalanced_7 10 rfl rfl)
theorem dX1_isBalanced_168 : decode cX1_isBalanced 168 = .ok (.aload 5, 2) := dk_25 5 (dk_at dksX1_isBalanced_7 11 rfl rfl)
theorem dX1_isBalanced_170 : decode cX1_isBalanced 170 = .ok (.getfield 189, 3) := dk_180 0 189 (dk_at dksX1_isBalanced_7 13 rfl rfl)
theorem dX1_isBalanced_173 : decode cX1_isBalanced 173 = .ok (.invokevirtual 271, 3) := dk_182 1 15 (dk_at dksX1_isBalanced_7 16 rfl rfl)
theorem dX1_isBalanced_176 : decode cX1_isBalanced 176 = .ok (.goto (-78), 3) := dk_167 255 178 (dk_at dksX1_isBalanced_7 19 rfl rfl)
theorem dX1_isBalanced_179 : decode cX1_isBalanced 179 = .ok (.iload_n 3, 1) := dk_29 (dk_at dksX1_isBalanced_7 22 rfl rfl)
theorem dX1_isBalanced_180 : decode cX1_isBalanced 180 = .ok (.ifCond .eq 34, 3) := dk_153 0 34 (dk_at dksX1_isBalanced_8 0 rfl rfl)
theorem dX1_isBalanced_183 : decode cX1_isBalanced 183 = .ok (.aload_n 2, 1) := dk_44 (dk_at dksX1_isBalanced_8 3 rfl rfl)
theorem dX1_isBalanced_184 : decode cX1_isBalanced 184 = .ok (.invokevirtual 275, 3) := dk_182 1 19 (dk_at dksX1_isBalanced_8 4 rfl rfl)
theorem dX1_isBalanced_187 : decode cX1_isBalanced 187 = .ok (.aload_n 0, 1) := dk_42 (dk_at dksX1_isBalanced_8 7 rfl rfl)
theorem dX1_isBalanced_188 : decode cX1_isBalanced 188 = .ok (.iconst 1, 1) := dk_4 (dk_at dksX1_isBalanced_8 8 rfl rfl)
theorem dX1_isBalanced_189 : decode cX1_isBalanced 189 = .ok (.invokevirtual 278, 3) := dk_182 1 22 (dk_at dksX1_isBalanced_8 9 rfl rfl)
theorem dX1_isBalanced_192 : decode cX1_isBalanced 192 = .ok (.if_icmp .ne 22, 3) := dk_160 0 22 (dk_at dksX1_isBalanced_8 12 rfl rfl)
theorem dX1_isBalanced_195 : decode cX1_isBalanced 195 = .ok (.aload_n 0, 1) := dk_42 (dk_at dksX1_isBalanced_8 15 rfl rfl)
theorem dX1_isBalanced_196 : decode cX1_isBalanced 196 = .ok (.getfield 27, 3) := dk_180 0 27 (dk_at dksX1_isBalanced_8 16 rfl rfl)
theorem dX1_isBalanced_199 : decode cX1_isBalanced 199 = .ok (.invokevirtual 153, 3) := dk_182 0 153 (dk_at dksX1_isBalanced_8 19 rfl rfl)
theorem dX1_isBalanced_202 : decode cX1_isBalanced 202 = .ok (.aload_n 0, 1) := dk_42 (dk_at dksX1_isBalanced_8 22 rfl rfl)
theorem dX1_isBalanced_203 : decode cX1_isBalanced 203 = .ok (.iconst 1, 1) := dk_4 (dk_at dksX1_isBalanced_8 23 rfl rfl)
theorem dX1_isBalanced_204 : decode cX1_isBalanced 204 = .ok (.invokevirtual 278, 3) := dk_182 1 22 (dk_at dksX1_isBalanced_9 0 rfl rfl)
theorem dX1_isBalanced_207 : decode cX1_isBalanced 207 = .ok (.if_icmp .ne 7, 3) := dk_160 0 7 (dk_at dksX1_isBalanced_9 3 rfl rfl)
theorem dX1_isBalanced_210 : decode cX1_isBalanced 210 = .ok (.iconst 1, 1) := dk_4 (dk_at dksX1_isBalanced_9 6 rfl rfl)
theorem dX1_isBalanced_211 : decode cX1_isBalanced 211 = .ok (.goto 4, 3) := dk_167 0 4 (dk_at dksX1_isBalanced_9 7 rfl rfl)
theorem dX1_isBalanced_214 : decode cX1_isBalanced 214 = .ok (.iconst 0, 1) := dk_3 (dk_at dksX1_isBalanced_9 10 rfl rfl)
theorem dX1_isBalanced_215 : decode cX1_isBalanced 215 = .ok (.ireturn, 1) := dk_172 (dk_at dksX1_isBalanced_9 11 rfl rfl)
abbrev cX1_ages : ByteArray := prog_5_method_38_code
def yX1_ages : MethodName := ⟨RX1, "ages", "()I"⟩
def dkwX1_ages_1 : List UInt8 := [185, 0, 52, 1, 0, 192, 0, 56, 78, 27, 45, 180, 0, 235, 96, 60, 167, 255, 230, 27, 172]
abbrev dktX1_ages_1 : List UInt8 := dkwX1_ages_1 ++ []
def dkwX1_ages_0 : List UInt8 := [3, 60, 42, 182, 0, 210, 185, 0, 214, 1, 0, 77, 44, 185, 0, 46, 1, 0, 153, 0, 23, 44]
abbrev dktX1_ages_0 : List UInt8 := dkwX1_ages_0 ++ dktX1_ages_1
theorem dksX1_ages_0 : cX1_ages.data.toList.drop 0 = dktX1_ages_0 := by decide +kernel
theorem dksX1_ages_1 : cX1_ages.data.toList.drop 22 = dktX1_ages_1 := dk_seg dksX1_ages_0 22 rfl rfl
theorem dX1_ages_0 : decode cX1_ages 0 = .ok (.iconst 0, 1) := dk_3 (dk_at dksX1_ages_0 0 rfl rfl)
theorem dX1_ages_1 : decode cX1_ages 1 = .ok (.istore_n 1, 1) := dk_60 (dk_at dksX1_ages_0 1 rfl rfl)
theorem dX1_ages_2 : decode cX1_ages 2 = .ok (.aload_n 0, 1) := dk_42 (dk_at dksX1_ages_0 2 rfl rfl)
theorem dX1_ages_3 : decode cX1_ages 3 = .ok (.invokevirtual 210, 3) := dk_182 0 210 (dk_at dksX1_ages_0 3 rfl rfl)
theorem dX1_ages_6 : decode cX1_ages 6 = .ok (.invokeinterface 214 1, 5) := by decide +kernel
theorem dX1_ages_11 : decode cX1_ages 11 = .ok (.astore_n 2, 1) := dk_77 (dk_at dksX1_ages_0 11 rfl rfl)
theorem dX1_ages_12 : decode cX1_ages 12 = .ok (.aload_n 2, 1) := dk_44 (dk_at dksX1_ages_0 12 rfl rfl)
theorem dX1_ages_13 : decode cX1_ages 13 = .ok (.invokeinterface 46 1, 5) := by decide +kernel
theorem dX1_ages_18 : decode cX1_ages 18 = .ok (.ifCond .eq 23, 3) := dk_153 0 23 (dk_at dksX1_ages_0 18 rfl rfl)
theorem dX1_ages_21 : decode cX1_ages 21 = .ok (.aload_n 2, 1) := dk_44 (dk_at dksX1_ages_0 21 rfl rfl)
theorem dX1_ages_22 : decode cX1_ages 22 = .ok (.invokeinterface 52 1, 5) := by decide +kernel
theorem dX1_ages_27 : decode cX1_ages 27 = .ok (.checkcast 56, 3) := dk_192 0 56 (dk_at dksX1_ages_1 5 rfl rfl)
theorem dX1_ages_30 : decode cX1_ages 30 = .ok (.astore_n 3, 1) := dk_78 (dk_at dksX1_ages_1 8 rfl rfl)
theorem dX1_ages_31 : decode cX1_ages 31 = .ok (.iload_n 1, 1) := dk_27 (dk_at dksX1_ages_1 9 rfl rfl)
theorem dX1_ages_32 : decode cX1_ages 32 = .ok (.aload_n 3, 1) := dk_45 (dk_at dksX1_ages_1 10 rfl rfl)
theorem dX1_ages_33 : decode cX1_ages 33 = .ok (.getfield 235, 3) := dk_180 0 235 (dk_at dksX1_ages_1 11 rfl rfl)
theorem dX1_ages_36 : decode cX1_ages 36 = .ok (.iadd, 1) := dk_96 (dk_at dksX1_ages_1 14 rfl rfl)
theorem dX1_ages_37 : decode cX1_ages 37 = .ok (.istore_n 1, 1) := dk_60 (dk_at dksX1_ages_1 15 rfl rfl)
theorem dX1_ages_38 : decode cX1_ages 38 = .ok (.goto (-26), 3) := dk_167 255 230 (dk_at dksX1_ages_1 16 rfl rfl)
theorem dX1_ages_41 : decode cX1_ages 41 = .ok (.iload_n 1, 1) := dk_27 (dk_at dksX1_ages_1 19 rfl rfl)
theorem dX1_ages_42 : decode cX1_ages 42 = .ok (.ireturn, 1) := dk_172 (dk_at dksX1_ages_1 20 rfl rfl)
theorem q99 : (Jvm.Cond.initialized "PittanceHouse$House") ∈ lw_all := lw_g (lw_at lw_m1 2 rfl) rfl
theorem q153 : (Jvm.Cond.instantiable "PittanceHouse$House" (13 : Nat)) ∈ lw_all := lw_g (lw_at lw_m1 56 rfl) rfl
theorem q155 : (Jvm.Cond.instanceMethod ({ cls := "PittanceHouse$House", name := "<init>", desc := "()V" } : Jvm.MethodName)) ∈ lw_all := lw_g (lw_at lw_m1 58 rfl) rfl
theorem q156 : (Jvm.Cond.code ({ cls := "PittanceHouse$House", name := "<init>", desc := "()V" } : Jvm.MethodName) prog_5_method_1_code (2 : Nat) (Option.none : Option Jvm.ClassFile.FieldType)) ∈ lw_all := lw_g (lw_at lw_m1 59 rfl) rfl
theorem q157 : (Jvm.Cond.methodLink "PittanceHouse$House" (3 : Nat) ({ cls := "java/lang/Object", name := "<init>", desc := "()V" } : Jvm.MethodName)) ∈ lw_all := lw_g (lw_at lw_m1 60 rfl) rfl
theorem q158 : (Jvm.Cond.classLink "PittanceHouse$House" (9 : Nat) "java/util/ArrayList") ∈ lw_all := lw_g (lw_at lw_m1 61 rfl) rfl
theorem q160 : (Jvm.Cond.methodLink "PittanceHouse$House" (11 : Nat) ({ cls := "java/util/ArrayList", name := "<init>", desc := "(I)V" } : Jvm.MethodName)) ∈ lw_all := lw_g (lw_at lw_m1 63 rfl) rfl
theorem q193 : (Jvm.Cond.classLink "PittanceHouse$House" (20 : Nat) "java/util/LinkedList") ∈ lw_all := lw_g (lw_at lw_m1 96 rfl) rfl
theorem q195 : (Jvm.Cond.methodLink "PittanceHouse$House" (22 : Nat) ({ cls := "java/util/LinkedList", name := "<init>", desc := "()V" } : Jvm.MethodName)) ∈ lw_all := lw_g (lw_at lw_m1 98 rfl) rfl
theorem q214 : (Jvm.Cond.fieldLink "PittanceHouse$House" (14 : Nat) "PittanceHouse$House" "brethren" "Ljava/util/ArrayList;") ∈ lw_all := lw_g (lw_at lw_m1 117 rfl) rfl
theorem q217 : (Jvm.Cond.fieldLink "PittanceHouse$House" (23 : Nat) "PittanceHouse$House" "line" "Ljava/util/LinkedList;") ∈ lw_all := lw_g (lw_at lw_m1 120 rfl) rfl
theorem q218 : (Jvm.Cond.fieldLink "PittanceHouse$House" (27 : Nat) "PittanceHouse$House" "seniors" "Ljava/util/LinkedList;") ∈ lw_all := lw_g (lw_at lw_m1 121 rfl) rfl
theorem q220 : (Jvm.Cond.fieldLink "PittanceHouse$House" (30 : Nat) "PittanceHouse$House" "cells" "[I") ∈ lw_all := lw_g (lw_at lw_m1 123 rfl) rfl
theorem q223 : (Jvm.Cond.fieldLink "PittanceHouse$House" (34 : Nat) "PittanceHouse$House" "feasts" "[I") ∈ lw_all := lw_g (lw_at lw_m1 126 rfl) rfl
theorem q224 : (Jvm.Cond.fieldLink "PittanceHouse$House" (91 : Nat) "PittanceHouse$House" "year" "I") ∈ lw_all := lw_g (lw_at lw_m1 127 rfl) rfl
theorem q226 : (Jvm.Cond.fieldLink "PittanceHouse$House" (94 : Nat) "PittanceHouse$House" "week" "I") ∈ lw_all := lw_g (lw_at lw_m1 129 rfl) rfl
theorem q228 : (Jvm.Cond.fieldLink "PittanceHouse$House" (37 : Nat) "PittanceHouse$House" "chest" "I") ∈ lw_all := lw_g (lw_at lw_m1 131 rfl) rfl
theorem q230 : (Jvm.Cond.fieldLink "PittanceHouse$House" (97 : Nat) "PittanceHouse$House" "came" "I") ∈ lw_all := lw_g (lw_at lw_m1 133 rfl) rfl
theorem q232 : (Jvm.Cond.fieldLink "PittanceHouse$House" (100 : Nat) "PittanceHouse$House" "paid" "I") ∈ lw_all := lw_g (lw_at lw_m1 135 rfl) rfl
theorem q234 : (Jvm.Cond.fieldLink "PittanceHouse$House" (103 : Nat) "PittanceHouse$House" "paidForGowns" "I") ∈ lw_all := lw_g (lw_at lw_m1 137 rfl) rfl
theorem q236 : (Jvm.Cond.fieldLink "PittanceHouse$House" (106 : Nat) "PittanceHouse$House" "gowns" "I") ∈ lw_all := lw_g (lw_at lw_m1 139 rfl) rfl
theorem q238 : (Jvm.Cond.fieldLink "PittanceHouse$House" (109 : Nat) "PittanceHouse$House" "pardons" "I") ∈ lw_all := lw_g (lw_at lw_m1 141 rfl) rfl
theorem q240 : (Jvm.Cond.laysFinal "PittanceHouse$House" "PittanceHouse$House" "brethren" "Ljava/util/ArrayList;") ∈ lw_all := lw_g (lw_at lw_m1 143 rfl) rfl
theorem q241 : (Jvm.Cond.soleField "PittanceHouse$House" "brethren") ∈ lw_all := lw_g (lw_at lw_m1 144 rfl) rfl
theorem q242 : (Jvm.Cond.laysFinal "PittanceHouse$House" "PittanceHouse$House" "line" "Ljava/util/LinkedList;") ∈ lw_all := lw_g (lw_at lw_m1 145 rfl) rfl
theorem q243 : (Jvm.Cond.soleField "PittanceHouse$House" "line") ∈ lw_all := lw_g (lw_at lw_m1 146 rfl) rfl
theorem q244 : (Jvm.Cond.laysFinal "PittanceHouse$House" "PittanceHouse$House" "seniors" "Ljava/util/LinkedList;") ∈ lw_all := lw_g (lw_at lw_m1 147 rfl) rfl
theorem q245 : (Jvm.Cond.soleField "PittanceHouse$House" "seniors") ∈ lw_all := lw_g (lw_at lw_m1 148 rfl) rfl
theorem q246 : (Jvm.Cond.laysFinal "PittanceHouse$House" "PittanceHouse$House" "cells" "[I") ∈ lw_all := lw_g (lw_at lw_m1 149 rfl) rfl
theorem q247 : (Jvm.Cond.soleField "PittanceHouse$House" "cells") ∈ lw_all := lw_g (lw_at lw_m1 150 rfl) rfl
theorem q248 : (Jvm.Cond.laysFinal "PittanceHouse$House" "PittanceHouse$House" "feasts" "[I") ∈ lw_all := lw_g (lw_at lw_m1 151 rfl) rfl
theorem q249 : (Jvm.Cond.soleField "PittanceHouse$House" "feasts") ∈ lw_all := lw_g (lw_at lw_m1 152 rfl) rfl
theorem q250 : (Jvm.Cond.lays "PittanceHouse$House" "PittanceHouse$House" "year" "I") ∈ lw_all := lw_g (lw_at lw_m1 153 rfl) rfl
theorem q251 : (Jvm.Cond.soleField "PittanceHouse$House" "year") ∈ lw_all := lw_g (lw_at lw_m1 154 rfl) rfl
theorem q252 : (Jvm.Cond.lays "PittanceHouse$House" "PittanceHouse$House" "week" "I") ∈ lw_all := lw_g (lw_at lw_m1 155 rfl) rfl
theorem q253 : (Jvm.Cond.soleField "PittanceHouse$House" "week") ∈ lw_all := lw_g (lw_at lw_m1 156 rfl) rfl
theorem q254 : (Jvm.Cond.lays "PittanceHouse$House" "PittanceHouse$House" "chest" "I") ∈ lw_all := lw_g (lw_at lw_m1 157 rfl) rfl
theorem q255 : (Jvm.Cond.soleField "PittanceHouse$House" "chest") ∈ lw_all := lw_g (lw_at lw_m1 158 rfl) rfl
theorem q256 : (Jvm.Cond.lays "PittanceHouse$House" "PittanceHouse$House" "came" "I") ∈ lw_all := lw_g (lw_at lw_m1 159 rfl) rfl
theorem q257 : (Jvm.Cond.soleField "PittanceHouse$House" "came") ∈ lw_all := lw_g (lw_at lw_m1 160 rfl) rfl
theorem q258 : (Jvm.Cond.lays "PittanceHouse$House" "PittanceHouse$House" "paid" "I") ∈ lw_all := lw_g (lw_at lw_m1 161 rfl) rfl
theorem q259 : (Jvm.Cond.soleField "PittanceHouse$House" "paid") ∈ lw_all := lw_g (lw_at lw_m1 162 rfl) rfl
theorem q260 : (Jvm.Cond.lays "PittanceHouse$House" "PittanceHouse$House" "paidForGowns" "I") ∈ lw_all := lw_g (lw_at lw_m1 163 rfl) rfl
theorem q261 : (Jvm.Cond.soleField "PittanceHouse$House" "paidForGowns") ∈ lw_all := lw_g (lw_at lw_m1 164 rfl) rfl
theorem q262 : (Jvm.Cond.lays "PittanceHouse$House" "PittanceHouse$House" "gowns" "I") ∈ lw_all := lw_g (lw_at lw_m1 165 rfl) rfl
theorem q263 : (Jvm.Cond.soleField "PittanceHouse$House" "gowns") ∈ lw_all := lw_g (lw_at lw_m1 166 rfl) rfl
theorem q264 : (Jvm.Cond.lays "PittanceHouse$House" "PittanceHouse$House" "pardons" "I") ∈ lw_all := lw_g (lw_at lw_m1 167 rfl) rfl
theorem q265 : (Jvm.Cond.soleField "PittanceHouse$House" "pardons") ∈ lw_all := lw_g (lw_at lw_m1 168 rfl) rfl
theorem q266 : (Jvm.Cond.superclass "PittanceHouse$House" "java/lang/Object") ∈ lw_all := lw_g (lw_at lw_m1 169 rfl) rfl
theorem q362 : (Jvm.Cond.instanceMethod ({ cls := "PittanceHouse$House", name := "copy", desc := "()LPittanceHouse$House;" } : Jvm.MethodName)) ∈ lw_all := lw_g (lw_at lw_m2 25 rfl) rfl
theorem q363 : (Jvm.Cond.selects "PittanceHouse$House" ({ cls := "PittanceHouse$House", name := "copy", desc := "()LPittanceHouse$House;" } : Jvm.MethodName) ({ cls := "PittanceHouse$House", name := "copy", desc := "()LPittanceHouse$House;" } : Jvm.MethodName)) ∈ lw_all := lw_g (lw_at lw_m2 26 rfl) rfl
theorem q364 : (Jvm.Cond.code ({ cls := "PittanceHouse$House", name := "copy", desc := "()LPittanceHouse$House;" } : Jvm.MethodName) prog_5_method_2_code (4 : Nat) (Option.some (Jvm.ClassFile.FieldType.object "PittanceHouse$House"))) ∈ lw_all := lw_g (lw_at lw_m2 27 rfl) rfl
theorem q365 : (Jvm.Cond.classLink "PittanceHouse$House" (15 : Nat) "PittanceHouse$House") ∈ lw_all := lw_g (lw_at lw_m2 28 rfl) rfl
theorem q366 : (Jvm.Cond.methodLink "PittanceHouse$House" (41 : Nat) ({ cls := "PittanceHouse$House", name := "<init>", desc := "()V" } : Jvm.MethodName)) ∈ lw_all := lw_g (lw_at lw_m2 29 rfl) rfl
theorem q367 : (Jvm.Cond.methodLink "PittanceHouse$House" (42 : Nat) ({ cls := "java/util/ArrayList", name := "iterator", desc := "()Ljava/util/Iterator;" } : Jvm.MethodName)) ∈ lw_all := lw_g (lw_at lw_m2 30 rfl) rfl
theorem q392 : (Jvm.Cond.interfaceEntry "PittanceHouse$House" (46 : Nat)) ∈ lw_tbl := lw_at lw_m2 55 rfl
theorem q393 : (Jvm.Cond.methodLink "PittanceHouse$House" (46 : Nat) ({ cls := "java/util/Iterator", name := "hasNext", desc := "()Z" } : Jvm.MethodName)) ∈ lw_all := lw_g (lw_at lw_m2 56 rfl) rfl
theorem q438 : (Jvm.Cond.interfaceEntry "PittanceHouse$House" (52 : Nat)) ∈ lw_tbl := lw_at lw_m2 101 rfl
theorem q439 : (Jvm.Cond.methodLink "PittanceHouse$House" (52 : Nat) ({ cls := "java/util/Iterator", name := "next", desc := "()Ljava/lang/Object;" } : Jvm.MethodName)) ∈ lw_all := lw_g (lw_at lw_m2 102 rfl) rfl
theorem q594 : (Jvm.Cond.selects "PittanceHouse$House" ({ cls := "java/lang/Object", name := "getClass", desc := "()Ljava/lang/Class;" } : Jvm.MethodName) ({ cls := "java/lang/Object", name := "getClass", desc := "()Ljava/lang/Class;" } : Jvm.MethodName)) ∈ lw_all := lw_g (lw_at lw_m3 17 rfl) rfl
theorem q857 : (Jvm.Cond.classLink "PittanceHouse$House" (56 : Nat) "PittanceHouse$Brother") ∈ lw_all := lw_g (lw_at lw_m4 40 rfl) rfl
theorem q858 : (Jvm.Cond.methodLink "PittanceHouse$House" (58 : Nat) ({ cls := "PittanceHouse$Brother", name := "copy", desc := "()LPittanceHouse$Brother;" } : Jvm.MethodName)) ∈ lw_all := lw_g (lw_at lw_m4 41 rfl) rfl
theorem q869 : (Jvm.Cond.fieldLinkNest "PittanceHouse$House" (189 : Nat) "PittanceHouse$Brother" "number" "I" "PittanceHouse") ∈ lw_tbl := lw_at lw_m4 52 rfl
theorem q871 : (Jvm.Cond.fieldLinkNest "PittanceHouse$House" (154 : Nat) "PittanceHouse$Brother" "isKin" "Z" "PittanceHouse") ∈ lw_tbl := lw_at lw_m4 54 rfl
theorem q873 : (Jvm.Cond.fieldLinkNest "PittanceHouse$House" (235 : Nat) "PittanceHouse$Brother" "age" "I" "PittanceHouse") ∈ lw_tbl := lw_at lw_m4 56 rfl
theorem q875 : (Jvm.Cond.fieldLinkNest "PittanceHouse$House" (241 : Nat) "PittanceHouse$Brother" "state" "I" "PittanceHouse") ∈ lw_tbl := lw_at lw_m4 58 rfl
theorem q877 : (Jvm.Cond.fieldLinkNest "PittanceHouse$House" (186 : Nat) "PittanceHouse$Brother" "cell" "I" "PittanceHouse") ∈ lw_tbl := lw_at lw_m4 60 rfl
theorem q879 : (Jvm.Cond.fieldLinkNest "PittanceHouse$House" (226 : Nat) "PittanceHouse$Brother" "gown" "I" "PittanceHouse") ∈ lw_tbl := lw_at lw_m4 62 rfl
theorem q881 : (Jvm.Cond.fieldLinkNest "PittanceHouse$House" (161 : Nat) "PittanceHouse$Brother" "ban" "I" "PittanceHouse") ∈ lw_tbl := lw_at lw_m4 64 rfl
theorem q883 : (Jvm.Cond.fieldLinkNest "PittanceHouse$House" (223 : Nat) "PittanceHouse$Brother" "pence" "I" "PittanceHouse") ∈ lw_tbl := lw_at lw_m4 66 rfl
theorem q886 : (Jvm.Cond.fieldLinkNest "PittanceHouse$House" (133 : Nat) "PittanceHouse$Brother" "voice" "I" "PittanceHouse") ∈ lw_tbl := lw_at lw_m4 69 rfl
theorem q911 : (Jvm.Cond.methodLink "PittanceHouse$House" (62 : Nat) ({ cls := "java/util/ArrayList", name := "add", desc := "(Ljava/lang/Object;)Z" } : Jvm.MethodName)) ∈ lw_all := lw_g (lw_at lw_m4 94 rfl) rfl
theorem q940 : (Jvm.Cond.methodLink "PittanceHouse$House" (66 : Nat) ({ cls := "java/util/LinkedList", name := "iterator", desc := "()Ljava/util/Iterator;" } : Jvm.MethodName)) ∈ lw_all := lw_g (lw_at lw_m4 123 rfl) rfl
theorem q1011 : (Jvm.Cond.classLink "PittanceHouse$House" (67 : Nat) "java/lang/Integer") ∈ lw_all := lw_g (lw_at lw_m4 194 rfl) rfl
theorem q1012 : (Jvm.Cond.methodLink "PittanceHouse$House" (69 : Nat) ({ cls := "java/lang/Integer", name := "intValue", desc := "()I" } : Jvm.MethodName)) ∈ lw_all := lw_g (lw_at lw_m4 195 rfl) rfl
theorem q1016 : (Jvm.Cond.methodLink "PittanceHouse$House" (73 : Nat) ({ cls := "java/lang/Integer", name := "valueOf", desc := "(I)Ljava/lang/Integer;" } : Jvm.MethodName)) ∈ lw_all := lw_g (lw_at lw_m4 199 rfl) rfl
theorem q1036 : (Jvm.Cond.methodLink "PittanceHouse$House" (77 : Nat) ({ cls := "java/util/LinkedList", name := "addLast", desc := "(Ljava/lang/Object;)V" } : Jvm.MethodName)) ∈ lw_all := lw_g (lw_at lw_m4 219 rfl) rfl
theorem q1065 : (Jvm.Cond.methodLink "PittanceHouse$House" (81 : Nat) ({ cls := "java/lang/System", name := "arraycopy", desc := "(Ljava/lang/Object;ILjava/lang/Object;II)V" } : Jvm.MethodName)) ∈ lw_all := lw_g (lw_at lw_m5 8 rfl) rfl
theorem q1066 : (Jvm.Cond.methodLink "PittanceHouse$House" (87 : Nat) ({ cls := "PittanceHouse$House", name := "takesNumbers", desc := "(LPittanceHouse$House;)V" } : Jvm.MethodName)) ∈ lw_all := lw_g (lw_at lw_m5 9 rfl) rfl
theorem q1067 : (Jvm.Cond.privateMethod ({ cls := "PittanceHouse$House", name := "takesNumbers", desc := "(LPittanceHouse$House;)V" } : Jvm.MethodName)) ∈ lw_tbl := lw_at lw_m5 10 rfl
theorem q1068 : (Jvm.Cond.instanceMethod ({ cls := "PittanceHouse$House", name := "takesNumbers", desc := "(LPittanceHouse$House;)V" } : Jvm.MethodName)) ∈ lw_all := lw_g (lw_at lw_m5 11 rfl) rfl
theorem q1069 : (Jvm.Cond.code ({ cls := "PittanceHouse$House", name := "takesNumbers", desc := "(LPittanceHouse$House;)V" } : Jvm.MethodName) prog_5_method_3_code (2 : Nat) (Option.none : Option Jvm.ClassFile.FieldType)) ∈ lw_all := lw_g (lw_at lw_m5 12 rfl) rfl
theorem q1071 : (Jvm.Cond.instanceMethod ({ cls := "PittanceHouse$House", name := "comes", desc := "(IZ)I" } : Jvm.MethodName)) ∈ lw_all := lw_g (lw_at lw_m5 14 rfl) rfl
theorem q1072 : (Jvm.Cond.selects "PittanceHouse$House" ({ cls := "PittanceHouse$House", name := "comes", desc := "(IZ)I" } : Jvm.MethodName) ({ cls := "PittanceHouse$House", name := "comes", desc := "(IZ)I" } : Jvm.MethodName)) ∈ lw_all := lw_g (lw_at lw_m5 15 rfl) rfl
theorem q1073 : (Jvm.Cond.code ({ cls := "PittanceHouse$House", name := "comes", desc := "(IZ)I" } : Jvm.MethodName) prog_5_method_6_code (4 : Nat) (Option.some Jvm.ClassFile.FieldType.int)) ∈ lw_all := lw_g (lw_at lw_m5 16 rfl) rfl
theorem q1074 : (Jvm.Cond.methodLink "PittanceHouse$House" (112 : Nat) ({ cls := "java/util/ArrayList", name := "size", desc := "()I" } : Jvm.MethodName)) ∈ lw_all := lw_g (lw_at lw_m5 17 rfl) rfl
theorem q1075 : (Jvm.Cond.methodLinkNest "PittanceHouse$House" (123 : Nat) ({ cls := "PittanceHouse", name := "refuse", desc := "(ZII)V" } : Jvm.MethodName) "PittanceHouse") ∈ lw_tbl := lw_at lw_m5 18 rfl
theorem q1105 : (Jvm.Cond.methodLink "PittanceHouse$House" (127 : Nat) ({ cls := "PittanceHouse$Brother", name := "<init>", desc := "(IIZ)V" } : Jvm.MethodName)) ∈ lw_all := lw_g (lw_at lw_m5 48 rfl) rfl
theorem q1154 : (Jvm.Cond.instanceMethod ({ cls := "PittanceHouse$House", name := "has", desc := "(I)Z" } : Jvm.MethodName)) ∈ lw_all := lw_g (lw_at lw_m5 97 rfl) rfl
theorem q1155 : (Jvm.Cond.selects "PittanceHouse$House" ({ cls := "PittanceHouse$House", name := "has", desc := "(I)Z" } : Jvm.MethodName) ({ cls := "PittanceHouse$House", name := "has", desc := "(I)Z" } : Jvm.MethodName)) ∈ lw_all := lw_g (lw_at lw_m5 98 rfl) rfl
theorem q1156 : (Jvm.Cond.code ({ cls := "PittanceHouse$House", name := "has", desc := "(I)Z" } : Jvm.MethodName) prog_5_method_4_code (2 : Nat) (Option.some Jvm.ClassFile.FieldType.boolean)) ∈ lw_all := lw_g (lw_at lw_m5 99 rfl) rfl
theorem q1157 : (Jvm.Cond.methodLinkNest "PittanceHouse$House" (115 : Nat) ({ cls := "PittanceHouse", name := "isIn", desc := "(III)Z" } : Jvm.MethodName) "PittanceHouse") ∈ lw_tbl := lw_at lw_m5 100 rfl
theorem q1159 : (Jvm.Cond.instanceMethod ({ cls := "PittanceHouse$House", name := "withdraws", desc := "(I)I" } : Jvm.MethodName)) ∈ lw_all := lw_g (lw_at lw_m5 102 rfl) rfl
theorem q1160 : (Jvm.Cond.selects "PittanceHouse$House" ({ cls := "PittanceHouse$House", name := "withdraws", desc := "(I)I" } : Jvm.MethodName) ({ cls := "PittanceHouse$House", name := "withdraws", desc := "(I)I" } : Jvm.MethodName)) ∈ lw_all := lw_g (lw_at lw_m5 103 rfl) rfl
theorem q1161 : (Jvm.Cond.code ({ cls := "PittanceHouse$House", name := "withdraws", desc := "(I)I" } : Jvm.MethodName) prog_5_method_9_code (3 : Nat) (Option.some Jvm.ClassFile.FieldType.int)) ∈ lw_all := lw_g (lw_at lw_m5 104 rfl) rfl
theorem q1162 : (Jvm.Cond.methodLink "PittanceHouse$House" (136 : Nat) ({ cls := "java/util/ArrayList", name := "get", desc := "(I)Ljava/lang/Object;" } : Jvm.MethodName)) ∈ lw_all := lw_g (lw_at lw_m5 105 rfl) rfl
theorem q1163 : (Jvm.Cond.methodLink "PittanceHouse$House" (140 : Nat) ({ cls := "PittanceHouse$Brother", name := "checkWaits", desc := "()V" } : Jvm.MethodName)) ∈ lw_all := lw_g (lw_at lw_m5 106 rfl) rfl
theorem q1168 : (Jvm.Cond.methodLink "PittanceHouse$House" (143 : Nat) ({ cls := "PittanceHouse$House", name := "takesFrom", desc := "(Ljava/util/LinkedList;I)V" } : Jvm.MethodName)) ∈ lw_all := lw_g (lw_at lw_m5 111 rfl) rfl
theorem q1169 : (Jvm.Cond.static ({ cls := "PittanceHouse$House", name := "takesFrom", desc := "(Ljava/util/LinkedList;I)V" } : Jvm.MethodName)) ∈ lw_all := lw_g (lw_at lw_m5 112 rfl) rfl
theorem q1170 : (Jvm.Cond.code ({ cls := "PittanceHouse$House", name := "takesFrom", desc := "(Ljava/util/LinkedList;I)V" } : Jvm.MethodName) prog_5_method_7_code (4 : Nat) (Option.none : Option Jvm.ClassFile.FieldType)) ∈ lw_all := lw_g (lw_at lw_m5 113 rfl) rfl
theorem q1171 : (Jvm.Cond.interfaceEntry "PittanceHouse$House" (130 : Nat)) ∈ lw_tbl := lw_at lw_m5 114 rfl
theorem q1172 : (Jvm.Cond.methodLink "PittanceHouse$House" (130 : Nat) ({ cls := "java/util/Iterator", name := "remove", desc := "()V" } : Jvm.MethodName)) ∈ lw_all := lw_g (lw_at lw_m5 115 rfl) rfl
theorem q1268 : (Jvm.Cond.methodLink "PittanceHouse$House" (147 : Nat) ({ cls := "PittanceHouse$House", name := "noVoices", desc := "(I)V" } : Jvm.MethodName)) ∈ lw_all := lw_g (lw_at lw_m5 211 rfl) rfl
theorem q1269 : (Jvm.Cond.privateMethod ({ cls := "PittanceHouse$House", name := "noVoices", desc := "(I)V" } : Jvm.MethodName)) ∈ lw_tbl := lw_at lw_m5 212 rfl
theorem q1270 : (Jvm.Cond.instanceMethod ({ cls := "PittanceHouse$House", name := "noVoices", desc := "(I)V" } : Jvm.MethodName)) ∈ lw_all := lw_g (lw_at lw_m5 213 rfl) rfl
theorem q1271 : (Jvm.Cond.code ({ cls := "PittanceHouse$House", name := "noVoices", desc := "(I)V" } : Jvm.MethodName) prog_5_method_8_code (4 : Nat) (Option.none : Option Jvm.ClassFile.FieldType)) ∈ lw_all := lw_g (lw_at lw_m5 214 rfl) rfl
theorem q1272 : (Jvm.Cond.methodLink "PittanceHouse$House" (150 : Nat) ({ cls := "PittanceHouse$Brother", name := "goes", desc := "(I)V" } : Jvm.MethodName)) ∈ lw_all := lw_g (lw_at lw_m5 215 rfl) rfl
theorem q1276 : (Jvm.Cond.methodLink "PittanceHouse$House" (153 : Nat) ({ cls := "java/util/LinkedList", name := "size", desc := "()I" } : Jvm.MethodName)) ∈ lw_all := lw_g (lw_at lw_m5 219 rfl) rfl
theorem q1282 : (Jvm.Cond.instanceMethod ({ cls := "PittanceHouse$House", name := "gives", desc := "(II)I" } : Jvm.MethodName)) ∈ lw_all := lw_g (lw_at lw_m5 225 rfl) rfl
theorem q1283 : (Jvm.Cond.selects "PittanceHouse$House" ({ cls := "PittanceHouse$House", name := "gives", desc := "(II)I" } : Jvm.MethodName) ({ cls := "PittanceHouse$House", name := "gives", desc := "(II)I" } : Jvm.MethodName)) ∈ lw_all := lw_g (lw_at lw_m5 226 rfl) rfl
theorem q1284 : (Jvm.Cond.code ({ cls := "PittanceHouse$House", name := "gives", desc := "(II)I" } : Jvm.MethodName) prog_5_method_12_code (4 : Nat) (Option.some Jvm.ClassFile.FieldType.int)) ∈ lw_all := lw_g (lw_at lw_m5 227 rfl) rfl
theorem q1285 : (Jvm.Cond.methodLink "PittanceHouse$House" (158 : Nat) ({ cls := "PittanceHouse$Brother", name := "checkCell", desc := "()V" } : Jvm.MethodName)) ∈ lw_all := lw_g (lw_at lw_m5 228 rfl) rfl
theorem q1289 : (Jvm.Cond.methodLink "PittanceHouse$House" (164 : Nat) ({ cls := "PittanceHouse$House", name := "voices", desc := "(I)I" } : Jvm.MethodName)) ∈ lw_all := lw_g (lw_at lw_m5 232 rfl) rfl
theorem q1290 : (Jvm.Cond.instanceMethod ({ cls := "PittanceHouse$House", name := "voices", desc := "(I)I" } : Jvm.MethodName)) ∈ lw_all := lw_g (lw_at lw_m5 233 rfl) rfl
theorem q1291 : (Jvm.Cond.selects "PittanceHouse$House" ({ cls := "PittanceHouse$House", name := "voices", desc := "(I)I" } : Jvm.MethodName) ({ cls := "PittanceHouse$House", name := "voices", desc := "(I)I" } : Jvm.MethodName)) ∈ lw_all := lw_g (lw_at lw_m5 234 rfl) rfl
theorem q1292 : (Jvm.Cond.code ({ cls := "PittanceHouse$House", name := "voices", desc := "(I)I" } : Jvm.MethodName) prog_5_method_10_code (5 : Nat) (Option.some Jvm.ClassFile.FieldType.int)) ∈ lw_all := lw_g (lw_at lw_m5 235 rfl) rfl
theorem q1301 : (Jvm.Cond.instanceMethod ({ cls := "PittanceHouse$House", name := "chooses", desc := "(ILPittanceHouse$Ahead;)I" } : Jvm.MethodName)) ∈ lw_all := lw_g (lw_at lw_m6 4 rfl) rfl
theorem q1302 : (Jvm.Cond.selects "PittanceHouse$House" ({ cls := "PittanceHouse$House", name := "chooses", desc := "(ILPittanceHouse$Ahead;)I" } : Jvm.MethodName) ({ cls := "PittanceHouse$House", name := "chooses", desc := "(ILPittanceHouse$Ahead;)I" } : Jvm.MethodName)) ∈ lw_all := lw_g (lw_at lw_m6 5 rfl) rfl
theorem q1303 : (Jvm.Cond.code ({ cls := "PittanceHouse$House", name := "chooses", desc := "(ILPittanceHouse$Ahead;)I" } : Jvm.MethodName) prog_5_method_14_code (4 : Nat) (Option.some Jvm.ClassFile.FieldType.int)) ∈ lw_all := lw_g (lw_at lw_m6 6 rfl) rfl
theorem q1304 : (Jvm.Cond.methodLink "PittanceHouse$House" (176 : Nat) ({ cls := "java/util/LinkedList", name := "isEmpty", desc := "()Z" } : Jvm.MethodName)) ∈ lw_all := lw_g (lw_at lw_m6 7 rfl) rfl
theorem q1311 : (Jvm.Cond.methodLink "PittanceHouse$House" (179 : Nat) ({ cls := "PittanceHouse$House", name := "ranked", desc := "(ILPittanceHouse$Ahead;)I" } : Jvm.MethodName)) ∈ lw_all := lw_g (lw_at lw_m6 14 rfl) rfl
theorem q1312 : (Jvm.Cond.instanceMethod ({ cls := "PittanceHouse$House", name := "ranked", desc := "(ILPittanceHouse$Ahead;)I" } : Jvm.MethodName)) ∈ lw_all := lw_g (lw_at lw_m6 15 rfl) rfl
theorem q1313 : (Jvm.Cond.selects "PittanceHouse$House" ({ cls := "PittanceHouse$House", name := "ranked", desc := "(ILPittanceHouse$Ahead;)I" } : Jvm.MethodName) ({ cls := "PittanceHouse$House", name := "ranked", desc := "(ILPittanceHouse$Ahead;)I" } : Jvm.MethodName)) ∈ lw_all := lw_g (lw_at lw_m6 16 rfl) rfl
theorem q1314 : (Jvm.Cond.code ({ cls := "PittanceHouse$House", name := "ranked", desc := "(ILPittanceHouse$Ahead;)I" } : Jvm.MethodName) prog_5_method_13_code (3 : Nat) (Option.some Jvm.ClassFile.FieldType.int)) ∈ lw_all := lw_g (lw_at lw_m6 17 rfl) rfl
theorem q1315 : (Jvm.Cond.methodLink "PittanceHouse$House" (168 : Nat) ({ cls := "PittanceHouse$House", name := "allVoices", desc := "()[I" } : Jvm.MethodName)) ∈ lw_all := lw_g (lw_at lw_m6 18 rfl) rfl
theorem q1316 : (Jvm.Cond.instanceMethod ({ cls := "PittanceHouse$House", name := "allVoices", desc := "()[I" } : Jvm.MethodName)) ∈ lw_all := lw_g (lw_at lw_m6 19 rfl) rfl
theorem q1317 : (Jvm.Cond.selects "PittanceHouse$House" ({ cls := "PittanceHouse$House", name := "allVoices", desc := "()[I" } : Jvm.MethodName) ({ cls := "PittanceHouse$House", name := "allVoices", desc := "()[I" } : Jvm.MethodName)) ∈ lw_all := lw_g (lw_at lw_m6 20 rfl) rfl
theorem q1318 : (Jvm.Cond.code ({ cls := "PittanceHouse$House", name := "allVoices", desc := "()[I" } : Jvm.MethodName) prog_5_method_11_code (4 : Nat) (Option.some (Jvm.ClassFile.FieldType.array Jvm.ClassFile.FieldType.int))) ∈ lw_all := lw_g (lw_at lw_m6 21 rfl) rfl
theorem q1319 : (Jvm.Cond.methodLinkNest "PittanceHouse$House" (172 : Nat) ({ cls := "PittanceHouse", name := "placed", desc := "(Ljava/lang/Iterable;[ILPittanceHouse$Ahead;I)I" } : Jvm.MethodName) "PittanceHouse") ∈ lw_tbl := lw_at lw_m6 22 rfl
theorem q1415 : (Jvm.Cond.methodLink "PittanceHouse$House" (183 : Nat) ({ cls := "PittanceHouse$Brother", name := "comesTo", desc := "(I)V" } : Jvm.MethodName)) ∈ lw_all := lw_g (lw_at lw_m6 118 rfl) rfl
theorem q1424 : (Jvm.Cond.instanceMethod ({ cls := "PittanceHouse$House", name := "leaves", desc := "(I)I" } : Jvm.MethodName)) ∈ lw_all := lw_g (lw_at lw_m6 127 rfl) rfl
theorem q1425 : (Jvm.Cond.selects "PittanceHouse$House" ({ cls := "PittanceHouse$House", name := "leaves", desc := "(I)I" } : Jvm.MethodName) ({ cls := "PittanceHouse$House", name := "leaves", desc := "(I)I" } : Jvm.MethodName)) ∈ lw_all := lw_g (lw_at lw_m6 128 rfl) rfl
theorem q1426 : (Jvm.Cond.code ({ cls := "PittanceHouse$House", name := "leaves", desc := "(I)I" } : Jvm.MethodName) prog_5_method_16_code (3 : Nat) (Option.some Jvm.ClassFile.FieldType.int)) ∈ lw_all := lw_g (lw_at lw_m6 129 rfl) rfl
theorem q1427 : (Jvm.Cond.methodLink "PittanceHouse$House" (192 : Nat) ({ cls := "PittanceHouse$House", name := "goes", desc := "(LPittanceHouse$Brother;I)V" } : Jvm.MethodName)) ∈ lw_all := lw_g (lw_at lw_m6 130 rfl) rfl
theorem q1428 : (Jvm.Cond.privateMethod ({ cls := "PittanceHouse$House", name := "goes", desc := "(LPittanceHouse$Brother;I)V" } : Jvm.MethodName)) ∈ lw_tbl := lw_at lw_m6 131 rfl
theorem q1429 : (Jvm.Cond.instanceMethod ({ cls := "PittanceHouse$House", name := "goes", desc := "(LPittanceHouse$Brother;I)V" } : Jvm.MethodName)) ∈ lw_all := lw_g (lw_at lw_m6 132 rfl) rfl
theorem q1430 : (Jvm.Cond.code ({ cls := "PittanceHouse$House", name := "goes", desc := "(LPittanceHouse$Brother;I)V" } : Jvm.MethodName) prog_5_method_15_code (3 : Nat) (Option.none : Option Jvm.ClassFile.FieldType)) ∈ lw_all := lw_g (lw_at lw_m6 133 rfl) rfl
theorem q1439 : (Jvm.Cond.instanceMethod ({ cls := "PittanceHouse$House", name := "tellsFeast", desc := "(II)I" } : Jvm.MethodName)) ∈ lw_all := lw_g (lw_at lw_m6 142 rfl) rfl
theorem q1440 : (Jvm.Cond.selects "PittanceHouse$House" ({ cls := "PittanceHouse$House", name := "tellsFeast", desc := "(II)I" } : Jvm.MethodName) ({ cls := "PittanceHouse$House", name := "tellsFeast", desc := "(II)I" } : Jvm.MethodName)) ∈ lw_all := lw_g (lw_at lw_m6 143 rfl) rfl
theorem q1441 : (Jvm.Cond.code ({ cls := "PittanceHouse$House", name := "tellsFeast", desc := "(II)I" } : Jvm.MethodName) prog_5_method_18_code (3 : Nat) (Option.some Jvm.ClassFile.FieldType.int)) ∈ lw_all := lw_g (lw_at lw_m6 144 rfl) rfl
theorem q1442 : (Jvm.Cond.methodLink "PittanceHouse$House" (195 : Nat) ({ cls := "PittanceHouse$House", name := "feasts", desc := "()I" } : Jvm.MethodName)) ∈ lw_all := lw_g (lw_at lw_m6 145 rfl) rfl
theorem q1443 : (Jvm.Cond.instanceMethod ({ cls := "PittanceHouse$House", name := "feasts", desc := "()I" } : Jvm.MethodName)) ∈ lw_all := lw_g (lw_at lw_m6 146 rfl) rfl
theorem q1444 : (Jvm.Cond.selects "PittanceHouse$House" ({ cls := "PittanceHouse$House", name := "feasts", desc := "()I" } : Jvm.MethodName) ({ cls := "PittanceHouse$House", name := "feasts", desc := "()I" } : Jvm.MethodName)) ∈ lw_all := lw_g (lw_at lw_m6 147 rfl) rfl
theorem q1445 : (Jvm.Cond.code ({ cls := "PittanceHouse$House", name := "feasts", desc := "()I" } : Jvm.MethodName) prog_5_method_17_code (6 : Nat) (Option.some Jvm.ClassFile.FieldType.int)) ∈ lw_all := lw_g (lw_at lw_m6 148 rfl) rfl
theorem q1454 : (Jvm.Cond.instanceMethod ({ cls := "PittanceHouse$House", name := "breaks", desc := "(II)I" } : Jvm.MethodName)) ∈ lw_all := lw_g (lw_at lw_m6 157 rfl) rfl
theorem q1455 : (Jvm.Cond.selects "PittanceHouse$House" ({ cls := "PittanceHouse$House", name := "breaks", desc := "(II)I" } : Jvm.MethodName) ({ cls := "PittanceHouse$House", name := "breaks", desc := "(II)I" } : Jvm.MethodName)) ∈ lw_all := lw_g (lw_at lw_m6 158 rfl) rfl
theorem q1456 : (Jvm.Cond.code ({ cls := "PittanceHouse$House", name := "breaks", desc := "(II)I" } : Jvm.MethodName) prog_5_method_19_code (4 : Nat) (Option.some Jvm.ClassFile.FieldType.int)) ∈ lw_all := lw_g (lw_at lw_m6 159 rfl) rfl
theorem q1457 : (Jvm.Cond.methodLink "PittanceHouse$House" (197 : Nat) ({ cls := "PittanceHouse$Brother", name := "isTooMuch", desc := "(I)Z" } : Jvm.MethodName)) ∈ lw_all := lw_g (lw_at lw_m6 160 rfl) rfl
theorem q1466 : (Jvm.Cond.instanceMethod ({ cls := "PittanceHouse$House", name := "pardoned", desc := "(I)I" } : Jvm.MethodName)) ∈ lw_all := lw_g (lw_at lw_m6 169 rfl) rfl
theorem q1467 : (Jvm.Cond.selects "PittanceHouse$House" ({ cls := "PittanceHouse$House", name := "pardoned", desc := "(I)I" } : Jvm.MethodName) ({ cls := "PittanceHouse$House", name := "pardoned", desc := "(I)I" } : Jvm.MethodName)) ∈ lw_all := lw_g (lw_at lw_m6 170 rfl) rfl
theorem q1468 : (Jvm.Cond.code ({ cls := "PittanceHouse$House", name := "pardoned", desc := "(I)I" } : Jvm.MethodName) prog_5_method_20_code (4 : Nat) (Option.some Jvm.ClassFile.FieldType.int)) ∈ lw_all := lw_g (lw_at lw_m6 171 rfl) rfl
theorem q1477 : (Jvm.Cond.instanceMethod ({ cls := "PittanceHouse$House", name := "isGiven", desc := "(I)I" } : Jvm.MethodName)) ∈ lw_all := lw_g (lw_at lw_m6 180 rfl) rfl
theorem q1478 : (Jvm.Cond.selects "PittanceHouse$House" ({ cls := "PittanceHouse$House", name := "isGiven", desc := "(I)I" } : Jvm.MethodName) ({ cls := "PittanceHouse$House", name := "isGiven", desc := "(I)I" } : Jvm.MethodName)) ∈ lw_all := lw_g (lw_at lw_m6 181 rfl) rfl
theorem q1479 : (Jvm.Cond.code ({ cls := "PittanceHouse$House", name := "isGiven", desc := "(I)I" } : Jvm.MethodName) prog_5_method_22_code (2 : Nat) (Option.some Jvm.ClassFile.FieldType.int)) ∈ lw_all := lw_g (lw_at lw_m6 182 rfl) rfl
theorem q1480 : (Jvm.Cond.methodLink "PittanceHouse$House" (207 : Nat) ({ cls := "PittanceHouse$House", name := "comesIn", desc := "(I)V" } : Jvm.MethodName)) ∈ lw_all := lw_g (lw_at lw_m6 183 rfl) rfl
theorem q1481 : (Jvm.Cond.privateMethod ({ cls := "PittanceHouse$House", name := "comesIn", desc := "(I)V" } : Jvm.MethodName)) ∈ lw_tbl := lw_at lw_m6 184 rfl
theorem q1482 : (Jvm.Cond.instanceMethod ({ cls := "PittanceHouse$House", name := "comesIn", desc := "(I)V" } : Jvm.MethodName)) ∈ lw_all := lw_g (lw_at lw_m6 185 rfl) rfl
theorem q1483 : (Jvm.Cond.code ({ cls := "PittanceHouse$House", name := "comesIn", desc := "(I)V" } : Jvm.MethodName) prog_5_method_21_code (3 : Nat) (Option.none : Option Jvm.ClassFile.FieldType)) ∈ lw_all := lw_g (lw_at lw_m6 186 rfl) rfl
theorem q1484 : (Jvm.Cond.methodLink "PittanceHouse$House" (201 : Nat) ({ cls := "java/lang/Math", name := "min", desc := "(II)I" } : Jvm.MethodName)) ∈ lw_all := lw_g (lw_at lw_m6 187 rfl) rfl
theorem q1493 : (Jvm.Cond.instanceMethod ({ cls := "PittanceHouse$House", name := "weeksGo", desc := "(ILPittanceHouse$Ahead;)I" } : Jvm.MethodName)) ∈ lw_all := lw_g (lw_at lw_m6 196 rfl) rfl
theorem q1494 : (Jvm.Cond.selects "PittanceHouse$House" ({ cls := "PittanceHouse$House", name := "weeksGo", desc := "(ILPittanceHouse$Ahead;)I" } : Jvm.MethodName) ({ cls := "PittanceHouse$House", name := "weeksGo", desc := "(ILPittanceHouse$Ahead;)I" } : Jvm.MethodName)) ∈ lw_all := lw_g (lw_at lw_m6 197 rfl) rfl
theorem q1495 : (Jvm.Cond.code ({ cls := "PittanceHouse$House", name := "weeksGo", desc := "(ILPittanceHouse$Ahead;)I" } : Jvm.MethodName) prog_5_method_30_code (5 : Nat) (Option.some Jvm.ClassFile.FieldType.int)) ∈ lw_all := lw_g (lw_at lw_m6 198 rfl) rfl
theorem q1496 : (Jvm.Cond.methodLink "PittanceHouse$House" (254 : Nat) ({ cls := "PittanceHouse$House", name := "weekGoes", desc := "(LPittanceHouse$Ahead;)I" } : Jvm.MethodName)) ∈ lw_all := lw_g (lw_at lw_m6 199 rfl) rfl
theorem q1497 : (Jvm.Cond.privateMethod ({ cls := "PittanceHouse$House", name := "weekGoes", desc := "(LPittanceHouse$Ahead;)I" } : Jvm.MethodName)) ∈ lw_tbl := lw_at lw_m6 200 rfl
theorem q1498 : (Jvm.Cond.instanceMethod ({ cls := "PittanceHouse$House", name := "weekGoes", desc := "(LPittanceHouse$Ahead;)I" } : Jvm.MethodName)) ∈ lw_all := lw_g (lw_at lw_m6 201 rfl) rfl
theorem q1499 : (Jvm.Cond.code ({ cls := "PittanceHouse$House", name := "weekGoes", desc := "(LPittanceHouse$Ahead;)I" } : Jvm.MethodName) prog_5_method_29_code (5 : Nat) (Option.some Jvm.ClassFile.FieldType.int)) ∈ lw_all := lw_g (lw_at lw_m6 202 rfl) rfl
theorem q1500 : (Jvm.Cond.methodLink "PittanceHouse$House" (248 : Nat) ({ cls := "PittanceHouse$House", name := "feastIsHeld", desc := "()I" } : Jvm.MethodName)) ∈ lw_all := lw_g (lw_at lw_m6 203 rfl) rfl
theorem q1501 : (Jvm.Cond.privateMethod ({ cls := "PittanceHouse$House", name := "feastIsHeld", desc := "()I" } : Jvm.MethodName)) ∈ lw_tbl := lw_at lw_m6 204 rfl
theorem q1502 : (Jvm.Cond.instanceMethod ({ cls := "PittanceHouse$House", name := "feastIsHeld", desc := "()I" } : Jvm.MethodName)) ∈ lw_all := lw_g (lw_at lw_m6 205 rfl) rfl
theorem q1503 : (Jvm.Cond.code ({ cls := "PittanceHouse$House", name := "feastIsHeld", desc := "()I" } : Jvm.MethodName) prog_5_method_24_code (5 : Nat) (Option.some Jvm.ClassFile.FieldType.int)) ∈ lw_all := lw_g (lw_at lw_m6 206 rfl) rfl
theorem q1504 : (Jvm.Cond.methodLink "PittanceHouse$House" (220 : Nat) ({ cls := "PittanceHouse$House", name := "entitledMany", desc := "()I" } : Jvm.MethodName)) ∈ lw_all := lw_g (lw_at lw_m6 207 rfl) rfl
theorem q1505 : (Jvm.Cond.instanceMethod ({ cls := "PittanceHouse$House", name := "entitledMany", desc := "()I" } : Jvm.MethodName)) ∈ lw_all := lw_g (lw_at lw_m6 208 rfl) rfl
theorem q1506 : (Jvm.Cond.selects "PittanceHouse$House" ({ cls := "PittanceHouse$House", name := "entitledMany", desc := "()I" } : Jvm.MethodName) ({ cls := "PittanceHouse$House", name := "entitledMany", desc := "()I" } : Jvm.MethodName)) ∈ lw_all := lw_g (lw_at lw_m6 209 rfl) rfl
theorem q1507 : (Jvm.Cond.code ({ cls := "PittanceHouse$House", name := "entitledMany", desc := "()I" } : Jvm.MethodName) prog_5_method_23_code (4 : Nat) (Option.some Jvm.ClassFile.FieldType.int)) ∈ lw_all := lw_g (lw_at lw_m6 210 rfl) rfl
theorem q1508 : (Jvm.Cond.methodLink "PittanceHouse$House" (210 : Nat) ({ cls := "PittanceHouse$House", name := "inCells", desc := "()Ljava/lang/Iterable;" } : Jvm.MethodName)) ∈ lw_all := lw_g (lw_at lw_m6 211 rfl) rfl
theorem q1509 : (Jvm.Cond.instanceMethod ({ cls := "PittanceHouse$House", name := "inCells", desc := "()Ljava/lang/Iterable;" } : Jvm.MethodName)) ∈ lw_all := lw_g (lw_at lw_m6 212 rfl) rfl
theorem q1510 : (Jvm.Cond.selects "PittanceHouse$House" ({ cls := "PittanceHouse$House", name := "inCells", desc := "()Ljava/lang/Iterable;" } : Jvm.MethodName) ({ cls := "PittanceHouse$House", name := "inCells", desc := "()Ljava/lang/Iterable;" } : Jvm.MethodName)) ∈ lw_all := lw_g (lw_at lw_m6 213 rfl) rfl
theorem q1511 : (Jvm.Cond.code ({ cls := "PittanceHouse$House", name := "inCells", desc := "()Ljava/lang/Iterable;" } : Jvm.MethodName) prog_5_method_5_code (1 : Nat) (Option.some (Jvm.ClassFile.FieldType.object "java/lang/Iterable"))) ∈ lw_all := lw_g (lw_at lw_m6 214 rfl) rfl
theorem q1512 : (Jvm.Cond.classLink "PittanceHouse$House" (119 : Nat) "PittanceHouse$House$1") ∈ lw_all := lw_g (lw_at lw_m6 215 rfl) rfl
theorem q1514 : (Jvm.Cond.methodLink "PittanceHouse$House" (121 : Nat) ({ cls := "PittanceHouse$House$1", name := "<init>", desc := "(LPittanceHouse$House;)V" } : Jvm.MethodName)) ∈ lw_all := lw_g (lw_at lw_m6 217 rfl) rfl
theorem q1523 : (Jvm.Cond.interfaceEntry "PittanceHouse$House" (214 : Nat)) ∈ lw_tbl := lw_at lw_m6 226 rfl
theorem q1524 : (Jvm.Cond.methodLink "PittanceHouse$House" (214 : Nat) ({ cls := "java/lang/Iterable", name := "iterator", desc := "()Ljava/util/Iterator;" } : Jvm.MethodName)) ∈ lw_all := lw_g (lw_at lw_m6 227 rfl) rfl
theorem q1525 : (Jvm.Cond.methodLink "PittanceHouse$House" (217 : Nat) ({ cls := "PittanceHouse$Brother", name := "isEntitled", desc := "()Z" } : Jvm.MethodName)) ∈ lw_all := lw_g (lw_at lw_m6 228 rfl) rfl
theorem q1529 : (Jvm.Cond.methodLink "PittanceHouse$House" (251 : Nat) ({ cls := "PittanceHouse$House", name := "yearBegins", desc := "(LPittanceHouse$Ahead;)V" } : Jvm.MethodName)) ∈ lw_all := lw_g (lw_at lw_m6 232 rfl) rfl
theorem q1530 : (Jvm.Cond.privateMethod ({ cls := "PittanceHouse$House", name := "yearBegins", desc := "(LPittanceHouse$Ahead;)V" } : Jvm.MethodName)) ∈ lw_tbl := lw_at lw_m6 233 rfl
theorem q1531 : (Jvm.Cond.instanceMethod ({ cls := "PittanceHouse$House", name := "yearBegins", desc := "(LPittanceHouse$Ahead;)V" } : Jvm.MethodName)) ∈ lw_all := lw_g (lw_at lw_m6 234 rfl) rfl
theorem q1532 : (Jvm.Cond.code ({ cls := "PittanceHouse$House", name := "yearBegins", desc := "(LPittanceHouse$Ahead;)V" } : Jvm.MethodName) prog_5_method_28_code (4 : Nat) (Option.none : Option Jvm.ClassFile.FieldType)) ∈ lw_all := lw_g (lw_at lw_m6 235 rfl) rfl
theorem q1533 : (Jvm.Cond.methodLink "PittanceHouse$House" (238 : Nat) ({ cls := "PittanceHouse$Brother", name := "isHere", desc := "()Z" } : Jvm.MethodName)) ∈ lw_all := lw_g (lw_at lw_m6 236 rfl) rfl
theorem q1537 : (Jvm.Cond.methodLink "PittanceHouse$House" (244 : Nat) ({ cls := "PittanceHouse$House", name := "newGowns", desc := "(LPittanceHouse$Ahead;)V" } : Jvm.MethodName)) ∈ lw_all := lw_g (lw_at lw_m7 0 rfl) rfl
theorem q1538 : (Jvm.Cond.privateMethod ({ cls := "PittanceHouse$House", name := "newGowns", desc := "(LPittanceHouse$Ahead;)V" } : Jvm.MethodName)) ∈ lw_tbl := lw_at lw_m7 1 rfl
theorem q1539 : (Jvm.Cond.instanceMethod ({ cls := "PittanceHouse$House", name := "newGowns", desc := "(LPittanceHouse$Ahead;)V" } : Jvm.MethodName)) ∈ lw_all := lw_g (lw_at lw_m7 2 rfl) rfl
theorem q1540 : (Jvm.Cond.code ({ cls := "PittanceHouse$House", name := "newGowns", desc := "(LPittanceHouse$Ahead;)V" } : Jvm.MethodName) prog_5_method_27_code (4 : Nat) (Option.none : Option Jvm.ClassFile.FieldType)) ∈ lw_all := lw_g (lw_at lw_m7 3 rfl) rfl
theorem q1541 : (Jvm.Cond.methodLink "PittanceHouse$House" (232 : Nat) ({ cls := "PittanceHouse$House", name := "shabby", desc := "(ILPittanceHouse$Ahead;)I" } : Jvm.MethodName)) ∈ lw_all := lw_g (lw_at lw_m7 4 rfl) rfl
theorem q1542 : (Jvm.Cond.instanceMethod ({ cls := "PittanceHouse$House", name := "shabby", desc := "(ILPittanceHouse$Ahead;)I" } : Jvm.MethodName)) ∈ lw_all := lw_g (lw_at lw_m7 5 rfl) rfl
theorem q1543 : (Jvm.Cond.selects "PittanceHouse$House" ({ cls := "PittanceHouse$House", name := "shabby", desc := "(ILPittanceHouse$Ahead;)I" } : Jvm.MethodName) ({ cls := "PittanceHouse$House", name := "shabby", desc := "(ILPittanceHouse$Ahead;)I" } : Jvm.MethodName)) ∈ lw_all := lw_g (lw_at lw_m7 6 rfl) rfl
theorem q1544 : (Jvm.Cond.code ({ cls := "PittanceHouse$House", name := "shabby", desc := "(ILPittanceHouse$Ahead;)I" } : Jvm.MethodName) prog_5_method_26_code (3 : Nat) (Option.some Jvm.ClassFile.FieldType.int)) ∈ lw_all := lw_g (lw_at lw_m7 7 rfl) rfl
theorem q1545 : (Jvm.Cond.methodLink "PittanceHouse$House" (229 : Nat) ({ cls := "PittanceHouse$House", name := "gownsBy", desc := "()[I" } : Jvm.MethodName)) ∈ lw_all := lw_g (lw_at lw_m7 8 rfl) rfl
theorem q1546 : (Jvm.Cond.privateMethod ({ cls := "PittanceHouse$House", name := "gownsBy", desc := "()[I" } : Jvm.MethodName)) ∈ lw_tbl := lw_at lw_m7 9 rfl
theorem q1547 : (Jvm.Cond.instanceMethod ({ cls := "PittanceHouse$House", name := "gownsBy", desc := "()[I" } : Jvm.MethodName)) ∈ lw_all := lw_g (lw_at lw_m7 10 rfl) rfl
theorem q1548 : (Jvm.Cond.code ({ cls := "PittanceHouse$House", name := "gownsBy", desc := "()[I" } : Jvm.MethodName) prog_5_method_25_code (4 : Nat) (Option.some (Jvm.ClassFile.FieldType.array Jvm.ClassFile.FieldType.int))) ∈ lw_all := lw_g (lw_at lw_m7 11 rfl) rfl
theorem q1554 : (Jvm.Cond.instanceMethod ({ cls := "PittanceHouse$House", name := "value", desc := "(II)I" } : Jvm.MethodName)) ∈ lw_all := lw_g (lw_at lw_m7 17 rfl) rfl
theorem q1555 : (Jvm.Cond.selects "PittanceHouse$House" ({ cls := "PittanceHouse$House", name := "value", desc := "(II)I" } : Jvm.MethodName) ({ cls := "PittanceHouse$House", name := "value", desc := "(II)I" } : Jvm.MethodName)) ∈ lw_all := lw_g (lw_at lw_m7 18 rfl) rfl
theorem q1556 : (Jvm.Cond.code ({ cls := "PittanceHouse$House", name := "value", desc := "(II)I" } : Jvm.MethodName) prog_5_method_33_code (4 : Nat) (Option.some Jvm.ClassFile.FieldType.int)) ∈ lw_all := lw_g (lw_at lw_m7 19 rfl) rfl
theorem q1557 : (Jvm.Cond.methodLink "PittanceHouse$House" (258 : Nat) ({ cls := "PittanceHouse$Brother", name := "allBroken", desc := "()I" } : Jvm.MethodName)) ∈ lw_all := lw_g (lw_at lw_m7 20 rfl) rfl
theorem q1561 : (Jvm.Cond.methodLink "PittanceHouse$House" (261 : Nat) ({ cls := "PittanceHouse$House", name := "place", desc := "(I)I" } : Jvm.MethodName)) ∈ lw_all := lw_g (lw_at lw_m7 24 rfl) rfl
theorem q1562 : (Jvm.Cond.instanceMethod ({ cls := "PittanceHouse$House", name := "place", desc := "(I)I" } : Jvm.MethodName)) ∈ lw_all := lw_g (lw_at lw_m7 25 rfl) rfl
theorem q1563 : (Jvm.Cond.selects "PittanceHouse$House" ({ cls := "PittanceHouse$House", name := "place", desc := "(I)I" } : Jvm.MethodName) ({ cls := "PittanceHouse$House", name := "place", desc := "(I)I" } : Jvm.MethodName)) ∈ lw_all := lw_g (lw_at lw_m7 26 rfl) rfl
theorem q1564 : (Jvm.Cond.code ({ cls := "PittanceHouse$House", name := "place", desc := "(I)I" } : Jvm.MethodName) prog_5_method_32_code (5 : Nat) (Option.some Jvm.ClassFile.FieldType.int)) ∈ lw_all := lw_g (lw_at lw_m7 27 rfl) rfl
theorem q1580 : (Jvm.Cond.instanceMethod ({ cls := "PittanceHouse$House", name := "entitled", desc := "()Ljava/util/BitSet;" } : Jvm.MethodName)) ∈ lw_all := lw_g (lw_at lw_m7 43 rfl) rfl
theorem q1581 : (Jvm.Cond.selects "PittanceHouse$House" ({ cls := "PittanceHouse$House", name := "entitled", desc := "()Ljava/util/BitSet;" } : Jvm.MethodName) ({ cls := "PittanceHouse$House", name := "entitled", desc := "()Ljava/util/BitSet;" } : Jvm.MethodName)) ∈ lw_all := lw_g (lw_at lw_m7 44 rfl) rfl
theorem q1582 : (Jvm.Cond.code ({ cls := "PittanceHouse$House", name := "entitled", desc := "()Ljava/util/BitSet;" } : Jvm.MethodName) prog_5_method_34_code (4 : Nat) (Option.some (Jvm.ClassFile.FieldType.object "java/util/BitSet"))) ∈ lw_all := lw_g (lw_at lw_m7 45 rfl) rfl
theorem q1583 : (Jvm.Cond.classLink "PittanceHouse$House" (264 : Nat) "java/util/BitSet") ∈ lw_all := lw_g (lw_at lw_m7 46 rfl) rfl
theorem q1585 : (Jvm.Cond.methodLink "PittanceHouse$House" (266 : Nat) ({ cls := "java/util/BitSet", name := "<init>", desc := "(I)V" } : Jvm.MethodName)) ∈ lw_all := lw_g (lw_at lw_m7 48 rfl) rfl
theorem q1607 : (Jvm.Cond.methodLink "PittanceHouse$House" (267 : Nat) ({ cls := "java/util/BitSet", name := "set", desc := "(IZ)V" } : Jvm.MethodName)) ∈ lw_all := lw_g (lw_at lw_m7 70 rfl) rfl
theorem q1666 : (Jvm.Cond.instanceMethod ({ cls := "PittanceHouse$House", name := "entitledAgain", desc := "()Ljava/util/BitSet;" } : Jvm.MethodName)) ∈ lw_all := lw_g (lw_at lw_m7 129 rfl) rfl
theorem q1667 : (Jvm.Cond.selects "PittanceHouse$House" ({ cls := "PittanceHouse$House", name := "entitledAgain", desc := "()Ljava/util/BitSet;" } : Jvm.MethodName) ({ cls := "PittanceHouse$House", name := "entitledAgain", desc := "()Ljava/util/BitSet;" } : Jvm.MethodName)) ∈ lw_all := lw_g (lw_at lw_m7 130 rfl) rfl
theorem q1668 : (Jvm.Cond.code ({ cls := "PittanceHouse$House", name := "entitledAgain", desc := "()Ljava/util/BitSet;" } : Jvm.MethodName) prog_5_method_35_code (3 : Nat) (Option.some (Jvm.ClassFile.FieldType.object "java/util/BitSet"))) ∈ lw_all := lw_g (lw_at lw_m7 131 rfl) rfl
theorem q1669 : (Jvm.Cond.methodLink "PittanceHouse$House" (271 : Nat) ({ cls := "java/util/BitSet", name := "set", desc := "(I)V" } : Jvm.MethodName)) ∈ lw_all := lw_g (lw_at lw_m7 132 rfl) rfl
theorem q1701 : (Jvm.Cond.instanceMethod ({ cls := "PittanceHouse$House", name := "nextFeast", desc := "()I" } : Jvm.MethodName)) ∈ lw_all := lw_g (lw_at lw_m7 164 rfl) rfl
theorem q1702 : (Jvm.Cond.selects "PittanceHouse$House" ({ cls := "PittanceHouse$House", name := "nextFeast", desc := "()I" } : Jvm.MethodName) ({ cls := "PittanceHouse$House", name := "nextFeast", desc := "()I" } : Jvm.MethodName)) ∈ lw_all := lw_g (lw_at lw_m7 165 rfl) rfl
theorem q1703 : (Jvm.Cond.code ({ cls := "PittanceHouse$House", name := "nextFeast", desc := "()I" } : Jvm.MethodName) prog_5_method_31_code (2 : Nat) (Option.some Jvm.ClassFile.FieldType.int)) ∈ lw_all := lw_g (lw_at lw_m7 166 rfl) rfl
theorem q1989 : (Jvm.Cond.instanceMethod ({ cls := "PittanceHouse$House", name := "cellsTold", desc := "()Ljava/lang/String;" } : Jvm.MethodName)) ∈ lw_all := lw_g (lw_at lw_m8 212 rfl) rfl
theorem q1990 : (Jvm.Cond.selects "PittanceHouse$House" ({ cls := "PittanceHouse$House", name := "cellsTold", desc := "()Ljava/lang/String;" } : Jvm.MethodName) ({ cls := "PittanceHouse$House", name := "cellsTold", desc := "()Ljava/lang/String;" } : Jvm.MethodName)) ∈ lw_all := lw_g (lw_at lw_m8 213 rfl) rfl
theorem q1991 : (Jvm.Cond.code ({ cls := "PittanceHouse$House", name := "cellsTold", desc := "()Ljava/lang/String;" } : Jvm.MethodName) prog_5_method_40_code (4 : Nat) (Option.some (Jvm.ClassFile.FieldType.object "java/lang/String"))) ∈ lw_all := lw_g (lw_at lw_m8 214 rfl) rfl
theorem q1992 : (Jvm.Cond.classLink "PittanceHouse$House" (281 : Nat) "java/lang/StringBuilder") ∈ lw_all := lw_g (lw_at lw_m8 215 rfl) rfl
theorem q1993 : (Jvm.Cond.methodLink "PittanceHouse$House" (283 : Nat) ({ cls := "java/lang/StringBuilder", name := "<init>", desc := "()V" } : Jvm.MethodName)) ∈ lw_all := lw_g (lw_at lw_m8 216 rfl) rfl
theorem q1994 : (Jvm.Cond.stringRef "PittanceHouse$House" (284 : Nat) "") ∈ lw_tbl := lw_at lw_m8 217 rfl
theorem q1995 : (Jvm.Cond.stringRef "PittanceHouse$House" (286 : Nat) " ") ∈ lw_tbl := lw_at lw_m8 218 rfl
theorem q1996 : (Jvm.Cond.methodLink "PittanceHouse$House" (288 : Nat) ({ cls := "java/lang/StringBuilder", name := "append", desc := "(Ljava/lang/String;)Ljava/lang/StringBuilder;" } : Jvm.MethodName)) ∈ lw_all := lw_g (lw_at lw_m8 219 rfl) rfl
theorem q1997 : (Jvm.Cond.methodLink "PittanceHouse$House" (292 : Nat) ({ cls := "java/lang/StringBuilder", name := "append", desc := "(C)Ljava/lang/StringBuilder;" } : Jvm.MethodName)) ∈ lw_all := lw_g (lw_at lw_m8 220 rfl) rfl
theorem q1998 : (Jvm.Cond.methodLink "PittanceHouse$House" (295 : Nat) ({ cls := "java/lang/StringBuilder", name := "append", desc := "(I)Ljava/lang/StringBuilder;" } : Jvm.MethodName)) ∈ lw_all := lw_g (lw_at lw_m8 221 rfl) rfl
theorem q2023 : (Jvm.Cond.stringRef "PittanceHouse$House" (298 : Nat) "!") ∈ lw_tbl := lw_at lw_m9 6 rfl
theorem q2024 : (Jvm.Cond.stringRef "PittanceHouse$House" (300 : Nat) "*") ∈ lw_tbl := lw_at lw_m9 7 rfl
theorem q2025 : (Jvm.Cond.methodLink "PittanceHouse$House" (302 : Nat) ({ cls := "java/lang/StringBuilder", name := "toString", desc := "()Ljava/lang/String;" } : Jvm.MethodName)) ∈ lw_all := lw_g (lw_at lw_m9 8 rfl) rfl
theorem q2032 : (Jvm.Cond.instanceMethod ({ cls := "PittanceHouse$House", name := "lineTold", desc := "()Ljava/lang/String;" } : Jvm.MethodName)) ∈ lw_all := lw_g (lw_at lw_m9 15 rfl) rfl
theorem q2033 : (Jvm.Cond.selects "PittanceHouse$House" ({ cls := "PittanceHouse$House", name := "lineTold", desc := "()Ljava/lang/String;" } : Jvm.MethodName) ({ cls := "PittanceHouse$House", name := "lineTold", desc := "()Ljava/lang/String;" } : Jvm.MethodName)) ∈ lw_all := lw_g (lw_at lw_m9 16 rfl) rfl
theorem q2034 : (Jvm.Cond.code ({ cls := "PittanceHouse$House", name := "lineTold", desc := "()Ljava/lang/String;" } : Jvm.MethodName) prog_5_method_41_code (4 : Nat) (Option.some (Jvm.ClassFile.FieldType.object "java/lang/String"))) ∈ lw_all := lw_g (lw_at lw_m9 17 rfl) rfl
theorem q2035 : (Jvm.Cond.methodLink "PittanceHouse$House" (306 : Nat) ({ cls := "java/lang/StringBuilder", name := "length", desc := "()I" } : Jvm.MethodName)) ∈ lw_all := lw_g (lw_at lw_m9 18 rfl) rfl
theorem q2036 : (Jvm.Cond.stringRef "PittanceHouse$House" (309 : Nat) ",") ∈ lw_tbl := lw_at lw_m9 19 rfl
theorem q2037 : (Jvm.Cond.stringRef "PittanceHouse$House" (311 : Nat) "k") ∈ lw_tbl := lw_at lw_m9 20 rfl
theorem q2053 : (Jvm.Cond.instanceMethod ({ cls := "PittanceHouse$House", name := "so", desc := "(I)I" } : Jvm.MethodName)) ∈ lw_all := lw_g (lw_at lw_m9 36 rfl) rfl
theorem q2054 : (Jvm.Cond.selects "PittanceHouse$House" ({ cls := "PittanceHouse$House", name := "so", desc := "(I)I" } : Jvm.MethodName) ({ cls := "PittanceHouse$House", name := "so", desc := "(I)I" } : Jvm.MethodName)) ∈ lw_all := lw_g (lw_at lw_m9 37 rfl) rfl
theorem q2055 : (Jvm.Cond.code ({ cls := "PittanceHouse$House", name := "so", desc := "(I)I" } : Jvm.MethodName) prog_5_method_36_code (5 : Nat) (Option.some Jvm.ClassFile.FieldType.int)) ∈ lw_all := lw_g (lw_at lw_m9 38 rfl) rfl
theorem q2057 : (Jvm.Cond.instanceMethod ({ cls := "PittanceHouse$House", name := "underBan", desc := "()I" } : Jvm.MethodName)) ∈ lw_all := lw_g (lw_at lw_m9 40 rfl) rfl
theorem q2058 : (Jvm.Cond.selects "PittanceHouse$House" ({ cls := "PittanceHouse$House", name := "underBan", desc := "()I" } : Jvm.MethodName) ({ cls := "PittanceHouse$House", name := "underBan", desc := "()I" } : Jvm.MethodName)) ∈ lw_all := lw_g (lw_at lw_m9 41 rfl) rfl
theorem q2059 : (Jvm.Cond.code ({ cls := "PittanceHouse$House", name := "underBan", desc := "()I" } : Jvm.MethodName) prog_5_method_37_code (4 : Nat) (Option.some Jvm.ClassFile.FieldType.int)) ∈ lw_all := lw_g (lw_at lw_m9 42 rfl) rfl
theorem q2066 : (Jvm.Cond.instanceMethod ({ cls := "PittanceHouse$House", name := "isBalanced", desc := "()Z" } : Jvm.MethodName)) ∈ lw_all := lw_g (lw_at lw_m9 49 rfl) rfl
theorem q2067 : (Jvm.Cond.selects "PittanceHouse$House" ({ cls := "PittanceHouse$House", name := "isBalanced", desc := "()Z" } : Jvm.MethodName) ({ cls := "PittanceHouse$House", name := "isBalanced", desc := "()Z" } : Jvm.MethodName)) ∈ lw_all := lw_g (lw_at lw_m9 50 rfl) rfl
theorem q2068 : (Jvm.Cond.code ({ cls := "PittanceHouse$House", name := "isBalanced", desc := "()Z" } : Jvm.MethodName) prog_5_method_39_code (6 : Nat) (Option.some Jvm.ClassFile.FieldType.boolean)) ∈ lw_all := lw_g (lw_at lw_m9 51 rfl) rfl
theorem q2069 : (Jvm.Cond.methodLink "PittanceHouse$House" (273 : Nat) ({ cls := "java/util/BitSet", name := "get", desc := "(I)Z" } : Jvm.MethodName)) ∈ lw_all := lw_g (lw_at lw_m9 52 rfl) rfl
theorem q2073 : (Jvm.Cond.methodLink "PittanceHouse$House" (275 : Nat) ({ cls := "java/util/BitSet", name := "cardinality", desc := "()I" } : Jvm.MethodName)) ∈ lw_all := lw_g (lw_at lw_m9 56 rfl) rfl
theorem q2083 : (Jvm.Cond.methodLink "PittanceHouse$House" (278 : Nat) ({ cls := "PittanceHouse$House", name := "so", desc := "(I)I" } : Jvm.MethodName)) ∈ lw_all := lw_g (lw_at lw_m9 66 rfl) rfl
theorem q2090 : (Jvm.Cond.instanceMethod ({ cls := "PittanceHouse$House", name := "ages", desc := "()I" } : Jvm.MethodName)) ∈ lw_all := lw_g (lw_at lw_m9 73 rfl) rfl
theorem q2091 : (Jvm.Cond.selects "PittanceHouse$House" ({ cls := "PittanceHouse$House", name := "ages", desc := "()I" } : Jvm.MethodName) ({ cls := "PittanceHouse$House", name := "ages", desc := "()I" } : Jvm.MethodName)) ∈ lw_all := lw_g (lw_at lw_m9 74 rfl) rfl
theorem q2092 : (Jvm.Cond.code ({ cls := "PittanceHouse$House", name := "ages", desc := "()I" } : Jvm.MethodName) prog_5_method_38_code (4 : Nat) (Option.some Jvm.ClassFile.FieldType.int)) ∈ lw_all := lw_g (lw_at lw_m9 75 rfl) rfl
theorem q2611 : (Jvm.Cond.castable "PittanceHouse$House" "java/lang/Object") ∈ lw_tbl := lw_at lw_m11 114 rfl
theorem in_X1 : ∀ w ∈ wsX10, w ∈ lw_all := lw_in wsX10 [240, 242, 244, 246, 248, 250, 252, 254, 256, 258, 260, 262, 264] (by decide +kernel) (by decide +kernel)
