/-! PittanceHouseModel -/
set_option maxRecDepth 100000
def RX2 : String := "PittanceHouseModel"
def TX2 : u_T := fun k => match k with
  | 0 => ("PittanceHouseModel", "why", "I", false)
  | 1 => ("PittanceHouseModel", "detail", "I", false)
  | 2 => ("PittanceHouseModel", "reasonNow", "I", false)
  | 3 => ("PittanceHouseModel", "detailNow", "I", false)
  | 4 => ("PittanceHouseModel", "w", "[I", true)
  | 5 => ("PittanceHouseModel", "undos", "[I", true)
  | 6 => ("PittanceHouseModel", "savedRow", "[I", true)
  | 7 => ("PittanceHouseModel", "mind", "[I", true)
  | 8 => ("PittanceHouseModel", "changes", "I", false)
  | 9 => ("PittanceHouseModel", "firstChange", "I", false)
  | 10 => ("PittanceHouseModel", "isSaved", "Z", false)
  | 11 => ("PittanceHouseModel", "counted", "[I", true)
  | 12 => ("PittanceHouseModel", "input", "[C", true)
  | 13 => ("PittanceHouseModel", "length", "I", false)
  | 14 => ("PittanceHouseModel", "at", "I", false)
  | 15 => ("PittanceHouseModel", "numbers", "[I", true)
  | 16 => ("PittanceHouseModel", "sort", "I", false)
  | 17 => ("PittanceHouseModel", "done", "I", false)
  | 18 => ("PittanceHouseModel", "line", "[C", true)
  | _ => ("PittanceHouseModel", "lineLength", "I", false)
def tyX2 : Nat → FieldType := fun k => match k with
  | 0 => .int
  | 1 => .int
  | 2 => .int
  | 3 => .int
  | 4 => .array .int
  | 5 => .array .int
  | 6 => .array .int
  | 7 => .array .int
  | 8 => .int
  | 9 => .int
  | 10 => .boolean
  | 11 => .array .int
  | 12 => .array .char
  | 13 => .int
  | 14 => .int
  | 15 => .array .int
  | 16 => .int
  | 17 => .int
  | 18 => .array .char
  | _ => .int
abbrev wsX20 : List Cond := u_ws RX2 TX2 20
set_option maxRecDepth 100000 in
theorem nmX2 : ∀ a, a < 20 → ∀ b, b < 20 → a ≠ b → (TX2 a).2.1 ≠ (TX2 b).2.1 := by decide +kernel
set_option maxRecDepth 100000 in
theorem tyX2_ok : ∀ k, k < 20 → parseFieldDescriptor (TX2 k).2.2.1 = some (tyX2 k) := by decide +kernel
abbrev cX2_init : ByteArray := prog_13_method_1_code
def yX2_init : MethodName := ⟨RX2, "<init>", "()V"⟩
def dkwX2_init_3 : List UInt8 := [181, 0, 32, 42, 180, 0, 7, 6, 16, 100, 79, 177]
abbrev dktX2_init_3 : List UInt8 := dkwX2_init_3 ++ []
def dkwX2_init_2 : List UInt8 := [181, 0, 22, 42, 16, 60, 188, 5, 181, 0, 25, 42, 5, 188, 10, 181, 0, 29, 42, 17, 0, 160, 188, 5]
abbrev dktX2_init_2 : List UInt8 := dkwX2_init_2 ++ dktX2_init_3
def dkwX2_init_1 : List UInt8 := [17, 1, 64, 188, 10, 181, 0, 16, 42, 17, 1, 64, 188, 10, 181, 0, 19, 42, 16, 16, 188, 10]
abbrev dktX2_init_1 : List UInt8 := dkwX2_init_1 ++ dktX2_init_2
def dkwX2_init_0 : List UInt8 := [42, 183, 0, 1, 42, 17, 1, 64, 188, 10, 181, 0, 7, 42, 17, 10, 0, 188, 10, 181, 0, 13, 42]
abbrev dktX2_init_0 : List UInt8 := dkwX2_init_0 ++ dktX2_init_1
theorem dksX2_init_0 : cX2_init.data.toList.drop 0 = dktX2_init_0 := by decide +kernel
theorem dksX2_init_1 : cX2_init.data.toList.drop 23 = dktX2_init_1 := dk_seg dksX2_init_0 23 rfl rfl
theorem dksX2_init_2 : cX2_init.data.toList.drop 45 = dktX2_init_2 := dk_seg dksX2_init_1 22 rfl rfl
theorem dksX2_init_3 : cX2_init.data.toList.drop 69 = dktX2_init_3 := dk_seg dksX2_init_2 24 rfl rfl
theorem dX2_init_0 : decode cX2_init 0 = .ok (.aload_n 0, 1) := dk_42 (dk_at dksX2_init_0 0 rfl rfl)
theorem dX2_init_1 : decode cX2_init 1 = .ok (.invokespecial 1, 3) := dk_183 0 1 (dk_at dksX2_init_0 1 rfl rfl)
theorem dX2_init_4 : decode cX2_init 4 = .ok (.aload_n 0, 1) := dk_42 (dk_at dksX2_init_0 4 rfl rfl)
theorem dX2_init_5 : decode cX2_init 5 = .ok (.sipush 320, 3) := dk_17 1 64 (dk_at dksX2_init_0 5 rfl rfl)
theorem dX2_init_8 : decode cX2_init 8 = .ok (.newarray .int, 2) := dk_188_10 (dk_at dksX2_init_0 8 rfl rfl)
theorem dX2_init_10 : decode cX2_init 10 = .ok (.putfield 7, 3) := dk_181 0 7 (dk_at dksX2_init_0 10 rfl rfl)
theorem dX2_init_13 : decode cX2_init 13 = .ok (.aload_n 0, 1) := dk_42 (dk_at dksX2_init_0 13 rfl rfl)
theorem dX2_init_14 : decode cX2_init 14 = .ok (.sipush 2560, 3) := dk_17 10 0 (dk_at dksX2_init_0 14 rfl rfl)
theorem dX2_init_17 : decode cX2_init 17 = .ok (.newarray .int, 2) := dk_188_10 (dk_at dksX2_init_0 17 rfl rfl)
theorem dX2_init_19 : decode cX2_init 19 = .ok (.putfield 13, 3) := dk_181 0 13 (dk_at dksX2_init_0 19 rfl rfl)
theorem dX2_init_22 : decode cX2_init 22 = .ok (.aload_n 0, 1) := dk_42 (dk_at dksX2_init_0 22 rfl rfl)
theorem dX2_init_23 : decode cX2_init 23 = .ok (.sipush 320, 3) := dk_17 1 64 (dk_at dksX2_init_1 0 rfl rfl)
theorem dX2_init_26 : decode cX2_init 26 = .ok (.newarray .int, 2) := dk_188_10 (dk_at dksX2_init_1 3 rfl rfl)
theorem dX2_init_28 : decode cX2_init 28 = .ok (.putfield 16, 3) := dk_181 0 16 (dk_at dksX2_init_1 5 rfl rfl)
theorem dX2_init_31 : decode cX2_init 31 = .ok (.aload_n 0, 1) := dk_42 (dk_at dksX2_init_1 8 rfl rfl)
theorem dX2_init_32 : decode cX2_init 32 = .ok (.sipush 320, 3) := dk_17 1 64 (dk_at dksX2_init_1 9 rfl rfl)
theorem dX2_init_35 : decode cX2_init 35 = .ok (.newarray .int, 2) := dk_188_10 (dk_at dksX2_init_1 12 rfl rfl)
theorem dX2_init_37 : decode cX2_init 37 = .ok (.putfield 19, 3) := dk_181 0 19 (dk_at dksX2_init_1 14 rfl rfl)
theorem dX2_init_40 : decode cX2_init 40 = .ok (.aload_n 0, 1) := dk_42 (dk_at dksX2_init_1 17 rfl rfl)
theorem dX2_init_41 : decode cX2_init 41 = .ok (.bipush 16, 2) := dk_16 16 (dk_at dksX2_init_1 18 rfl rfl)
theorem dX2_init_43 : decode cX2_init 43 = .ok (.newarray .int, 2) := dk_188_10 (dk_at dksX2_init_1 20 rfl rfl)
theorem dX2_init_45 : decode cX2_init 45 = .ok (.putfield 22, 3) := dk_181 0 22 (dk_at dksX2_init_2 0 rfl rfl)
theorem dX2_init_48 : decode cX2_init 48 = .ok (.aload_n 0, 1) := dk_42 (dk_at dksX2_init_2 3 rfl rfl)
theorem dX2_init_49 : decode cX2_init 49 = .ok (.bipush 60, 2) := dk_16 60 (dk_at dksX2_init_2 4 rfl rfl)
theorem dX2_init_51 : decode cX2_init 51 = .ok (.newarray .char, 2) := dk_188_5 (dk_at dksX2_init_2 6 rfl rfl)
theorem dX2_init_53 : decode cX2_init 53 = .ok (.putfield 25, 3) := dk_181 0 25 (dk_at dksX2_init_2 8 rfl rfl)
theorem dX2_init_56 : decode cX2_init 56 = .ok (.aload_n 0, 1) := dk_42 (dk_at dksX2_init_2 11 rfl rfl)
theorem dX2_init_57 : decode cX2_init 57 = .ok (.iconst 2, 1) := dk_5 (dk_at dksX2_init_2 12 rfl rfl)
theorem dX2_init_58 : decode cX2_init 58 = .ok (.newarray .int, 2) := dk_188_10 (dk_at dksX2_init_2 13 rfl rfl)
theorem dX2_init_60 : decode cX2_init 60 = .ok (.putfield 29, 3) := dk_181 0 29 (dk_at dksX2_init_2 15 rfl rfl)
theorem dX2_init_63 : decode cX2_init 63 = .ok (.aload_n 0, 1) := dk_42 (dk_at dksX2_init_2 18 rfl rfl)
theorem dX2_init_64 : decode cX2_init 64 = .ok (.sipush 160, 3) := dk_17 0 160 (dk_at dksX2_init_2 19 rfl rfl)
theorem dX2_init_67 : decode cX2_init 67 = .ok (.newarray .char, 2) := dk_188_5 (dk_at dksX2_init_2 22 rfl rfl)
theorem dX2_init_69 : decode cX2_init 69 = .ok (.putfield 32, 3) := dk_181 0 32 (dk_at dksX2_init_3 0 rfl rfl)
theorem dX2_init_72 : decode cX2_init 72 = .ok (.aload_n 0, 1) := dk_42 (dk_at dksX2_init_3 3 rfl rfl)
theorem dX2_init_73 : decode cX2_init 73 = .ok (.getfield 7, 3) := dk_180 0 7 (dk_at dksX2_init_3 4 rfl rfl)
theorem dX2_init_76 : decode cX2_init 76 = .ok (.iconst 3, 1) := dk_6 (dk_at dksX2_init_3 7 rfl rfl)
theorem dX2_init_77 : decode cX2_init 77 = .ok (.bipush 100, 2) := dk_16 100 (dk_at dksX2_init_3 8 rfl rfl)
theorem dX2_init_79 : decode cX2_init 79 = .ok (.iastore, 1) := dk_79 (dk_at dksX2_init_3 10 rfl rfl)
theorem dX2_init_80 : decode cX2_init 80 = .ok (.return_, 1) := dk_177 (dk_at dksX2_init_3 11 rfl rfl)
abbrev cX2_reason : ByteArray := prog_13_method_6_code
def yX2_reason : MethodName := ⟨RX2, "reason", "(Z)I"⟩
def dkwX2_reason_1 : List UInt8 := [180, 0, 42, 172]
abbrev dktX2_reason_1 : List UInt8 := dkwX2_reason_1 ++ []
def dkwX2_reason_0 : List UInt8 := [42, 180, 0, 42, 154, 0, 8, 16, 241, 167, 0, 18, 27, 153, 0, 10, 42, 180, 0, 45, 167, 0, 7, 42]
abbrev dktX2_reason_0 : List UInt8 := dkwX2_reason_0 ++ dktX2_reason_1
theorem dksX2_reason_0 : cX2_reason.data.toList.drop 0 = dktX2_reason_0 := by decide +kernel
theorem dksX2_reason_1 : cX2_reason.data.toList.drop 24 = dktX2_reason_1 := dk_seg dksX2_reason_0 24 rfl rfl
theorem dX2_reason_0 : decode cX2_reason 0 = .ok (.aload_n 0, 1) := dk_42 (dk_at dksX2_reason_0 0 rfl rfl)
theorem dX2_reason_1 : decode cX2_reason 1 = .ok (.getfield 42, 3) := dk_180 0 42 (dk_at dksX2_reason_0 1 rfl rfl)
theorem dX2_reason_4 : decode cX2_reason 4 = .ok (.ifCond .ne 8, 3) := dk_154 0 8 (dk_at dksX2_reason_0 4 rfl rfl)
theorem dX2_reason_7 : decode cX2_reason 7 = .ok (.bipush (-15), 2) := dk_16 241 (dk_at dksX2_reason_0 7 rfl rfl)
theorem dX2_reason_9 : decode cX2_reason 9 = .ok (.goto 18, 3) := dk_167 0 18 (dk_at dksX2_reason_0 9 rfl rfl)
theorem dX2_reason_12 : decode cX2_reason 12 = .ok (.iload_n 1, 1) := dk_27 (dk_at dksX2_reason_0 12 rfl rfl)
theorem dX2_reason_13 : decode cX2_reason 13 = .ok (.ifCond .eq 10, 3) := dk_153 0 10 (dk_at dksX2_reason_0 13 rfl rfl)
theorem dX2_reason_16 : decode cX2_reason 16 = .ok (.aload_n 0, 1) := dk_42 (dk_at dksX2_reason_0 16 rfl rfl)
theorem dX2_reason_17 : decode cX2_reason 17 = .ok (.getfield 45, 3) := dk_180 0 45 (dk_at dksX2_reason_0 17 rfl rfl)
theorem dX2_reason_20 : decode cX2_reason 20 = .ok (.goto 7, 3) := dk_167 0 7 (dk_at dksX2_reason_0 20 rfl rfl)
theorem dX2_reason_23 : decode cX2_reason 23 = .ok (.aload_n 0, 1) := dk_42 (dk_at dksX2_reason_0 23 rfl rfl)
theorem dX2_reason_24 : decode cX2_reason 24 = .ok (.getfield 42, 3) := dk_180 0 42 (dk_at dksX2_reason_1 0 rfl rfl)
theorem dX2_reason_27 : decode cX2_reason 27 = .ok (.ireturn, 1) := dk_172 (dk_at dksX2_reason_1 3 rfl rfl)
abbrev cX2_come : ByteArray := prog_13_method_23_code
def yX2_come : MethodName := ⟨RX2, "come", "(IZ)I"⟩
def dkwX2_come_3 : List UInt8 := [153, 0, 7, 4, 167, 0, 4, 3, 182, 0, 76, 42, 29, 182, 0, 93, 29, 172]
abbrev dktX2_come_3 : List UInt8 := dkwX2_come_3 ++ []
def dkwX2_come_2 : List UInt8 := [46, 62, 42, 180, 0, 7, 5, 92, 46, 4, 96, 79, 42, 29, 3, 27, 182, 0, 76, 42, 29, 4, 28]
abbrev dktX2_come_2 : List UInt8 := dkwX2_come_2 ++ dktX2_come_3
def dkwX2_come_1 : List UInt8 := [160, 0, 15, 42, 42, 4, 16, 16, 182, 0, 84, 182, 0, 87, 172, 42, 182, 0, 90, 42, 180, 0, 7, 5]
abbrev dktX2_come_1 : List UInt8 := dkwX2_come_1 ++ dktX2_come_2
def dkwX2_come_0 : List UInt8 := [27, 16, 50, 16, 90, 184, 0, 60, 154, 0, 6, 16, 244, 172, 42, 180, 0, 7, 5, 46, 16, 16]
abbrev dktX2_come_0 : List UInt8 := dkwX2_come_0 ++ dktX2_come_1
theorem dksX2_come_0 : cX2_come.data.toList.drop 0 = dktX2_come_0 := by decide +kernel
theorem dksX2_come_1 : cX2_come.data.toList.drop 22 = dktX2_come_1 := dk_seg dksX2_come_0 22 rfl rfl
theorem dksX2_come_2 : cX2_come.data.toList.drop 46 = dktX2_come_2 := dk_seg dksX2_come_1 24 rfl rfl
theorem dksX2_come_3 : cX2_come.data.toList.drop 69 = dktX2_come_3 := dk_seg dksX2_come_2 23 rfl rfl
theorem dX2_come_0 : decode cX2_come 0 = .ok (.iload_n 1, 1) := dk_27 (dk_at dksX2_come_0 0 rfl rfl)
theorem dX2_come_1 : decode cX2_come 1 = .ok (.bipush 50, 2) := dk_16 50 (dk_at dksX2_come_0 1 rfl rfl)
theorem dX2_come_3 : decode cX2_come 3 = .ok (.bipush 90, 2) := dk_16 90 (dk_at dksX2_come_0 3 rfl rfl)
theorem dX2_come_5 : decode cX2_come 5 = .ok (.invokestatic 60, 3) := dk_184 0 60 (dk_at dksX2_come_0 5 rfl rfl)
theorem dX2_come_8 : decode cX2_come 8 = .ok (.ifCond .ne 6, 3) := dk_154 0 6 (dk_at dksX2_come_0 8 rfl rfl)
theorem dX2_come_11 : decode cX2_come 11 = .ok (.bipush (-12), 2) := dk_16 244 (dk_at dksX2_come_0 11 rfl rfl)
theorem dX2_come_13 : decode cX2_come 13 = .ok (.ireturn, 1) := dk_172 (dk_at dksX2_come_0 13 rfl rfl)
theorem dX2_come_14 : decode cX2_come 14 = .ok (.aload_n 0, 1) := dk_42 (dk_at dksX2_come_0 14 rfl rfl)
theorem dX2_come_15 : decode cX2_come 15 = .ok (.getfield 7, 3) := dk_180 0 7 (dk_at dksX2_come_0 15 rfl rfl)
theorem dX2_come_18 : decode cX2_come 18 = .ok (.iconst 2, 1) := dk_5 (dk_at dksX2_come_0 18 rfl rfl)
theorem dX2_come_19 : decode cX2_come 19 = .ok (.iaload, 1) := dk_46 (dk_at dksX2_come_0 19 rfl rfl)
theorem dX2_come_20 : decode cX2_come 20 = .ok (.bipush 16, 2) := dk_16 16 (dk_at dksX2_come_0 20 rfl rfl)
theorem dX2_come_22 : decode cX2_come 22 = .ok (.if_icmp .ne 15, 3) := dk_160 0 15 (dk_at dksX2_come_1 0 rfl rfl)
theorem dX2_come_25 : decode cX2_come 25 = .ok (.aload_n 0, 1) := dk_42 (dk_at dksX2_come_1 3 rfl rfl)
theorem dX2_come_26 : decode cX2_come 26 = .ok (.aload_n 0, 1) := dk_42 (dk_at dksX2_come_1 4 rfl rfl)
theorem dX2_come_27 : decode cX2_come 27 = .ok (.iconst 1, 1) := dk_4 (dk_at dksX2_come_1 5 rfl rfl)
theorem dX2_come_28 : decode cX2_come 28 = .ok (.bipush 16, 2) := dk_16 16 (dk_at dksX2_come_1 6 rfl rfl)
theorem dX2_come_30 : decode cX2_come 30 = .ok (.invokevirtual 84, 3) := dk_182 0 84 (dk_at dksX2_come_1 8 rfl rfl)
theorem dX2_come_33 : decode cX2_come 33 = .ok (.invokevirtual 87, 3) := dk_182 0 87 (dk_at dksX2_come_1 11 rfl rfl)
theorem dX2_come_36 : decode cX2_come 36 = .ok (.ireturn, 1) := dk_172 (dk_at dksX2_come_1 14 rfl rfl)
theorem dX2_come_37 : decode cX2_come 37 = .ok (.aload_n 0, 1) := dk_42 (dk_at dksX2_come_1 15 rfl rfl)
theorem dX2_come_38 : decode cX2_come 38 = .ok (.invokevirtual 90, 3) := dk_182 0 90 (dk_at dksX2_come_1 16 rfl rfl)
theorem dX2_come_41 : decode cX2_come 41 = .ok (.aload_n 0, 1) := dk_42 (dk_at dksX2_come_1 19 rfl rfl)
theorem dX2_come_42 : decode cX2_come 42 = .ok (.getfield 7, 3) := dk_180 0 7 (dk_at dksX2_come_1 20 rfl rfl)
theorem dX2_come_45 : decode cX2_come 45 = .ok (.iconst 2, 1) := dk_5 (dk_at dksX2_come_1 23 rfl rfl)
theorem dX2_come_46 : decode cX2_come 46 = .ok (.iaload, 1) := dk_46 (dk_at dksX2_come_2 0 rfl rfl)
theorem dX2_come_47 : decode cX2_come 47 = .ok (.istore_n 3, 1) := dk_62 (dk_at dksX2_come_2 1 rfl rfl)
theorem dX2_come_48 : decode cX2_come 48 = .ok (.aload_n 0, 1) := dk_42 (dk_at dksX2_come_2 2 rfl rfl)
theorem dX2_come_49 : decode cX2_come 49 = .ok (.getfield 7, 3) := dk_180 0 7 (dk_at dksX2_come_2 3 rfl rfl)
theorem dX2_come_52 : decode cX2_come 52 = .ok (.iconst 2, 1) := dk_5 (dk_at dksX2_come_2 6 rfl rfl)
theorem dX2_come_53 : decode cX2_come 53 = .ok (.dup2, 1) := dk_92 (dk_at dksX2_come_2 7 rfl rfl)
theorem dX2_come_54 : decode cX2_come 54 = .ok (.iaload, 1) := dk_46 (dk_at dksX2_come_2 8 rfl rfl)
theorem dX2_come_55 : decode cX2_come 55 = .ok (.iconst 1, 1) := dk_4 (dk_at dksX2_come_2 9 rfl rfl)
theorem dX2_come_56 : decode cX2_come 56 = .ok (.iadd, 1) := dk_96 (dk_at dksX2_come_2 10 rfl rfl)
theorem dX2_come_57 : decode cX2_come 57 = .ok (.iastore, 1) := dk_79 (dk_at dksX2_come_2 11 rfl rfl)
theorem dX2_come_58 : decode cX2_come 58 = .ok (.aload_n 0, 1) := dk_42 (dk_at dksX2_come_2 12 rfl rfl)
theorem dX2_come_59 : decode cX2_come 59 = .ok (.iload_n 3, 1) := dk_29 (dk_at dksX2_come_2 13 rfl rfl)
theorem dX2_come_60 : decode cX2_come 60 = .ok (.iconst 0, 1) := dk_3 (dk_at dksX2_come_2 14 rfl rfl)
theorem dX2_come_61 : decode cX2_come 61 = .ok (.iload_n 1, 1) := dk_27 (dk_at dksX2_come_2 15 rfl rfl)
theorem dX2_come_62 : decode cX2_come 62 = .ok (.invokevirtual 76, 3) := dk_182 0 76 (dk_at dksX2_come_2 16 rfl rfl)
theorem dX2_come_65 : decode cX2_come 65 = .ok (.aload_n 0, 1) := dk_42 (dk_at dksX2_come_2 19 rfl rfl)
theorem dX2_come_66 : decode cX2_come 66 = .ok (.iload_n 3, 1) := dk_29 (dk_at dksX2_come_2 20 rfl rfl)
theorem dX2_come_67 : decode cX2_come 67 = .ok (.iconst 1, 1) := dk_4 (dk_at dksX2_come_2 21 rfl rfl)
theorem dX2_come_68 : decode cX2_come 68 = .ok (.iload_n 2, 1) := dk_28 (dk_at dksX2_come_2 22 rfl rfl)
theorem dX2_come_69 : decode cX2_come 69 = .ok (.ifCond .eq 7, 3) := dk_153 0 7 (dk_at dksX2_come_3 0 rfl rfl)
theorem dX2_come_72 : decode cX2_come 72 = .ok (.iconst 1, 1) := dk_4 (dk_at dksX2_come_3 3 rfl rfl)
theorem dX2_come_73 : decode cX2_come 73 = .ok (.goto 4, 3) := dk_167 0 4 (dk_at dksX2_come_3 4 rfl rfl)
theorem dX2_come_76 : decode cX2_come 76 = .ok (.iconst 0, 1) := dk_3 (dk_at dksX2_come_3 7 rfl rfl)
theorem dX2_come_77 : decode cX2_come 77 = .ok (.invokevirtual 76, 3) := dk_182 0 76 (dk_at dksX2_come_3 8 rfl rfl)
theorem dX2_come_80 : decode cX2_come 80 = .ok (.aload_n 0, 1) := dk_42 (dk_at dksX2_come_3 11 rfl rfl)
theorem dX2_come_81 : decode cX2_come 81 = .ok (.iload_n 3, 1) := dk_29 (dk_at dksX2_come_3 12 rfl rfl)
theorem dX2_come_82 : decode cX2_come 82 = .ok (.invokevirtual 93, 3) := dk_182 0 93 (dk_at dksX2_come_3 13 rfl rfl)
theorem dX2_come_85 : decode cX2_come 85 = .ok (.iload_n 3, 1) := dk_29 (dk_at dksX2_come_3 16 rfl rfl)
theorem dX2_come_86 : decode cX2_come 86 = .ok (.ireturn, 1) := dk_172 (dk_at dksX2_come_3 17 rfl rfl)
abbrev cX2_isBetween : ByteArray := prog_13_method_2_code
def yX2_isBetween : MethodName := ⟨RX2, "isBetween", "(III)Z"⟩
def dkwX2_isBetween_0 : List UInt8 := [27, 26, 163, 0, 12, 26, 28, 163, 0, 7, 4, 167, 0, 4, 3, 172]
abbrev dktX2_isBetween_0 : List UInt8 := dkwX2_isBetween_0 ++ []
theorem dksX2_isBetween_0 : cX2_isBetween.data.toList.drop 0 = dktX2_isBetween_0 := by decide +kernel
theorem dX2_isBetween_0 : decode cX2_isBetween 0 = .ok (.iload_n 1, 1) := dk_27 (dk_at dksX2_isBetween_0 0 rfl rfl)
theorem dX2_isBetween_1 : decode cX2_isBetween 1 = .ok (.iload_n 0, 1) := dk_26 (dk_at dksX2_isBetween_0 1 rfl rfl)
theorem dX2_isBetween_2 : decode cX2_isBetween 2 = .ok (.if_icmp .gt 12, 3) := dk_163 0 12 (dk_at dksX2_isBetween_0 2 rfl rfl)
theorem dX2_isBetween_5 : decode cX2_isBetween 5 = .ok (.iload_n 0, 1) := dk_26 (dk_at dksX2_isBetween_0 5 rfl rfl)
theorem dX2_isBetween_6 : decode cX2_isBetween 6 = .ok (.iload_n 2, 1) := dk_28 (dk_at dksX2_isBetween_0 6 rfl rfl)
theorem dX2_isBetween_7 : decode cX2_isBetween 7 = .ok (.if_icmp .gt 7, 3) := dk_163 0 7 (dk_at dksX2_isBetween_0 7 rfl rfl)
theorem dX2_isBetween_10 : decode cX2_isBetween 10 = .ok (.iconst 1, 1) := dk_4 (dk_at dksX2_isBetween_0 10 rfl rfl)
theorem dX2_isBetween_11 : decode cX2_isBetween 11 = .ok (.goto 4, 3) := dk_167 0 4 (dk_at dksX2_isBetween_0 11 rfl rfl)
theorem dX2_isBetween_14 : decode cX2_isBetween 14 = .ok (.iconst 0, 1) := dk_3 (dk_at dksX2_isBetween_0 14 rfl rfl)
theorem dX2_isBetween_15 : decode cX2_isBetween 15 = .ok (.ireturn, 1) := dk_172 (dk_at dksX2_isBetween_0 15 rfl rfl)
abbrev cX2_isNot : ByteArray := prog_13_method_4_code
def yX2_isNot : MethodName := ⟨RX2, "isNot", "(II)I"⟩
def dkwX2_isNot_0 : List UInt8 := [42, 27, 181, 0, 35, 42, 28, 181, 0, 39, 16, 242, 172]
abbrev dktX2_isNot_0 : List UInt8 := dkwX2_isNot_0 ++ []
theorem dksX2_isNot_0 : cX2_isNot.data.toList.drop 0 = dktX2_isNot_0 := by decide +kernel
theorem dX2_isNot_0 : decode cX2_isNot 0 = .ok (.aload_n 0, 1) := dk_42 (dk_at dksX2_isNot_0 0 rfl rfl)
theorem dX2_isNot_1 : decode cX2_isNot 1 = .ok (.iload_n 1, 1) := dk_27 (dk_at dksX2_isNot_0 1 rfl rfl)
theorem dX2_isNot_2 : decode cX2_isNot 2 = .ok (.putfield 35, 3) := dk_181 0 35 (dk_at dksX2_isNot_0 2 rfl rfl)
theorem dX2_isNot_5 : decode cX2_isNot 5 = .ok (.aload_n 0, 1) := dk_42 (dk_at dksX2_isNot_0 5 rfl rfl)
theorem dX2_isNot_6 : decode cX2_isNot 6 = .ok (.iload_n 2, 1) := dk_28 (dk_at dksX2_isNot_0 6 rfl rfl)
theorem dX2_isNot_7 : decode cX2_isNot 7 = .ok (.putfield 39, 3) := dk_181 0 39 (dk_at dksX2_isNot_0 7 rfl rfl)
theorem dX2_isNot_10 : decode cX2_isNot 10 = .ok (.bipush (-14), 2) := dk_16 242 (dk_at dksX2_isNot_0 10 rfl rfl)
theorem dX2_isNot_12 : decode cX2_isNot 12 = .ok (.ireturn, 1) := dk_172 (dk_at dksX2_isNot_0 12 rfl rfl)
abbrev cX2_refuses : ByteArray := prog_13_method_5_code
def yX2_refuses : MethodName := ⟨RX2, "refuses", "(I)I"⟩
def dkwX2_refuses_0 : List UInt8 := [27, 16, 242, 160, 0, 19, 42, 42, 180, 0, 35, 181, 0, 42, 42, 42, 180, 0, 39, 181, 0, 45, 27, 172]
abbrev dktX2_refuses_0 : List UInt8 := dkwX2_refuses_0 ++ []
theorem dksX2_refuses_0 : cX2_refuses.data.toList.drop 0 = dktX2_refuses_0 := by decide +kernel
theorem dX2_refuses_0 : decode cX2_refuses 0 = .ok (.iload_n 1, 1) := dk_27 (dk_at dksX2_refuses_0 0 rfl rfl)
theorem dX2_refuses_1 : decode cX2_refuses 1 = .ok (.bipush (-14), 2) := dk_16 242 (dk_at dksX2_refuses_0 1 rfl rfl)
theorem dX2_refuses_3 : decode cX2_refuses 3 = .ok (.if_icmp .ne 19, 3) := dk_160 0 19 (dk_at dksX2_refuses_0 3 rfl rfl)
theorem dX2_refuses_6 : decode cX2_refuses 6 = .ok (.aload_n 0, 1) := dk_42 (dk_at dksX2_refuses_0 6 rfl rfl)
theorem dX2_refuses_7 : decode cX2_refuses 7 = .ok (.aload_n 0, 1) := dk_42 (dk_at dksX2_refuses_0 7 rfl rfl)
theorem dX2_refuses_8 : decode cX2_refuses 8 = .ok (.getfield 35, 3) := dk_180 0 35 (dk_at dksX2_refuses_0 8 rfl rfl)
theorem dX2_refuses_11 : decode cX2_refuses 11 = .ok (.putfield 42, 3) := dk_181 0 42 (dk_at dksX2_refuses_0 11 rfl rfl)
theorem dX2_refuses_14 : decode cX2_refuses 14 = .ok (.aload_n 0, 1) := dk_42 (dk_at dksX2_refuses_0 14 rfl rfl)
theorem dX2_refuses_15 : decode cX2_refuses 15 = .ok (.aload_n 0, 1) := dk_42 (dk_at dksX2_refuses_0 15 rfl rfl)
theorem dX2_refuses_16 : decode cX2_refuses 16 = .ok (.getfield 39, 3) := dk_180 0 39 (dk_at dksX2_refuses_0 16 rfl rfl)
theorem dX2_refuses_19 : decode cX2_refuses 19 = .ok (.putfield 45, 3) := dk_181 0 45 (dk_at dksX2_refuses_0 19 rfl rfl)
theorem dX2_refuses_22 : decode cX2_refuses 22 = .ok (.iload_n 1, 1) := dk_27 (dk_at dksX2_refuses_0 22 rfl rfl)
theorem dX2_refuses_23 : decode cX2_refuses 23 = .ok (.ireturn, 1) := dk_172 (dk_at dksX2_refuses_0 23 rfl rfl)
abbrev cX2_remembers : ByteArray := prog_13_method_10_code
def yX2_remembers : MethodName := ⟨RX2, "remembers", "()V"⟩
def dkwX2_remembers_0 : List UInt8 := [42, 182, 0, 54, 42, 182, 0, 57, 177]
abbrev dktX2_remembers_0 : List UInt8 := dkwX2_remembers_0 ++ []
theorem dksX2_remembers_0 : cX2_remembers.data.toList.drop 0 = dktX2_remembers_0 := by decide +kernel
theorem dX2_remembers_0 : decode cX2_remembers 0 = .ok (.aload_n 0, 1) := dk_42 (dk_at dksX2_remembers_0 0 rfl rfl)
theorem dX2_remembers_1 : decode cX2_remembers 1 = .ok (.invokevirtual 54, 3) := dk_182 0 54 (dk_at dksX2_remembers_0 1 rfl rfl)
theorem dX2_remembers_4 : decode cX2_remembers 4 = .ok (.aload_n 0, 1) := dk_42 (dk_at dksX2_remembers_0 4 rfl rfl)
theorem dX2_remembers_5 : decode cX2_remembers 5 = .ok (.invokevirtual 57, 3) := dk_182 0 57 (dk_at dksX2_remembers_0 5 rfl rfl)
theorem dX2_remembers_8 : decode cX2_remembers 8 = .ok (.return_, 1) := dk_177 (dk_at dksX2_remembers_0 8 rfl rfl)
abbrev cX2_thinks : ByteArray := prog_13_method_7_code
def yX2_thinks : MethodName := ⟨RX2, "thinks", "()V"⟩
def dkwX2_thinks_1 : List UInt8 := [167, 255, 234, 177]
abbrev dktX2_thinks_1 : List UInt8 := dkwX2_thinks_1 ++ []
def dkwX2_thinks_0 : List UInt8 := [3, 60, 27, 17, 1, 64, 162, 0, 21, 42, 180, 0, 19, 27, 42, 180, 0, 7, 27, 46, 79, 132, 1, 1]
abbrev dktX2_thinks_0 : List UInt8 := dkwX2_thinks_0 ++ dktX2_thinks_1
theorem dksX2_thinks_0 : cX2_thinks.data.toList.drop 0 = dktX2_thinks_0 := by decide +kernel
theorem dksX2_thinks_1 : cX2_thinks.data.toList.drop 24 = dktX2_thinks_1 := dk_seg dksX2_thinks_0 24 rfl rfl
theorem dX2_thinks_0 : decode cX2_thinks 0 = .ok (.iconst 0, 1) := dk_3 (dk_at dksX2_thinks_0 0 rfl rfl)
theorem dX2_thinks_1 : decode cX2_thinks 1 = .ok (.istore_n 1, 1) := dk_60 (dk_at dksX2_thinks_0 1 rfl rfl)
theorem dX2_thinks_2 : decode cX2_thinks 2 = .ok (.iload_n 1, 1) := dk_27 (dk_at dksX2_thinks_0 2 rfl rfl)
theorem dX2_thinks_3 : decode cX2_thinks 3 = .ok (.sipush 320, 3) := dk_17 1 64 (dk_at dksX2_thinks_0 3 rfl rfl)
theorem dX2_thinks_6 : decode cX2_thinks 6 = .ok (.if_icmp .ge 21, 3) := dk_162 0 21 (dk_at dksX2_thinks_0 6 rfl rfl)
theorem dX2_thinks_9 : decode cX2_thinks 9 = .ok (.aload_n 0, 1) := dk_42 (dk_at dksX2_thinks_0 9 rfl rfl)
theorem dX2_thinks_10 : decode cX2_thinks 10 = .ok (.getfield 19, 3) := dk_180 0 19 (dk_at dksX2_thinks_0 10 rfl rfl)
theorem dX2_thinks_13 : decode cX2_thinks 13 = .ok (.iload_n 1, 1) := dk_27 (dk_at dksX2_thinks_0 13 rfl rfl)
theorem dX2_thinks_14 : decode cX2_thinks 14 = .ok (.aload_n 0, 1) := dk_42 (dk_at dksX2_thinks_0 14 rfl rfl)
theorem dX2_thinks_15 : decode cX2_thinks 15 = .ok (.getfield 7, 3) := dk_180 0 7 (dk_at dksX2_thinks_0 15 rfl rfl)
theorem dX2_thinks_18 : decode cX2_thinks 18 = .ok (.iload_n 1, 1) := dk_27 (dk_at dksX2_thinks_0 18 rfl rfl)
theorem dX2_thinks_19 : decode cX2_thinks 19 = .ok (.iaload, 1) := dk_46 (dk_at dksX2_thinks_0 19 rfl rfl)
theorem dX2_thinks_20 : decode cX2_thinks 20 = .ok (.iastore, 1) := dk_79 (dk_at dksX2_thinks_0 20 rfl rfl)
theorem dX2_thinks_21 : decode cX2_thinks 21 = .ok (.iinc 1 1, 3) := dk_132 1 1 (dk_at dksX2_thinks_0 21 rfl rfl)
theorem dX2_thinks_24 : decode cX2_thinks 24 = .ok (.goto (-22), 3) := dk_167 255 234 (dk_at dksX2_thinks_1 0 rfl rfl)
theorem dX2_thinks_27 : decode cX2_thinks 27 = .ok (.return_, 1) := dk_177 (dk_at dksX2_thinks_1 3 rfl rfl)
abbrev cX2_keepsMind : ByteArray := prog_13_method_9_code
def yX2_keepsMind : MethodName := ⟨RX2, "keepsMind", "()V"⟩
def dkwX2_keepsMind_3 : List UInt8 := [132, 2, 1, 167, 255, 228, 42, 89, 180, 0, 48, 4, 96, 181, 0, 48, 177]
abbrev dktX2_keepsMind_3 : List UInt8 := dkwX2_keepsMind_3 ++ []
def dkwX2_keepsMind_2 : List UInt8 := [17, 1, 64, 162, 0, 27, 42, 180, 0, 13, 17, 1, 64, 27, 104, 28, 96, 42, 180, 0, 19, 28, 46, 79]
abbrev dktX2_keepsMind_2 : List UInt8 := dkwX2_keepsMind_2 ++ dktX2_keepsMind_3
def dkwX2_keepsMind_1 : List UInt8 := [180, 0, 48, 4, 100, 181, 0, 48, 42, 180, 0, 51, 42, 180, 0, 48, 96, 16, 8, 112, 60, 3, 61, 28]
abbrev dktX2_keepsMind_1 : List UInt8 := dkwX2_keepsMind_1 ++ dktX2_keepsMind_2
def dkwX2_keepsMind_0 : List UInt8 := [42, 180, 0, 48, 16, 8, 160, 0, 26, 42, 42, 180, 0, 51, 4, 96, 16, 8, 112, 181, 0, 51, 42, 89]
abbrev dktX2_keepsMind_0 : List UInt8 := dkwX2_keepsMind_0 ++ dktX2_keepsMind_1
theorem dksX2_keepsMind_0 : cX2_keepsMind.data.toList.drop 0 = dktX2_keepsMind_0 := by decide +kernel
theorem dksX2_keepsMind_1 : cX2_keepsMind.data.toList.drop 24 = dktX2_keepsMind_1 := dk_seg dksX2_keepsMind_0 24 rfl rfl
theorem dksX2_keepsMind_2 : cX2_keepsMind.data.toList.drop 48 = dktX2_keepsMind_2 := dk_seg dksX2_keepsMind_1 24 rfl rfl
theorem dksX2_keepsMind_3 : cX2_keepsMind.data.toList.drop 72 = dktX2_keepsMind_3 := dk_seg dksX2_keepsMind_2 24 rfl rfl
theorem dX2_keepsMind_0 : decode cX2_keepsMind 0 = .ok (.aload_n 0, 1) := dk_42 (dk_at dksX2_keepsMind_0 0 rfl rfl)
theorem dX2_keepsMind_1 : decode cX2_keepsMind 1 = .ok (.getfield 48, 3) := dk_180 0 48 (dk_at dksX2_keepsMind_0 1 rfl rfl)
theorem dX2_keepsMind_4 : decode cX2_keepsMind 4 = .ok (.bipush 8, 2) := dk_16 8 (dk_at dksX2_keepsMind_0 4 rfl rfl)
theorem dX2_keepsMind_6 : decode cX2_keepsMind 6 = .ok (.if_icmp .ne 26, 3) := dk_160 0 26 (dk_at dksX2_keepsMind_0 6 rfl rfl)
theorem dX2_keepsMind_9 : decode cX2_keepsMind 9 = .ok (.aload_n 0, 1) := dk_42 (dk_at dksX2_keepsMind_0 9 rfl rfl)
theorem dX2_keepsMind_10 : decode cX2_keepsMind 10 = .ok (.aload_n 0, 1) := dk_42 (dk_at dksX2_keepsMind_0 10 rfl rfl)
theorem dX2_keepsMind_11 : decode cX2_keepsMind 11 = .ok (.getfield 51, 3) := dk_180 0 51 (dk_at dksX2_keepsMind_0 11 rfl rfl)
theorem dX2_keepsMind_14 : decode cX2_keepsMind 14 = .ok (.iconst 1, 1) := dk_4 (dk_at dksX2_keepsMind_0 14 rfl rfl)
theorem dX2_keepsMind_15 : decode cX2_keepsMind 15 = .ok (.iadd, 1) := dk_96 (dk_at dksX2_keepsMind_0 15 rfl rfl)
theorem dX2_keepsMind_16 : decode cX2_keepsMind 16 = .ok (.bipush 8, 2) := dk_16 8 (dk_at dksX2_keepsMind_0 16 rfl rfl)
theorem dX2_keepsMind_18 : decode cX2_keepsMind 18 = .ok (.irem, 1) := dk_112 (dk_at dksX2_keepsMind_0 18 rfl rfl)
theorem dX2_keepsMind_19 : decode cX2_keepsMind 19 = .ok (.putfield 51, 3) := dk_181 0 51 (dk_at dksX2_keepsMind_0 19 rfl rfl)
theorem dX2_keepsMind_22 : decode cX2_keepsMind 22 = .ok (.aload_n 0, 1) := dk_42 (dk_at dksX2_keepsMind_0 22 rfl rfl)
theorem dX2_keepsMind_23 : decode cX2_keepsMind 23 = .ok (.dup, 1) := dk_89 (dk_at dksX2_keepsMind_0 23 rfl rfl)
theorem dX2_keepsMind_24 : decode cX2_keepsMind 24 = .ok (.getfield 48, 3) := dk_180 0 48 (dk_at dksX2_keepsMind_1 0 rfl rfl)
theorem dX2_keepsMind_27 : decode cX2_keepsMind 27 = .ok (.iconst 1, 1) := dk_4 (dk_at dksX2_keepsMind_1 3 rfl rfl)
theorem dX2_keepsMind_28 : decode cX2_keepsMind 28 = .ok (.isub, 1) := dk_100 (dk_at dksX2_keepsMind_1 4 rfl rfl)
theorem dX2_keepsMind_29 : decode cX2_keepsMind 29 = .ok (.putfield 48, 3) := dk_181 0 48 (dk_at dksX2_keepsMind_1 5 rfl rfl)
theorem dX2_keepsMind_32 : decode cX2_keepsMind 32 = .ok (.aload_n 0, 1) := dk_42 (dk_at dksX2_keepsMind_1 8 rfl rfl)
theorem dX2_keepsMind_33 : decode cX2_keepsMind 33 = .ok (.getfield 51, 3) := dk_180 0 51 (dk_at dksX2_keepsMind_1 9 rfl rfl)
theorem dX2_keepsMind_36 : decode cX2_keepsMind 36 = .ok (.aload_n 0, 1) := dk_42 (dk_at dksX2_keepsMind_1 12 rfl rfl)
theorem dX2_keepsMind_37 : decode cX2_keepsMind 37 = .ok (.getfield 48, 3) := dk_180 0 48 (dk_at dksX2_keepsMind_1 13 rfl rfl)
theorem dX2_keepsMind_40 : decode cX2_keepsMind 40 = .ok (.iadd, 1) := dk_96 (dk_at dksX2_keepsMind_1 16 rfl rfl)
theorem dX2_keepsMind_41 : decode cX2_keepsMind 41 = .ok (.bipush 8, 2) := dk_16 8 (dk_at dksX2_keepsMind_1 17 rfl rfl)
theorem dX2_keepsMind_43 : decode cX2_keepsMind 43 = .ok (.irem, 1) := dk_112 (dk_at dksX2_keepsMind_1 19 rfl rfl)
theorem dX2_keepsMind_44 : decode cX2_keepsMind 44 = .ok (.istore_n 1, 1) := dk_60 (dk_at dksX2_keepsMind_1 20 rfl rfl)
theorem dX2_keepsMind_45 : decode cX2_keepsMind 45 = .ok (.iconst 0, 1) := dk_3 (dk_at dksX2_keepsMind_1 21 rfl rfl)
theorem dX2_keepsMind_46 : decode cX2_keepsMind 46 = .ok (.istore_n 2, 1) := dk_61 (dk_at dksX2_keepsMind_1 22 rfl rfl)
theorem dX2_keepsMind_47 : decode cX2_keepsMind 47 = .ok (.iload_n 2, 1) := dk_28 (dk_at dksX2_keepsMind_1 23 rfl rfl)
theorem dX2_keepsMind_48 : decode cX2_keepsMind 48 = .ok (.sipush 320, 3) := dk_17 1 64 (dk_at dksX2_keepsMind_2 0 rfl rfl)
theorem dX2_keepsMind_51 : decode cX2_keepsMind 51 = .ok (.if_icmp .ge 27, 3) := dk_162 0 27 (dk_at dksX2_keepsMind_2 3 rfl rfl)
theorem dX2_keepsMind_54 : decode cX2_keepsMind 54 = .ok (.aload_n 0, 1) := dk_42 (dk_at dksX2_keepsMind_2 6 rfl rfl)
theorem dX2_keepsMind_55 : decode cX2_keepsMind 55 = .ok (.getfield 13, 3) := dk_180 0 13 (dk_at dksX2_keepsMind_2 7 rfl rfl)
theorem dX2_keepsMind_58 : decode cX2_keepsMind 58 = .ok (.sipush 320, 3) := dk_17 1 64 (dk_at dksX2_keepsMind_2 10 rfl rfl)
theorem dX2_keepsMind_61 : decode cX2_keepsMind 61 = .ok (.iload_n 1, 1) := dk_27 (dk_at dksX2_keepsMind_2 13 rfl rfl)
theorem dX2_keepsMind_62 : decode cX2_keepsMind 62 = .ok (.imul, 1) := dk_104 (dk_at dksX2_keepsMind_2 14 rfl rfl)
theorem dX2_keepsMind_63 : decode cX2_keepsMind 63 = .ok (.iload_n 2, 1) := dk_28 (dk_at dksX2_keepsMind_2 15 rfl rfl)
theorem dX2_keepsMind_64 : decode cX2_keepsMind 64 = .ok (.iadd, 1) := dk_96 (dk_at dksX2_keepsMind_2 16 rfl rfl)
theorem dX2_keepsMind_65 : decode cX2_keepsMind 65 = .ok (.aload_n 0, 1) := dk_42 (dk_at dksX2_keepsMind_2 17 rfl rfl)
theorem dX2_keepsMind_66 : decode cX2_keepsMind 66 = .ok (.getfield 19, 3) := dk_180 0 19 (dk_at dksX2_keepsMind_2 18 rfl rfl)
theorem dX2_keepsMind_69 : decode cX2_keepsMind 69 = .ok (.iload_n 2, 1) := dk_28 (dk_at dksX2_keepsMind_2 21 rfl rfl)
theorem dX2_keepsMind_70 : decode cX2_keepsMind 70 = .ok (.iaload, 1) := dk_46 (dk_at dksX2_keepsMind_2 22 rfl rfl)
theorem dX2_keepsMind_71 : decode cX2_keepsMind 71 = .ok (.iastore, 1) := dk_79 (dk_at dksX2_keepsMind_2 23 rfl rfl)
theorem dX2_keepsMind_72 : decode cX2_keepsMind 72 = .ok (.iinc 2 1, 3) := dk_132 2 1 (dk_at dksX2_keepsMind_3 0 rfl rfl)
theorem dX2_keepsMind_75 : decode cX2_keepsMind 75 = .ok (.goto (-28), 3) := dk_167 255 228 (dk_at dksX2_keepsMind_3 3 rfl rfl)
theorem dX2_keepsMind_78 : decode cX2_keepsMind 78 = .ok (.aload_n 0, 1) := dk_42 (dk_at dksX2_keepsMind_3 6 rfl rfl)
theorem dX2_keepsMind_79 : decode cX2_keepsMind 79 = .ok (.dup, 1) := dk_89 (dk_at dksX2_keepsMind_3 7 rfl rfl)
theorem dX2_keepsMind_80 : decode cX2_keepsMind 80 = .ok (.getfield 48, 3) := dk_180 0 48 (dk_at dksX2_keepsMind_3 8 rfl rfl)
theorem dX2_keepsMind_83 : decode cX2_keepsMind 83 = .ok (.iconst 1, 1) := dk_4 (dk_at dksX2_keepsMind_3 11 rfl rfl)
theorem dX2_keepsMind_84 : decode cX2_keepsMind 84 = .ok (.iadd, 1) := dk_96 (dk_at dksX2_keepsMind_3 12 rfl rfl)
theorem dX2_keepsMind_85 : decode cX2_keepsMind 85 = .ok (.putfield 48, 3) := dk_181 0 48 (dk_at dksX2_keepsMind_3 13 rfl rfl)
theorem dX2_keepsMind_88 : decode cX2_keepsMind 88 = .ok (.return_, 1) := dk_177 (dk_at dksX2_keepsMind_3 16 rfl rfl)
abbrev cX2_sets : ByteArray := prog_13_method_12_code
def yX2_sets : MethodName := ⟨RX2, "sets", "(III)V"⟩
def dkwX2_sets_0 : List UInt8 := [42, 180, 0, 7, 16, 64, 16, 16, 27, 104, 96, 28, 96, 29, 79, 177]
abbrev dktX2_sets_0 : List UInt8 := dkwX2_sets_0 ++ []
theorem dksX2_sets_0 : cX2_sets.data.toList.drop 0 = dktX2_sets_0 := by decide +kernel
theorem dX2_sets_0 : decode cX2_sets 0 = .ok (.aload_n 0, 1) := dk_42 (dk_at dksX2_sets_0 0 rfl rfl)
theorem dX2_sets_1 : decode cX2_sets 1 = .ok (.getfield 7, 3) := dk_180 0 7 (dk_at dksX2_sets_0 1 rfl rfl)
theorem dX2_sets_4 : decode cX2_sets 4 = .ok (.bipush 64, 2) := dk_16 64 (dk_at dksX2_sets_0 4 rfl rfl)
theorem dX2_sets_6 : decode cX2_sets 6 = .ok (.bipush 16, 2) := dk_16 16 (dk_at dksX2_sets_0 6 rfl rfl)
theorem dX2_sets_8 : decode cX2_sets 8 = .ok (.iload_n 1, 1) := dk_27 (dk_at dksX2_sets_0 8 rfl rfl)
theorem dX2_sets_9 : decode cX2_sets 9 = .ok (.imul, 1) := dk_104 (dk_at dksX2_sets_0 9 rfl rfl)
theorem dX2_sets_10 : decode cX2_sets 10 = .ok (.iadd, 1) := dk_96 (dk_at dksX2_sets_0 10 rfl rfl)
theorem dX2_sets_11 : decode cX2_sets 11 = .ok (.iload_n 2, 1) := dk_28 (dk_at dksX2_sets_0 11 rfl rfl)
theorem dX2_sets_12 : decode cX2_sets 12 = .ok (.iadd, 1) := dk_96 (dk_at dksX2_sets_0 12 rfl rfl)
theorem dX2_sets_13 : decode cX2_sets 13 = .ok (.iload_n 3, 1) := dk_29 (dk_at dksX2_sets_0 13 rfl rfl)
theorem dX2_sets_14 : decode cX2_sets 14 = .ok (.iastore, 1) := dk_79 (dk_at dksX2_sets_0 14 rfl rfl)
theorem dX2_sets_15 : decode cX2_sets 15 = .ok (.return_, 1) := dk_177 (dk_at dksX2_sets_0 15 rfl rfl)
abbrev cX2_stamps : ByteArray := prog_13_method_21_code
def yX2_stamps : MethodName := ⟨RX2, "stamps", "(I)V"⟩
def dkwX2_stamps_1 : List UInt8 := [182, 0, 76, 177]
abbrev dktX2_stamps_1 : List UInt8 := dkwX2_stamps_1 ++ []
def dkwX2_stamps_0 : List UInt8 := [42, 180, 0, 7, 16, 10, 92, 46, 4, 96, 79, 42, 27, 16, 8, 42, 180, 0, 7, 16, 10, 46]
abbrev dktX2_stamps_0 : List UInt8 := dkwX2_stamps_0 ++ dktX2_stamps_1
theorem dksX2_stamps_0 : cX2_stamps.data.toList.drop 0 = dktX2_stamps_0 := by decide +kernel
theorem dksX2_stamps_1 : cX2_stamps.data.toList.drop 22 = dktX2_stamps_1 := dk_seg dksX2_stamps_0 22 rfl rfl
theorem dX2_stamps_0 : decode cX2_stamps 0 = .ok (.aload_n 0, 1) := dk_42 (dk_at dksX2_stamps_0 0 rfl rfl)
theorem dX2_stamps_1 : decode cX2_stamps 1 = .ok (.getfield 7, 3) := dk_180 0 7 (dk_at dksX2_stamps_0 1 rfl rfl)
theorem dX2_stamps_4 : decode cX2_stamps 4 = .ok (.bipush 10, 2) := dk_16 10 (dk_at dksX2_stamps_0 4 rfl rfl)
theorem dX2_stamps_6 : decode cX2_stamps 6 = .ok (.dup2, 1) := dk_92 (dk_at dksX2_stamps_0 6 rfl rfl)
theorem dX2_stamps_7 : decode cX2_stamps 7 = .ok (.iaload, 1) := dk_46 (dk_at dksX2_stamps_0 7 rfl rfl)
theorem dX2_stamps_8 : decode cX2_stamps 8 = .ok (.iconst 1, 1) := dk_4 (dk_at dksX2_stamps_0 8 rfl rfl)
theorem dX2_stamps_9 : decode cX2_stamps 9 = .ok (.iadd, 1) := dk_96 (dk_at dksX2_stamps_0 9 rfl rfl)
theorem dX2_stamps_10 : decode cX2_stamps 10 = .ok (.iastore, 1) := dk_79 (dk_at dksX2_stamps_0 10 rfl rfl)
theorem dX2_stamps_11 : decode cX2_stamps 11 = .ok (.aload_n 0, 1) := dk_42 (dk_at dksX2_stamps_0 11 rfl rfl)
theorem dX2_stamps_12 : decode cX2_stamps 12 = .ok (.iload_n 1, 1) := dk_27 (dk_at dksX2_stamps_0 12 rfl rfl)
theorem dX2_stamps_13 : decode cX2_stamps 13 = .ok (.bipush 8, 2) := dk_16 8 (dk_at dksX2_stamps_0 13 rfl rfl)
theorem dX2_stamps_15 : decode cX2_stamps 15 = .ok (.aload_n 0, 1) := dk_42 (dk_at dksX2_stamps_0 15 rfl rfl)
theorem dX2_stamps_16 : decode cX2_stamps 16 = .ok (.getfield 7, 3) := dk_180 0 7 (dk_at dksX2_stamps_0 16 rfl rfl)
theorem dX2_stamps_19 : decode cX2_stamps 19 = .ok (.bipush 10, 2) := dk_16 10 (dk_at dksX2_stamps_0 19 rfl rfl)
theorem dX2_stamps_21 : decode cX2_stamps 21 = .ok (.iaload, 1) := dk_46 (dk_at dksX2_stamps_0 21 rfl rfl)
theorem dX2_stamps_22 : decode cX2_stamps 22 = .ok (.invokevirtual 76, 3) := dk_182 0 76 (dk_at dksX2_stamps_1 0 rfl rfl)
theorem dX2_stamps_25 : decode cX2_stamps 25 = .ok (.return_, 1) := dk_177 (dk_at dksX2_stamps_1 3 rfl rfl)
abbrev cX2_withdraw : ByteArray := prog_13_method_24_code
def yX2_withdraw : MethodName := ⟨RX2, "withdraw", "(I)I"⟩
def dkwX2_withdraw_2 : List UInt8 := [182, 0, 104, 172]
abbrev dktX2_withdraw_2 : List UInt8 := dkwX2_withdraw_2 ++ []
def dkwX2_withdraw_1 : List UInt8 := [27, 5, 182, 0, 64, 182, 0, 84, 182, 0, 87, 172, 42, 182, 0, 90, 42, 27, 6, 182, 0, 100, 42, 3]
abbrev dktX2_withdraw_1 : List UInt8 := dkwX2_withdraw_1 ++ dktX2_withdraw_2
def dkwX2_withdraw_0 : List UInt8 := [42, 27, 182, 0, 96, 154, 0, 6, 16, 245, 172, 42, 27, 3, 182, 0, 68, 154, 0, 19, 42, 42, 5, 42]
abbrev dktX2_withdraw_0 : List UInt8 := dkwX2_withdraw_0 ++ dktX2_withdraw_1
theorem dksX2_withdraw_0 : cX2_withdraw.data.toList.drop 0 = dktX2_withdraw_0 := by decide +kernel
theorem dksX2_withdraw_1 : cX2_withdraw.data.toList.drop 24 = dktX2_withdraw_1 := dk_seg dksX2_withdraw_0 24 rfl rfl
theorem dksX2_withdraw_2 : cX2_withdraw.data.toList.drop 48 = dktX2_withdraw_2 := dk_seg dksX2_withdraw_1 24 rfl rfl
theorem dX2_withdraw_0 : decode cX2_withdraw 0 = .ok (.aload_n 0, 1) := dk_42 (dk_at dksX2_withdraw_0 0 rfl rfl)
theorem dX2_withdraw_1 : decode cX2_withdraw 1 = .ok (.iload_n 1, 1) := dk_27 (dk_at dksX2_withdraw_0 1 rfl rfl)
theorem dX2_withdraw_2 : decode cX2_withdraw 2 = .ok (.invokevirtual 96, 3) := dk_182 0 96 (dk_at dksX2_withdraw_0 2 rfl rfl)
theorem dX2_withdraw_5 : decode cX2_withdraw 5 = .ok (.ifCond .ne 6, 3) := dk_154 0 6 (dk_at dksX2_withdraw_0 5 rfl rfl)
theorem dX2_withdraw_8 : decode cX2_withdraw 8 = .ok (.bipush (-11), 2) := dk_16 245 (dk_at dksX2_withdraw_0 8 rfl rfl)
theorem dX2_withdraw_10 : decode cX2_withdraw 10 = .ok (.ireturn, 1) := dk_172 (dk_at dksX2_withdraw_0 10 rfl rfl)
theorem dX2_withdraw_11 : decode cX2_withdraw 11 = .ok (.aload_n 0, 1) := dk_42 (dk_at dksX2_withdraw_0 11 rfl rfl)
theorem dX2_withdraw_12 : decode cX2_withdraw 12 = .ok (.iload_n 1, 1) := dk_27 (dk_at dksX2_withdraw_0 12 rfl rfl)
theorem dX2_withdraw_13 : decode cX2_withdraw 13 = .ok (.iconst 0, 1) := dk_3 (dk_at dksX2_withdraw_0 13 rfl rfl)
theorem dX2_withdraw_14 : decode cX2_withdraw 14 = .ok (.invokevirtual 68, 3) := dk_182 0 68 (dk_at dksX2_withdraw_0 14 rfl rfl)
theorem dX2_withdraw_17 : decode cX2_withdraw 17 = .ok (.ifCond .ne 19, 3) := dk_154 0 19 (dk_at dksX2_withdraw_0 17 rfl rfl)
theorem dX2_withdraw_20 : decode cX2_withdraw 20 = .ok (.aload_n 0, 1) := dk_42 (dk_at dksX2_withdraw_0 20 rfl rfl)
theorem dX2_withdraw_21 : decode cX2_withdraw 21 = .ok (.aload_n 0, 1) := dk_42 (dk_at dksX2_withdraw_0 21 rfl rfl)
theorem dX2_withdraw_22 : decode cX2_withdraw 22 = .ok (.iconst 2, 1) := dk_5 (dk_at dksX2_withdraw_0 22 rfl rfl)
theorem dX2_withdraw_23 : decode cX2_withdraw 23 = .ok (.aload_n 0, 1) := dk_42 (dk_at dksX2_withdraw_0 23 rfl rfl)
theorem dX2_withdraw_24 : decode cX2_withdraw 24 = .ok (.iload_n 1, 1) := dk_27 (dk_at dksX2_withdraw_1 0 rfl rfl)
theorem dX2_withdraw_25 : decode cX2_withdraw 25 = .ok (.iconst 2, 1) := dk_5 (dk_at dksX2_withdraw_1 1 rfl rfl)
theorem dX2_withdraw_26 : decode cX2_withdraw 26 = .ok (.invokevirtual 64, 3) := dk_182 0 64 (dk_at dksX2_withdraw_1 2 rfl rfl)
theorem dX2_withdraw_29 : decode cX2_withdraw 29 = .ok (.invokevirtual 84, 3) := dk_182 0 84 (dk_at dksX2_withdraw_1 5 rfl rfl)
theorem dX2_withdraw_32 : decode cX2_withdraw 32 = .ok (.invokevirtual 87, 3) := dk_182 0 87 (dk_at dksX2_withdraw_1 8 rfl rfl)
theorem dX2_withdraw_35 : decode cX2_withdraw 35 = .ok (.ireturn, 1) := dk_172 (dk_at dksX2_withdraw_1 11 rfl rfl)
theorem dX2_withdraw_36 : decode cX2_withdraw 36 = .ok (.aload_n 0, 1) := dk_42 (dk_at dksX2_withdraw_1 12 rfl rfl)
theorem dX2_withdraw_37 : decode cX2_withdraw 37 = .ok (.invokevirtual 90, 3) := dk_182 0 90 (dk_at dksX2_withdraw_1 13 rfl rfl)
theorem dX2_withdraw_40 : decode cX2_withdraw 40 = .ok (.aload_n 0, 1) := dk_42 (dk_at dksX2_withdraw_1 16 rfl rfl)
theorem dX2_withdraw_41 : decode cX2_withdraw 41 = .ok (.iload_n 1, 1) := dk_27 (dk_at dksX2_withdraw_1 17 rfl rfl)
theorem dX2_withdraw_42 : decode cX2_withdraw 42 = .ok (.iconst 3, 1) := dk_6 (dk_at dksX2_withdraw_1 18 rfl rfl)
theorem dX2_withdraw_43 : decode cX2_withdraw 43 = .ok (.invokevirtual 100, 3) := dk_182 0 100 (dk_at dksX2_withdraw_1 19 rfl rfl)
theorem dX2_withdraw_46 : decode cX2_withdraw 46 = .ok (.aload_n 0, 1) := dk_42 (dk_at dksX2_withdraw_1 22 rfl rfl)
theorem dX2_withdraw_47 : decode cX2_withdraw 47 = .ok (.iconst 0, 1) := dk_3 (dk_at dksX2_withdraw_1 23 rfl rfl)
theorem dX2_withdraw_48 : decode cX2_withdraw 48 = .ok (.invokevirtual 104, 3) := dk_182 0 104 (dk_at dksX2_withdraw_2 0 rfl rfl)
theorem dX2_withdraw_51 : decode cX2_withdraw 51 = .ok (.ireturn, 1) := dk_172 (dk_at dksX2_withdraw_2 3 rfl rfl)
abbrev cX2_isBrother : ByteArray := prog_13_method_13_code
def yX2_isBrother : MethodName := ⟨RX2, "isBrother", "(I)Z"⟩
def dkwX2_isBrother_0 : List UInt8 := [27, 3, 42, 180, 0, 7, 5, 46, 4, 100, 184, 0, 60, 172]
abbrev dktX2_isBrother_0 : List UInt8 := dkwX2_isBrother_0 ++ []
theorem dksX2_isBrother_0 : cX2_isBrother.data.toList.drop 0 = dktX2_isBrother_0 := by decide +kernel
theorem dX2_isBrother_0 : decode cX2_isBrother 0 = .ok (.iload_n 1, 1) := dk_27 (dk_at dksX2_isBrother_0 0 rfl rfl)
theorem dX2_isBrother_1 : decode cX2_isBrother 1 = .ok (.iconst 0, 1) := dk_3 (dk_at dksX2_isBrother_0 1 rfl rfl)
theorem dX2_isBrother_2 : decode cX2_isBrother 2 = .ok (.aload_n 0, 1) := dk_42 (dk_at dksX2_isBrother_0 2 rfl rfl)
theorem dX2_isBrother_3 : decode cX2_isBrother 3 = .ok (.getfield 7, 3) := dk_180 0 7 (dk_at dksX2_isBrother_0 3 rfl rfl)
theorem dX2_isBrother_6 : decode cX2_isBrother 6 = .ok (.iconst 2, 1) := dk_5 (dk_at dksX2_isBrother_0 6 rfl rfl)
theorem dX2_isBrother_7 : decode cX2_isBrother 7 = .ok (.iaload, 1) := dk_46 (dk_at dksX2_isBrother_0 7 rfl rfl)
theorem dX2_isBrother_8 : decode cX2_isBrother 8 = .ok (.iconst 1, 1) := dk_4 (dk_at dksX2_isBrother_0 8 rfl rfl)
theorem dX2_isBrother_9 : decode cX2_isBrother 9 = .ok (.isub, 1) := dk_100 (dk_at dksX2_isBrother_0 9 rfl rfl)
theorem dX2_isBrother_10 : decode cX2_isBrother 10 = .ok (.invokestatic 60, 3) := dk_184 0 60 (dk_at dksX2_isBrother_0 10 rfl rfl)
theorem dX2_isBrother_13 : decode cX2_isBrother 13 = .ok (.ireturn, 1) := dk_172 (dk_at dksX2_isBrother_0 13 rfl rfl)
abbrev cX2_isSo : ByteArray := prog_13_method_15_code
def yX2_isSo : MethodName := ⟨RX2, "isSo", "(II)Z"⟩
def dkwX2_isSo_0 : List UInt8 := [42, 27, 5, 182, 0, 64, 28, 160, 0, 7, 4, 167, 0, 4, 3, 172]
abbrev dktX2_isSo_0 : List UInt8 := dkwX2_isSo_0 ++ []
theorem dksX2_isSo_0 : cX2_isSo.data.toList.drop 0 = dktX2_isSo_0 := by decide +kernel
theorem dX2_isSo_0 : decode cX2_isSo 0 = .ok (.aload_n 0, 1) := dk_42 (dk_at dksX2_isSo_0 0 rfl rfl)
theorem dX2_isSo_1 : decode cX2_isSo 1 = .ok (.iload_n 1, 1) := dk_27 (dk_at dksX2_isSo_0 1 rfl rfl)
theorem dX2_isSo_2 : decode cX2_isSo 2 = .ok (.iconst 2, 1) := dk_5 (dk_at dksX2_isSo_0 2 rfl rfl)
theorem dX2_isSo_3 : decode cX2_isSo 3 = .ok (.invokevirtual 64, 3) := dk_182 0 64 (dk_at dksX2_isSo_0 3 rfl rfl)
theorem dX2_isSo_6 : decode cX2_isSo 6 = .ok (.iload_n 2, 1) := dk_28 (dk_at dksX2_isSo_0 6 rfl rfl)
theorem dX2_isSo_7 : decode cX2_isSo 7 = .ok (.if_icmp .ne 7, 3) := dk_160 0 7 (dk_at dksX2_isSo_0 7 rfl rfl)
theorem dX2_isSo_10 : decode cX2_isSo 10 = .ok (.iconst 1, 1) := dk_4 (dk_at dksX2_isSo_0 10 rfl rfl)
theorem dX2_isSo_11 : decode cX2_isSo 11 = .ok (.goto 4, 3) := dk_167 0 4 (dk_at dksX2_isSo_0 11 rfl rfl)
theorem dX2_isSo_14 : decode cX2_isSo 14 = .ok (.iconst 0, 1) := dk_3 (dk_at dksX2_isSo_0 14 rfl rfl)
theorem dX2_isSo_15 : decode cX2_isSo 15 = .ok (.ireturn, 1) := dk_172 (dk_at dksX2_isSo_0 15 rfl rfl)
abbrev cX2_of : ByteArray := prog_13_method_11_code
def yX2_of : MethodName := ⟨RX2, "of", "(II)I"⟩
def dkwX2_of_0 : List UInt8 := [42, 180, 0, 7, 16, 64, 16, 16, 27, 104, 96, 28, 96, 46, 172]
abbrev dktX2_of_0 : List UInt8 := dkwX2_of_0 ++ []
theorem dksX2_of_0 : cX2_of.data.toList.drop 0 = dktX2_of_0 := by decide +kernel
theorem dX2_of_0 : decode cX2_of 0 = .ok (.aload_n 0, 1) := dk_42 (dk_at dksX2_of_0 0 rfl rfl)
theorem dX2_of_1 : decode cX2_of 1 = .ok (.getfield 7, 3) := dk_180 0 7 (dk_at dksX2_of_0 1 rfl rfl)
theorem dX2_of_4 : decode cX2_of 4 = .ok (.bipush 64, 2) := dk_16 64 (dk_at dksX2_of_0 4 rfl rfl)
theorem dX2_of_6 : decode cX2_of 6 = .ok (.bipush 16, 2) := dk_16 16 (dk_at dksX2_of_0 6 rfl rfl)
theorem dX2_of_8 : decode cX2_of 8 = .ok (.iload_n 1, 1) := dk_27 (dk_at dksX2_of_0 8 rfl rfl)
theorem dX2_of_9 : decode cX2_of 9 = .ok (.imul, 1) := dk_104 (dk_at dksX2_of_0 9 rfl rfl)
theorem dX2_of_10 : decode cX2_of 10 = .ok (.iadd, 1) := dk_96 (dk_at dksX2_of_0 10 rfl rfl)
theorem dX2_of_11 : decode cX2_of 11 = .ok (.iload_n 2, 1) := dk_28 (dk_at dksX2_of_0 11 rfl rfl)
theorem dX2_of_12 : decode cX2_of 12 = .ok (.iadd, 1) := dk_96 (dk_at dksX2_of_0 12 rfl rfl)
theorem dX2_of_13 : decode cX2_of 13 = .ok (.iaload, 1) := dk_46 (dk_at dksX2_of_0 13 rfl rfl)
theorem dX2_of_14 : decode cX2_of 14 = .ok (.ireturn, 1) := dk_172 (dk_at dksX2_of_0 14 rfl rfl)
abbrev cX2_becomes : ByteArray := prog_13_method_22_code
def yX2_becomes : MethodName := ⟨RX2, "becomes", "(II)V"⟩
def dkwX2_becomes_0 : List UInt8 := [42, 27, 5, 28, 182, 0, 76, 42, 27, 8, 3, 182, 0, 76, 42, 27, 182, 0, 80, 177]
abbrev dktX2_becomes_0 : List UInt8 := dkwX2_becomes_0 ++ []
theorem dksX2_becomes_0 : cX2_becomes.data.toList.drop 0 = dktX2_becomes_0 := by decide +kernel
theorem dX2_becomes_0 : decode cX2_becomes 0 = .ok (.aload_n 0, 1) := dk_42 (dk_at dksX2_becomes_0 0 rfl rfl)
theorem dX2_becomes_1 : decode cX2_becomes 1 = .ok (.iload_n 1, 1) := dk_27 (dk_at dksX2_becomes_0 1 rfl rfl)
theorem dX2_becomes_2 : decode cX2_becomes 2 = .ok (.iconst 2, 1) := dk_5 (dk_at dksX2_becomes_0 2 rfl rfl)
theorem dX2_becomes_3 : decode cX2_becomes 3 = .ok (.iload_n 2, 1) := dk_28 (dk_at dksX2_becomes_0 3 rfl rfl)
theorem dX2_becomes_4 : decode cX2_becomes 4 = .ok (.invokevirtual 76, 3) := dk_182 0 76 (dk_at dksX2_becomes_0 4 rfl rfl)
theorem dX2_becomes_7 : decode cX2_becomes 7 = .ok (.aload_n 0, 1) := dk_42 (dk_at dksX2_becomes_0 7 rfl rfl)
theorem dX2_becomes_8 : decode cX2_becomes 8 = .ok (.iload_n 1, 1) := dk_27 (dk_at dksX2_becomes_0 8 rfl rfl)
theorem dX2_becomes_9 : decode cX2_becomes 9 = .ok (.iconst 5, 1) := dk_8 (dk_at dksX2_becomes_0 9 rfl rfl)
theorem dX2_becomes_10 : decode cX2_becomes 10 = .ok (.iconst 0, 1) := dk_3 (dk_at dksX2_becomes_0 10 rfl rfl)
theorem dX2_becomes_11 : decode cX2_becomes 11 = .ok (.invokevirtual 76, 3) := dk_182 0 76 (dk_at dksX2_becomes_0 11 rfl rfl)
theorem dX2_becomes_14 : decode cX2_becomes 14 = .ok (.aload_n 0, 1) := dk_42 (dk_at dksX2_becomes_0 14 rfl rfl)
theorem dX2_becomes_15 : decode cX2_becomes 15 = .ok (.iload_n 1, 1) := dk_27 (dk_at dksX2_becomes_0 15 rfl rfl)
theorem dX2_becomes_16 : decode cX2_becomes 16 = .ok (.invokevirtual 80, 3) := dk_182 0 80 (dk_at dksX2_becomes_0 16 rfl rfl)
theorem dX2_becomes_19 : decode cX2_becomes 19 = .ok (.return_, 1) := dk_177 (dk_at dksX2_becomes_0 19 rfl rfl)
abbrev cX2_voicesGo : ByteArray := prog_13_method_20_code
def yX2_voicesGo : MethodName := ⟨RX2, "voicesGo", "(I)V"⟩
def dkwX2_voicesGo_2 : List UInt8 := [4, 96, 160, 0, 11, 42, 28, 16, 7, 3, 182, 0, 76, 132, 2, 1, 167, 255, 222, 177]
abbrev dktX2_voicesGo_2 : List UInt8 := dkwX2_voicesGo_2 ++ []
def dkwX2_voicesGo_1 : List UInt8 := [153, 0, 4, 177, 3, 61, 28, 42, 180, 0, 7, 5, 46, 162, 0, 30, 42, 28, 16, 7, 182, 0, 64, 27]
abbrev dktX2_voicesGo_1 : List UInt8 := dkwX2_voicesGo_1 ++ dktX2_voicesGo_2
def dkwX2_voicesGo_0 : List UInt8 := [42, 27, 4, 182, 0, 68, 154, 0, 11, 42, 27, 16, 7, 3, 182, 0, 76, 42, 27, 3, 182, 0, 68]
abbrev dktX2_voicesGo_0 : List UInt8 := dkwX2_voicesGo_0 ++ dktX2_voicesGo_1
theorem dksX2_voicesGo_0 : cX2_voicesGo.data.toList.drop 0 = dktX2_voicesGo_0 := by decide +kernel
theorem dksX2_voicesGo_1 : cX2_voicesGo.data.toList.drop 23 = dktX2_voicesGo_1 := dk_seg dksX2_voicesGo_0 23 rfl rfl
theorem dksX2_voicesGo_2 : cX2_voicesGo.data.toList.drop 47 = dktX2_voicesGo_2 := dk_seg dksX2_voicesGo_1 24 rfl rfl
theorem dX2_voicesGo_0 : decode cX2_voicesGo 0 = .ok (.aload_n 0, 1) := dk_42 (dk_at dksX2_voicesGo_0 0 rfl rfl)
theorem dX2_voicesGo_1 : decode cX2_voicesGo 1 = .ok (.iload_n 1, 1) := dk_27 (dk_at dksX2_voicesGo_0 1 rfl rfl)
theorem dX2_voicesGo_2 : decode cX2_voicesGo 2 = .ok (.iconst 1, 1) := dk_4 (dk_at dksX2_voicesGo_0 2 rfl rfl)
theorem dX2_voicesGo_3 : decode cX2_voicesGo 3 = .ok (.invokevirtual 68, 3) := dk_182 0 68 (dk_at dksX2_voicesGo_0 3 rfl rfl)
theorem dX2_voicesGo_6 : decode cX2_voicesGo 6 = .ok (.ifCond .ne 11, 3) := dk_154 0 11 (dk_at dksX2_voicesGo_0 6 rfl rfl)
theorem dX2_voicesGo_9 : decode cX2_voicesGo 9 = .ok (.aload_n 0, 1) := dk_42 (dk_at dksX2_voicesGo_0 9 rfl rfl)
theorem dX2_voicesGo_10 : decode cX2_voicesGo 10 = .ok (.iload_n 1, 1) := dk_27 (dk_at dksX2_voicesGo_0 10 rfl rfl)
theorem dX2_voicesGo_11 : decode cX2_voicesGo 11 = .ok (.bipush 7, 2) := dk_16 7 (dk_at dksX2_voicesGo_0 11 rfl rfl)
theorem dX2_voicesGo_13 : decode cX2_voicesGo 13 = .ok (.iconst 0, 1) := dk_3 (dk_at dksX2_voicesGo_0 13 rfl rfl)
theorem dX2_voicesGo_14 : decode cX2_voicesGo 14 = .ok (.invokevirtual 76, 3) := dk_182 0 76 (dk_at dksX2_voicesGo_0 14 rfl rfl)
theorem dX2_voicesGo_17 : decode cX2_voicesGo 17 = .ok (.aload_n 0, 1) := dk_42 (dk_at dksX2_voicesGo_0 17 rfl rfl)
theorem dX2_voicesGo_18 : decode cX2_voicesGo 18 = .ok (.iload_n 1, 1) := dk_27 (dk_at dksX2_voicesGo_0 18 rfl rfl)
theorem dX2_voicesGo_19 : decode cX2_voicesGo 19 = .ok (.iconst 0, 1) := dk_3 (dk_at dksX2_voicesGo_0 19 rfl rfl)
theorem dX2_voicesGo_20 : decode cX2_voicesGo 20 = .ok (.invokevirtual 68, 3) := dk_182 0 68 (dk_at dksX2_voicesGo_0 20 rfl rfl)
theorem dX2_voicesGo_23 : decode cX2_voicesGo 23 = .ok (.ifCond .eq 4, 3) := dk_153 0 4 (dk_at dksX2_voicesGo_1 0 rfl rfl)
theorem dX2_voicesGo_26 : decode cX2_voicesGo 26 = .ok (.return_, 1) := dk_177 (dk_at dksX2_voicesGo_1 3 rfl rfl)
theorem dX2_voicesGo_27 : decode cX2_voicesGo 27 = .ok (.iconst 0, 1) := dk_3 (dk_at dksX2_voicesGo_1 4 rfl rfl)
theorem dX2_voicesGo_28 : decode cX2_voicesGo 28 = .ok (.istore_n 2, 1) := dk_61 (dk_at dksX2_voicesGo_1 5 rfl rfl)
theorem dX2_voicesGo_29 : decode cX2_voicesGo 29 = .ok (.iload_n 2, 1) := dk_28 (dk_at dksX2_voicesGo_1 6 rfl rfl)
theorem dX2_voicesGo_30 : decode cX2_voicesGo 30 = .ok (.aload_n 0, 1) := dk_42 (dk_at dksX2_voicesGo_1 7 rfl rfl)
theorem dX2_voicesGo_31 : decode cX2_voicesGo 31 = .ok (.getfield 7, 3) := dk_180 0 7 (dk_at dksX2_voicesGo_1 8 rfl rfl)
theorem dX2_voicesGo_34 : decode cX2_voicesGo 34 = .ok (.iconst 2, 1) := dk_5 (dk_at dksX2_voicesGo_1 11 rfl rfl)
theorem dX2_voicesGo_35 : decode cX2_voicesGo 35 = .ok (.iaload, 1) := dk_46 (dk_at dksX2_voicesGo_1 12 rfl rfl)
theorem dX2_voicesGo_36 : decode cX2_voicesGo 36 = .ok (.if_icmp .ge 30, 3) := dk_162 0 30 (dk_at dksX2_voicesGo_1 13 rfl rfl)
theorem dX2_voicesGo_39 : decode cX2_voicesGo 39 = .ok (.aload_n 0, 1) := dk_42 (dk_at dksX2_voicesGo_1 16 rfl rfl)
theorem dX2_voicesGo_40 : decode cX2_voicesGo 40 = .ok (.iload_n 2, 1) := dk_28 (dk_at dksX2_voicesGo_1 17 rfl rfl)
theorem dX2_voicesGo_41 : decode cX2_voicesGo 41 = .ok (.bipush 7, 2) := dk_16 7 (dk_at dksX2_voicesGo_1 18 rfl rfl)
theorem dX2_voicesGo_43 : decode cX2_voicesGo 43 = .ok (.invokevirtual 64, 3) := dk_182 0 64 (dk_at dksX2_voicesGo_1 20 rfl rfl)
theorem dX2_voicesGo_46 : decode cX2_voicesGo 46 = .ok (.iload_n 1, 1) := dk_27 (dk_at dksX2_voicesGo_1 23 rfl rfl)
theorem dX2_voicesGo_47 : decode cX2_voicesGo 47 = .ok (.iconst 1, 1) := dk_4 (dk_at dksX2_voicesGo_2 0 rfl rfl)
theorem dX2_voicesGo_48 : decode cX2_voicesGo 48 = .ok (.iadd, 1) := dk_96 (dk_at dksX2_voicesGo_2 1 rfl rfl)
theorem dX2_voicesGo_49 : decode cX2_voicesGo 49 = .ok (.if_icmp .ne 11, 3) := dk_160 0 11 (dk_at dksX2_voicesGo_2 2 rfl rfl)
theorem dX2_voicesGo_52 : decode cX2_voicesGo 52 = .ok (.aload_n 0, 1) := dk_42 (dk_at dksX2_voicesGo_2 5 rfl rfl)
theorem dX2_voicesGo_53 : decode cX2_voicesGo 53 = .ok (.iload_n 2, 1) := dk_28 (dk_at dksX2_voicesGo_2 6 rfl rfl)
theorem dX2_voicesGo_54 : decode cX2_voicesGo 54 = .ok (.bipush 7, 2) := dk_16 7 (dk_at dksX2_voicesGo_2 7 rfl rfl)
theorem dX2_voicesGo_56 : decode cX2_voicesGo 56 = .ok (.iconst 0, 1) := dk_3 (dk_at dksX2_voicesGo_2 9 rfl rfl)
theorem dX2_voicesGo_57 : decode cX2_voicesGo 57 = .ok (.invokevirtual 76, 3) := dk_182 0 76 (dk_at dksX2_voicesGo_2 10 rfl rfl)
theorem dX2_voicesGo_60 : decode cX2_voicesGo 60 = .ok (.iinc 2 1, 3) := dk_132 2 1 (dk_at dksX2_voicesGo_2 13 rfl rfl)
theorem dX2_voicesGo_63 : decode cX2_voicesGo 63 = .ok (.goto (-34), 3) := dk_167 255 222 (dk_at dksX2_voicesGo_2 16 rfl rfl)
theorem dX2_voicesGo_66 : decode cX2_voicesGo 66 = .ok (.return_, 1) := dk_177 (dk_at dksX2_voicesGo_2 19 rfl rfl)
abbrev cX2_brethrenThat : ByteArray := prog_13_method_16_code
def yX2_brethrenThat : MethodName := ⟨RX2, "brethrenThat", "(I)I"⟩
def dkwX2_brethrenThat_1 : List UInt8 := [4, 167, 0, 4, 3, 96, 61, 132, 3, 1, 167, 255, 226, 28, 172]
abbrev dktX2_brethrenThat_1 : List UInt8 := dkwX2_brethrenThat_1 ++ []
def dkwX2_brethrenThat_0 : List UInt8 := [3, 61, 3, 62, 29, 42, 180, 0, 7, 5, 46, 162, 0, 26, 28, 42, 29, 27, 182, 0, 68, 153, 0, 7]
abbrev dktX2_brethrenThat_0 : List UInt8 := dkwX2_brethrenThat_0 ++ dktX2_brethrenThat_1
theorem dksX2_brethrenThat_0 : cX2_brethrenThat.data.toList.drop 0 = dktX2_brethrenThat_0 := by decide +kernel
theorem dksX2_brethrenThat_1 : cX2_brethrenThat.data.toList.drop 24 = dktX2_brethrenThat_1 := dk_seg dksX2_brethrenThat_0 24 rfl rfl
theorem dX2_brethrenThat_0 : decode cX2_brethrenThat 0 = .ok (.iconst 0, 1) := dk_3 (dk_at dksX2_brethrenThat_0 0 rfl rfl)
theorem dX2_brethrenThat_1 : decode cX2_brethrenThat 1 = .ok (.istore_n 2, 1) := dk_61 (dk_at dksX2_brethrenThat_0 1 rfl rfl)
theorem dX2_brethrenThat_2 : decode cX2_brethrenThat 2 = .ok (.iconst 0, 1) := dk_3 (dk_at dksX2_brethrenThat_0 2 rfl rfl)
theorem dX2_brethrenThat_3 : decode cX2_brethrenThat 3 = .ok (.istore_n 3, 1) := dk_62 (dk_at dksX2_brethrenThat_0 3 rfl rfl)
theorem dX2_brethrenThat_4 : decode cX2_brethrenThat 4 = .ok (.iload_n 3, 1) := dk_29 (dk_at dksX2_brethrenThat_0 4 rfl rfl)
theorem dX2_brethrenThat_5 : decode cX2_brethrenThat 5 = .ok (.aload_n 0, 1) := dk_42 (dk_at dksX2_brethrenThat_0 5 rfl rfl)
theorem dX2_brethrenThat_6 : decode cX2_brethrenThat 6 = .ok (.getfield 7, 3) := dk_180 0 7 (dk_at dksX2_brethrenThat_0 6 rfl rfl)
theorem dX2_brethrenThat_9 : decode cX2_brethrenThat 9 = .ok (.iconst 2, 1) := dk_5 (dk_at dksX2_brethrenThat_0 9 rfl rfl)
theorem dX2_brethrenThat_10 : decode cX2_brethrenThat 10 = .ok (.iaload, 1) := dk_46 (dk_at dksX2_brethrenThat_0 10 rfl rfl)
theorem dX2_brethrenThat_11 : decode cX2_brethrenThat 11 = .ok (.if_icmp .ge 26, 3) := dk_162 0 26 (dk_at dksX2_brethrenThat_0 11 rfl rfl)
theorem dX2_brethrenThat_14 : decode cX2_brethrenThat 14 = .ok (.iload_n 2, 1) := dk_28 (dk_at dksX2_brethrenThat_0 14 rfl rfl)
theorem dX2_brethrenThat_15 : decode cX2_brethrenThat 15 = .ok (.aload_n 0, 1) := dk_42 (dk_at dksX2_brethrenThat_0 15 rfl rfl)
theorem dX2_brethrenThat_16 : decode cX2_brethrenThat 16 = .ok (.iload_n 3, 1) := dk_29 (dk_at dksX2_brethrenThat_0 16 rfl rfl)
theorem dX2_brethrenThat_17 : decode cX2_brethrenThat 17 = .ok (.iload_n 1, 1) := dk_27 (dk_at dksX2_brethrenThat_0 17 rfl rfl)
theorem dX2_brethrenThat_18 : decode cX2_brethrenThat 18 = .ok (.invokevirtual 68, 3) := dk_182 0 68 (dk_at dksX2_brethrenThat_0 18 rfl rfl)
theorem dX2_brethrenThat_21 : decode cX2_brethrenThat 21 = .ok (.ifCond .eq 7, 3) := dk_153 0 7 (dk_at dksX2_brethrenThat_0 21 rfl rfl)
theorem dX2_brethrenThat_24 : decode cX2_brethrenThat 24 = .ok (.iconst 1, 1) := dk_4 (dk_at dksX2_brethrenThat_1 0 rfl rfl)
theorem dX2_brethrenThat_25 : decode cX2_brethrenThat 25 = .ok (.goto 4, 3) := dk_167 0 4 (dk_at dksX2_brethrenThat_1 1 rfl rfl)
theorem dX2_brethrenThat_28 : decode cX2_brethrenThat 28 = .ok (.iconst 0, 1) := dk_3 (dk_at dksX2_brethrenThat_1 4 rfl rfl)
theorem dX2_brethrenThat_29 : decode cX2_brethrenThat 29 = .ok (.iadd, 1) := dk_96 (dk_at dksX2_brethrenThat_1 5 rfl rfl)
theorem dX2_brethrenThat_30 : decode cX2_brethrenThat 30 = .ok (.istore_n 2, 1) := dk_61 (dk_at dksX2_brethrenThat_1 6 rfl rfl)
theorem dX2_brethrenThat_31 : decode cX2_brethrenThat 31 = .ok (.iinc 3 1, 3) := dk_132 3 1 (dk_at dksX2_brethrenThat_1 7 rfl rfl)
theorem dX2_brethrenThat_34 : decode cX2_brethrenThat 34 = .ok (.goto (-30), 3) := dk_167 255 226 (dk_at dksX2_brethrenThat_1 10 rfl rfl)
theorem dX2_brethrenThat_37 : decode cX2_brethrenThat 37 = .ok (.iload_n 2, 1) := dk_28 (dk_at dksX2_brethrenThat_1 13 rfl rfl)
theorem dX2_brethrenThat_38 : decode cX2_brethrenThat 38 = .ok (.ireturn, 1) := dk_172 (dk_at dksX2_brethrenThat_1 14 rfl rfl)
abbrev cX2_voice : ByteArray := prog_13_method_27_code
def yX2_voice : MethodName := ⟨RX2, "voice", "(II)I"⟩
def dkwX2_voice_1 : List UInt8 := [182, 0, 113, 172]
abbrev dktX2_voice_1 : List UInt8 := dkwX2_voice_1 ++ []
def dkwX2_voice_0 : List UInt8 := [42, 27, 28, 182, 0, 110, 62, 29, 153, 0, 9, 42, 29, 182, 0, 87, 172, 42, 182, 0, 90, 42, 27, 28]
abbrev dktX2_voice_0 : List UInt8 := dkwX2_voice_0 ++ dktX2_voice_1
theorem dksX2_voice_0 : cX2_voice.data.toList.drop 0 = dktX2_voice_0 := by decide +kernel
theorem dksX2_voice_1 : cX2_voice.data.toList.drop 24 = dktX2_voice_1 := dk_seg dksX2_voice_0 24 rfl rfl
theorem dX2_voice_0 : decode cX2_voice 0 = .ok (.aload_n 0, 1) := dk_42 (dk_at dksX2_voice_0 0 rfl rfl)
theorem dX2_voice_1 : decode cX2_voice 1 = .ok (.iload_n 1, 1) := dk_27 (dk_at dksX2_voice_0 1 rfl rfl)
theorem dX2_voice_2 : decode cX2_voice 2 = .ok (.iload_n 2, 1) := dk_28 (dk_at dksX2_voice_0 2 rfl rfl)
theorem dX2_voice_3 : decode cX2_voice 3 = .ok (.invokevirtual 110, 3) := dk_182 0 110 (dk_at dksX2_voice_0 3 rfl rfl)
theorem dX2_voice_6 : decode cX2_voice 6 = .ok (.istore_n 3, 1) := dk_62 (dk_at dksX2_voice_0 6 rfl rfl)
theorem dX2_voice_7 : decode cX2_voice 7 = .ok (.iload_n 3, 1) := dk_29 (dk_at dksX2_voice_0 7 rfl rfl)
theorem dX2_voice_8 : decode cX2_voice 8 = .ok (.ifCond .eq 9, 3) := dk_153 0 9 (dk_at dksX2_voice_0 8 rfl rfl)
theorem dX2_voice_11 : decode cX2_voice 11 = .ok (.aload_n 0, 1) := dk_42 (dk_at dksX2_voice_0 11 rfl rfl)
theorem dX2_voice_12 : decode cX2_voice 12 = .ok (.iload_n 3, 1) := dk_29 (dk_at dksX2_voice_0 12 rfl rfl)
theorem dX2_voice_13 : decode cX2_voice 13 = .ok (.invokevirtual 87, 3) := dk_182 0 87 (dk_at dksX2_voice_0 13 rfl rfl)
theorem dX2_voice_16 : decode cX2_voice 16 = .ok (.ireturn, 1) := dk_172 (dk_at dksX2_voice_0 16 rfl rfl)
theorem dX2_voice_17 : decode cX2_voice 17 = .ok (.aload_n 0, 1) := dk_42 (dk_at dksX2_voice_0 17 rfl rfl)
theorem dX2_voice_18 : decode cX2_voice 18 = .ok (.invokevirtual 90, 3) := dk_182 0 90 (dk_at dksX2_voice_0 18 rfl rfl)
theorem dX2_voice_21 : decode cX2_voice 21 = .ok (.aload_n 0, 1) := dk_42 (dk_at dksX2_voice_0 21 rfl rfl)
theorem dX2_voice_22 : decode cX2_voice 22 = .ok (.iload_n 1, 1) := dk_27 (dk_at dksX2_voice_0 22 rfl rfl)
theorem dX2_voice_23 : decode cX2_voice 23 = .ok (.iload_n 2, 1) := dk_28 (dk_at dksX2_voice_0 23 rfl rfl)
theorem dX2_voice_24 : decode cX2_voice 24 = .ok (.invokevirtual 113, 3) := dk_182 0 113 (dk_at dksX2_voice_1 0 rfl rfl)
theorem dX2_voice_27 : decode cX2_voice 27 = .ok (.ireturn, 1) := dk_172 (dk_at dksX2_voice_1 3 rfl rfl)
abbrev cX2_notVoice : ByteArray := prog_13_method_25_code
def yX2_notVoice : MethodName := ⟨RX2, "notVoice", "(II)I"⟩
def dkwX2_notVoice_3 : List UInt8 := [3, 167, 0, 14, 42, 5, 42, 28, 5, 182, 0, 64, 182, 0, 84, 172]
abbrev dktX2_notVoice_3 : List UInt8 := dkwX2_notVoice_3 ++ []
def dkwX2_notVoice_2 : List UInt8 := [158, 0, 15, 42, 7, 42, 27, 8, 182, 0, 64, 182, 0, 84, 172, 42, 28, 3, 182, 0, 68, 153, 0, 7]
abbrev dktX2_notVoice_2 : List UInt8 := dkwX2_notVoice_2 ++ dktX2_notVoice_3
def dkwX2_notVoice_1 : List UInt8 := [182, 0, 68, 154, 0, 15, 42, 6, 42, 27, 5, 182, 0, 64, 182, 0, 84, 172, 42, 27, 8, 182, 0, 64]
abbrev dktX2_notVoice_1 : List UInt8 := dkwX2_notVoice_1 ++ dktX2_notVoice_2
def dkwX2_notVoice_0 : List UInt8 := [42, 27, 182, 0, 96, 153, 0, 11, 42, 28, 182, 0, 96, 154, 0, 6, 16, 245, 172, 42, 27, 4]
abbrev dktX2_notVoice_0 : List UInt8 := dkwX2_notVoice_0 ++ dktX2_notVoice_1
theorem dksX2_notVoice_0 : cX2_notVoice.data.toList.drop 0 = dktX2_notVoice_0 := by decide +kernel
theorem dksX2_notVoice_1 : cX2_notVoice.data.toList.drop 22 = dktX2_notVoice_1 := dk_seg dksX2_notVoice_0 22 rfl rfl
theorem dksX2_notVoice_2 : cX2_notVoice.data.toList.drop 46 = dktX2_notVoice_2 := dk_seg dksX2_notVoice_1 24 rfl rfl
theorem dksX2_notVoice_3 : cX2_notVoice.data.toList.drop 70 = dktX2_notVoice_3 := dk_seg dksX2_notVoice_2 24 rfl rfl
theorem dX2_notVoice_0 : decode cX2_notVoice 0 = .ok (.aload_n 0, 1) := dk_42 (dk_at dksX2_notVoice_0 0 rfl rfl)
theorem dX2_notVoice_1 : decode cX2_notVoice 1 = .ok (.iload_n 1, 1) := dk_27 (dk_at dksX2_notVoice_0 1 rfl rfl)
theorem dX2_notVoice_2 : decode cX2_notVoice 2 = .ok (.invokevirtual 96, 3) := dk_182 0 96 (dk_at dksX2_notVoice_0 2 rfl rfl)
theorem dX2_notVoice_5 : decode cX2_notVoice 5 = .ok (.ifCond .eq 11, 3) := dk_153 0 11 (dk_at dksX2_notVoice_0 5 rfl rfl)
theorem dX2_notVoice_8 : decode cX2_notVoice 8 = .ok (.aload_n 0, 1) := dk_42 (dk_at dksX2_notVoice_0 8 rfl rfl)
theorem dX2_notVoice_9 : decode cX2_notVoice 9 = .ok (.iload_n 2, 1) := dk_28 (dk_at dksX2_notVoice_0 9 rfl rfl)
theorem dX2_notVoice_10 : decode cX2_notVoice 10 = .ok (.invokevirtual 96, 3) := dk_182 0 96 (dk_at dksX2_notVoice_0 10 rfl rfl)
theorem dX2_notVoice_13 : decode cX2_notVoice 13 = .ok (.ifCond .ne 6, 3) := dk_154 0 6 (dk_at dksX2_notVoice_0 13 rfl rfl)
theorem dX2_notVoice_16 : decode cX2_notVoice 16 = .ok (.bipush (-11), 2) := dk_16 245 (dk_at dksX2_notVoice_0 16 rfl rfl)
theorem dX2_notVoice_18 : decode cX2_notVoice 18 = .ok (.ireturn, 1) := dk_172 (dk_at dksX2_notVoice_0 18 rfl rfl)
theorem dX2_notVoice_19 : decode cX2_notVoice 19 = .ok (.aload_n 0, 1) := dk_42 (dk_at dksX2_notVoice_0 19 rfl rfl)
theorem dX2_notVoice_20 : decode cX2_notVoice 20 = .ok (.iload_n 1, 1) := dk_27 (dk_at dksX2_notVoice_0 20 rfl rfl)
theorem dX2_notVoice_21 : decode cX2_notVoice 21 = .ok (.iconst 1, 1) := dk_4 (dk_at dksX2_notVoice_0 21 rfl rfl)
theorem dX2_notVoice_22 : decode cX2_notVoice 22 = .ok (.invokevirtual 68, 3) := dk_182 0 68 (dk_at dksX2_notVoice_1 0 rfl rfl)
theorem dX2_notVoice_25 : decode cX2_notVoice 25 = .ok (.ifCond .ne 15, 3) := dk_154 0 15 (dk_at dksX2_notVoice_1 3 rfl rfl)
theorem dX2_notVoice_28 : decode cX2_notVoice 28 = .ok (.aload_n 0, 1) := dk_42 (dk_at dksX2_notVoice_1 6 rfl rfl)
theorem dX2_notVoice_29 : decode cX2_notVoice 29 = .ok (.iconst 3, 1) := dk_6 (dk_at dksX2_notVoice_1 7 rfl rfl)
theorem dX2_notVoice_30 : decode cX2_notVoice 30 = .ok (.aload_n 0, 1) := dk_42 (dk_at dksX2_notVoice_1 8 rfl rfl)
theorem dX2_notVoice_31 : decode cX2_notVoice 31 = .ok (.iload_n 1, 1) := dk_27 (dk_at dksX2_notVoice_1 9 rfl rfl)
theorem dX2_notVoice_32 : decode cX2_notVoice 32 = .ok (.iconst 2, 1) := dk_5 (dk_at dksX2_notVoice_1 10 rfl rfl)
theorem dX2_notVoice_33 : decode cX2_notVoice 33 = .ok (.invokevirtual 64, 3) := dk_182 0 64 (dk_at dksX2_notVoice_1 11 rfl rfl)
theorem dX2_notVoice_36 : decode cX2_notVoice 36 = .ok (.invokevirtual 84, 3) := dk_182 0 84 (dk_at dksX2_notVoice_1 14 rfl rfl)
theorem dX2_notVoice_39 : decode cX2_notVoice 39 = .ok (.ireturn, 1) := dk_172 (dk_at dksX2_notVoice_1 17 rfl rfl)
theorem dX2_notVoice_40 : decode cX2_notVoice 40 = .ok (.aload_n 0, 1) := dk_42 (dk_at dksX2_notVoice_1 18 rfl rfl)
theorem dX2_notVoice_41 : decode cX2_notVoice 41 = .ok (.iload_n 1, 1) := dk_27 (dk_at dksX2_notVoice_1 19 rfl rfl)
theorem dX2_notVoice_42 : decode cX2_notVoice 42 = .ok (.iconst 5, 1) := dk_8 (dk_at dksX2_notVoice_1 20 rfl rfl)
theorem dX2_notVoice_43 : decode cX2_notVoice 43 = .ok (.invokevirtual 64, 3) := dk_182 0 64 (dk_at dksX2_notVoice_1 21 rfl rfl)
theorem dX2_notVoice_46 : decode cX2_notVoice 46 = .ok (.ifCond .le 15, 3) := dk_158 0 15 (dk_at dksX2_notVoice_2 0 rfl rfl)
theorem dX2_notVoice_49 : decode cX2_notVoice 49 = .ok (.aload_n 0, 1) := dk_42 (dk_at dksX2_notVoice_2 3 rfl rfl)
theorem dX2_notVoice_50 : decode cX2_notVoice 50 = .ok (.iconst 4, 1) := dk_7 (dk_at dksX2_notVoice_2 4 rfl rfl)
theorem dX2_notVoice_51 : decode cX2_notVoice 51 = .ok (.aload_n 0, 1) := dk_42 (dk_at dksX2_notVoice_2 5 rfl rfl)
theorem dX2_notVoice_52 : decode cX2_notVoice 52 = .ok (.iload_n 1, 1) := dk_27 (dk_at dksX2_notVoice_2 6 rfl rfl)
theorem dX2_notVoice_53 : decode cX2_notVoice 53 = .ok (.iconst 5, 1) := dk_8 (dk_at dksX2_notVoice_2 7 rfl rfl)
theorem dX2_notVoice_54 : decode cX2_notVoice 54 = .ok (.invokevirtual 64, 3) := dk_182 0 64 (dk_at dksX2_notVoice_2 8 rfl rfl)
theorem dX2_notVoice_57 : decode cX2_notVoice 57 = .ok (.invokevirtual 84, 3) := dk_182 0 84 (dk_at dksX2_notVoice_2 11 rfl rfl)
theorem dX2_notVoice_60 : decode cX2_notVoice 60 = .ok (.ireturn, 1) := dk_172 (dk_at dksX2_notVoice_2 14 rfl rfl)
theorem dX2_notVoice_61 : decode cX2_notVoice 61 = .ok (.aload_n 0, 1) := dk_42 (dk_at dksX2_notVoice_2 15 rfl rfl)
theorem dX2_notVoice_62 : decode cX2_notVoice 62 = .ok (.iload_n 2, 1) := dk_28 (dk_at dksX2_notVoice_2 16 rfl rfl)
theorem dX2_notVoice_63 : decode cX2_notVoice 63 = .ok (.iconst 0, 1) := dk_3 (dk_at dksX2_notVoice_2 17 rfl rfl)
theorem dX2_notVoice_64 : decode cX2_notVoice 64 = .ok (.invokevirtual 68, 3) := dk_182 0 68 (dk_at dksX2_notVoice_2 18 rfl rfl)
theorem dX2_notVoice_67 : decode cX2_notVoice 67 = .ok (.ifCond .eq 7, 3) := dk_153 0 7 (dk_at dksX2_notVoice_2 21 rfl rfl)
theorem dX2_notVoice_70 : decode cX2_notVoice 70 = .ok (.iconst 0, 1) := dk_3 (dk_at dksX2_notVoice_3 0 rfl rfl)
theorem dX2_notVoice_71 : decode cX2_notVoice 71 = .ok (.goto 14, 3) := dk_167 0 14 (dk_at dksX2_notVoice_3 1 rfl rfl)
theorem dX2_notVoice_74 : decode cX2_notVoice 74 = .ok (.aload_n 0, 1) := dk_42 (dk_at dksX2_notVoice_3 4 rfl rfl)
theorem dX2_notVoice_75 : decode cX2_notVoice 75 = .ok (.iconst 2, 1) := dk_5 (dk_at dksX2_notVoice_3 5 rfl rfl)
theorem dX2_notVoice_76 : decode cX2_notVoice 76 = .ok (.aload_n 0, 1) := dk_42 (dk_at dksX2_notVoice_3 6 rfl rfl)
theorem dX2_notVoice_77 : decode cX2_notVoice 77 = .ok (.iload_n 2, 1) := dk_28 (dk_at dksX2_notVoice_3 7 rfl rfl)
theorem dX2_notVoice_78 : decode cX2_notVoice 78 = .ok (.iconst 2, 1) := dk_5 (dk_at dksX2_notVoice_3 8 rfl rfl)
theorem dX2_notVoice_79 : decode cX2_notVoice 79 = .ok (.invokevirtual 64, 3) := dk_182 0 64 (dk_at dksX2_notVoice_3 9 rfl rfl)
theorem dX2_notVoice_82 : decode cX2_notVoice 82 = .ok (.invokevirtual 84, 3) := dk_182 0 84 (dk_at dksX2_notVoice_3 12 rfl rfl)
theorem dX2_notVoice_85 : decode cX2_notVoice 85 = .ok (.ireturn, 1) := dk_172 (dk_at dksX2_notVoice_3 15 rfl rfl)
abbrev cX2_gives : ByteArray := prog_13_method_26_code
def yX2_gives : MethodName := ⟨RX2, "gives", "(II)I"⟩
def dkwX2_gives_0 : List UInt8 := [42, 27, 16, 7, 28, 4, 96, 182, 0, 76, 42, 28, 182, 0, 107, 172]
abbrev dktX2_gives_0 : List UInt8 := dkwX2_gives_0 ++ []
theorem dksX2_gives_0 : cX2_gives.data.toList.drop 0 = dktX2_gives_0 := by decide +kernel
theorem dX2_gives_0 : decode cX2_gives 0 = .ok (.aload_n 0, 1) := dk_42 (dk_at dksX2_gives_0 0 rfl rfl)
theorem dX2_gives_1 : decode cX2_gives 1 = .ok (.iload_n 1, 1) := dk_27 (dk_at dksX2_gives_0 1 rfl rfl)
theorem dX2_gives_2 : decode cX2_gives 2 = .ok (.bipush 7, 2) := dk_16 7 (dk_at dksX2_gives_0 2 rfl rfl)
theorem dX2_gives_4 : decode cX2_gives 4 = .ok (.iload_n 2, 1) := dk_28 (dk_at dksX2_gives_0 4 rfl rfl)
theorem dX2_gives_5 : decode cX2_gives 5 = .ok (.iconst 1, 1) := dk_4 (dk_at dksX2_gives_0 5 rfl rfl)
theorem dX2_gives_6 : decode cX2_gives 6 = .ok (.iadd, 1) := dk_96 (dk_at dksX2_gives_0 6 rfl rfl)
theorem dX2_gives_7 : decode cX2_gives 7 = .ok (.invokevirtual 76, 3) := dk_182 0 76 (dk_at dksX2_gives_0 7 rfl rfl)
theorem dX2_gives_10 : decode cX2_gives 10 = .ok (.aload_n 0, 1) := dk_42 (dk_at dksX2_gives_0 10 rfl rfl)
theorem dX2_gives_11 : decode cX2_gives 11 = .ok (.iload_n 2, 1) := dk_28 (dk_at dksX2_gives_0 11 rfl rfl)
theorem dX2_gives_12 : decode cX2_gives 12 = .ok (.invokevirtual 107, 3) := dk_182 0 107 (dk_at dksX2_gives_0 12 rfl rfl)
theorem dX2_gives_15 : decode cX2_gives 15 = .ok (.ireturn, 1) := dk_172 (dk_at dksX2_gives_0 15 rfl rfl)
abbrev cX2_voicesFor : ByteArray := prog_13_method_19_code
def yX2_voicesFor : MethodName := ⟨RX2, "voicesFor", "(I)I"⟩
def dkwX2_voicesFor_2 : List UInt8 := [167, 0, 4, 3, 96, 61, 132, 3, 1, 167, 255, 218, 28, 172]
abbrev dktX2_voicesFor_2 : List UInt8 := dkwX2_voicesFor_2 ++ []
def dkwX2_voicesFor_1 : List UInt8 := [162, 0, 34, 28, 42, 29, 16, 7, 182, 0, 64, 27, 4, 96, 160, 0, 11, 42, 27, 182, 0, 72]
abbrev dktX2_voicesFor_1 : List UInt8 := dkwX2_voicesFor_1 ++ dktX2_voicesFor_2
def dkwX2_voicesFor_0 : List UInt8 := [42, 27, 3, 182, 0, 68, 154, 0, 5, 3, 172, 3, 61, 3, 62, 29, 42, 180, 0, 7, 5, 46]
abbrev dktX2_voicesFor_0 : List UInt8 := dkwX2_voicesFor_0 ++ dktX2_voicesFor_1
theorem dksX2_voicesFor_0 : cX2_voicesFor.data.toList.drop 0 = dktX2_voicesFor_0 := by decide +kernel
theorem dksX2_voicesFor_1 : cX2_voicesFor.data.toList.drop 22 = dktX2_voicesFor_1 := dk_seg dksX2_voicesFor_0 22 rfl rfl
theorem dksX2_voicesFor_2 : cX2_voicesFor.data.toList.drop 44 = dktX2_voicesFor_2 := dk_seg dksX2_voicesFor_1 22 rfl rfl
theorem dX2_voicesFor_0 : decode cX2_voicesFor 0 = .ok (.aload_n 0, 1) := dk_42 (dk_at dksX2_voicesFor_0 0 rfl rfl)
theorem dX2_voicesFor_1 : decode cX2_voicesFor 1 = .ok (.iload_n 1, 1) := dk_27 (dk_at dksX2_voicesFor_0 1 rfl rfl)
theorem dX2_voicesFor_2 : decode cX2_voicesFor 2 = .ok (.iconst 0, 1) := dk_3 (dk_at dksX2_voicesFor_0 2 rfl rfl)
theorem dX2_voicesFor_3 : decode cX2_voicesFor 3 = .ok (.invokevirtual 68, 3) := dk_182 0 68 (dk_at dksX2_voicesFor_0 3 rfl rfl)
theorem dX2_voicesFor_6 : decode cX2_voicesFor 6 = .ok (.ifCond .ne 5, 3) := dk_154 0 5 (dk_at dksX2_voicesFor_0 6 rfl rfl)
theorem dX2_voicesFor_9 : decode cX2_voicesFor 9 = .ok (.iconst 0, 1) := dk_3 (dk_at dksX2_voicesFor_0 9 rfl rfl)
theorem dX2_voicesFor_10 : decode cX2_voicesFor 10 = .ok (.ireturn, 1) := dk_172 (dk_at dksX2_voicesFor_0 10 rfl rfl)
theorem dX2_voicesFor_11 : decode cX2_voicesFor 11 = .ok (.iconst 0, 1) := dk_3 (dk_at dksX2_voicesFor_0 11 rfl rfl)
theorem dX2_voicesFor_12 : decode cX2_voicesFor 12 = .ok (.istore_n 2, 1) := dk_61 (dk_at dksX2_voicesFor_0 12 rfl rfl)
theorem dX2_voicesFor_13 : decode cX2_voicesFor 13 = .ok (.iconst 0, 1) := dk_3 (dk_at dksX2_voicesFor_0 13 rfl rfl)
theorem dX2_voicesFor_14 : decode cX2_voicesFor 14 = .ok (.istore_n 3, 1) := dk_62 (dk_at dksX2_voicesFor_0 14 rfl rfl)
theorem dX2_voicesFor_15 : decode cX2_voicesFor 15 = .ok (.iload_n 3, 1) := dk_29 (dk_at dksX2_voicesFor_0 15 rfl rfl)
theorem dX2_voicesFor_16 : decode cX2_voicesFor 16 = .ok (.aload_n 0, 1) := dk_42 (dk_at dksX2_voicesFor_0 16 rfl rfl)
theorem dX2_voicesFor_17 : decode cX2_voicesFor 17 = .ok (.getfield 7, 3) := dk_180 0 7 (dk_at dksX2_voicesFor_0 17 rfl rfl)
theorem dX2_voicesFor_20 : decode cX2_voicesFor 20 = .ok (.iconst 2, 1) := dk_5 (dk_at dksX2_voicesFor_0 20 rfl rfl)
theorem dX2_voicesFor_21 : decode cX2_voicesFor 21 = .ok (.iaload, 1) := dk_46 (dk_at dksX2_voicesFor_0 21 rfl rfl)
theorem dX2_voicesFor_22 : decode cX2_voicesFor 22 = .ok (.if_icmp .ge 34, 3) := dk_162 0 34 (dk_at dksX2_voicesFor_1 0 rfl rfl)
theorem dX2_voicesFor_25 : decode cX2_voicesFor 25 = .ok (.iload_n 2, 1) := dk_28 (dk_at dksX2_voicesFor_1 3 rfl rfl)
theorem dX2_voicesFor_26 : decode cX2_voicesFor 26 = .ok (.aload_n 0, 1) := dk_42 (dk_at dksX2_voicesFor_1 4 rfl rfl)
theorem dX2_voicesFor_27 : decode cX2_voicesFor 27 = .ok (.iload_n 3, 1) := dk_29 (dk_at dksX2_voicesFor_1 5 rfl rfl)
theorem dX2_voicesFor_28 : decode cX2_voicesFor 28 = .ok (.bipush 7, 2) := dk_16 7 (dk_at dksX2_voicesFor_1 6 rfl rfl)
theorem dX2_voicesFor_30 : decode cX2_voicesFor 30 = .ok (.invokevirtual 64, 3) := dk_182 0 64 (dk_at dksX2_voicesFor_1 8 rfl rfl)
theorem dX2_voicesFor_33 : decode cX2_voicesFor 33 = .ok (.iload_n 1, 1) := dk_27 (dk_at dksX2_voicesFor_1 11 rfl rfl)
theorem dX2_voicesFor_34 : decode cX2_voicesFor 34 = .ok (.iconst 1, 1) := dk_4 (dk_at dksX2_voicesFor_1 12 rfl rfl)
theorem dX2_voicesFor_35 : decode cX2_voicesFor 35 = .ok (.iadd, 1) := dk_96 (dk_at dksX2_voicesFor_1 13 rfl rfl)
theorem dX2_voicesFor_36 : decode cX2_voicesFor 36 = .ok (.if_icmp .ne 11, 3) := dk_160 0 11 (dk_at dksX2_voicesFor_1 14 rfl rfl)
theorem dX2_voicesFor_39 : decode cX2_voicesFor 39 = .ok (.aload_n 0, 1) := dk_42 (dk_at dksX2_voicesFor_1 17 rfl rfl)
theorem dX2_voicesFor_40 : decode cX2_voicesFor 40 = .ok (.iload_n 1, 1) := dk_27 (dk_at dksX2_voicesFor_1 18 rfl rfl)
theorem dX2_voicesFor_41 : decode cX2_voicesFor 41 = .ok (.invokevirtual 72, 3) := dk_182 0 72 (dk_at dksX2_voicesFor_1 19 rfl rfl)
theorem dX2_voicesFor_44 : decode cX2_voicesFor 44 = .ok (.goto 4, 3) := dk_167 0 4 (dk_at dksX2_voicesFor_2 0 rfl rfl)
theorem dX2_voicesFor_47 : decode cX2_voicesFor 47 = .ok (.iconst 0, 1) := dk_3 (dk_at dksX2_voicesFor_2 3 rfl rfl)
theorem dX2_voicesFor_48 : decode cX2_voicesFor 48 = .ok (.iadd, 1) := dk_96 (dk_at dksX2_voicesFor_2 4 rfl rfl)
theorem dX2_voicesFor_49 : decode cX2_voicesFor 49 = .ok (.istore_n 2, 1) := dk_61 (dk_at dksX2_voicesFor_2 5 rfl rfl)
theorem dX2_voicesFor_50 : decode cX2_voicesFor 50 = .ok (.iinc 3 1, 3) := dk_132 3 1 (dk_at dksX2_voicesFor_2 6 rfl rfl)
theorem dX2_voicesFor_53 : decode cX2_voicesFor 53 = .ok (.goto (-38), 3) := dk_167 255 218 (dk_at dksX2_voicesFor_2 9 rfl rfl)
theorem dX2_voicesFor_56 : decode cX2_voicesFor 56 = .ok (.iload_n 2, 1) := dk_28 (dk_at dksX2_voicesFor_2 12 rfl rfl)
theorem dX2_voicesFor_57 : decode cX2_voicesFor 57 = .ok (.ireturn, 1) := dk_172 (dk_at dksX2_voicesFor_2 13 rfl rfl)
abbrev cX2_countsFor : ByteArray := prog_13_method_18_code
def yX2_countsFor : MethodName := ⟨RX2, "countsFor", "(I)I"⟩
def dkwX2_countsFor_0 : List UInt8 := [42, 27, 4, 182, 0, 64, 4, 160, 0, 7, 5, 167, 0, 4, 4, 172]
abbrev dktX2_countsFor_0 : List UInt8 := dkwX2_countsFor_0 ++ []
theorem dksX2_countsFor_0 : cX2_countsFor.data.toList.drop 0 = dktX2_countsFor_0 := by decide +kernel
theorem dX2_countsFor_0 : decode cX2_countsFor 0 = .ok (.aload_n 0, 1) := dk_42 (dk_at dksX2_countsFor_0 0 rfl rfl)
theorem dX2_countsFor_1 : decode cX2_countsFor 1 = .ok (.iload_n 1, 1) := dk_27 (dk_at dksX2_countsFor_0 1 rfl rfl)
theorem dX2_countsFor_2 : decode cX2_countsFor 2 = .ok (.iconst 1, 1) := dk_4 (dk_at dksX2_countsFor_0 2 rfl rfl)
theorem dX2_countsFor_3 : decode cX2_countsFor 3 = .ok (.invokevirtual 64, 3) := dk_182 0 64 (dk_at dksX2_countsFor_0 3 rfl rfl)
theorem dX2_countsFor_6 : decode cX2_countsFor 6 = .ok (.iconst 1, 1) := dk_4 (dk_at dksX2_countsFor_0 6 rfl rfl)
theorem dX2_countsFor_7 : decode cX2_countsFor 7 = .ok (.if_icmp .ne 7, 3) := dk_160 0 7 (dk_at dksX2_countsFor_0 7 rfl rfl)
theorem dX2_countsFor_10 : decode cX2_countsFor 10 = .ok (.iconst 2, 1) := dk_5 (dk_at dksX2_countsFor_0 10 rfl rfl)
theorem dX2_countsFor_11 : decode cX2_countsFor 11 = .ok (.goto 4, 3) := dk_167 0 4 (dk_at dksX2_countsFor_0 11 rfl rfl)
theorem dX2_countsFor_14 : decode cX2_countsFor 14 = .ok (.iconst 1, 1) := dk_4 (dk_at dksX2_countsFor_0 14 rfl rfl)
theorem dX2_countsFor_15 : decode cX2_countsFor 15 = .ok (.ireturn, 1) := dk_172 (dk_at dksX2_countsFor_0 15 rfl rfl)
abbrev cX2_choose : ByteArray := prog_13_method_32_code
def yX2_choose : MethodName := ⟨RX2, "choose", "(I)I"⟩
def dkwX2_choose_1 : List UInt8 := [182, 0, 131, 172]
abbrev dktX2_choose_1 : List UInt8 := dkwX2_choose_1 ++ []
def dkwX2_choose_0 : List UInt8 := [42, 27, 182, 0, 128, 61, 28, 153, 0, 9, 42, 28, 182, 0, 87, 172, 42, 182, 0, 90, 42, 27]
abbrev dktX2_choose_0 : List UInt8 := dkwX2_choose_0 ++ dktX2_choose_1
theorem dksX2_choose_0 : cX2_choose.data.toList.drop 0 = dktX2_choose_0 := by decide +kernel
theorem dksX2_choose_1 : cX2_choose.data.toList.drop 22 = dktX2_choose_1 := dk_seg dksX2_choose_0 22 rfl rfl
theorem dX2_choose_0 : decode cX2_choose 0 = .ok (.aload_n 0, 1) := dk_42 (dk_at dksX2_choose_0 0 rfl rfl)
theorem dX2_choose_1 : decode cX2_choose 1 = .ok (.iload_n 1, 1) := dk_27 (dk_at dksX2_choose_0 1 rfl rfl)
theorem dX2_choose_2 : decode cX2_choose 2 = .ok (.invokevirtual 128, 3) := dk_182 0 128 (dk_at dksX2_choose_0 2 rfl rfl)
theorem dX2_choose_5 : decode cX2_choose 5 = .ok (.istore_n 2, 1) := dk_61 (dk_at dksX2_choose_0 5 rfl rfl)
theorem dX2_choose_6 : decode cX2_choose 6 = .ok (.iload_n 2, 1) := dk_28 (dk_at dksX2_choose_0 6 rfl rfl)
theorem dX2_choose_7 : decode cX2_choose 7 = .ok (.ifCond .eq 9, 3) := dk_153 0 9 (dk_at dksX2_choose_0 7 rfl rfl)
theorem dX2_choose_10 : decode cX2_choose 10 = .ok (.aload_n 0, 1) := dk_42 (dk_at dksX2_choose_0 10 rfl rfl)
theorem dX2_choose_11 : decode cX2_choose 11 = .ok (.iload_n 2, 1) := dk_28 (dk_at dksX2_choose_0 11 rfl rfl)
theorem dX2_choose_12 : decode cX2_choose 12 = .ok (.invokevirtual 87, 3) := dk_182 0 87 (dk_at dksX2_choose_0 12 rfl rfl)
theorem dX2_choose_15 : decode cX2_choose 15 = .ok (.ireturn, 1) := dk_172 (dk_at dksX2_choose_0 15 rfl rfl)
theorem dX2_choose_16 : decode cX2_choose 16 = .ok (.aload_n 0, 1) := dk_42 (dk_at dksX2_choose_0 16 rfl rfl)
theorem dX2_choose_17 : decode cX2_choose 17 = .ok (.invokevirtual 90, 3) := dk_182 0 90 (dk_at dksX2_choose_0 17 rfl rfl)
theorem dX2_choose_20 : decode cX2_choose 20 = .ok (.aload_n 0, 1) := dk_42 (dk_at dksX2_choose_0 20 rfl rfl)
theorem dX2_choose_21 : decode cX2_choose 21 = .ok (.iload_n 1, 1) := dk_27 (dk_at dksX2_choose_0 21 rfl rfl)
theorem dX2_choose_22 : decode cX2_choose 22 = .ok (.invokevirtual 131, 3) := dk_182 0 131 (dk_at dksX2_choose_1 0 rfl rfl)
theorem dX2_choose_25 : decode cX2_choose 25 = .ok (.ireturn, 1) := dk_172 (dk_at dksX2_choose_1 3 rfl rfl)
abbrev cX2_notChoose : ByteArray := prog_13_method_30_code
def yX2_notChoose : MethodName := ⟨RX2, "notChoose", "(I)I"⟩
def dkwX2_notChoose_2 : List UInt8 := [167, 0, 4, 3, 172]
abbrev dktX2_notChoose_2 : List UInt8 := dkwX2_notChoose_2 ++ []
def dkwX2_notChoose_1 : List UInt8 := [182, 0, 122, 182, 0, 84, 172, 42, 3, 182, 0, 104, 154, 0, 13, 42, 16, 6, 27, 182, 0, 84]
abbrev dktX2_notChoose_1 : List UInt8 := dkwX2_notChoose_1 ++ dktX2_notChoose_2
def dkwX2_notChoose_0 : List UInt8 := [27, 184, 0, 119, 154, 0, 6, 16, 245, 172, 42, 27, 182, 0, 122, 155, 0, 14, 42, 8, 42, 27]
abbrev dktX2_notChoose_0 : List UInt8 := dkwX2_notChoose_0 ++ dktX2_notChoose_1
theorem dksX2_notChoose_0 : cX2_notChoose.data.toList.drop 0 = dktX2_notChoose_0 := by decide +kernel
theorem dksX2_notChoose_1 : cX2_notChoose.data.toList.drop 22 = dktX2_notChoose_1 := dk_seg dksX2_notChoose_0 22 rfl rfl
theorem dksX2_notChoose_2 : cX2_notChoose.data.toList.drop 44 = dktX2_notChoose_2 := dk_seg dksX2_notChoose_1 22 rfl rfl
theorem dX2_notChoose_0 : decode cX2_notChoose 0 = .ok (.iload_n 1, 1) := dk_27 (dk_at dksX2_notChoose_0 0 rfl rfl)
theorem dX2_notChoose_1 : decode cX2_notChoose 1 = .ok (.invokestatic 119, 3) := dk_184 0 119 (dk_at dksX2_notChoose_0 1 rfl rfl)
theorem dX2_notChoose_4 : decode cX2_notChoose 4 = .ok (.ifCond .ne 6, 3) := dk_154 0 6 (dk_at dksX2_notChoose_0 4 rfl rfl)
theorem dX2_notChoose_7 : decode cX2_notChoose 7 = .ok (.bipush (-11), 2) := dk_16 245 (dk_at dksX2_notChoose_0 7 rfl rfl)
theorem dX2_notChoose_9 : decode cX2_notChoose 9 = .ok (.ireturn, 1) := dk_172 (dk_at dksX2_notChoose_0 9 rfl rfl)
theorem dX2_notChoose_10 : decode cX2_notChoose 10 = .ok (.aload_n 0, 1) := dk_42 (dk_at dksX2_notChoose_0 10 rfl rfl)
theorem dX2_notChoose_11 : decode cX2_notChoose 11 = .ok (.iload_n 1, 1) := dk_27 (dk_at dksX2_notChoose_0 11 rfl rfl)
theorem dX2_notChoose_12 : decode cX2_notChoose 12 = .ok (.invokevirtual 122, 3) := dk_182 0 122 (dk_at dksX2_notChoose_0 12 rfl rfl)
theorem dX2_notChoose_15 : decode cX2_notChoose 15 = .ok (.ifCond .lt 14, 3) := dk_155 0 14 (dk_at dksX2_notChoose_0 15 rfl rfl)
theorem dX2_notChoose_18 : decode cX2_notChoose 18 = .ok (.aload_n 0, 1) := dk_42 (dk_at dksX2_notChoose_0 18 rfl rfl)
theorem dX2_notChoose_19 : decode cX2_notChoose 19 = .ok (.iconst 5, 1) := dk_8 (dk_at dksX2_notChoose_0 19 rfl rfl)
theorem dX2_notChoose_20 : decode cX2_notChoose 20 = .ok (.aload_n 0, 1) := dk_42 (dk_at dksX2_notChoose_0 20 rfl rfl)
theorem dX2_notChoose_21 : decode cX2_notChoose 21 = .ok (.iload_n 1, 1) := dk_27 (dk_at dksX2_notChoose_0 21 rfl rfl)
theorem dX2_notChoose_22 : decode cX2_notChoose 22 = .ok (.invokevirtual 122, 3) := dk_182 0 122 (dk_at dksX2_notChoose_1 0 rfl rfl)
theorem dX2_notChoose_25 : decode cX2_notChoose 25 = .ok (.invokevirtual 84, 3) := dk_182 0 84 (dk_at dksX2_notChoose_1 3 rfl rfl)
theorem dX2_notChoose_28 : decode cX2_notChoose 28 = .ok (.ireturn, 1) := dk_172 (dk_at dksX2_notChoose_1 6 rfl rfl)
theorem dX2_notChoose_29 : decode cX2_notChoose 29 = .ok (.aload_n 0, 1) := dk_42 (dk_at dksX2_notChoose_1 7 rfl rfl)
theorem dX2_notChoose_30 : decode cX2_notChoose 30 = .ok (.iconst 0, 1) := dk_3 (dk_at dksX2_notChoose_1 8 rfl rfl)
theorem dX2_notChoose_31 : decode cX2_notChoose 31 = .ok (.invokevirtual 104, 3) := dk_182 0 104 (dk_at dksX2_notChoose_1 9 rfl rfl)
theorem dX2_notChoose_34 : decode cX2_notChoose 34 = .ok (.ifCond .ne 13, 3) := dk_154 0 13 (dk_at dksX2_notChoose_1 12 rfl rfl)
theorem dX2_notChoose_37 : decode cX2_notChoose 37 = .ok (.aload_n 0, 1) := dk_42 (dk_at dksX2_notChoose_1 15 rfl rfl)
theorem dX2_notChoose_38 : decode cX2_notChoose 38 = .ok (.bipush 6, 2) := dk_16 6 (dk_at dksX2_notChoose_1 16 rfl rfl)
theorem dX2_notChoose_40 : decode cX2_notChoose 40 = .ok (.iload_n 1, 1) := dk_27 (dk_at dksX2_notChoose_1 18 rfl rfl)
theorem dX2_notChoose_41 : decode cX2_notChoose 41 = .ok (.invokevirtual 84, 3) := dk_182 0 84 (dk_at dksX2_notChoose_1 19 rfl rfl)
theorem dX2_notChoose_44 : decode cX2_notChoose 44 = .ok (.goto 4, 3) := dk_167 0 4 (dk_at dksX2_notChoose_2 0 rfl rfl)
theorem dX2_notChoose_47 : decode cX2_notChoose 47 = .ok (.iconst 0, 1) := dk_3 (dk_at dksX2_notChoose_2 3 rfl rfl)
theorem dX2_notChoose_48 : decode cX2_notChoose 48 = .ok (.ireturn, 1) := dk_172 (dk_at dksX2_notChoose_2 4 rfl rfl)
abbrev cX2_isCell : ByteArray := prog_13_method_14_code
def yX2_isCell : MethodName := ⟨RX2, "isCell", "(I)Z"⟩
def dkwX2_isCell_0 : List UInt8 := [26, 3, 16, 7, 184, 0, 60, 172]
abbrev dktX2_isCell_0 : List UInt8 := dkwX2_isCell_0 ++ []
theorem dksX2_isCell_0 : cX2_isCell.data.toList.drop 0 = dktX2_isCell_0 := by decide +kernel
theorem dX2_isCell_0 : decode cX2_isCell 0 = .ok (.iload_n 0, 1) := dk_26 (dk_at dksX2_isCell_0 0 rfl rfl)
theorem dX2_isCell_1 : decode cX2_isCell 1 = .ok (.iconst 0, 1) := dk_3 (dk_at dksX2_isCell_0 1 rfl rfl)
theorem dX2_isCell_2 : decode cX2_isCell 2 = .ok (.bipush 7, 2) := dk_16 7 (dk_at dksX2_isCell_0 2 rfl rfl)
theorem dX2_isCell_4 : decode cX2_isCell 4 = .ok (.invokestatic 60, 3) := dk_184 0 60 (dk_at dksX2_isCell_0 4 rfl rfl)
theorem dX2_isCell_7 : decode cX2_isCell 7 = .ok (.ireturn, 1) := dk_172 (dk_at dksX2_isCell_0 7 rfl rfl)
abbrev cX2_brotherIn : ByteArray := prog_13_method_17_code
def yX2_brotherIn : MethodName := ⟨RX2, "brotherIn", "(I)I"⟩
def dkwX2_brotherIn_1 : List UInt8 := [182, 0, 64, 27, 160, 0, 5, 28, 172, 132, 2, 1, 167, 255, 222, 16, 241, 172]
abbrev dktX2_brotherIn_1 : List UInt8 := dkwX2_brotherIn_1 ++ []
def dkwX2_brotherIn_0 : List UInt8 := [3, 61, 28, 42, 180, 0, 7, 5, 46, 162, 0, 30, 42, 28, 4, 182, 0, 68, 153, 0, 15, 42, 28, 6]
abbrev dktX2_brotherIn_0 : List UInt8 := dkwX2_brotherIn_0 ++ dktX2_brotherIn_1
theorem dksX2_brotherIn_0 : cX2_brotherIn.data.toList.drop 0 = dktX2_brotherIn_0 := by decide +kernel
theorem dksX2_brotherIn_1 : cX2_brotherIn.data.toList.drop 24 = dktX2_brotherIn_1 := dk_seg dksX2_brotherIn_0 24 rfl rfl
theorem dX2_brotherIn_0 : decode cX2_brotherIn 0 = .ok (.iconst 0, 1) := dk_3 (dk_at dksX2_brotherIn_0 0 rfl rfl)
theorem dX2_brotherIn_1 : decode cX2_brotherIn 1 = .ok (.istore_n 2, 1) := dk_61 (dk_at dksX2_brotherIn_0 1 rfl rfl)
theorem dX2_brotherIn_2 : decode cX2_brotherIn 2 = .ok (.iload_n 2, 1) := dk_28 (dk_at dksX2_brotherIn_0 2 rfl rfl)
theorem dX2_brotherIn_3 : decode cX2_brotherIn 3 = .ok (.aload_n 0, 1) := dk_42 (dk_at dksX2_brotherIn_0 3 rfl rfl)
theorem dX2_brotherIn_4 : decode cX2_brotherIn 4 = .ok (.getfield 7, 3) := dk_180 0 7 (dk_at dksX2_brotherIn_0 4 rfl rfl)
theorem dX2_brotherIn_7 : decode cX2_brotherIn 7 = .ok (.iconst 2, 1) := dk_5 (dk_at dksX2_brotherIn_0 7 rfl rfl)
theorem dX2_brotherIn_8 : decode cX2_brotherIn 8 = .ok (.iaload, 1) := dk_46 (dk_at dksX2_brotherIn_0 8 rfl rfl)
theorem dX2_brotherIn_9 : decode cX2_brotherIn 9 = .ok (.if_icmp .ge 30, 3) := dk_162 0 30 (dk_at dksX2_brotherIn_0 9 rfl rfl)
theorem dX2_brotherIn_12 : decode cX2_brotherIn 12 = .ok (.aload_n 0, 1) := dk_42 (dk_at dksX2_brotherIn_0 12 rfl rfl)
theorem dX2_brotherIn_13 : decode cX2_brotherIn 13 = .ok (.iload_n 2, 1) := dk_28 (dk_at dksX2_brotherIn_0 13 rfl rfl)
theorem dX2_brotherIn_14 : decode cX2_brotherIn 14 = .ok (.iconst 1, 1) := dk_4 (dk_at dksX2_brotherIn_0 14 rfl rfl)
theorem dX2_brotherIn_15 : decode cX2_brotherIn 15 = .ok (.invokevirtual 68, 3) := dk_182 0 68 (dk_at dksX2_brotherIn_0 15 rfl rfl)
theorem dX2_brotherIn_18 : decode cX2_brotherIn 18 = .ok (.ifCond .eq 15, 3) := dk_153 0 15 (dk_at dksX2_brotherIn_0 18 rfl rfl)
theorem dX2_brotherIn_21 : decode cX2_brotherIn 21 = .ok (.aload_n 0, 1) := dk_42 (dk_at dksX2_brotherIn_0 21 rfl rfl)
theorem dX2_brotherIn_22 : decode cX2_brotherIn 22 = .ok (.iload_n 2, 1) := dk_28 (dk_at dksX2_brotherIn_0 22 rfl rfl)
theorem dX2_brotherIn_23 : decode cX2_brotherIn 23 = .ok (.iconst 3, 1) := dk_6 (dk_at dksX2_brotherIn_0 23 rfl rfl)
theorem dX2_brotherIn_24 : decode cX2_brotherIn 24 = .ok (.invokevirtual 64, 3) := dk_182 0 64 (dk_at dksX2_brotherIn_1 0 rfl rfl)
theorem dX2_brotherIn_27 : decode cX2_brotherIn 27 = .ok (.iload_n 1, 1) := dk_27 (dk_at dksX2_brotherIn_1 3 rfl rfl)
theorem dX2_brotherIn_28 : decode cX2_brotherIn 28 = .ok (.if_icmp .ne 5, 3) := dk_160 0 5 (dk_at dksX2_brotherIn_1 4 rfl rfl)
theorem dX2_brotherIn_31 : decode cX2_brotherIn 31 = .ok (.iload_n 2, 1) := dk_28 (dk_at dksX2_brotherIn_1 7 rfl rfl)
theorem dX2_brotherIn_32 : decode cX2_brotherIn 32 = .ok (.ireturn, 1) := dk_172 (dk_at dksX2_brotherIn_1 8 rfl rfl)
theorem dX2_brotherIn_33 : decode cX2_brotherIn 33 = .ok (.iinc 2 1, 3) := dk_132 2 1 (dk_at dksX2_brotherIn_1 9 rfl rfl)
theorem dX2_brotherIn_36 : decode cX2_brotherIn 36 = .ok (.goto (-34), 3) := dk_167 255 222 (dk_at dksX2_brotherIn_1 12 rfl rfl)
theorem dX2_brotherIn_39 : decode cX2_brotherIn 39 = .ok (.bipush (-15), 2) := dk_16 241 (dk_at dksX2_brotherIn_1 15 rfl rfl)
theorem dX2_brotherIn_41 : decode cX2_brotherIn 41 = .ok (.ireturn, 1) := dk_172 (dk_at dksX2_brotherIn_1 17 rfl rfl)
abbrev cX2_chooses : ByteArray := prog_13_method_31_code
def yX2_chooses : MethodName := ⟨RX2, "chooses", "(I)I"⟩
def dkwX2_chooses_1 : List UInt8 := [182, 0, 76, 42, 28, 182, 0, 93, 28, 172]
abbrev dktX2_chooses_1 : List UInt8 := dkwX2_chooses_1 ++ []
def dkwX2_chooses_0 : List UInt8 := [42, 3, 182, 0, 125, 61, 42, 28, 4, 182, 0, 100, 42, 28, 6, 27, 182, 0, 76, 42, 28, 7, 3]
abbrev dktX2_chooses_0 : List UInt8 := dkwX2_chooses_0 ++ dktX2_chooses_1
theorem dksX2_chooses_0 : cX2_chooses.data.toList.drop 0 = dktX2_chooses_0 := by decide +kernel
theorem dksX2_chooses_1 : cX2_chooses.data.toList.drop 23 = dktX2_chooses_1 := dk_seg dksX2_chooses_0 23 rfl rfl
theorem dX2_chooses_0 : decode cX2_chooses 0 = .ok (.aload_n 0, 1) := dk_42 (dk_at dksX2_chooses_0 0 rfl rfl)
theorem dX2_chooses_1 : decode cX2_chooses 1 = .ok (.iconst 0, 1) := dk_3 (dk_at dksX2_chooses_0 1 rfl rfl)
theorem dX2_chooses_2 : decode cX2_chooses 2 = .ok (.invokevirtual 125, 3) := dk_182 0 125 (dk_at dksX2_chooses_0 2 rfl rfl)
theorem dX2_chooses_5 : decode cX2_chooses 5 = .ok (.istore_n 2, 1) := dk_61 (dk_at dksX2_chooses_0 5 rfl rfl)
theorem dX2_chooses_6 : decode cX2_chooses 6 = .ok (.aload_n 0, 1) := dk_42 (dk_at dksX2_chooses_0 6 rfl rfl)
theorem dX2_chooses_7 : decode cX2_chooses 7 = .ok (.iload_n 2, 1) := dk_28 (dk_at dksX2_chooses_0 7 rfl rfl)
theorem dX2_chooses_8 : decode cX2_chooses 8 = .ok (.iconst 1, 1) := dk_4 (dk_at dksX2_chooses_0 8 rfl rfl)
theorem dX2_chooses_9 : decode cX2_chooses 9 = .ok (.invokevirtual 100, 3) := dk_182 0 100 (dk_at dksX2_chooses_0 9 rfl rfl)
theorem dX2_chooses_12 : decode cX2_chooses 12 = .ok (.aload_n 0, 1) := dk_42 (dk_at dksX2_chooses_0 12 rfl rfl)
theorem dX2_chooses_13 : decode cX2_chooses 13 = .ok (.iload_n 2, 1) := dk_28 (dk_at dksX2_chooses_0 13 rfl rfl)
theorem dX2_chooses_14 : decode cX2_chooses 14 = .ok (.iconst 3, 1) := dk_6 (dk_at dksX2_chooses_0 14 rfl rfl)
theorem dX2_chooses_15 : decode cX2_chooses 15 = .ok (.iload_n 1, 1) := dk_27 (dk_at dksX2_chooses_0 15 rfl rfl)
theorem dX2_chooses_16 : decode cX2_chooses 16 = .ok (.invokevirtual 76, 3) := dk_182 0 76 (dk_at dksX2_chooses_0 16 rfl rfl)
theorem dX2_chooses_19 : decode cX2_chooses 19 = .ok (.aload_n 0, 1) := dk_42 (dk_at dksX2_chooses_0 19 rfl rfl)
theorem dX2_chooses_20 : decode cX2_chooses 20 = .ok (.iload_n 2, 1) := dk_28 (dk_at dksX2_chooses_0 20 rfl rfl)
theorem dX2_chooses_21 : decode cX2_chooses 21 = .ok (.iconst 4, 1) := dk_7 (dk_at dksX2_chooses_0 21 rfl rfl)
theorem dX2_chooses_22 : decode cX2_chooses 22 = .ok (.iconst 0, 1) := dk_3 (dk_at dksX2_chooses_0 22 rfl rfl)
theorem dX2_chooses_23 : decode cX2_chooses 23 = .ok (.invokevirtual 76, 3) := dk_182 0 76 (dk_at dksX2_chooses_1 0 rfl rfl)
theorem dX2_chooses_26 : decode cX2_chooses 26 = .ok (.aload_n 0, 1) := dk_42 (dk_at dksX2_chooses_1 3 rfl rfl)
theorem dX2_chooses_27 : decode cX2_chooses 27 = .ok (.iload_n 2, 1) := dk_28 (dk_at dksX2_chooses_1 4 rfl rfl)
theorem dX2_chooses_28 : decode cX2_chooses 28 = .ok (.invokevirtual 93, 3) := dk_182 0 93 (dk_at dksX2_chooses_1 5 rfl rfl)
theorem dX2_chooses_31 : decode cX2_chooses 31 = .ok (.iload_n 2, 1) := dk_28 (dk_at dksX2_chooses_1 8 rfl rfl)
theorem dX2_chooses_32 : decode cX2_chooses 32 = .ok (.ireturn, 1) := dk_172 (dk_at dksX2_chooses_1 9 rfl rfl)
abbrev cX2_rankedAt : ByteArray := prog_13_method_29_code
def yX2_rankedAt : MethodName := ⟨RX2, "rankedAt", "(I)I"⟩
def dkwX2_rankedAt_3 : List UInt8 := [167, 255, 214, 29, 27, 160, 0, 5, 28, 172, 132, 2, 1, 167, 255, 174, 16, 245, 172]
abbrev dktX2_rankedAt_3 : List UInt8 := dkwX2_rankedAt_3 ++ []
def dkwX2_rankedAt_2 : List UInt8 := [153, 0, 17, 42, 21, 4, 28, 182, 0, 116, 153, 0, 7, 4, 167, 0, 4, 3, 96, 62, 132, 4, 1]
abbrev dktX2_rankedAt_2 : List UInt8 := dkwX2_rankedAt_2 ++ dktX2_rankedAt_3
def dkwX2_rankedAt_1 : List UInt8 := [3, 62, 3, 54, 4, 21, 4, 42, 180, 0, 7, 5, 46, 162, 0, 37, 29, 42, 21, 4, 3, 182, 0, 68]
abbrev dktX2_rankedAt_1 : List UInt8 := dkwX2_rankedAt_1 ++ dktX2_rankedAt_2
def dkwX2_rankedAt_0 : List UInt8 := [3, 61, 28, 42, 180, 0, 7, 5, 46, 162, 0, 78, 42, 28, 3, 182, 0, 68, 154, 0, 6, 167, 0, 60]
abbrev dktX2_rankedAt_0 : List UInt8 := dkwX2_rankedAt_0 ++ dktX2_rankedAt_1
theorem dksX2_rankedAt_0 : cX2_rankedAt.data.toList.drop 0 = dktX2_rankedAt_0 := by decide +kernel
theorem dksX2_rankedAt_1 : cX2_rankedAt.data.toList.drop 24 = dktX2_rankedAt_1 := dk_seg dksX2_rankedAt_0 24 rfl rfl
theorem dksX2_rankedAt_2 : cX2_rankedAt.data.toList.drop 48 = dktX2_rankedAt_2 := dk_seg dksX2_rankedAt_1 24 rfl rfl
theorem dksX2_rankedAt_3 : cX2_rankedAt.data.toList.drop 71 = dktX2_rankedAt_3 := dk_seg dksX2_rankedAt_2 23 rfl rfl
theorem dX2_rankedAt_0 : decode cX2_rankedAt 0 = .ok (.iconst 0, 1) := dk_3 (dk_at dksX2_rankedAt_0 0 rfl rfl)
theorem dX2_rankedAt_1 : decode cX2_rankedAt 1 = .ok (.istore_n 2, 1) := dk_61 (dk_at dksX2_rankedAt_0 1 rfl rfl)
theorem dX2_rankedAt_2 : decode cX2_rankedAt 2 = .ok (.iload_n 2, 1) := dk_28 (dk_at dksX2_rankedAt_0 2 rfl rfl)
theorem dX2_rankedAt_3 : decode cX2_rankedAt 3 = .ok (.aload_n 0, 1) := dk_42 (dk_at dksX2_rankedAt_0 3 rfl rfl)
theorem dX2_rankedAt_4 : decode cX2_rankedAt 4 = .ok (.getfield 7, 3) := dk_180 0 7 (dk_at dksX2_rankedAt_0 4 rfl rfl)
theorem dX2_rankedAt_7 : decode cX2_rankedAt 7 = .ok (.iconst 2, 1) := dk_5 (dk_at dksX2_rankedAt_0 7 rfl rfl)
theorem dX2_rankedAt_8 : decode cX2_rankedAt 8 = .ok (.iaload, 1) := dk_46 (dk_at dksX2_rankedAt_0 8 rfl rfl)
theorem dX2_rankedAt_9 : decode cX2_rankedAt 9 = .ok (.if_icmp .ge 78, 3) := dk_162 0 78 (dk_at dksX2_rankedAt_0 9 rfl rfl)
theorem dX2_rankedAt_12 : decode cX2_rankedAt 12 = .ok (.aload_n 0, 1) := dk_42 (dk_at dksX2_rankedAt_0 12 rfl rfl)
theorem dX2_rankedAt_13 : decode cX2_rankedAt 13 = .ok (.iload_n 2, 1) := dk_28 (dk_at dksX2_rankedAt_0 13 rfl rfl)
theorem dX2_rankedAt_14 : decode cX2_rankedAt 14 = .ok (.iconst 0, 1) := dk_3 (dk_at dksX2_rankedAt_0 14 rfl rfl)
theorem dX2_rankedAt_15 : decode cX2_rankedAt 15 = .ok (.invokevirtual 68, 3) := dk_182 0 68 (dk_at dksX2_rankedAt_0 15 rfl rfl)
theorem dX2_rankedAt_18 : decode cX2_rankedAt 18 = .ok (.ifCond .ne 6, 3) := dk_154 0 6 (dk_at dksX2_rankedAt_0 18 rfl rfl)
theorem dX2_rankedAt_21 : decode cX2_rankedAt 21 = .ok (.goto 60, 3) := dk_167 0 60 (dk_at dksX2_rankedAt_0 21 rfl rfl)
theorem dX2_rankedAt_24 : decode cX2_rankedAt 24 = .ok (.iconst 0, 1) := dk_3 (dk_at dksX2_rankedAt_1 0 rfl rfl)
theorem dX2_rankedAt_25 : decode cX2_rankedAt 25 = .ok (.istore_n 3, 1) := dk_62 (dk_at dksX2_rankedAt_1 1 rfl rfl)
theorem dX2_rankedAt_26 : decode cX2_rankedAt 26 = .ok (.iconst 0, 1) := dk_3 (dk_at dksX2_rankedAt_1 2 rfl rfl)
theorem dX2_rankedAt_27 : decode cX2_rankedAt 27 = .ok (.istore 4, 2) := dk_54 4 (dk_at dksX2_rankedAt_1 3 rfl rfl)
theorem dX2_rankedAt_29 : decode cX2_rankedAt 29 = .ok (.iload 4, 2) := dk_21 4 (dk_at dksX2_rankedAt_1 5 rfl rfl)
theorem dX2_rankedAt_31 : decode cX2_rankedAt 31 = .ok (.aload_n 0, 1) := dk_42 (dk_at dksX2_rankedAt_1 7 rfl rfl)
theorem dX2_rankedAt_32 : decode cX2_rankedAt 32 = .ok (.getfield 7, 3) := dk_180 0 7 (dk_at dksX2_rankedAt_1 8 rfl rfl)
theorem dX2_rankedAt_35 : decode cX2_rankedAt 35 = .ok (.iconst 2, 1) := dk_5 (dk_at dksX2_rankedAt_1 11 rfl rfl)
theorem dX2_rankedAt_36 : decode cX2_rankedAt 36 = .ok (.iaload, 1) := dk_46 (dk_at dksX2_rankedAt_1 12 rfl rfl)
theorem dX2_rankedAt_37 : decode cX2_rankedAt 37 = .ok (.if_icmp .ge 37, 3) := dk_162 0 37 (dk_at dksX2_rankedAt_1 13 rfl rfl)
theorem dX2_rankedAt_40 : decode cX2_rankedAt 40 = .ok (.iload_n 3, 1) := dk_29 (dk_at dksX2_rankedAt_1 16 rfl rfl)
theorem dX2_rankedAt_41 : decode cX2_rankedAt 41 = .ok (.aload_n 0, 1) := dk_42 (dk_at dksX2_rankedAt_1 17 rfl rfl)
theorem dX2_rankedAt_42 : decode cX2_rankedAt 42 = .ok (.iload 4, 2) := dk_21 4 (dk_at dksX2_rankedAt_1 18 rfl rfl)
theorem dX2_rankedAt_44 : decode cX2_rankedAt 44 = .ok (.iconst 0, 1) := dk_3 (dk_at dksX2_rankedAt_1 20 rfl rfl)
theorem dX2_rankedAt_45 : decode cX2_rankedAt 45 = .ok (.invokevirtual 68, 3) := dk_182 0 68 (dk_at dksX2_rankedAt_1 21 rfl rfl)
theorem dX2_rankedAt_48 : decode cX2_rankedAt 48 = .ok (.ifCond .eq 17, 3) := dk_153 0 17 (dk_at dksX2_rankedAt_2 0 rfl rfl)
theorem dX2_rankedAt_51 : decode cX2_rankedAt 51 = .ok (.aload_n 0, 1) := dk_42 (dk_at dksX2_rankedAt_2 3 rfl rfl)
theorem dX2_rankedAt_52 : decode cX2_rankedAt 52 = .ok (.iload 4, 2) := dk_21 4 (dk_at dksX2_rankedAt_2 4 rfl rfl)
theorem dX2_rankedAt_54 : decode cX2_rankedAt 54 = .ok (.iload_n 2, 1) := dk_28 (dk_at dksX2_rankedAt_2 6 rfl rfl)
theorem dX2_rankedAt_55 : decode cX2_rankedAt 55 = .ok (.invokevirtual 116, 3) := dk_182 0 116 (dk_at dksX2_rankedAt_2 7 rfl rfl)
theorem dX2_rankedAt_58 : decode cX2_rankedAt 58 = .ok (.ifCond .eq 7, 3) := dk_153 0 7 (dk_at dksX2_rankedAt_2 10 rfl rfl)
theorem dX2_rankedAt_61 : decode cX2_rankedAt 61 = .ok (.iconst 1, 1) := dk_4 (dk_at dksX2_rankedAt_2 13 rfl rfl)
theorem dX2_rankedAt_62 : decode cX2_rankedAt 62 = .ok (.goto 4, 3) := dk_167 0 4 (dk_at dksX2_rankedAt_2 14 rfl rfl)
theorem dX2_rankedAt_65 : decode cX2_rankedAt 65 = .ok (.iconst 0, 1) := dk_3 (dk_at dksX2_rankedAt_2 17 rfl rfl)
theorem dX2_rankedAt_66 : decode cX2_rankedAt 66 = .ok (.iadd, 1) := dk_96 (dk_at dksX2_rankedAt_2 18 rfl rfl)
theorem dX2_rankedAt_67 : decode cX2_rankedAt 67 = .ok (.istore_n 3, 1) := dk_62 (dk_at dksX2_rankedAt_2 19 rfl rfl)
theorem dX2_rankedAt_68 : decode cX2_rankedAt 68 = .ok (.iinc 4 1, 3) := dk_132 4 1 (dk_at dksX2_rankedAt_2 20 rfl rfl)
theorem dX2_rankedAt_71 : decode cX2_rankedAt 71 = .ok (.goto (-42), 3) := dk_167 255 214 (dk_at dksX2_rankedAt_3 0 rfl rfl)
theorem dX2_rankedAt_74 : decode cX2_rankedAt 74 = .ok (.iload_n 3, 1) := dk_29 (dk_at dksX2_rankedAt_3 3 rfl rfl)
theorem dX2_rankedAt_75 : decode cX2_rankedAt 75 = .ok (.iload_n 1, 1) := dk_27 (dk_at dksX2_rankedAt_3 4 rfl rfl)
theorem dX2_rankedAt_76 : decode cX2_rankedAt 76 = .ok (.if_icmp .ne 5, 3) := dk_160 0 5 (dk_at dksX2_rankedAt_3 5 rfl rfl)
theorem dX2_rankedAt_79 : decode cX2_rankedAt 79 = .ok (.iload_n 2, 1) := dk_28 (dk_at dksX2_rankedAt_3 8 rfl rfl)
theorem dX2_rankedAt_80 : decode cX2_rankedAt 80 = .ok (.ireturn, 1) := dk_172 (dk_at dksX2_rankedAt_3 9 rfl rfl)
theorem dX2_rankedAt_81 : decode cX2_rankedAt 81 = .ok (.iinc 2 1, 3) := dk_132 2 1 (dk_at dksX2_rankedAt_3 10 rfl rfl)
theorem dX2_rankedAt_84 : decode cX2_rankedAt 84 = .ok (.goto (-82), 3) := dk_167 255 174 (dk_at dksX2_rankedAt_3 13 rfl rfl)
theorem dX2_rankedAt_87 : decode cX2_rankedAt 87 = .ok (.bipush (-11), 2) := dk_16 245 (dk_at dksX2_rankedAt_3 16 rfl rfl)
theorem dX2_rankedAt_89 : decode cX2_rankedAt 89 = .ok (.ireturn, 1) := dk_172 (dk_at dksX2_rankedAt_3 18 rfl rfl)
abbrev cX2_isChosenAhead : ByteArray := prog_13_method_28_code
def yX2_isChosenAhead : MethodName := ⟨RX2, "isChosenAhead", "(II)Z"⟩
def dkwX2_isChosenAhead_2 : List UInt8 := [182, 0, 64, 162, 0, 7, 4, 167, 0, 4, 3, 172]
abbrev dktX2_isChosenAhead_2 : List UInt8 := dkwX2_isChosenAhead_2 ++ []
def dkwX2_isChosenAhead_1 : List UInt8 := [164, 0, 7, 4, 167, 0, 29, 3, 167, 0, 25, 42, 27, 16, 8, 182, 0, 64, 42, 28, 16, 8]
abbrev dktX2_isChosenAhead_1 : List UInt8 := dkwX2_isChosenAhead_1 ++ dktX2_isChosenAhead_2
def dkwX2_isChosenAhead_0 : List UInt8 := [42, 27, 182, 0, 107, 42, 28, 182, 0, 107, 159, 0, 24, 42, 27, 182, 0, 107, 42, 28, 182, 0, 107]
abbrev dktX2_isChosenAhead_0 : List UInt8 := dkwX2_isChosenAhead_0 ++ dktX2_isChosenAhead_1
theorem dksX2_isChosenAhead_0 : cX2_isChosenAhead.data.toList.drop 0 = dktX2_isChosenAhead_0 := by decide +kernel
theorem dksX2_isChosenAhead_1 : cX2_isChosenAhead.data.toList.drop 23 = dktX2_isChosenAhead_1 := dk_seg dksX2_isChosenAhead_0 23 rfl rfl
theorem dksX2_isChosenAhead_2 : cX2_isChosenAhead.data.toList.drop 45 = dktX2_isChosenAhead_2 := dk_seg dksX2_isChosenAhead_1 22 rfl rfl
theorem dX2_isChosenAhead_0 : decode cX2_isChosenAhead 0 = .ok (.aload_n 0, 1) := dk_42 (dk_at dksX2_isChosenAhead_0 0 rfl rfl)
theorem dX2_isChosenAhead_1 : decode cX2_isChosenAhead 1 = .ok (.iload_n 1, 1) := dk_27 (dk_at dksX2_isChosenAhead_0 1 rfl rfl)
theorem dX2_isChosenAhead_2 : decode cX2_isChosenAhead 2 = .ok (.invokevirtual 107, 3) := dk_182 0 107 (dk_at dksX2_isChosenAhead_0 2 rfl rfl)
theorem dX2_isChosenAhead_5 : decode cX2_isChosenAhead 5 = .ok (.aload_n 0, 1) := dk_42 (dk_at dksX2_isChosenAhead_0 5 rfl rfl)
theorem dX2_isChosenAhead_6 : decode cX2_isChosenAhead 6 = .ok (.iload_n 2, 1) := dk_28 (dk_at dksX2_isChosenAhead_0 6 rfl rfl)
theorem dX2_isChosenAhead_7 : decode cX2_isChosenAhead 7 = .ok (.invokevirtual 107, 3) := dk_182 0 107 (dk_at dksX2_isChosenAhead_0 7 rfl rfl)
theorem dX2_isChosenAhead_10 : decode cX2_isChosenAhead 10 = .ok (.if_icmp .eq 24, 3) := dk_159 0 24 (dk_at dksX2_isChosenAhead_0 10 rfl rfl)
theorem dX2_isChosenAhead_13 : decode cX2_isChosenAhead 13 = .ok (.aload_n 0, 1) := dk_42 (dk_at dksX2_isChosenAhead_0 13 rfl rfl)
theorem dX2_isChosenAhead_14 : decode cX2_isChosenAhead 14 = .ok (.iload_n 1, 1) := dk_27 (dk_at dksX2_isChosenAhead_0 14 rfl rfl)
theorem dX2_isChosenAhead_15 : decode cX2_isChosenAhead 15 = .ok (.invokevirtual 107, 3) := dk_182 0 107 (dk_at dksX2_isChosenAhead_0 15 rfl rfl)
theorem dX2_isChosenAhead_18 : decode cX2_isChosenAhead 18 = .ok (.aload_n 0, 1) := dk_42 (dk_at dksX2_isChosenAhead_0 18 rfl rfl)
theorem dX2_isChosenAhead_19 : decode cX2_isChosenAhead 19 = .ok (.iload_n 2, 1) := dk_28 (dk_at dksX2_isChosenAhead_0 19 rfl rfl)
theorem dX2_isChosenAhead_20 : decode cX2_isChosenAhead 20 = .ok (.invokevirtual 107, 3) := dk_182 0 107 (dk_at dksX2_isChosenAhead_0 20 rfl rfl)
theorem dX2_isChosenAhead_23 : decode cX2_isChosenAhead 23 = .ok (.if_icmp .le 7, 3) := dk_164 0 7 (dk_at dksX2_isChosenAhead_1 0 rfl rfl)
theorem dX2_isChosenAhead_26 : decode cX2_isChosenAhead 26 = .ok (.iconst 1, 1) := dk_4 (dk_at dksX2_isChosenAhead_1 3 rfl rfl)
theorem dX2_isChosenAhead_27 : decode cX2_isChosenAhead 27 = .ok (.goto 29, 3) := dk_167 0 29 (dk_at dksX2_isChosenAhead_1 4 rfl rfl)
theorem dX2_isChosenAhead_30 : decode cX2_isChosenAhead 30 = .ok (.iconst 0, 1) := dk_3 (dk_at dksX2_isChosenAhead_1 7 rfl rfl)
theorem dX2_isChosenAhead_31 : decode cX2_isChosenAhead 31 = .ok (.goto 25, 3) := dk_167 0 25 (dk_at dksX2_isChosenAhead_1 8 rfl rfl)
theorem dX2_isChosenAhead_34 : decode cX2_isChosenAhead 34 = .ok (.aload_n 0, 1) := dk_42 (dk_at dksX2_isChosenAhead_1 11 rfl rfl)
theorem dX2_isChosenAhead_35 : decode cX2_isChosenAhead 35 = .ok (.iload_n 1, 1) := dk_27 (dk_at dksX2_isChosenAhead_1 12 rfl rfl)
theorem dX2_isChosenAhead_36 : decode cX2_isChosenAhead 36 = .ok (.bipush 8, 2) := dk_16 8 (dk_at dksX2_isChosenAhead_1 13 rfl rfl)
theorem dX2_isChosenAhead_38 : decode cX2_isChosenAhead 38 = .ok (.invokevirtual 64, 3) := dk_182 0 64 (dk_at dksX2_isChosenAhead_1 15 rfl rfl)
theorem dX2_isChosenAhead_41 : decode cX2_isChosenAhead 41 = .ok (.aload_n 0, 1) := dk_42 (dk_at dksX2_isChosenAhead_1 18 rfl rfl)
theorem dX2_isChosenAhead_42 : decode cX2_isChosenAhead 42 = .ok (.iload_n 2, 1) := dk_28 (dk_at dksX2_isChosenAhead_1 19 rfl rfl)
theorem dX2_isChosenAhead_43 : decode cX2_isChosenAhead 43 = .ok (.bipush 8, 2) := dk_16 8 (dk_at dksX2_isChosenAhead_1 20 rfl rfl)
theorem dX2_isChosenAhead_45 : decode cX2_isChosenAhead 45 = .ok (.invokevirtual 64, 3) := dk_182 0 64 (dk_at dksX2_isChosenAhead_2 0 rfl rfl)
theorem dX2_isChosenAhead_48 : decode cX2_isChosenAhead 48 = .ok (.if_icmp .ge 7, 3) := dk_162 0 7 (dk_at dksX2_isChosenAhead_2 3 rfl rfl)
theorem dX2_isChosenAhead_51 : decode cX2_isChosenAhead 51 = .ok (.iconst 1, 1) := dk_4 (dk_at dksX2_isChosenAhead_2 6 rfl rfl)
theorem dX2_isChosenAhead_52 : decode cX2_isChosenAhead 52 = .ok (.goto 4, 3) := dk_167 0 4 (dk_at dksX2_isChosenAhead_2 7 rfl rfl)
theorem dX2_isChosenAhead_55 : decode cX2_isChosenAhead 55 = .ok (.iconst 0, 1) := dk_3 (dk_at dksX2_isChosenAhead_2 10 rfl rfl)
theorem dX2_isChosenAhead_56 : decode cX2_isChosenAhead 56 = .ok (.ireturn, 1) := dk_172 (dk_at dksX2_isChosenAhead_2 11 rfl rfl)
abbrev cX2_leave : ByteArray := prog_13_method_35_code
def yX2_leave : MethodName := ⟨RX2, "leave", "(I)I"⟩
def dkwX2_leave_1 : List UInt8 := [182, 0, 137, 172]
abbrev dktX2_leave_1 : List UInt8 := dkwX2_leave_1 ++ []
def dkwX2_leave_0 : List UInt8 := [42, 27, 182, 0, 134, 61, 28, 153, 0, 9, 42, 28, 182, 0, 87, 172, 42, 182, 0, 90, 42, 27]
abbrev dktX2_leave_0 : List UInt8 := dkwX2_leave_0 ++ dktX2_leave_1
theorem dksX2_leave_0 : cX2_leave.data.toList.drop 0 = dktX2_leave_0 := by decide +kernel
theorem dksX2_leave_1 : cX2_leave.data.toList.drop 22 = dktX2_leave_1 := dk_seg dksX2_leave_0 22 rfl rfl
theorem dX2_leave_0 : decode cX2_leave 0 = .ok (.aload_n 0, 1) := dk_42 (dk_at dksX2_leave_0 0 rfl rfl)
theorem dX2_leave_1 : decode cX2_leave 1 = .ok (.iload_n 1, 1) := dk_27 (dk_at dksX2_leave_0 1 rfl rfl)
theorem dX2_leave_2 : decode cX2_leave 2 = .ok (.invokevirtual 134, 3) := dk_182 0 134 (dk_at dksX2_leave_0 2 rfl rfl)
theorem dX2_leave_5 : decode cX2_leave 5 = .ok (.istore_n 2, 1) := dk_61 (dk_at dksX2_leave_0 5 rfl rfl)
theorem dX2_leave_6 : decode cX2_leave 6 = .ok (.iload_n 2, 1) := dk_28 (dk_at dksX2_leave_0 6 rfl rfl)
theorem dX2_leave_7 : decode cX2_leave 7 = .ok (.ifCond .eq 9, 3) := dk_153 0 9 (dk_at dksX2_leave_0 7 rfl rfl)
theorem dX2_leave_10 : decode cX2_leave 10 = .ok (.aload_n 0, 1) := dk_42 (dk_at dksX2_leave_0 10 rfl rfl)
theorem dX2_leave_11 : decode cX2_leave 11 = .ok (.iload_n 2, 1) := dk_28 (dk_at dksX2_leave_0 11 rfl rfl)
theorem dX2_leave_12 : decode cX2_leave 12 = .ok (.invokevirtual 87, 3) := dk_182 0 87 (dk_at dksX2_leave_0 12 rfl rfl)
theorem dX2_leave_15 : decode cX2_leave 15 = .ok (.ireturn, 1) := dk_172 (dk_at dksX2_leave_0 15 rfl rfl)
theorem dX2_leave_16 : decode cX2_leave 16 = .ok (.aload_n 0, 1) := dk_42 (dk_at dksX2_leave_0 16 rfl rfl)
theorem dX2_leave_17 : decode cX2_leave 17 = .ok (.invokevirtual 90, 3) := dk_182 0 90 (dk_at dksX2_leave_0 17 rfl rfl)
theorem dX2_leave_20 : decode cX2_leave 20 = .ok (.aload_n 0, 1) := dk_42 (dk_at dksX2_leave_0 20 rfl rfl)
theorem dX2_leave_21 : decode cX2_leave 21 = .ok (.iload_n 1, 1) := dk_27 (dk_at dksX2_leave_0 21 rfl rfl)
theorem dX2_leave_22 : decode cX2_leave 22 = .ok (.invokevirtual 137, 3) := dk_182 0 137 (dk_at dksX2_leave_1 0 rfl rfl)
theorem dX2_leave_25 : decode cX2_leave 25 = .ok (.ireturn, 1) := dk_172 (dk_at dksX2_leave_1 3 rfl rfl)
abbrev cX2_notLeave : ByteArray := prog_13_method_33_code
def yX2_notLeave : MethodName := ⟨RX2, "notLeave", "(I)I"⟩
def dkwX2_notLeave_1 : List UInt8 := [182, 0, 84, 167, 0, 4, 3, 172]
abbrev dktX2_notLeave_1 : List UInt8 := dkwX2_notLeave_1 ++ []
def dkwX2_notLeave_0 : List UInt8 := [27, 184, 0, 119, 154, 0, 6, 16, 245, 172, 42, 27, 182, 0, 122, 156, 0, 13, 42, 16, 7, 27]
abbrev dktX2_notLeave_0 : List UInt8 := dkwX2_notLeave_0 ++ dktX2_notLeave_1
theorem dksX2_notLeave_0 : cX2_notLeave.data.toList.drop 0 = dktX2_notLeave_0 := by decide +kernel
theorem dksX2_notLeave_1 : cX2_notLeave.data.toList.drop 22 = dktX2_notLeave_1 := dk_seg dksX2_notLeave_0 22 rfl rfl
theorem dX2_notLeave_0 : decode cX2_notLeave 0 = .ok (.iload_n 1, 1) := dk_27 (dk_at dksX2_notLeave_0 0 rfl rfl)
theorem dX2_notLeave_1 : decode cX2_notLeave 1 = .ok (.invokestatic 119, 3) := dk_184 0 119 (dk_at dksX2_notLeave_0 1 rfl rfl)
theorem dX2_notLeave_4 : decode cX2_notLeave 4 = .ok (.ifCond .ne 6, 3) := dk_154 0 6 (dk_at dksX2_notLeave_0 4 rfl rfl)
theorem dX2_notLeave_7 : decode cX2_notLeave 7 = .ok (.bipush (-11), 2) := dk_16 245 (dk_at dksX2_notLeave_0 7 rfl rfl)
theorem dX2_notLeave_9 : decode cX2_notLeave 9 = .ok (.ireturn, 1) := dk_172 (dk_at dksX2_notLeave_0 9 rfl rfl)
theorem dX2_notLeave_10 : decode cX2_notLeave 10 = .ok (.aload_n 0, 1) := dk_42 (dk_at dksX2_notLeave_0 10 rfl rfl)
theorem dX2_notLeave_11 : decode cX2_notLeave 11 = .ok (.iload_n 1, 1) := dk_27 (dk_at dksX2_notLeave_0 11 rfl rfl)
theorem dX2_notLeave_12 : decode cX2_notLeave 12 = .ok (.invokevirtual 122, 3) := dk_182 0 122 (dk_at dksX2_notLeave_0 12 rfl rfl)
theorem dX2_notLeave_15 : decode cX2_notLeave 15 = .ok (.ifCond .ge 13, 3) := dk_156 0 13 (dk_at dksX2_notLeave_0 15 rfl rfl)
theorem dX2_notLeave_18 : decode cX2_notLeave 18 = .ok (.aload_n 0, 1) := dk_42 (dk_at dksX2_notLeave_0 18 rfl rfl)
theorem dX2_notLeave_19 : decode cX2_notLeave 19 = .ok (.bipush 7, 2) := dk_16 7 (dk_at dksX2_notLeave_0 19 rfl rfl)
theorem dX2_notLeave_21 : decode cX2_notLeave 21 = .ok (.iload_n 1, 1) := dk_27 (dk_at dksX2_notLeave_0 21 rfl rfl)
theorem dX2_notLeave_22 : decode cX2_notLeave 22 = .ok (.invokevirtual 84, 3) := dk_182 0 84 (dk_at dksX2_notLeave_1 0 rfl rfl)
theorem dX2_notLeave_25 : decode cX2_notLeave 25 = .ok (.goto 4, 3) := dk_167 0 4 (dk_at dksX2_notLeave_1 3 rfl rfl)
theorem dX2_notLeave_28 : decode cX2_notLeave 28 = .ok (.iconst 0, 1) := dk_3 (dk_at dksX2_notLeave_1 6 rfl rfl)
theorem dX2_notLeave_29 : decode cX2_notLeave 29 = .ok (.ireturn, 1) := dk_172 (dk_at dksX2_notLeave_1 7 rfl rfl)
abbrev cX2_leaves : ByteArray := prog_13_method_34_code
def yX2_leaves : MethodName := ⟨RX2, "leaves", "(I)I"⟩
def dkwX2_leaves_0 : List UInt8 := [42, 27, 182, 0, 122, 61, 42, 28, 6, 182, 0, 100, 28, 172]
abbrev dktX2_leaves_0 : List UInt8 := dkwX2_leaves_0 ++ []
theorem dksX2_leaves_0 : cX2_leaves.data.toList.drop 0 = dktX2_leaves_0 := by decide +kernel
theorem dX2_leaves_0 : decode cX2_leaves 0 = .ok (.aload_n 0, 1) := dk_42 (dk_at dksX2_leaves_0 0 rfl rfl)
theorem dX2_leaves_1 : decode cX2_leaves 1 = .ok (.iload_n 1, 1) := dk_27 (dk_at dksX2_leaves_0 1 rfl rfl)
theorem dX2_leaves_2 : decode cX2_leaves 2 = .ok (.invokevirtual 122, 3) := dk_182 0 122 (dk_at dksX2_leaves_0 2 rfl rfl)
theorem dX2_leaves_5 : decode cX2_leaves 5 = .ok (.istore_n 2, 1) := dk_61 (dk_at dksX2_leaves_0 5 rfl rfl)
theorem dX2_leaves_6 : decode cX2_leaves 6 = .ok (.aload_n 0, 1) := dk_42 (dk_at dksX2_leaves_0 6 rfl rfl)
theorem dX2_leaves_7 : decode cX2_leaves 7 = .ok (.iload_n 2, 1) := dk_28 (dk_at dksX2_leaves_0 7 rfl rfl)
theorem dX2_leaves_8 : decode cX2_leaves 8 = .ok (.iconst 3, 1) := dk_6 (dk_at dksX2_leaves_0 8 rfl rfl)
theorem dX2_leaves_9 : decode cX2_leaves 9 = .ok (.invokevirtual 100, 3) := dk_182 0 100 (dk_at dksX2_leaves_0 9 rfl rfl)
theorem dX2_leaves_12 : decode cX2_leaves 12 = .ok (.iload_n 2, 1) := dk_28 (dk_at dksX2_leaves_0 12 rfl rfl)
theorem dX2_leaves_13 : decode cX2_leaves 13 = .ok (.ireturn, 1) := dk_172 (dk_at dksX2_leaves_0 13 rfl rfl)
abbrev cX2_feast : ByteArray := prog_13_method_38_code
def yX2_feast : MethodName := ⟨RX2, "feast", "(II)I"⟩
def dkwX2_feast_1 : List UInt8 := [182, 0, 143, 172]
abbrev dktX2_feast_1 : List UInt8 := dkwX2_feast_1 ++ []
def dkwX2_feast_0 : List UInt8 := [42, 27, 28, 182, 0, 140, 62, 29, 153, 0, 9, 42, 29, 182, 0, 87, 172, 42, 182, 0, 90, 42, 27, 28]
abbrev dktX2_feast_0 : List UInt8 := dkwX2_feast_0 ++ dktX2_feast_1
theorem dksX2_feast_0 : cX2_feast.data.toList.drop 0 = dktX2_feast_0 := by decide +kernel
theorem dksX2_feast_1 : cX2_feast.data.toList.drop 24 = dktX2_feast_1 := dk_seg dksX2_feast_0 24 rfl rfl
theorem dX2_feast_0 : decode cX2_feast 0 = .ok (.aload_n 0, 1) := dk_42 (dk_at dksX2_feast_0 0 rfl rfl)
theorem dX2_feast_1 : decode cX2_feast 1 = .ok (.iload_n 1, 1) := dk_27 (dk_at dksX2_feast_0 1 rfl rfl)
theorem dX2_feast_2 : decode cX2_feast 2 = .ok (.iload_n 2, 1) := dk_28 (dk_at dksX2_feast_0 2 rfl rfl)
theorem dX2_feast_3 : decode cX2_feast 3 = .ok (.invokevirtual 140, 3) := dk_182 0 140 (dk_at dksX2_feast_0 3 rfl rfl)
theorem dX2_feast_6 : decode cX2_feast 6 = .ok (.istore_n 3, 1) := dk_62 (dk_at dksX2_feast_0 6 rfl rfl)
theorem dX2_feast_7 : decode cX2_feast 7 = .ok (.iload_n 3, 1) := dk_29 (dk_at dksX2_feast_0 7 rfl rfl)
theorem dX2_feast_8 : decode cX2_feast 8 = .ok (.ifCond .eq 9, 3) := dk_153 0 9 (dk_at dksX2_feast_0 8 rfl rfl)
theorem dX2_feast_11 : decode cX2_feast 11 = .ok (.aload_n 0, 1) := dk_42 (dk_at dksX2_feast_0 11 rfl rfl)
theorem dX2_feast_12 : decode cX2_feast 12 = .ok (.iload_n 3, 1) := dk_29 (dk_at dksX2_feast_0 12 rfl rfl)
theorem dX2_feast_13 : decode cX2_feast 13 = .ok (.invokevirtual 87, 3) := dk_182 0 87 (dk_at dksX2_feast_0 13 rfl rfl)
theorem dX2_feast_16 : decode cX2_feast 16 = .ok (.ireturn, 1) := dk_172 (dk_at dksX2_feast_0 16 rfl rfl)
theorem dX2_feast_17 : decode cX2_feast 17 = .ok (.aload_n 0, 1) := dk_42 (dk_at dksX2_feast_0 17 rfl rfl)
theorem dX2_feast_18 : decode cX2_feast 18 = .ok (.invokevirtual 90, 3) := dk_182 0 90 (dk_at dksX2_feast_0 18 rfl rfl)
theorem dX2_feast_21 : decode cX2_feast 21 = .ok (.aload_n 0, 1) := dk_42 (dk_at dksX2_feast_0 21 rfl rfl)
theorem dX2_feast_22 : decode cX2_feast 22 = .ok (.iload_n 1, 1) := dk_27 (dk_at dksX2_feast_0 22 rfl rfl)
theorem dX2_feast_23 : decode cX2_feast 23 = .ok (.iload_n 2, 1) := dk_28 (dk_at dksX2_feast_0 23 rfl rfl)
theorem dX2_feast_24 : decode cX2_feast 24 = .ok (.invokevirtual 143, 3) := dk_182 0 143 (dk_at dksX2_feast_1 0 rfl rfl)
theorem dX2_feast_27 : decode cX2_feast 27 = .ok (.ireturn, 1) := dk_172 (dk_at dksX2_feast_1 3 rfl rfl)
abbrev cX2_notFeast : ByteArray := prog_13_method_36_code
def yX2_notFeast : MethodName := ⟨RX2, "notFeast", "(II)I"⟩
def dkwX2_notFeast_2 : List UInt8 := [16, 8, 16, 6, 182, 0, 84, 167, 0, 4, 3, 172]
abbrev dktX2_notFeast_2 : List UInt8 := dkwX2_notFeast_2 ++ []
def dkwX2_notFeast_1 : List UInt8 := [180, 0, 7, 16, 12, 27, 96, 46, 154, 0, 26, 42, 180, 0, 7, 16, 9, 46, 16, 6, 160, 0, 14, 42]
abbrev dktX2_notFeast_1 : List UInt8 := dkwX2_notFeast_1 ++ dktX2_notFeast_2
def dkwX2_notFeast_0 : List UInt8 := [27, 3, 16, 51, 184, 0, 60, 153, 0, 13, 28, 4, 16, 9, 184, 0, 60, 154, 0, 6, 16, 244, 172, 42]
abbrev dktX2_notFeast_0 : List UInt8 := dkwX2_notFeast_0 ++ dktX2_notFeast_1
theorem dksX2_notFeast_0 : cX2_notFeast.data.toList.drop 0 = dktX2_notFeast_0 := by decide +kernel
theorem dksX2_notFeast_1 : cX2_notFeast.data.toList.drop 24 = dktX2_notFeast_1 := dk_seg dksX2_notFeast_0 24 rfl rfl
theorem dksX2_notFeast_2 : cX2_notFeast.data.toList.drop 48 = dktX2_notFeast_2 := dk_seg dksX2_notFeast_1 24 rfl rfl
theorem dX2_notFeast_0 : decode cX2_notFeast 0 = .ok (.iload_n 1, 1) := dk_27 (dk_at dksX2_notFeast_0 0 rfl rfl)
theorem dX2_notFeast_1 : decode cX2_notFeast 1 = .ok (.iconst 0, 1) := dk_3 (dk_at dksX2_notFeast_0 1 rfl rfl)
theorem dX2_notFeast_2 : decode cX2_notFeast 2 = .ok (.bipush 51, 2) := dk_16 51 (dk_at dksX2_notFeast_0 2 rfl rfl)
theorem dX2_notFeast_4 : decode cX2_notFeast 4 = .ok (.invokestatic 60, 3) := dk_184 0 60 (dk_at dksX2_notFeast_0 4 rfl rfl)
theorem dX2_notFeast_7 : decode cX2_notFeast 7 = .ok (.ifCond .eq 13, 3) := dk_153 0 13 (dk_at dksX2_notFeast_0 7 rfl rfl)
theorem dX2_notFeast_10 : decode cX2_notFeast 10 = .ok (.iload_n 2, 1) := dk_28 (dk_at dksX2_notFeast_0 10 rfl rfl)
theorem dX2_notFeast_11 : decode cX2_notFeast 11 = .ok (.iconst 1, 1) := dk_4 (dk_at dksX2_notFeast_0 11 rfl rfl)
theorem dX2_notFeast_12 : decode cX2_notFeast 12 = .ok (.bipush 9, 2) := dk_16 9 (dk_at dksX2_notFeast_0 12 rfl rfl)
theorem dX2_notFeast_14 : decode cX2_notFeast 14 = .ok (.invokestatic 60, 3) := dk_184 0 60 (dk_at dksX2_notFeast_0 14 rfl rfl)
theorem dX2_notFeast_17 : decode cX2_notFeast 17 = .ok (.ifCond .ne 6, 3) := dk_154 0 6 (dk_at dksX2_notFeast_0 17 rfl rfl)
theorem dX2_notFeast_20 : decode cX2_notFeast 20 = .ok (.bipush (-12), 2) := dk_16 244 (dk_at dksX2_notFeast_0 20 rfl rfl)
theorem dX2_notFeast_22 : decode cX2_notFeast 22 = .ok (.ireturn, 1) := dk_172 (dk_at dksX2_notFeast_0 22 rfl rfl)
theorem dX2_notFeast_23 : decode cX2_notFeast 23 = .ok (.aload_n 0, 1) := dk_42 (dk_at dksX2_notFeast_0 23 rfl rfl)
theorem dX2_notFeast_24 : decode cX2_notFeast 24 = .ok (.getfield 7, 3) := dk_180 0 7 (dk_at dksX2_notFeast_1 0 rfl rfl)
theorem dX2_notFeast_27 : decode cX2_notFeast 27 = .ok (.bipush 12, 2) := dk_16 12 (dk_at dksX2_notFeast_1 3 rfl rfl)
theorem dX2_notFeast_29 : decode cX2_notFeast 29 = .ok (.iload_n 1, 1) := dk_27 (dk_at dksX2_notFeast_1 5 rfl rfl)
theorem dX2_notFeast_30 : decode cX2_notFeast 30 = .ok (.iadd, 1) := dk_96 (dk_at dksX2_notFeast_1 6 rfl rfl)
theorem dX2_notFeast_31 : decode cX2_notFeast 31 = .ok (.iaload, 1) := dk_46 (dk_at dksX2_notFeast_1 7 rfl rfl)
theorem dX2_notFeast_32 : decode cX2_notFeast 32 = .ok (.ifCond .ne 26, 3) := dk_154 0 26 (dk_at dksX2_notFeast_1 8 rfl rfl)
theorem dX2_notFeast_35 : decode cX2_notFeast 35 = .ok (.aload_n 0, 1) := dk_42 (dk_at dksX2_notFeast_1 11 rfl rfl)
theorem dX2_notFeast_36 : decode cX2_notFeast 36 = .ok (.getfield 7, 3) := dk_180 0 7 (dk_at dksX2_notFeast_1 12 rfl rfl)
theorem dX2_notFeast_39 : decode cX2_notFeast 39 = .ok (.bipush 9, 2) := dk_16 9 (dk_at dksX2_notFeast_1 15 rfl rfl)
theorem dX2_notFeast_41 : decode cX2_notFeast 41 = .ok (.iaload, 1) := dk_46 (dk_at dksX2_notFeast_1 17 rfl rfl)
theorem dX2_notFeast_42 : decode cX2_notFeast 42 = .ok (.bipush 6, 2) := dk_16 6 (dk_at dksX2_notFeast_1 18 rfl rfl)
theorem dX2_notFeast_44 : decode cX2_notFeast 44 = .ok (.if_icmp .ne 14, 3) := dk_160 0 14 (dk_at dksX2_notFeast_1 20 rfl rfl)
theorem dX2_notFeast_47 : decode cX2_notFeast 47 = .ok (.aload_n 0, 1) := dk_42 (dk_at dksX2_notFeast_1 23 rfl rfl)
theorem dX2_notFeast_48 : decode cX2_notFeast 48 = .ok (.bipush 8, 2) := dk_16 8 (dk_at dksX2_notFeast_2 0 rfl rfl)
theorem dX2_notFeast_50 : decode cX2_notFeast 50 = .ok (.bipush 6, 2) := dk_16 6 (dk_at dksX2_notFeast_2 2 rfl rfl)
theorem dX2_notFeast_52 : decode cX2_notFeast 52 = .ok (.invokevirtual 84, 3) := dk_182 0 84 (dk_at dksX2_notFeast_2 4 rfl rfl)
theorem dX2_notFeast_55 : decode cX2_notFeast 55 = .ok (.goto 4, 3) := dk_167 0 4 (dk_at dksX2_notFeast_2 7 rfl rfl)
theorem dX2_notFeast_58 : decode cX2_notFeast 58 = .ok (.iconst 0, 1) := dk_3 (dk_at dksX2_notFeast_2 10 rfl rfl)
theorem dX2_notFeast_59 : decode cX2_notFeast 59 = .ok (.ireturn, 1) := dk_172 (dk_at dksX2_notFeast_2 11 rfl rfl)
abbrev cX2_tells : ByteArray := prog_13_method_37_code
def yX2_tells : MethodName := ⟨RX2, "tells", "(II)I"⟩
def dkwX2_tells_1 : List UInt8 := [180, 0, 7, 16, 12, 27, 96, 28, 79, 42, 180, 0, 7, 16, 9, 46, 172]
abbrev dktX2_tells_1 : List UInt8 := dkwX2_tells_1 ++ []
def dkwX2_tells_0 : List UInt8 := [42, 180, 0, 7, 16, 12, 27, 96, 46, 154, 0, 14, 42, 180, 0, 7, 16, 9, 92, 46, 4, 96, 79, 42]
abbrev dktX2_tells_0 : List UInt8 := dkwX2_tells_0 ++ dktX2_tells_1
theorem dksX2_tells_0 : cX2_tells.data.toList.drop 0 = dktX2_tells_0 := by decide +kernel
theorem dksX2_tells_1 : cX2_tells.data.toList.drop 24 = dktX2_tells_1 := dk_seg dksX2_tells_0 24 rfl rfl
theorem dX2_tells_0 : decode cX2_tells 0 = .ok (.aload_n 0, 1) := dk_42 (dk_at dksX2_tells_0 0 rfl rfl)
theorem dX2_tells_1 : decode cX2_tells 1 = .ok (.getfield 7, 3) := dk_180 0 7 (dk_at dksX2_tells_0 1 rfl rfl)
theorem dX2_tells_4 : decode cX2_tells 4 = .ok (.bipush 12, 2) := dk_16 12 (dk_at dksX2_tells_0 4 rfl rfl)
theorem dX2_tells_6 : decode cX2_tells 6 = .ok (.iload_n 1, 1) := dk_27 (dk_at dksX2_tells_0 6 rfl rfl)
theorem dX2_tells_7 : decode cX2_tells 7 = .ok (.iadd, 1) := dk_96 (dk_at dksX2_tells_0 7 rfl rfl)
theorem dX2_tells_8 : decode cX2_tells 8 = .ok (.iaload, 1) := dk_46 (dk_at dksX2_tells_0 8 rfl rfl)
theorem dX2_tells_9 : decode cX2_tells 9 = .ok (.ifCond .ne 14, 3) := dk_154 0 14 (dk_at dksX2_tells_0 9 rfl rfl)
theorem dX2_tells_12 : decode cX2_tells 12 = .ok (.aload_n 0, 1) := dk_42 (dk_at dksX2_tells_0 12 rfl rfl)
theorem dX2_tells_13 : decode cX2_tells 13 = .ok (.getfield 7, 3) := dk_180 0 7 (dk_at dksX2_tells_0 13 rfl rfl)
theorem dX2_tells_16 : decode cX2_tells 16 = .ok (.bipush 9, 2) := dk_16 9 (dk_at dksX2_tells_0 16 rfl rfl)
theorem dX2_tells_18 : decode cX2_tells 18 = .ok (.dup2, 1) := dk_92 (dk_at dksX2_tells_0 18 rfl rfl)
theorem dX2_tells_19 : decode cX2_tells 19 = .ok (.iaload, 1) := dk_46 (dk_at dksX2_tells_0 19 rfl rfl)
theorem dX2_tells_20 : decode cX2_tells 20 = .ok (.iconst 1, 1) := dk_4 (dk_at dksX2_tells_0 20 rfl rfl)
theorem dX2_tells_21 : decode cX2_tells 21 = .ok (.iadd, 1) := dk_96 (dk_at dksX2_tells_0 21 rfl rfl)
theorem dX2_tells_22 : decode cX2_tells 22 = .ok (.iastore, 1) := dk_79 (dk_at dksX2_tells_0 22 rfl rfl)
theorem dX2_tells_23 : decode cX2_tells 23 = .ok (.aload_n 0, 1) := dk_42 (dk_at dksX2_tells_0 23 rfl rfl)
theorem dX2_tells_24 : decode cX2_tells 24 = .ok (.getfield 7, 3) := dk_180 0 7 (dk_at dksX2_tells_1 0 rfl rfl)
theorem dX2_tells_27 : decode cX2_tells 27 = .ok (.bipush 12, 2) := dk_16 12 (dk_at dksX2_tells_1 3 rfl rfl)
theorem dX2_tells_29 : decode cX2_tells 29 = .ok (.iload_n 1, 1) := dk_27 (dk_at dksX2_tells_1 5 rfl rfl)
theorem dX2_tells_30 : decode cX2_tells 30 = .ok (.iadd, 1) := dk_96 (dk_at dksX2_tells_1 6 rfl rfl)
theorem dX2_tells_31 : decode cX2_tells 31 = .ok (.iload_n 2, 1) := dk_28 (dk_at dksX2_tells_1 7 rfl rfl)
theorem dX2_tells_32 : decode cX2_tells 32 = .ok (.iastore, 1) := dk_79 (dk_at dksX2_tells_1 8 rfl rfl)
theorem dX2_tells_33 : decode cX2_tells 33 = .ok (.aload_n 0, 1) := dk_42 (dk_at dksX2_tells_1 9 rfl rfl)
theorem dX2_tells_34 : decode cX2_tells 34 = .ok (.getfield 7, 3) := dk_180 0 7 (dk_at dksX2_tells_1 10 rfl rfl)
theorem dX2_tells_37 : decode cX2_tells 37 = .ok (.bipush 9, 2) := dk_16 9 (dk_at dksX2_tells_1 13 rfl rfl)
theorem dX2_tells_39 : decode cX2_tells 39 = .ok (.iaload, 1) := dk_46 (dk_at dksX2_tells_1 15 rfl rfl)
theorem dX2_tells_40 : decode cX2_tells 40 = .ok (.ireturn, 1) := dk_172 (dk_at dksX2_tells_1 16 rfl rfl)
abbrev cX2_breach : ByteArray := prog_13_method_41_code
def yX2_breach : MethodName := ⟨RX2, "breach", "(II)I"⟩
def dkwX2_breach_1 : List UInt8 := [182, 0, 149, 172]
abbrev dktX2_breach_1 : List UInt8 := dkwX2_breach_1 ++ []
def dkwX2_breach_0 : List UInt8 := [42, 27, 28, 182, 0, 146, 62, 29, 153, 0, 9, 42, 29, 182, 0, 87, 172, 42, 182, 0, 90, 42, 27, 28]
abbrev dktX2_breach_0 : List UInt8 := dkwX2_breach_0 ++ dktX2_breach_1
theorem dksX2_breach_0 : cX2_breach.data.toList.drop 0 = dktX2_breach_0 := by decide +kernel
theorem dksX2_breach_1 : cX2_breach.data.toList.drop 24 = dktX2_breach_1 := dk_seg dksX2_breach_0 24 rfl rfl
theorem dX2_breach_0 : decode cX2_breach 0 = .ok (.aload_n 0, 1) := dk_42 (dk_at dksX2_breach_0 0 rfl rfl)
theorem dX2_breach_1 : decode cX2_breach 1 = .ok (.iload_n 1, 1) := dk_27 (dk_at dksX2_breach_0 1 rfl rfl)
theorem dX2_breach_2 : decode cX2_breach 2 = .ok (.iload_n 2, 1) := dk_28 (dk_at dksX2_breach_0 2 rfl rfl)
theorem dX2_breach_3 : decode cX2_breach 3 = .ok (.invokevirtual 146, 3) := dk_182 0 146 (dk_at dksX2_breach_0 3 rfl rfl)
theorem dX2_breach_6 : decode cX2_breach 6 = .ok (.istore_n 3, 1) := dk_62 (dk_at dksX2_breach_0 6 rfl rfl)
theorem dX2_breach_7 : decode cX2_breach 7 = .ok (.iload_n 3, 1) := dk_29 (dk_at dksX2_breach_0 7 rfl rfl)
theorem dX2_breach_8 : decode cX2_breach 8 = .ok (.ifCond .eq 9, 3) := dk_153 0 9 (dk_at dksX2_breach_0 8 rfl rfl)
theorem dX2_breach_11 : decode cX2_breach 11 = .ok (.aload_n 0, 1) := dk_42 (dk_at dksX2_breach_0 11 rfl rfl)
theorem dX2_breach_12 : decode cX2_breach 12 = .ok (.iload_n 3, 1) := dk_29 (dk_at dksX2_breach_0 12 rfl rfl)
theorem dX2_breach_13 : decode cX2_breach 13 = .ok (.invokevirtual 87, 3) := dk_182 0 87 (dk_at dksX2_breach_0 13 rfl rfl)
theorem dX2_breach_16 : decode cX2_breach 16 = .ok (.ireturn, 1) := dk_172 (dk_at dksX2_breach_0 16 rfl rfl)
theorem dX2_breach_17 : decode cX2_breach 17 = .ok (.aload_n 0, 1) := dk_42 (dk_at dksX2_breach_0 17 rfl rfl)
theorem dX2_breach_18 : decode cX2_breach 18 = .ok (.invokevirtual 90, 3) := dk_182 0 90 (dk_at dksX2_breach_0 18 rfl rfl)
theorem dX2_breach_21 : decode cX2_breach 21 = .ok (.aload_n 0, 1) := dk_42 (dk_at dksX2_breach_0 21 rfl rfl)
theorem dX2_breach_22 : decode cX2_breach 22 = .ok (.iload_n 1, 1) := dk_27 (dk_at dksX2_breach_0 22 rfl rfl)
theorem dX2_breach_23 : decode cX2_breach 23 = .ok (.iload_n 2, 1) := dk_28 (dk_at dksX2_breach_0 23 rfl rfl)
theorem dX2_breach_24 : decode cX2_breach 24 = .ok (.invokevirtual 149, 3) := dk_182 0 149 (dk_at dksX2_breach_1 0 rfl rfl)
theorem dX2_breach_27 : decode cX2_breach 27 = .ok (.ireturn, 1) := dk_172 (dk_at dksX2_breach_1 3 rfl rfl)
abbrev cX2_notBreach : ByteArray := prog_13_method_39_code
def yX2_notBreach : MethodName := ⟨RX2, "notBreach", "(II)I"⟩
def dkwX2_notBreach_1 : List UInt8 := [182, 0, 68, 153, 0, 7, 3, 167, 0, 14, 42, 6, 42, 27, 5, 182, 0, 64, 182, 0, 84, 172]
abbrev dktX2_notBreach_1 : List UInt8 := dkwX2_notBreach_1 ++ []
def dkwX2_notBreach_0 : List UInt8 := [42, 27, 182, 0, 96, 153, 0, 12, 28, 3, 7, 184, 0, 60, 154, 0, 6, 16, 245, 172, 42, 27, 4]
abbrev dktX2_notBreach_0 : List UInt8 := dkwX2_notBreach_0 ++ dktX2_notBreach_1
theorem dksX2_notBreach_0 : cX2_notBreach.data.toList.drop 0 = dktX2_notBreach_0 := by decide +kernel
theorem dksX2_notBreach_1 : cX2_notBreach.data.toList.drop 23 = dktX2_notBreach_1 := dk_seg dksX2_notBreach_0 23 rfl rfl
theorem dX2_notBreach_0 : decode cX2_notBreach 0 = .ok (.aload_n 0, 1) := dk_42 (dk_at dksX2_notBreach_0 0 rfl rfl)
theorem dX2_notBreach_1 : decode cX2_notBreach 1 = .ok (.iload_n 1, 1) := dk_27 (dk_at dksX2_notBreach_0 1 rfl rfl)
theorem dX2_notBreach_2 : decode cX2_notBreach 2 = .ok (.invokevirtual 96, 3) := dk_182 0 96 (dk_at dksX2_notBreach_0 2 rfl rfl)
theorem dX2_notBreach_5 : decode cX2_notBreach 5 = .ok (.ifCond .eq 12, 3) := dk_153 0 12 (dk_at dksX2_notBreach_0 5 rfl rfl)
theorem dX2_notBreach_8 : decode cX2_notBreach 8 = .ok (.iload_n 2, 1) := dk_28 (dk_at dksX2_notBreach_0 8 rfl rfl)
theorem dX2_notBreach_9 : decode cX2_notBreach 9 = .ok (.iconst 0, 1) := dk_3 (dk_at dksX2_notBreach_0 9 rfl rfl)
theorem dX2_notBreach_10 : decode cX2_notBreach 10 = .ok (.iconst 4, 1) := dk_7 (dk_at dksX2_notBreach_0 10 rfl rfl)
theorem dX2_notBreach_11 : decode cX2_notBreach 11 = .ok (.invokestatic 60, 3) := dk_184 0 60 (dk_at dksX2_notBreach_0 11 rfl rfl)
theorem dX2_notBreach_14 : decode cX2_notBreach 14 = .ok (.ifCond .ne 6, 3) := dk_154 0 6 (dk_at dksX2_notBreach_0 14 rfl rfl)
theorem dX2_notBreach_17 : decode cX2_notBreach 17 = .ok (.bipush (-11), 2) := dk_16 245 (dk_at dksX2_notBreach_0 17 rfl rfl)
theorem dX2_notBreach_19 : decode cX2_notBreach 19 = .ok (.ireturn, 1) := dk_172 (dk_at dksX2_notBreach_0 19 rfl rfl)
theorem dX2_notBreach_20 : decode cX2_notBreach 20 = .ok (.aload_n 0, 1) := dk_42 (dk_at dksX2_notBreach_0 20 rfl rfl)
theorem dX2_notBreach_21 : decode cX2_notBreach 21 = .ok (.iload_n 1, 1) := dk_27 (dk_at dksX2_notBreach_0 21 rfl rfl)
theorem dX2_notBreach_22 : decode cX2_notBreach 22 = .ok (.iconst 1, 1) := dk_4 (dk_at dksX2_notBreach_0 22 rfl rfl)
theorem dX2_notBreach_23 : decode cX2_notBreach 23 = .ok (.invokevirtual 68, 3) := dk_182 0 68 (dk_at dksX2_notBreach_1 0 rfl rfl)
theorem dX2_notBreach_26 : decode cX2_notBreach 26 = .ok (.ifCond .eq 7, 3) := dk_153 0 7 (dk_at dksX2_notBreach_1 3 rfl rfl)
theorem dX2_notBreach_29 : decode cX2_notBreach 29 = .ok (.iconst 0, 1) := dk_3 (dk_at dksX2_notBreach_1 6 rfl rfl)
theorem dX2_notBreach_30 : decode cX2_notBreach 30 = .ok (.goto 14, 3) := dk_167 0 14 (dk_at dksX2_notBreach_1 7 rfl rfl)
theorem dX2_notBreach_33 : decode cX2_notBreach 33 = .ok (.aload_n 0, 1) := dk_42 (dk_at dksX2_notBreach_1 10 rfl rfl)
theorem dX2_notBreach_34 : decode cX2_notBreach 34 = .ok (.iconst 3, 1) := dk_6 (dk_at dksX2_notBreach_1 11 rfl rfl)
theorem dX2_notBreach_35 : decode cX2_notBreach 35 = .ok (.aload_n 0, 1) := dk_42 (dk_at dksX2_notBreach_1 12 rfl rfl)
theorem dX2_notBreach_36 : decode cX2_notBreach 36 = .ok (.iload_n 1, 1) := dk_27 (dk_at dksX2_notBreach_1 13 rfl rfl)
theorem dX2_notBreach_37 : decode cX2_notBreach 37 = .ok (.iconst 2, 1) := dk_5 (dk_at dksX2_notBreach_1 14 rfl rfl)
theorem dX2_notBreach_38 : decode cX2_notBreach 38 = .ok (.invokevirtual 64, 3) := dk_182 0 64 (dk_at dksX2_notBreach_1 15 rfl rfl)
theorem dX2_notBreach_41 : decode cX2_notBreach 41 = .ok (.invokevirtual 84, 3) := dk_182 0 84 (dk_at dksX2_notBreach_1 18 rfl rfl)
theorem dX2_notBreach_44 : decode cX2_notBreach 44 = .ok (.ireturn, 1) := dk_172 (dk_at dksX2_notBreach_1 21 rfl rfl)
abbrev cX2_breaks : ByteArray := prog_13_method_40_code
def yX2_breaks : MethodName := ⟨RX2, "breaks", "(II)I"⟩
def dkwX2_breaks_2 : List UInt8 := [182, 0, 76, 42, 27, 8, 182, 0, 64, 172]
abbrev dktX2_breaks_2 : List UInt8 := dkwX2_breaks_2 ++ []
def dkwX2_breaks_1 : List UInt8 := [160, 0, 12, 42, 27, 5, 182, 0, 100, 167, 0, 17, 42, 27, 8, 42, 27, 8, 182, 0, 64, 29, 96]
abbrev dktX2_breaks_1 : List UInt8 := dkwX2_breaks_1 ++ dktX2_breaks_2
def dkwX2_breaks_0 : List UInt8 := [42, 27, 16, 9, 28, 96, 182, 0, 64, 4, 96, 62, 42, 27, 16, 9, 28, 96, 29, 182, 0, 76, 29, 6]
abbrev dktX2_breaks_0 : List UInt8 := dkwX2_breaks_0 ++ dktX2_breaks_1
theorem dksX2_breaks_0 : cX2_breaks.data.toList.drop 0 = dktX2_breaks_0 := by decide +kernel
theorem dksX2_breaks_1 : cX2_breaks.data.toList.drop 24 = dktX2_breaks_1 := dk_seg dksX2_breaks_0 24 rfl rfl
theorem dksX2_breaks_2 : cX2_breaks.data.toList.drop 47 = dktX2_breaks_2 := dk_seg dksX2_breaks_1 23 rfl rfl
theorem dX2_breaks_0 : decode cX2_breaks 0 = .ok (.aload_n 0, 1) := dk_42 (dk_at dksX2_breaks_0 0 rfl rfl)
theorem dX2_breaks_1 : decode cX2_breaks 1 = .ok (.iload_n 1, 1) := dk_27 (dk_at dksX2_breaks_0 1 rfl rfl)
theorem dX2_breaks_2 : decode cX2_breaks 2 = .ok (.bipush 9, 2) := dk_16 9 (dk_at dksX2_breaks_0 2 rfl rfl)
theorem dX2_breaks_4 : decode cX2_breaks 4 = .ok (.iload_n 2, 1) := dk_28 (dk_at dksX2_breaks_0 4 rfl rfl)
theorem dX2_breaks_5 : decode cX2_breaks 5 = .ok (.iadd, 1) := dk_96 (dk_at dksX2_breaks_0 5 rfl rfl)
theorem dX2_breaks_6 : decode cX2_breaks 6 = .ok (.invokevirtual 64, 3) := dk_182 0 64 (dk_at dksX2_breaks_0 6 rfl rfl)
theorem dX2_breaks_9 : decode cX2_breaks 9 = .ok (.iconst 1, 1) := dk_4 (dk_at dksX2_breaks_0 9 rfl rfl)
theorem dX2_breaks_10 : decode cX2_breaks 10 = .ok (.iadd, 1) := dk_96 (dk_at dksX2_breaks_0 10 rfl rfl)
theorem dX2_breaks_11 : decode cX2_breaks 11 = .ok (.istore_n 3, 1) := dk_62 (dk_at dksX2_breaks_0 11 rfl rfl)
theorem dX2_breaks_12 : decode cX2_breaks 12 = .ok (.aload_n 0, 1) := dk_42 (dk_at dksX2_breaks_0 12 rfl rfl)
theorem dX2_breaks_13 : decode cX2_breaks 13 = .ok (.iload_n 1, 1) := dk_27 (dk_at dksX2_breaks_0 13 rfl rfl)
theorem dX2_breaks_14 : decode cX2_breaks 14 = .ok (.bipush 9, 2) := dk_16 9 (dk_at dksX2_breaks_0 14 rfl rfl)
theorem dX2_breaks_16 : decode cX2_breaks 16 = .ok (.iload_n 2, 1) := dk_28 (dk_at dksX2_breaks_0 16 rfl rfl)
theorem dX2_breaks_17 : decode cX2_breaks 17 = .ok (.iadd, 1) := dk_96 (dk_at dksX2_breaks_0 17 rfl rfl)
theorem dX2_breaks_18 : decode cX2_breaks 18 = .ok (.iload_n 3, 1) := dk_29 (dk_at dksX2_breaks_0 18 rfl rfl)
theorem dX2_breaks_19 : decode cX2_breaks 19 = .ok (.invokevirtual 76, 3) := dk_182 0 76 (dk_at dksX2_breaks_0 19 rfl rfl)
theorem dX2_breaks_22 : decode cX2_breaks 22 = .ok (.iload_n 3, 1) := dk_29 (dk_at dksX2_breaks_0 22 rfl rfl)
theorem dX2_breaks_23 : decode cX2_breaks 23 = .ok (.iconst 3, 1) := dk_6 (dk_at dksX2_breaks_0 23 rfl rfl)
theorem dX2_breaks_24 : decode cX2_breaks 24 = .ok (.if_icmp .ne 12, 3) := dk_160 0 12 (dk_at dksX2_breaks_1 0 rfl rfl)
theorem dX2_breaks_27 : decode cX2_breaks 27 = .ok (.aload_n 0, 1) := dk_42 (dk_at dksX2_breaks_1 3 rfl rfl)
theorem dX2_breaks_28 : decode cX2_breaks 28 = .ok (.iload_n 1, 1) := dk_27 (dk_at dksX2_breaks_1 4 rfl rfl)
theorem dX2_breaks_29 : decode cX2_breaks 29 = .ok (.iconst 2, 1) := dk_5 (dk_at dksX2_breaks_1 5 rfl rfl)
theorem dX2_breaks_30 : decode cX2_breaks 30 = .ok (.invokevirtual 100, 3) := dk_182 0 100 (dk_at dksX2_breaks_1 6 rfl rfl)
theorem dX2_breaks_33 : decode cX2_breaks 33 = .ok (.goto 17, 3) := dk_167 0 17 (dk_at dksX2_breaks_1 9 rfl rfl)
theorem dX2_breaks_36 : decode cX2_breaks 36 = .ok (.aload_n 0, 1) := dk_42 (dk_at dksX2_breaks_1 12 rfl rfl)
theorem dX2_breaks_37 : decode cX2_breaks 37 = .ok (.iload_n 1, 1) := dk_27 (dk_at dksX2_breaks_1 13 rfl rfl)
theorem dX2_breaks_38 : decode cX2_breaks 38 = .ok (.iconst 5, 1) := dk_8 (dk_at dksX2_breaks_1 14 rfl rfl)
theorem dX2_breaks_39 : decode cX2_breaks 39 = .ok (.aload_n 0, 1) := dk_42 (dk_at dksX2_breaks_1 15 rfl rfl)
theorem dX2_breaks_40 : decode cX2_breaks 40 = .ok (.iload_n 1, 1) := dk_27 (dk_at dksX2_breaks_1 16 rfl rfl)
theorem dX2_breaks_41 : decode cX2_breaks 41 = .ok (.iconst 5, 1) := dk_8 (dk_at dksX2_breaks_1 17 rfl rfl)
theorem dX2_breaks_42 : decode cX2_breaks 42 = .ok (.invokevirtual 64, 3) := dk_182 0 64 (dk_at dksX2_breaks_1 18 rfl rfl)
theorem dX2_breaks_45 : decode cX2_breaks 45 = .ok (.iload_n 3, 1) := dk_29 (dk_at dksX2_breaks_1 21 rfl rfl)
theorem dX2_breaks_46 : decode cX2_breaks 46 = .ok (.iadd, 1) := dk_96 (dk_at dksX2_breaks_1 22 rfl rfl)
theorem dX2_breaks_47 : decode cX2_breaks 47 = .ok (.invokevirtual 76, 3) := dk_182 0 76 (dk_at dksX2_breaks_2 0 rfl rfl)
theorem dX2_breaks_50 : decode cX2_breaks 50 = .ok (.aload_n 0, 1) := dk_42 (dk_at dksX2_breaks_2 3 rfl rfl)
theorem dX2_breaks_51 : decode cX2_breaks 51 = .ok (.iload_n 1, 1) := dk_27 (dk_at dksX2_breaks_2 4 rfl rfl)
theorem dX2_breaks_52 : decode cX2_breaks 52 = .ok (.iconst 5, 1) := dk_8 (dk_at dksX2_breaks_2 5 rfl rfl)
theorem dX2_breaks_53 : decode cX2_breaks 53 = .ok (.invokevirtual 64, 3) := dk_182 0 64 (dk_at dksX2_breaks_2 6 rfl rfl)
theorem dX2_breaks_56 : decode cX2_breaks 56 = .ok (.ireturn, 1) := dk_172 (dk_at dksX2_breaks_2 9 rfl rfl)
abbrev cX2_pardon : ByteArray := prog_13_method_44_code
def yX2_pardon : MethodName := ⟨RX2, "pardon", "(I)I"⟩
def dkwX2_pardon_1 : List UInt8 := [182, 0, 155, 172]
abbrev dktX2_pardon_1 : List UInt8 := dkwX2_pardon_1 ++ []
def dkwX2_pardon_0 : List UInt8 := [42, 27, 182, 0, 152, 61, 28, 153, 0, 9, 42, 28, 182, 0, 87, 172, 42, 182, 0, 90, 42, 27]
abbrev dktX2_pardon_0 : List UInt8 := dkwX2_pardon_0 ++ dktX2_pardon_1
theorem dksX2_pardon_0 : cX2_pardon.data.toList.drop 0 = dktX2_pardon_0 := by decide +kernel
theorem dksX2_pardon_1 : cX2_pardon.data.toList.drop 22 = dktX2_pardon_1 := dk_seg dksX2_pardon_0 22 rfl rfl
theorem dX2_pardon_0 : decode cX2_pardon 0 = .ok (.aload_n 0, 1) := dk_42 (dk_at dksX2_pardon_0 0 rfl rfl)
theorem dX2_pardon_1 : decode cX2_pardon 1 = .ok (.iload_n 1, 1) := dk_27 (dk_at dksX2_pardon_0 1 rfl rfl)
theorem dX2_pardon_2 : decode cX2_pardon 2 = .ok (.invokevirtual 152, 3) := dk_182 0 152 (dk_at dksX2_pardon_0 2 rfl rfl)
theorem dX2_pardon_5 : decode cX2_pardon 5 = .ok (.istore_n 2, 1) := dk_61 (dk_at dksX2_pardon_0 5 rfl rfl)
theorem dX2_pardon_6 : decode cX2_pardon 6 = .ok (.iload_n 2, 1) := dk_28 (dk_at dksX2_pardon_0 6 rfl rfl)
theorem dX2_pardon_7 : decode cX2_pardon 7 = .ok (.ifCond .eq 9, 3) := dk_153 0 9 (dk_at dksX2_pardon_0 7 rfl rfl)
theorem dX2_pardon_10 : decode cX2_pardon 10 = .ok (.aload_n 0, 1) := dk_42 (dk_at dksX2_pardon_0 10 rfl rfl)
theorem dX2_pardon_11 : decode cX2_pardon 11 = .ok (.iload_n 2, 1) := dk_28 (dk_at dksX2_pardon_0 11 rfl rfl)
theorem dX2_pardon_12 : decode cX2_pardon 12 = .ok (.invokevirtual 87, 3) := dk_182 0 87 (dk_at dksX2_pardon_0 12 rfl rfl)
theorem dX2_pardon_15 : decode cX2_pardon 15 = .ok (.ireturn, 1) := dk_172 (dk_at dksX2_pardon_0 15 rfl rfl)
theorem dX2_pardon_16 : decode cX2_pardon 16 = .ok (.aload_n 0, 1) := dk_42 (dk_at dksX2_pardon_0 16 rfl rfl)
theorem dX2_pardon_17 : decode cX2_pardon 17 = .ok (.invokevirtual 90, 3) := dk_182 0 90 (dk_at dksX2_pardon_0 17 rfl rfl)
theorem dX2_pardon_20 : decode cX2_pardon 20 = .ok (.aload_n 0, 1) := dk_42 (dk_at dksX2_pardon_0 20 rfl rfl)
theorem dX2_pardon_21 : decode cX2_pardon 21 = .ok (.iload_n 1, 1) := dk_27 (dk_at dksX2_pardon_0 21 rfl rfl)
theorem dX2_pardon_22 : decode cX2_pardon 22 = .ok (.invokevirtual 155, 3) := dk_182 0 155 (dk_at dksX2_pardon_1 0 rfl rfl)
theorem dX2_pardon_25 : decode cX2_pardon 25 = .ok (.ireturn, 1) := dk_172 (dk_at dksX2_pardon_1 3 rfl rfl)
abbrev cX2_notPardon : ByteArray := prog_13_method_42_code
def yX2_notPardon : MethodName := ⟨RX2, "notPardon", "(I)I"⟩
def dkwX2_notPardon_2 : List UInt8 := [172, 42, 180, 0, 7, 16, 8, 46, 5, 160, 0, 13, 42, 16, 9, 5, 182, 0, 84, 167, 0, 4, 3, 172]
abbrev dktX2_notPardon_2 : List UInt8 := dkwX2_notPardon_2 ++ []
def dkwX2_notPardon_1 : List UInt8 := [5, 182, 0, 64, 182, 0, 84, 172, 42, 27, 8, 182, 0, 64, 154, 0, 11, 42, 16, 10, 27, 182, 0, 84]
abbrev dktX2_notPardon_1 : List UInt8 := dkwX2_notPardon_1 ++ dktX2_notPardon_2
def dkwX2_notPardon_0 : List UInt8 := [42, 27, 182, 0, 96, 154, 0, 6, 16, 245, 172, 42, 27, 4, 182, 0, 68, 154, 0, 15, 42, 6, 42, 27]
abbrev dktX2_notPardon_0 : List UInt8 := dkwX2_notPardon_0 ++ dktX2_notPardon_1
theorem dksX2_notPardon_0 : cX2_notPardon.data.toList.drop 0 = dktX2_notPardon_0 := by decide +kernel
theorem dksX2_notPardon_1 : cX2_notPardon.data.toList.drop 24 = dktX2_notPardon_1 := dk_seg dksX2_notPardon_0 24 rfl rfl
theorem dksX2_notPardon_2 : cX2_notPardon.data.toList.drop 48 = dktX2_notPardon_2 := dk_seg dksX2_notPardon_1 24 rfl rfl
theorem dX2_notPardon_0 : decode cX2_notPardon 0 = .ok (.aload_n 0, 1) := dk_42 (dk_at dksX2_notPardon_0 0 rfl rfl)
theorem dX2_notPardon_1 : decode cX2_notPardon 1 = .ok (.iload_n 1, 1) := dk_27 (dk_at dksX2_notPardon_0 1 rfl rfl)
theorem dX2_notPardon_2 : decode cX2_notPardon 2 = .ok (.invokevirtual 96, 3) := dk_182 0 96 (dk_at dksX2_notPardon_0 2 rfl rfl)
theorem dX2_notPardon_5 : decode cX2_notPardon 5 = .ok (.ifCond .ne 6, 3) := dk_154 0 6 (dk_at dksX2_notPardon_0 5 rfl rfl)
theorem dX2_notPardon_8 : decode cX2_notPardon 8 = .ok (.bipush (-11), 2) := dk_16 245 (dk_at dksX2_notPardon_0 8 rfl rfl)
theorem dX2_notPardon_10 : decode cX2_notPardon 10 = .ok (.ireturn, 1) := dk_172 (dk_at dksX2_notPardon_0 10 rfl rfl)
theorem dX2_notPardon_11 : decode cX2_notPardon 11 = .ok (.aload_n 0, 1) := dk_42 (dk_at dksX2_notPardon_0 11 rfl rfl)
theorem dX2_notPardon_12 : decode cX2_notPardon 12 = .ok (.iload_n 1, 1) := dk_27 (dk_at dksX2_notPardon_0 12 rfl rfl)
theorem dX2_notPardon_13 : decode cX2_notPardon 13 = .ok (.iconst 1, 1) := dk_4 (dk_at dksX2_notPardon_0 13 rfl rfl)
theorem dX2_notPardon_14 : decode cX2_notPardon 14 = .ok (.invokevirtual 68, 3) := dk_182 0 68 (dk_at dksX2_notPardon_0 14 rfl rfl)
theorem dX2_notPardon_17 : decode cX2_notPardon 17 = .ok (.ifCond .ne 15, 3) := dk_154 0 15 (dk_at dksX2_notPardon_0 17 rfl rfl)
theorem dX2_notPardon_20 : decode cX2_notPardon 20 = .ok (.aload_n 0, 1) := dk_42 (dk_at dksX2_notPardon_0 20 rfl rfl)
theorem dX2_notPardon_21 : decode cX2_notPardon 21 = .ok (.iconst 3, 1) := dk_6 (dk_at dksX2_notPardon_0 21 rfl rfl)
theorem dX2_notPardon_22 : decode cX2_notPardon 22 = .ok (.aload_n 0, 1) := dk_42 (dk_at dksX2_notPardon_0 22 rfl rfl)
theorem dX2_notPardon_23 : decode cX2_notPardon 23 = .ok (.iload_n 1, 1) := dk_27 (dk_at dksX2_notPardon_0 23 rfl rfl)
theorem dX2_notPardon_24 : decode cX2_notPardon 24 = .ok (.iconst 2, 1) := dk_5 (dk_at dksX2_notPardon_1 0 rfl rfl)
theorem dX2_notPardon_25 : decode cX2_notPardon 25 = .ok (.invokevirtual 64, 3) := dk_182 0 64 (dk_at dksX2_notPardon_1 1 rfl rfl)
theorem dX2_notPardon_28 : decode cX2_notPardon 28 = .ok (.invokevirtual 84, 3) := dk_182 0 84 (dk_at dksX2_notPardon_1 4 rfl rfl)
theorem dX2_notPardon_31 : decode cX2_notPardon 31 = .ok (.ireturn, 1) := dk_172 (dk_at dksX2_notPardon_1 7 rfl rfl)
theorem dX2_notPardon_32 : decode cX2_notPardon 32 = .ok (.aload_n 0, 1) := dk_42 (dk_at dksX2_notPardon_1 8 rfl rfl)
theorem dX2_notPardon_33 : decode cX2_notPardon 33 = .ok (.iload_n 1, 1) := dk_27 (dk_at dksX2_notPardon_1 9 rfl rfl)
theorem dX2_notPardon_34 : decode cX2_notPardon 34 = .ok (.iconst 5, 1) := dk_8 (dk_at dksX2_notPardon_1 10 rfl rfl)
theorem dX2_notPardon_35 : decode cX2_notPardon 35 = .ok (.invokevirtual 64, 3) := dk_182 0 64 (dk_at dksX2_notPardon_1 11 rfl rfl)
theorem dX2_notPardon_38 : decode cX2_notPardon 38 = .ok (.ifCond .ne 11, 3) := dk_154 0 11 (dk_at dksX2_notPardon_1 14 rfl rfl)
theorem dX2_notPardon_41 : decode cX2_notPardon 41 = .ok (.aload_n 0, 1) := dk_42 (dk_at dksX2_notPardon_1 17 rfl rfl)
theorem dX2_notPardon_42 : decode cX2_notPardon 42 = .ok (.bipush 10, 2) := dk_16 10 (dk_at dksX2_notPardon_1 18 rfl rfl)
theorem dX2_notPardon_44 : decode cX2_notPardon 44 = .ok (.iload_n 1, 1) := dk_27 (dk_at dksX2_notPardon_1 20 rfl rfl)
theorem dX2_notPardon_45 : decode cX2_notPardon 45 = .ok (.invokevirtual 84, 3) := dk_182 0 84 (dk_at dksX2_notPardon_1 21 rfl rfl)
theorem dX2_notPardon_48 : decode cX2_notPardon 48 = .ok (.ireturn, 1) := dk_172 (dk_at dksX2_notPardon_2 0 rfl rfl)
theorem dX2_notPardon_49 : decode cX2_notPardon 49 = .ok (.aload_n 0, 1) := dk_42 (dk_at dksX2_notPardon_2 1 rfl rfl)
theorem dX2_notPardon_50 : decode cX2_notPardon 50 = .ok (.getfield 7, 3) := dk_180 0 7 (dk_at dksX2_notPardon_2 2 rfl rfl)
theorem dX2_notPardon_53 : decode cX2_notPardon 53 = .ok (.bipush 8, 2) := dk_16 8 (dk_at dksX2_notPardon_2 5 rfl rfl)
theorem dX2_notPardon_55 : decode cX2_notPardon 55 = .ok (.iaload, 1) := dk_46 (dk_at dksX2_notPardon_2 7 rfl rfl)
theorem dX2_notPardon_56 : decode cX2_notPardon 56 = .ok (.iconst 2, 1) := dk_5 (dk_at dksX2_notPardon_2 8 rfl rfl)
theorem dX2_notPardon_57 : decode cX2_notPardon 57 = .ok (.if_icmp .ne 13, 3) := dk_160 0 13 (dk_at dksX2_notPardon_2 9 rfl rfl)
theorem dX2_notPardon_60 : decode cX2_notPardon 60 = .ok (.aload_n 0, 1) := dk_42 (dk_at dksX2_notPardon_2 12 rfl rfl)
theorem dX2_notPardon_61 : decode cX2_notPardon 61 = .ok (.bipush 9, 2) := dk_16 9 (dk_at dksX2_notPardon_2 13 rfl rfl)
theorem dX2_notPardon_63 : decode cX2_notPardon 63 = .ok (.iconst 2, 1) := dk_5 (dk_at dksX2_notPardon_2 15 rfl rfl)
theorem dX2_notPardon_64 : decode cX2_notPardon 64 = .ok (.invokevirtual 84, 3) := dk_182 0 84 (dk_at dksX2_notPardon_2 16 rfl rfl)
theorem dX2_notPardon_67 : decode cX2_notPardon 67 = .ok (.goto 4, 3) := dk_167 0 4 (dk_at dksX2_notPardon_2 19 rfl rfl)
theorem dX2_notPardon_70 : decode cX2_notPardon 70 = .ok (.iconst 0, 1) := dk_3 (dk_at dksX2_notPardon_2 22 rfl rfl)
theorem dX2_notPardon_71 : decode cX2_notPardon 71 = .ok (.ireturn, 1) := dk_172 (dk_at dksX2_notPardon_2 23 rfl rfl)
abbrev cX2_pardons : ByteArray := prog_13_method_43_code
def yX2_pardons : MethodName := ⟨RX2, "pardons", "(I)I"⟩
def dkwX2_pardons_1 : List UInt8 := [79, 28, 172]
abbrev dktX2_pardons_1 : List UInt8 := dkwX2_pardons_1 ++ []
def dkwX2_pardons_0 : List UInt8 := [42, 27, 8, 182, 0, 64, 61, 42, 27, 8, 3, 182, 0, 76, 42, 180, 0, 7, 16, 8, 92, 46, 4, 96]
abbrev dktX2_pardons_0 : List UInt8 := dkwX2_pardons_0 ++ dktX2_pardons_1
theorem dksX2_pardons_0 : cX2_pardons.data.toList.drop 0 = dktX2_pardons_0 := by decide +kernel
theorem dksX2_pardons_1 : cX2_pardons.data.toList.drop 24 = dktX2_pardons_1 := dk_seg dksX2_pardons_0 24 rfl rfl
theorem dX2_pardons_0 : decode cX2_pardons 0 = .ok (.aload_n 0, 1) := dk_42 (dk_at dksX2_pardons_0 0 rfl rfl)
theorem dX2_pardons_1 : decode cX2_pardons 1 = .ok (.iload_n 1, 1) := dk_27 (dk_at dksX2_pardons_0 1 rfl rfl)
theorem dX2_pardons_2 : decode cX2_pardons 2 = .ok (.iconst 5, 1) := dk_8 (dk_at dksX2_pardons_0 2 rfl rfl)
theorem dX2_pardons_3 : decode cX2_pardons 3 = .ok (.invokevirtual 64, 3) := dk_182 0 64 (dk_at dksX2_pardons_0 3 rfl rfl)
theorem dX2_pardons_6 : decode cX2_pardons 6 = .ok (.istore_n 2, 1) := dk_61 (dk_at dksX2_pardons_0 6 rfl rfl)
theorem dX2_pardons_7 : decode cX2_pardons 7 = .ok (.aload_n 0, 1) := dk_42 (dk_at dksX2_pardons_0 7 rfl rfl)
theorem dX2_pardons_8 : decode cX2_pardons 8 = .ok (.iload_n 1, 1) := dk_27 (dk_at dksX2_pardons_0 8 rfl rfl)
theorem dX2_pardons_9 : decode cX2_pardons 9 = .ok (.iconst 5, 1) := dk_8 (dk_at dksX2_pardons_0 9 rfl rfl)
theorem dX2_pardons_10 : decode cX2_pardons 10 = .ok (.iconst 0, 1) := dk_3 (dk_at dksX2_pardons_0 10 rfl rfl)
theorem dX2_pardons_11 : decode cX2_pardons 11 = .ok (.invokevirtual 76, 3) := dk_182 0 76 (dk_at dksX2_pardons_0 11 rfl rfl)
theorem dX2_pardons_14 : decode cX2_pardons 14 = .ok (.aload_n 0, 1) := dk_42 (dk_at dksX2_pardons_0 14 rfl rfl)
theorem dX2_pardons_15 : decode cX2_pardons 15 = .ok (.getfield 7, 3) := dk_180 0 7 (dk_at dksX2_pardons_0 15 rfl rfl)
theorem dX2_pardons_18 : decode cX2_pardons 18 = .ok (.bipush 8, 2) := dk_16 8 (dk_at dksX2_pardons_0 18 rfl rfl)
theorem dX2_pardons_20 : decode cX2_pardons 20 = .ok (.dup2, 1) := dk_92 (dk_at dksX2_pardons_0 20 rfl rfl)
theorem dX2_pardons_21 : decode cX2_pardons 21 = .ok (.iaload, 1) := dk_46 (dk_at dksX2_pardons_0 21 rfl rfl)
theorem dX2_pardons_22 : decode cX2_pardons 22 = .ok (.iconst 1, 1) := dk_4 (dk_at dksX2_pardons_0 22 rfl rfl)
theorem dX2_pardons_23 : decode cX2_pardons 23 = .ok (.iadd, 1) := dk_96 (dk_at dksX2_pardons_0 23 rfl rfl)
theorem dX2_pardons_24 : decode cX2_pardons 24 = .ok (.iastore, 1) := dk_79 (dk_at dksX2_pardons_1 0 rfl rfl)
theorem dX2_pardons_25 : decode cX2_pardons 25 = .ok (.iload_n 2, 1) := dk_28 (dk_at dksX2_pardons_1 1 rfl rfl)
theorem dX2_pardons_26 : decode cX2_pardons 26 = .ok (.ireturn, 1) := dk_172 (dk_at dksX2_pardons_1 2 rfl rfl)
abbrev cX2_gift : ByteArray := prog_13_method_47_code
def yX2_gift : MethodName := ⟨RX2, "gift", "(I)I"⟩
def dkwX2_gift_0 : List UInt8 := [27, 4, 17, 1, 244, 184, 0, 60, 154, 0, 6, 16, 244, 172, 42, 182, 0, 90, 42, 27, 182, 0, 164, 172]
abbrev dktX2_gift_0 : List UInt8 := dkwX2_gift_0 ++ []
theorem dksX2_gift_0 : cX2_gift.data.toList.drop 0 = dktX2_gift_0 := by decide +kernel
theorem dX2_gift_0 : decode cX2_gift 0 = .ok (.iload_n 1, 1) := dk_27 (dk_at dksX2_gift_0 0 rfl rfl)
theorem dX2_gift_1 : decode cX2_gift 1 = .ok (.iconst 1, 1) := dk_4 (dk_at dksX2_gift_0 1 rfl rfl)
theorem dX2_gift_2 : decode cX2_gift 2 = .ok (.sipush 500, 3) := dk_17 1 244 (dk_at dksX2_gift_0 2 rfl rfl)
theorem dX2_gift_5 : decode cX2_gift 5 = .ok (.invokestatic 60, 3) := dk_184 0 60 (dk_at dksX2_gift_0 5 rfl rfl)
theorem dX2_gift_8 : decode cX2_gift 8 = .ok (.ifCond .ne 6, 3) := dk_154 0 6 (dk_at dksX2_gift_0 8 rfl rfl)
theorem dX2_gift_11 : decode cX2_gift 11 = .ok (.bipush (-12), 2) := dk_16 244 (dk_at dksX2_gift_0 11 rfl rfl)
theorem dX2_gift_13 : decode cX2_gift 13 = .ok (.ireturn, 1) := dk_172 (dk_at dksX2_gift_0 13 rfl rfl)
theorem dX2_gift_14 : decode cX2_gift 14 = .ok (.aload_n 0, 1) := dk_42 (dk_at dksX2_gift_0 14 rfl rfl)
theorem dX2_gift_15 : decode cX2_gift 15 = .ok (.invokevirtual 90, 3) := dk_182 0 90 (dk_at dksX2_gift_0 15 rfl rfl)
theorem dX2_gift_18 : decode cX2_gift 18 = .ok (.aload_n 0, 1) := dk_42 (dk_at dksX2_gift_0 18 rfl rfl)
theorem dX2_gift_19 : decode cX2_gift 19 = .ok (.iload_n 1, 1) := dk_27 (dk_at dksX2_gift_0 19 rfl rfl)
theorem dX2_gift_20 : decode cX2_gift 20 = .ok (.invokevirtual 164, 3) := dk_182 0 164 (dk_at dksX2_gift_0 20 rfl rfl)
theorem dX2_gift_23 : decode cX2_gift 23 = .ok (.ireturn, 1) := dk_172 (dk_at dksX2_gift_0 23 rfl rfl)
abbrev cX2_puts : ByteArray := prog_13_method_46_code
def yX2_puts : MethodName := ⟨RX2, "puts", "(I)I"⟩
def dkwX2_puts_0 : List UInt8 := [42, 27, 182, 0, 161, 42, 180, 0, 7, 6, 46, 172]
abbrev dktX2_puts_0 : List UInt8 := dkwX2_puts_0 ++ []
theorem dksX2_puts_0 : cX2_puts.data.toList.drop 0 = dktX2_puts_0 := by decide +kernel
theorem dX2_puts_0 : decode cX2_puts 0 = .ok (.aload_n 0, 1) := dk_42 (dk_at dksX2_puts_0 0 rfl rfl)
theorem dX2_puts_1 : decode cX2_puts 1 = .ok (.iload_n 1, 1) := dk_27 (dk_at dksX2_puts_0 1 rfl rfl)
theorem dX2_puts_2 : decode cX2_puts 2 = .ok (.invokevirtual 161, 3) := dk_182 0 161 (dk_at dksX2_puts_0 2 rfl rfl)
theorem dX2_puts_5 : decode cX2_puts 5 = .ok (.aload_n 0, 1) := dk_42 (dk_at dksX2_puts_0 5 rfl rfl)
theorem dX2_puts_6 : decode cX2_puts 6 = .ok (.getfield 7, 3) := dk_180 0 7 (dk_at dksX2_puts_0 6 rfl rfl)
theorem dX2_puts_9 : decode cX2_puts 9 = .ok (.iconst 3, 1) := dk_6 (dk_at dksX2_puts_0 9 rfl rfl)
theorem dX2_puts_10 : decode cX2_puts 10 = .ok (.iaload, 1) := dk_46 (dk_at dksX2_puts_0 10 rfl rfl)
theorem dX2_puts_11 : decode cX2_puts 11 = .ok (.ireturn, 1) := dk_172 (dk_at dksX2_puts_0 11 rfl rfl)
abbrev cX2_comesIn : ByteArray := prog_13_method_45_code
def yX2_comesIn : MethodName := ⟨RX2, "comesIn", "(I)V"⟩
def dkwX2_comesIn_1 : List UInt8 := [79, 42, 180, 0, 7, 7, 92, 46, 28, 96, 79, 177]
abbrev dktX2_comesIn_1 : List UInt8 := dkwX2_comesIn_1 ++ []
def dkwX2_comesIn_0 : List UInt8 := [27, 17, 39, 15, 42, 180, 0, 7, 6, 46, 100, 184, 0, 158, 61, 42, 180, 0, 7, 6, 92, 46, 28, 96]
abbrev dktX2_comesIn_0 : List UInt8 := dkwX2_comesIn_0 ++ dktX2_comesIn_1
theorem dksX2_comesIn_0 : cX2_comesIn.data.toList.drop 0 = dktX2_comesIn_0 := by decide +kernel
theorem dksX2_comesIn_1 : cX2_comesIn.data.toList.drop 24 = dktX2_comesIn_1 := dk_seg dksX2_comesIn_0 24 rfl rfl
theorem dX2_comesIn_0 : decode cX2_comesIn 0 = .ok (.iload_n 1, 1) := dk_27 (dk_at dksX2_comesIn_0 0 rfl rfl)
theorem dX2_comesIn_1 : decode cX2_comesIn 1 = .ok (.sipush 9999, 3) := dk_17 39 15 (dk_at dksX2_comesIn_0 1 rfl rfl)
theorem dX2_comesIn_4 : decode cX2_comesIn 4 = .ok (.aload_n 0, 1) := dk_42 (dk_at dksX2_comesIn_0 4 rfl rfl)
theorem dX2_comesIn_5 : decode cX2_comesIn 5 = .ok (.getfield 7, 3) := dk_180 0 7 (dk_at dksX2_comesIn_0 5 rfl rfl)
theorem dX2_comesIn_8 : decode cX2_comesIn 8 = .ok (.iconst 3, 1) := dk_6 (dk_at dksX2_comesIn_0 8 rfl rfl)
theorem dX2_comesIn_9 : decode cX2_comesIn 9 = .ok (.iaload, 1) := dk_46 (dk_at dksX2_comesIn_0 9 rfl rfl)
theorem dX2_comesIn_10 : decode cX2_comesIn 10 = .ok (.isub, 1) := dk_100 (dk_at dksX2_comesIn_0 10 rfl rfl)
theorem dX2_comesIn_11 : decode cX2_comesIn 11 = .ok (.invokestatic 158, 3) := dk_184 0 158 (dk_at dksX2_comesIn_0 11 rfl rfl)
theorem dX2_comesIn_14 : decode cX2_comesIn 14 = .ok (.istore_n 2, 1) := dk_61 (dk_at dksX2_comesIn_0 14 rfl rfl)
theorem dX2_comesIn_15 : decode cX2_comesIn 15 = .ok (.aload_n 0, 1) := dk_42 (dk_at dksX2_comesIn_0 15 rfl rfl)
theorem dX2_comesIn_16 : decode cX2_comesIn 16 = .ok (.getfield 7, 3) := dk_180 0 7 (dk_at dksX2_comesIn_0 16 rfl rfl)
theorem dX2_comesIn_19 : decode cX2_comesIn 19 = .ok (.iconst 3, 1) := dk_6 (dk_at dksX2_comesIn_0 19 rfl rfl)
theorem dX2_comesIn_20 : decode cX2_comesIn 20 = .ok (.dup2, 1) := dk_92 (dk_at dksX2_comesIn_0 20 rfl rfl)
theorem dX2_comesIn_21 : decode cX2_comesIn 21 = .ok (.iaload, 1) := dk_46 (dk_at dksX2_comesIn_0 21 rfl rfl)
theorem dX2_comesIn_22 : decode cX2_comesIn 22 = .ok (.iload_n 2, 1) := dk_28 (dk_at dksX2_comesIn_0 22 rfl rfl)
theorem dX2_comesIn_23 : decode cX2_comesIn 23 = .ok (.iadd, 1) := dk_96 (dk_at dksX2_comesIn_0 23 rfl rfl)
theorem dX2_comesIn_24 : decode cX2_comesIn 24 = .ok (.iastore, 1) := dk_79 (dk_at dksX2_comesIn_1 0 rfl rfl)
theorem dX2_comesIn_25 : decode cX2_comesIn 25 = .ok (.aload_n 0, 1) := dk_42 (dk_at dksX2_comesIn_1 1 rfl rfl)
theorem dX2_comesIn_26 : decode cX2_comesIn 26 = .ok (.getfield 7, 3) := dk_180 0 7 (dk_at dksX2_comesIn_1 2 rfl rfl)
theorem dX2_comesIn_29 : decode cX2_comesIn 29 = .ok (.iconst 4, 1) := dk_7 (dk_at dksX2_comesIn_1 5 rfl rfl)
theorem dX2_comesIn_30 : decode cX2_comesIn 30 = .ok (.dup2, 1) := dk_92 (dk_at dksX2_comesIn_1 6 rfl rfl)
theorem dX2_comesIn_31 : decode cX2_comesIn 31 = .ok (.iaload, 1) := dk_46 (dk_at dksX2_comesIn_1 7 rfl rfl)
theorem dX2_comesIn_32 : decode cX2_comesIn 32 = .ok (.iload_n 2, 1) := dk_28 (dk_at dksX2_comesIn_1 8 rfl rfl)
theorem dX2_comesIn_33 : decode cX2_comesIn 33 = .ok (.iadd, 1) := dk_96 (dk_at dksX2_comesIn_1 9 rfl rfl)
theorem dX2_comesIn_34 : decode cX2_comesIn 34 = .ok (.iastore, 1) := dk_79 (dk_at dksX2_comesIn_1 10 rfl rfl)
theorem dX2_comesIn_35 : decode cX2_comesIn 35 = .ok (.return_, 1) := dk_177 (dk_at dksX2_comesIn_1 11 rfl rfl)
abbrev cX2_lesser : ByteArray := prog_13_method_3_code
def yX2_lesser : MethodName := ⟨RX2, "lesser", "(II)I"⟩
def dkwX2_lesser_0 : List UInt8 := [26, 27, 162, 0, 7, 26, 167, 0, 4, 27, 172]
abbrev dktX2_lesser_0 : List UInt8 := dkwX2_lesser_0 ++ []
theorem dksX2_lesser_0 : cX2_lesser.data.toList.drop 0 = dktX2_lesser_0 := by decide +kernel
theorem dX2_lesser_0 : decode cX2_lesser 0 = .ok (.iload_n 0, 1) := dk_26 (dk_at dksX2_lesser_0 0 rfl rfl)
theorem dX2_lesser_1 : decode cX2_lesser 1 = .ok (.iload_n 1, 1) := dk_27 (dk_at dksX2_lesser_0 1 rfl rfl)
theorem dX2_lesser_2 : decode cX2_lesser 2 = .ok (.if_icmp .ge 7, 3) := dk_162 0 7 (dk_at dksX2_lesser_0 2 rfl rfl)
theorem dX2_lesser_5 : decode cX2_lesser 5 = .ok (.iload_n 0, 1) := dk_26 (dk_at dksX2_lesser_0 5 rfl rfl)
theorem dX2_lesser_6 : decode cX2_lesser 6 = .ok (.goto 4, 3) := dk_167 0 4 (dk_at dksX2_lesser_0 6 rfl rfl)
theorem dX2_lesser_9 : decode cX2_lesser 9 = .ok (.iload_n 1, 1) := dk_27 (dk_at dksX2_lesser_0 9 rfl rfl)
theorem dX2_lesser_10 : decode cX2_lesser 10 = .ok (.ireturn, 1) := dk_172 (dk_at dksX2_lesser_0 10 rfl rfl)
abbrev cX2_weeks : ByteArray := prog_13_method_57_code
def yX2_weeks : MethodName := ⟨RX2, "weeks", "(I)I"⟩
def dkwX2_weeks_0 : List UInt8 := [27, 4, 16, 60, 184, 0, 60, 154, 0, 6, 16, 244, 172, 42, 182, 0, 90, 42, 27, 182, 0, 192, 172]
abbrev dktX2_weeks_0 : List UInt8 := dkwX2_weeks_0 ++ []
theorem dksX2_weeks_0 : cX2_weeks.data.toList.drop 0 = dktX2_weeks_0 := by decide +kernel
theorem dX2_weeks_0 : decode cX2_weeks 0 = .ok (.iload_n 1, 1) := dk_27 (dk_at dksX2_weeks_0 0 rfl rfl)
theorem dX2_weeks_1 : decode cX2_weeks 1 = .ok (.iconst 1, 1) := dk_4 (dk_at dksX2_weeks_0 1 rfl rfl)
theorem dX2_weeks_2 : decode cX2_weeks 2 = .ok (.bipush 60, 2) := dk_16 60 (dk_at dksX2_weeks_0 2 rfl rfl)
theorem dX2_weeks_4 : decode cX2_weeks 4 = .ok (.invokestatic 60, 3) := dk_184 0 60 (dk_at dksX2_weeks_0 4 rfl rfl)
theorem dX2_weeks_7 : decode cX2_weeks 7 = .ok (.ifCond .ne 6, 3) := dk_154 0 6 (dk_at dksX2_weeks_0 7 rfl rfl)
theorem dX2_weeks_10 : decode cX2_weeks 10 = .ok (.bipush (-12), 2) := dk_16 244 (dk_at dksX2_weeks_0 10 rfl rfl)
theorem dX2_weeks_12 : decode cX2_weeks 12 = .ok (.ireturn, 1) := dk_172 (dk_at dksX2_weeks_0 12 rfl rfl)
theorem dX2_weeks_13 : decode cX2_weeks 13 = .ok (.aload_n 0, 1) := dk_42 (dk_at dksX2_weeks_0 13 rfl rfl)
theorem dX2_weeks_14 : decode cX2_weeks 14 = .ok (.invokevirtual 90, 3) := dk_182 0 90 (dk_at dksX2_weeks_0 14 rfl rfl)
theorem dX2_weeks_17 : decode cX2_weeks 17 = .ok (.aload_n 0, 1) := dk_42 (dk_at dksX2_weeks_0 17 rfl rfl)
theorem dX2_weeks_18 : decode cX2_weeks 18 = .ok (.iload_n 1, 1) := dk_27 (dk_at dksX2_weeks_0 18 rfl rfl)
theorem dX2_weeks_19 : decode cX2_weeks 19 = .ok (.invokevirtual 192, 3) := dk_182 0 192 (dk_at dksX2_weeks_0 19 rfl rfl)
theorem dX2_weeks_22 : decode cX2_weeks 22 = .ok (.ireturn, 1) := dk_172 (dk_at dksX2_weeks_0 22 rfl rfl)
abbrev cX2_weeksGo : ByteArray := prog_13_method_56_code
def yX2_weeksGo : MethodName := ⟨RX2, "weeksGo", "(I)I"⟩
def dkwX2_weeksGo_0 : List UInt8 := [3, 61, 3, 62, 29, 27, 162, 0, 16, 28, 42, 182, 0, 189, 96, 61, 132, 3, 1, 167, 255, 241, 28, 172]
abbrev dktX2_weeksGo_0 : List UInt8 := dkwX2_weeksGo_0 ++ []
theorem dksX2_weeksGo_0 : cX2_weeksGo.data.toList.drop 0 = dktX2_weeksGo_0 := by decide +kernel
theorem dX2_weeksGo_0 : decode cX2_weeksGo 0 = .ok (.iconst 0, 1) := dk_3 (dk_at dksX2_weeksGo_0 0 rfl rfl)
theorem dX2_weeksGo_1 : decode cX2_weeksGo 1 = .ok (.istore_n 2, 1) := dk_61 (dk_at dksX2_weeksGo_0 1 rfl rfl)
theorem dX2_weeksGo_2 : decode cX2_weeksGo 2 = .ok (.iconst 0, 1) := dk_3 (dk_at dksX2_weeksGo_0 2 rfl rfl)
theorem dX2_weeksGo_3 : decode cX2_weeksGo 3 = .ok (.istore_n 3, 1) := dk_62 (dk_at dksX2_weeksGo_0 3 rfl rfl)
theorem dX2_weeksGo_4 : decode cX2_weeksGo 4 = .ok (.iload_n 3, 1) := dk_29 (dk_at dksX2_weeksGo_0 4 rfl rfl)
theorem dX2_weeksGo_5 : decode cX2_weeksGo 5 = .ok (.iload_n 1, 1) := dk_27 (dk_at dksX2_weeksGo_0 5 rfl rfl)
theorem dX2_weeksGo_6 : decode cX2_weeksGo 6 = .ok (.if_icmp .ge 16, 3) := dk_162 0 16 (dk_at dksX2_weeksGo_0 6 rfl rfl)
theorem dX2_weeksGo_9 : decode cX2_weeksGo 9 = .ok (.iload_n 2, 1) := dk_28 (dk_at dksX2_weeksGo_0 9 rfl rfl)
theorem dX2_weeksGo_10 : decode cX2_weeksGo 10 = .ok (.aload_n 0, 1) := dk_42 (dk_at dksX2_weeksGo_0 10 rfl rfl)
theorem dX2_weeksGo_11 : decode cX2_weeksGo 11 = .ok (.invokevirtual 189, 3) := dk_182 0 189 (dk_at dksX2_weeksGo_0 11 rfl rfl)
theorem dX2_weeksGo_14 : decode cX2_weeksGo 14 = .ok (.iadd, 1) := dk_96 (dk_at dksX2_weeksGo_0 14 rfl rfl)
theorem dX2_weeksGo_15 : decode cX2_weeksGo 15 = .ok (.istore_n 2, 1) := dk_61 (dk_at dksX2_weeksGo_0 15 rfl rfl)
theorem dX2_weeksGo_16 : decode cX2_weeksGo 16 = .ok (.iinc 3 1, 3) := dk_132 3 1 (dk_at dksX2_weeksGo_0 16 rfl rfl)
theorem dX2_weeksGo_19 : decode cX2_weeksGo 19 = .ok (.goto (-15), 3) := dk_167 255 241 (dk_at dksX2_weeksGo_0 19 rfl rfl)
theorem dX2_weeksGo_22 : decode cX2_weeksGo 22 = .ok (.iload_n 2, 1) := dk_28 (dk_at dksX2_weeksGo_0 22 rfl rfl)
theorem dX2_weeksGo_23 : decode cX2_weeksGo 23 = .ok (.ireturn, 1) := dk_172 (dk_at dksX2_weeksGo_0 23 rfl rfl)
abbrev cX2_weekGoes : ByteArray := prog_13_method_55_code
def yX2_weekGoes : MethodName := ⟨RX2, "weekGoes", "()I"⟩
def dkwX2_weekGoes_4 : List UInt8 := [160, 0, 7, 42, 182, 0, 186, 27, 172]
abbrev dktX2_weekGoes_4 : List UInt8 := dkwX2_weekGoes_4 ++ []
def dkwX2_weekGoes_3 : List UInt8 := [132, 2, 1, 167, 255, 234, 42, 180, 0, 7, 4, 92, 46, 4, 96, 79, 42, 180, 0, 7, 4, 46, 16, 52]
abbrev dktX2_weekGoes_3 : List UInt8 := dkwX2_weekGoes_3 ++ dktX2_weekGoes_4
def dkwX2_weekGoes_2 : List UInt8 := [167, 255, 216, 3, 61, 28, 16, 8, 162, 0, 22, 42, 28, 182, 0, 122, 156, 0, 8, 42, 5, 182, 0, 161]
abbrev dktX2_weekGoes_2 : List UInt8 := dkwX2_weekGoes_2 ++ dktX2_weekGoes_3
def dkwX2_weekGoes_1 : List UInt8 := [182, 0, 64, 158, 0, 14, 42, 28, 8, 182, 0, 64, 4, 100, 167, 0, 4, 3, 182, 0, 76, 132, 2, 1]
abbrev dktX2_weekGoes_1 : List UInt8 := dkwX2_weekGoes_1 ++ dktX2_weekGoes_2
def dkwX2_weekGoes_0 : List UInt8 := [42, 182, 0, 183, 60, 3, 61, 28, 42, 180, 0, 7, 5, 46, 162, 0, 36, 42, 28, 8, 42, 28, 8]
abbrev dktX2_weekGoes_0 : List UInt8 := dkwX2_weekGoes_0 ++ dktX2_weekGoes_1
theorem dksX2_weekGoes_0 : cX2_weekGoes.data.toList.drop 0 = dktX2_weekGoes_0 := by decide +kernel
theorem dksX2_weekGoes_1 : cX2_weekGoes.data.toList.drop 23 = dktX2_weekGoes_1 := dk_seg dksX2_weekGoes_0 23 rfl rfl
theorem dksX2_weekGoes_2 : cX2_weekGoes.data.toList.drop 47 = dktX2_weekGoes_2 := dk_seg dksX2_weekGoes_1 24 rfl rfl
theorem dksX2_weekGoes_3 : cX2_weekGoes.data.toList.drop 71 = dktX2_weekGoes_3 := dk_seg dksX2_weekGoes_2 24 rfl rfl
theorem dksX2_weekGoes_4 : cX2_weekGoes.data.toList.drop 95 = dktX2_weekGoes_4 := dk_seg dksX2_weekGoes_3 24 rfl rfl
theorem dX2_weekGoes_0 : decode cX2_weekGoes 0 = .ok (.aload_n 0, 1) := dk_42 (dk_at dksX2_weekGoes_0 0 rfl rfl)
theorem dX2_weekGoes_1 : decode cX2_weekGoes 1 = .ok (.invokevirtual 183, 3) := dk_182 0 183 (dk_at dksX2_weekGoes_0 1 rfl rfl)
theorem dX2_weekGoes_4 : decode cX2_weekGoes 4 = .ok (.istore_n 1, 1) := dk_60 (dk_at dksX2_weekGoes_0 4 rfl rfl)
theorem dX2_weekGoes_5 : decode cX2_weekGoes 5 = .ok (.iconst 0, 1) := dk_3 (dk_at dksX2_weekGoes_0 5 rfl rfl)
theorem dX2_weekGoes_6 : decode cX2_weekGoes 6 = .ok (.istore_n 2, 1) := dk_61 (dk_at dksX2_weekGoes_0 6 rfl rfl)
theorem dX2_weekGoes_7 : decode cX2_weekGoes 7 = .ok (.iload_n 2, 1) := dk_28 (dk_at dksX2_weekGoes_0 7 rfl rfl)
theorem dX2_weekGoes_8 : decode cX2_weekGoes 8 = .ok (.aload_n 0, 1) := dk_42 (dk_at dksX2_weekGoes_0 8 rfl rfl)
theorem dX2_weekGoes_9 : decode cX2_weekGoes 9 = .ok (.getfield 7, 3) := dk_180 0 7 (dk_at dksX2_weekGoes_0 9 rfl rfl)
theorem dX2_weekGoes_12 : decode cX2_weekGoes 12 = .ok (.iconst 2, 1) := dk_5 (dk_at dksX2_weekGoes_0 12 rfl rfl)
theorem dX2_weekGoes_13 : decode cX2_weekGoes 13 = .ok (.iaload, 1) := dk_46 (dk_at dksX2_weekGoes_0 13 rfl rfl)
theorem dX2_weekGoes_14 : decode cX2_weekGoes 14 = .ok (.if_icmp .ge 36, 3) := dk_162 0 36 (dk_at dksX2_weekGoes_0 14 rfl rfl)
theorem dX2_weekGoes_17 : decode cX2_weekGoes 17 = .ok (.aload_n 0, 1) := dk_42 (dk_at dksX2_weekGoes_0 17 rfl rfl)
theorem dX2_weekGoes_18 : decode cX2_weekGoes 18 = .ok (.iload_n 2, 1) := dk_28 (dk_at dksX2_weekGoes_0 18 rfl rfl)
theorem dX2_weekGoes_19 : decode cX2_weekGoes 19 = .ok (.iconst 5, 1) := dk_8 (dk_at dksX2_weekGoes_0 19 rfl rfl)
theorem dX2_weekGoes_20 : decode cX2_weekGoes 20 = .ok (.aload_n 0, 1) := dk_42 (dk_at dksX2_weekGoes_0 20 rfl rfl)
theorem dX2_weekGoes_21 : decode cX2_weekGoes 21 = .ok (.iload_n 2, 1) := dk_28 (dk_at dksX2_weekGoes_0 21 rfl rfl)
theorem dX2_weekGoes_22 : decode cX2_weekGoes 22 = .ok (.iconst 5, 1) := dk_8 (dk_at dksX2_weekGoes_0 22 rfl rfl)
theorem dX2_weekGoes_23 : decode cX2_weekGoes 23 = .ok (.invokevirtual 64, 3) := dk_182 0 64 (dk_at dksX2_weekGoes_1 0 rfl rfl)
theorem dX2_weekGoes_26 : decode cX2_weekGoes 26 = .ok (.ifCond .le 14, 3) := dk_158 0 14 (dk_at dksX2_weekGoes_1 3 rfl rfl)
theorem dX2_weekGoes_29 : decode cX2_weekGoes 29 = .ok (.aload_n 0, 1) := dk_42 (dk_at dksX2_weekGoes_1 6 rfl rfl)
theorem dX2_weekGoes_30 : decode cX2_weekGoes 30 = .ok (.iload_n 2, 1) := dk_28 (dk_at dksX2_weekGoes_1 7 rfl rfl)
theorem dX2_weekGoes_31 : decode cX2_weekGoes 31 = .ok (.iconst 5, 1) := dk_8 (dk_at dksX2_weekGoes_1 8 rfl rfl)
theorem dX2_weekGoes_32 : decode cX2_weekGoes 32 = .ok (.invokevirtual 64, 3) := dk_182 0 64 (dk_at dksX2_weekGoes_1 9 rfl rfl)
theorem dX2_weekGoes_35 : decode cX2_weekGoes 35 = .ok (.iconst 1, 1) := dk_4 (dk_at dksX2_weekGoes_1 12 rfl rfl)
theorem dX2_weekGoes_36 : decode cX2_weekGoes 36 = .ok (.isub, 1) := dk_100 (dk_at dksX2_weekGoes_1 13 rfl rfl)
theorem dX2_weekGoes_37 : decode cX2_weekGoes 37 = .ok (.goto 4, 3) := dk_167 0 4 (dk_at dksX2_weekGoes_1 14 rfl rfl)
theorem dX2_weekGoes_40 : decode cX2_weekGoes 40 = .ok (.iconst 0, 1) := dk_3 (dk_at dksX2_weekGoes_1 17 rfl rfl)
theorem dX2_weekGoes_41 : decode cX2_weekGoes 41 = .ok (.invokevirtual 76, 3) := dk_182 0 76 (dk_at dksX2_weekGoes_1 18 rfl rfl)
theorem dX2_weekGoes_44 : decode cX2_weekGoes 44 = .ok (.iinc 2 1, 3) := dk_132 2 1 (dk_at dksX2_weekGoes_1 21 rfl rfl)
theorem dX2_weekGoes_47 : decode cX2_weekGoes 47 = .ok (.goto (-40), 3) := dk_167 255 216 (dk_at dksX2_weekGoes_2 0 rfl rfl)
theorem dX2_weekGoes_50 : decode cX2_weekGoes 50 = .ok (.iconst 0, 1) := dk_3 (dk_at dksX2_weekGoes_2 3 rfl rfl)
theorem dX2_weekGoes_51 : decode cX2_weekGoes 51 = .ok (.istore_n 2, 1) := dk_61 (dk_at dksX2_weekGoes_2 4 rfl rfl)
theorem dX2_weekGoes_52 : decode cX2_weekGoes 52 = .ok (.iload_n 2, 1) := dk_28 (dk_at dksX2_weekGoes_2 5 rfl rfl)
theorem dX2_weekGoes_53 : decode cX2_weekGoes 53 = .ok (.bipush 8, 2) := dk_16 8 (dk_at dksX2_weekGoes_2 6 rfl rfl)
theorem dX2_weekGoes_55 : decode cX2_weekGoes 55 = .ok (.if_icmp .ge 22, 3) := dk_162 0 22 (dk_at dksX2_weekGoes_2 8 rfl rfl)
theorem dX2_weekGoes_58 : decode cX2_weekGoes 58 = .ok (.aload_n 0, 1) := dk_42 (dk_at dksX2_weekGoes_2 11 rfl rfl)
theorem dX2_weekGoes_59 : decode cX2_weekGoes 59 = .ok (.iload_n 2, 1) := dk_28 (dk_at dksX2_weekGoes_2 12 rfl rfl)
theorem dX2_weekGoes_60 : decode cX2_weekGoes 60 = .ok (.invokevirtual 122, 3) := dk_182 0 122 (dk_at dksX2_weekGoes_2 13 rfl rfl)
theorem dX2_weekGoes_63 : decode cX2_weekGoes 63 = .ok (.ifCond .ge 8, 3) := dk_156 0 8 (dk_at dksX2_weekGoes_2 16 rfl rfl)
theorem dX2_weekGoes_66 : decode cX2_weekGoes 66 = .ok (.aload_n 0, 1) := dk_42 (dk_at dksX2_weekGoes_2 19 rfl rfl)
theorem dX2_weekGoes_67 : decode cX2_weekGoes 67 = .ok (.iconst 2, 1) := dk_5 (dk_at dksX2_weekGoes_2 20 rfl rfl)
theorem dX2_weekGoes_68 : decode cX2_weekGoes 68 = .ok (.invokevirtual 161, 3) := dk_182 0 161 (dk_at dksX2_weekGoes_2 21 rfl rfl)
theorem dX2_weekGoes_71 : decode cX2_weekGoes 71 = .ok (.iinc 2 1, 3) := dk_132 2 1 (dk_at dksX2_weekGoes_3 0 rfl rfl)
theorem dX2_weekGoes_74 : decode cX2_weekGoes 74 = .ok (.goto (-22), 3) := dk_167 255 234 (dk_at dksX2_weekGoes_3 3 rfl rfl)
theorem dX2_weekGoes_77 : decode cX2_weekGoes 77 = .ok (.aload_n 0, 1) := dk_42 (dk_at dksX2_weekGoes_3 6 rfl rfl)
theorem dX2_weekGoes_78 : decode cX2_weekGoes 78 = .ok (.getfield 7, 3) := dk_180 0 7 (dk_at dksX2_weekGoes_3 7 rfl rfl)
theorem dX2_weekGoes_81 : decode cX2_weekGoes 81 = .ok (.iconst 1, 1) := dk_4 (dk_at dksX2_weekGoes_3 10 rfl rfl)
theorem dX2_weekGoes_82 : decode cX2_weekGoes 82 = .ok (.dup2, 1) := dk_92 (dk_at dksX2_weekGoes_3 11 rfl rfl)
theorem dX2_weekGoes_83 : decode cX2_weekGoes 83 = .ok (.iaload, 1) := dk_46 (dk_at dksX2_weekGoes_3 12 rfl rfl)
theorem dX2_weekGoes_84 : decode cX2_weekGoes 84 = .ok (.iconst 1, 1) := dk_4 (dk_at dksX2_weekGoes_3 13 rfl rfl)
theorem dX2_weekGoes_85 : decode cX2_weekGoes 85 = .ok (.iadd, 1) := dk_96 (dk_at dksX2_weekGoes_3 14 rfl rfl)
theorem dX2_weekGoes_86 : decode cX2_weekGoes 86 = .ok (.iastore, 1) := dk_79 (dk_at dksX2_weekGoes_3 15 rfl rfl)
theorem dX2_weekGoes_87 : decode cX2_weekGoes 87 = .ok (.aload_n 0, 1) := dk_42 (dk_at dksX2_weekGoes_3 16 rfl rfl)
theorem dX2_weekGoes_88 : decode cX2_weekGoes 88 = .ok (.getfield 7, 3) := dk_180 0 7 (dk_at dksX2_weekGoes_3 17 rfl rfl)
theorem dX2_weekGoes_91 : decode cX2_weekGoes 91 = .ok (.iconst 1, 1) := dk_4 (dk_at dksX2_weekGoes_3 20 rfl rfl)
theorem dX2_weekGoes_92 : decode cX2_weekGoes 92 = .ok (.iaload, 1) := dk_46 (dk_at dksX2_weekGoes_3 21 rfl rfl)
theorem dX2_weekGoes_93 : decode cX2_weekGoes 93 = .ok (.bipush 52, 2) := dk_16 52 (dk_at dksX2_weekGoes_3 22 rfl rfl)
theorem dX2_weekGoes_95 : decode cX2_weekGoes 95 = .ok (.if_icmp .ne 7, 3) := dk_160 0 7 (dk_at dksX2_weekGoes_4 0 rfl rfl)
theorem dX2_weekGoes_98 : decode cX2_weekGoes 98 = .ok (.aload_n 0, 1) := dk_42 (dk_at dksX2_weekGoes_4 3 rfl rfl)
theorem dX2_weekGoes_99 : decode cX2_weekGoes 99 = .ok (.invokevirtual 186, 3) := dk_182 0 186 (dk_at dksX2_weekGoes_4 4 rfl rfl)
theorem dX2_weekGoes_102 : decode cX2_weekGoes 102 = .ok (.iload_n 1, 1) := dk_27 (dk_at dksX2_weekGoes_4 7 rfl rfl)
theorem dX2_weekGoes_103 : decode cX2_weekGoes 103 = .ok (.ireturn, 1) := dk_172 (dk_at dksX2_weekGoes_4 8 rfl rfl)
abbrev cX2_feastComes : ByteArray := prog_13_method_50_code
def yX2_feastComes : MethodName := ⟨RX2, "feastComes", "()I"⟩
def dkwX2_feastComes_4 : List UInt8 := [46, 29, 27, 104, 100, 79, 42, 180, 0, 7, 8, 92, 46, 29, 27, 104, 96, 79, 29, 27, 104, 172]
abbrev dktX2_feastComes_4 : List UInt8 := dkwX2_feastComes_4 ++ []
def dkwX2_feastComes_3 : List UInt8 := [21, 4, 16, 6, 182, 0, 64, 29, 96, 182, 0, 76, 132, 4, 1, 167, 255, 215, 42, 180, 0, 7, 6, 92]
abbrev dktX2_feastComes_3 : List UInt8 := dkwX2_feastComes_3 ++ dktX2_feastComes_4
def dkwX2_feastComes_2 : List UInt8 := [42, 180, 0, 7, 5, 46, 162, 0, 36, 42, 21, 4, 182, 0, 167, 153, 0, 21, 42, 21, 4, 16, 6, 42]
abbrev dktX2_feastComes_2 : List UInt8 := dkwX2_feastComes_2 ++ dktX2_feastComes_3
def dkwX2_feastComes_1 : List UInt8 := [28, 154, 0, 5, 3, 172, 28, 42, 180, 0, 7, 6, 46, 27, 108, 184, 0, 158, 62, 3, 54, 4, 21, 4]
abbrev dktX2_feastComes_1 : List UInt8 := dkwX2_feastComes_1 ++ dktX2_feastComes_2
def dkwX2_feastComes_0 : List UInt8 := [42, 182, 0, 170, 60, 42, 180, 0, 7, 16, 12, 42, 180, 0, 7, 4, 46, 96, 46, 61, 27, 153, 0, 7]
abbrev dktX2_feastComes_0 : List UInt8 := dkwX2_feastComes_0 ++ dktX2_feastComes_1
theorem dksX2_feastComes_0 : cX2_feastComes.data.toList.drop 0 = dktX2_feastComes_0 := by decide +kernel
theorem dksX2_feastComes_1 : cX2_feastComes.data.toList.drop 24 = dktX2_feastComes_1 := dk_seg dksX2_feastComes_0 24 rfl rfl
theorem dksX2_feastComes_2 : cX2_feastComes.data.toList.drop 48 = dktX2_feastComes_2 := dk_seg dksX2_feastComes_1 24 rfl rfl
theorem dksX2_feastComes_3 : cX2_feastComes.data.toList.drop 72 = dktX2_feastComes_3 := dk_seg dksX2_feastComes_2 24 rfl rfl
theorem dksX2_feastComes_4 : cX2_feastComes.data.toList.drop 96 = dktX2_feastComes_4 := dk_seg dksX2_feastComes_3 24 rfl rfl
theorem dX2_feastComes_0 : decode cX2_feastComes 0 = .ok (.aload_n 0, 1) := dk_42 (dk_at dksX2_feastComes_0 0 rfl rfl)
theorem dX2_feastComes_1 : decode cX2_feastComes 1 = .ok (.invokevirtual 170, 3) := dk_182 0 170 (dk_at dksX2_feastComes_0 1 rfl rfl)
theorem dX2_feastComes_4 : decode cX2_feastComes 4 = .ok (.istore_n 1, 1) := dk_60 (dk_at dksX2_feastComes_0 4 rfl rfl)
theorem dX2_feastComes_5 : decode cX2_feastComes 5 = .ok (.aload_n 0, 1) := dk_42 (dk_at dksX2_feastComes_0 5 rfl rfl)
theorem dX2_feastComes_6 : decode cX2_feastComes 6 = .ok (.getfield 7, 3) := dk_180 0 7 (dk_at dksX2_feastComes_0 6 rfl rfl)
theorem dX2_feastComes_9 : decode cX2_feastComes 9 = .ok (.bipush 12, 2) := dk_16 12 (dk_at dksX2_feastComes_0 9 rfl rfl)
theorem dX2_feastComes_11 : decode cX2_feastComes 11 = .ok (.aload_n 0, 1) := dk_42 (dk_at dksX2_feastComes_0 11 rfl rfl)
theorem dX2_feastComes_12 : decode cX2_feastComes 12 = .ok (.getfield 7, 3) := dk_180 0 7 (dk_at dksX2_feastComes_0 12 rfl rfl)
theorem dX2_feastComes_15 : decode cX2_feastComes 15 = .ok (.iconst 1, 1) := dk_4 (dk_at dksX2_feastComes_0 15 rfl rfl)
theorem dX2_feastComes_16 : decode cX2_feastComes 16 = .ok (.iaload, 1) := dk_46 (dk_at dksX2_feastComes_0 16 rfl rfl)
theorem dX2_feastComes_17 : decode cX2_feastComes 17 = .ok (.iadd, 1) := dk_96 (dk_at dksX2_feastComes_0 17 rfl rfl)
theorem dX2_feastComes_18 : decode cX2_feastComes 18 = .ok (.iaload, 1) := dk_46 (dk_at dksX2_feastComes_0 18 rfl rfl)
theorem dX2_feastComes_19 : decode cX2_feastComes 19 = .ok (.istore_n 2, 1) := dk_61 (dk_at dksX2_feastComes_0 19 rfl rfl)
theorem dX2_feastComes_20 : decode cX2_feastComes 20 = .ok (.iload_n 1, 1) := dk_27 (dk_at dksX2_feastComes_0 20 rfl rfl)
theorem dX2_feastComes_21 : decode cX2_feastComes 21 = .ok (.ifCond .eq 7, 3) := dk_153 0 7 (dk_at dksX2_feastComes_0 21 rfl rfl)
theorem dX2_feastComes_24 : decode cX2_feastComes 24 = .ok (.iload_n 2, 1) := dk_28 (dk_at dksX2_feastComes_1 0 rfl rfl)
theorem dX2_feastComes_25 : decode cX2_feastComes 25 = .ok (.ifCond .ne 5, 3) := dk_154 0 5 (dk_at dksX2_feastComes_1 1 rfl rfl)
theorem dX2_feastComes_28 : decode cX2_feastComes 28 = .ok (.iconst 0, 1) := dk_3 (dk_at dksX2_feastComes_1 4 rfl rfl)
theorem dX2_feastComes_29 : decode cX2_feastComes 29 = .ok (.ireturn, 1) := dk_172 (dk_at dksX2_feastComes_1 5 rfl rfl)
theorem dX2_feastComes_30 : decode cX2_feastComes 30 = .ok (.iload_n 2, 1) := dk_28 (dk_at dksX2_feastComes_1 6 rfl rfl)
theorem dX2_feastComes_31 : decode cX2_feastComes 31 = .ok (.aload_n 0, 1) := dk_42 (dk_at dksX2_feastComes_1 7 rfl rfl)
theorem dX2_feastComes_32 : decode cX2_feastComes 32 = .ok (.getfield 7, 3) := dk_180 0 7 (dk_at dksX2_feastComes_1 8 rfl rfl)
theorem dX2_feastComes_35 : decode cX2_feastComes 35 = .ok (.iconst 3, 1) := dk_6 (dk_at dksX2_feastComes_1 11 rfl rfl)
theorem dX2_feastComes_36 : decode cX2_feastComes 36 = .ok (.iaload, 1) := dk_46 (dk_at dksX2_feastComes_1 12 rfl rfl)
theorem dX2_feastComes_37 : decode cX2_feastComes 37 = .ok (.iload_n 1, 1) := dk_27 (dk_at dksX2_feastComes_1 13 rfl rfl)
theorem dX2_feastComes_38 : decode cX2_feastComes 38 = .ok (.idiv, 1) := dk_108 (dk_at dksX2_feastComes_1 14 rfl rfl)
theorem dX2_feastComes_39 : decode cX2_feastComes 39 = .ok (.invokestatic 158, 3) := dk_184 0 158 (dk_at dksX2_feastComes_1 15 rfl rfl)
theorem dX2_feastComes_42 : decode cX2_feastComes 42 = .ok (.istore_n 3, 1) := dk_62 (dk_at dksX2_feastComes_1 18 rfl rfl)
theorem dX2_feastComes_43 : decode cX2_feastComes 43 = .ok (.iconst 0, 1) := dk_3 (dk_at dksX2_feastComes_1 19 rfl rfl)
theorem dX2_feastComes_44 : decode cX2_feastComes 44 = .ok (.istore 4, 2) := dk_54 4 (dk_at dksX2_feastComes_1 20 rfl rfl)
theorem dX2_feastComes_46 : decode cX2_feastComes 46 = .ok (.iload 4, 2) := dk_21 4 (dk_at dksX2_feastComes_1 22 rfl rfl)
theorem dX2_feastComes_48 : decode cX2_feastComes 48 = .ok (.aload_n 0, 1) := dk_42 (dk_at dksX2_feastComes_2 0 rfl rfl)
theorem dX2_feastComes_49 : decode cX2_feastComes 49 = .ok (.getfield 7, 3) := dk_180 0 7 (dk_at dksX2_feastComes_2 1 rfl rfl)
theorem dX2_feastComes_52 : decode cX2_feastComes 52 = .ok (.iconst 2, 1) := dk_5 (dk_at dksX2_feastComes_2 4 rfl rfl)
theorem dX2_feastComes_53 : decode cX2_feastComes 53 = .ok (.iaload, 1) := dk_46 (dk_at dksX2_feastComes_2 5 rfl rfl)
theorem dX2_feastComes_54 : decode cX2_feastComes 54 = .ok (.if_icmp .ge 36, 3) := dk_162 0 36 (dk_at dksX2_feastComes_2 6 rfl rfl)
theorem dX2_feastComes_57 : decode cX2_feastComes 57 = .ok (.aload_n 0, 1) := dk_42 (dk_at dksX2_feastComes_2 9 rfl rfl)
theorem dX2_feastComes_58 : decode cX2_feastComes 58 = .ok (.iload 4, 2) := dk_21 4 (dk_at dksX2_feastComes_2 10 rfl rfl)
theorem dX2_feastComes_60 : decode cX2_feastComes 60 = .ok (.invokevirtual 167, 3) := dk_182 0 167 (dk_at dksX2_feastComes_2 12 rfl rfl)
theorem dX2_feastComes_63 : decode cX2_feastComes 63 = .ok (.ifCond .eq 21, 3) := dk_153 0 21 (dk_at dksX2_feastComes_2 15 rfl rfl)
theorem dX2_feastComes_66 : decode cX2_feastComes 66 = .ok (.aload_n 0, 1) := dk_42 (dk_at dksX2_feastComes_2 18 rfl rfl)
theorem dX2_feastComes_67 : decode cX2_feastComes 67 = .ok (.iload 4, 2) := dk_21 4 (dk_at dksX2_feastComes_2 19 rfl rfl)
theorem dX2_feastComes_69 : decode cX2_feastComes 69 = .ok (.bipush 6, 2) := dk_16 6 (dk_at dksX2_feastComes_2 21 rfl rfl)
theorem dX2_feastComes_71 : decode cX2_feastComes 71 = .ok (.aload_n 0, 1) := dk_42 (dk_at dksX2_feastComes_2 23 rfl rfl)
theorem dX2_feastComes_72 : decode cX2_feastComes 72 = .ok (.iload 4, 2) := dk_21 4 (dk_at dksX2_feastComes_3 0 rfl rfl)
theorem dX2_feastComes_74 : decode cX2_feastComes 74 = .ok (.bipush 6, 2) := dk_16 6 (dk_at dksX2_feastComes_3 2 rfl rfl)
theorem dX2_feastComes_76 : decode cX2_feastComes 76 = .ok (.invokevirtual 64, 3) := dk_182 0 64 (dk_at dksX2_feastComes_3 4 rfl rfl)
theorem dX2_feastComes_79 : decode cX2_feastComes 79 = .ok (.iload_n 3, 1) := dk_29 (dk_at dksX2_feastComes_3 7 rfl rfl)
theorem dX2_feastComes_80 : decode cX2_feastComes 80 = .ok (.iadd, 1) := dk_96 (dk_at dksX2_feastComes_3 8 rfl rfl)
theorem dX2_feastComes_81 : decode cX2_feastComes 81 = .ok (.invokevirtual 76, 3) := dk_182 0 76 (dk_at dksX2_feastComes_3 9 rfl rfl)
theorem dX2_feastComes_84 : decode cX2_feastComes 84 = .ok (.iinc 4 1, 3) := dk_132 4 1 (dk_at dksX2_feastComes_3 12 rfl rfl)
theorem dX2_feastComes_87 : decode cX2_feastComes 87 = .ok (.goto (-41), 3) := dk_167 255 215 (dk_at dksX2_feastComes_3 15 rfl rfl)
theorem dX2_feastComes_90 : decode cX2_feastComes 90 = .ok (.aload_n 0, 1) := dk_42 (dk_at dksX2_feastComes_3 18 rfl rfl)
theorem dX2_feastComes_91 : decode cX2_feastComes 91 = .ok (.getfield 7, 3) := dk_180 0 7 (dk_at dksX2_feastComes_3 19 rfl rfl)
theorem dX2_feastComes_94 : decode cX2_feastComes 94 = .ok (.iconst 3, 1) := dk_6 (dk_at dksX2_feastComes_3 22 rfl rfl)
theorem dX2_feastComes_95 : decode cX2_feastComes 95 = .ok (.dup2, 1) := dk_92 (dk_at dksX2_feastComes_3 23 rfl rfl)
theorem dX2_feastComes_96 : decode cX2_feastComes 96 = .ok (.iaload, 1) := dk_46 (dk_at dksX2_feastComes_4 0 rfl rfl)
theorem dX2_feastComes_97 : decode cX2_feastComes 97 = .ok (.iload_n 3, 1) := dk_29 (dk_at dksX2_feastComes_4 1 rfl rfl)
theorem dX2_feastComes_98 : decode cX2_feastComes 98 = .ok (.iload_n 1, 1) := dk_27 (dk_at dksX2_feastComes_4 2 rfl rfl)
theorem dX2_feastComes_99 : decode cX2_feastComes 99 = .ok (.imul, 1) := dk_104 (dk_at dksX2_feastComes_4 3 rfl rfl)
theorem dX2_feastComes_100 : decode cX2_feastComes 100 = .ok (.isub, 1) := dk_100 (dk_at dksX2_feastComes_4 4 rfl rfl)
theorem dX2_feastComes_101 : decode cX2_feastComes 101 = .ok (.iastore, 1) := dk_79 (dk_at dksX2_feastComes_4 5 rfl rfl)
theorem dX2_feastComes_102 : decode cX2_feastComes 102 = .ok (.aload_n 0, 1) := dk_42 (dk_at dksX2_feastComes_4 6 rfl rfl)
theorem dX2_feastComes_103 : decode cX2_feastComes 103 = .ok (.getfield 7, 3) := dk_180 0 7 (dk_at dksX2_feastComes_4 7 rfl rfl)
theorem dX2_feastComes_106 : decode cX2_feastComes 106 = .ok (.iconst 5, 1) := dk_8 (dk_at dksX2_feastComes_4 10 rfl rfl)
theorem dX2_feastComes_107 : decode cX2_feastComes 107 = .ok (.dup2, 1) := dk_92 (dk_at dksX2_feastComes_4 11 rfl rfl)
theorem dX2_feastComes_108 : decode cX2_feastComes 108 = .ok (.iaload, 1) := dk_46 (dk_at dksX2_feastComes_4 12 rfl rfl)
theorem dX2_feastComes_109 : decode cX2_feastComes 109 = .ok (.iload_n 3, 1) := dk_29 (dk_at dksX2_feastComes_4 13 rfl rfl)
theorem dX2_feastComes_110 : decode cX2_feastComes 110 = .ok (.iload_n 1, 1) := dk_27 (dk_at dksX2_feastComes_4 14 rfl rfl)
theorem dX2_feastComes_111 : decode cX2_feastComes 111 = .ok (.imul, 1) := dk_104 (dk_at dksX2_feastComes_4 15 rfl rfl)
theorem dX2_feastComes_112 : decode cX2_feastComes 112 = .ok (.iadd, 1) := dk_96 (dk_at dksX2_feastComes_4 16 rfl rfl)
theorem dX2_feastComes_113 : decode cX2_feastComes 113 = .ok (.iastore, 1) := dk_79 (dk_at dksX2_feastComes_4 17 rfl rfl)
theorem dX2_feastComes_114 : decode cX2_feastComes 114 = .ok (.iload_n 3, 1) := dk_29 (dk_at dksX2_feastComes_4 18 rfl rfl)
theorem dX2_feastComes_115 : decode cX2_feastComes 115 = .ok (.iload_n 1, 1) := dk_27 (dk_at dksX2_feastComes_4 19 rfl rfl)
theorem dX2_feastComes_116 : decode cX2_feastComes 116 = .ok (.imul, 1) := dk_104 (dk_at dksX2_feastComes_4 20 rfl rfl)
theorem dX2_feastComes_117 : decode cX2_feastComes 117 = .ok (.ireturn, 1) := dk_172 (dk_at dksX2_feastComes_4 21 rfl rfl)
abbrev cX2_entitledMany : ByteArray := prog_13_method_49_code
def yX2_entitledMany : MethodName := ⟨RX2, "entitledMany", "()I"⟩
def dkwX2_entitledMany_1 : List UInt8 := [167, 0, 4, 3, 96, 60, 132, 2, 1, 167, 255, 227, 27, 172]
abbrev dktX2_entitledMany_1 : List UInt8 := dkwX2_entitledMany_1 ++ []
def dkwX2_entitledMany_0 : List UInt8 := [3, 60, 3, 61, 28, 42, 180, 0, 7, 5, 46, 162, 0, 25, 27, 42, 28, 182, 0, 167, 153, 0, 7, 4]
abbrev dktX2_entitledMany_0 : List UInt8 := dkwX2_entitledMany_0 ++ dktX2_entitledMany_1
theorem dksX2_entitledMany_0 : cX2_entitledMany.data.toList.drop 0 = dktX2_entitledMany_0 := by decide +kernel
theorem dksX2_entitledMany_1 : cX2_entitledMany.data.toList.drop 24 = dktX2_entitledMany_1 := dk_seg dksX2_entitledMany_0 24 rfl rfl
theorem dX2_entitledMany_0 : decode cX2_entitledMany 0 = .ok (.iconst 0, 1) := dk_3 (dk_at dksX2_entitledMany_0 0 rfl rfl)
theorem dX2_entitledMany_1 : decode cX2_entitledMany 1 = .ok (.istore_n 1, 1) := dk_60 (dk_at dksX2_entitledMany_0 1 rfl rfl)
theorem dX2_entitledMany_2 : decode cX2_entitledMany 2 = .ok (.iconst 0, 1) := dk_3 (dk_at dksX2_entitledMany_0 2 rfl rfl)
theorem dX2_entitledMany_3 : decode cX2_entitledMany 3 = .ok (.istore_n 2, 1) := dk_61 (dk_at dksX2_entitledMany_0 3 rfl rfl)
theorem dX2_entitledMany_4 : decode cX2_entitledMany 4 = .ok (.iload_n 2, 1) := dk_28 (dk_at dksX2_entitledMany_0 4 rfl rfl)
theorem dX2_entitledMany_5 : decode cX2_entitledMany 5 = .ok (.aload_n 0, 1) := dk_42 (dk_at dksX2_entitledMany_0 5 rfl rfl)
theorem dX2_entitledMany_6 : decode cX2_entitledMany 6 = .ok (.getfield 7, 3) := dk_180 0 7 (dk_at dksX2_entitledMany_0 6 rfl rfl)
theorem dX2_entitledMany_9 : decode cX2_entitledMany 9 = .ok (.iconst 2, 1) := dk_5 (dk_at dksX2_entitledMany_0 9 rfl rfl)
theorem dX2_entitledMany_10 : decode cX2_entitledMany 10 = .ok (.iaload, 1) := dk_46 (dk_at dksX2_entitledMany_0 10 rfl rfl)
theorem dX2_entitledMany_11 : decode cX2_entitledMany 11 = .ok (.if_icmp .ge 25, 3) := dk_162 0 25 (dk_at dksX2_entitledMany_0 11 rfl rfl)
theorem dX2_entitledMany_14 : decode cX2_entitledMany 14 = .ok (.iload_n 1, 1) := dk_27 (dk_at dksX2_entitledMany_0 14 rfl rfl)
theorem dX2_entitledMany_15 : decode cX2_entitledMany 15 = .ok (.aload_n 0, 1) := dk_42 (dk_at dksX2_entitledMany_0 15 rfl rfl)
theorem dX2_entitledMany_16 : decode cX2_entitledMany 16 = .ok (.iload_n 2, 1) := dk_28 (dk_at dksX2_entitledMany_0 16 rfl rfl)
theorem dX2_entitledMany_17 : decode cX2_entitledMany 17 = .ok (.invokevirtual 167, 3) := dk_182 0 167 (dk_at dksX2_entitledMany_0 17 rfl rfl)
theorem dX2_entitledMany_20 : decode cX2_entitledMany 20 = .ok (.ifCond .eq 7, 3) := dk_153 0 7 (dk_at dksX2_entitledMany_0 20 rfl rfl)
theorem dX2_entitledMany_23 : decode cX2_entitledMany 23 = .ok (.iconst 1, 1) := dk_4 (dk_at dksX2_entitledMany_0 23 rfl rfl)
theorem dX2_entitledMany_24 : decode cX2_entitledMany 24 = .ok (.goto 4, 3) := dk_167 0 4 (dk_at dksX2_entitledMany_1 0 rfl rfl)
theorem dX2_entitledMany_27 : decode cX2_entitledMany 27 = .ok (.iconst 0, 1) := dk_3 (dk_at dksX2_entitledMany_1 3 rfl rfl)
theorem dX2_entitledMany_28 : decode cX2_entitledMany 28 = .ok (.iadd, 1) := dk_96 (dk_at dksX2_entitledMany_1 4 rfl rfl)
theorem dX2_entitledMany_29 : decode cX2_entitledMany 29 = .ok (.istore_n 1, 1) := dk_60 (dk_at dksX2_entitledMany_1 5 rfl rfl)
theorem dX2_entitledMany_30 : decode cX2_entitledMany 30 = .ok (.iinc 2 1, 3) := dk_132 2 1 (dk_at dksX2_entitledMany_1 6 rfl rfl)
theorem dX2_entitledMany_33 : decode cX2_entitledMany 33 = .ok (.goto (-29), 3) := dk_167 255 227 (dk_at dksX2_entitledMany_1 9 rfl rfl)
theorem dX2_entitledMany_36 : decode cX2_entitledMany 36 = .ok (.iload_n 1, 1) := dk_27 (dk_at dksX2_entitledMany_1 12 rfl rfl)
theorem dX2_entitledMany_37 : decode cX2_entitledMany 37 = .ok (.ireturn, 1) := dk_172 (dk_at dksX2_entitledMany_1 13 rfl rfl)
abbrev cX2_isEntitled : ByteArray := prog_13_method_48_code
def yX2_isEntitled : MethodName := ⟨RX2, "isEntitled", "(I)Z"⟩
def dkwX2_isEntitled_0 : List UInt8 := [42, 27, 4, 182, 0, 68, 153, 0, 16, 42, 27, 8, 182, 0, 64, 154, 0, 7, 4, 167, 0, 4, 3, 172]
abbrev dktX2_isEntitled_0 : List UInt8 := dkwX2_isEntitled_0 ++ []
theorem dksX2_isEntitled_0 : cX2_isEntitled.data.toList.drop 0 = dktX2_isEntitled_0 := by decide +kernel
theorem dX2_isEntitled_0 : decode cX2_isEntitled 0 = .ok (.aload_n 0, 1) := dk_42 (dk_at dksX2_isEntitled_0 0 rfl rfl)
theorem dX2_isEntitled_1 : decode cX2_isEntitled 1 = .ok (.iload_n 1, 1) := dk_27 (dk_at dksX2_isEntitled_0 1 rfl rfl)
theorem dX2_isEntitled_2 : decode cX2_isEntitled 2 = .ok (.iconst 1, 1) := dk_4 (dk_at dksX2_isEntitled_0 2 rfl rfl)
theorem dX2_isEntitled_3 : decode cX2_isEntitled 3 = .ok (.invokevirtual 68, 3) := dk_182 0 68 (dk_at dksX2_isEntitled_0 3 rfl rfl)
theorem dX2_isEntitled_6 : decode cX2_isEntitled 6 = .ok (.ifCond .eq 16, 3) := dk_153 0 16 (dk_at dksX2_isEntitled_0 6 rfl rfl)
theorem dX2_isEntitled_9 : decode cX2_isEntitled 9 = .ok (.aload_n 0, 1) := dk_42 (dk_at dksX2_isEntitled_0 9 rfl rfl)
theorem dX2_isEntitled_10 : decode cX2_isEntitled 10 = .ok (.iload_n 1, 1) := dk_27 (dk_at dksX2_isEntitled_0 10 rfl rfl)
theorem dX2_isEntitled_11 : decode cX2_isEntitled 11 = .ok (.iconst 5, 1) := dk_8 (dk_at dksX2_isEntitled_0 11 rfl rfl)
theorem dX2_isEntitled_12 : decode cX2_isEntitled 12 = .ok (.invokevirtual 64, 3) := dk_182 0 64 (dk_at dksX2_isEntitled_0 12 rfl rfl)
theorem dX2_isEntitled_15 : decode cX2_isEntitled 15 = .ok (.ifCond .ne 7, 3) := dk_154 0 7 (dk_at dksX2_isEntitled_0 15 rfl rfl)
theorem dX2_isEntitled_18 : decode cX2_isEntitled 18 = .ok (.iconst 1, 1) := dk_4 (dk_at dksX2_isEntitled_0 18 rfl rfl)
theorem dX2_isEntitled_19 : decode cX2_isEntitled 19 = .ok (.goto 4, 3) := dk_167 0 4 (dk_at dksX2_isEntitled_0 19 rfl rfl)
theorem dX2_isEntitled_22 : decode cX2_isEntitled 22 = .ok (.iconst 0, 1) := dk_3 (dk_at dksX2_isEntitled_0 22 rfl rfl)
theorem dX2_isEntitled_23 : decode cX2_isEntitled 23 = .ok (.ireturn, 1) := dk_172 (dk_at dksX2_isEntitled_0 23 rfl rfl)
abbrev cX2_yearBegins : ByteArray := prog_13_method_54_code
def yX2_yearBegins : MethodName := ⟨RX2, "yearBegins", "()V"⟩
def dkwX2_yearBegins_8 : List UInt8 := [177]
abbrev dktX2_yearBegins_8 : List UInt8 := dkwX2_yearBegins_8 ++ []
def dkwX2_yearBegins_7 : List UInt8 := [16, 8, 96, 79, 42, 180, 0, 7, 16, 7, 92, 46, 4, 96, 79, 42, 3, 182, 0, 180, 60, 167, 255, 184]
abbrev dktX2_yearBegins_7 : List UInt8 := dkwX2_yearBegins_7 ++ dktX2_yearBegins_8
def dkwX2_yearBegins_6 : List UInt8 := [3, 182, 0, 76, 42, 180, 0, 7, 6, 92, 46, 16, 8, 100, 79, 42, 180, 0, 7, 16, 6, 92, 46]
abbrev dktX2_yearBegins_6 : List UInt8 := dkwX2_yearBegins_6 ++ dktX2_yearBegins_7
def dkwX2_yearBegins_5 : List UInt8 := [42, 27, 7, 182, 0, 64, 5, 161, 0, 64, 42, 180, 0, 7, 6, 46, 16, 8, 161, 0, 53, 42, 27, 7]
abbrev dktX2_yearBegins_5 : List UInt8 := dkwX2_yearBegins_5 ++ dktX2_yearBegins_6
def dkwX2_yearBegins_4 : List UInt8 := [167, 0, 4, 3, 96, 182, 0, 76, 132, 1, 1, 167, 255, 180, 42, 3, 182, 0, 180, 60, 27, 155, 0, 74]
abbrev dktX2_yearBegins_4 : List UInt8 := dkwX2_yearBegins_4 ++ dktX2_yearBegins_5
def dkwX2_yearBegins_3 : List UInt8 := [182, 0, 76, 42, 27, 7, 42, 27, 7, 182, 0, 64, 42, 27, 4, 182, 0, 68, 153, 0, 7, 4]
abbrev dktX2_yearBegins_3 : List UInt8 := dkwX2_yearBegins_3 ++ dktX2_yearBegins_4
def dkwX2_yearBegins_2 : List UInt8 := [3, 182, 0, 68, 154, 0, 12, 42, 27, 4, 182, 0, 68, 153, 0, 7, 4, 167, 0, 4, 3, 96]
abbrev dktX2_yearBegins_2 : List UInt8 := dkwX2_yearBegins_2 ++ dktX2_yearBegins_3
def dkwX2_yearBegins_1 : List UInt8 := [79, 3, 60, 27, 42, 180, 0, 7, 5, 46, 162, 0, 72, 42, 27, 3, 42, 27, 3, 182, 0, 64, 42, 27]
abbrev dktX2_yearBegins_1 : List UInt8 := dkwX2_yearBegins_1 ++ dktX2_yearBegins_2
def dkwX2_yearBegins_0 : List UInt8 := [42, 180, 0, 7, 4, 3, 79, 42, 180, 0, 7, 3, 92, 46, 4, 96, 79, 42, 180, 0, 7, 16, 8, 3]
abbrev dktX2_yearBegins_0 : List UInt8 := dkwX2_yearBegins_0 ++ dktX2_yearBegins_1
theorem dksX2_yearBegins_0 : cX2_yearBegins.data.toList.drop 0 = dktX2_yearBegins_0 := by decide +kernel
theorem dksX2_yearBegins_1 : cX2_yearBegins.data.toList.drop 24 = dktX2_yearBegins_1 := dk_seg dksX2_yearBegins_0 24 rfl rfl
theorem dksX2_yearBegins_2 : cX2_yearBegins.data.toList.drop 48 = dktX2_yearBegins_2 := dk_seg dksX2_yearBegins_1 24 rfl rfl
theorem dksX2_yearBegins_3 : cX2_yearBegins.data.toList.drop 70 = dktX2_yearBegins_3 := dk_seg dksX2_yearBegins_2 22 rfl rfl
theorem dksX2_yearBegins_4 : cX2_yearBegins.data.toList.drop 92 = dktX2_yearBegins_4 := dk_seg dksX2_yearBegins_3 22 rfl rfl
theorem dksX2_yearBegins_5 : cX2_yearBegins.data.toList.drop 116 = dktX2_yearBegins_5 := dk_seg dksX2_yearBegins_4 24 rfl rfl
theorem dksX2_yearBegins_6 : cX2_yearBegins.data.toList.drop 140 = dktX2_yearBegins_6 := dk_seg dksX2_yearBegins_5 24 rfl rfl
theorem dksX2_yearBegins_7 : cX2_yearBegins.data.toList.drop 163 = dktX2_yearBegins_7 := dk_seg dksX2_yearBegins_6 23 rfl rfl
theorem dksX2_yearBegins_8 : cX2_yearBegins.data.toList.drop 187 = dktX2_yearBegins_8 := dk_seg dksX2_yearBegins_7 24 rfl rfl
theorem dX2_yearBegins_0 : decode cX2_yearBegins 0 = .ok (.aload_n 0, 1) := dk_42 (dk_at dksX2_yearBegins_0 0 rfl rfl)
theorem dX2_yearBegins_1 : decode cX2_yearBegins 1 = .ok (.getfield 7, 3) := dk_180 0 7 (dk_at dksX2_yearBegins_0 1 rfl rfl)
theorem dX2_yearBegins_4 : decode cX2_yearBegins 4 = .ok (.iconst 1, 1) := dk_4 (dk_at dksX2_yearBegins_0 4 rfl rfl)
theorem dX2_yearBegins_5 : decode cX2_yearBegins 5 = .ok (.iconst 0, 1) := dk_3 (dk_at dksX2_yearBegins_0 5 rfl rfl)
theorem dX2_yearBegins_6 : decode cX2_yearBegins 6 = .ok (.iastore, 1) := dk_79 (dk_at dksX2_yearBegins_0 6 rfl rfl)
theorem dX2_yearBegins_7 : decode cX2_yearBegins 7 = .ok (.aload_n 0, 1) := dk_42 (dk_at dksX2_yearBegins_0 7 rfl rfl)
theorem dX2_yearBegins_8 : decode cX2_yearBegins 8 = .ok (.getfield 7, 3) := dk_180 0 7 (dk_at dksX2_yearBegins_0 8 rfl rfl)
theorem dX2_yearBegins_11 : decode cX2_yearBegins 11 = .ok (.iconst 0, 1) := dk_3 (dk_at dksX2_yearBegins_0 11 rfl rfl)
theorem dX2_yearBegins_12 : decode cX2_yearBegins 12 = .ok (.dup2, 1) := dk_92 (dk_at dksX2_yearBegins_0 12 rfl rfl)
theorem dX2_yearBegins_13 : decode cX2_yearBegins 13 = .ok (.iaload, 1) := dk_46 (dk_at dksX2_yearBegins_0 13 rfl rfl)
theorem dX2_yearBegins_14 : decode cX2_yearBegins 14 = .ok (.iconst 1, 1) := dk_4 (dk_at dksX2_yearBegins_0 14 rfl rfl)
theorem dX2_yearBegins_15 : decode cX2_yearBegins 15 = .ok (.iadd, 1) := dk_96 (dk_at dksX2_yearBegins_0 15 rfl rfl)
theorem dX2_yearBegins_16 : decode cX2_yearBegins 16 = .ok (.iastore, 1) := dk_79 (dk_at dksX2_yearBegins_0 16 rfl rfl)
theorem dX2_yearBegins_17 : decode cX2_yearBegins 17 = .ok (.aload_n 0, 1) := dk_42 (dk_at dksX2_yearBegins_0 17 rfl rfl)
theorem dX2_yearBegins_18 : decode cX2_yearBegins 18 = .ok (.getfield 7, 3) := dk_180 0 7 (dk_at dksX2_yearBegins_0 18 rfl rfl)
theorem dX2_yearBegins_21 : decode cX2_yearBegins 21 = .ok (.bipush 8, 2) := dk_16 8 (dk_at dksX2_yearBegins_0 21 rfl rfl)
theorem dX2_yearBegins_23 : decode cX2_yearBegins 23 = .ok (.iconst 0, 1) := dk_3 (dk_at dksX2_yearBegins_0 23 rfl rfl)
theorem dX2_yearBegins_24 : decode cX2_yearBegins 24 = .ok (.iastore, 1) := dk_79 (dk_at dksX2_yearBegins_1 0 rfl rfl)
theorem dX2_yearBegins_25 : decode cX2_yearBegins 25 = .ok (.iconst 0, 1) := dk_3 (dk_at dksX2_yearBegins_1 1 rfl rfl)
theorem dX2_yearBegins_26 : decode cX2_yearBegins 26 = .ok (.istore_n 1, 1) := dk_60 (dk_at dksX2_yearBegins_1 2 rfl rfl)
theorem dX2_yearBegins_27 : decode cX2_yearBegins 27 = .ok (.iload_n 1, 1) := dk_27 (dk_at dksX2_yearBegins_1 3 rfl rfl)
theorem dX2_yearBegins_28 : decode cX2_yearBegins 28 = .ok (.aload_n 0, 1) := dk_42 (dk_at dksX2_yearBegins_1 4 rfl rfl)
theorem dX2_yearBegins_29 : decode cX2_yearBegins 29 = .ok (.getfield 7, 3) := dk_180 0 7 (dk_at dksX2_yearBegins_1 5 rfl rfl)
theorem dX2_yearBegins_32 : decode cX2_yearBegins 32 = .ok (.iconst 2, 1) := dk_5 (dk_at dksX2_yearBegins_1 8 rfl rfl)
theorem dX2_yearBegins_33 : decode cX2_yearBegins 33 = .ok (.iaload, 1) := dk_46 (dk_at dksX2_yearBegins_1 9 rfl rfl)
theorem dX2_yearBegins_34 : decode cX2_yearBegins 34 = .ok (.if_icmp .ge 72, 3) := dk_162 0 72 (dk_at dksX2_yearBegins_1 10 rfl rfl)
theorem dX2_yearBegins_37 : decode cX2_yearBegins 37 = .ok (.aload_n 0, 1) := dk_42 (dk_at dksX2_yearBegins_1 13 rfl rfl)
theorem dX2_yearBegins_38 : decode cX2_yearBegins 38 = .ok (.iload_n 1, 1) := dk_27 (dk_at dksX2_yearBegins_1 14 rfl rfl)
theorem dX2_yearBegins_39 : decode cX2_yearBegins 39 = .ok (.iconst 0, 1) := dk_3 (dk_at dksX2_yearBegins_1 15 rfl rfl)
theorem dX2_yearBegins_40 : decode cX2_yearBegins 40 = .ok (.aload_n 0, 1) := dk_42 (dk_at dksX2_yearBegins_1 16 rfl rfl)
theorem dX2_yearBegins_41 : decode cX2_yearBegins 41 = .ok (.iload_n 1, 1) := dk_27 (dk_at dksX2_yearBegins_1 17 rfl rfl)
theorem dX2_yearBegins_42 : decode cX2_yearBegins 42 = .ok (.iconst 0, 1) := dk_3 (dk_at dksX2_yearBegins_1 18 rfl rfl)
theorem dX2_yearBegins_43 : decode cX2_yearBegins 43 = .ok (.invokevirtual 64, 3) := dk_182 0 64 (dk_at dksX2_yearBegins_1 19 rfl rfl)
theorem dX2_yearBegins_46 : decode cX2_yearBegins 46 = .ok (.aload_n 0, 1) := dk_42 (dk_at dksX2_yearBegins_1 22 rfl rfl)
theorem dX2_yearBegins_47 : decode cX2_yearBegins 47 = .ok (.iload_n 1, 1) := dk_27 (dk_at dksX2_yearBegins_1 23 rfl rfl)
theorem dX2_yearBegins_48 : decode cX2_yearBegins 48 = .ok (.iconst 0, 1) := dk_3 (dk_at dksX2_yearBegins_2 0 rfl rfl)
theorem dX2_yearBegins_49 : decode cX2_yearBegins 49 = .ok (.invokevirtual 68, 3) := dk_182 0 68 (dk_at dksX2_yearBegins_2 1 rfl rfl)
theorem dX2_yearBegins_52 : decode cX2_yearBegins 52 = .ok (.ifCond .ne 12, 3) := dk_154 0 12 (dk_at dksX2_yearBegins_2 4 rfl rfl)
theorem dX2_yearBegins_55 : decode cX2_yearBegins 55 = .ok (.aload_n 0, 1) := dk_42 (dk_at dksX2_yearBegins_2 7 rfl rfl)
theorem dX2_yearBegins_56 : decode cX2_yearBegins 56 = .ok (.iload_n 1, 1) := dk_27 (dk_at dksX2_yearBegins_2 8 rfl rfl)
theorem dX2_yearBegins_57 : decode cX2_yearBegins 57 = .ok (.iconst 1, 1) := dk_4 (dk_at dksX2_yearBegins_2 9 rfl rfl)
theorem dX2_yearBegins_58 : decode cX2_yearBegins 58 = .ok (.invokevirtual 68, 3) := dk_182 0 68 (dk_at dksX2_yearBegins_2 10 rfl rfl)
theorem dX2_yearBegins_61 : decode cX2_yearBegins 61 = .ok (.ifCond .eq 7, 3) := dk_153 0 7 (dk_at dksX2_yearBegins_2 13 rfl rfl)
theorem dX2_yearBegins_64 : decode cX2_yearBegins 64 = .ok (.iconst 1, 1) := dk_4 (dk_at dksX2_yearBegins_2 16 rfl rfl)
theorem dX2_yearBegins_65 : decode cX2_yearBegins 65 = .ok (.goto 4, 3) := dk_167 0 4 (dk_at dksX2_yearBegins_2 17 rfl rfl)
theorem dX2_yearBegins_68 : decode cX2_yearBegins 68 = .ok (.iconst 0, 1) := dk_3 (dk_at dksX2_yearBegins_2 20 rfl rfl)
theorem dX2_yearBegins_69 : decode cX2_yearBegins 69 = .ok (.iadd, 1) := dk_96 (dk_at dksX2_yearBegins_2 21 rfl rfl)
theorem dX2_yearBegins_70 : decode cX2_yearBegins 70 = .ok (.invokevirtual 76, 3) := dk_182 0 76 (dk_at dksX2_yearBegins_3 0 rfl rfl)
theorem dX2_yearBegins_73 : decode cX2_yearBegins 73 = .ok (.aload_n 0, 1) := dk_42 (dk_at dksX2_yearBegins_3 3 rfl rfl)
theorem dX2_yearBegins_74 : decode cX2_yearBegins 74 = .ok (.iload_n 1, 1) := dk_27 (dk_at dksX2_yearBegins_3 4 rfl rfl)
theorem dX2_yearBegins_75 : decode cX2_yearBegins 75 = .ok (.iconst 4, 1) := dk_7 (dk_at dksX2_yearBegins_3 5 rfl rfl)
theorem dX2_yearBegins_76 : decode cX2_yearBegins 76 = .ok (.aload_n 0, 1) := dk_42 (dk_at dksX2_yearBegins_3 6 rfl rfl)
theorem dX2_yearBegins_77 : decode cX2_yearBegins 77 = .ok (.iload_n 1, 1) := dk_27 (dk_at dksX2_yearBegins_3 7 rfl rfl)
theorem dX2_yearBegins_78 : decode cX2_yearBegins 78 = .ok (.iconst 4, 1) := dk_7 (dk_at dksX2_yearBegins_3 8 rfl rfl)
theorem dX2_yearBegins_79 : decode cX2_yearBegins 79 = .ok (.invokevirtual 64, 3) := dk_182 0 64 (dk_at dksX2_yearBegins_3 9 rfl rfl)
theorem dX2_yearBegins_82 : decode cX2_yearBegins 82 = .ok (.aload_n 0, 1) := dk_42 (dk_at dksX2_yearBegins_3 12 rfl rfl)
theorem dX2_yearBegins_83 : decode cX2_yearBegins 83 = .ok (.iload_n 1, 1) := dk_27 (dk_at dksX2_yearBegins_3 13 rfl rfl)
theorem dX2_yearBegins_84 : decode cX2_yearBegins 84 = .ok (.iconst 1, 1) := dk_4 (dk_at dksX2_yearBegins_3 14 rfl rfl)
theorem dX2_yearBegins_85 : decode cX2_yearBegins 85 = .ok (.invokevirtual 68, 3) := dk_182 0 68 (dk_at dksX2_yearBegins_3 15 rfl rfl)
theorem dX2_yearBegins_88 : decode cX2_yearBegins 88 = .ok (.ifCond .eq 7, 3) := dk_153 0 7 (dk_at dksX2_yearBegins_3 18 rfl rfl)
theorem dX2_yearBegins_91 : decode cX2_yearBegins 91 = .ok (.iconst 1, 1) := dk_4 (dk_at dksX2_yearBegins_3 21 rfl rfl)
theorem dX2_yearBegins_92 : decode cX2_yearBegins 92 = .ok (.goto 4, 3) := dk_167 0 4 (dk_at dksX2_yearBegins_4 0 rfl rfl)
theorem dX2_yearBegins_95 : decode cX2_yearBegins 95 = .ok (.iconst 0, 1) := dk_3 (dk_at dksX2_yearBegins_4 3 rfl rfl)
theorem dX2_yearBegins_96 : decode cX2_yearBegins 96 = .ok (.iadd, 1) := dk_96 (dk_at dksX2_yearBegins_4 4 rfl rfl)
theorem dX2_yearBegins_97 : decode cX2_yearBegins 97 = .ok (.invokevirtual 76, 3) := dk_182 0 76 (dk_at dksX2_yearBegins_4 5 rfl rfl)
theorem dX2_yearBegins_100 : decode cX2_yearBegins 100 = .ok (.iinc 1 1, 3) := dk_132 1 1 (dk_at dksX2_yearBegins_4 8 rfl rfl)
theorem dX2_yearBegins_103 : decode cX2_yearBegins 103 = .ok (.goto (-76), 3) := dk_167 255 180 (dk_at dksX2_yearBegins_4 11 rfl rfl)
theorem dX2_yearBegins_106 : decode cX2_yearBegins 106 = .ok (.aload_n 0, 1) := dk_42 (dk_at dksX2_yearBegins_4 14 rfl rfl)
theorem dX2_yearBegins_107 : decode cX2_yearBegins 107 = .ok (.iconst 0, 1) := dk_3 (dk_at dksX2_yearBegins_4 15 rfl rfl)
theorem dX2_yearBegins_108 : decode cX2_yearBegins 108 = .ok (.invokevirtual 180, 3) := dk_182 0 180 (dk_at dksX2_yearBegins_4 16 rfl rfl)
theorem dX2_yearBegins_111 : decode cX2_yearBegins 111 = .ok (.istore_n 1, 1) := dk_60 (dk_at dksX2_yearBegins_4 19 rfl rfl)
theorem dX2_yearBegins_112 : decode cX2_yearBegins 112 = .ok (.iload_n 1, 1) := dk_27 (dk_at dksX2_yearBegins_4 20 rfl rfl)
theorem dX2_yearBegins_113 : decode cX2_yearBegins 113 = .ok (.ifCond .lt 74, 3) := dk_155 0 74 (dk_at dksX2_yearBegins_4 21 rfl rfl)
theorem dX2_yearBegins_116 : decode cX2_yearBegins 116 = .ok (.aload_n 0, 1) := dk_42 (dk_at dksX2_yearBegins_5 0 rfl rfl)
theorem dX2_yearBegins_117 : decode cX2_yearBegins 117 = .ok (.iload_n 1, 1) := dk_27 (dk_at dksX2_yearBegins_5 1 rfl rfl)
theorem dX2_yearBegins_118 : decode cX2_yearBegins 118 = .ok (.iconst 4, 1) := dk_7 (dk_at dksX2_yearBegins_5 2 rfl rfl)
theorem dX2_yearBegins_119 : decode cX2_yearBegins 119 = .ok (.invokevirtual 64, 3) := dk_182 0 64 (dk_at dksX2_yearBegins_5 3 rfl rfl)
theorem dX2_yearBegins_122 : decode cX2_yearBegins 122 = .ok (.iconst 2, 1) := dk_5 (dk_at dksX2_yearBegins_5 6 rfl rfl)
theorem dX2_yearBegins_123 : decode cX2_yearBegins 123 = .ok (.if_icmp .lt 64, 3) := dk_161 0 64 (dk_at dksX2_yearBegins_5 7 rfl rfl)
theorem dX2_yearBegins_126 : decode cX2_yearBegins 126 = .ok (.aload_n 0, 1) := dk_42 (dk_at dksX2_yearBegins_5 10 rfl rfl)
theorem dX2_yearBegins_127 : decode cX2_yearBegins 127 = .ok (.getfield 7, 3) := dk_180 0 7 (dk_at dksX2_yearBegins_5 11 rfl rfl)
theorem dX2_yearBegins_130 : decode cX2_yearBegins 130 = .ok (.iconst 3, 1) := dk_6 (dk_at dksX2_yearBegins_5 14 rfl rfl)
theorem dX2_yearBegins_131 : decode cX2_yearBegins 131 = .ok (.iaload, 1) := dk_46 (dk_at dksX2_yearBegins_5 15 rfl rfl)
theorem dX2_yearBegins_132 : decode cX2_yearBegins 132 = .ok (.bipush 8, 2) := dk_16 8 (dk_at dksX2_yearBegins_5 16 rfl rfl)
theorem dX2_yearBegins_134 : decode cX2_yearBegins 134 = .ok (.if_icmp .lt 53, 3) := dk_161 0 53 (dk_at dksX2_yearBegins_5 18 rfl rfl)
theorem dX2_yearBegins_137 : decode cX2_yearBegins 137 = .ok (.aload_n 0, 1) := dk_42 (dk_at dksX2_yearBegins_5 21 rfl rfl)
theorem dX2_yearBegins_138 : decode cX2_yearBegins 138 = .ok (.iload_n 1, 1) := dk_27 (dk_at dksX2_yearBegins_5 22 rfl rfl)
theorem dX2_yearBegins_139 : decode cX2_yearBegins 139 = .ok (.iconst 4, 1) := dk_7 (dk_at dksX2_yearBegins_5 23 rfl rfl)
theorem dX2_yearBegins_140 : decode cX2_yearBegins 140 = .ok (.iconst 0, 1) := dk_3 (dk_at dksX2_yearBegins_6 0 rfl rfl)
theorem dX2_yearBegins_141 : decode cX2_yearBegins 141 = .ok (.invokevirtual 76, 3) := dk_182 0 76 (dk_at dksX2_yearBegins_6 1 rfl rfl)
theorem dX2_yearBegins_144 : decode cX2_yearBegins 144 = .ok (.aload_n 0, 1) := dk_42 (dk_at dksX2_yearBegins_6 4 rfl rfl)
theorem dX2_yearBegins_145 : decode cX2_yearBegins 145 = .ok (.getfield 7, 3) := dk_180 0 7 (dk_at dksX2_yearBegins_6 5 rfl rfl)
theorem dX2_yearBegins_148 : decode cX2_yearBegins 148 = .ok (.iconst 3, 1) := dk_6 (dk_at dksX2_yearBegins_6 8 rfl rfl)
theorem dX2_yearBegins_149 : decode cX2_yearBegins 149 = .ok (.dup2, 1) := dk_92 (dk_at dksX2_yearBegins_6 9 rfl rfl)
theorem dX2_yearBegins_150 : decode cX2_yearBegins 150 = .ok (.iaload, 1) := dk_46 (dk_at dksX2_yearBegins_6 10 rfl rfl)
theorem dX2_yearBegins_151 : decode cX2_yearBegins 151 = .ok (.bipush 8, 2) := dk_16 8 (dk_at dksX2_yearBegins_6 11 rfl rfl)
theorem dX2_yearBegins_153 : decode cX2_yearBegins 153 = .ok (.isub, 1) := dk_100 (dk_at dksX2_yearBegins_6 13 rfl rfl)
theorem dX2_yearBegins_154 : decode cX2_yearBegins 154 = .ok (.iastore, 1) := dk_79 (dk_at dksX2_yearBegins_6 14 rfl rfl)
theorem dX2_yearBegins_155 : decode cX2_yearBegins 155 = .ok (.aload_n 0, 1) := dk_42 (dk_at dksX2_yearBegins_6 15 rfl rfl)
theorem dX2_yearBegins_156 : decode cX2_yearBegins 156 = .ok (.getfield 7, 3) := dk_180 0 7 (dk_at dksX2_yearBegins_6 16 rfl rfl)
theorem dX2_yearBegins_159 : decode cX2_yearBegins 159 = .ok (.bipush 6, 2) := dk_16 6 (dk_at dksX2_yearBegins_6 19 rfl rfl)
theorem dX2_yearBegins_161 : decode cX2_yearBegins 161 = .ok (.dup2, 1) := dk_92 (dk_at dksX2_yearBegins_6 21 rfl rfl)
theorem dX2_yearBegins_162 : decode cX2_yearBegins 162 = .ok (.iaload, 1) := dk_46 (dk_at dksX2_yearBegins_6 22 rfl rfl)
theorem dX2_yearBegins_163 : decode cX2_yearBegins 163 = .ok (.bipush 8, 2) := dk_16 8 (dk_at dksX2_yearBegins_7 0 rfl rfl)
theorem dX2_yearBegins_165 : decode cX2_yearBegins 165 = .ok (.iadd, 1) := dk_96 (dk_at dksX2_yearBegins_7 2 rfl rfl)
theorem dX2_yearBegins_166 : decode cX2_yearBegins 166 = .ok (.iastore, 1) := dk_79 (dk_at dksX2_yearBegins_7 3 rfl rfl)
theorem dX2_yearBegins_167 : decode cX2_yearBegins 167 = .ok (.aload_n 0, 1) := dk_42 (dk_at dksX2_yearBegins_7 4 rfl rfl)
theorem dX2_yearBegins_168 : decode cX2_yearBegins 168 = .ok (.getfield 7, 3) := dk_180 0 7 (dk_at dksX2_yearBegins_7 5 rfl rfl)
theorem dX2_yearBegins_171 : decode cX2_yearBegins 171 = .ok (.bipush 7, 2) := dk_16 7 (dk_at dksX2_yearBegins_7 8 rfl rfl)
theorem dX2_yearBegins_173 : decode cX2_yearBegins 173 = .ok (.dup2, 1) := dk_92 (dk_at dksX2_yearBegins_7 10 rfl rfl)
theorem dX2_yearBegins_174 : decode cX2_yearBegins 174 = .ok (.iaload, 1) := dk_46 (dk_at dksX2_yearBegins_7 11 rfl rfl)
theorem dX2_yearBegins_175 : decode cX2_yearBegins 175 = .ok (.iconst 1, 1) := dk_4 (dk_at dksX2_yearBegins_7 12 rfl rfl)
theorem dX2_yearBegins_176 : decode cX2_yearBegins 176 = .ok (.iadd, 1) := dk_96 (dk_at dksX2_yearBegins_7 13 rfl rfl)
theorem dX2_yearBegins_177 : decode cX2_yearBegins 177 = .ok (.iastore, 1) := dk_79 (dk_at dksX2_yearBegins_7 14 rfl rfl)
theorem dX2_yearBegins_178 : decode cX2_yearBegins 178 = .ok (.aload_n 0, 1) := dk_42 (dk_at dksX2_yearBegins_7 15 rfl rfl)
theorem dX2_yearBegins_179 : decode cX2_yearBegins 179 = .ok (.iconst 0, 1) := dk_3 (dk_at dksX2_yearBegins_7 16 rfl rfl)
theorem dX2_yearBegins_180 : decode cX2_yearBegins 180 = .ok (.invokevirtual 180, 3) := dk_182 0 180 (dk_at dksX2_yearBegins_7 17 rfl rfl)
theorem dX2_yearBegins_183 : decode cX2_yearBegins 183 = .ok (.istore_n 1, 1) := dk_60 (dk_at dksX2_yearBegins_7 20 rfl rfl)
theorem dX2_yearBegins_184 : decode cX2_yearBegins 184 = .ok (.goto (-72), 3) := dk_167 255 184 (dk_at dksX2_yearBegins_7 21 rfl rfl)
theorem dX2_yearBegins_187 : decode cX2_yearBegins 187 = .ok (.return_, 1) := dk_177 (dk_at dksX2_yearBegins_8 0 rfl rfl)
abbrev cX2_shabbyAt : ByteArray := prog_13_method_53_code
def yX2_shabbyAt : MethodName := ⟨RX2, "shabbyAt", "(I)I"⟩
def dkwX2_shabbyAt_3 : List UInt8 := [167, 255, 214, 29, 27, 160, 0, 5, 28, 172, 132, 2, 1, 167, 255, 174, 16, 245, 172]
abbrev dktX2_shabbyAt_3 : List UInt8 := dkwX2_shabbyAt_3 ++ []
def dkwX2_shabbyAt_2 : List UInt8 := [153, 0, 17, 42, 21, 4, 28, 182, 0, 177, 153, 0, 7, 4, 167, 0, 4, 3, 96, 62, 132, 4, 1]
abbrev dktX2_shabbyAt_2 : List UInt8 := dkwX2_shabbyAt_2 ++ dktX2_shabbyAt_3
def dkwX2_shabbyAt_1 : List UInt8 := [3, 62, 3, 54, 4, 21, 4, 42, 180, 0, 7, 5, 46, 162, 0, 37, 29, 42, 21, 4, 4, 182, 0, 68]
abbrev dktX2_shabbyAt_1 : List UInt8 := dkwX2_shabbyAt_1 ++ dktX2_shabbyAt_2
def dkwX2_shabbyAt_0 : List UInt8 := [3, 61, 28, 42, 180, 0, 7, 5, 46, 162, 0, 78, 42, 28, 4, 182, 0, 68, 154, 0, 6, 167, 0, 60]
abbrev dktX2_shabbyAt_0 : List UInt8 := dkwX2_shabbyAt_0 ++ dktX2_shabbyAt_1
theorem dksX2_shabbyAt_0 : cX2_shabbyAt.data.toList.drop 0 = dktX2_shabbyAt_0 := by decide +kernel
theorem dksX2_shabbyAt_1 : cX2_shabbyAt.data.toList.drop 24 = dktX2_shabbyAt_1 := dk_seg dksX2_shabbyAt_0 24 rfl rfl
theorem dksX2_shabbyAt_2 : cX2_shabbyAt.data.toList.drop 48 = dktX2_shabbyAt_2 := dk_seg dksX2_shabbyAt_1 24 rfl rfl
theorem dksX2_shabbyAt_3 : cX2_shabbyAt.data.toList.drop 71 = dktX2_shabbyAt_3 := dk_seg dksX2_shabbyAt_2 23 rfl rfl
theorem dX2_shabbyAt_0 : decode cX2_shabbyAt 0 = .ok (.iconst 0, 1) := dk_3 (dk_at dksX2_shabbyAt_0 0 rfl rfl)
theorem dX2_shabbyAt_1 : decode cX2_shabbyAt 1 = .ok (.istore_n 2, 1) := dk_61 (dk_at dksX2_shabbyAt_0 1 rfl rfl)
theorem dX2_shabbyAt_2 : decode cX2_shabbyAt 2 = .ok (.iload_n 2, 1) := dk_28 (dk_at dksX2_shabbyAt_0 2 rfl rfl)
theorem dX2_shabbyAt_3 : decode cX2_shabbyAt 3 = .ok (.aload_n 0, 1) := dk_42 (dk_at dksX2_shabbyAt_0 3 rfl rfl)
theorem dX2_shabbyAt_4 : decode cX2_shabbyAt 4 = .ok (.getfield 7, 3) := dk_180 0 7 (dk_at dksX2_shabbyAt_0 4 rfl rfl)
theorem dX2_shabbyAt_7 : decode cX2_shabbyAt 7 = .ok (.iconst 2, 1) := dk_5 (dk_at dksX2_shabbyAt_0 7 rfl rfl)
theorem dX2_shabbyAt_8 : decode cX2_shabbyAt 8 = .ok (.iaload, 1) := dk_46 (dk_at dksX2_shabbyAt_0 8 rfl rfl)
theorem dX2_shabbyAt_9 : decode cX2_shabbyAt 9 = .ok (.if_icmp .ge 78, 3) := dk_162 0 78 (dk_at dksX2_shabbyAt_0 9 rfl rfl)
theorem dX2_shabbyAt_12 : decode cX2_shabbyAt 12 = .ok (.aload_n 0, 1) := dk_42 (dk_at dksX2_shabbyAt_0 12 rfl rfl)
theorem dX2_shabbyAt_13 : decode cX2_shabbyAt 13 = .ok (.iload_n 2, 1) := dk_28 (dk_at dksX2_shabbyAt_0 13 rfl rfl)
theorem dX2_shabbyAt_14 : decode cX2_shabbyAt 14 = .ok (.iconst 1, 1) := dk_4 (dk_at dksX2_shabbyAt_0 14 rfl rfl)
theorem dX2_shabbyAt_15 : decode cX2_shabbyAt 15 = .ok (.invokevirtual 68, 3) := dk_182 0 68 (dk_at dksX2_shabbyAt_0 15 rfl rfl)
theorem dX2_shabbyAt_18 : decode cX2_shabbyAt 18 = .ok (.ifCond .ne 6, 3) := dk_154 0 6 (dk_at dksX2_shabbyAt_0 18 rfl rfl)
theorem dX2_shabbyAt_21 : decode cX2_shabbyAt 21 = .ok (.goto 60, 3) := dk_167 0 60 (dk_at dksX2_shabbyAt_0 21 rfl rfl)
theorem dX2_shabbyAt_24 : decode cX2_shabbyAt 24 = .ok (.iconst 0, 1) := dk_3 (dk_at dksX2_shabbyAt_1 0 rfl rfl)
theorem dX2_shabbyAt_25 : decode cX2_shabbyAt 25 = .ok (.istore_n 3, 1) := dk_62 (dk_at dksX2_shabbyAt_1 1 rfl rfl)
theorem dX2_shabbyAt_26 : decode cX2_shabbyAt 26 = .ok (.iconst 0, 1) := dk_3 (dk_at dksX2_shabbyAt_1 2 rfl rfl)
theorem dX2_shabbyAt_27 : decode cX2_shabbyAt 27 = .ok (.istore 4, 2) := dk_54 4 (dk_at dksX2_shabbyAt_1 3 rfl rfl)
theorem dX2_shabbyAt_29 : decode cX2_shabbyAt 29 = .ok (.iload 4, 2) := dk_21 4 (dk_at dksX2_shabbyAt_1 5 rfl rfl)
theorem dX2_shabbyAt_31 : decode cX2_shabbyAt 31 = .ok (.aload_n 0, 1) := dk_42 (dk_at dksX2_shabbyAt_1 7 rfl rfl)
theorem dX2_shabbyAt_32 : decode cX2_shabbyAt 32 = .ok (.getfield 7, 3) := dk_180 0 7 (dk_at dksX2_shabbyAt_1 8 rfl rfl)
theorem dX2_shabbyAt_35 : decode cX2_shabbyAt 35 = .ok (.iconst 2, 1) := dk_5 (dk_at dksX2_shabbyAt_1 11 rfl rfl)
theorem dX2_shabbyAt_36 : decode cX2_shabbyAt 36 = .ok (.iaload, 1) := dk_46 (dk_at dksX2_shabbyAt_1 12 rfl rfl)
theorem dX2_shabbyAt_37 : decode cX2_shabbyAt 37 = .ok (.if_icmp .ge 37, 3) := dk_162 0 37 (dk_at dksX2_shabbyAt_1 13 rfl rfl)
theorem dX2_shabbyAt_40 : decode cX2_shabbyAt 40 = .ok (.iload_n 3, 1) := dk_29 (dk_at dksX2_shabbyAt_1 16 rfl rfl)
theorem dX2_shabbyAt_41 : decode cX2_shabbyAt 41 = .ok (.aload_n 0, 1) := dk_42 (dk_at dksX2_shabbyAt_1 17 rfl rfl)
theorem dX2_shabbyAt_42 : decode cX2_shabbyAt 42 = .ok (.iload 4, 2) := dk_21 4 (dk_at dksX2_shabbyAt_1 18 rfl rfl)
theorem dX2_shabbyAt_44 : decode cX2_shabbyAt 44 = .ok (.iconst 1, 1) := dk_4 (dk_at dksX2_shabbyAt_1 20 rfl rfl)
theorem dX2_shabbyAt_45 : decode cX2_shabbyAt 45 = .ok (.invokevirtual 68, 3) := dk_182 0 68 (dk_at dksX2_shabbyAt_1 21 rfl rfl)
theorem dX2_shabbyAt_48 : decode cX2_shabbyAt 48 = .ok (.ifCond .eq 17, 3) := dk_153 0 17 (dk_at dksX2_shabbyAt_2 0 rfl rfl)
theorem dX2_shabbyAt_51 : decode cX2_shabbyAt 51 = .ok (.aload_n 0, 1) := dk_42 (dk_at dksX2_shabbyAt_2 3 rfl rfl)
theorem dX2_shabbyAt_52 : decode cX2_shabbyAt 52 = .ok (.iload 4, 2) := dk_21 4 (dk_at dksX2_shabbyAt_2 4 rfl rfl)
theorem dX2_shabbyAt_54 : decode cX2_shabbyAt 54 = .ok (.iload_n 2, 1) := dk_28 (dk_at dksX2_shabbyAt_2 6 rfl rfl)
theorem dX2_shabbyAt_55 : decode cX2_shabbyAt 55 = .ok (.invokevirtual 177, 3) := dk_182 0 177 (dk_at dksX2_shabbyAt_2 7 rfl rfl)
theorem dX2_shabbyAt_58 : decode cX2_shabbyAt 58 = .ok (.ifCond .eq 7, 3) := dk_153 0 7 (dk_at dksX2_shabbyAt_2 10 rfl rfl)
theorem dX2_shabbyAt_61 : decode cX2_shabbyAt 61 = .ok (.iconst 1, 1) := dk_4 (dk_at dksX2_shabbyAt_2 13 rfl rfl)
theorem dX2_shabbyAt_62 : decode cX2_shabbyAt 62 = .ok (.goto 4, 3) := dk_167 0 4 (dk_at dksX2_shabbyAt_2 14 rfl rfl)
theorem dX2_shabbyAt_65 : decode cX2_shabbyAt 65 = .ok (.iconst 0, 1) := dk_3 (dk_at dksX2_shabbyAt_2 17 rfl rfl)
theorem dX2_shabbyAt_66 : decode cX2_shabbyAt 66 = .ok (.iadd, 1) := dk_96 (dk_at dksX2_shabbyAt_2 18 rfl rfl)
theorem dX2_shabbyAt_67 : decode cX2_shabbyAt 67 = .ok (.istore_n 3, 1) := dk_62 (dk_at dksX2_shabbyAt_2 19 rfl rfl)
theorem dX2_shabbyAt_68 : decode cX2_shabbyAt 68 = .ok (.iinc 4 1, 3) := dk_132 4 1 (dk_at dksX2_shabbyAt_2 20 rfl rfl)
theorem dX2_shabbyAt_71 : decode cX2_shabbyAt 71 = .ok (.goto (-42), 3) := dk_167 255 214 (dk_at dksX2_shabbyAt_3 0 rfl rfl)
theorem dX2_shabbyAt_74 : decode cX2_shabbyAt 74 = .ok (.iload_n 3, 1) := dk_29 (dk_at dksX2_shabbyAt_3 3 rfl rfl)
theorem dX2_shabbyAt_75 : decode cX2_shabbyAt 75 = .ok (.iload_n 1, 1) := dk_27 (dk_at dksX2_shabbyAt_3 4 rfl rfl)
theorem dX2_shabbyAt_76 : decode cX2_shabbyAt 76 = .ok (.if_icmp .ne 5, 3) := dk_160 0 5 (dk_at dksX2_shabbyAt_3 5 rfl rfl)
theorem dX2_shabbyAt_79 : decode cX2_shabbyAt 79 = .ok (.iload_n 2, 1) := dk_28 (dk_at dksX2_shabbyAt_3 8 rfl rfl)
theorem dX2_shabbyAt_80 : decode cX2_shabbyAt 80 = .ok (.ireturn, 1) := dk_172 (dk_at dksX2_shabbyAt_3 9 rfl rfl)
theorem dX2_shabbyAt_81 : decode cX2_shabbyAt 81 = .ok (.iinc 2 1, 3) := dk_132 2 1 (dk_at dksX2_shabbyAt_3 10 rfl rfl)
theorem dX2_shabbyAt_84 : decode cX2_shabbyAt 84 = .ok (.goto (-82), 3) := dk_167 255 174 (dk_at dksX2_shabbyAt_3 13 rfl rfl)
theorem dX2_shabbyAt_87 : decode cX2_shabbyAt 87 = .ok (.bipush (-11), 2) := dk_16 245 (dk_at dksX2_shabbyAt_3 16 rfl rfl)
theorem dX2_shabbyAt_89 : decode cX2_shabbyAt 89 = .ok (.ireturn, 1) := dk_172 (dk_at dksX2_shabbyAt_3 18 rfl rfl)
abbrev cX2_isShabbier : ByteArray := prog_13_method_52_code
def yX2_isShabbier : MethodName := ⟨RX2, "isShabbier", "(II)Z"⟩
def dkwX2_isShabbier_1 : List UInt8 := [182, 0, 64, 164, 0, 7, 4, 167, 0, 13, 3, 167, 0, 9, 42, 27, 28, 182, 0, 174, 172]
abbrev dktX2_isShabbier_1 : List UInt8 := dkwX2_isShabbier_1 ++ []
def dkwX2_isShabbier_0 : List UInt8 := [42, 27, 7, 182, 0, 64, 42, 28, 7, 182, 0, 64, 159, 0, 26, 42, 27, 7, 182, 0, 64, 42, 28, 7]
abbrev dktX2_isShabbier_0 : List UInt8 := dkwX2_isShabbier_0 ++ dktX2_isShabbier_1
theorem dksX2_isShabbier_0 : cX2_isShabbier.data.toList.drop 0 = dktX2_isShabbier_0 := by decide +kernel
theorem dksX2_isShabbier_1 : cX2_isShabbier.data.toList.drop 24 = dktX2_isShabbier_1 := dk_seg dksX2_isShabbier_0 24 rfl rfl
theorem dX2_isShabbier_0 : decode cX2_isShabbier 0 = .ok (.aload_n 0, 1) := dk_42 (dk_at dksX2_isShabbier_0 0 rfl rfl)
theorem dX2_isShabbier_1 : decode cX2_isShabbier 1 = .ok (.iload_n 1, 1) := dk_27 (dk_at dksX2_isShabbier_0 1 rfl rfl)
theorem dX2_isShabbier_2 : decode cX2_isShabbier 2 = .ok (.iconst 4, 1) := dk_7 (dk_at dksX2_isShabbier_0 2 rfl rfl)
theorem dX2_isShabbier_3 : decode cX2_isShabbier 3 = .ok (.invokevirtual 64, 3) := dk_182 0 64 (dk_at dksX2_isShabbier_0 3 rfl rfl)
theorem dX2_isShabbier_6 : decode cX2_isShabbier 6 = .ok (.aload_n 0, 1) := dk_42 (dk_at dksX2_isShabbier_0 6 rfl rfl)
theorem dX2_isShabbier_7 : decode cX2_isShabbier 7 = .ok (.iload_n 2, 1) := dk_28 (dk_at dksX2_isShabbier_0 7 rfl rfl)
theorem dX2_isShabbier_8 : decode cX2_isShabbier 8 = .ok (.iconst 4, 1) := dk_7 (dk_at dksX2_isShabbier_0 8 rfl rfl)
theorem dX2_isShabbier_9 : decode cX2_isShabbier 9 = .ok (.invokevirtual 64, 3) := dk_182 0 64 (dk_at dksX2_isShabbier_0 9 rfl rfl)
theorem dX2_isShabbier_12 : decode cX2_isShabbier 12 = .ok (.if_icmp .eq 26, 3) := dk_159 0 26 (dk_at dksX2_isShabbier_0 12 rfl rfl)
theorem dX2_isShabbier_15 : decode cX2_isShabbier 15 = .ok (.aload_n 0, 1) := dk_42 (dk_at dksX2_isShabbier_0 15 rfl rfl)
theorem dX2_isShabbier_16 : decode cX2_isShabbier 16 = .ok (.iload_n 1, 1) := dk_27 (dk_at dksX2_isShabbier_0 16 rfl rfl)
theorem dX2_isShabbier_17 : decode cX2_isShabbier 17 = .ok (.iconst 4, 1) := dk_7 (dk_at dksX2_isShabbier_0 17 rfl rfl)
theorem dX2_isShabbier_18 : decode cX2_isShabbier 18 = .ok (.invokevirtual 64, 3) := dk_182 0 64 (dk_at dksX2_isShabbier_0 18 rfl rfl)
theorem dX2_isShabbier_21 : decode cX2_isShabbier 21 = .ok (.aload_n 0, 1) := dk_42 (dk_at dksX2_isShabbier_0 21 rfl rfl)
theorem dX2_isShabbier_22 : decode cX2_isShabbier 22 = .ok (.iload_n 2, 1) := dk_28 (dk_at dksX2_isShabbier_0 22 rfl rfl)
theorem dX2_isShabbier_23 : decode cX2_isShabbier 23 = .ok (.iconst 4, 1) := dk_7 (dk_at dksX2_isShabbier_0 23 rfl rfl)
theorem dX2_isShabbier_24 : decode cX2_isShabbier 24 = .ok (.invokevirtual 64, 3) := dk_182 0 64 (dk_at dksX2_isShabbier_1 0 rfl rfl)
theorem dX2_isShabbier_27 : decode cX2_isShabbier 27 = .ok (.if_icmp .le 7, 3) := dk_164 0 7 (dk_at dksX2_isShabbier_1 3 rfl rfl)
theorem dX2_isShabbier_30 : decode cX2_isShabbier 30 = .ok (.iconst 1, 1) := dk_4 (dk_at dksX2_isShabbier_1 6 rfl rfl)
theorem dX2_isShabbier_31 : decode cX2_isShabbier 31 = .ok (.goto 13, 3) := dk_167 0 13 (dk_at dksX2_isShabbier_1 7 rfl rfl)
theorem dX2_isShabbier_34 : decode cX2_isShabbier 34 = .ok (.iconst 0, 1) := dk_3 (dk_at dksX2_isShabbier_1 10 rfl rfl)
theorem dX2_isShabbier_35 : decode cX2_isShabbier 35 = .ok (.goto 9, 3) := dk_167 0 9 (dk_at dksX2_isShabbier_1 11 rfl rfl)
theorem dX2_isShabbier_38 : decode cX2_isShabbier 38 = .ok (.aload_n 0, 1) := dk_42 (dk_at dksX2_isShabbier_1 14 rfl rfl)
theorem dX2_isShabbier_39 : decode cX2_isShabbier 39 = .ok (.iload_n 1, 1) := dk_27 (dk_at dksX2_isShabbier_1 15 rfl rfl)
theorem dX2_isShabbier_40 : decode cX2_isShabbier 40 = .ok (.iload_n 2, 1) := dk_28 (dk_at dksX2_isShabbier_1 16 rfl rfl)
theorem dX2_isShabbier_41 : decode cX2_isShabbier 41 = .ok (.invokevirtual 174, 3) := dk_182 0 174 (dk_at dksX2_isShabbier_1 17 rfl rfl)
theorem dX2_isShabbier_44 : decode cX2_isShabbier 44 = .ok (.ireturn, 1) := dk_172 (dk_at dksX2_isShabbier_1 20 rfl rfl)
abbrev cX2_isSeniorTo : ByteArray := prog_13_method_51_code
def yX2_isSeniorTo : MethodName := ⟨RX2, "isSeniorTo", "(II)Z"⟩
def dkwX2_isSeniorTo_0 : List UInt8 := [42, 27, 16, 8, 182, 0, 64, 42, 28, 16, 8, 182, 0, 64, 162, 0, 7, 4, 167, 0, 4, 3, 172]
abbrev dktX2_isSeniorTo_0 : List UInt8 := dkwX2_isSeniorTo_0 ++ []
theorem dksX2_isSeniorTo_0 : cX2_isSeniorTo.data.toList.drop 0 = dktX2_isSeniorTo_0 := by decide +kernel
theorem dX2_isSeniorTo_0 : decode cX2_isSeniorTo 0 = .ok (.aload_n 0, 1) := dk_42 (dk_at dksX2_isSeniorTo_0 0 rfl rfl)
theorem dX2_isSeniorTo_1 : decode cX2_isSeniorTo 1 = .ok (.iload_n 1, 1) := dk_27 (dk_at dksX2_isSeniorTo_0 1 rfl rfl)
theorem dX2_isSeniorTo_2 : decode cX2_isSeniorTo 2 = .ok (.bipush 8, 2) := dk_16 8 (dk_at dksX2_isSeniorTo_0 2 rfl rfl)
theorem dX2_isSeniorTo_4 : decode cX2_isSeniorTo 4 = .ok (.invokevirtual 64, 3) := dk_182 0 64 (dk_at dksX2_isSeniorTo_0 4 rfl rfl)
theorem dX2_isSeniorTo_7 : decode cX2_isSeniorTo 7 = .ok (.aload_n 0, 1) := dk_42 (dk_at dksX2_isSeniorTo_0 7 rfl rfl)
theorem dX2_isSeniorTo_8 : decode cX2_isSeniorTo 8 = .ok (.iload_n 2, 1) := dk_28 (dk_at dksX2_isSeniorTo_0 8 rfl rfl)
theorem dX2_isSeniorTo_9 : decode cX2_isSeniorTo 9 = .ok (.bipush 8, 2) := dk_16 8 (dk_at dksX2_isSeniorTo_0 9 rfl rfl)
theorem dX2_isSeniorTo_11 : decode cX2_isSeniorTo 11 = .ok (.invokevirtual 64, 3) := dk_182 0 64 (dk_at dksX2_isSeniorTo_0 11 rfl rfl)
theorem dX2_isSeniorTo_14 : decode cX2_isSeniorTo 14 = .ok (.if_icmp .ge 7, 3) := dk_162 0 7 (dk_at dksX2_isSeniorTo_0 14 rfl rfl)
theorem dX2_isSeniorTo_17 : decode cX2_isSeniorTo 17 = .ok (.iconst 1, 1) := dk_4 (dk_at dksX2_isSeniorTo_0 17 rfl rfl)
theorem dX2_isSeniorTo_18 : decode cX2_isSeniorTo 18 = .ok (.goto 4, 3) := dk_167 0 4 (dk_at dksX2_isSeniorTo_0 18 rfl rfl)
theorem dX2_isSeniorTo_21 : decode cX2_isSeniorTo 21 = .ok (.iconst 0, 1) := dk_3 (dk_at dksX2_isSeniorTo_0 21 rfl rfl)
theorem dX2_isSeniorTo_22 : decode cX2_isSeniorTo 22 = .ok (.ireturn, 1) := dk_172 (dk_at dksX2_isSeniorTo_0 22 rfl rfl)
abbrev cX2_wouldGet : ByteArray := prog_13_method_58_code
def yX2_wouldGet : MethodName := ⟨RX2, "wouldGet", "(II)I"⟩
def dkwX2_wouldGet_2 : List UInt8 := [182, 0, 64, 29, 100, 54, 4, 42, 182, 0, 195, 21, 4, 172]
abbrev dktX2_wouldGet_2 : List UInt8 := dkwX2_wouldGet_2 ++ []
def dkwX2_wouldGet_1 : List UInt8 := [42, 182, 0, 54, 42, 27, 16, 6, 182, 0, 64, 62, 42, 28, 182, 0, 192, 87, 42, 27, 16, 6]
abbrev dktX2_wouldGet_1 : List UInt8 := dkwX2_wouldGet_1 ++ dktX2_wouldGet_2
def dkwX2_wouldGet_0 : List UInt8 := [42, 27, 182, 0, 96, 154, 0, 6, 16, 245, 172, 28, 3, 16, 60, 184, 0, 60, 154, 0, 6, 16, 244, 172]
abbrev dktX2_wouldGet_0 : List UInt8 := dkwX2_wouldGet_0 ++ dktX2_wouldGet_1
theorem dksX2_wouldGet_0 : cX2_wouldGet.data.toList.drop 0 = dktX2_wouldGet_0 := by decide +kernel
theorem dksX2_wouldGet_1 : cX2_wouldGet.data.toList.drop 24 = dktX2_wouldGet_1 := dk_seg dksX2_wouldGet_0 24 rfl rfl
theorem dksX2_wouldGet_2 : cX2_wouldGet.data.toList.drop 46 = dktX2_wouldGet_2 := dk_seg dksX2_wouldGet_1 22 rfl rfl
theorem dX2_wouldGet_0 : decode cX2_wouldGet 0 = .ok (.aload_n 0, 1) := dk_42 (dk_at dksX2_wouldGet_0 0 rfl rfl)
theorem dX2_wouldGet_1 : decode cX2_wouldGet 1 = .ok (.iload_n 1, 1) := dk_27 (dk_at dksX2_wouldGet_0 1 rfl rfl)
theorem dX2_wouldGet_2 : decode cX2_wouldGet 2 = .ok (.invokevirtual 96, 3) := dk_182 0 96 (dk_at dksX2_wouldGet_0 2 rfl rfl)
theorem dX2_wouldGet_5 : decode cX2_wouldGet 5 = .ok (.ifCond .ne 6, 3) := dk_154 0 6 (dk_at dksX2_wouldGet_0 5 rfl rfl)
theorem dX2_wouldGet_8 : decode cX2_wouldGet 8 = .ok (.bipush (-11), 2) := dk_16 245 (dk_at dksX2_wouldGet_0 8 rfl rfl)
theorem dX2_wouldGet_10 : decode cX2_wouldGet 10 = .ok (.ireturn, 1) := dk_172 (dk_at dksX2_wouldGet_0 10 rfl rfl)
theorem dX2_wouldGet_11 : decode cX2_wouldGet 11 = .ok (.iload_n 2, 1) := dk_28 (dk_at dksX2_wouldGet_0 11 rfl rfl)
theorem dX2_wouldGet_12 : decode cX2_wouldGet 12 = .ok (.iconst 0, 1) := dk_3 (dk_at dksX2_wouldGet_0 12 rfl rfl)
theorem dX2_wouldGet_13 : decode cX2_wouldGet 13 = .ok (.bipush 60, 2) := dk_16 60 (dk_at dksX2_wouldGet_0 13 rfl rfl)
theorem dX2_wouldGet_15 : decode cX2_wouldGet 15 = .ok (.invokestatic 60, 3) := dk_184 0 60 (dk_at dksX2_wouldGet_0 15 rfl rfl)
theorem dX2_wouldGet_18 : decode cX2_wouldGet 18 = .ok (.ifCond .ne 6, 3) := dk_154 0 6 (dk_at dksX2_wouldGet_0 18 rfl rfl)
theorem dX2_wouldGet_21 : decode cX2_wouldGet 21 = .ok (.bipush (-12), 2) := dk_16 244 (dk_at dksX2_wouldGet_0 21 rfl rfl)
theorem dX2_wouldGet_23 : decode cX2_wouldGet 23 = .ok (.ireturn, 1) := dk_172 (dk_at dksX2_wouldGet_0 23 rfl rfl)
theorem dX2_wouldGet_24 : decode cX2_wouldGet 24 = .ok (.aload_n 0, 1) := dk_42 (dk_at dksX2_wouldGet_1 0 rfl rfl)
theorem dX2_wouldGet_25 : decode cX2_wouldGet 25 = .ok (.invokevirtual 54, 3) := dk_182 0 54 (dk_at dksX2_wouldGet_1 1 rfl rfl)
theorem dX2_wouldGet_28 : decode cX2_wouldGet 28 = .ok (.aload_n 0, 1) := dk_42 (dk_at dksX2_wouldGet_1 4 rfl rfl)
theorem dX2_wouldGet_29 : decode cX2_wouldGet 29 = .ok (.iload_n 1, 1) := dk_27 (dk_at dksX2_wouldGet_1 5 rfl rfl)
theorem dX2_wouldGet_30 : decode cX2_wouldGet 30 = .ok (.bipush 6, 2) := dk_16 6 (dk_at dksX2_wouldGet_1 6 rfl rfl)
theorem dX2_wouldGet_32 : decode cX2_wouldGet 32 = .ok (.invokevirtual 64, 3) := dk_182 0 64 (dk_at dksX2_wouldGet_1 8 rfl rfl)
theorem dX2_wouldGet_35 : decode cX2_wouldGet 35 = .ok (.istore_n 3, 1) := dk_62 (dk_at dksX2_wouldGet_1 11 rfl rfl)
theorem dX2_wouldGet_36 : decode cX2_wouldGet 36 = .ok (.aload_n 0, 1) := dk_42 (dk_at dksX2_wouldGet_1 12 rfl rfl)
theorem dX2_wouldGet_37 : decode cX2_wouldGet 37 = .ok (.iload_n 2, 1) := dk_28 (dk_at dksX2_wouldGet_1 13 rfl rfl)
theorem dX2_wouldGet_38 : decode cX2_wouldGet 38 = .ok (.invokevirtual 192, 3) := dk_182 0 192 (dk_at dksX2_wouldGet_1 14 rfl rfl)
theorem dX2_wouldGet_41 : decode cX2_wouldGet 41 = .ok (.pop, 1) := dk_87 (dk_at dksX2_wouldGet_1 17 rfl rfl)
theorem dX2_wouldGet_42 : decode cX2_wouldGet 42 = .ok (.aload_n 0, 1) := dk_42 (dk_at dksX2_wouldGet_1 18 rfl rfl)
theorem dX2_wouldGet_43 : decode cX2_wouldGet 43 = .ok (.iload_n 1, 1) := dk_27 (dk_at dksX2_wouldGet_1 19 rfl rfl)
theorem dX2_wouldGet_44 : decode cX2_wouldGet 44 = .ok (.bipush 6, 2) := dk_16 6 (dk_at dksX2_wouldGet_1 20 rfl rfl)
theorem dX2_wouldGet_46 : decode cX2_wouldGet 46 = .ok (.invokevirtual 64, 3) := dk_182 0 64 (dk_at dksX2_wouldGet_2 0 rfl rfl)
theorem dX2_wouldGet_49 : decode cX2_wouldGet 49 = .ok (.iload_n 3, 1) := dk_29 (dk_at dksX2_wouldGet_2 3 rfl rfl)
theorem dX2_wouldGet_50 : decode cX2_wouldGet 50 = .ok (.isub, 1) := dk_100 (dk_at dksX2_wouldGet_2 4 rfl rfl)
theorem dX2_wouldGet_51 : decode cX2_wouldGet 51 = .ok (.istore 4, 2) := dk_54 4 (dk_at dksX2_wouldGet_2 5 rfl rfl)
theorem dX2_wouldGet_53 : decode cX2_wouldGet 53 = .ok (.aload_n 0, 1) := dk_42 (dk_at dksX2_wouldGet_2 7 rfl rfl)
theorem dX2_wouldGet_54 : decode cX2_wouldGet 54 = .ok (.invokevirtual 195, 3) := dk_182 0 195 (dk_at dksX2_wouldGet_2 8 rfl rfl)
theorem dX2_wouldGet_57 : decode cX2_wouldGet 57 = .ok (.iload 4, 2) := dk_21 4 (dk_at dksX2_wouldGet_2 11 rfl rfl)
theorem dX2_wouldGet_59 : decode cX2_wouldGet 59 = .ok (.ireturn, 1) := dk_172 (dk_at dksX2_wouldGet_2 13 rfl rfl)
abbrev cX2_forgets : ByteArray := prog_13_method_8_code
def yX2_forgets : MethodName := ⟨RX2, "forgets", "()V"⟩
def dkwX2_forgets_1 : List UInt8 := [167, 255, 234, 177]
abbrev dktX2_forgets_1 : List UInt8 := dkwX2_forgets_1 ++ []
def dkwX2_forgets_0 : List UInt8 := [3, 60, 27, 17, 1, 64, 162, 0, 21, 42, 180, 0, 7, 27, 42, 180, 0, 19, 27, 46, 79, 132, 1, 1]
abbrev dktX2_forgets_0 : List UInt8 := dkwX2_forgets_0 ++ dktX2_forgets_1
theorem dksX2_forgets_0 : cX2_forgets.data.toList.drop 0 = dktX2_forgets_0 := by decide +kernel
theorem dksX2_forgets_1 : cX2_forgets.data.toList.drop 24 = dktX2_forgets_1 := dk_seg dksX2_forgets_0 24 rfl rfl
theorem dX2_forgets_0 : decode cX2_forgets 0 = .ok (.iconst 0, 1) := dk_3 (dk_at dksX2_forgets_0 0 rfl rfl)
theorem dX2_forgets_1 : decode cX2_forgets 1 = .ok (.istore_n 1, 1) := dk_60 (dk_at dksX2_forgets_0 1 rfl rfl)
theorem dX2_forgets_2 : decode cX2_forgets 2 = .ok (.iload_n 1, 1) := dk_27 (dk_at dksX2_forgets_0 2 rfl rfl)
theorem dX2_forgets_3 : decode cX2_forgets 3 = .ok (.sipush 320, 3) := dk_17 1 64 (dk_at dksX2_forgets_0 3 rfl rfl)
theorem dX2_forgets_6 : decode cX2_forgets 6 = .ok (.if_icmp .ge 21, 3) := dk_162 0 21 (dk_at dksX2_forgets_0 6 rfl rfl)
theorem dX2_forgets_9 : decode cX2_forgets 9 = .ok (.aload_n 0, 1) := dk_42 (dk_at dksX2_forgets_0 9 rfl rfl)
theorem dX2_forgets_10 : decode cX2_forgets 10 = .ok (.getfield 7, 3) := dk_180 0 7 (dk_at dksX2_forgets_0 10 rfl rfl)
theorem dX2_forgets_13 : decode cX2_forgets 13 = .ok (.iload_n 1, 1) := dk_27 (dk_at dksX2_forgets_0 13 rfl rfl)
theorem dX2_forgets_14 : decode cX2_forgets 14 = .ok (.aload_n 0, 1) := dk_42 (dk_at dksX2_forgets_0 14 rfl rfl)
theorem dX2_forgets_15 : decode cX2_forgets 15 = .ok (.getfield 19, 3) := dk_180 0 19 (dk_at dksX2_forgets_0 15 rfl rfl)
theorem dX2_forgets_18 : decode cX2_forgets 18 = .ok (.iload_n 1, 1) := dk_27 (dk_at dksX2_forgets_0 18 rfl rfl)
theorem dX2_forgets_19 : decode cX2_forgets 19 = .ok (.iaload, 1) := dk_46 (dk_at dksX2_forgets_0 19 rfl rfl)
theorem dX2_forgets_20 : decode cX2_forgets 20 = .ok (.iastore, 1) := dk_79 (dk_at dksX2_forgets_0 20 rfl rfl)
theorem dX2_forgets_21 : decode cX2_forgets 21 = .ok (.iinc 1 1, 3) := dk_132 1 1 (dk_at dksX2_forgets_0 21 rfl rfl)
theorem dX2_forgets_24 : decode cX2_forgets 24 = .ok (.goto (-22), 3) := dk_167 255 234 (dk_at dksX2_forgets_1 0 rfl rfl)
theorem dX2_forgets_27 : decode cX2_forgets 27 = .ok (.return_, 1) := dk_177 (dk_at dksX2_forgets_1 3 rfl rfl)
abbrev cX2_chestIn : ByteArray := prog_13_method_59_code
def yX2_chestIn : MethodName := ⟨RX2, "chestIn", "(I)I"⟩
def dkwX2_chestIn_1 : List UInt8 := [180, 0, 7, 6, 46, 61, 42, 182, 0, 195, 28, 172]
abbrev dktX2_chestIn_1 : List UInt8 := dkwX2_chestIn_1 ++ []
def dkwX2_chestIn_0 : List UInt8 := [27, 3, 16, 60, 184, 0, 60, 154, 0, 6, 16, 244, 172, 42, 182, 0, 54, 42, 27, 182, 0, 192, 87, 42]
abbrev dktX2_chestIn_0 : List UInt8 := dkwX2_chestIn_0 ++ dktX2_chestIn_1
theorem dksX2_chestIn_0 : cX2_chestIn.data.toList.drop 0 = dktX2_chestIn_0 := by decide +kernel
theorem dksX2_chestIn_1 : cX2_chestIn.data.toList.drop 24 = dktX2_chestIn_1 := dk_seg dksX2_chestIn_0 24 rfl rfl
theorem dX2_chestIn_0 : decode cX2_chestIn 0 = .ok (.iload_n 1, 1) := dk_27 (dk_at dksX2_chestIn_0 0 rfl rfl)
theorem dX2_chestIn_1 : decode cX2_chestIn 1 = .ok (.iconst 0, 1) := dk_3 (dk_at dksX2_chestIn_0 1 rfl rfl)
theorem dX2_chestIn_2 : decode cX2_chestIn 2 = .ok (.bipush 60, 2) := dk_16 60 (dk_at dksX2_chestIn_0 2 rfl rfl)
theorem dX2_chestIn_4 : decode cX2_chestIn 4 = .ok (.invokestatic 60, 3) := dk_184 0 60 (dk_at dksX2_chestIn_0 4 rfl rfl)
theorem dX2_chestIn_7 : decode cX2_chestIn 7 = .ok (.ifCond .ne 6, 3) := dk_154 0 6 (dk_at dksX2_chestIn_0 7 rfl rfl)
theorem dX2_chestIn_10 : decode cX2_chestIn 10 = .ok (.bipush (-12), 2) := dk_16 244 (dk_at dksX2_chestIn_0 10 rfl rfl)
theorem dX2_chestIn_12 : decode cX2_chestIn 12 = .ok (.ireturn, 1) := dk_172 (dk_at dksX2_chestIn_0 12 rfl rfl)
theorem dX2_chestIn_13 : decode cX2_chestIn 13 = .ok (.aload_n 0, 1) := dk_42 (dk_at dksX2_chestIn_0 13 rfl rfl)
theorem dX2_chestIn_14 : decode cX2_chestIn 14 = .ok (.invokevirtual 54, 3) := dk_182 0 54 (dk_at dksX2_chestIn_0 14 rfl rfl)
theorem dX2_chestIn_17 : decode cX2_chestIn 17 = .ok (.aload_n 0, 1) := dk_42 (dk_at dksX2_chestIn_0 17 rfl rfl)
theorem dX2_chestIn_18 : decode cX2_chestIn 18 = .ok (.iload_n 1, 1) := dk_27 (dk_at dksX2_chestIn_0 18 rfl rfl)
theorem dX2_chestIn_19 : decode cX2_chestIn 19 = .ok (.invokevirtual 192, 3) := dk_182 0 192 (dk_at dksX2_chestIn_0 19 rfl rfl)
theorem dX2_chestIn_22 : decode cX2_chestIn 22 = .ok (.pop, 1) := dk_87 (dk_at dksX2_chestIn_0 22 rfl rfl)
theorem dX2_chestIn_23 : decode cX2_chestIn 23 = .ok (.aload_n 0, 1) := dk_42 (dk_at dksX2_chestIn_0 23 rfl rfl)
theorem dX2_chestIn_24 : decode cX2_chestIn 24 = .ok (.getfield 7, 3) := dk_180 0 7 (dk_at dksX2_chestIn_1 0 rfl rfl)
theorem dX2_chestIn_27 : decode cX2_chestIn 27 = .ok (.iconst 3, 1) := dk_6 (dk_at dksX2_chestIn_1 3 rfl rfl)
theorem dX2_chestIn_28 : decode cX2_chestIn 28 = .ok (.iaload, 1) := dk_46 (dk_at dksX2_chestIn_1 4 rfl rfl)
theorem dX2_chestIn_29 : decode cX2_chestIn 29 = .ok (.istore_n 2, 1) := dk_61 (dk_at dksX2_chestIn_1 5 rfl rfl)
theorem dX2_chestIn_30 : decode cX2_chestIn 30 = .ok (.aload_n 0, 1) := dk_42 (dk_at dksX2_chestIn_1 6 rfl rfl)
theorem dX2_chestIn_31 : decode cX2_chestIn 31 = .ok (.invokevirtual 195, 3) := dk_182 0 195 (dk_at dksX2_chestIn_1 7 rfl rfl)
theorem dX2_chestIn_34 : decode cX2_chestIn 34 = .ok (.iload_n 2, 1) := dk_28 (dk_at dksX2_chestIn_1 10 rfl rfl)
theorem dX2_chestIn_35 : decode cX2_chestIn 35 = .ok (.ireturn, 1) := dk_172 (dk_at dksX2_chestIn_1 11 rfl rfl)
abbrev cX2_brotherOf : ByteArray := prog_13_method_62_code
def yX2_brotherOf : MethodName := ⟨RX2, "brotherOf", "(II)I"⟩
def dkwX2_brotherOf_5 : List UInt8 := [182, 0, 68, 153, 0, 11, 42, 27, 182, 0, 201, 167, 0, 5, 16, 241, 172, 16, 244, 172]
abbrev dktX2_brotherOf_5 : List UInt8 := dkwX2_brotherOf_5 ++ []
def dkwX2_brotherOf_4 : List UInt8 := [182, 0, 64, 154, 0, 8, 16, 241, 167, 0, 12, 42, 27, 16, 7, 182, 0, 64, 4, 100, 172, 42, 27, 3]
abbrev dktX2_brotherOf_4 : List UInt8 := dkwX2_brotherOf_4 ++ dktX2_brotherOf_5
def dkwX2_brotherOf_3 : List UInt8 := [167, 0, 5, 16, 241, 172, 42, 27, 28, 182, 0, 64, 172, 42, 27, 182, 0, 198, 172, 42, 27, 16, 7]
abbrev dktX2_brotherOf_3 : List UInt8 := dkwX2_brotherOf_3 ++ dktX2_brotherOf_4
def dkwX2_brotherOf_2 : List UInt8 := [42, 27, 28, 182, 0, 64, 172, 42, 27, 4, 182, 0, 68, 153, 0, 12, 42, 27, 28, 182, 0, 64]
abbrev dktX2_brotherOf_2 : List UInt8 := dkwX2_brotherOf_2 ++ dktX2_brotherOf_3
def dkwX2_brotherOf_1 : List UInt8 := [170, 0, 0, 0, 0, 0, 0, 142, 0, 0, 0, 0, 0, 0, 0, 9, 0, 0, 0, 56, 0, 0, 0, 56, 0, 0, 0, 56, 0, 0, 0, 63, 0, 0, 0, 63, 0, 0, 0, 84, 0, 0, 0, 84, 0, 0, 0, 91, 0, 0, 0, 97, 0, 0, 0, 122]
abbrev dktX2_brotherOf_1 : List UInt8 := dkwX2_brotherOf_1 ++ dktX2_brotherOf_2
def dkwX2_brotherOf_0 : List UInt8 := [42, 27, 182, 0, 96, 154, 0, 6, 16, 245, 172, 28]
abbrev dktX2_brotherOf_0 : List UInt8 := dkwX2_brotherOf_0 ++ dktX2_brotherOf_1
theorem dksX2_brotherOf_0 : cX2_brotherOf.data.toList.drop 0 = dktX2_brotherOf_0 := by decide +kernel
theorem dksX2_brotherOf_1 : cX2_brotherOf.data.toList.drop 12 = dktX2_brotherOf_1 := dk_seg dksX2_brotherOf_0 12 rfl rfl
theorem dksX2_brotherOf_2 : cX2_brotherOf.data.toList.drop 68 = dktX2_brotherOf_2 := dk_seg dksX2_brotherOf_1 56 rfl rfl
theorem dksX2_brotherOf_3 : cX2_brotherOf.data.toList.drop 90 = dktX2_brotherOf_3 := dk_seg dksX2_brotherOf_2 22 rfl rfl
theorem dksX2_brotherOf_4 : cX2_brotherOf.data.toList.drop 113 = dktX2_brotherOf_4 := dk_seg dksX2_brotherOf_3 23 rfl rfl
theorem dksX2_brotherOf_5 : cX2_brotherOf.data.toList.drop 137 = dktX2_brotherOf_5 := dk_seg dksX2_brotherOf_4 24 rfl rfl
theorem dX2_brotherOf_0 : decode cX2_brotherOf 0 = .ok (.aload_n 0, 1) := dk_42 (dk_at dksX2_brotherOf_0 0 rfl rfl)
theorem dX2_brotherOf_1 : decode cX2_brotherOf 1 = .ok (.iload_n 1, 1) := dk_27 (dk_at dksX2_brotherOf_0 1 rfl rfl)
theorem dX2_brotherOf_2 : decode cX2_brotherOf 2 = .ok (.invokevirtual 96, 3) := dk_182 0 96 (dk_at dksX2_brotherOf_0 2 rfl rfl)
theorem dX2_brotherOf_5 : decode cX2_brotherOf 5 = .ok (.ifCond .ne 6, 3) := dk_154 0 6 (dk_at dksX2_brotherOf_0 5 rfl rfl)
theorem dX2_brotherOf_8 : decode cX2_brotherOf 8 = .ok (.bipush (-11), 2) := dk_16 245 (dk_at dksX2_brotherOf_0 8 rfl rfl)
theorem dX2_brotherOf_10 : decode cX2_brotherOf 10 = .ok (.ireturn, 1) := dk_172 (dk_at dksX2_brotherOf_0 10 rfl rfl)
theorem dX2_brotherOf_11 : decode cX2_brotherOf 11 = .ok (.iload_n 2, 1) := dk_28 (dk_at dksX2_brotherOf_0 11 rfl rfl)
theorem dX2_brotherOf_12 : decode cX2_brotherOf 12 = .ok (.tableswitch 142 0 9 #[56, 56, 56, 63, 63, 84, 84, 91, 97, 122], 56) := by decide +kernel
theorem dX2_brotherOf_68 : decode cX2_brotherOf 68 = .ok (.aload_n 0, 1) := dk_42 (dk_at dksX2_brotherOf_2 0 rfl rfl)
theorem dX2_brotherOf_69 : decode cX2_brotherOf 69 = .ok (.iload_n 1, 1) := dk_27 (dk_at dksX2_brotherOf_2 1 rfl rfl)
theorem dX2_brotherOf_70 : decode cX2_brotherOf 70 = .ok (.iload_n 2, 1) := dk_28 (dk_at dksX2_brotherOf_2 2 rfl rfl)
theorem dX2_brotherOf_71 : decode cX2_brotherOf 71 = .ok (.invokevirtual 64, 3) := dk_182 0 64 (dk_at dksX2_brotherOf_2 3 rfl rfl)
theorem dX2_brotherOf_74 : decode cX2_brotherOf 74 = .ok (.ireturn, 1) := dk_172 (dk_at dksX2_brotherOf_2 6 rfl rfl)
theorem dX2_brotherOf_75 : decode cX2_brotherOf 75 = .ok (.aload_n 0, 1) := dk_42 (dk_at dksX2_brotherOf_2 7 rfl rfl)
theorem dX2_brotherOf_76 : decode cX2_brotherOf 76 = .ok (.iload_n 1, 1) := dk_27 (dk_at dksX2_brotherOf_2 8 rfl rfl)
theorem dX2_brotherOf_77 : decode cX2_brotherOf 77 = .ok (.iconst 1, 1) := dk_4 (dk_at dksX2_brotherOf_2 9 rfl rfl)
theorem dX2_brotherOf_78 : decode cX2_brotherOf 78 = .ok (.invokevirtual 68, 3) := dk_182 0 68 (dk_at dksX2_brotherOf_2 10 rfl rfl)
theorem dX2_brotherOf_81 : decode cX2_brotherOf 81 = .ok (.ifCond .eq 12, 3) := dk_153 0 12 (dk_at dksX2_brotherOf_2 13 rfl rfl)
theorem dX2_brotherOf_84 : decode cX2_brotherOf 84 = .ok (.aload_n 0, 1) := dk_42 (dk_at dksX2_brotherOf_2 16 rfl rfl)
theorem dX2_brotherOf_85 : decode cX2_brotherOf 85 = .ok (.iload_n 1, 1) := dk_27 (dk_at dksX2_brotherOf_2 17 rfl rfl)
theorem dX2_brotherOf_86 : decode cX2_brotherOf 86 = .ok (.iload_n 2, 1) := dk_28 (dk_at dksX2_brotherOf_2 18 rfl rfl)
theorem dX2_brotherOf_87 : decode cX2_brotherOf 87 = .ok (.invokevirtual 64, 3) := dk_182 0 64 (dk_at dksX2_brotherOf_2 19 rfl rfl)
theorem dX2_brotherOf_90 : decode cX2_brotherOf 90 = .ok (.goto 5, 3) := dk_167 0 5 (dk_at dksX2_brotherOf_3 0 rfl rfl)
theorem dX2_brotherOf_93 : decode cX2_brotherOf 93 = .ok (.bipush (-15), 2) := dk_16 241 (dk_at dksX2_brotherOf_3 3 rfl rfl)
theorem dX2_brotherOf_95 : decode cX2_brotherOf 95 = .ok (.ireturn, 1) := dk_172 (dk_at dksX2_brotherOf_3 5 rfl rfl)
theorem dX2_brotherOf_96 : decode cX2_brotherOf 96 = .ok (.aload_n 0, 1) := dk_42 (dk_at dksX2_brotherOf_3 6 rfl rfl)
theorem dX2_brotherOf_97 : decode cX2_brotherOf 97 = .ok (.iload_n 1, 1) := dk_27 (dk_at dksX2_brotherOf_3 7 rfl rfl)
theorem dX2_brotherOf_98 : decode cX2_brotherOf 98 = .ok (.iload_n 2, 1) := dk_28 (dk_at dksX2_brotherOf_3 8 rfl rfl)
theorem dX2_brotherOf_99 : decode cX2_brotherOf 99 = .ok (.invokevirtual 64, 3) := dk_182 0 64 (dk_at dksX2_brotherOf_3 9 rfl rfl)
theorem dX2_brotherOf_102 : decode cX2_brotherOf 102 = .ok (.ireturn, 1) := dk_172 (dk_at dksX2_brotherOf_3 12 rfl rfl)
theorem dX2_brotherOf_103 : decode cX2_brotherOf 103 = .ok (.aload_n 0, 1) := dk_42 (dk_at dksX2_brotherOf_3 13 rfl rfl)
theorem dX2_brotherOf_104 : decode cX2_brotherOf 104 = .ok (.iload_n 1, 1) := dk_27 (dk_at dksX2_brotherOf_3 14 rfl rfl)
theorem dX2_brotherOf_105 : decode cX2_brotherOf 105 = .ok (.invokevirtual 198, 3) := dk_182 0 198 (dk_at dksX2_brotherOf_3 15 rfl rfl)
theorem dX2_brotherOf_108 : decode cX2_brotherOf 108 = .ok (.ireturn, 1) := dk_172 (dk_at dksX2_brotherOf_3 18 rfl rfl)
theorem dX2_brotherOf_109 : decode cX2_brotherOf 109 = .ok (.aload_n 0, 1) := dk_42 (dk_at dksX2_brotherOf_3 19 rfl rfl)
theorem dX2_brotherOf_110 : decode cX2_brotherOf 110 = .ok (.iload_n 1, 1) := dk_27 (dk_at dksX2_brotherOf_3 20 rfl rfl)
theorem dX2_brotherOf_111 : decode cX2_brotherOf 111 = .ok (.bipush 7, 2) := dk_16 7 (dk_at dksX2_brotherOf_3 21 rfl rfl)
theorem dX2_brotherOf_113 : decode cX2_brotherOf 113 = .ok (.invokevirtual 64, 3) := dk_182 0 64 (dk_at dksX2_brotherOf_4 0 rfl rfl)
theorem dX2_brotherOf_116 : decode cX2_brotherOf 116 = .ok (.ifCond .ne 8, 3) := dk_154 0 8 (dk_at dksX2_brotherOf_4 3 rfl rfl)
theorem dX2_brotherOf_119 : decode cX2_brotherOf 119 = .ok (.bipush (-15), 2) := dk_16 241 (dk_at dksX2_brotherOf_4 6 rfl rfl)
theorem dX2_brotherOf_121 : decode cX2_brotherOf 121 = .ok (.goto 12, 3) := dk_167 0 12 (dk_at dksX2_brotherOf_4 8 rfl rfl)
theorem dX2_brotherOf_124 : decode cX2_brotherOf 124 = .ok (.aload_n 0, 1) := dk_42 (dk_at dksX2_brotherOf_4 11 rfl rfl)
theorem dX2_brotherOf_125 : decode cX2_brotherOf 125 = .ok (.iload_n 1, 1) := dk_27 (dk_at dksX2_brotherOf_4 12 rfl rfl)
theorem dX2_brotherOf_126 : decode cX2_brotherOf 126 = .ok (.bipush 7, 2) := dk_16 7 (dk_at dksX2_brotherOf_4 13 rfl rfl)
theorem dX2_brotherOf_128 : decode cX2_brotherOf 128 = .ok (.invokevirtual 64, 3) := dk_182 0 64 (dk_at dksX2_brotherOf_4 15 rfl rfl)
theorem dX2_brotherOf_131 : decode cX2_brotherOf 131 = .ok (.iconst 1, 1) := dk_4 (dk_at dksX2_brotherOf_4 18 rfl rfl)
theorem dX2_brotherOf_132 : decode cX2_brotherOf 132 = .ok (.isub, 1) := dk_100 (dk_at dksX2_brotherOf_4 19 rfl rfl)
theorem dX2_brotherOf_133 : decode cX2_brotherOf 133 = .ok (.ireturn, 1) := dk_172 (dk_at dksX2_brotherOf_4 20 rfl rfl)
theorem dX2_brotherOf_134 : decode cX2_brotherOf 134 = .ok (.aload_n 0, 1) := dk_42 (dk_at dksX2_brotherOf_4 21 rfl rfl)
theorem dX2_brotherOf_135 : decode cX2_brotherOf 135 = .ok (.iload_n 1, 1) := dk_27 (dk_at dksX2_brotherOf_4 22 rfl rfl)
theorem dX2_brotherOf_136 : decode cX2_brotherOf 136 = .ok (.iconst 0, 1) := dk_3 (dk_at dksX2_brotherOf_4 23 rfl rfl)
theorem dX2_brotherOf_137 : decode cX2_brotherOf 137 = .ok (.invokevirtual 68, 3) := dk_182 0 68 (dk_at dksX2_brotherOf_5 0 rfl rfl)
theorem dX2_brotherOf_140 : decode cX2_brotherOf 140 = .ok (.ifCond .eq 11, 3) := dk_153 0 11 (dk_at dksX2_brotherOf_5 3 rfl rfl)
theorem dX2_brotherOf_143 : decode cX2_brotherOf 143 = .ok (.aload_n 0, 1) := dk_42 (dk_at dksX2_brotherOf_5 6 rfl rfl)
theorem dX2_brotherOf_144 : decode cX2_brotherOf 144 = .ok (.iload_n 1, 1) := dk_27 (dk_at dksX2_brotherOf_5 7 rfl rfl)
theorem dX2_brotherOf_145 : decode cX2_brotherOf 145 = .ok (.invokevirtual 201, 3) := dk_182 0 201 (dk_at dksX2_brotherOf_5 8 rfl rfl)
theorem dX2_brotherOf_148 : decode cX2_brotherOf 148 = .ok (.goto 5, 3) := dk_167 0 5 (dk_at dksX2_brotherOf_5 11 rfl rfl)
theorem dX2_brotherOf_151 : decode cX2_brotherOf 151 = .ok (.bipush (-15), 2) := dk_16 241 (dk_at dksX2_brotherOf_5 14 rfl rfl)
theorem dX2_brotherOf_153 : decode cX2_brotherOf 153 = .ok (.ireturn, 1) := dk_172 (dk_at dksX2_brotherOf_5 16 rfl rfl)
theorem dX2_brotherOf_154 : decode cX2_brotherOf 154 = .ok (.bipush (-12), 2) := dk_16 244 (dk_at dksX2_brotherOf_5 17 rfl rfl)
theorem dX2_brotherOf_156 : decode cX2_brotherOf 156 = .ok (.ireturn, 1) := dk_172 (dk_at dksX2_brotherOf_5 19 rfl rfl)
abbrev cX2_brokeAll : ByteArray := prog_13_method_61_code
def yX2_brokeAll : MethodName := ⟨RX2, "brokeAll", "(I)I"⟩
def dkwX2_brokeAll_1 : List UInt8 := [167, 255, 236, 28, 172]
abbrev dktX2_brokeAll_1 : List UInt8 := dkwX2_brokeAll_1 ++ []
def dkwX2_brokeAll_0 : List UInt8 := [3, 61, 3, 62, 29, 8, 162, 0, 21, 28, 42, 27, 16, 9, 29, 96, 182, 0, 64, 96, 61, 132, 3, 1]
abbrev dktX2_brokeAll_0 : List UInt8 := dkwX2_brokeAll_0 ++ dktX2_brokeAll_1
theorem dksX2_brokeAll_0 : cX2_brokeAll.data.toList.drop 0 = dktX2_brokeAll_0 := by decide +kernel
theorem dksX2_brokeAll_1 : cX2_brokeAll.data.toList.drop 24 = dktX2_brokeAll_1 := dk_seg dksX2_brokeAll_0 24 rfl rfl
theorem dX2_brokeAll_0 : decode cX2_brokeAll 0 = .ok (.iconst 0, 1) := dk_3 (dk_at dksX2_brokeAll_0 0 rfl rfl)
theorem dX2_brokeAll_1 : decode cX2_brokeAll 1 = .ok (.istore_n 2, 1) := dk_61 (dk_at dksX2_brokeAll_0 1 rfl rfl)
theorem dX2_brokeAll_2 : decode cX2_brokeAll 2 = .ok (.iconst 0, 1) := dk_3 (dk_at dksX2_brokeAll_0 2 rfl rfl)
theorem dX2_brokeAll_3 : decode cX2_brokeAll 3 = .ok (.istore_n 3, 1) := dk_62 (dk_at dksX2_brokeAll_0 3 rfl rfl)
theorem dX2_brokeAll_4 : decode cX2_brokeAll 4 = .ok (.iload_n 3, 1) := dk_29 (dk_at dksX2_brokeAll_0 4 rfl rfl)
theorem dX2_brokeAll_5 : decode cX2_brokeAll 5 = .ok (.iconst 5, 1) := dk_8 (dk_at dksX2_brokeAll_0 5 rfl rfl)
theorem dX2_brokeAll_6 : decode cX2_brokeAll 6 = .ok (.if_icmp .ge 21, 3) := dk_162 0 21 (dk_at dksX2_brokeAll_0 6 rfl rfl)
theorem dX2_brokeAll_9 : decode cX2_brokeAll 9 = .ok (.iload_n 2, 1) := dk_28 (dk_at dksX2_brokeAll_0 9 rfl rfl)
theorem dX2_brokeAll_10 : decode cX2_brokeAll 10 = .ok (.aload_n 0, 1) := dk_42 (dk_at dksX2_brokeAll_0 10 rfl rfl)
theorem dX2_brokeAll_11 : decode cX2_brokeAll 11 = .ok (.iload_n 1, 1) := dk_27 (dk_at dksX2_brokeAll_0 11 rfl rfl)
theorem dX2_brokeAll_12 : decode cX2_brokeAll 12 = .ok (.bipush 9, 2) := dk_16 9 (dk_at dksX2_brokeAll_0 12 rfl rfl)
theorem dX2_brokeAll_14 : decode cX2_brokeAll 14 = .ok (.iload_n 3, 1) := dk_29 (dk_at dksX2_brokeAll_0 14 rfl rfl)
theorem dX2_brokeAll_15 : decode cX2_brokeAll 15 = .ok (.iadd, 1) := dk_96 (dk_at dksX2_brokeAll_0 15 rfl rfl)
theorem dX2_brokeAll_16 : decode cX2_brokeAll 16 = .ok (.invokevirtual 64, 3) := dk_182 0 64 (dk_at dksX2_brokeAll_0 16 rfl rfl)
theorem dX2_brokeAll_19 : decode cX2_brokeAll 19 = .ok (.iadd, 1) := dk_96 (dk_at dksX2_brokeAll_0 19 rfl rfl)
theorem dX2_brokeAll_20 : decode cX2_brokeAll 20 = .ok (.istore_n 2, 1) := dk_61 (dk_at dksX2_brokeAll_0 20 rfl rfl)
theorem dX2_brokeAll_21 : decode cX2_brokeAll 21 = .ok (.iinc 3 1, 3) := dk_132 3 1 (dk_at dksX2_brokeAll_0 21 rfl rfl)
theorem dX2_brokeAll_24 : decode cX2_brokeAll 24 = .ok (.goto (-20), 3) := dk_167 255 236 (dk_at dksX2_brokeAll_1 0 rfl rfl)
theorem dX2_brokeAll_27 : decode cX2_brokeAll 27 = .ok (.iload_n 2, 1) := dk_28 (dk_at dksX2_brokeAll_1 3 rfl rfl)
theorem dX2_brokeAll_28 : decode cX2_brokeAll 28 = .ok (.ireturn, 1) := dk_172 (dk_at dksX2_brokeAll_1 4 rfl rfl)
abbrev cX2_placeInLine : ByteArray := prog_13_method_60_code
def yX2_placeInLine : MethodName := ⟨RX2, "placeInLine", "(I)I"⟩
def dkwX2_placeInLine_2 : List UInt8 := [132, 3, 1, 167, 255, 209, 28, 172]
abbrev dktX2_placeInLine_2 : List UInt8 := dkwX2_placeInLine_2 ++ []
def dkwX2_placeInLine_1 : List UInt8 := [42, 29, 16, 8, 182, 0, 64, 42, 27, 16, 8, 182, 0, 64, 162, 0, 7, 4, 167, 0, 4, 3, 96, 61]
abbrev dktX2_placeInLine_1 : List UInt8 := dkwX2_placeInLine_1 ++ dktX2_placeInLine_2
def dkwX2_placeInLine_0 : List UInt8 := [3, 61, 3, 62, 29, 42, 180, 0, 7, 5, 46, 162, 0, 43, 28, 42, 29, 3, 182, 0, 68, 153, 0, 24]
abbrev dktX2_placeInLine_0 : List UInt8 := dkwX2_placeInLine_0 ++ dktX2_placeInLine_1
theorem dksX2_placeInLine_0 : cX2_placeInLine.data.toList.drop 0 = dktX2_placeInLine_0 := by decide +kernel
theorem dksX2_placeInLine_1 : cX2_placeInLine.data.toList.drop 24 = dktX2_placeInLine_1 := dk_seg dksX2_placeInLine_0 24 rfl rfl
theorem dksX2_placeInLine_2 : cX2_placeInLine.data.toList.drop 48 = dktX2_placeInLine_2 := dk_seg dksX2_placeInLine_1 24 rfl rfl
theorem dX2_placeInLine_0 : decode cX2_placeInLine 0 = .ok (.iconst 0, 1) := dk_3 (dk_at dksX2_placeInLine_0 0 rfl rfl)
theorem dX2_placeInLine_1 : decode cX2_placeInLine 1 = .ok (.istore_n 2, 1) := dk_61 (dk_at dksX2_placeInLine_0 1 rfl rfl)
theorem dX2_placeInLine_2 : decode cX2_placeInLine 2 = .ok (.iconst 0, 1) := dk_3 (dk_at dksX2_placeInLine_0 2 rfl rfl)
theorem dX2_placeInLine_3 : decode cX2_placeInLine 3 = .ok (.istore_n 3, 1) := dk_62 (dk_at dksX2_placeInLine_0 3 rfl rfl)
theorem dX2_placeInLine_4 : decode cX2_placeInLine 4 = .ok (.iload_n 3, 1) := dk_29 (dk_at dksX2_placeInLine_0 4 rfl rfl)
theorem dX2_placeInLine_5 : decode cX2_placeInLine 5 = .ok (.aload_n 0, 1) := dk_42 (dk_at dksX2_placeInLine_0 5 rfl rfl)
theorem dX2_placeInLine_6 : decode cX2_placeInLine 6 = .ok (.getfield 7, 3) := dk_180 0 7 (dk_at dksX2_placeInLine_0 6 rfl rfl)
theorem dX2_placeInLine_9 : decode cX2_placeInLine 9 = .ok (.iconst 2, 1) := dk_5 (dk_at dksX2_placeInLine_0 9 rfl rfl)
theorem dX2_placeInLine_10 : decode cX2_placeInLine 10 = .ok (.iaload, 1) := dk_46 (dk_at dksX2_placeInLine_0 10 rfl rfl)
theorem dX2_placeInLine_11 : decode cX2_placeInLine 11 = .ok (.if_icmp .ge 43, 3) := dk_162 0 43 (dk_at dksX2_placeInLine_0 11 rfl rfl)
theorem dX2_placeInLine_14 : decode cX2_placeInLine 14 = .ok (.iload_n 2, 1) := dk_28 (dk_at dksX2_placeInLine_0 14 rfl rfl)
theorem dX2_placeInLine_15 : decode cX2_placeInLine 15 = .ok (.aload_n 0, 1) := dk_42 (dk_at dksX2_placeInLine_0 15 rfl rfl)
theorem dX2_placeInLine_16 : decode cX2_placeInLine 16 = .ok (.iload_n 3, 1) := dk_29 (dk_at dksX2_placeInLine_0 16 rfl rfl)
theorem dX2_placeInLine_17 : decode cX2_placeInLine 17 = .ok (.iconst 0, 1) := dk_3 (dk_at dksX2_placeInLine_0 17 rfl rfl)
theorem dX2_placeInLine_18 : decode cX2_placeInLine 18 = .ok (.invokevirtual 68, 3) := dk_182 0 68 (dk_at dksX2_placeInLine_0 18 rfl rfl)
theorem dX2_placeInLine_21 : decode cX2_placeInLine 21 = .ok (.ifCond .eq 24, 3) := dk_153 0 24 (dk_at dksX2_placeInLine_0 21 rfl rfl)
theorem dX2_placeInLine_24 : decode cX2_placeInLine 24 = .ok (.aload_n 0, 1) := dk_42 (dk_at dksX2_placeInLine_1 0 rfl rfl)
theorem dX2_placeInLine_25 : decode cX2_placeInLine 25 = .ok (.iload_n 3, 1) := dk_29 (dk_at dksX2_placeInLine_1 1 rfl rfl)
theorem dX2_placeInLine_26 : decode cX2_placeInLine 26 = .ok (.bipush 8, 2) := dk_16 8 (dk_at dksX2_placeInLine_1 2 rfl rfl)
theorem dX2_placeInLine_28 : decode cX2_placeInLine 28 = .ok (.invokevirtual 64, 3) := dk_182 0 64 (dk_at dksX2_placeInLine_1 4 rfl rfl)
theorem dX2_placeInLine_31 : decode cX2_placeInLine 31 = .ok (.aload_n 0, 1) := dk_42 (dk_at dksX2_placeInLine_1 7 rfl rfl)
theorem dX2_placeInLine_32 : decode cX2_placeInLine 32 = .ok (.iload_n 1, 1) := dk_27 (dk_at dksX2_placeInLine_1 8 rfl rfl)
theorem dX2_placeInLine_33 : decode cX2_placeInLine 33 = .ok (.bipush 8, 2) := dk_16 8 (dk_at dksX2_placeInLine_1 9 rfl rfl)
theorem dX2_placeInLine_35 : decode cX2_placeInLine 35 = .ok (.invokevirtual 64, 3) := dk_182 0 64 (dk_at dksX2_placeInLine_1 11 rfl rfl)
theorem dX2_placeInLine_38 : decode cX2_placeInLine 38 = .ok (.if_icmp .ge 7, 3) := dk_162 0 7 (dk_at dksX2_placeInLine_1 14 rfl rfl)
theorem dX2_placeInLine_41 : decode cX2_placeInLine 41 = .ok (.iconst 1, 1) := dk_4 (dk_at dksX2_placeInLine_1 17 rfl rfl)
theorem dX2_placeInLine_42 : decode cX2_placeInLine 42 = .ok (.goto 4, 3) := dk_167 0 4 (dk_at dksX2_placeInLine_1 18 rfl rfl)
theorem dX2_placeInLine_45 : decode cX2_placeInLine 45 = .ok (.iconst 0, 1) := dk_3 (dk_at dksX2_placeInLine_1 21 rfl rfl)
theorem dX2_placeInLine_46 : decode cX2_placeInLine 46 = .ok (.iadd, 1) := dk_96 (dk_at dksX2_placeInLine_1 22 rfl rfl)
theorem dX2_placeInLine_47 : decode cX2_placeInLine 47 = .ok (.istore_n 2, 1) := dk_61 (dk_at dksX2_placeInLine_1 23 rfl rfl)
theorem dX2_placeInLine_48 : decode cX2_placeInLine 48 = .ok (.iinc 3 1, 3) := dk_132 3 1 (dk_at dksX2_placeInLine_2 0 rfl rfl)
theorem dX2_placeInLine_51 : decode cX2_placeInLine 51 = .ok (.goto (-47), 3) := dk_167 255 209 (dk_at dksX2_placeInLine_2 3 rfl rfl)
theorem dX2_placeInLine_54 : decode cX2_placeInLine 54 = .ok (.iload_n 2, 1) := dk_28 (dk_at dksX2_placeInLine_2 6 rfl rfl)
theorem dX2_placeInLine_55 : decode cX2_placeInLine 55 = .ok (.ireturn, 1) := dk_172 (dk_at dksX2_placeInLine_2 7 rfl rfl)
abbrev cX2_broke : ByteArray := prog_13_method_63_code
def yX2_broke : MethodName := ⟨RX2, "broke", "(II)I"⟩
def dkwX2_broke_1 : List UInt8 := [182, 0, 64, 167, 0, 5, 16, 245, 172]
abbrev dktX2_broke_1 : List UInt8 := dkwX2_broke_1 ++ []
def dkwX2_broke_0 : List UInt8 := [42, 27, 182, 0, 96, 153, 0, 24, 28, 3, 7, 184, 0, 60, 153, 0, 15, 42, 27, 16, 9, 28, 96]
abbrev dktX2_broke_0 : List UInt8 := dkwX2_broke_0 ++ dktX2_broke_1
theorem dksX2_broke_0 : cX2_broke.data.toList.drop 0 = dktX2_broke_0 := by decide +kernel
theorem dksX2_broke_1 : cX2_broke.data.toList.drop 23 = dktX2_broke_1 := dk_seg dksX2_broke_0 23 rfl rfl
theorem dX2_broke_0 : decode cX2_broke 0 = .ok (.aload_n 0, 1) := dk_42 (dk_at dksX2_broke_0 0 rfl rfl)
theorem dX2_broke_1 : decode cX2_broke 1 = .ok (.iload_n 1, 1) := dk_27 (dk_at dksX2_broke_0 1 rfl rfl)
theorem dX2_broke_2 : decode cX2_broke 2 = .ok (.invokevirtual 96, 3) := dk_182 0 96 (dk_at dksX2_broke_0 2 rfl rfl)
theorem dX2_broke_5 : decode cX2_broke 5 = .ok (.ifCond .eq 24, 3) := dk_153 0 24 (dk_at dksX2_broke_0 5 rfl rfl)
theorem dX2_broke_8 : decode cX2_broke 8 = .ok (.iload_n 2, 1) := dk_28 (dk_at dksX2_broke_0 8 rfl rfl)
theorem dX2_broke_9 : decode cX2_broke 9 = .ok (.iconst 0, 1) := dk_3 (dk_at dksX2_broke_0 9 rfl rfl)
theorem dX2_broke_10 : decode cX2_broke 10 = .ok (.iconst 4, 1) := dk_7 (dk_at dksX2_broke_0 10 rfl rfl)
theorem dX2_broke_11 : decode cX2_broke 11 = .ok (.invokestatic 60, 3) := dk_184 0 60 (dk_at dksX2_broke_0 11 rfl rfl)
theorem dX2_broke_14 : decode cX2_broke 14 = .ok (.ifCond .eq 15, 3) := dk_153 0 15 (dk_at dksX2_broke_0 14 rfl rfl)
theorem dX2_broke_17 : decode cX2_broke 17 = .ok (.aload_n 0, 1) := dk_42 (dk_at dksX2_broke_0 17 rfl rfl)
theorem dX2_broke_18 : decode cX2_broke 18 = .ok (.iload_n 1, 1) := dk_27 (dk_at dksX2_broke_0 18 rfl rfl)
theorem dX2_broke_19 : decode cX2_broke 19 = .ok (.bipush 9, 2) := dk_16 9 (dk_at dksX2_broke_0 19 rfl rfl)
theorem dX2_broke_21 : decode cX2_broke 21 = .ok (.iload_n 2, 1) := dk_28 (dk_at dksX2_broke_0 21 rfl rfl)
theorem dX2_broke_22 : decode cX2_broke 22 = .ok (.iadd, 1) := dk_96 (dk_at dksX2_broke_0 22 rfl rfl)
theorem dX2_broke_23 : decode cX2_broke 23 = .ok (.invokevirtual 64, 3) := dk_182 0 64 (dk_at dksX2_broke_1 0 rfl rfl)
theorem dX2_broke_26 : decode cX2_broke 26 = .ok (.goto 5, 3) := dk_167 0 5 (dk_at dksX2_broke_1 3 rfl rfl)
theorem dX2_broke_29 : decode cX2_broke 29 = .ok (.bipush (-11), 2) := dk_16 245 (dk_at dksX2_broke_1 6 rfl rfl)
theorem dX2_broke_31 : decode cX2_broke 31 = .ok (.ireturn, 1) := dk_172 (dk_at dksX2_broke_1 8 rfl rfl)
abbrev cX2_inCell : ByteArray := prog_13_method_64_code
def yX2_inCell : MethodName := ⟨RX2, "inCell", "(I)I"⟩
def dkwX2_inCell_0 : List UInt8 := [27, 184, 0, 119, 153, 0, 11, 42, 27, 182, 0, 122, 167, 0, 5, 16, 245, 172]
abbrev dktX2_inCell_0 : List UInt8 := dkwX2_inCell_0 ++ []
theorem dksX2_inCell_0 : cX2_inCell.data.toList.drop 0 = dktX2_inCell_0 := by decide +kernel
theorem dX2_inCell_0 : decode cX2_inCell 0 = .ok (.iload_n 1, 1) := dk_27 (dk_at dksX2_inCell_0 0 rfl rfl)
theorem dX2_inCell_1 : decode cX2_inCell 1 = .ok (.invokestatic 119, 3) := dk_184 0 119 (dk_at dksX2_inCell_0 1 rfl rfl)
theorem dX2_inCell_4 : decode cX2_inCell 4 = .ok (.ifCond .eq 11, 3) := dk_153 0 11 (dk_at dksX2_inCell_0 4 rfl rfl)
theorem dX2_inCell_7 : decode cX2_inCell 7 = .ok (.aload_n 0, 1) := dk_42 (dk_at dksX2_inCell_0 7 rfl rfl)
theorem dX2_inCell_8 : decode cX2_inCell 8 = .ok (.iload_n 1, 1) := dk_27 (dk_at dksX2_inCell_0 8 rfl rfl)
theorem dX2_inCell_9 : decode cX2_inCell 9 = .ok (.invokevirtual 122, 3) := dk_182 0 122 (dk_at dksX2_inCell_0 9 rfl rfl)
theorem dX2_inCell_12 : decode cX2_inCell 12 = .ok (.goto 5, 3) := dk_167 0 5 (dk_at dksX2_inCell_0 12 rfl rfl)
theorem dX2_inCell_15 : decode cX2_inCell 15 = .ok (.bipush (-11), 2) := dk_16 245 (dk_at dksX2_inCell_0 15 rfl rfl)
theorem dX2_inCell_17 : decode cX2_inCell 17 = .ok (.ireturn, 1) := dk_172 (dk_at dksX2_inCell_0 17 rfl rfl)
abbrev cX2_entitled : ByteArray := prog_13_method_65_code
def yX2_entitled : MethodName := ⟨RX2, "entitled", "()I"⟩
def dkwX2_entitled_1 : List UInt8 := [28, 120, 167, 0, 4, 3, 128, 60, 132, 2, 1, 167, 255, 225, 27, 172]
abbrev dktX2_entitled_1 : List UInt8 := dkwX2_entitled_1 ++ []
def dkwX2_entitled_0 : List UInt8 := [3, 60, 3, 61, 28, 42, 180, 0, 7, 5, 46, 162, 0, 27, 27, 42, 28, 182, 0, 167, 153, 0, 9, 4]
abbrev dktX2_entitled_0 : List UInt8 := dkwX2_entitled_0 ++ dktX2_entitled_1
theorem dksX2_entitled_0 : cX2_entitled.data.toList.drop 0 = dktX2_entitled_0 := by decide +kernel
theorem dksX2_entitled_1 : cX2_entitled.data.toList.drop 24 = dktX2_entitled_1 := dk_seg dksX2_entitled_0 24 rfl rfl
theorem dX2_entitled_0 : decode cX2_entitled 0 = .ok (.iconst 0, 1) := dk_3 (dk_at dksX2_entitled_0 0 rfl rfl)
theorem dX2_entitled_1 : decode cX2_entitled 1 = .ok (.istore_n 1, 1) := dk_60 (dk_at dksX2_entitled_0 1 rfl rfl)
theorem dX2_entitled_2 : decode cX2_entitled 2 = .ok (.iconst 0, 1) := dk_3 (dk_at dksX2_entitled_0 2 rfl rfl)
theorem dX2_entitled_3 : decode cX2_entitled 3 = .ok (.istore_n 2, 1) := dk_61 (dk_at dksX2_entitled_0 3 rfl rfl)
theorem dX2_entitled_4 : decode cX2_entitled 4 = .ok (.iload_n 2, 1) := dk_28 (dk_at dksX2_entitled_0 4 rfl rfl)
theorem dX2_entitled_5 : decode cX2_entitled 5 = .ok (.aload_n 0, 1) := dk_42 (dk_at dksX2_entitled_0 5 rfl rfl)
theorem dX2_entitled_6 : decode cX2_entitled 6 = .ok (.getfield 7, 3) := dk_180 0 7 (dk_at dksX2_entitled_0 6 rfl rfl)
theorem dX2_entitled_9 : decode cX2_entitled 9 = .ok (.iconst 2, 1) := dk_5 (dk_at dksX2_entitled_0 9 rfl rfl)
theorem dX2_entitled_10 : decode cX2_entitled 10 = .ok (.iaload, 1) := dk_46 (dk_at dksX2_entitled_0 10 rfl rfl)
theorem dX2_entitled_11 : decode cX2_entitled 11 = .ok (.if_icmp .ge 27, 3) := dk_162 0 27 (dk_at dksX2_entitled_0 11 rfl rfl)
theorem dX2_entitled_14 : decode cX2_entitled 14 = .ok (.iload_n 1, 1) := dk_27 (dk_at dksX2_entitled_0 14 rfl rfl)
theorem dX2_entitled_15 : decode cX2_entitled 15 = .ok (.aload_n 0, 1) := dk_42 (dk_at dksX2_entitled_0 15 rfl rfl)
theorem dX2_entitled_16 : decode cX2_entitled 16 = .ok (.iload_n 2, 1) := dk_28 (dk_at dksX2_entitled_0 16 rfl rfl)
theorem dX2_entitled_17 : decode cX2_entitled 17 = .ok (.invokevirtual 167, 3) := dk_182 0 167 (dk_at dksX2_entitled_0 17 rfl rfl)
theorem dX2_entitled_20 : decode cX2_entitled 20 = .ok (.ifCond .eq 9, 3) := dk_153 0 9 (dk_at dksX2_entitled_0 20 rfl rfl)
theorem dX2_entitled_23 : decode cX2_entitled 23 = .ok (.iconst 1, 1) := dk_4 (dk_at dksX2_entitled_0 23 rfl rfl)
theorem dX2_entitled_24 : decode cX2_entitled 24 = .ok (.iload_n 2, 1) := dk_28 (dk_at dksX2_entitled_1 0 rfl rfl)
theorem dX2_entitled_25 : decode cX2_entitled 25 = .ok (.ishl, 1) := dk_120 (dk_at dksX2_entitled_1 1 rfl rfl)
theorem dX2_entitled_26 : decode cX2_entitled 26 = .ok (.goto 4, 3) := dk_167 0 4 (dk_at dksX2_entitled_1 2 rfl rfl)
theorem dX2_entitled_29 : decode cX2_entitled 29 = .ok (.iconst 0, 1) := dk_3 (dk_at dksX2_entitled_1 5 rfl rfl)
theorem dX2_entitled_30 : decode cX2_entitled 30 = .ok (.ior, 1) := dk_128 (dk_at dksX2_entitled_1 6 rfl rfl)
theorem dX2_entitled_31 : decode cX2_entitled 31 = .ok (.istore_n 1, 1) := dk_60 (dk_at dksX2_entitled_1 7 rfl rfl)
theorem dX2_entitled_32 : decode cX2_entitled 32 = .ok (.iinc 2 1, 3) := dk_132 2 1 (dk_at dksX2_entitled_1 8 rfl rfl)
theorem dX2_entitled_35 : decode cX2_entitled 35 = .ok (.goto (-31), 3) := dk_167 255 225 (dk_at dksX2_entitled_1 11 rfl rfl)
theorem dX2_entitled_38 : decode cX2_entitled 38 = .ok (.iload_n 1, 1) := dk_27 (dk_at dksX2_entitled_1 14 rfl rfl)
theorem dX2_entitled_39 : decode cX2_entitled 39 = .ok (.ireturn, 1) := dk_172 (dk_at dksX2_entitled_1 15 rfl rfl)
abbrev cX2_entitledAgain : ByteArray := prog_13_method_66_code
def yX2_entitledAgain : MethodName := ⟨RX2, "entitledAgain", "()I"⟩
def dkwX2_entitledAgain_1 : List UInt8 := [182, 0, 64, 154, 0, 9, 4, 29, 120, 167, 0, 4, 3, 128, 60, 132, 2, 1, 167, 255, 218, 27, 172]
abbrev dktX2_entitledAgain_1 : List UInt8 := dkwX2_entitledAgain_1 ++ []
def dkwX2_entitledAgain_0 : List UInt8 := [3, 60, 3, 61, 28, 16, 8, 162, 0, 38, 42, 28, 182, 0, 122, 62, 27, 29, 155, 0, 18, 42, 29, 8]
abbrev dktX2_entitledAgain_0 : List UInt8 := dkwX2_entitledAgain_0 ++ dktX2_entitledAgain_1
theorem dksX2_entitledAgain_0 : cX2_entitledAgain.data.toList.drop 0 = dktX2_entitledAgain_0 := by decide +kernel
theorem dksX2_entitledAgain_1 : cX2_entitledAgain.data.toList.drop 24 = dktX2_entitledAgain_1 := dk_seg dksX2_entitledAgain_0 24 rfl rfl
theorem dX2_entitledAgain_0 : decode cX2_entitledAgain 0 = .ok (.iconst 0, 1) := dk_3 (dk_at dksX2_entitledAgain_0 0 rfl rfl)
theorem dX2_entitledAgain_1 : decode cX2_entitledAgain 1 = .ok (.istore_n 1, 1) := dk_60 (dk_at dksX2_entitledAgain_0 1 rfl rfl)
theorem dX2_entitledAgain_2 : decode cX2_entitledAgain 2 = .ok (.iconst 0, 1) := dk_3 (dk_at dksX2_entitledAgain_0 2 rfl rfl)
theorem dX2_entitledAgain_3 : decode cX2_entitledAgain 3 = .ok (.istore_n 2, 1) := dk_61 (dk_at dksX2_entitledAgain_0 3 rfl rfl)
theorem dX2_entitledAgain_4 : decode cX2_entitledAgain 4 = .ok (.iload_n 2, 1) := dk_28 (dk_at dksX2_entitledAgain_0 4 rfl rfl)
theorem dX2_entitledAgain_5 : decode cX2_entitledAgain 5 = .ok (.bipush 8, 2) := dk_16 8 (dk_at dksX2_entitledAgain_0 5 rfl rfl)
theorem dX2_entitledAgain_7 : decode cX2_entitledAgain 7 = .ok (.if_icmp .ge 38, 3) := dk_162 0 38 (dk_at dksX2_entitledAgain_0 7 rfl rfl)
theorem dX2_entitledAgain_10 : decode cX2_entitledAgain 10 = .ok (.aload_n 0, 1) := dk_42 (dk_at dksX2_entitledAgain_0 10 rfl rfl)
theorem dX2_entitledAgain_11 : decode cX2_entitledAgain 11 = .ok (.iload_n 2, 1) := dk_28 (dk_at dksX2_entitledAgain_0 11 rfl rfl)
theorem dX2_entitledAgain_12 : decode cX2_entitledAgain 12 = .ok (.invokevirtual 122, 3) := dk_182 0 122 (dk_at dksX2_entitledAgain_0 12 rfl rfl)
theorem dX2_entitledAgain_15 : decode cX2_entitledAgain 15 = .ok (.istore_n 3, 1) := dk_62 (dk_at dksX2_entitledAgain_0 15 rfl rfl)
theorem dX2_entitledAgain_16 : decode cX2_entitledAgain 16 = .ok (.iload_n 1, 1) := dk_27 (dk_at dksX2_entitledAgain_0 16 rfl rfl)
theorem dX2_entitledAgain_17 : decode cX2_entitledAgain 17 = .ok (.iload_n 3, 1) := dk_29 (dk_at dksX2_entitledAgain_0 17 rfl rfl)
theorem dX2_entitledAgain_18 : decode cX2_entitledAgain 18 = .ok (.ifCond .lt 18, 3) := dk_155 0 18 (dk_at dksX2_entitledAgain_0 18 rfl rfl)
theorem dX2_entitledAgain_21 : decode cX2_entitledAgain 21 = .ok (.aload_n 0, 1) := dk_42 (dk_at dksX2_entitledAgain_0 21 rfl rfl)
theorem dX2_entitledAgain_22 : decode cX2_entitledAgain 22 = .ok (.iload_n 3, 1) := dk_29 (dk_at dksX2_entitledAgain_0 22 rfl rfl)
theorem dX2_entitledAgain_23 : decode cX2_entitledAgain 23 = .ok (.iconst 5, 1) := dk_8 (dk_at dksX2_entitledAgain_0 23 rfl rfl)
theorem dX2_entitledAgain_24 : decode cX2_entitledAgain 24 = .ok (.invokevirtual 64, 3) := dk_182 0 64 (dk_at dksX2_entitledAgain_1 0 rfl rfl)
theorem dX2_entitledAgain_27 : decode cX2_entitledAgain 27 = .ok (.ifCond .ne 9, 3) := dk_154 0 9 (dk_at dksX2_entitledAgain_1 3 rfl rfl)
theorem dX2_entitledAgain_30 : decode cX2_entitledAgain 30 = .ok (.iconst 1, 1) := dk_4 (dk_at dksX2_entitledAgain_1 6 rfl rfl)
theorem dX2_entitledAgain_31 : decode cX2_entitledAgain 31 = .ok (.iload_n 3, 1) := dk_29 (dk_at dksX2_entitledAgain_1 7 rfl rfl)
theorem dX2_entitledAgain_32 : decode cX2_entitledAgain 32 = .ok (.ishl, 1) := dk_120 (dk_at dksX2_entitledAgain_1 8 rfl rfl)
theorem dX2_entitledAgain_33 : decode cX2_entitledAgain 33 = .ok (.goto 4, 3) := dk_167 0 4 (dk_at dksX2_entitledAgain_1 9 rfl rfl)
theorem dX2_entitledAgain_36 : decode cX2_entitledAgain 36 = .ok (.iconst 0, 1) := dk_3 (dk_at dksX2_entitledAgain_1 12 rfl rfl)
theorem dX2_entitledAgain_37 : decode cX2_entitledAgain 37 = .ok (.ior, 1) := dk_128 (dk_at dksX2_entitledAgain_1 13 rfl rfl)
theorem dX2_entitledAgain_38 : decode cX2_entitledAgain 38 = .ok (.istore_n 1, 1) := dk_60 (dk_at dksX2_entitledAgain_1 14 rfl rfl)
theorem dX2_entitledAgain_39 : decode cX2_entitledAgain 39 = .ok (.iinc 2 1, 3) := dk_132 2 1 (dk_at dksX2_entitledAgain_1 15 rfl rfl)
theorem dX2_entitledAgain_42 : decode cX2_entitledAgain 42 = .ok (.goto (-38), 3) := dk_167 255 218 (dk_at dksX2_entitledAgain_1 18 rfl rfl)
theorem dX2_entitledAgain_45 : decode cX2_entitledAgain 45 = .ok (.iload_n 1, 1) := dk_27 (dk_at dksX2_entitledAgain_1 21 rfl rfl)
theorem dX2_entitledAgain_46 : decode cX2_entitledAgain 46 = .ok (.ireturn, 1) := dk_172 (dk_at dksX2_entitledAgain_1 22 rfl rfl)
abbrev cX2_voices : ByteArray := prog_13_method_67_code
def yX2_voices : MethodName := ⟨RX2, "voices", "(I)I"⟩
def dkwX2_voices_0 : List UInt8 := [42, 27, 182, 0, 96, 153, 0, 11, 42, 27, 182, 0, 107, 167, 0, 5, 16, 245, 172]
abbrev dktX2_voices_0 : List UInt8 := dkwX2_voices_0 ++ []
theorem dksX2_voices_0 : cX2_voices.data.toList.drop 0 = dktX2_voices_0 := by decide +kernel
theorem dX2_voices_0 : decode cX2_voices 0 = .ok (.aload_n 0, 1) := dk_42 (dk_at dksX2_voices_0 0 rfl rfl)
theorem dX2_voices_1 : decode cX2_voices 1 = .ok (.iload_n 1, 1) := dk_27 (dk_at dksX2_voices_0 1 rfl rfl)
theorem dX2_voices_2 : decode cX2_voices 2 = .ok (.invokevirtual 96, 3) := dk_182 0 96 (dk_at dksX2_voices_0 2 rfl rfl)
theorem dX2_voices_5 : decode cX2_voices 5 = .ok (.ifCond .eq 11, 3) := dk_153 0 11 (dk_at dksX2_voices_0 5 rfl rfl)
theorem dX2_voices_8 : decode cX2_voices 8 = .ok (.aload_n 0, 1) := dk_42 (dk_at dksX2_voices_0 8 rfl rfl)
theorem dX2_voices_9 : decode cX2_voices 9 = .ok (.iload_n 1, 1) := dk_27 (dk_at dksX2_voices_0 9 rfl rfl)
theorem dX2_voices_10 : decode cX2_voices 10 = .ok (.invokevirtual 107, 3) := dk_182 0 107 (dk_at dksX2_voices_0 10 rfl rfl)
theorem dX2_voices_13 : decode cX2_voices 13 = .ok (.goto 5, 3) := dk_167 0 5 (dk_at dksX2_voices_0 13 rfl rfl)
theorem dX2_voices_16 : decode cX2_voices 16 = .ok (.bipush (-11), 2) := dk_16 245 (dk_at dksX2_voices_0 16 rfl rfl)
theorem dX2_voices_18 : decode cX2_voices 18 = .ok (.ireturn, 1) := dk_172 (dk_at dksX2_voices_0 18 rfl rfl)
abbrev cX2_voicesAgain : ByteArray := prog_13_method_68_code
def yX2_voicesAgain : MethodName := ⟨RX2, "voicesAgain", "(I)I"⟩
def dkwX2_voicesAgain_3 : List UInt8 := [132, 2, 1, 167, 255, 215, 42, 180, 0, 22, 27, 46, 172]
abbrev dktX2_voicesAgain_3 : List UInt8 := dkwX2_voicesAgain_3 ++ []
def dkwX2_voicesAgain_2 : List UInt8 := [182, 0, 64, 4, 100, 62, 29, 155, 0, 17, 42, 180, 0, 22, 29, 92, 46, 42, 29, 182, 0, 72, 96, 79]
abbrev dktX2_voicesAgain_2 : List UInt8 := dkwX2_voicesAgain_2 ++ dktX2_voicesAgain_3
def dkwX2_voicesAgain_1 : List UInt8 := [3, 79, 132, 2, 1, 167, 255, 240, 3, 61, 28, 42, 180, 0, 7, 5, 46, 162, 0, 37, 42, 28, 16, 7]
abbrev dktX2_voicesAgain_1 : List UInt8 := dkwX2_voicesAgain_1 ++ dktX2_voicesAgain_2
def dkwX2_voicesAgain_0 : List UInt8 := [42, 27, 182, 0, 96, 154, 0, 6, 16, 245, 172, 3, 61, 28, 16, 16, 162, 0, 16, 42, 180, 0, 22, 28]
abbrev dktX2_voicesAgain_0 : List UInt8 := dkwX2_voicesAgain_0 ++ dktX2_voicesAgain_1
theorem dksX2_voicesAgain_0 : cX2_voicesAgain.data.toList.drop 0 = dktX2_voicesAgain_0 := by decide +kernel
theorem dksX2_voicesAgain_1 : cX2_voicesAgain.data.toList.drop 24 = dktX2_voicesAgain_1 := dk_seg dksX2_voicesAgain_0 24 rfl rfl
theorem dksX2_voicesAgain_2 : cX2_voicesAgain.data.toList.drop 48 = dktX2_voicesAgain_2 := dk_seg dksX2_voicesAgain_1 24 rfl rfl
theorem dksX2_voicesAgain_3 : cX2_voicesAgain.data.toList.drop 72 = dktX2_voicesAgain_3 := dk_seg dksX2_voicesAgain_2 24 rfl rfl
theorem dX2_voicesAgain_0 : decode cX2_voicesAgain 0 = .ok (.aload_n 0, 1) := dk_42 (dk_at dksX2_voicesAgain_0 0 rfl rfl)
theorem dX2_voicesAgain_1 : decode cX2_voicesAgain 1 = .ok (.iload_n 1, 1) := dk_27 (dk_at dksX2_voicesAgain_0 1 rfl rfl)
theorem dX2_voicesAgain_2 : decode cX2_voicesAgain 2 = .ok (.invokevirtual 96, 3) := dk_182 0 96 (dk_at dksX2_voicesAgain_0 2 rfl rfl)
theorem dX2_voicesAgain_5 : decode cX2_voicesAgain 5 = .ok (.ifCond .ne 6, 3) := dk_154 0 6 (dk_at dksX2_voicesAgain_0 5 rfl rfl)
theorem dX2_voicesAgain_8 : decode cX2_voicesAgain 8 = .ok (.bipush (-11), 2) := dk_16 245 (dk_at dksX2_voicesAgain_0 8 rfl rfl)
theorem dX2_voicesAgain_10 : decode cX2_voicesAgain 10 = .ok (.ireturn, 1) := dk_172 (dk_at dksX2_voicesAgain_0 10 rfl rfl)
theorem dX2_voicesAgain_11 : decode cX2_voicesAgain 11 = .ok (.iconst 0, 1) := dk_3 (dk_at dksX2_voicesAgain_0 11 rfl rfl)
theorem dX2_voicesAgain_12 : decode cX2_voicesAgain 12 = .ok (.istore_n 2, 1) := dk_61 (dk_at dksX2_voicesAgain_0 12 rfl rfl)
theorem dX2_voicesAgain_13 : decode cX2_voicesAgain 13 = .ok (.iload_n 2, 1) := dk_28 (dk_at dksX2_voicesAgain_0 13 rfl rfl)
theorem dX2_voicesAgain_14 : decode cX2_voicesAgain 14 = .ok (.bipush 16, 2) := dk_16 16 (dk_at dksX2_voicesAgain_0 14 rfl rfl)
theorem dX2_voicesAgain_16 : decode cX2_voicesAgain 16 = .ok (.if_icmp .ge 16, 3) := dk_162 0 16 (dk_at dksX2_voicesAgain_0 16 rfl rfl)
theorem dX2_voicesAgain_19 : decode cX2_voicesAgain 19 = .ok (.aload_n 0, 1) := dk_42 (dk_at dksX2_voicesAgain_0 19 rfl rfl)
theorem dX2_voicesAgain_20 : decode cX2_voicesAgain 20 = .ok (.getfield 22, 3) := dk_180 0 22 (dk_at dksX2_voicesAgain_0 20 rfl rfl)
theorem dX2_voicesAgain_23 : decode cX2_voicesAgain 23 = .ok (.iload_n 2, 1) := dk_28 (dk_at dksX2_voicesAgain_0 23 rfl rfl)
theorem dX2_voicesAgain_24 : decode cX2_voicesAgain 24 = .ok (.iconst 0, 1) := dk_3 (dk_at dksX2_voicesAgain_1 0 rfl rfl)
theorem dX2_voicesAgain_25 : decode cX2_voicesAgain 25 = .ok (.iastore, 1) := dk_79 (dk_at dksX2_voicesAgain_1 1 rfl rfl)
theorem dX2_voicesAgain_26 : decode cX2_voicesAgain 26 = .ok (.iinc 2 1, 3) := dk_132 2 1 (dk_at dksX2_voicesAgain_1 2 rfl rfl)
theorem dX2_voicesAgain_29 : decode cX2_voicesAgain 29 = .ok (.goto (-16), 3) := dk_167 255 240 (dk_at dksX2_voicesAgain_1 5 rfl rfl)
theorem dX2_voicesAgain_32 : decode cX2_voicesAgain 32 = .ok (.iconst 0, 1) := dk_3 (dk_at dksX2_voicesAgain_1 8 rfl rfl)
theorem dX2_voicesAgain_33 : decode cX2_voicesAgain 33 = .ok (.istore_n 2, 1) := dk_61 (dk_at dksX2_voicesAgain_1 9 rfl rfl)
theorem dX2_voicesAgain_34 : decode cX2_voicesAgain 34 = .ok (.iload_n 2, 1) := dk_28 (dk_at dksX2_voicesAgain_1 10 rfl rfl)
theorem dX2_voicesAgain_35 : decode cX2_voicesAgain 35 = .ok (.aload_n 0, 1) := dk_42 (dk_at dksX2_voicesAgain_1 11 rfl rfl)
theorem dX2_voicesAgain_36 : decode cX2_voicesAgain 36 = .ok (.getfield 7, 3) := dk_180 0 7 (dk_at dksX2_voicesAgain_1 12 rfl rfl)
theorem dX2_voicesAgain_39 : decode cX2_voicesAgain 39 = .ok (.iconst 2, 1) := dk_5 (dk_at dksX2_voicesAgain_1 15 rfl rfl)
theorem dX2_voicesAgain_40 : decode cX2_voicesAgain 40 = .ok (.iaload, 1) := dk_46 (dk_at dksX2_voicesAgain_1 16 rfl rfl)
theorem dX2_voicesAgain_41 : decode cX2_voicesAgain 41 = .ok (.if_icmp .ge 37, 3) := dk_162 0 37 (dk_at dksX2_voicesAgain_1 17 rfl rfl)
theorem dX2_voicesAgain_44 : decode cX2_voicesAgain 44 = .ok (.aload_n 0, 1) := dk_42 (dk_at dksX2_voicesAgain_1 20 rfl rfl)
theorem dX2_voicesAgain_45 : decode cX2_voicesAgain 45 = .ok (.iload_n 2, 1) := dk_28 (dk_at dksX2_voicesAgain_1 21 rfl rfl)
theorem dX2_voicesAgain_46 : decode cX2_voicesAgain 46 = .ok (.bipush 7, 2) := dk_16 7 (dk_at dksX2_voicesAgain_1 22 rfl rfl)
theorem dX2_voicesAgain_48 : decode cX2_voicesAgain 48 = .ok (.invokevirtual 64, 3) := dk_182 0 64 (dk_at dksX2_voicesAgain_2 0 rfl rfl)
theorem dX2_voicesAgain_51 : decode cX2_voicesAgain 51 = .ok (.iconst 1, 1) := dk_4 (dk_at dksX2_voicesAgain_2 3 rfl rfl)
theorem dX2_voicesAgain_52 : decode cX2_voicesAgain 52 = .ok (.isub, 1) := dk_100 (dk_at dksX2_voicesAgain_2 4 rfl rfl)
theorem dX2_voicesAgain_53 : decode cX2_voicesAgain 53 = .ok (.istore_n 3, 1) := dk_62 (dk_at dksX2_voicesAgain_2 5 rfl rfl)
theorem dX2_voicesAgain_54 : decode cX2_voicesAgain 54 = .ok (.iload_n 3, 1) := dk_29 (dk_at dksX2_voicesAgain_2 6 rfl rfl)
theorem dX2_voicesAgain_55 : decode cX2_voicesAgain 55 = .ok (.ifCond .lt 17, 3) := dk_155 0 17 (dk_at dksX2_voicesAgain_2 7 rfl rfl)
theorem dX2_voicesAgain_58 : decode cX2_voicesAgain 58 = .ok (.aload_n 0, 1) := dk_42 (dk_at dksX2_voicesAgain_2 10 rfl rfl)
theorem dX2_voicesAgain_59 : decode cX2_voicesAgain 59 = .ok (.getfield 22, 3) := dk_180 0 22 (dk_at dksX2_voicesAgain_2 11 rfl rfl)
theorem dX2_voicesAgain_62 : decode cX2_voicesAgain 62 = .ok (.iload_n 3, 1) := dk_29 (dk_at dksX2_voicesAgain_2 14 rfl rfl)
theorem dX2_voicesAgain_63 : decode cX2_voicesAgain 63 = .ok (.dup2, 1) := dk_92 (dk_at dksX2_voicesAgain_2 15 rfl rfl)
theorem dX2_voicesAgain_64 : decode cX2_voicesAgain 64 = .ok (.iaload, 1) := dk_46 (dk_at dksX2_voicesAgain_2 16 rfl rfl)
theorem dX2_voicesAgain_65 : decode cX2_voicesAgain 65 = .ok (.aload_n 0, 1) := dk_42 (dk_at dksX2_voicesAgain_2 17 rfl rfl)
theorem dX2_voicesAgain_66 : decode cX2_voicesAgain 66 = .ok (.iload_n 3, 1) := dk_29 (dk_at dksX2_voicesAgain_2 18 rfl rfl)
theorem dX2_voicesAgain_67 : decode cX2_voicesAgain 67 = .ok (.invokevirtual 72, 3) := dk_182 0 72 (dk_at dksX2_voicesAgain_2 19 rfl rfl)
theorem dX2_voicesAgain_70 : decode cX2_voicesAgain 70 = .ok (.iadd, 1) := dk_96 (dk_at dksX2_voicesAgain_2 22 rfl rfl)
theorem dX2_voicesAgain_71 : decode cX2_voicesAgain 71 = .ok (.iastore, 1) := dk_79 (dk_at dksX2_voicesAgain_2 23 rfl rfl)
theorem dX2_voicesAgain_72 : decode cX2_voicesAgain 72 = .ok (.iinc 2 1, 3) := dk_132 2 1 (dk_at dksX2_voicesAgain_3 0 rfl rfl)
theorem dX2_voicesAgain_75 : decode cX2_voicesAgain 75 = .ok (.goto (-41), 3) := dk_167 255 215 (dk_at dksX2_voicesAgain_3 3 rfl rfl)
theorem dX2_voicesAgain_78 : decode cX2_voicesAgain 78 = .ok (.aload_n 0, 1) := dk_42 (dk_at dksX2_voicesAgain_3 6 rfl rfl)
theorem dX2_voicesAgain_79 : decode cX2_voicesAgain 79 = .ok (.getfield 22, 3) := dk_180 0 22 (dk_at dksX2_voicesAgain_3 7 rfl rfl)
theorem dX2_voicesAgain_82 : decode cX2_voicesAgain 82 = .ok (.iload_n 1, 1) := dk_27 (dk_at dksX2_voicesAgain_3 10 rfl rfl)
theorem dX2_voicesAgain_83 : decode cX2_voicesAgain 83 = .ok (.iaload, 1) := dk_46 (dk_at dksX2_voicesAgain_3 11 rfl rfl)
theorem dX2_voicesAgain_84 : decode cX2_voicesAgain 84 = .ok (.ireturn, 1) := dk_172 (dk_at dksX2_voicesAgain_3 12 rfl rfl)
abbrev cX2_ranked : ByteArray := prog_13_method_69_code
def yX2_ranked : MethodName := ⟨RX2, "ranked", "(I)I"⟩
def dkwX2_ranked_0 : List UInt8 := [42, 27, 182, 0, 125, 172]
abbrev dktX2_ranked_0 : List UInt8 := dkwX2_ranked_0 ++ []
theorem dksX2_ranked_0 : cX2_ranked.data.toList.drop 0 = dktX2_ranked_0 := by decide +kernel
theorem dX2_ranked_0 : decode cX2_ranked 0 = .ok (.aload_n 0, 1) := dk_42 (dk_at dksX2_ranked_0 0 rfl rfl)
theorem dX2_ranked_1 : decode cX2_ranked 1 = .ok (.iload_n 1, 1) := dk_27 (dk_at dksX2_ranked_0 1 rfl rfl)
theorem dX2_ranked_2 : decode cX2_ranked 2 = .ok (.invokevirtual 125, 3) := dk_182 0 125 (dk_at dksX2_ranked_0 2 rfl rfl)
theorem dX2_ranked_5 : decode cX2_ranked 5 = .ok (.ireturn, 1) := dk_172 (dk_at dksX2_ranked_0 5 rfl rfl)
abbrev cX2_senior : ByteArray := prog_13_method_70_code
def yX2_senior : MethodName := ⟨RX2, "senior", "(I)I"⟩
def dkwX2_senior_3 : List UInt8 := [167, 255, 214, 29, 27, 160, 0, 5, 28, 172, 132, 2, 1, 167, 255, 174, 16, 245, 172]
abbrev dktX2_senior_3 : List UInt8 := dkwX2_senior_3 ++ []
def dkwX2_senior_2 : List UInt8 := [153, 0, 17, 42, 21, 4, 28, 182, 0, 174, 153, 0, 7, 4, 167, 0, 4, 3, 96, 62, 132, 4, 1]
abbrev dktX2_senior_2 : List UInt8 := dkwX2_senior_2 ++ dktX2_senior_3
def dkwX2_senior_1 : List UInt8 := [3, 62, 3, 54, 4, 21, 4, 42, 180, 0, 7, 5, 46, 162, 0, 37, 29, 42, 21, 4, 4, 182, 0, 68]
abbrev dktX2_senior_1 : List UInt8 := dkwX2_senior_1 ++ dktX2_senior_2
def dkwX2_senior_0 : List UInt8 := [3, 61, 28, 42, 180, 0, 7, 5, 46, 162, 0, 78, 42, 28, 4, 182, 0, 68, 154, 0, 6, 167, 0, 60]
abbrev dktX2_senior_0 : List UInt8 := dkwX2_senior_0 ++ dktX2_senior_1
theorem dksX2_senior_0 : cX2_senior.data.toList.drop 0 = dktX2_senior_0 := by decide +kernel
theorem dksX2_senior_1 : cX2_senior.data.toList.drop 24 = dktX2_senior_1 := dk_seg dksX2_senior_0 24 rfl rfl
theorem dksX2_senior_2 : cX2_senior.data.toList.drop 48 = dktX2_senior_2 := dk_seg dksX2_senior_1 24 rfl rfl
theorem dksX2_senior_3 : cX2_senior.data.toList.drop 71 = dktX2_senior_3 := dk_seg dksX2_senior_2 23 rfl rfl
theorem dX2_senior_0 : decode cX2_senior 0 = .ok (.iconst 0, 1) := dk_3 (dk_at dksX2_senior_0 0 rfl rfl)
theorem dX2_senior_1 : decode cX2_senior 1 = .ok (.istore_n 2, 1) := dk_61 (dk_at dksX2_senior_0 1 rfl rfl)
theorem dX2_senior_2 : decode cX2_senior 2 = .ok (.iload_n 2, 1) := dk_28 (dk_at dksX2_senior_0 2 rfl rfl)
theorem dX2_senior_3 : decode cX2_senior 3 = .ok (.aload_n 0, 1) := dk_42 (dk_at dksX2_senior_0 3 rfl rfl)
theorem dX2_senior_4 : decode cX2_senior 4 = .ok (.getfield 7, 3) := dk_180 0 7 (dk_at dksX2_senior_0 4 rfl rfl)
theorem dX2_senior_7 : decode cX2_senior 7 = .ok (.iconst 2, 1) := dk_5 (dk_at dksX2_senior_0 7 rfl rfl)
theorem dX2_senior_8 : decode cX2_senior 8 = .ok (.iaload, 1) := dk_46 (dk_at dksX2_senior_0 8 rfl rfl)
theorem dX2_senior_9 : decode cX2_senior 9 = .ok (.if_icmp .ge 78, 3) := dk_162 0 78 (dk_at dksX2_senior_0 9 rfl rfl)
theorem dX2_senior_12 : decode cX2_senior 12 = .ok (.aload_n 0, 1) := dk_42 (dk_at dksX2_senior_0 12 rfl rfl)
theorem dX2_senior_13 : decode cX2_senior 13 = .ok (.iload_n 2, 1) := dk_28 (dk_at dksX2_senior_0 13 rfl rfl)
theorem dX2_senior_14 : decode cX2_senior 14 = .ok (.iconst 1, 1) := dk_4 (dk_at dksX2_senior_0 14 rfl rfl)
theorem dX2_senior_15 : decode cX2_senior 15 = .ok (.invokevirtual 68, 3) := dk_182 0 68 (dk_at dksX2_senior_0 15 rfl rfl)
theorem dX2_senior_18 : decode cX2_senior 18 = .ok (.ifCond .ne 6, 3) := dk_154 0 6 (dk_at dksX2_senior_0 18 rfl rfl)
theorem dX2_senior_21 : decode cX2_senior 21 = .ok (.goto 60, 3) := dk_167 0 60 (dk_at dksX2_senior_0 21 rfl rfl)
theorem dX2_senior_24 : decode cX2_senior 24 = .ok (.iconst 0, 1) := dk_3 (dk_at dksX2_senior_1 0 rfl rfl)
theorem dX2_senior_25 : decode cX2_senior 25 = .ok (.istore_n 3, 1) := dk_62 (dk_at dksX2_senior_1 1 rfl rfl)
theorem dX2_senior_26 : decode cX2_senior 26 = .ok (.iconst 0, 1) := dk_3 (dk_at dksX2_senior_1 2 rfl rfl)
theorem dX2_senior_27 : decode cX2_senior 27 = .ok (.istore 4, 2) := dk_54 4 (dk_at dksX2_senior_1 3 rfl rfl)
theorem dX2_senior_29 : decode cX2_senior 29 = .ok (.iload 4, 2) := dk_21 4 (dk_at dksX2_senior_1 5 rfl rfl)
theorem dX2_senior_31 : decode cX2_senior 31 = .ok (.aload_n 0, 1) := dk_42 (dk_at dksX2_senior_1 7 rfl rfl)
theorem dX2_senior_32 : decode cX2_senior 32 = .ok (.getfield 7, 3) := dk_180 0 7 (dk_at dksX2_senior_1 8 rfl rfl)
theorem dX2_senior_35 : decode cX2_senior 35 = .ok (.iconst 2, 1) := dk_5 (dk_at dksX2_senior_1 11 rfl rfl)
theorem dX2_senior_36 : decode cX2_senior 36 = .ok (.iaload, 1) := dk_46 (dk_at dksX2_senior_1 12 rfl rfl)
theorem dX2_senior_37 : decode cX2_senior 37 = .ok (.if_icmp .ge 37, 3) := dk_162 0 37 (dk_at dksX2_senior_1 13 rfl rfl)
theorem dX2_senior_40 : decode cX2_senior 40 = .ok (.iload_n 3, 1) := dk_29 (dk_at dksX2_senior_1 16 rfl rfl)
theorem dX2_senior_41 : decode cX2_senior 41 = .ok (.aload_n 0, 1) := dk_42 (dk_at dksX2_senior_1 17 rfl rfl)
theorem dX2_senior_42 : decode cX2_senior 42 = .ok (.iload 4, 2) := dk_21 4 (dk_at dksX2_senior_1 18 rfl rfl)
theorem dX2_senior_44 : decode cX2_senior 44 = .ok (.iconst 1, 1) := dk_4 (dk_at dksX2_senior_1 20 rfl rfl)
theorem dX2_senior_45 : decode cX2_senior 45 = .ok (.invokevirtual 68, 3) := dk_182 0 68 (dk_at dksX2_senior_1 21 rfl rfl)
theorem dX2_senior_48 : decode cX2_senior 48 = .ok (.ifCond .eq 17, 3) := dk_153 0 17 (dk_at dksX2_senior_2 0 rfl rfl)
theorem dX2_senior_51 : decode cX2_senior 51 = .ok (.aload_n 0, 1) := dk_42 (dk_at dksX2_senior_2 3 rfl rfl)
theorem dX2_senior_52 : decode cX2_senior 52 = .ok (.iload 4, 2) := dk_21 4 (dk_at dksX2_senior_2 4 rfl rfl)
theorem dX2_senior_54 : decode cX2_senior 54 = .ok (.iload_n 2, 1) := dk_28 (dk_at dksX2_senior_2 6 rfl rfl)
theorem dX2_senior_55 : decode cX2_senior 55 = .ok (.invokevirtual 174, 3) := dk_182 0 174 (dk_at dksX2_senior_2 7 rfl rfl)
theorem dX2_senior_58 : decode cX2_senior 58 = .ok (.ifCond .eq 7, 3) := dk_153 0 7 (dk_at dksX2_senior_2 10 rfl rfl)
theorem dX2_senior_61 : decode cX2_senior 61 = .ok (.iconst 1, 1) := dk_4 (dk_at dksX2_senior_2 13 rfl rfl)
theorem dX2_senior_62 : decode cX2_senior 62 = .ok (.goto 4, 3) := dk_167 0 4 (dk_at dksX2_senior_2 14 rfl rfl)
theorem dX2_senior_65 : decode cX2_senior 65 = .ok (.iconst 0, 1) := dk_3 (dk_at dksX2_senior_2 17 rfl rfl)
theorem dX2_senior_66 : decode cX2_senior 66 = .ok (.iadd, 1) := dk_96 (dk_at dksX2_senior_2 18 rfl rfl)
theorem dX2_senior_67 : decode cX2_senior 67 = .ok (.istore_n 3, 1) := dk_62 (dk_at dksX2_senior_2 19 rfl rfl)
theorem dX2_senior_68 : decode cX2_senior 68 = .ok (.iinc 4 1, 3) := dk_132 4 1 (dk_at dksX2_senior_2 20 rfl rfl)
theorem dX2_senior_71 : decode cX2_senior 71 = .ok (.goto (-42), 3) := dk_167 255 214 (dk_at dksX2_senior_3 0 rfl rfl)
theorem dX2_senior_74 : decode cX2_senior 74 = .ok (.iload_n 3, 1) := dk_29 (dk_at dksX2_senior_3 3 rfl rfl)
theorem dX2_senior_75 : decode cX2_senior 75 = .ok (.iload_n 1, 1) := dk_27 (dk_at dksX2_senior_3 4 rfl rfl)
theorem dX2_senior_76 : decode cX2_senior 76 = .ok (.if_icmp .ne 5, 3) := dk_160 0 5 (dk_at dksX2_senior_3 5 rfl rfl)
theorem dX2_senior_79 : decode cX2_senior 79 = .ok (.iload_n 2, 1) := dk_28 (dk_at dksX2_senior_3 8 rfl rfl)
theorem dX2_senior_80 : decode cX2_senior 80 = .ok (.ireturn, 1) := dk_172 (dk_at dksX2_senior_3 9 rfl rfl)
theorem dX2_senior_81 : decode cX2_senior 81 = .ok (.iinc 2 1, 3) := dk_132 2 1 (dk_at dksX2_senior_3 10 rfl rfl)
theorem dX2_senior_84 : decode cX2_senior 84 = .ok (.goto (-82), 3) := dk_167 255 174 (dk_at dksX2_senior_3 13 rfl rfl)
theorem dX2_senior_87 : decode cX2_senior 87 = .ok (.bipush (-11), 2) := dk_16 245 (dk_at dksX2_senior_3 16 rfl rfl)
theorem dX2_senior_89 : decode cX2_senior 89 = .ok (.ireturn, 1) := dk_172 (dk_at dksX2_senior_3 18 rfl rfl)
abbrev cX2_shabby : ByteArray := prog_13_method_71_code
def yX2_shabby : MethodName := ⟨RX2, "shabby", "(I)I"⟩
def dkwX2_shabby_0 : List UInt8 := [42, 27, 182, 0, 180, 172]
abbrev dktX2_shabby_0 : List UInt8 := dkwX2_shabby_0 ++ []
theorem dksX2_shabby_0 : cX2_shabby.data.toList.drop 0 = dktX2_shabby_0 := by decide +kernel
theorem dX2_shabby_0 : decode cX2_shabby 0 = .ok (.aload_n 0, 1) := dk_42 (dk_at dksX2_shabby_0 0 rfl rfl)
theorem dX2_shabby_1 : decode cX2_shabby 1 = .ok (.iload_n 1, 1) := dk_27 (dk_at dksX2_shabby_0 1 rfl rfl)
theorem dX2_shabby_2 : decode cX2_shabby 2 = .ok (.invokevirtual 180, 3) := dk_182 0 180 (dk_at dksX2_shabby_0 2 rfl rfl)
theorem dX2_shabby_5 : decode cX2_shabby 5 = .ok (.ireturn, 1) := dk_172 (dk_at dksX2_shabby_0 5 rfl rfl)
abbrev cX2_nextFeast : ByteArray := prog_13_method_72_code
def yX2_nextFeast : MethodName := ⟨RX2, "nextFeast", "()I"⟩
def dkwX2_nextFeast_1 : List UInt8 := [112, 96, 46, 158, 0, 5, 27, 172, 132, 1, 1, 167, 255, 223, 16, 241, 172]
abbrev dktX2_nextFeast_1 : List UInt8 := dkwX2_nextFeast_1 ++ []
def dkwX2_nextFeast_0 : List UInt8 := [3, 60, 27, 16, 52, 162, 0, 33, 42, 180, 0, 7, 16, 12, 42, 180, 0, 7, 4, 46, 27, 96, 16, 52]
abbrev dktX2_nextFeast_0 : List UInt8 := dkwX2_nextFeast_0 ++ dktX2_nextFeast_1
theorem dksX2_nextFeast_0 : cX2_nextFeast.data.toList.drop 0 = dktX2_nextFeast_0 := by decide +kernel
theorem dksX2_nextFeast_1 : cX2_nextFeast.data.toList.drop 24 = dktX2_nextFeast_1 := dk_seg dksX2_nextFeast_0 24 rfl rfl
theorem dX2_nextFeast_0 : decode cX2_nextFeast 0 = .ok (.iconst 0, 1) := dk_3 (dk_at dksX2_nextFeast_0 0 rfl rfl)
theorem dX2_nextFeast_1 : decode cX2_nextFeast 1 = .ok (.istore_n 1, 1) := dk_60 (dk_at dksX2_nextFeast_0 1 rfl rfl)
theorem dX2_nextFeast_2 : decode cX2_nextFeast 2 = .ok (.iload_n 1, 1) := dk_27 (dk_at dksX2_nextFeast_0 2 rfl rfl)
theorem dX2_nextFeast_3 : decode cX2_nextFeast 3 = .ok (.bipush 52, 2) := dk_16 52 (dk_at dksX2_nextFeast_0 3 rfl rfl)
theorem dX2_nextFeast_5 : decode cX2_nextFeast 5 = .ok (.if_icmp .ge 33, 3) := dk_162 0 33 (dk_at dksX2_nextFeast_0 5 rfl rfl)
theorem dX2_nextFeast_8 : decode cX2_nextFeast 8 = .ok (.aload_n 0, 1) := dk_42 (dk_at dksX2_nextFeast_0 8 rfl rfl)
theorem dX2_nextFeast_9 : decode cX2_nextFeast 9 = .ok (.getfield 7, 3) := dk_180 0 7 (dk_at dksX2_nextFeast_0 9 rfl rfl)
theorem dX2_nextFeast_12 : decode cX2_nextFeast 12 = .ok (.bipush 12, 2) := dk_16 12 (dk_at dksX2_nextFeast_0 12 rfl rfl)
theorem dX2_nextFeast_14 : decode cX2_nextFeast 14 = .ok (.aload_n 0, 1) := dk_42 (dk_at dksX2_nextFeast_0 14 rfl rfl)
theorem dX2_nextFeast_15 : decode cX2_nextFeast 15 = .ok (.getfield 7, 3) := dk_180 0 7 (dk_at dksX2_nextFeast_0 15 rfl rfl)
theorem dX2_nextFeast_18 : decode cX2_nextFeast 18 = .ok (.iconst 1, 1) := dk_4 (dk_at dksX2_nextFeast_0 18 rfl rfl)
theorem dX2_nextFeast_19 : decode cX2_nextFeast 19 = .ok (.iaload, 1) := dk_46 (dk_at dksX2_nextFeast_0 19 rfl rfl)
theorem dX2_nextFeast_20 : decode cX2_nextFeast 20 = .ok (.iload_n 1, 1) := dk_27 (dk_at dksX2_nextFeast_0 20 rfl rfl)
theorem dX2_nextFeast_21 : decode cX2_nextFeast 21 = .ok (.iadd, 1) := dk_96 (dk_at dksX2_nextFeast_0 21 rfl rfl)
theorem dX2_nextFeast_22 : decode cX2_nextFeast 22 = .ok (.bipush 52, 2) := dk_16 52 (dk_at dksX2_nextFeast_0 22 rfl rfl)
theorem dX2_nextFeast_24 : decode cX2_nextFeast 24 = .ok (.irem, 1) := dk_112 (dk_at dksX2_nextFeast_1 0 rfl rfl)
theorem dX2_nextFeast_25 : decode cX2_nextFeast 25 = .ok (.iadd, 1) := dk_96 (dk_at dksX2_nextFeast_1 1 rfl rfl)
theorem dX2_nextFeast_26 : decode cX2_nextFeast 26 = .ok (.iaload, 1) := dk_46 (dk_at dksX2_nextFeast_1 2 rfl rfl)
theorem dX2_nextFeast_27 : decode cX2_nextFeast 27 = .ok (.ifCond .le 5, 3) := dk_158 0 5 (dk_at dksX2_nextFeast_1 3 rfl rfl)
theorem dX2_nextFeast_30 : decode cX2_nextFeast 30 = .ok (.iload_n 1, 1) := dk_27 (dk_at dksX2_nextFeast_1 6 rfl rfl)
theorem dX2_nextFeast_31 : decode cX2_nextFeast 31 = .ok (.ireturn, 1) := dk_172 (dk_at dksX2_nextFeast_1 7 rfl rfl)
theorem dX2_nextFeast_32 : decode cX2_nextFeast 32 = .ok (.iinc 1 1, 3) := dk_132 1 1 (dk_at dksX2_nextFeast_1 8 rfl rfl)
theorem dX2_nextFeast_35 : decode cX2_nextFeast 35 = .ok (.goto (-33), 3) := dk_167 255 223 (dk_at dksX2_nextFeast_1 11 rfl rfl)
theorem dX2_nextFeast_38 : decode cX2_nextFeast 38 = .ok (.bipush (-15), 2) := dk_16 241 (dk_at dksX2_nextFeast_1 14 rfl rfl)
theorem dX2_nextFeast_40 : decode cX2_nextFeast 40 = .ok (.ireturn, 1) := dk_172 (dk_at dksX2_nextFeast_1 16 rfl rfl)
abbrev cX2_append : ByteArray := prog_13_method_73_code
def yX2_append : MethodName := ⟨RX2, "append", "(I)I"⟩
def dkwX2_append_2 : List UInt8 := [42, 180, 0, 204, 172]
abbrev dktX2_append_2 : List UInt8 := dkwX2_append_2 ++ []
def dkwX2_append_1 : List UInt8 := [16, 243, 172, 42, 180, 0, 25, 42, 180, 0, 204, 27, 146, 85, 42, 89, 180, 0, 204, 4, 96, 181, 0, 204]
abbrev dktX2_append_1 : List UInt8 := dkwX2_append_1 ++ dktX2_append_2
def dkwX2_append_0 : List UInt8 := [27, 16, 32, 16, 126, 184, 0, 60, 154, 0, 6, 16, 244, 172, 42, 180, 0, 204, 16, 60, 160, 0, 6]
abbrev dktX2_append_0 : List UInt8 := dkwX2_append_0 ++ dktX2_append_1
theorem dksX2_append_0 : cX2_append.data.toList.drop 0 = dktX2_append_0 := by decide +kernel
theorem dksX2_append_1 : cX2_append.data.toList.drop 23 = dktX2_append_1 := dk_seg dksX2_append_0 23 rfl rfl
theorem dksX2_append_2 : cX2_append.data.toList.drop 47 = dktX2_append_2 := dk_seg dksX2_append_1 24 rfl rfl
theorem dX2_append_0 : decode cX2_append 0 = .ok (.iload_n 1, 1) := dk_27 (dk_at dksX2_append_0 0 rfl rfl)
theorem dX2_append_1 : decode cX2_append 1 = .ok (.bipush 32, 2) := dk_16 32 (dk_at dksX2_append_0 1 rfl rfl)
theorem dX2_append_3 : decode cX2_append 3 = .ok (.bipush 126, 2) := dk_16 126 (dk_at dksX2_append_0 3 rfl rfl)
theorem dX2_append_5 : decode cX2_append 5 = .ok (.invokestatic 60, 3) := dk_184 0 60 (dk_at dksX2_append_0 5 rfl rfl)
theorem dX2_append_8 : decode cX2_append 8 = .ok (.ifCond .ne 6, 3) := dk_154 0 6 (dk_at dksX2_append_0 8 rfl rfl)
theorem dX2_append_11 : decode cX2_append 11 = .ok (.bipush (-12), 2) := dk_16 244 (dk_at dksX2_append_0 11 rfl rfl)
theorem dX2_append_13 : decode cX2_append 13 = .ok (.ireturn, 1) := dk_172 (dk_at dksX2_append_0 13 rfl rfl)
theorem dX2_append_14 : decode cX2_append 14 = .ok (.aload_n 0, 1) := dk_42 (dk_at dksX2_append_0 14 rfl rfl)
theorem dX2_append_15 : decode cX2_append 15 = .ok (.getfield 204, 3) := dk_180 0 204 (dk_at dksX2_append_0 15 rfl rfl)
theorem dX2_append_18 : decode cX2_append 18 = .ok (.bipush 60, 2) := dk_16 60 (dk_at dksX2_append_0 18 rfl rfl)
theorem dX2_append_20 : decode cX2_append 20 = .ok (.if_icmp .ne 6, 3) := dk_160 0 6 (dk_at dksX2_append_0 20 rfl rfl)
theorem dX2_append_23 : decode cX2_append 23 = .ok (.bipush (-13), 2) := dk_16 243 (dk_at dksX2_append_1 0 rfl rfl)
theorem dX2_append_25 : decode cX2_append 25 = .ok (.ireturn, 1) := dk_172 (dk_at dksX2_append_1 2 rfl rfl)
theorem dX2_append_26 : decode cX2_append 26 = .ok (.aload_n 0, 1) := dk_42 (dk_at dksX2_append_1 3 rfl rfl)
theorem dX2_append_27 : decode cX2_append 27 = .ok (.getfield 25, 3) := dk_180 0 25 (dk_at dksX2_append_1 4 rfl rfl)
theorem dX2_append_30 : decode cX2_append 30 = .ok (.aload_n 0, 1) := dk_42 (dk_at dksX2_append_1 7 rfl rfl)
theorem dX2_append_31 : decode cX2_append 31 = .ok (.getfield 204, 3) := dk_180 0 204 (dk_at dksX2_append_1 8 rfl rfl)
theorem dX2_append_34 : decode cX2_append 34 = .ok (.iload_n 1, 1) := dk_27 (dk_at dksX2_append_1 11 rfl rfl)
theorem dX2_append_35 : decode cX2_append 35 = .ok (.i2c, 1) := dk_146 (dk_at dksX2_append_1 12 rfl rfl)
theorem dX2_append_36 : decode cX2_append 36 = .ok (.castore, 1) := dk_85 (dk_at dksX2_append_1 13 rfl rfl)
theorem dX2_append_37 : decode cX2_append 37 = .ok (.aload_n 0, 1) := dk_42 (dk_at dksX2_append_1 14 rfl rfl)
theorem dX2_append_38 : decode cX2_append 38 = .ok (.dup, 1) := dk_89 (dk_at dksX2_append_1 15 rfl rfl)
theorem dX2_append_39 : decode cX2_append 39 = .ok (.getfield 204, 3) := dk_180 0 204 (dk_at dksX2_append_1 16 rfl rfl)
theorem dX2_append_42 : decode cX2_append 42 = .ok (.iconst 1, 1) := dk_4 (dk_at dksX2_append_1 19 rfl rfl)
theorem dX2_append_43 : decode cX2_append 43 = .ok (.iadd, 1) := dk_96 (dk_at dksX2_append_1 20 rfl rfl)
theorem dX2_append_44 : decode cX2_append 44 = .ok (.putfield 204, 3) := dk_181 0 204 (dk_at dksX2_append_1 21 rfl rfl)
theorem dX2_append_47 : decode cX2_append 47 = .ok (.aload_n 0, 1) := dk_42 (dk_at dksX2_append_2 0 rfl rfl)
theorem dX2_append_48 : decode cX2_append 48 = .ok (.getfield 204, 3) := dk_180 0 204 (dk_at dksX2_append_2 1 rfl rfl)
theorem dX2_append_51 : decode cX2_append 51 = .ok (.ireturn, 1) := dk_172 (dk_at dksX2_append_2 4 rfl rfl)
abbrev cX2_run : ByteArray := prog_13_method_83_code
def yX2_run : MethodName := ⟨RX2, "run", "()I"⟩
def dkwX2_run_2 : List UInt8 := [180, 0, 229, 172, 42, 182, 0, 195, 42, 42, 16, 11, 42, 180, 0, 229, 182, 0, 84, 182, 0, 87, 172]
abbrev dktX2_run_2 : List UInt8 := dkwX2_run_2 ++ []
def dkwX2_run_1 : List UInt8 := [182, 0, 54, 42, 182, 0, 241, 60, 42, 3, 181, 0, 204, 27, 153, 0, 12, 42, 182, 0, 57, 42]
abbrev dktX2_run_1 : List UInt8 := dkwX2_run_1 ++ dktX2_run_2
def dkwX2_run_0 : List UInt8 := [42, 182, 0, 238, 154, 0, 17, 42, 3, 181, 0, 204, 17, 252, 24, 42, 180, 0, 207, 100, 172, 42]
abbrev dktX2_run_0 : List UInt8 := dkwX2_run_0 ++ dktX2_run_1
theorem dksX2_run_0 : cX2_run.data.toList.drop 0 = dktX2_run_0 := by decide +kernel
theorem dksX2_run_1 : cX2_run.data.toList.drop 22 = dktX2_run_1 := dk_seg dksX2_run_0 22 rfl rfl
theorem dksX2_run_2 : cX2_run.data.toList.drop 44 = dktX2_run_2 := dk_seg dksX2_run_1 22 rfl rfl
theorem dX2_run_0 : decode cX2_run 0 = .ok (.aload_n 0, 1) := dk_42 (dk_at dksX2_run_0 0 rfl rfl)
theorem dX2_run_1 : decode cX2_run 1 = .ok (.invokevirtual 238, 3) := dk_182 0 238 (dk_at dksX2_run_0 1 rfl rfl)
theorem dX2_run_4 : decode cX2_run 4 = .ok (.ifCond .ne 17, 3) := dk_154 0 17 (dk_at dksX2_run_0 4 rfl rfl)
theorem dX2_run_7 : decode cX2_run 7 = .ok (.aload_n 0, 1) := dk_42 (dk_at dksX2_run_0 7 rfl rfl)
theorem dX2_run_8 : decode cX2_run 8 = .ok (.iconst 0, 1) := dk_3 (dk_at dksX2_run_0 8 rfl rfl)
theorem dX2_run_9 : decode cX2_run 9 = .ok (.putfield 204, 3) := dk_181 0 204 (dk_at dksX2_run_0 9 rfl rfl)
theorem dX2_run_12 : decode cX2_run 12 = .ok (.sipush (-1000), 3) := dk_17 252 24 (dk_at dksX2_run_0 12 rfl rfl)
theorem dX2_run_15 : decode cX2_run 15 = .ok (.aload_n 0, 1) := dk_42 (dk_at dksX2_run_0 15 rfl rfl)
theorem dX2_run_16 : decode cX2_run 16 = .ok (.getfield 207, 3) := dk_180 0 207 (dk_at dksX2_run_0 16 rfl rfl)
theorem dX2_run_19 : decode cX2_run 19 = .ok (.isub, 1) := dk_100 (dk_at dksX2_run_0 19 rfl rfl)
theorem dX2_run_20 : decode cX2_run 20 = .ok (.ireturn, 1) := dk_172 (dk_at dksX2_run_0 20 rfl rfl)
theorem dX2_run_21 : decode cX2_run 21 = .ok (.aload_n 0, 1) := dk_42 (dk_at dksX2_run_0 21 rfl rfl)
theorem dX2_run_22 : decode cX2_run 22 = .ok (.invokevirtual 54, 3) := dk_182 0 54 (dk_at dksX2_run_1 0 rfl rfl)
theorem dX2_run_25 : decode cX2_run 25 = .ok (.aload_n 0, 1) := dk_42 (dk_at dksX2_run_1 3 rfl rfl)
theorem dX2_run_26 : decode cX2_run 26 = .ok (.invokevirtual 241, 3) := dk_182 0 241 (dk_at dksX2_run_1 4 rfl rfl)
theorem dX2_run_29 : decode cX2_run 29 = .ok (.istore_n 1, 1) := dk_60 (dk_at dksX2_run_1 7 rfl rfl)
theorem dX2_run_30 : decode cX2_run 30 = .ok (.aload_n 0, 1) := dk_42 (dk_at dksX2_run_1 8 rfl rfl)
theorem dX2_run_31 : decode cX2_run 31 = .ok (.iconst 0, 1) := dk_3 (dk_at dksX2_run_1 9 rfl rfl)
theorem dX2_run_32 : decode cX2_run 32 = .ok (.putfield 204, 3) := dk_181 0 204 (dk_at dksX2_run_1 10 rfl rfl)
theorem dX2_run_35 : decode cX2_run 35 = .ok (.iload_n 1, 1) := dk_27 (dk_at dksX2_run_1 13 rfl rfl)
theorem dX2_run_36 : decode cX2_run 36 = .ok (.ifCond .eq 12, 3) := dk_153 0 12 (dk_at dksX2_run_1 14 rfl rfl)
theorem dX2_run_39 : decode cX2_run 39 = .ok (.aload_n 0, 1) := dk_42 (dk_at dksX2_run_1 17 rfl rfl)
theorem dX2_run_40 : decode cX2_run 40 = .ok (.invokevirtual 57, 3) := dk_182 0 57 (dk_at dksX2_run_1 18 rfl rfl)
theorem dX2_run_43 : decode cX2_run 43 = .ok (.aload_n 0, 1) := dk_42 (dk_at dksX2_run_1 21 rfl rfl)
theorem dX2_run_44 : decode cX2_run 44 = .ok (.getfield 229, 3) := dk_180 0 229 (dk_at dksX2_run_2 0 rfl rfl)
theorem dX2_run_47 : decode cX2_run 47 = .ok (.ireturn, 1) := dk_172 (dk_at dksX2_run_2 3 rfl rfl)
theorem dX2_run_48 : decode cX2_run 48 = .ok (.aload_n 0, 1) := dk_42 (dk_at dksX2_run_2 4 rfl rfl)
theorem dX2_run_49 : decode cX2_run 49 = .ok (.invokevirtual 195, 3) := dk_182 0 195 (dk_at dksX2_run_2 5 rfl rfl)
theorem dX2_run_52 : decode cX2_run 52 = .ok (.aload_n 0, 1) := dk_42 (dk_at dksX2_run_2 8 rfl rfl)
theorem dX2_run_53 : decode cX2_run 53 = .ok (.aload_n 0, 1) := dk_42 (dk_at dksX2_run_2 9 rfl rfl)
theorem dX2_run_54 : decode cX2_run 54 = .ok (.bipush 11, 2) := dk_16 11 (dk_at dksX2_run_2 10 rfl rfl)
theorem dX2_run_56 : decode cX2_run 56 = .ok (.aload_n 0, 1) := dk_42 (dk_at dksX2_run_2 12 rfl rfl)
theorem dX2_run_57 : decode cX2_run 57 = .ok (.getfield 229, 3) := dk_180 0 229 (dk_at dksX2_run_2 13 rfl rfl)
theorem dX2_run_60 : decode cX2_run 60 = .ok (.invokevirtual 84, 3) := dk_182 0 84 (dk_at dksX2_run_2 16 rfl rfl)
theorem dX2_run_63 : decode cX2_run 63 = .ok (.invokevirtual 87, 3) := dk_182 0 87 (dk_at dksX2_run_2 19 rfl rfl)
theorem dX2_run_66 : decode cX2_run 66 = .ok (.ireturn, 1) := dk_172 (dk_at dksX2_run_2 22 rfl rfl)
abbrev cX2_readsAll : ByteArray := prog_13_method_79_code
def yX2_readsAll : MethodName := ⟨RX2, "readsAll", "()Z"⟩
def dkwX2_readsAll_1 : List UInt8 := [182, 0, 213, 60, 167, 255, 236, 42, 180, 0, 207, 42, 180, 0, 204, 160, 0, 7, 4, 167, 0, 4, 3, 172]
abbrev dktX2_readsAll_1 : List UInt8 := dkwX2_readsAll_1 ++ []
def dkwX2_readsAll_0 : List UInt8 := [42, 3, 181, 0, 207, 4, 60, 27, 153, 0, 22, 42, 182, 0, 225, 154, 0, 5, 3, 172, 42, 16, 59]
abbrev dktX2_readsAll_0 : List UInt8 := dkwX2_readsAll_0 ++ dktX2_readsAll_1
theorem dksX2_readsAll_0 : cX2_readsAll.data.toList.drop 0 = dktX2_readsAll_0 := by decide +kernel
theorem dksX2_readsAll_1 : cX2_readsAll.data.toList.drop 23 = dktX2_readsAll_1 := dk_seg dksX2_readsAll_0 23 rfl rfl
theorem dX2_readsAll_0 : decode cX2_readsAll 0 = .ok (.aload_n 0, 1) := dk_42 (dk_at dksX2_readsAll_0 0 rfl rfl)
theorem dX2_readsAll_1 : decode cX2_readsAll 1 = .ok (.iconst 0, 1) := dk_3 (dk_at dksX2_readsAll_0 1 rfl rfl)
theorem dX2_readsAll_2 : decode cX2_readsAll 2 = .ok (.putfield 207, 3) := dk_181 0 207 (dk_at dksX2_readsAll_0 2 rfl rfl)
theorem dX2_readsAll_5 : decode cX2_readsAll 5 = .ok (.iconst 1, 1) := dk_4 (dk_at dksX2_readsAll_0 5 rfl rfl)
theorem dX2_readsAll_6 : decode cX2_readsAll 6 = .ok (.istore_n 1, 1) := dk_60 (dk_at dksX2_readsAll_0 6 rfl rfl)
theorem dX2_readsAll_7 : decode cX2_readsAll 7 = .ok (.iload_n 1, 1) := dk_27 (dk_at dksX2_readsAll_0 7 rfl rfl)
theorem dX2_readsAll_8 : decode cX2_readsAll 8 = .ok (.ifCond .eq 22, 3) := dk_153 0 22 (dk_at dksX2_readsAll_0 8 rfl rfl)
theorem dX2_readsAll_11 : decode cX2_readsAll 11 = .ok (.aload_n 0, 1) := dk_42 (dk_at dksX2_readsAll_0 11 rfl rfl)
theorem dX2_readsAll_12 : decode cX2_readsAll 12 = .ok (.invokevirtual 225, 3) := dk_182 0 225 (dk_at dksX2_readsAll_0 12 rfl rfl)
theorem dX2_readsAll_15 : decode cX2_readsAll 15 = .ok (.ifCond .ne 5, 3) := dk_154 0 5 (dk_at dksX2_readsAll_0 15 rfl rfl)
theorem dX2_readsAll_18 : decode cX2_readsAll 18 = .ok (.iconst 0, 1) := dk_3 (dk_at dksX2_readsAll_0 18 rfl rfl)
theorem dX2_readsAll_19 : decode cX2_readsAll 19 = .ok (.ireturn, 1) := dk_172 (dk_at dksX2_readsAll_0 19 rfl rfl)
theorem dX2_readsAll_20 : decode cX2_readsAll 20 = .ok (.aload_n 0, 1) := dk_42 (dk_at dksX2_readsAll_0 20 rfl rfl)
theorem dX2_readsAll_21 : decode cX2_readsAll 21 = .ok (.bipush 59, 2) := dk_16 59 (dk_at dksX2_readsAll_0 21 rfl rfl)
theorem dX2_readsAll_23 : decode cX2_readsAll 23 = .ok (.invokevirtual 213, 3) := dk_182 0 213 (dk_at dksX2_readsAll_1 0 rfl rfl)
theorem dX2_readsAll_26 : decode cX2_readsAll 26 = .ok (.istore_n 1, 1) := dk_60 (dk_at dksX2_readsAll_1 3 rfl rfl)
theorem dX2_readsAll_27 : decode cX2_readsAll 27 = .ok (.goto (-20), 3) := dk_167 255 236 (dk_at dksX2_readsAll_1 4 rfl rfl)
theorem dX2_readsAll_30 : decode cX2_readsAll 30 = .ok (.aload_n 0, 1) := dk_42 (dk_at dksX2_readsAll_1 7 rfl rfl)
theorem dX2_readsAll_31 : decode cX2_readsAll 31 = .ok (.getfield 207, 3) := dk_180 0 207 (dk_at dksX2_readsAll_1 8 rfl rfl)
theorem dX2_readsAll_34 : decode cX2_readsAll 34 = .ok (.aload_n 0, 1) := dk_42 (dk_at dksX2_readsAll_1 11 rfl rfl)
theorem dX2_readsAll_35 : decode cX2_readsAll 35 = .ok (.getfield 204, 3) := dk_180 0 204 (dk_at dksX2_readsAll_1 12 rfl rfl)
theorem dX2_readsAll_38 : decode cX2_readsAll 38 = .ok (.if_icmp .ne 7, 3) := dk_160 0 7 (dk_at dksX2_readsAll_1 15 rfl rfl)
theorem dX2_readsAll_41 : decode cX2_readsAll 41 = .ok (.iconst 1, 1) := dk_4 (dk_at dksX2_readsAll_1 18 rfl rfl)
theorem dX2_readsAll_42 : decode cX2_readsAll 42 = .ok (.goto 4, 3) := dk_167 0 4 (dk_at dksX2_readsAll_1 19 rfl rfl)
theorem dX2_readsAll_45 : decode cX2_readsAll 45 = .ok (.iconst 0, 1) := dk_3 (dk_at dksX2_readsAll_1 22 rfl rfl)
theorem dX2_readsAll_46 : decode cX2_readsAll 46 = .ok (.ireturn, 1) := dk_172 (dk_at dksX2_readsAll_1 23 rfl rfl)
abbrev cX2_readsOrder : ByteArray := prog_13_method_78_code
def yX2_readsOrder : MethodName := ⟨RX2, "readsOrder", "()Z"⟩
def dkwX2_readsOrder_21 : List UInt8 := [42, 16, 7, 5, 3, 182, 0, 222, 153, 0, 7, 4, 167, 0, 4, 3, 172]
abbrev dktX2_readsOrder_21 : List UInt8 := dkwX2_readsOrder_21 ++ []
def dkwX2_readsOrder_20 : List UInt8 := [182, 0, 213, 153, 0, 36, 42, 16, 107, 182, 0, 213, 153, 0, 27, 42, 16, 115, 182, 0, 213, 153, 0, 18]
abbrev dktX2_readsOrder_20 : List UInt8 := dkwX2_readsOrder_20 ++ dktX2_readsOrder_21
def dkwX2_readsOrder_19 : List UInt8 := [3, 172, 42, 16, 119, 182, 0, 213, 153, 0, 54, 42, 16, 101, 182, 0, 213, 153, 0, 45, 42, 16, 101]
abbrev dktX2_readsOrder_19 : List UInt8 := dkwX2_readsOrder_19 ++ dktX2_readsOrder_20
def dkwX2_readsOrder_18 : List UInt8 := [42, 16, 116, 182, 0, 213, 153, 0, 18, 42, 16, 6, 6, 3, 182, 0, 222, 153, 0, 7, 4, 167, 0, 4]
abbrev dktX2_readsOrder_18 : List UInt8 := dkwX2_readsOrder_18 ++ dktX2_readsOrder_19
def dkwX2_readsOrder_17 : List UInt8 := [182, 0, 213, 153, 0, 47, 42, 16, 105, 182, 0, 213, 153, 0, 36, 42, 16, 102, 182, 0, 213, 153, 0, 27]
abbrev dktX2_readsOrder_17 : List UInt8 := dkwX2_readsOrder_17 ++ dktX2_readsOrder_18
def dkwX2_readsOrder_16 : List UInt8 := [153, 0, 17, 42, 8, 5, 4, 182, 0, 222, 153, 0, 7, 4, 167, 0, 4, 3, 172, 42, 16, 103]
abbrev dktX2_readsOrder_16 : List UInt8 := dkwX2_readsOrder_16 ++ dktX2_readsOrder_17
def dkwX2_readsOrder_15 : List UInt8 := [16, 97, 182, 0, 213, 153, 0, 35, 42, 16, 115, 182, 0, 213, 153, 0, 26, 42, 16, 116, 182, 0, 213]
abbrev dktX2_readsOrder_15 : List UInt8 := dkwX2_readsOrder_15 ++ dktX2_readsOrder_16
def dkwX2_readsOrder_14 : List UInt8 := [167, 0, 4, 3, 172, 42, 16, 102, 182, 0, 213, 153, 0, 55, 42, 16, 101, 182, 0, 213, 153, 0, 44, 42]
abbrev dktX2_readsOrder_14 : List UInt8 := dkwX2_readsOrder_14 ++ dktX2_readsOrder_15
def dkwX2_readsOrder_13 : List UInt8 := [153, 0, 26, 42, 16, 110, 182, 0, 213, 153, 0, 17, 42, 7, 5, 3, 182, 0, 222, 153, 0, 7, 4]
abbrev dktX2_readsOrder_13 : List UInt8 := dkwX2_readsOrder_13 ++ dktX2_readsOrder_14
def dkwX2_readsOrder_12 : List UInt8 := [16, 114, 182, 0, 213, 153, 0, 44, 42, 16, 100, 182, 0, 213, 153, 0, 35, 42, 16, 111, 182, 0, 213]
abbrev dktX2_readsOrder_12 : List UInt8 := dkwX2_readsOrder_12 ++ dktX2_readsOrder_13
def dkwX2_readsOrder_11 : List UInt8 := [167, 0, 4, 3, 172, 42, 16, 112, 182, 0, 213, 153, 0, 64, 42, 16, 97, 182, 0, 213, 153, 0, 53, 42]
abbrev dktX2_readsOrder_11 : List UInt8 := dkwX2_readsOrder_11 ++ dktX2_readsOrder_12
def dkwX2_readsOrder_10 : List UInt8 := [153, 0, 26, 42, 16, 104, 182, 0, 213, 153, 0, 17, 42, 6, 5, 4, 182, 0, 222, 153, 0, 7, 4]
abbrev dktX2_readsOrder_10 : List UInt8 := dkwX2_readsOrder_10 ++ dktX2_readsOrder_11
def dkwX2_readsOrder_9 : List UInt8 := [16, 101, 182, 0, 213, 153, 0, 44, 42, 16, 97, 182, 0, 213, 153, 0, 35, 42, 16, 99, 182, 0, 213]
abbrev dktX2_readsOrder_9 : List UInt8 := dkwX2_readsOrder_9 ++ dktX2_readsOrder_10
def dkwX2_readsOrder_8 : List UInt8 := [167, 0, 4, 3, 172, 42, 16, 98, 182, 0, 213, 153, 0, 64, 42, 16, 114, 182, 0, 213, 153, 0, 53, 42]
abbrev dktX2_readsOrder_8 : List UInt8 := dkwX2_readsOrder_8 ++ dktX2_readsOrder_9
def dkwX2_readsOrder_7 : List UInt8 := [153, 0, 26, 42, 16, 101, 182, 0, 213, 153, 0, 17, 42, 5, 4, 3, 182, 0, 222, 153, 0, 7, 4]
abbrev dktX2_readsOrder_7 : List UInt8 := dkwX2_readsOrder_7 ++ dktX2_readsOrder_8
def dkwX2_readsOrder_6 : List UInt8 := [16, 101, 182, 0, 213, 153, 0, 44, 42, 16, 97, 182, 0, 213, 153, 0, 35, 42, 16, 118, 182, 0, 213]
abbrev dktX2_readsOrder_6 : List UInt8 := dkwX2_readsOrder_6 ++ dktX2_readsOrder_7
def dkwX2_readsOrder_5 : List UInt8 := [3, 182, 0, 222, 153, 0, 7, 4, 167, 0, 4, 3, 172, 42, 16, 108, 182, 0, 213, 153, 0, 55, 42]
abbrev dktX2_readsOrder_5 : List UInt8 := dkwX2_readsOrder_5 ++ dktX2_readsOrder_6
def dkwX2_readsOrder_4 : List UInt8 := [153, 0, 35, 42, 16, 115, 182, 0, 213, 153, 0, 26, 42, 16, 101, 182, 0, 213, 153, 0, 17, 42, 4, 4]
abbrev dktX2_readsOrder_4 : List UInt8 := dkwX2_readsOrder_4 ++ dktX2_readsOrder_5
def dkwX2_readsOrder_3 : List UInt8 := [16, 104, 182, 0, 213, 153, 0, 53, 42, 16, 111, 182, 0, 213, 153, 0, 44, 42, 16, 111, 182, 0, 213]
abbrev dktX2_readsOrder_3 : List UInt8 := dkwX2_readsOrder_3 ++ dktX2_readsOrder_4
def dkwX2_readsOrder_2 : List UInt8 := [5, 182, 0, 222, 153, 0, 7, 4, 167, 0, 4, 3, 172, 42, 16, 99, 182, 0, 213, 153, 0, 64, 42]
abbrev dktX2_readsOrder_2 : List UInt8 := dkwX2_readsOrder_2 ++ dktX2_readsOrder_3
def dkwX2_readsOrder_1 : List UInt8 := [153, 0, 35, 42, 16, 99, 182, 0, 213, 153, 0, 26, 42, 16, 101, 182, 0, 213, 153, 0, 17, 42, 3, 5]
abbrev dktX2_readsOrder_1 : List UInt8 := dkwX2_readsOrder_1 ++ dktX2_readsOrder_2
def dkwX2_readsOrder_0 : List UInt8 := [42, 16, 118, 182, 0, 213, 153, 0, 55, 42, 16, 111, 182, 0, 213, 153, 0, 44, 42, 16, 105, 182, 0, 213]
abbrev dktX2_readsOrder_0 : List UInt8 := dkwX2_readsOrder_0 ++ dktX2_readsOrder_1
theorem dksX2_readsOrder_0 : cX2_readsOrder.data.toList.drop 0 = dktX2_readsOrder_0 := by decide +kernel
theorem dksX2_readsOrder_1 : cX2_readsOrder.data.toList.drop 24 = dktX2_readsOrder_1 := dk_seg dksX2_readsOrder_0 24 rfl rfl
theorem dksX2_readsOrder_2 : cX2_readsOrder.data.toList.drop 48 = dktX2_readsOrder_2 := dk_seg dksX2_readsOrder_1 24 rfl rfl
theorem dksX2_readsOrder_3 : cX2_readsOrder.data.toList.drop 71 = dktX2_readsOrder_3 := dk_seg dksX2_readsOrder_2 23 rfl rfl
theorem dksX2_readsOrder_4 : cX2_readsOrder.data.toList.drop 94 = dktX2_readsOrder_4 := dk_seg dksX2_readsOrder_3 23 rfl rfl
theorem dksX2_readsOrder_5 : cX2_readsOrder.data.toList.drop 118 = dktX2_readsOrder_5 := dk_seg dksX2_readsOrder_4 24 rfl rfl
theorem dksX2_readsOrder_6 : cX2_readsOrder.data.toList.drop 141 = dktX2_readsOrder_6 := dk_seg dksX2_readsOrder_5 23 rfl rfl
theorem dksX2_readsOrder_7 : cX2_readsOrder.data.toList.drop 164 = dktX2_readsOrder_7 := dk_seg dksX2_readsOrder_6 23 rfl rfl
theorem dksX2_readsOrder_8 : cX2_readsOrder.data.toList.drop 187 = dktX2_readsOrder_8 := dk_seg dksX2_readsOrder_7 23 rfl rfl
theorem dksX2_readsOrder_9 : cX2_readsOrder.data.toList.drop 211 = dktX2_readsOrder_9 := dk_seg dksX2_readsOrder_8 24 rfl rfl
theorem dksX2_readsOrder_10 : cX2_readsOrder.data.toList.drop 234 = dktX2_readsOrder_10 := dk_seg dksX2_readsOrder_9 23 rfl rfl
theorem dksX2_readsOrder_11 : cX2_readsOrder.data.toList.drop 257 = dktX2_readsOrder_11 := dk_seg dksX2_readsOrder_10 23 rfl rfl
theorem dksX2_readsOrder_12 : cX2_readsOrder.data.toList.drop 281 = dktX2_readsOrder_12 := dk_seg dksX2_readsOrder_11 24 rfl rfl
theorem dksX2_readsOrder_13 : cX2_readsOrder.data.toList.drop 304 = dktX2_readsOrder_13 := dk_seg dksX2_readsOrder_12 23 rfl rfl
theorem dksX2_readsOrder_14 : cX2_readsOrder.data.toList.drop 327 = dktX2_readsOrder_14 := dk_seg dksX2_readsOrder_13 23 rfl rfl
theorem dksX2_readsOrder_15 : cX2_readsOrder.data.toList.drop 351 = dktX2_readsOrder_15 := dk_seg dksX2_readsOrder_14 24 rfl rfl
theorem dksX2_readsOrder_16 : cX2_readsOrder.data.toList.drop 374 = dktX2_readsOrder_16 := dk_seg dksX2_readsOrder_15 23 rfl rfl
theorem dksX2_readsOrder_17 : cX2_readsOrder.data.toList.drop 396 = dktX2_readsOrder_17 := dk_seg dksX2_readsOrder_16 22 rfl rfl
theorem dksX2_readsOrder_18 : cX2_readsOrder.data.toList.drop 420 = dktX2_readsOrder_18 := dk_seg dksX2_readsOrder_17 24 rfl rfl
theorem dksX2_readsOrder_19 : cX2_readsOrder.data.toList.drop 444 = dktX2_readsOrder_19 := dk_seg dksX2_readsOrder_18 24 rfl rfl
theorem dksX2_readsOrder_20 : cX2_readsOrder.data.toList.drop 467 = dktX2_readsOrder_20 := dk_seg dksX2_readsOrder_19 23 rfl rfl
theorem dksX2_readsOrder_21 : cX2_readsOrder.data.toList.drop 491 = dktX2_readsOrder_21 := dk_seg dksX2_readsOrder_20 24 rfl rfl
theorem dX2_readsOrder_0 : decode cX2_readsOrder 0 = .ok (.aload_n 0, 1) := dk_42 (dk_at dksX2_readsOrder_0 0 rfl rfl)
theorem dX2_readsOrder_1 : decode cX2_readsOrder 1 = .ok (.bipush 118, 2) := dk_16 118 (dk_at dksX2_readsOrder_0 1 rfl rfl)
theorem dX2_readsOrder_3 : decode cX2_readsOrder 3 = .ok (.invokevirtual 213, 3) := dk_182 0 213 (dk_at dksX2_readsOrder_0 3 rfl rfl)
theorem dX2_readsOrder_6 : decode cX2_readsOrder 6 = .ok (.ifCond .eq 55, 3) := dk_153 0 55 (dk_at dksX2_readsOrder_0 6 rfl rfl)
theorem dX2_readsOrder_9 : decode cX2_readsOrder 9 = .ok (.aload_n 0, 1) := dk_42 (dk_at dksX2_readsOrder_0 9 rfl rfl)
theorem dX2_readsOrder_10 : decode cX2_readsOrder 10 = .ok (.bipush 111, 2) := dk_16 111 (dk_at dksX2_readsOrder_0 10 rfl rfl)
theorem dX2_readsOrder_12 : decode cX2_readsOrder 12 = .ok (.invokevirtual 213, 3) := dk_182 0 213 (dk_at dksX2_readsOrder_0 12 rfl rfl)
theorem dX2_readsOrder_15 : decode cX2_readsOrder 15 = .ok (.ifCond .eq 44, 3) := dk_153 0 44 (dk_at dksX2_readsOrder_0 15 rfl rfl)
theorem dX2_readsOrder_18 : decode cX2_readsOrder 18 = .ok (.aload_n 0, 1) := dk_42 (dk_at dksX2_readsOrder_0 18 rfl rfl)
theorem dX2_readsOrder_19 : decode cX2_readsOrder 19 = .ok (.bipush 105, 2) := dk_16 105 (dk_at dksX2_readsOrder_0 19 rfl rfl)
theorem dX2_readsOrder_21 : decode cX2_readsOrder 21 = .ok (.invokevirtual 213, 3) := dk_182 0 213 (dk_at dksX2_readsOrder_0 21 rfl rfl)
theorem dX2_readsOrder_24 : decode cX2_readsOrder 24 = .ok (.ifCond .eq 35, 3) := dk_153 0 35 (dk_at dksX2_readsOrder_1 0 rfl rfl)
theorem dX2_readsOrder_27 : decode cX2_readsOrder 27 = .ok (.aload_n 0, 1) := dk_42 (dk_at dksX2_readsOrder_1 3 rfl rfl)
theorem dX2_readsOrder_28 : decode cX2_readsOrder 28 = .ok (.bipush 99, 2) := dk_16 99 (dk_at dksX2_readsOrder_1 4 rfl rfl)
theorem dX2_readsOrder_30 : decode cX2_readsOrder 30 = .ok (.invokevirtual 213, 3) := dk_182 0 213 (dk_at dksX2_readsOrder_1 6 rfl rfl)
theorem dX2_readsOrder_33 : decode cX2_readsOrder 33 = .ok (.ifCond .eq 26, 3) := dk_153 0 26 (dk_at dksX2_readsOrder_1 9 rfl rfl)
theorem dX2_readsOrder_36 : decode cX2_readsOrder 36 = .ok (.aload_n 0, 1) := dk_42 (dk_at dksX2_readsOrder_1 12 rfl rfl)
theorem dX2_readsOrder_37 : decode cX2_readsOrder 37 = .ok (.bipush 101, 2) := dk_16 101 (dk_at dksX2_readsOrder_1 13 rfl rfl)
theorem dX2_readsOrder_39 : decode cX2_readsOrder 39 = .ok (.invokevirtual 213, 3) := dk_182 0 213 (dk_at dksX2_readsOrder_1 15 rfl rfl)
theorem dX2_readsOrder_42 : decode cX2_readsOrder 42 = .ok (.ifCond .eq 17, 3) := dk_153 0 17 (dk_at dksX2_readsOrder_1 18 rfl rfl)
theorem dX2_readsOrder_45 : decode cX2_readsOrder 45 = .ok (.aload_n 0, 1) := dk_42 (dk_at dksX2_readsOrder_1 21 rfl rfl)
theorem dX2_readsOrder_46 : decode cX2_readsOrder 46 = .ok (.iconst 0, 1) := dk_3 (dk_at dksX2_readsOrder_1 22 rfl rfl)
theorem dX2_readsOrder_47 : decode cX2_readsOrder 47 = .ok (.iconst 2, 1) := dk_5 (dk_at dksX2_readsOrder_1 23 rfl rfl)
theorem dX2_readsOrder_48 : decode cX2_readsOrder 48 = .ok (.iconst 2, 1) := dk_5 (dk_at dksX2_readsOrder_2 0 rfl rfl)
theorem dX2_readsOrder_49 : decode cX2_readsOrder 49 = .ok (.invokevirtual 222, 3) := dk_182 0 222 (dk_at dksX2_readsOrder_2 1 rfl rfl)
theorem dX2_readsOrder_52 : decode cX2_readsOrder 52 = .ok (.ifCond .eq 7, 3) := dk_153 0 7 (dk_at dksX2_readsOrder_2 4 rfl rfl)
theorem dX2_readsOrder_55 : decode cX2_readsOrder 55 = .ok (.iconst 1, 1) := dk_4 (dk_at dksX2_readsOrder_2 7 rfl rfl)
theorem dX2_readsOrder_56 : decode cX2_readsOrder 56 = .ok (.goto 4, 3) := dk_167 0 4 (dk_at dksX2_readsOrder_2 8 rfl rfl)
theorem dX2_readsOrder_59 : decode cX2_readsOrder 59 = .ok (.iconst 0, 1) := dk_3 (dk_at dksX2_readsOrder_2 11 rfl rfl)
theorem dX2_readsOrder_60 : decode cX2_readsOrder 60 = .ok (.ireturn, 1) := dk_172 (dk_at dksX2_readsOrder_2 12 rfl rfl)
theorem dX2_readsOrder_61 : decode cX2_readsOrder 61 = .ok (.aload_n 0, 1) := dk_42 (dk_at dksX2_readsOrder_2 13 rfl rfl)
theorem dX2_readsOrder_62 : decode cX2_readsOrder 62 = .ok (.bipush 99, 2) := dk_16 99 (dk_at dksX2_readsOrder_2 14 rfl rfl)
theorem dX2_readsOrder_64 : decode cX2_readsOrder 64 = .ok (.invokevirtual 213, 3) := dk_182 0 213 (dk_at dksX2_readsOrder_2 16 rfl rfl)
theorem dX2_readsOrder_67 : decode cX2_readsOrder 67 = .ok (.ifCond .eq 64, 3) := dk_153 0 64 (dk_at dksX2_readsOrder_2 19 rfl rfl)
theorem dX2_readsOrder_70 : decode cX2_readsOrder 70 = .ok (.aload_n 0, 1) := dk_42 (dk_at dksX2_readsOrder_2 22 rfl rfl)
theorem dX2_readsOrder_71 : decode cX2_readsOrder 71 = .ok (.bipush 104, 2) := dk_16 104 (dk_at dksX2_readsOrder_3 0 rfl rfl)
theorem dX2_readsOrder_73 : decode cX2_readsOrder 73 = .ok (.invokevirtual 213, 3) := dk_182 0 213 (dk_at dksX2_readsOrder_3 2 rfl rfl)
theorem dX2_readsOrder_76 : decode cX2_readsOrder 76 = .ok (.ifCond .eq 53, 3) := dk_153 0 53 (dk_at dksX2_readsOrder_3 5 rfl rfl)
theorem dX2_readsOrder_79 : decode cX2_readsOrder 79 = .ok (.aload_n 0, 1) := dk_42 (dk_at dksX2_readsOrder_3 8 rfl rfl)
theorem dX2_readsOrder_80 : decode cX2_readsOrder 80 = .ok (.bipush 111, 2) := dk_16 111 (dk_at dksX2_readsOrder_3 9 rfl rfl)
theorem dX2_readsOrder_82 : decode cX2_readsOrder 82 = .ok (.invokevirtual 213, 3) := dk_182 0 213 (dk_at dksX2_readsOrder_3 11 rfl rfl)
theorem dX2_readsOrder_85 : decode cX2_readsOrder 85 = .ok (.ifCond .eq 44, 3) := dk_153 0 44 (dk_at dksX2_readsOrder_3 14 rfl rfl)
theorem dX2_readsOrder_88 : decode cX2_readsOrder 88 = .ok (.aload_n 0, 1) := dk_42 (dk_at dksX2_readsOrder_3 17 rfl rfl)
theorem dX2_readsOrder_89 : decode cX2_readsOrder 89 = .ok (.bipush 111, 2) := dk_16 111 (dk_at dksX2_readsOrder_3 18 rfl rfl)
theorem dX2_readsOrder_91 : decode cX2_readsOrder 91 = .ok (.invokevirtual 213, 3) := dk_182 0 213 (dk_at dksX2_readsOrder_3 20 rfl rfl)
theorem dX2_readsOrder_94 : decode cX2_readsOrder 94 = .ok (.ifCond .eq 35, 3) := dk_153 0 35 (dk_at dksX2_readsOrder_4 0 rfl rfl)
theorem dX2_readsOrder_97 : decode cX2_readsOrder 97 = .ok (.aload_n 0, 1) := dk_42 (dk_at dksX2_readsOrder_4 3 rfl rfl)
theorem dX2_readsOrder_98 : decode cX2_readsOrder 98 = .ok (.bipush 115, 2) := dk_16 115 (dk_at dksX2_readsOrder_4 4 rfl rfl)
theorem dX2_readsOrder_100 : decode cX2_readsOrder 100 = .ok (.invokevirtual 213, 3) := dk_182 0 213 (dk_at dksX2_readsOrder_4 6 rfl rfl)
theorem dX2_readsOrder_103 : decode cX2_readsOrder 103 = .ok (.ifCond .eq 26, 3) := dk_153 0 26 (dk_at dksX2_readsOrder_4 9 rfl rfl)
theorem dX2_readsOrder_106 : decode cX2_readsOrder 106 = .ok (.aload_n 0, 1) := dk_42 (dk_at dksX2_readsOrder_4 12 rfl rfl)
theorem dX2_readsOrder_107 : decode cX2_readsOrder 107 = .ok (.bipush 101, 2) := dk_16 101 (dk_at dksX2_readsOrder_4 13 rfl rfl)
theorem dX2_readsOrder_109 : decode cX2_readsOrder 109 = .ok (.invokevirtual 213, 3) := dk_182 0 213 (dk_at dksX2_readsOrder_4 15 rfl rfl)
theorem dX2_readsOrder_112 : decode cX2_readsOrder 112 = .ok (.ifCond .eq 17, 3) := dk_153 0 17 (dk_at dksX2_readsOrder_4 18 rfl rfl)
theorem dX2_readsOrder_115 : decode cX2_readsOrder 115 = .ok (.aload_n 0, 1) := dk_42 (dk_at dksX2_readsOrder_4 21 rfl rfl)
theorem dX2_readsOrder_116 : decode cX2_readsOrder 116 = .ok (.iconst 1, 1) := dk_4 (dk_at dksX2_readsOrder_4 22 rfl rfl)
theorem dX2_readsOrder_117 : decode cX2_readsOrder 117 = .ok (.iconst 1, 1) := dk_4 (dk_at dksX2_readsOrder_4 23 rfl rfl)
theorem dX2_readsOrder_118 : decode cX2_readsOrder 118 = .ok (.iconst 0, 1) := dk_3 (dk_at dksX2_readsOrder_5 0 rfl rfl)
theorem dX2_readsOrder_119 : decode cX2_readsOrder 119 = .ok (.invokevirtual 222, 3) := dk_182 0 222 (dk_at dksX2_readsOrder_5 1 rfl rfl)
theorem dX2_readsOrder_122 : decode cX2_readsOrder 122 = .ok (.ifCond .eq 7, 3) := dk_153 0 7 (dk_at dksX2_readsOrder_5 4 rfl rfl)
theorem dX2_readsOrder_125 : decode cX2_readsOrder 125 = .ok (.iconst 1, 1) := dk_4 (dk_at dksX2_readsOrder_5 7 rfl rfl)
theorem dX2_readsOrder_126 : decode cX2_readsOrder 126 = .ok (.goto 4, 3) := dk_167 0 4 (dk_at dksX2_readsOrder_5 8 rfl rfl)
theorem dX2_readsOrder_129 : decode cX2_readsOrder 129 = .ok (.iconst 0, 1) := dk_3 (dk_at dksX2_readsOrder_5 11 rfl rfl)
theorem dX2_readsOrder_130 : decode cX2_readsOrder 130 = .ok (.ireturn, 1) := dk_172 (dk_at dksX2_readsOrder_5 12 rfl rfl)
theorem dX2_readsOrder_131 : decode cX2_readsOrder 131 = .ok (.aload_n 0, 1) := dk_42 (dk_at dksX2_readsOrder_5 13 rfl rfl)
theorem dX2_readsOrder_132 : decode cX2_readsOrder 132 = .ok (.bipush 108, 2) := dk_16 108 (dk_at dksX2_readsOrder_5 14 rfl rfl)
theorem dX2_readsOrder_134 : decode cX2_readsOrder 134 = .ok (.invokevirtual 213, 3) := dk_182 0 213 (dk_at dksX2_readsOrder_5 16 rfl rfl)
theorem dX2_readsOrder_137 : decode cX2_readsOrder 137 = .ok (.ifCond .eq 55, 3) := dk_153 0 55 (dk_at dksX2_readsOrder_5 19 rfl rfl)
theorem dX2_readsOrder_140 : decode cX2_readsOrder 140 = .ok (.aload_n 0, 1) := dk_42 (dk_at dksX2_readsOrder_5 22 rfl rfl)
theorem dX2_readsOrder_141 : decode cX2_readsOrder 141 = .ok (.bipush 101, 2) := dk_16 101 (dk_at dksX2_readsOrder_6 0 rfl rfl)
theorem dX2_readsOrder_143 : decode cX2_readsOrder 143 = .ok (.invokevirtual 213, 3) := dk_182 0 213 (dk_at dksX2_readsOrder_6 2 rfl rfl)
theorem dX2_readsOrder_146 : decode cX2_readsOrder 146 = .ok (.ifCond .eq 44, 3) := dk_153 0 44 (dk_at dksX2_readsOrder_6 5 rfl rfl)
theorem dX2_readsOrder_149 : decode cX2_readsOrder 149 = .ok (.aload_n 0, 1) := dk_42 (dk_at dksX2_readsOrder_6 8 rfl rfl)
theorem dX2_readsOrder_150 : decode cX2_readsOrder 150 = .ok (.bipush 97, 2) := dk_16 97 (dk_at dksX2_readsOrder_6 9 rfl rfl)
theorem dX2_readsOrder_152 : decode cX2_readsOrder 152 = .ok (.invokevirtual 213, 3) := dk_182 0 213 (dk_at dksX2_readsOrder_6 11 rfl rfl)
theorem dX2_readsOrder_155 : decode cX2_readsOrder 155 = .ok (.ifCond .eq 35, 3) := dk_153 0 35 (dk_at dksX2_readsOrder_6 14 rfl rfl)
theorem dX2_readsOrder_158 : decode cX2_readsOrder 158 = .ok (.aload_n 0, 1) := dk_42 (dk_at dksX2_readsOrder_6 17 rfl rfl)
theorem dX2_readsOrder_159 : decode cX2_readsOrder 159 = .ok (.bipush 118, 2) := dk_16 118 (dk_at dksX2_readsOrder_6 18 rfl rfl)
theorem dX2_readsOrder_161 : decode cX2_readsOrder 161 = .ok (.invokevirtual 213, 3) := dk_182 0 213 (dk_at dksX2_readsOrder_6 20 rfl rfl)
theorem dX2_readsOrder_164 : decode cX2_readsOrder 164 = .ok (.ifCond .eq 26, 3) := dk_153 0 26 (dk_at dksX2_readsOrder_7 0 rfl rfl)
theorem dX2_readsOrder_167 : decode cX2_readsOrder 167 = .ok (.aload_n 0, 1) := dk_42 (dk_at dksX2_readsOrder_7 3 rfl rfl)
theorem dX2_readsOrder_168 : decode cX2_readsOrder 168 = .ok (.bipush 101, 2) := dk_16 101 (dk_at dksX2_readsOrder_7 4 rfl rfl)
theorem dX2_readsOrder_170 : decode cX2_readsOrder 170 = .ok (.invokevirtual 213, 3) := dk_182 0 213 (dk_at dksX2_readsOrder_7 6 rfl rfl)
theorem dX2_readsOrder_173 : decode cX2_readsOrder 173 = .ok (.ifCond .eq 17, 3) := dk_153 0 17 (dk_at dksX2_readsOrder_7 9 rfl rfl)
theorem dX2_readsOrder_176 : decode cX2_readsOrder 176 = .ok (.aload_n 0, 1) := dk_42 (dk_at dksX2_readsOrder_7 12 rfl rfl)
theorem dX2_readsOrder_177 : decode cX2_readsOrder 177 = .ok (.iconst 2, 1) := dk_5 (dk_at dksX2_readsOrder_7 13 rfl rfl)
theorem dX2_readsOrder_178 : decode cX2_readsOrder 178 = .ok (.iconst 1, 1) := dk_4 (dk_at dksX2_readsOrder_7 14 rfl rfl)
theorem dX2_readsOrder_179 : decode cX2_readsOrder 179 = .ok (.iconst 0, 1) := dk_3 (dk_at dksX2_readsOrder_7 15 rfl rfl)
theorem dX2_readsOrder_180 : decode cX2_readsOrder 180 = .ok (.invokevirtual 222, 3) := dk_182 0 222 (dk_at dksX2_readsOrder_7 16 rfl rfl)
theorem dX2_readsOrder_183 : decode cX2_readsOrder 183 = .ok (.ifCond .eq 7, 3) := dk_153 0 7 (dk_at dksX2_readsOrder_7 19 rfl rfl)
theorem dX2_readsOrder_186 : decode cX2_readsOrder 186 = .ok (.iconst 1, 1) := dk_4 (dk_at dksX2_readsOrder_7 22 rfl rfl)
theorem dX2_readsOrder_187 : decode cX2_readsOrder 187 = .ok (.goto 4, 3) := dk_167 0 4 (dk_at dksX2_readsOrder_8 0 rfl rfl)
theorem dX2_readsOrder_190 : decode cX2_readsOrder 190 = .ok (.iconst 0, 1) := dk_3 (dk_at dksX2_readsOrder_8 3 rfl rfl)
theorem dX2_readsOrder_191 : decode cX2_readsOrder 191 = .ok (.ireturn, 1) := dk_172 (dk_at dksX2_readsOrder_8 4 rfl rfl)
theorem dX2_readsOrder_192 : decode cX2_readsOrder 192 = .ok (.aload_n 0, 1) := dk_42 (dk_at dksX2_readsOrder_8 5 rfl rfl)
theorem dX2_readsOrder_193 : decode cX2_readsOrder 193 = .ok (.bipush 98, 2) := dk_16 98 (dk_at dksX2_readsOrder_8 6 rfl rfl)
theorem dX2_readsOrder_195 : decode cX2_readsOrder 195 = .ok (.invokevirtual 213, 3) := dk_182 0 213 (dk_at dksX2_readsOrder_8 8 rfl rfl)
theorem dX2_readsOrder_198 : decode cX2_readsOrder 198 = .ok (.ifCond .eq 64, 3) := dk_153 0 64 (dk_at dksX2_readsOrder_8 11 rfl rfl)
theorem dX2_readsOrder_201 : decode cX2_readsOrder 201 = .ok (.aload_n 0, 1) := dk_42 (dk_at dksX2_readsOrder_8 14 rfl rfl)
theorem dX2_readsOrder_202 : decode cX2_readsOrder 202 = .ok (.bipush 114, 2) := dk_16 114 (dk_at dksX2_readsOrder_8 15 rfl rfl)
theorem dX2_readsOrder_204 : decode cX2_readsOrder 204 = .ok (.invokevirtual 213, 3) := dk_182 0 213 (dk_at dksX2_readsOrder_8 17 rfl rfl)
theorem dX2_readsOrder_207 : decode cX2_readsOrder 207 = .ok (.ifCond .eq 53, 3) := dk_153 0 53 (dk_at dksX2_readsOrder_8 20 rfl rfl)
theorem dX2_readsOrder_210 : decode cX2_readsOrder 210 = .ok (.aload_n 0, 1) := dk_42 (dk_at dksX2_readsOrder_8 23 rfl rfl)
theorem dX2_readsOrder_211 : decode cX2_readsOrder 211 = .ok (.bipush 101, 2) := dk_16 101 (dk_at dksX2_readsOrder_9 0 rfl rfl)
theorem dX2_readsOrder_213 : decode cX2_readsOrder 213 = .ok (.invokevirtual 213, 3) := dk_182 0 213 (dk_at dksX2_readsOrder_9 2 rfl rfl)
theorem dX2_readsOrder_216 : decode cX2_readsOrder 216 = .ok (.ifCond .eq 44, 3) := dk_153 0 44 (dk_at dksX2_readsOrder_9 5 rfl rfl)
theorem dX2_readsOrder_219 : decode cX2_readsOrder 219 = .ok (.aload_n 0, 1) := dk_42 (dk_at dksX2_readsOrder_9 8 rfl rfl)
theorem dX2_readsOrder_220 : decode cX2_readsOrder 220 = .ok (.bipush 97, 2) := dk_16 97 (dk_at dksX2_readsOrder_9 9 rfl rfl)
theorem dX2_readsOrder_222 : decode cX2_readsOrder 222 = .ok (.invokevirtual 213, 3) := dk_182 0 213 (dk_at dksX2_readsOrder_9 11 rfl rfl)
theorem dX2_readsOrder_225 : decode cX2_readsOrder 225 = .ok (.ifCond .eq 35, 3) := dk_153 0 35 (dk_at dksX2_readsOrder_9 14 rfl rfl)
theorem dX2_readsOrder_228 : decode cX2_readsOrder 228 = .ok (.aload_n 0, 1) := dk_42 (dk_at dksX2_readsOrder_9 17 rfl rfl)
theorem dX2_readsOrder_229 : decode cX2_readsOrder 229 = .ok (.bipush 99, 2) := dk_16 99 (dk_at dksX2_readsOrder_9 18 rfl rfl)
theorem dX2_readsOrder_231 : decode cX2_readsOrder 231 = .ok (.invokevirtual 213, 3) := dk_182 0 213 (dk_at dksX2_readsOrder_9 20 rfl rfl)
theorem dX2_readsOrder_234 : decode cX2_readsOrder 234 = .ok (.ifCond .eq 26, 3) := dk_153 0 26 (dk_at dksX2_readsOrder_10 0 rfl rfl)
theorem dX2_readsOrder_237 : decode cX2_readsOrder 237 = .ok (.aload_n 0, 1) := dk_42 (dk_at dksX2_readsOrder_10 3 rfl rfl)
theorem dX2_readsOrder_238 : decode cX2_readsOrder 238 = .ok (.bipush 104, 2) := dk_16 104 (dk_at dksX2_readsOrder_10 4 rfl rfl)
theorem dX2_readsOrder_240 : decode cX2_readsOrder 240 = .ok (.invokevirtual 213, 3) := dk_182 0 213 (dk_at dksX2_readsOrder_10 6 rfl rfl)
theorem dX2_readsOrder_243 : decode cX2_readsOrder 243 = .ok (.ifCond .eq 17, 3) := dk_153 0 17 (dk_at dksX2_readsOrder_10 9 rfl rfl)
theorem dX2_readsOrder_246 : decode cX2_readsOrder 246 = .ok (.aload_n 0, 1) := dk_42 (dk_at dksX2_readsOrder_10 12 rfl rfl)
theorem dX2_readsOrder_247 : decode cX2_readsOrder 247 = .ok (.iconst 3, 1) := dk_6 (dk_at dksX2_readsOrder_10 13 rfl rfl)
theorem dX2_readsOrder_248 : decode cX2_readsOrder 248 = .ok (.iconst 2, 1) := dk_5 (dk_at dksX2_readsOrder_10 14 rfl rfl)
theorem dX2_readsOrder_249 : decode cX2_readsOrder 249 = .ok (.iconst 1, 1) := dk_4 (dk_at dksX2_readsOrder_10 15 rfl rfl)
theorem dX2_readsOrder_250 : decode cX2_readsOrder 250 = .ok (.invokevirtual 222, 3) := dk_182 0 222 (dk_at dksX2_readsOrder_10 16 rfl rfl)
theorem dX2_readsOrder_253 : decode cX2_readsOrder 253 = .ok (.ifCond .eq 7, 3) := dk_153 0 7 (dk_at dksX2_readsOrder_10 19 rfl rfl)
theorem dX2_readsOrder_256 : decode cX2_readsOrder 256 = .ok (.iconst 1, 1) := dk_4 (dk_at dksX2_readsOrder_10 22 rfl rfl)
theorem dX2_readsOrder_257 : decode cX2_readsOrder 257 = .ok (.goto 4, 3) := dk_167 0 4 (dk_at dksX2_readsOrder_11 0 rfl rfl)
theorem dX2_readsOrder_260 : decode cX2_readsOrder 260 = .ok (.iconst 0, 1) := dk_3 (dk_at dksX2_readsOrder_11 3 rfl rfl)
theorem dX2_readsOrder_261 : decode cX2_readsOrder 261 = .ok (.ireturn, 1) := dk_172 (dk_at dksX2_readsOrder_11 4 rfl rfl)
theorem dX2_readsOrder_262 : decode cX2_readsOrder 262 = .ok (.aload_n 0, 1) := dk_42 (dk_at dksX2_readsOrder_11 5 rfl rfl)
theorem dX2_readsOrder_263 : decode cX2_readsOrder 263 = .ok (.bipush 112, 2) := dk_16 112 (dk_at dksX2_readsOrder_11 6 rfl rfl)
theorem dX2_readsOrder_265 : decode cX2_readsOrder 265 = .ok (.invokevirtual 213, 3) := dk_182 0 213 (dk_at dksX2_readsOrder_11 8 rfl rfl)
theorem dX2_readsOrder_268 : decode cX2_readsOrder 268 = .ok (.ifCond .eq 64, 3) := dk_153 0 64 (dk_at dksX2_readsOrder_11 11 rfl rfl)
theorem dX2_readsOrder_271 : decode cX2_readsOrder 271 = .ok (.aload_n 0, 1) := dk_42 (dk_at dksX2_readsOrder_11 14 rfl rfl)
theorem dX2_readsOrder_272 : decode cX2_readsOrder 272 = .ok (.bipush 97, 2) := dk_16 97 (dk_at dksX2_readsOrder_11 15 rfl rfl)
theorem dX2_readsOrder_274 : decode cX2_readsOrder 274 = .ok (.invokevirtual 213, 3) := dk_182 0 213 (dk_at dksX2_readsOrder_11 17 rfl rfl)
theorem dX2_readsOrder_277 : decode cX2_readsOrder 277 = .ok (.ifCond .eq 53, 3) := dk_153 0 53 (dk_at dksX2_readsOrder_11 20 rfl rfl)
theorem dX2_readsOrder_280 : decode cX2_readsOrder 280 = .ok (.aload_n 0, 1) := dk_42 (dk_at dksX2_readsOrder_11 23 rfl rfl)
theorem dX2_readsOrder_281 : decode cX2_readsOrder 281 = .ok (.bipush 114, 2) := dk_16 114 (dk_at dksX2_readsOrder_12 0 rfl rfl)
theorem dX2_readsOrder_283 : decode cX2_readsOrder 283 = .ok (.invokevirtual 213, 3) := dk_182 0 213 (dk_at dksX2_readsOrder_12 2 rfl rfl)
theorem dX2_readsOrder_286 : decode cX2_readsOrder 286 = .ok (.ifCond .eq 44, 3) := dk_153 0 44 (dk_at dksX2_readsOrder_12 5 rfl rfl)
theorem dX2_readsOrder_289 : decode cX2_readsOrder 289 = .ok (.aload_n 0, 1) := dk_42 (dk_at dksX2_readsOrder_12 8 rfl rfl)
theorem dX2_readsOrder_290 : decode cX2_readsOrder 290 = .ok (.bipush 100, 2) := dk_16 100 (dk_at dksX2_readsOrder_12 9 rfl rfl)
theorem dX2_readsOrder_292 : decode cX2_readsOrder 292 = .ok (.invokevirtual 213, 3) := dk_182 0 213 (dk_at dksX2_readsOrder_12 11 rfl rfl)
theorem dX2_readsOrder_295 : decode cX2_readsOrder 295 = .ok (.ifCond .eq 35, 3) := dk_153 0 35 (dk_at dksX2_readsOrder_12 14 rfl rfl)
theorem dX2_readsOrder_298 : decode cX2_readsOrder 298 = .ok (.aload_n 0, 1) := dk_42 (dk_at dksX2_readsOrder_12 17 rfl rfl)
theorem dX2_readsOrder_299 : decode cX2_readsOrder 299 = .ok (.bipush 111, 2) := dk_16 111 (dk_at dksX2_readsOrder_12 18 rfl rfl)
theorem dX2_readsOrder_301 : decode cX2_readsOrder 301 = .ok (.invokevirtual 213, 3) := dk_182 0 213 (dk_at dksX2_readsOrder_12 20 rfl rfl)
theorem dX2_readsOrder_304 : decode cX2_readsOrder 304 = .ok (.ifCond .eq 26, 3) := dk_153 0 26 (dk_at dksX2_readsOrder_13 0 rfl rfl)
theorem dX2_readsOrder_307 : decode cX2_readsOrder 307 = .ok (.aload_n 0, 1) := dk_42 (dk_at dksX2_readsOrder_13 3 rfl rfl)
theorem dX2_readsOrder_308 : decode cX2_readsOrder 308 = .ok (.bipush 110, 2) := dk_16 110 (dk_at dksX2_readsOrder_13 4 rfl rfl)
theorem dX2_readsOrder_310 : decode cX2_readsOrder 310 = .ok (.invokevirtual 213, 3) := dk_182 0 213 (dk_at dksX2_readsOrder_13 6 rfl rfl)
theorem dX2_readsOrder_313 : decode cX2_readsOrder 313 = .ok (.ifCond .eq 17, 3) := dk_153 0 17 (dk_at dksX2_readsOrder_13 9 rfl rfl)
theorem dX2_readsOrder_316 : decode cX2_readsOrder 316 = .ok (.aload_n 0, 1) := dk_42 (dk_at dksX2_readsOrder_13 12 rfl rfl)
theorem dX2_readsOrder_317 : decode cX2_readsOrder 317 = .ok (.iconst 4, 1) := dk_7 (dk_at dksX2_readsOrder_13 13 rfl rfl)
theorem dX2_readsOrder_318 : decode cX2_readsOrder 318 = .ok (.iconst 2, 1) := dk_5 (dk_at dksX2_readsOrder_13 14 rfl rfl)
theorem dX2_readsOrder_319 : decode cX2_readsOrder 319 = .ok (.iconst 0, 1) := dk_3 (dk_at dksX2_readsOrder_13 15 rfl rfl)
theorem dX2_readsOrder_320 : decode cX2_readsOrder 320 = .ok (.invokevirtual 222, 3) := dk_182 0 222 (dk_at dksX2_readsOrder_13 16 rfl rfl)
theorem dX2_readsOrder_323 : decode cX2_readsOrder 323 = .ok (.ifCond .eq 7, 3) := dk_153 0 7 (dk_at dksX2_readsOrder_13 19 rfl rfl)
theorem dX2_readsOrder_326 : decode cX2_readsOrder 326 = .ok (.iconst 1, 1) := dk_4 (dk_at dksX2_readsOrder_13 22 rfl rfl)
theorem dX2_readsOrder_327 : decode cX2_readsOrder 327 = .ok (.goto 4, 3) := dk_167 0 4 (dk_at dksX2_readsOrder_14 0 rfl rfl)
theorem dX2_readsOrder_330 : decode cX2_readsOrder 330 = .ok (.iconst 0, 1) := dk_3 (dk_at dksX2_readsOrder_14 3 rfl rfl)
theorem dX2_readsOrder_331 : decode cX2_readsOrder 331 = .ok (.ireturn, 1) := dk_172 (dk_at dksX2_readsOrder_14 4 rfl rfl)
theorem dX2_readsOrder_332 : decode cX2_readsOrder 332 = .ok (.aload_n 0, 1) := dk_42 (dk_at dksX2_readsOrder_14 5 rfl rfl)
theorem dX2_readsOrder_333 : decode cX2_readsOrder 333 = .ok (.bipush 102, 2) := dk_16 102 (dk_at dksX2_readsOrder_14 6 rfl rfl)
theorem dX2_readsOrder_335 : decode cX2_readsOrder 335 = .ok (.invokevirtual 213, 3) := dk_182 0 213 (dk_at dksX2_readsOrder_14 8 rfl rfl)
theorem dX2_readsOrder_338 : decode cX2_readsOrder 338 = .ok (.ifCond .eq 55, 3) := dk_153 0 55 (dk_at dksX2_readsOrder_14 11 rfl rfl)
theorem dX2_readsOrder_341 : decode cX2_readsOrder 341 = .ok (.aload_n 0, 1) := dk_42 (dk_at dksX2_readsOrder_14 14 rfl rfl)
theorem dX2_readsOrder_342 : decode cX2_readsOrder 342 = .ok (.bipush 101, 2) := dk_16 101 (dk_at dksX2_readsOrder_14 15 rfl rfl)
theorem dX2_readsOrder_344 : decode cX2_readsOrder 344 = .ok (.invokevirtual 213, 3) := dk_182 0 213 (dk_at dksX2_readsOrder_14 17 rfl rfl)
theorem dX2_readsOrder_347 : decode cX2_readsOrder 347 = .ok (.ifCond .eq 44, 3) := dk_153 0 44 (dk_at dksX2_readsOrder_14 20 rfl rfl)
theorem dX2_readsOrder_350 : decode cX2_readsOrder 350 = .ok (.aload_n 0, 1) := dk_42 (dk_at dksX2_readsOrder_14 23 rfl rfl)
theorem dX2_readsOrder_351 : decode cX2_readsOrder 351 = .ok (.bipush 97, 2) := dk_16 97 (dk_at dksX2_readsOrder_15 0 rfl rfl)
theorem dX2_readsOrder_353 : decode cX2_readsOrder 353 = .ok (.invokevirtual 213, 3) := dk_182 0 213 (dk_at dksX2_readsOrder_15 2 rfl rfl)
theorem dX2_readsOrder_356 : decode cX2_readsOrder 356 = .ok (.ifCond .eq 35, 3) := dk_153 0 35 (dk_at dksX2_readsOrder_15 5 rfl rfl)
theorem dX2_readsOrder_359 : decode cX2_readsOrder 359 = .ok (.aload_n 0, 1) := dk_42 (dk_at dksX2_readsOrder_15 8 rfl rfl)
theorem dX2_readsOrder_360 : decode cX2_readsOrder 360 = .ok (.bipush 115, 2) := dk_16 115 (dk_at dksX2_readsOrder_15 9 rfl rfl)
theorem dX2_readsOrder_362 : decode cX2_readsOrder 362 = .ok (.invokevirtual 213, 3) := dk_182 0 213 (dk_at dksX2_readsOrder_15 11 rfl rfl)
theorem dX2_readsOrder_365 : decode cX2_readsOrder 365 = .ok (.ifCond .eq 26, 3) := dk_153 0 26 (dk_at dksX2_readsOrder_15 14 rfl rfl)
theorem dX2_readsOrder_368 : decode cX2_readsOrder 368 = .ok (.aload_n 0, 1) := dk_42 (dk_at dksX2_readsOrder_15 17 rfl rfl)
theorem dX2_readsOrder_369 : decode cX2_readsOrder 369 = .ok (.bipush 116, 2) := dk_16 116 (dk_at dksX2_readsOrder_15 18 rfl rfl)
theorem dX2_readsOrder_371 : decode cX2_readsOrder 371 = .ok (.invokevirtual 213, 3) := dk_182 0 213 (dk_at dksX2_readsOrder_15 20 rfl rfl)
theorem dX2_readsOrder_374 : decode cX2_readsOrder 374 = .ok (.ifCond .eq 17, 3) := dk_153 0 17 (dk_at dksX2_readsOrder_16 0 rfl rfl)
theorem dX2_readsOrder_377 : decode cX2_readsOrder 377 = .ok (.aload_n 0, 1) := dk_42 (dk_at dksX2_readsOrder_16 3 rfl rfl)
theorem dX2_readsOrder_378 : decode cX2_readsOrder 378 = .ok (.iconst 5, 1) := dk_8 (dk_at dksX2_readsOrder_16 4 rfl rfl)
theorem dX2_readsOrder_379 : decode cX2_readsOrder 379 = .ok (.iconst 2, 1) := dk_5 (dk_at dksX2_readsOrder_16 5 rfl rfl)
theorem dX2_readsOrder_380 : decode cX2_readsOrder 380 = .ok (.iconst 1, 1) := dk_4 (dk_at dksX2_readsOrder_16 6 rfl rfl)
theorem dX2_readsOrder_381 : decode cX2_readsOrder 381 = .ok (.invokevirtual 222, 3) := dk_182 0 222 (dk_at dksX2_readsOrder_16 7 rfl rfl)
theorem dX2_readsOrder_384 : decode cX2_readsOrder 384 = .ok (.ifCond .eq 7, 3) := dk_153 0 7 (dk_at dksX2_readsOrder_16 10 rfl rfl)
theorem dX2_readsOrder_387 : decode cX2_readsOrder 387 = .ok (.iconst 1, 1) := dk_4 (dk_at dksX2_readsOrder_16 13 rfl rfl)
theorem dX2_readsOrder_388 : decode cX2_readsOrder 388 = .ok (.goto 4, 3) := dk_167 0 4 (dk_at dksX2_readsOrder_16 14 rfl rfl)
theorem dX2_readsOrder_391 : decode cX2_readsOrder 391 = .ok (.iconst 0, 1) := dk_3 (dk_at dksX2_readsOrder_16 17 rfl rfl)
theorem dX2_readsOrder_392 : decode cX2_readsOrder 392 = .ok (.ireturn, 1) := dk_172 (dk_at dksX2_readsOrder_16 18 rfl rfl)
theorem dX2_readsOrder_393 : decode cX2_readsOrder 393 = .ok (.aload_n 0, 1) := dk_42 (dk_at dksX2_readsOrder_16 19 rfl rfl)
theorem dX2_readsOrder_394 : decode cX2_readsOrder 394 = .ok (.bipush 103, 2) := dk_16 103 (dk_at dksX2_readsOrder_16 20 rfl rfl)
theorem dX2_readsOrder_396 : decode cX2_readsOrder 396 = .ok (.invokevirtual 213, 3) := dk_182 0 213 (dk_at dksX2_readsOrder_17 0 rfl rfl)
theorem dX2_readsOrder_399 : decode cX2_readsOrder 399 = .ok (.ifCond .eq 47, 3) := dk_153 0 47 (dk_at dksX2_readsOrder_17 3 rfl rfl)
theorem dX2_readsOrder_402 : decode cX2_readsOrder 402 = .ok (.aload_n 0, 1) := dk_42 (dk_at dksX2_readsOrder_17 6 rfl rfl)
theorem dX2_readsOrder_403 : decode cX2_readsOrder 403 = .ok (.bipush 105, 2) := dk_16 105 (dk_at dksX2_readsOrder_17 7 rfl rfl)
theorem dX2_readsOrder_405 : decode cX2_readsOrder 405 = .ok (.invokevirtual 213, 3) := dk_182 0 213 (dk_at dksX2_readsOrder_17 9 rfl rfl)
theorem dX2_readsOrder_408 : decode cX2_readsOrder 408 = .ok (.ifCond .eq 36, 3) := dk_153 0 36 (dk_at dksX2_readsOrder_17 12 rfl rfl)
theorem dX2_readsOrder_411 : decode cX2_readsOrder 411 = .ok (.aload_n 0, 1) := dk_42 (dk_at dksX2_readsOrder_17 15 rfl rfl)
theorem dX2_readsOrder_412 : decode cX2_readsOrder 412 = .ok (.bipush 102, 2) := dk_16 102 (dk_at dksX2_readsOrder_17 16 rfl rfl)
theorem dX2_readsOrder_414 : decode cX2_readsOrder 414 = .ok (.invokevirtual 213, 3) := dk_182 0 213 (dk_at dksX2_readsOrder_17 18 rfl rfl)
theorem dX2_readsOrder_417 : decode cX2_readsOrder 417 = .ok (.ifCond .eq 27, 3) := dk_153 0 27 (dk_at dksX2_readsOrder_17 21 rfl rfl)
theorem dX2_readsOrder_420 : decode cX2_readsOrder 420 = .ok (.aload_n 0, 1) := dk_42 (dk_at dksX2_readsOrder_18 0 rfl rfl)
theorem dX2_readsOrder_421 : decode cX2_readsOrder 421 = .ok (.bipush 116, 2) := dk_16 116 (dk_at dksX2_readsOrder_18 1 rfl rfl)
theorem dX2_readsOrder_423 : decode cX2_readsOrder 423 = .ok (.invokevirtual 213, 3) := dk_182 0 213 (dk_at dksX2_readsOrder_18 3 rfl rfl)
theorem dX2_readsOrder_426 : decode cX2_readsOrder 426 = .ok (.ifCond .eq 18, 3) := dk_153 0 18 (dk_at dksX2_readsOrder_18 6 rfl rfl)
theorem dX2_readsOrder_429 : decode cX2_readsOrder 429 = .ok (.aload_n 0, 1) := dk_42 (dk_at dksX2_readsOrder_18 9 rfl rfl)
theorem dX2_readsOrder_430 : decode cX2_readsOrder 430 = .ok (.bipush 6, 2) := dk_16 6 (dk_at dksX2_readsOrder_18 10 rfl rfl)
theorem dX2_readsOrder_432 : decode cX2_readsOrder 432 = .ok (.iconst 3, 1) := dk_6 (dk_at dksX2_readsOrder_18 12 rfl rfl)
theorem dX2_readsOrder_433 : decode cX2_readsOrder 433 = .ok (.iconst 0, 1) := dk_3 (dk_at dksX2_readsOrder_18 13 rfl rfl)
theorem dX2_readsOrder_434 : decode cX2_readsOrder 434 = .ok (.invokevirtual 222, 3) := dk_182 0 222 (dk_at dksX2_readsOrder_18 14 rfl rfl)
theorem dX2_readsOrder_437 : decode cX2_readsOrder 437 = .ok (.ifCond .eq 7, 3) := dk_153 0 7 (dk_at dksX2_readsOrder_18 17 rfl rfl)
theorem dX2_readsOrder_440 : decode cX2_readsOrder 440 = .ok (.iconst 1, 1) := dk_4 (dk_at dksX2_readsOrder_18 20 rfl rfl)
theorem dX2_readsOrder_441 : decode cX2_readsOrder 441 = .ok (.goto 4, 3) := dk_167 0 4 (dk_at dksX2_readsOrder_18 21 rfl rfl)
theorem dX2_readsOrder_444 : decode cX2_readsOrder 444 = .ok (.iconst 0, 1) := dk_3 (dk_at dksX2_readsOrder_19 0 rfl rfl)
theorem dX2_readsOrder_445 : decode cX2_readsOrder 445 = .ok (.ireturn, 1) := dk_172 (dk_at dksX2_readsOrder_19 1 rfl rfl)
theorem dX2_readsOrder_446 : decode cX2_readsOrder 446 = .ok (.aload_n 0, 1) := dk_42 (dk_at dksX2_readsOrder_19 2 rfl rfl)
theorem dX2_readsOrder_447 : decode cX2_readsOrder 447 = .ok (.bipush 119, 2) := dk_16 119 (dk_at dksX2_readsOrder_19 3 rfl rfl)
theorem dX2_readsOrder_449 : decode cX2_readsOrder 449 = .ok (.invokevirtual 213, 3) := dk_182 0 213 (dk_at dksX2_readsOrder_19 5 rfl rfl)
theorem dX2_readsOrder_452 : decode cX2_readsOrder 452 = .ok (.ifCond .eq 54, 3) := dk_153 0 54 (dk_at dksX2_readsOrder_19 8 rfl rfl)
theorem dX2_readsOrder_455 : decode cX2_readsOrder 455 = .ok (.aload_n 0, 1) := dk_42 (dk_at dksX2_readsOrder_19 11 rfl rfl)
theorem dX2_readsOrder_456 : decode cX2_readsOrder 456 = .ok (.bipush 101, 2) := dk_16 101 (dk_at dksX2_readsOrder_19 12 rfl rfl)
theorem dX2_readsOrder_458 : decode cX2_readsOrder 458 = .ok (.invokevirtual 213, 3) := dk_182 0 213 (dk_at dksX2_readsOrder_19 14 rfl rfl)
theorem dX2_readsOrder_461 : decode cX2_readsOrder 461 = .ok (.ifCond .eq 45, 3) := dk_153 0 45 (dk_at dksX2_readsOrder_19 17 rfl rfl)
theorem dX2_readsOrder_464 : decode cX2_readsOrder 464 = .ok (.aload_n 0, 1) := dk_42 (dk_at dksX2_readsOrder_19 20 rfl rfl)
theorem dX2_readsOrder_465 : decode cX2_readsOrder 465 = .ok (.bipush 101, 2) := dk_16 101 (dk_at dksX2_readsOrder_19 21 rfl rfl)
theorem dX2_readsOrder_467 : decode cX2_readsOrder 467 = .ok (.invokevirtual 213, 3) := dk_182 0 213 (dk_at dksX2_readsOrder_20 0 rfl rfl)
theorem dX2_readsOrder_470 : decode cX2_readsOrder 470 = .ok (.ifCond .eq 36, 3) := dk_153 0 36 (dk_at dksX2_readsOrder_20 3 rfl rfl)
theorem dX2_readsOrder_473 : decode cX2_readsOrder 473 = .ok (.aload_n 0, 1) := dk_42 (dk_at dksX2_readsOrder_20 6 rfl rfl)
theorem dX2_readsOrder_474 : decode cX2_readsOrder 474 = .ok (.bipush 107, 2) := dk_16 107 (dk_at dksX2_readsOrder_20 7 rfl rfl)
theorem dX2_readsOrder_476 : decode cX2_readsOrder 476 = .ok (.invokevirtual 213, 3) := dk_182 0 213 (dk_at dksX2_readsOrder_20 9 rfl rfl)
theorem dX2_readsOrder_479 : decode cX2_readsOrder 479 = .ok (.ifCond .eq 27, 3) := dk_153 0 27 (dk_at dksX2_readsOrder_20 12 rfl rfl)
theorem dX2_readsOrder_482 : decode cX2_readsOrder 482 = .ok (.aload_n 0, 1) := dk_42 (dk_at dksX2_readsOrder_20 15 rfl rfl)
theorem dX2_readsOrder_483 : decode cX2_readsOrder 483 = .ok (.bipush 115, 2) := dk_16 115 (dk_at dksX2_readsOrder_20 16 rfl rfl)
theorem dX2_readsOrder_485 : decode cX2_readsOrder 485 = .ok (.invokevirtual 213, 3) := dk_182 0 213 (dk_at dksX2_readsOrder_20 18 rfl rfl)
theorem dX2_readsOrder_488 : decode cX2_readsOrder 488 = .ok (.ifCond .eq 18, 3) := dk_153 0 18 (dk_at dksX2_readsOrder_20 21 rfl rfl)
theorem dX2_readsOrder_491 : decode cX2_readsOrder 491 = .ok (.aload_n 0, 1) := dk_42 (dk_at dksX2_readsOrder_21 0 rfl rfl)
theorem dX2_readsOrder_492 : decode cX2_readsOrder 492 = .ok (.bipush 7, 2) := dk_16 7 (dk_at dksX2_readsOrder_21 1 rfl rfl)
theorem dX2_readsOrder_494 : decode cX2_readsOrder 494 = .ok (.iconst 2, 1) := dk_5 (dk_at dksX2_readsOrder_21 3 rfl rfl)
theorem dX2_readsOrder_495 : decode cX2_readsOrder 495 = .ok (.iconst 0, 1) := dk_3 (dk_at dksX2_readsOrder_21 4 rfl rfl)
theorem dX2_readsOrder_496 : decode cX2_readsOrder 496 = .ok (.invokevirtual 222, 3) := dk_182 0 222 (dk_at dksX2_readsOrder_21 5 rfl rfl)
theorem dX2_readsOrder_499 : decode cX2_readsOrder 499 = .ok (.ifCond .eq 7, 3) := dk_153 0 7 (dk_at dksX2_readsOrder_21 8 rfl rfl)
theorem dX2_readsOrder_502 : decode cX2_readsOrder 502 = .ok (.iconst 1, 1) := dk_4 (dk_at dksX2_readsOrder_21 11 rfl rfl)
theorem dX2_readsOrder_503 : decode cX2_readsOrder 503 = .ok (.goto 4, 3) := dk_167 0 4 (dk_at dksX2_readsOrder_21 12 rfl rfl)
theorem dX2_readsOrder_506 : decode cX2_readsOrder 506 = .ok (.iconst 0, 1) := dk_3 (dk_at dksX2_readsOrder_21 15 rfl rfl)
theorem dX2_readsOrder_507 : decode cX2_readsOrder 507 = .ok (.ireturn, 1) := dk_172 (dk_at dksX2_readsOrder_21 16 rfl rfl)
abbrev cX2_reads : ByteArray := prog_13_method_75_code
def yX2_reads : MethodName := ⟨RX2, "reads", "(I)Z"⟩
def dkwX2_reads_0 : List UInt8 := [42, 182, 0, 210, 27, 159, 0, 5, 3, 172, 42, 89, 180, 0, 207, 4, 96, 181, 0, 207, 4, 172]
abbrev dktX2_reads_0 : List UInt8 := dkwX2_reads_0 ++ []
theorem dksX2_reads_0 : cX2_reads.data.toList.drop 0 = dktX2_reads_0 := by decide +kernel
theorem dX2_reads_0 : decode cX2_reads 0 = .ok (.aload_n 0, 1) := dk_42 (dk_at dksX2_reads_0 0 rfl rfl)
theorem dX2_reads_1 : decode cX2_reads 1 = .ok (.invokevirtual 210, 3) := dk_182 0 210 (dk_at dksX2_reads_0 1 rfl rfl)
theorem dX2_reads_4 : decode cX2_reads 4 = .ok (.iload_n 1, 1) := dk_27 (dk_at dksX2_reads_0 4 rfl rfl)
theorem dX2_reads_5 : decode cX2_reads 5 = .ok (.if_icmp .eq 5, 3) := dk_159 0 5 (dk_at dksX2_reads_0 5 rfl rfl)
theorem dX2_reads_8 : decode cX2_reads 8 = .ok (.iconst 0, 1) := dk_3 (dk_at dksX2_reads_0 8 rfl rfl)
theorem dX2_reads_9 : decode cX2_reads 9 = .ok (.ireturn, 1) := dk_172 (dk_at dksX2_reads_0 9 rfl rfl)
theorem dX2_reads_10 : decode cX2_reads 10 = .ok (.aload_n 0, 1) := dk_42 (dk_at dksX2_reads_0 10 rfl rfl)
theorem dX2_reads_11 : decode cX2_reads 11 = .ok (.dup, 1) := dk_89 (dk_at dksX2_reads_0 11 rfl rfl)
theorem dX2_reads_12 : decode cX2_reads 12 = .ok (.getfield 207, 3) := dk_180 0 207 (dk_at dksX2_reads_0 12 rfl rfl)
theorem dX2_reads_15 : decode cX2_reads 15 = .ok (.iconst 1, 1) := dk_4 (dk_at dksX2_reads_0 15 rfl rfl)
theorem dX2_reads_16 : decode cX2_reads 16 = .ok (.iadd, 1) := dk_96 (dk_at dksX2_reads_0 16 rfl rfl)
theorem dX2_reads_17 : decode cX2_reads 17 = .ok (.putfield 207, 3) := dk_181 0 207 (dk_at dksX2_reads_0 17 rfl rfl)
theorem dX2_reads_20 : decode cX2_reads 20 = .ok (.iconst 1, 1) := dk_4 (dk_at dksX2_reads_0 20 rfl rfl)
theorem dX2_reads_21 : decode cX2_reads 21 = .ok (.ireturn, 1) := dk_172 (dk_at dksX2_reads_0 21 rfl rfl)
abbrev cX2_sign : ByteArray := prog_13_method_74_code
def yX2_sign : MethodName := ⟨RX2, "sign", "()I"⟩
def dkwX2_sign_1 : List UInt8 := [172]
abbrev dktX2_sign_1 : List UInt8 := dkwX2_sign_1 ++ []
def dkwX2_sign_0 : List UInt8 := [42, 180, 0, 207, 42, 180, 0, 204, 162, 0, 15, 42, 180, 0, 25, 42, 180, 0, 207, 52, 167, 0, 4, 2]
abbrev dktX2_sign_0 : List UInt8 := dkwX2_sign_0 ++ dktX2_sign_1
theorem dksX2_sign_0 : cX2_sign.data.toList.drop 0 = dktX2_sign_0 := by decide +kernel
theorem dksX2_sign_1 : cX2_sign.data.toList.drop 24 = dktX2_sign_1 := dk_seg dksX2_sign_0 24 rfl rfl
theorem dX2_sign_0 : decode cX2_sign 0 = .ok (.aload_n 0, 1) := dk_42 (dk_at dksX2_sign_0 0 rfl rfl)
theorem dX2_sign_1 : decode cX2_sign 1 = .ok (.getfield 207, 3) := dk_180 0 207 (dk_at dksX2_sign_0 1 rfl rfl)
theorem dX2_sign_4 : decode cX2_sign 4 = .ok (.aload_n 0, 1) := dk_42 (dk_at dksX2_sign_0 4 rfl rfl)
theorem dX2_sign_5 : decode cX2_sign 5 = .ok (.getfield 204, 3) := dk_180 0 204 (dk_at dksX2_sign_0 5 rfl rfl)
theorem dX2_sign_8 : decode cX2_sign 8 = .ok (.if_icmp .ge 15, 3) := dk_162 0 15 (dk_at dksX2_sign_0 8 rfl rfl)
theorem dX2_sign_11 : decode cX2_sign 11 = .ok (.aload_n 0, 1) := dk_42 (dk_at dksX2_sign_0 11 rfl rfl)
theorem dX2_sign_12 : decode cX2_sign 12 = .ok (.getfield 25, 3) := dk_180 0 25 (dk_at dksX2_sign_0 12 rfl rfl)
theorem dX2_sign_15 : decode cX2_sign 15 = .ok (.aload_n 0, 1) := dk_42 (dk_at dksX2_sign_0 15 rfl rfl)
theorem dX2_sign_16 : decode cX2_sign 16 = .ok (.getfield 207, 3) := dk_180 0 207 (dk_at dksX2_sign_0 16 rfl rfl)
theorem dX2_sign_19 : decode cX2_sign 19 = .ok (.caload, 1) := dk_52 (dk_at dksX2_sign_0 19 rfl rfl)
theorem dX2_sign_20 : decode cX2_sign 20 = .ok (.goto 4, 3) := dk_167 0 4 (dk_at dksX2_sign_0 20 rfl rfl)
theorem dX2_sign_23 : decode cX2_sign 23 = .ok (.iconst (-1), 1) := dk_2 (dk_at dksX2_sign_0 23 rfl rfl)
theorem dX2_sign_24 : decode cX2_sign 24 = .ok (.ireturn, 1) := dk_172 (dk_at dksX2_sign_1 0 rfl rfl)
abbrev cX2_readsTwo : ByteArray := prog_13_method_77_code
def yX2_readsTwo : MethodName := ⟨RX2, "readsTwo", "(III)Z"⟩
def dkwX2_readsTwo_1 : List UInt8 := [153, 0, 7, 4, 167, 0, 4, 3, 172]
abbrev dktX2_readsTwo_1 : List UInt8 := dkwX2_readsTwo_1 ++ []
def dkwX2_readsTwo_0 : List UInt8 := [42, 27, 181, 0, 216, 42, 3, 28, 182, 0, 219, 153, 0, 20, 29, 153, 0, 12, 42, 4, 29, 182, 0, 219]
abbrev dktX2_readsTwo_0 : List UInt8 := dkwX2_readsTwo_0 ++ dktX2_readsTwo_1
theorem dksX2_readsTwo_0 : cX2_readsTwo.data.toList.drop 0 = dktX2_readsTwo_0 := by decide +kernel
theorem dksX2_readsTwo_1 : cX2_readsTwo.data.toList.drop 24 = dktX2_readsTwo_1 := dk_seg dksX2_readsTwo_0 24 rfl rfl
theorem dX2_readsTwo_0 : decode cX2_readsTwo 0 = .ok (.aload_n 0, 1) := dk_42 (dk_at dksX2_readsTwo_0 0 rfl rfl)
theorem dX2_readsTwo_1 : decode cX2_readsTwo 1 = .ok (.iload_n 1, 1) := dk_27 (dk_at dksX2_readsTwo_0 1 rfl rfl)
theorem dX2_readsTwo_2 : decode cX2_readsTwo 2 = .ok (.putfield 216, 3) := dk_181 0 216 (dk_at dksX2_readsTwo_0 2 rfl rfl)
theorem dX2_readsTwo_5 : decode cX2_readsTwo 5 = .ok (.aload_n 0, 1) := dk_42 (dk_at dksX2_readsTwo_0 5 rfl rfl)
theorem dX2_readsTwo_6 : decode cX2_readsTwo 6 = .ok (.iconst 0, 1) := dk_3 (dk_at dksX2_readsTwo_0 6 rfl rfl)
theorem dX2_readsTwo_7 : decode cX2_readsTwo 7 = .ok (.iload_n 2, 1) := dk_28 (dk_at dksX2_readsTwo_0 7 rfl rfl)
theorem dX2_readsTwo_8 : decode cX2_readsTwo 8 = .ok (.invokevirtual 219, 3) := dk_182 0 219 (dk_at dksX2_readsTwo_0 8 rfl rfl)
theorem dX2_readsTwo_11 : decode cX2_readsTwo 11 = .ok (.ifCond .eq 20, 3) := dk_153 0 20 (dk_at dksX2_readsTwo_0 11 rfl rfl)
theorem dX2_readsTwo_14 : decode cX2_readsTwo 14 = .ok (.iload_n 3, 1) := dk_29 (dk_at dksX2_readsTwo_0 14 rfl rfl)
theorem dX2_readsTwo_15 : decode cX2_readsTwo 15 = .ok (.ifCond .eq 12, 3) := dk_153 0 12 (dk_at dksX2_readsTwo_0 15 rfl rfl)
theorem dX2_readsTwo_18 : decode cX2_readsTwo 18 = .ok (.aload_n 0, 1) := dk_42 (dk_at dksX2_readsTwo_0 18 rfl rfl)
theorem dX2_readsTwo_19 : decode cX2_readsTwo 19 = .ok (.iconst 1, 1) := dk_4 (dk_at dksX2_readsTwo_0 19 rfl rfl)
theorem dX2_readsTwo_20 : decode cX2_readsTwo 20 = .ok (.iload_n 3, 1) := dk_29 (dk_at dksX2_readsTwo_0 20 rfl rfl)
theorem dX2_readsTwo_21 : decode cX2_readsTwo 21 = .ok (.invokevirtual 219, 3) := dk_182 0 219 (dk_at dksX2_readsTwo_0 21 rfl rfl)
theorem dX2_readsTwo_24 : decode cX2_readsTwo 24 = .ok (.ifCond .eq 7, 3) := dk_153 0 7 (dk_at dksX2_readsTwo_1 0 rfl rfl)
theorem dX2_readsTwo_27 : decode cX2_readsTwo 27 = .ok (.iconst 1, 1) := dk_4 (dk_at dksX2_readsTwo_1 3 rfl rfl)
theorem dX2_readsTwo_28 : decode cX2_readsTwo 28 = .ok (.goto 4, 3) := dk_167 0 4 (dk_at dksX2_readsTwo_1 4 rfl rfl)
theorem dX2_readsTwo_31 : decode cX2_readsTwo 31 = .ok (.iconst 0, 1) := dk_3 (dk_at dksX2_readsTwo_1 7 rfl rfl)
theorem dX2_readsTwo_32 : decode cX2_readsTwo 32 = .ok (.ireturn, 1) := dk_172 (dk_at dksX2_readsTwo_1 8 rfl rfl)
abbrev cX2_readsNumber : ByteArray := prog_13_method_76_code
def yX2_readsNumber : MethodName := ⟨RX2, "readsNumber", "(II)Z"⟩
def dkwX2_readsNumber_3 : List UInt8 := [96, 16, 48, 100, 79, 42, 89, 180, 0, 207, 4, 96, 181, 0, 207, 132, 3, 1, 167, 255, 201, 4, 172]
abbrev dktX2_readsNumber_3 : List UInt8 := dkwX2_readsNumber_3 ++ []
def dkwX2_readsNumber_2 : List UInt8 := [184, 0, 60, 153, 0, 42, 42, 180, 0, 29, 27, 16, 10, 42, 180, 0, 29, 27, 46, 104, 42, 182, 0, 210]
abbrev dktX2_readsNumber_2 : List UInt8 := dkwX2_readsNumber_2 ++ dktX2_readsNumber_3
def dkwX2_readsNumber_1 : List UInt8 := [172, 42, 180, 0, 29, 27, 3, 79, 3, 62, 29, 28, 162, 0, 56, 42, 182, 0, 210, 16, 48, 16, 57]
abbrev dktX2_readsNumber_1 : List UInt8 := dkwX2_readsNumber_1 ++ dktX2_readsNumber_2
def dkwX2_readsNumber_0 : List UInt8 := [42, 16, 32, 182, 0, 213, 153, 0, 17, 42, 182, 0, 210, 16, 48, 16, 57, 184, 0, 60, 154, 0, 5, 3]
abbrev dktX2_readsNumber_0 : List UInt8 := dkwX2_readsNumber_0 ++ dktX2_readsNumber_1
theorem dksX2_readsNumber_0 : cX2_readsNumber.data.toList.drop 0 = dktX2_readsNumber_0 := by decide +kernel
theorem dksX2_readsNumber_1 : cX2_readsNumber.data.toList.drop 24 = dktX2_readsNumber_1 := dk_seg dksX2_readsNumber_0 24 rfl rfl
theorem dksX2_readsNumber_2 : cX2_readsNumber.data.toList.drop 47 = dktX2_readsNumber_2 := dk_seg dksX2_readsNumber_1 23 rfl rfl
theorem dksX2_readsNumber_3 : cX2_readsNumber.data.toList.drop 71 = dktX2_readsNumber_3 := dk_seg dksX2_readsNumber_2 24 rfl rfl
theorem dX2_readsNumber_0 : decode cX2_readsNumber 0 = .ok (.aload_n 0, 1) := dk_42 (dk_at dksX2_readsNumber_0 0 rfl rfl)
theorem dX2_readsNumber_1 : decode cX2_readsNumber 1 = .ok (.bipush 32, 2) := dk_16 32 (dk_at dksX2_readsNumber_0 1 rfl rfl)
theorem dX2_readsNumber_3 : decode cX2_readsNumber 3 = .ok (.invokevirtual 213, 3) := dk_182 0 213 (dk_at dksX2_readsNumber_0 3 rfl rfl)
theorem dX2_readsNumber_6 : decode cX2_readsNumber 6 = .ok (.ifCond .eq 17, 3) := dk_153 0 17 (dk_at dksX2_readsNumber_0 6 rfl rfl)
theorem dX2_readsNumber_9 : decode cX2_readsNumber 9 = .ok (.aload_n 0, 1) := dk_42 (dk_at dksX2_readsNumber_0 9 rfl rfl)
theorem dX2_readsNumber_10 : decode cX2_readsNumber 10 = .ok (.invokevirtual 210, 3) := dk_182 0 210 (dk_at dksX2_readsNumber_0 10 rfl rfl)
theorem dX2_readsNumber_13 : decode cX2_readsNumber 13 = .ok (.bipush 48, 2) := dk_16 48 (dk_at dksX2_readsNumber_0 13 rfl rfl)
theorem dX2_readsNumber_15 : decode cX2_readsNumber 15 = .ok (.bipush 57, 2) := dk_16 57 (dk_at dksX2_readsNumber_0 15 rfl rfl)
theorem dX2_readsNumber_17 : decode cX2_readsNumber 17 = .ok (.invokestatic 60, 3) := dk_184 0 60 (dk_at dksX2_readsNumber_0 17 rfl rfl)
theorem dX2_readsNumber_20 : decode cX2_readsNumber 20 = .ok (.ifCond .ne 5, 3) := dk_154 0 5 (dk_at dksX2_readsNumber_0 20 rfl rfl)
theorem dX2_readsNumber_23 : decode cX2_readsNumber 23 = .ok (.iconst 0, 1) := dk_3 (dk_at dksX2_readsNumber_0 23 rfl rfl)
theorem dX2_readsNumber_24 : decode cX2_readsNumber 24 = .ok (.ireturn, 1) := dk_172 (dk_at dksX2_readsNumber_1 0 rfl rfl)
theorem dX2_readsNumber_25 : decode cX2_readsNumber 25 = .ok (.aload_n 0, 1) := dk_42 (dk_at dksX2_readsNumber_1 1 rfl rfl)
theorem dX2_readsNumber_26 : decode cX2_readsNumber 26 = .ok (.getfield 29, 3) := dk_180 0 29 (dk_at dksX2_readsNumber_1 2 rfl rfl)
theorem dX2_readsNumber_29 : decode cX2_readsNumber 29 = .ok (.iload_n 1, 1) := dk_27 (dk_at dksX2_readsNumber_1 5 rfl rfl)
theorem dX2_readsNumber_30 : decode cX2_readsNumber 30 = .ok (.iconst 0, 1) := dk_3 (dk_at dksX2_readsNumber_1 6 rfl rfl)
theorem dX2_readsNumber_31 : decode cX2_readsNumber 31 = .ok (.iastore, 1) := dk_79 (dk_at dksX2_readsNumber_1 7 rfl rfl)
theorem dX2_readsNumber_32 : decode cX2_readsNumber 32 = .ok (.iconst 0, 1) := dk_3 (dk_at dksX2_readsNumber_1 8 rfl rfl)
theorem dX2_readsNumber_33 : decode cX2_readsNumber 33 = .ok (.istore_n 3, 1) := dk_62 (dk_at dksX2_readsNumber_1 9 rfl rfl)
theorem dX2_readsNumber_34 : decode cX2_readsNumber 34 = .ok (.iload_n 3, 1) := dk_29 (dk_at dksX2_readsNumber_1 10 rfl rfl)
theorem dX2_readsNumber_35 : decode cX2_readsNumber 35 = .ok (.iload_n 2, 1) := dk_28 (dk_at dksX2_readsNumber_1 11 rfl rfl)
theorem dX2_readsNumber_36 : decode cX2_readsNumber 36 = .ok (.if_icmp .ge 56, 3) := dk_162 0 56 (dk_at dksX2_readsNumber_1 12 rfl rfl)
theorem dX2_readsNumber_39 : decode cX2_readsNumber 39 = .ok (.aload_n 0, 1) := dk_42 (dk_at dksX2_readsNumber_1 15 rfl rfl)
theorem dX2_readsNumber_40 : decode cX2_readsNumber 40 = .ok (.invokevirtual 210, 3) := dk_182 0 210 (dk_at dksX2_readsNumber_1 16 rfl rfl)
theorem dX2_readsNumber_43 : decode cX2_readsNumber 43 = .ok (.bipush 48, 2) := dk_16 48 (dk_at dksX2_readsNumber_1 19 rfl rfl)
theorem dX2_readsNumber_45 : decode cX2_readsNumber 45 = .ok (.bipush 57, 2) := dk_16 57 (dk_at dksX2_readsNumber_1 21 rfl rfl)
theorem dX2_readsNumber_47 : decode cX2_readsNumber 47 = .ok (.invokestatic 60, 3) := dk_184 0 60 (dk_at dksX2_readsNumber_2 0 rfl rfl)
theorem dX2_readsNumber_50 : decode cX2_readsNumber 50 = .ok (.ifCond .eq 42, 3) := dk_153 0 42 (dk_at dksX2_readsNumber_2 3 rfl rfl)
theorem dX2_readsNumber_53 : decode cX2_readsNumber 53 = .ok (.aload_n 0, 1) := dk_42 (dk_at dksX2_readsNumber_2 6 rfl rfl)
theorem dX2_readsNumber_54 : decode cX2_readsNumber 54 = .ok (.getfield 29, 3) := dk_180 0 29 (dk_at dksX2_readsNumber_2 7 rfl rfl)
theorem dX2_readsNumber_57 : decode cX2_readsNumber 57 = .ok (.iload_n 1, 1) := dk_27 (dk_at dksX2_readsNumber_2 10 rfl rfl)
theorem dX2_readsNumber_58 : decode cX2_readsNumber 58 = .ok (.bipush 10, 2) := dk_16 10 (dk_at dksX2_readsNumber_2 11 rfl rfl)
theorem dX2_readsNumber_60 : decode cX2_readsNumber 60 = .ok (.aload_n 0, 1) := dk_42 (dk_at dksX2_readsNumber_2 13 rfl rfl)
theorem dX2_readsNumber_61 : decode cX2_readsNumber 61 = .ok (.getfield 29, 3) := dk_180 0 29 (dk_at dksX2_readsNumber_2 14 rfl rfl)
theorem dX2_readsNumber_64 : decode cX2_readsNumber 64 = .ok (.iload_n 1, 1) := dk_27 (dk_at dksX2_readsNumber_2 17 rfl rfl)
theorem dX2_readsNumber_65 : decode cX2_readsNumber 65 = .ok (.iaload, 1) := dk_46 (dk_at dksX2_readsNumber_2 18 rfl rfl)
theorem dX2_readsNumber_66 : decode cX2_readsNumber 66 = .ok (.imul, 1) := dk_104 (dk_at dksX2_readsNumber_2 19 rfl rfl)
theorem dX2_readsNumber_67 : decode cX2_readsNumber 67 = .ok (.aload_n 0, 1) := dk_42 (dk_at dksX2_readsNumber_2 20 rfl rfl)
theorem dX2_readsNumber_68 : decode cX2_readsNumber 68 = .ok (.invokevirtual 210, 3) := dk_182 0 210 (dk_at dksX2_readsNumber_2 21 rfl rfl)
theorem dX2_readsNumber_71 : decode cX2_readsNumber 71 = .ok (.iadd, 1) := dk_96 (dk_at dksX2_readsNumber_3 0 rfl rfl)
theorem dX2_readsNumber_72 : decode cX2_readsNumber 72 = .ok (.bipush 48, 2) := dk_16 48 (dk_at dksX2_readsNumber_3 1 rfl rfl)
theorem dX2_readsNumber_74 : decode cX2_readsNumber 74 = .ok (.isub, 1) := dk_100 (dk_at dksX2_readsNumber_3 3 rfl rfl)
theorem dX2_readsNumber_75 : decode cX2_readsNumber 75 = .ok (.iastore, 1) := dk_79 (dk_at dksX2_readsNumber_3 4 rfl rfl)
theorem dX2_readsNumber_76 : decode cX2_readsNumber 76 = .ok (.aload_n 0, 1) := dk_42 (dk_at dksX2_readsNumber_3 5 rfl rfl)
theorem dX2_readsNumber_77 : decode cX2_readsNumber 77 = .ok (.dup, 1) := dk_89 (dk_at dksX2_readsNumber_3 6 rfl rfl)
theorem dX2_readsNumber_78 : decode cX2_readsNumber 78 = .ok (.getfield 207, 3) := dk_180 0 207 (dk_at dksX2_readsNumber_3 7 rfl rfl)
theorem dX2_readsNumber_81 : decode cX2_readsNumber 81 = .ok (.iconst 1, 1) := dk_4 (dk_at dksX2_readsNumber_3 10 rfl rfl)
theorem dX2_readsNumber_82 : decode cX2_readsNumber 82 = .ok (.iadd, 1) := dk_96 (dk_at dksX2_readsNumber_3 11 rfl rfl)
theorem dX2_readsNumber_83 : decode cX2_readsNumber 83 = .ok (.putfield 207, 3) := dk_181 0 207 (dk_at dksX2_readsNumber_3 12 rfl rfl)
theorem dX2_readsNumber_86 : decode cX2_readsNumber 86 = .ok (.iinc 3 1, 3) := dk_132 3 1 (dk_at dksX2_readsNumber_3 15 rfl rfl)
theorem dX2_readsNumber_89 : decode cX2_readsNumber 89 = .ok (.goto (-55), 3) := dk_167 255 201 (dk_at dksX2_readsNumber_3 18 rfl rfl)
theorem dX2_readsNumber_92 : decode cX2_readsNumber 92 = .ok (.iconst 1, 1) := dk_4 (dk_at dksX2_readsNumber_3 21 rfl rfl)
theorem dX2_readsNumber_93 : decode cX2_readsNumber 93 = .ok (.ireturn, 1) := dk_172 (dk_at dksX2_readsNumber_3 22 rfl rfl)
abbrev cX2_doesAll : ByteArray := prog_13_method_82_code
def yX2_doesAll : MethodName := ⟨RX2, "doesAll", "()Z"⟩
def dkwX2_doesAll_2 : List UInt8 := [16, 59, 182, 0, 213, 60, 167, 255, 214, 4, 172]
abbrev dktX2_doesAll_2 : List UInt8 := dkwX2_doesAll_2 ++ []
def dkwX2_doesAll_1 : List UInt8 := [182, 0, 232, 153, 0, 5, 3, 172, 42, 182, 0, 235, 87, 42, 89, 180, 0, 229, 4, 96, 181, 0, 229, 42]
abbrev dktX2_doesAll_1 : List UInt8 := dkwX2_doesAll_1 ++ dktX2_doesAll_2
def dkwX2_doesAll_0 : List UInt8 := [42, 3, 181, 0, 229, 42, 3, 181, 0, 207, 4, 60, 27, 153, 0, 44, 42, 182, 0, 225, 153, 0, 10, 42]
abbrev dktX2_doesAll_0 : List UInt8 := dkwX2_doesAll_0 ++ dktX2_doesAll_1
theorem dksX2_doesAll_0 : cX2_doesAll.data.toList.drop 0 = dktX2_doesAll_0 := by decide +kernel
theorem dksX2_doesAll_1 : cX2_doesAll.data.toList.drop 24 = dktX2_doesAll_1 := dk_seg dksX2_doesAll_0 24 rfl rfl
theorem dksX2_doesAll_2 : cX2_doesAll.data.toList.drop 48 = dktX2_doesAll_2 := dk_seg dksX2_doesAll_1 24 rfl rfl
theorem dX2_doesAll_0 : decode cX2_doesAll 0 = .ok (.aload_n 0, 1) := dk_42 (dk_at dksX2_doesAll_0 0 rfl rfl)
theorem dX2_doesAll_1 : decode cX2_doesAll 1 = .ok (.iconst 0, 1) := dk_3 (dk_at dksX2_doesAll_0 1 rfl rfl)
theorem dX2_doesAll_2 : decode cX2_doesAll 2 = .ok (.putfield 229, 3) := dk_181 0 229 (dk_at dksX2_doesAll_0 2 rfl rfl)
theorem dX2_doesAll_5 : decode cX2_doesAll 5 = .ok (.aload_n 0, 1) := dk_42 (dk_at dksX2_doesAll_0 5 rfl rfl)
theorem dX2_doesAll_6 : decode cX2_doesAll 6 = .ok (.iconst 0, 1) := dk_3 (dk_at dksX2_doesAll_0 6 rfl rfl)
theorem dX2_doesAll_7 : decode cX2_doesAll 7 = .ok (.putfield 207, 3) := dk_181 0 207 (dk_at dksX2_doesAll_0 7 rfl rfl)
theorem dX2_doesAll_10 : decode cX2_doesAll 10 = .ok (.iconst 1, 1) := dk_4 (dk_at dksX2_doesAll_0 10 rfl rfl)
theorem dX2_doesAll_11 : decode cX2_doesAll 11 = .ok (.istore_n 1, 1) := dk_60 (dk_at dksX2_doesAll_0 11 rfl rfl)
theorem dX2_doesAll_12 : decode cX2_doesAll 12 = .ok (.iload_n 1, 1) := dk_27 (dk_at dksX2_doesAll_0 12 rfl rfl)
theorem dX2_doesAll_13 : decode cX2_doesAll 13 = .ok (.ifCond .eq 44, 3) := dk_153 0 44 (dk_at dksX2_doesAll_0 13 rfl rfl)
theorem dX2_doesAll_16 : decode cX2_doesAll 16 = .ok (.aload_n 0, 1) := dk_42 (dk_at dksX2_doesAll_0 16 rfl rfl)
theorem dX2_doesAll_17 : decode cX2_doesAll 17 = .ok (.invokevirtual 225, 3) := dk_182 0 225 (dk_at dksX2_doesAll_0 17 rfl rfl)
theorem dX2_doesAll_20 : decode cX2_doesAll 20 = .ok (.ifCond .eq 10, 3) := dk_153 0 10 (dk_at dksX2_doesAll_0 20 rfl rfl)
theorem dX2_doesAll_23 : decode cX2_doesAll 23 = .ok (.aload_n 0, 1) := dk_42 (dk_at dksX2_doesAll_0 23 rfl rfl)
theorem dX2_doesAll_24 : decode cX2_doesAll 24 = .ok (.invokevirtual 232, 3) := dk_182 0 232 (dk_at dksX2_doesAll_1 0 rfl rfl)
theorem dX2_doesAll_27 : decode cX2_doesAll 27 = .ok (.ifCond .eq 5, 3) := dk_153 0 5 (dk_at dksX2_doesAll_1 3 rfl rfl)
theorem dX2_doesAll_30 : decode cX2_doesAll 30 = .ok (.iconst 0, 1) := dk_3 (dk_at dksX2_doesAll_1 6 rfl rfl)
theorem dX2_doesAll_31 : decode cX2_doesAll 31 = .ok (.ireturn, 1) := dk_172 (dk_at dksX2_doesAll_1 7 rfl rfl)
theorem dX2_doesAll_32 : decode cX2_doesAll 32 = .ok (.aload_n 0, 1) := dk_42 (dk_at dksX2_doesAll_1 8 rfl rfl)
theorem dX2_doesAll_33 : decode cX2_doesAll 33 = .ok (.invokevirtual 235, 3) := dk_182 0 235 (dk_at dksX2_doesAll_1 9 rfl rfl)
theorem dX2_doesAll_36 : decode cX2_doesAll 36 = .ok (.pop, 1) := dk_87 (dk_at dksX2_doesAll_1 12 rfl rfl)
theorem dX2_doesAll_37 : decode cX2_doesAll 37 = .ok (.aload_n 0, 1) := dk_42 (dk_at dksX2_doesAll_1 13 rfl rfl)
theorem dX2_doesAll_38 : decode cX2_doesAll 38 = .ok (.dup, 1) := dk_89 (dk_at dksX2_doesAll_1 14 rfl rfl)
theorem dX2_doesAll_39 : decode cX2_doesAll 39 = .ok (.getfield 229, 3) := dk_180 0 229 (dk_at dksX2_doesAll_1 15 rfl rfl)
theorem dX2_doesAll_42 : decode cX2_doesAll 42 = .ok (.iconst 1, 1) := dk_4 (dk_at dksX2_doesAll_1 18 rfl rfl)
theorem dX2_doesAll_43 : decode cX2_doesAll 43 = .ok (.iadd, 1) := dk_96 (dk_at dksX2_doesAll_1 19 rfl rfl)
theorem dX2_doesAll_44 : decode cX2_doesAll 44 = .ok (.putfield 229, 3) := dk_181 0 229 (dk_at dksX2_doesAll_1 20 rfl rfl)
theorem dX2_doesAll_47 : decode cX2_doesAll 47 = .ok (.aload_n 0, 1) := dk_42 (dk_at dksX2_doesAll_1 23 rfl rfl)
theorem dX2_doesAll_48 : decode cX2_doesAll 48 = .ok (.bipush 59, 2) := dk_16 59 (dk_at dksX2_doesAll_2 0 rfl rfl)
theorem dX2_doesAll_50 : decode cX2_doesAll 50 = .ok (.invokevirtual 213, 3) := dk_182 0 213 (dk_at dksX2_doesAll_2 2 rfl rfl)
theorem dX2_doesAll_53 : decode cX2_doesAll 53 = .ok (.istore_n 1, 1) := dk_60 (dk_at dksX2_doesAll_2 5 rfl rfl)
theorem dX2_doesAll_54 : decode cX2_doesAll 54 = .ok (.goto (-42), 3) := dk_167 255 214 (dk_at dksX2_doesAll_2 6 rfl rfl)
theorem dX2_doesAll_57 : decode cX2_doesAll 57 = .ok (.iconst 1, 1) := dk_4 (dk_at dksX2_doesAll_2 9 rfl rfl)
theorem dX2_doesAll_58 : decode cX2_doesAll 58 = .ok (.ireturn, 1) := dk_172 (dk_at dksX2_doesAll_2 10 rfl rfl)
abbrev cX2_notNow : ByteArray := prog_13_method_80_code
def yX2_notNow : MethodName := ⟨RX2, "notNow", "()I"⟩
def dkwX2_notNow_5 : List UInt8 := [167, 0, 5, 16, 244, 172]
abbrev dktX2_notNow_5 : List UInt8 := dkwX2_notNow_5 ++ []
def dkwX2_notNow_4 : List UInt8 := [184, 0, 60, 153, 0, 7, 3, 167, 0, 5, 16, 244, 172, 27, 4, 16, 60, 184, 0, 60, 153, 0, 7, 3]
abbrev dktX2_notNow_4 : List UInt8 := dkwX2_notNow_4 ++ dktX2_notNow_5
def dkwX2_notNow_3 : List UInt8 := [182, 0, 146, 172, 42, 27, 182, 0, 152, 172, 42, 27, 28, 182, 0, 140, 172, 27, 4, 17, 1, 244]
abbrev dktX2_notNow_3 : List UInt8 := dkwX2_notNow_3 ++ dktX2_notNow_4
def dkwX2_notNow_2 : List UInt8 := [42, 27, 28, 182, 0, 110, 172, 42, 27, 182, 0, 128, 172, 42, 27, 182, 0, 134, 172, 42, 27, 28]
abbrev dktX2_notNow_2 : List UInt8 := dkwX2_notNow_2 ++ dktX2_notNow_3
def dkwX2_notNow_1 : List UInt8 := [170, 0, 0, 0, 0, 99, 0, 0, 0, 0, 0, 0, 0, 6, 0, 0, 0, 42, 0, 0, 0, 49, 0, 0, 0, 55, 0, 0, 0, 61, 0, 0, 0, 68, 0, 0, 0, 74, 0, 0, 0, 81]
abbrev dktX2_notNow_1 : List UInt8 := dkwX2_notNow_1 ++ dktX2_notNow_2
def dkwX2_notNow_0 : List UInt8 := [42, 180, 0, 29, 3, 46, 60, 42, 180, 0, 29, 4, 46, 61, 42, 180, 0, 216]
abbrev dktX2_notNow_0 : List UInt8 := dkwX2_notNow_0 ++ dktX2_notNow_1
theorem dksX2_notNow_0 : cX2_notNow.data.toList.drop 0 = dktX2_notNow_0 := by decide +kernel
theorem dksX2_notNow_1 : cX2_notNow.data.toList.drop 18 = dktX2_notNow_1 := dk_seg dksX2_notNow_0 18 rfl rfl
theorem dksX2_notNow_2 : cX2_notNow.data.toList.drop 60 = dktX2_notNow_2 := dk_seg dksX2_notNow_1 42 rfl rfl
theorem dksX2_notNow_3 : cX2_notNow.data.toList.drop 82 = dktX2_notNow_3 := dk_seg dksX2_notNow_2 22 rfl rfl
theorem dksX2_notNow_4 : cX2_notNow.data.toList.drop 104 = dktX2_notNow_4 := dk_seg dksX2_notNow_3 22 rfl rfl
theorem dksX2_notNow_5 : cX2_notNow.data.toList.drop 128 = dktX2_notNow_5 := dk_seg dksX2_notNow_4 24 rfl rfl
theorem dX2_notNow_0 : decode cX2_notNow 0 = .ok (.aload_n 0, 1) := dk_42 (dk_at dksX2_notNow_0 0 rfl rfl)
theorem dX2_notNow_1 : decode cX2_notNow 1 = .ok (.getfield 29, 3) := dk_180 0 29 (dk_at dksX2_notNow_0 1 rfl rfl)
theorem dX2_notNow_4 : decode cX2_notNow 4 = .ok (.iconst 0, 1) := dk_3 (dk_at dksX2_notNow_0 4 rfl rfl)
theorem dX2_notNow_5 : decode cX2_notNow 5 = .ok (.iaload, 1) := dk_46 (dk_at dksX2_notNow_0 5 rfl rfl)
theorem dX2_notNow_6 : decode cX2_notNow 6 = .ok (.istore_n 1, 1) := dk_60 (dk_at dksX2_notNow_0 6 rfl rfl)
theorem dX2_notNow_7 : decode cX2_notNow 7 = .ok (.aload_n 0, 1) := dk_42 (dk_at dksX2_notNow_0 7 rfl rfl)
theorem dX2_notNow_8 : decode cX2_notNow 8 = .ok (.getfield 29, 3) := dk_180 0 29 (dk_at dksX2_notNow_0 8 rfl rfl)
theorem dX2_notNow_11 : decode cX2_notNow 11 = .ok (.iconst 1, 1) := dk_4 (dk_at dksX2_notNow_0 11 rfl rfl)
theorem dX2_notNow_12 : decode cX2_notNow 12 = .ok (.iaload, 1) := dk_46 (dk_at dksX2_notNow_0 12 rfl rfl)
theorem dX2_notNow_13 : decode cX2_notNow 13 = .ok (.istore_n 2, 1) := dk_61 (dk_at dksX2_notNow_0 13 rfl rfl)
theorem dX2_notNow_14 : decode cX2_notNow 14 = .ok (.aload_n 0, 1) := dk_42 (dk_at dksX2_notNow_0 14 rfl rfl)
theorem dX2_notNow_15 : decode cX2_notNow 15 = .ok (.getfield 216, 3) := dk_180 0 216 (dk_at dksX2_notNow_0 15 rfl rfl)
theorem dX2_notNow_18 : decode cX2_notNow 18 = .ok (.tableswitch 99 0 6 #[42, 49, 55, 61, 68, 74, 81], 42) := by decide +kernel
theorem dX2_notNow_60 : decode cX2_notNow 60 = .ok (.aload_n 0, 1) := dk_42 (dk_at dksX2_notNow_2 0 rfl rfl)
theorem dX2_notNow_61 : decode cX2_notNow 61 = .ok (.iload_n 1, 1) := dk_27 (dk_at dksX2_notNow_2 1 rfl rfl)
theorem dX2_notNow_62 : decode cX2_notNow 62 = .ok (.iload_n 2, 1) := dk_28 (dk_at dksX2_notNow_2 2 rfl rfl)
theorem dX2_notNow_63 : decode cX2_notNow 63 = .ok (.invokevirtual 110, 3) := dk_182 0 110 (dk_at dksX2_notNow_2 3 rfl rfl)
theorem dX2_notNow_66 : decode cX2_notNow 66 = .ok (.ireturn, 1) := dk_172 (dk_at dksX2_notNow_2 6 rfl rfl)
theorem dX2_notNow_67 : decode cX2_notNow 67 = .ok (.aload_n 0, 1) := dk_42 (dk_at dksX2_notNow_2 7 rfl rfl)
theorem dX2_notNow_68 : decode cX2_notNow 68 = .ok (.iload_n 1, 1) := dk_27 (dk_at dksX2_notNow_2 8 rfl rfl)
theorem dX2_notNow_69 : decode cX2_notNow 69 = .ok (.invokevirtual 128, 3) := dk_182 0 128 (dk_at dksX2_notNow_2 9 rfl rfl)
theorem dX2_notNow_72 : decode cX2_notNow 72 = .ok (.ireturn, 1) := dk_172 (dk_at dksX2_notNow_2 12 rfl rfl)
theorem dX2_notNow_73 : decode cX2_notNow 73 = .ok (.aload_n 0, 1) := dk_42 (dk_at dksX2_notNow_2 13 rfl rfl)
theorem dX2_notNow_74 : decode cX2_notNow 74 = .ok (.iload_n 1, 1) := dk_27 (dk_at dksX2_notNow_2 14 rfl rfl)
theorem dX2_notNow_75 : decode cX2_notNow 75 = .ok (.invokevirtual 134, 3) := dk_182 0 134 (dk_at dksX2_notNow_2 15 rfl rfl)
theorem dX2_notNow_78 : decode cX2_notNow 78 = .ok (.ireturn, 1) := dk_172 (dk_at dksX2_notNow_2 18 rfl rfl)
theorem dX2_notNow_79 : decode cX2_notNow 79 = .ok (.aload_n 0, 1) := dk_42 (dk_at dksX2_notNow_2 19 rfl rfl)
theorem dX2_notNow_80 : decode cX2_notNow 80 = .ok (.iload_n 1, 1) := dk_27 (dk_at dksX2_notNow_2 20 rfl rfl)
theorem dX2_notNow_81 : decode cX2_notNow 81 = .ok (.iload_n 2, 1) := dk_28 (dk_at dksX2_notNow_2 21 rfl rfl)
theorem dX2_notNow_82 : decode cX2_notNow 82 = .ok (.invokevirtual 146, 3) := dk_182 0 146 (dk_at dksX2_notNow_3 0 rfl rfl)
theorem dX2_notNow_85 : decode cX2_notNow 85 = .ok (.ireturn, 1) := dk_172 (dk_at dksX2_notNow_3 3 rfl rfl)
theorem dX2_notNow_86 : decode cX2_notNow 86 = .ok (.aload_n 0, 1) := dk_42 (dk_at dksX2_notNow_3 4 rfl rfl)
theorem dX2_notNow_87 : decode cX2_notNow 87 = .ok (.iload_n 1, 1) := dk_27 (dk_at dksX2_notNow_3 5 rfl rfl)
theorem dX2_notNow_88 : decode cX2_notNow 88 = .ok (.invokevirtual 152, 3) := dk_182 0 152 (dk_at dksX2_notNow_3 6 rfl rfl)
theorem dX2_notNow_91 : decode cX2_notNow 91 = .ok (.ireturn, 1) := dk_172 (dk_at dksX2_notNow_3 9 rfl rfl)
theorem dX2_notNow_92 : decode cX2_notNow 92 = .ok (.aload_n 0, 1) := dk_42 (dk_at dksX2_notNow_3 10 rfl rfl)
theorem dX2_notNow_93 : decode cX2_notNow 93 = .ok (.iload_n 1, 1) := dk_27 (dk_at dksX2_notNow_3 11 rfl rfl)
theorem dX2_notNow_94 : decode cX2_notNow 94 = .ok (.iload_n 2, 1) := dk_28 (dk_at dksX2_notNow_3 12 rfl rfl)
theorem dX2_notNow_95 : decode cX2_notNow 95 = .ok (.invokevirtual 140, 3) := dk_182 0 140 (dk_at dksX2_notNow_3 13 rfl rfl)
theorem dX2_notNow_98 : decode cX2_notNow 98 = .ok (.ireturn, 1) := dk_172 (dk_at dksX2_notNow_3 16 rfl rfl)
theorem dX2_notNow_99 : decode cX2_notNow 99 = .ok (.iload_n 1, 1) := dk_27 (dk_at dksX2_notNow_3 17 rfl rfl)
theorem dX2_notNow_100 : decode cX2_notNow 100 = .ok (.iconst 1, 1) := dk_4 (dk_at dksX2_notNow_3 18 rfl rfl)
theorem dX2_notNow_101 : decode cX2_notNow 101 = .ok (.sipush 500, 3) := dk_17 1 244 (dk_at dksX2_notNow_3 19 rfl rfl)
theorem dX2_notNow_104 : decode cX2_notNow 104 = .ok (.invokestatic 60, 3) := dk_184 0 60 (dk_at dksX2_notNow_4 0 rfl rfl)
theorem dX2_notNow_107 : decode cX2_notNow 107 = .ok (.ifCond .eq 7, 3) := dk_153 0 7 (dk_at dksX2_notNow_4 3 rfl rfl)
theorem dX2_notNow_110 : decode cX2_notNow 110 = .ok (.iconst 0, 1) := dk_3 (dk_at dksX2_notNow_4 6 rfl rfl)
theorem dX2_notNow_111 : decode cX2_notNow 111 = .ok (.goto 5, 3) := dk_167 0 5 (dk_at dksX2_notNow_4 7 rfl rfl)
theorem dX2_notNow_114 : decode cX2_notNow 114 = .ok (.bipush (-12), 2) := dk_16 244 (dk_at dksX2_notNow_4 10 rfl rfl)
theorem dX2_notNow_116 : decode cX2_notNow 116 = .ok (.ireturn, 1) := dk_172 (dk_at dksX2_notNow_4 12 rfl rfl)
theorem dX2_notNow_117 : decode cX2_notNow 117 = .ok (.iload_n 1, 1) := dk_27 (dk_at dksX2_notNow_4 13 rfl rfl)
theorem dX2_notNow_118 : decode cX2_notNow 118 = .ok (.iconst 1, 1) := dk_4 (dk_at dksX2_notNow_4 14 rfl rfl)
theorem dX2_notNow_119 : decode cX2_notNow 119 = .ok (.bipush 60, 2) := dk_16 60 (dk_at dksX2_notNow_4 15 rfl rfl)
theorem dX2_notNow_121 : decode cX2_notNow 121 = .ok (.invokestatic 60, 3) := dk_184 0 60 (dk_at dksX2_notNow_4 17 rfl rfl)
theorem dX2_notNow_124 : decode cX2_notNow 124 = .ok (.ifCond .eq 7, 3) := dk_153 0 7 (dk_at dksX2_notNow_4 20 rfl rfl)
theorem dX2_notNow_127 : decode cX2_notNow 127 = .ok (.iconst 0, 1) := dk_3 (dk_at dksX2_notNow_4 23 rfl rfl)
theorem dX2_notNow_128 : decode cX2_notNow 128 = .ok (.goto 5, 3) := dk_167 0 5 (dk_at dksX2_notNow_5 0 rfl rfl)
theorem dX2_notNow_131 : decode cX2_notNow 131 = .ok (.bipush (-12), 2) := dk_16 244 (dk_at dksX2_notNow_5 3 rfl rfl)
theorem dX2_notNow_133 : decode cX2_notNow 133 = .ok (.ireturn, 1) := dk_172 (dk_at dksX2_notNow_5 5 rfl rfl)
abbrev cX2_doesNow : ByteArray := prog_13_method_81_code
def yX2_doesNow : MethodName := ⟨RX2, "doesNow", "()I"⟩
def dkwX2_doesNow_4 : List UInt8 := [27, 182, 0, 192, 172]
abbrev dktX2_doesNow_4 : List UInt8 := dkwX2_doesNow_4 ++ []
def dkwX2_doesNow_3 : List UInt8 := [182, 0, 149, 172, 42, 27, 182, 0, 155, 172, 42, 27, 28, 182, 0, 143, 172, 42, 27, 182, 0, 164, 172, 42]
abbrev dktX2_doesNow_3 : List UInt8 := dkwX2_doesNow_3 ++ dktX2_doesNow_4
def dkwX2_doesNow_2 : List UInt8 := [42, 27, 28, 182, 0, 113, 172, 42, 27, 182, 0, 131, 172, 42, 27, 182, 0, 137, 172, 42, 27, 28]
abbrev dktX2_doesNow_2 : List UInt8 := dkwX2_doesNow_2 ++ dktX2_doesNow_3
def dkwX2_doesNow_1 : List UInt8 := [170, 0, 0, 0, 0, 87, 0, 0, 0, 0, 0, 0, 0, 6, 0, 0, 0, 42, 0, 0, 0, 49, 0, 0, 0, 55, 0, 0, 0, 61, 0, 0, 0, 68, 0, 0, 0, 74, 0, 0, 0, 81]
abbrev dktX2_doesNow_1 : List UInt8 := dkwX2_doesNow_1 ++ dktX2_doesNow_2
def dkwX2_doesNow_0 : List UInt8 := [42, 180, 0, 29, 3, 46, 60, 42, 180, 0, 29, 4, 46, 61, 42, 180, 0, 216]
abbrev dktX2_doesNow_0 : List UInt8 := dkwX2_doesNow_0 ++ dktX2_doesNow_1
theorem dksX2_doesNow_0 : cX2_doesNow.data.toList.drop 0 = dktX2_doesNow_0 := by decide +kernel
theorem dksX2_doesNow_1 : cX2_doesNow.data.toList.drop 18 = dktX2_doesNow_1 := dk_seg dksX2_doesNow_0 18 rfl rfl
theorem dksX2_doesNow_2 : cX2_doesNow.data.toList.drop 60 = dktX2_doesNow_2 := dk_seg dksX2_doesNow_1 42 rfl rfl
theorem dksX2_doesNow_3 : cX2_doesNow.data.toList.drop 82 = dktX2_doesNow_3 := dk_seg dksX2_doesNow_2 22 rfl rfl
theorem dksX2_doesNow_4 : cX2_doesNow.data.toList.drop 106 = dktX2_doesNow_4 := dk_seg dksX2_doesNow_3 24 rfl rfl
theorem dX2_doesNow_0 : decode cX2_doesNow 0 = .ok (.aload_n 0, 1) := dk_42 (dk_at dksX2_doesNow_0 0 rfl rfl)
theorem dX2_doesNow_1 : decode cX2_doesNow 1 = .ok (.getfield 29, 3) := dk_180 0 29 (dk_at dksX2_doesNow_0 1 rfl rfl)
theorem dX2_doesNow_4 : decode cX2_doesNow 4 = .ok (.iconst 0, 1) := dk_3 (dk_at dksX2_doesNow_0 4 rfl rfl)
theorem dX2_doesNow_5 : decode cX2_doesNow 5 = .ok (.iaload, 1) := dk_46 (dk_at dksX2_doesNow_0 5 rfl rfl)
theorem dX2_doesNow_6 : decode cX2_doesNow 6 = .ok (.istore_n 1, 1) := dk_60 (dk_at dksX2_doesNow_0 6 rfl rfl)
theorem dX2_doesNow_7 : decode cX2_doesNow 7 = .ok (.aload_n 0, 1) := dk_42 (dk_at dksX2_doesNow_0 7 rfl rfl)
theorem dX2_doesNow_8 : decode cX2_doesNow 8 = .ok (.getfield 29, 3) := dk_180 0 29 (dk_at dksX2_doesNow_0 8 rfl rfl)
theorem dX2_doesNow_11 : decode cX2_doesNow 11 = .ok (.iconst 1, 1) := dk_4 (dk_at dksX2_doesNow_0 11 rfl rfl)
theorem dX2_doesNow_12 : decode cX2_doesNow 12 = .ok (.iaload, 1) := dk_46 (dk_at dksX2_doesNow_0 12 rfl rfl)
theorem dX2_doesNow_13 : decode cX2_doesNow 13 = .ok (.istore_n 2, 1) := dk_61 (dk_at dksX2_doesNow_0 13 rfl rfl)
theorem dX2_doesNow_14 : decode cX2_doesNow 14 = .ok (.aload_n 0, 1) := dk_42 (dk_at dksX2_doesNow_0 14 rfl rfl)
theorem dX2_doesNow_15 : decode cX2_doesNow 15 = .ok (.getfield 216, 3) := dk_180 0 216 (dk_at dksX2_doesNow_0 15 rfl rfl)
theorem dX2_doesNow_18 : decode cX2_doesNow 18 = .ok (.tableswitch 87 0 6 #[42, 49, 55, 61, 68, 74, 81], 42) := by decide +kernel
theorem dX2_doesNow_60 : decode cX2_doesNow 60 = .ok (.aload_n 0, 1) := dk_42 (dk_at dksX2_doesNow_2 0 rfl rfl)
theorem dX2_doesNow_61 : decode cX2_doesNow 61 = .ok (.iload_n 1, 1) := dk_27 (dk_at dksX2_doesNow_2 1 rfl rfl)
theorem dX2_doesNow_62 : decode cX2_doesNow 62 = .ok (.iload_n 2, 1) := dk_28 (dk_at dksX2_doesNow_2 2 rfl rfl)
theorem dX2_doesNow_63 : decode cX2_doesNow 63 = .ok (.invokevirtual 113, 3) := dk_182 0 113 (dk_at dksX2_doesNow_2 3 rfl rfl)
theorem dX2_doesNow_66 : decode cX2_doesNow 66 = .ok (.ireturn, 1) := dk_172 (dk_at dksX2_doesNow_2 6 rfl rfl)
theorem dX2_doesNow_67 : decode cX2_doesNow 67 = .ok (.aload_n 0, 1) := dk_42 (dk_at dksX2_doesNow_2 7 rfl rfl)
theorem dX2_doesNow_68 : decode cX2_doesNow 68 = .ok (.iload_n 1, 1) := dk_27 (dk_at dksX2_doesNow_2 8 rfl rfl)
theorem dX2_doesNow_69 : decode cX2_doesNow 69 = .ok (.invokevirtual 131, 3) := dk_182 0 131 (dk_at dksX2_doesNow_2 9 rfl rfl)
theorem dX2_doesNow_72 : decode cX2_doesNow 72 = .ok (.ireturn, 1) := dk_172 (dk_at dksX2_doesNow_2 12 rfl rfl)
theorem dX2_doesNow_73 : decode cX2_doesNow 73 = .ok (.aload_n 0, 1) := dk_42 (dk_at dksX2_doesNow_2 13 rfl rfl)
theorem dX2_doesNow_74 : decode cX2_doesNow 74 = .ok (.iload_n 1, 1) := dk_27 (dk_at dksX2_doesNow_2 14 rfl rfl)
theorem dX2_doesNow_75 : decode cX2_doesNow 75 = .ok (.invokevirtual 137, 3) := dk_182 0 137 (dk_at dksX2_doesNow_2 15 rfl rfl)
theorem dX2_doesNow_78 : decode cX2_doesNow 78 = .ok (.ireturn, 1) := dk_172 (dk_at dksX2_doesNow_2 18 rfl rfl)
theorem dX2_doesNow_79 : decode cX2_doesNow 79 = .ok (.aload_n 0, 1) := dk_42 (dk_at dksX2_doesNow_2 19 rfl rfl)
theorem dX2_doesNow_80 : decode cX2_doesNow 80 = .ok (.iload_n 1, 1) := dk_27 (dk_at dksX2_doesNow_2 20 rfl rfl)
theorem dX2_doesNow_81 : decode cX2_doesNow 81 = .ok (.iload_n 2, 1) := dk_28 (dk_at dksX2_doesNow_2 21 rfl rfl)
theorem dX2_doesNow_82 : decode cX2_doesNow 82 = .ok (.invokevirtual 149, 3) := dk_182 0 149 (dk_at dksX2_doesNow_3 0 rfl rfl)
theorem dX2_doesNow_85 : decode cX2_doesNow 85 = .ok (.ireturn, 1) := dk_172 (dk_at dksX2_doesNow_3 3 rfl rfl)
theorem dX2_doesNow_86 : decode cX2_doesNow 86 = .ok (.aload_n 0, 1) := dk_42 (dk_at dksX2_doesNow_3 4 rfl rfl)
theorem dX2_doesNow_87 : decode cX2_doesNow 87 = .ok (.iload_n 1, 1) := dk_27 (dk_at dksX2_doesNow_3 5 rfl rfl)
theorem dX2_doesNow_88 : decode cX2_doesNow 88 = .ok (.invokevirtual 155, 3) := dk_182 0 155 (dk_at dksX2_doesNow_3 6 rfl rfl)
theorem dX2_doesNow_91 : decode cX2_doesNow 91 = .ok (.ireturn, 1) := dk_172 (dk_at dksX2_doesNow_3 9 rfl rfl)
theorem dX2_doesNow_92 : decode cX2_doesNow 92 = .ok (.aload_n 0, 1) := dk_42 (dk_at dksX2_doesNow_3 10 rfl rfl)
theorem dX2_doesNow_93 : decode cX2_doesNow 93 = .ok (.iload_n 1, 1) := dk_27 (dk_at dksX2_doesNow_3 11 rfl rfl)
theorem dX2_doesNow_94 : decode cX2_doesNow 94 = .ok (.iload_n 2, 1) := dk_28 (dk_at dksX2_doesNow_3 12 rfl rfl)
theorem dX2_doesNow_95 : decode cX2_doesNow 95 = .ok (.invokevirtual 143, 3) := dk_182 0 143 (dk_at dksX2_doesNow_3 13 rfl rfl)
theorem dX2_doesNow_98 : decode cX2_doesNow 98 = .ok (.ireturn, 1) := dk_172 (dk_at dksX2_doesNow_3 16 rfl rfl)
theorem dX2_doesNow_99 : decode cX2_doesNow 99 = .ok (.aload_n 0, 1) := dk_42 (dk_at dksX2_doesNow_3 17 rfl rfl)
theorem dX2_doesNow_100 : decode cX2_doesNow 100 = .ok (.iload_n 1, 1) := dk_27 (dk_at dksX2_doesNow_3 18 rfl rfl)
theorem dX2_doesNow_101 : decode cX2_doesNow 101 = .ok (.invokevirtual 164, 3) := dk_182 0 164 (dk_at dksX2_doesNow_3 19 rfl rfl)
theorem dX2_doesNow_104 : decode cX2_doesNow 104 = .ok (.ireturn, 1) := dk_172 (dk_at dksX2_doesNow_3 22 rfl rfl)
theorem dX2_doesNow_105 : decode cX2_doesNow 105 = .ok (.aload_n 0, 1) := dk_42 (dk_at dksX2_doesNow_3 23 rfl rfl)
theorem dX2_doesNow_106 : decode cX2_doesNow 106 = .ok (.iload_n 1, 1) := dk_27 (dk_at dksX2_doesNow_4 0 rfl rfl)
theorem dX2_doesNow_107 : decode cX2_doesNow 107 = .ok (.invokevirtual 192, 3) := dk_182 0 192 (dk_at dksX2_doesNow_4 1 rfl rfl)
theorem dX2_doesNow_110 : decode cX2_doesNow 110 = .ok (.ireturn, 1) := dk_172 (dk_at dksX2_doesNow_4 4 rfl rfl)
abbrev cX2_tell : ByteArray := prog_13_method_87_code
def yX2_tell : MethodName := ⟨RX2, "tell", "()I"⟩
def dkwX2_tell_1 : List UInt8 := [27, 182, 0, 253, 132, 1, 1, 167, 255, 232, 42, 180, 0, 244, 172]
abbrev dktX2_tell_1 : List UInt8 := dkwX2_tell_1 ++ []
def dkwX2_tell_0 : List UInt8 := [42, 3, 181, 0, 244, 3, 60, 27, 16, 8, 162, 0, 24, 27, 158, 0, 9, 42, 16, 32, 182, 0, 247, 42]
abbrev dktX2_tell_0 : List UInt8 := dkwX2_tell_0 ++ dktX2_tell_1
theorem dksX2_tell_0 : cX2_tell.data.toList.drop 0 = dktX2_tell_0 := by decide +kernel
theorem dksX2_tell_1 : cX2_tell.data.toList.drop 24 = dktX2_tell_1 := dk_seg dksX2_tell_0 24 rfl rfl
theorem dX2_tell_0 : decode cX2_tell 0 = .ok (.aload_n 0, 1) := dk_42 (dk_at dksX2_tell_0 0 rfl rfl)
theorem dX2_tell_1 : decode cX2_tell 1 = .ok (.iconst 0, 1) := dk_3 (dk_at dksX2_tell_0 1 rfl rfl)
theorem dX2_tell_2 : decode cX2_tell 2 = .ok (.putfield 244, 3) := dk_181 0 244 (dk_at dksX2_tell_0 2 rfl rfl)
theorem dX2_tell_5 : decode cX2_tell 5 = .ok (.iconst 0, 1) := dk_3 (dk_at dksX2_tell_0 5 rfl rfl)
theorem dX2_tell_6 : decode cX2_tell 6 = .ok (.istore_n 1, 1) := dk_60 (dk_at dksX2_tell_0 6 rfl rfl)
theorem dX2_tell_7 : decode cX2_tell 7 = .ok (.iload_n 1, 1) := dk_27 (dk_at dksX2_tell_0 7 rfl rfl)
theorem dX2_tell_8 : decode cX2_tell 8 = .ok (.bipush 8, 2) := dk_16 8 (dk_at dksX2_tell_0 8 rfl rfl)
theorem dX2_tell_10 : decode cX2_tell 10 = .ok (.if_icmp .ge 24, 3) := dk_162 0 24 (dk_at dksX2_tell_0 10 rfl rfl)
theorem dX2_tell_13 : decode cX2_tell 13 = .ok (.iload_n 1, 1) := dk_27 (dk_at dksX2_tell_0 13 rfl rfl)
theorem dX2_tell_14 : decode cX2_tell 14 = .ok (.ifCond .le 9, 3) := dk_158 0 9 (dk_at dksX2_tell_0 14 rfl rfl)
theorem dX2_tell_17 : decode cX2_tell 17 = .ok (.aload_n 0, 1) := dk_42 (dk_at dksX2_tell_0 17 rfl rfl)
theorem dX2_tell_18 : decode cX2_tell 18 = .ok (.bipush 32, 2) := dk_16 32 (dk_at dksX2_tell_0 18 rfl rfl)
theorem dX2_tell_20 : decode cX2_tell 20 = .ok (.invokevirtual 247, 3) := dk_182 0 247 (dk_at dksX2_tell_0 20 rfl rfl)
theorem dX2_tell_23 : decode cX2_tell 23 = .ok (.aload_n 0, 1) := dk_42 (dk_at dksX2_tell_0 23 rfl rfl)
theorem dX2_tell_24 : decode cX2_tell 24 = .ok (.iload_n 1, 1) := dk_27 (dk_at dksX2_tell_1 0 rfl rfl)
theorem dX2_tell_25 : decode cX2_tell 25 = .ok (.invokevirtual 253, 3) := dk_182 0 253 (dk_at dksX2_tell_1 1 rfl rfl)
theorem dX2_tell_28 : decode cX2_tell 28 = .ok (.iinc 1 1, 3) := dk_132 1 1 (dk_at dksX2_tell_1 4 rfl rfl)
theorem dX2_tell_31 : decode cX2_tell 31 = .ok (.goto (-24), 3) := dk_167 255 232 (dk_at dksX2_tell_1 7 rfl rfl)
theorem dX2_tell_34 : decode cX2_tell 34 = .ok (.aload_n 0, 1) := dk_42 (dk_at dksX2_tell_1 10 rfl rfl)
theorem dX2_tell_35 : decode cX2_tell 35 = .ok (.getfield 244, 3) := dk_180 0 244 (dk_at dksX2_tell_1 11 rfl rfl)
theorem dX2_tell_38 : decode cX2_tell 38 = .ok (.ireturn, 1) := dk_172 (dk_at dksX2_tell_1 14 rfl rfl)
abbrev cX2_writes : ByteArray := prog_13_method_84_code
def yX2_writes : MethodName := ⟨RX2, "writes", "(I)V"⟩
def dkwX2_writes_0 : List UInt8 := [42, 180, 0, 32, 42, 180, 0, 244, 27, 146, 85, 42, 89, 180, 0, 244, 4, 96, 181, 0, 244, 177]
abbrev dktX2_writes_0 : List UInt8 := dkwX2_writes_0 ++ []
theorem dksX2_writes_0 : cX2_writes.data.toList.drop 0 = dktX2_writes_0 := by decide +kernel
theorem dX2_writes_0 : decode cX2_writes 0 = .ok (.aload_n 0, 1) := dk_42 (dk_at dksX2_writes_0 0 rfl rfl)
theorem dX2_writes_1 : decode cX2_writes 1 = .ok (.getfield 32, 3) := dk_180 0 32 (dk_at dksX2_writes_0 1 rfl rfl)
theorem dX2_writes_4 : decode cX2_writes 4 = .ok (.aload_n 0, 1) := dk_42 (dk_at dksX2_writes_0 4 rfl rfl)
theorem dX2_writes_5 : decode cX2_writes 5 = .ok (.getfield 244, 3) := dk_180 0 244 (dk_at dksX2_writes_0 5 rfl rfl)
theorem dX2_writes_8 : decode cX2_writes 8 = .ok (.iload_n 1, 1) := dk_27 (dk_at dksX2_writes_0 8 rfl rfl)
theorem dX2_writes_9 : decode cX2_writes 9 = .ok (.i2c, 1) := dk_146 (dk_at dksX2_writes_0 9 rfl rfl)
theorem dX2_writes_10 : decode cX2_writes 10 = .ok (.castore, 1) := dk_85 (dk_at dksX2_writes_0 10 rfl rfl)
theorem dX2_writes_11 : decode cX2_writes 11 = .ok (.aload_n 0, 1) := dk_42 (dk_at dksX2_writes_0 11 rfl rfl)
theorem dX2_writes_12 : decode cX2_writes 12 = .ok (.dup, 1) := dk_89 (dk_at dksX2_writes_0 12 rfl rfl)
theorem dX2_writes_13 : decode cX2_writes 13 = .ok (.getfield 244, 3) := dk_180 0 244 (dk_at dksX2_writes_0 13 rfl rfl)
theorem dX2_writes_16 : decode cX2_writes 16 = .ok (.iconst 1, 1) := dk_4 (dk_at dksX2_writes_0 16 rfl rfl)
theorem dX2_writes_17 : decode cX2_writes 17 = .ok (.iadd, 1) := dk_96 (dk_at dksX2_writes_0 17 rfl rfl)
theorem dX2_writes_18 : decode cX2_writes 18 = .ok (.putfield 244, 3) := dk_181 0 244 (dk_at dksX2_writes_0 18 rfl rfl)
theorem dX2_writes_21 : decode cX2_writes 21 = .ok (.return_, 1) := dk_177 (dk_at dksX2_writes_0 21 rfl rfl)
abbrev cX2_writesCell : ByteArray := prog_13_method_86_code
def yX2_writesCell : MethodName := ⟨RX2, "writesCell", "(I)V"⟩
def dkwX2_writesCell_2 : List UInt8 := [16, 42, 182, 0, 247, 177]
abbrev dktX2_writesCell_2 : List UInt8 := dkwX2_writesCell_2 ++ []
def dkwX2_writesCell_1 : List UInt8 := [8, 182, 0, 64, 158, 0, 9, 42, 16, 33, 182, 0, 247, 42, 28, 7, 182, 0, 64, 5, 161, 0, 9, 42]
abbrev dktX2_writesCell_1 : List UInt8 := dkwX2_writesCell_1 ++ dktX2_writesCell_2
def dkwX2_writesCell_0 : List UInt8 := [42, 27, 182, 0, 122, 61, 28, 156, 0, 10, 42, 16, 45, 182, 0, 247, 177, 42, 28, 182, 0, 250, 42, 28]
abbrev dktX2_writesCell_0 : List UInt8 := dkwX2_writesCell_0 ++ dktX2_writesCell_1
theorem dksX2_writesCell_0 : cX2_writesCell.data.toList.drop 0 = dktX2_writesCell_0 := by decide +kernel
theorem dksX2_writesCell_1 : cX2_writesCell.data.toList.drop 24 = dktX2_writesCell_1 := dk_seg dksX2_writesCell_0 24 rfl rfl
theorem dksX2_writesCell_2 : cX2_writesCell.data.toList.drop 48 = dktX2_writesCell_2 := dk_seg dksX2_writesCell_1 24 rfl rfl
theorem dX2_writesCell_0 : decode cX2_writesCell 0 = .ok (.aload_n 0, 1) := dk_42 (dk_at dksX2_writesCell_0 0 rfl rfl)
theorem dX2_writesCell_1 : decode cX2_writesCell 1 = .ok (.iload_n 1, 1) := dk_27 (dk_at dksX2_writesCell_0 1 rfl rfl)
theorem dX2_writesCell_2 : decode cX2_writesCell 2 = .ok (.invokevirtual 122, 3) := dk_182 0 122 (dk_at dksX2_writesCell_0 2 rfl rfl)
theorem dX2_writesCell_5 : decode cX2_writesCell 5 = .ok (.istore_n 2, 1) := dk_61 (dk_at dksX2_writesCell_0 5 rfl rfl)
theorem dX2_writesCell_6 : decode cX2_writesCell 6 = .ok (.iload_n 2, 1) := dk_28 (dk_at dksX2_writesCell_0 6 rfl rfl)
theorem dX2_writesCell_7 : decode cX2_writesCell 7 = .ok (.ifCond .ge 10, 3) := dk_156 0 10 (dk_at dksX2_writesCell_0 7 rfl rfl)
theorem dX2_writesCell_10 : decode cX2_writesCell 10 = .ok (.aload_n 0, 1) := dk_42 (dk_at dksX2_writesCell_0 10 rfl rfl)
theorem dX2_writesCell_11 : decode cX2_writesCell 11 = .ok (.bipush 45, 2) := dk_16 45 (dk_at dksX2_writesCell_0 11 rfl rfl)
theorem dX2_writesCell_13 : decode cX2_writesCell 13 = .ok (.invokevirtual 247, 3) := dk_182 0 247 (dk_at dksX2_writesCell_0 13 rfl rfl)
theorem dX2_writesCell_16 : decode cX2_writesCell 16 = .ok (.return_, 1) := dk_177 (dk_at dksX2_writesCell_0 16 rfl rfl)
theorem dX2_writesCell_17 : decode cX2_writesCell 17 = .ok (.aload_n 0, 1) := dk_42 (dk_at dksX2_writesCell_0 17 rfl rfl)
theorem dX2_writesCell_18 : decode cX2_writesCell 18 = .ok (.iload_n 2, 1) := dk_28 (dk_at dksX2_writesCell_0 18 rfl rfl)
theorem dX2_writesCell_19 : decode cX2_writesCell 19 = .ok (.invokevirtual 250, 3) := dk_182 0 250 (dk_at dksX2_writesCell_0 19 rfl rfl)
theorem dX2_writesCell_22 : decode cX2_writesCell 22 = .ok (.aload_n 0, 1) := dk_42 (dk_at dksX2_writesCell_0 22 rfl rfl)
theorem dX2_writesCell_23 : decode cX2_writesCell 23 = .ok (.iload_n 2, 1) := dk_28 (dk_at dksX2_writesCell_0 23 rfl rfl)
theorem dX2_writesCell_24 : decode cX2_writesCell 24 = .ok (.iconst 5, 1) := dk_8 (dk_at dksX2_writesCell_1 0 rfl rfl)
theorem dX2_writesCell_25 : decode cX2_writesCell 25 = .ok (.invokevirtual 64, 3) := dk_182 0 64 (dk_at dksX2_writesCell_1 1 rfl rfl)
theorem dX2_writesCell_28 : decode cX2_writesCell 28 = .ok (.ifCond .le 9, 3) := dk_158 0 9 (dk_at dksX2_writesCell_1 4 rfl rfl)
theorem dX2_writesCell_31 : decode cX2_writesCell 31 = .ok (.aload_n 0, 1) := dk_42 (dk_at dksX2_writesCell_1 7 rfl rfl)
theorem dX2_writesCell_32 : decode cX2_writesCell 32 = .ok (.bipush 33, 2) := dk_16 33 (dk_at dksX2_writesCell_1 8 rfl rfl)
theorem dX2_writesCell_34 : decode cX2_writesCell 34 = .ok (.invokevirtual 247, 3) := dk_182 0 247 (dk_at dksX2_writesCell_1 10 rfl rfl)
theorem dX2_writesCell_37 : decode cX2_writesCell 37 = .ok (.aload_n 0, 1) := dk_42 (dk_at dksX2_writesCell_1 13 rfl rfl)
theorem dX2_writesCell_38 : decode cX2_writesCell 38 = .ok (.iload_n 2, 1) := dk_28 (dk_at dksX2_writesCell_1 14 rfl rfl)
theorem dX2_writesCell_39 : decode cX2_writesCell 39 = .ok (.iconst 4, 1) := dk_7 (dk_at dksX2_writesCell_1 15 rfl rfl)
theorem dX2_writesCell_40 : decode cX2_writesCell 40 = .ok (.invokevirtual 64, 3) := dk_182 0 64 (dk_at dksX2_writesCell_1 16 rfl rfl)
theorem dX2_writesCell_43 : decode cX2_writesCell 43 = .ok (.iconst 2, 1) := dk_5 (dk_at dksX2_writesCell_1 19 rfl rfl)
theorem dX2_writesCell_44 : decode cX2_writesCell 44 = .ok (.if_icmp .lt 9, 3) := dk_161 0 9 (dk_at dksX2_writesCell_1 20 rfl rfl)
theorem dX2_writesCell_47 : decode cX2_writesCell 47 = .ok (.aload_n 0, 1) := dk_42 (dk_at dksX2_writesCell_1 23 rfl rfl)
theorem dX2_writesCell_48 : decode cX2_writesCell 48 = .ok (.bipush 42, 2) := dk_16 42 (dk_at dksX2_writesCell_2 0 rfl rfl)
theorem dX2_writesCell_50 : decode cX2_writesCell 50 = .ok (.invokevirtual 247, 3) := dk_182 0 247 (dk_at dksX2_writesCell_2 2 rfl rfl)
theorem dX2_writesCell_53 : decode cX2_writesCell 53 = .ok (.return_, 1) := dk_177 (dk_at dksX2_writesCell_2 5 rfl rfl)
abbrev cX2_writesNumber : ByteArray := prog_13_method_85_code
def yX2_writesNumber : MethodName := ⟨RX2, "writesNumber", "(I)V"⟩
def dkwX2_writesNumber_1 : List UInt8 := [96, 182, 0, 247, 177]
abbrev dktX2_writesNumber_1 : List UInt8 := dkwX2_writesNumber_1 ++ []
def dkwX2_writesNumber_0 : List UInt8 := [27, 16, 9, 164, 0, 14, 42, 16, 48, 27, 16, 10, 108, 96, 182, 0, 247, 42, 16, 48, 27, 16, 10, 112]
abbrev dktX2_writesNumber_0 : List UInt8 := dkwX2_writesNumber_0 ++ dktX2_writesNumber_1
theorem dksX2_writesNumber_0 : cX2_writesNumber.data.toList.drop 0 = dktX2_writesNumber_0 := by decide +kernel
theorem dksX2_writesNumber_1 : cX2_writesNumber.data.toList.drop 24 = dktX2_writesNumber_1 := dk_seg dksX2_writesNumber_0 24 rfl rfl
theorem dX2_writesNumber_0 : decode cX2_writesNumber 0 = .ok (.iload_n 1, 1) := dk_27 (dk_at dksX2_writesNumber_0 0 rfl rfl)
theorem dX2_writesNumber_1 : decode cX2_writesNumber 1 = .ok (.bipush 9, 2) := dk_16 9 (dk_at dksX2_writesNumber_0 1 rfl rfl)
theorem dX2_writesNumber_3 : decode cX2_writesNumber 3 = .ok (.if_icmp .le 14, 3) := dk_164 0 14 (dk_at dksX2_writesNumber_0 3 rfl rfl)
theorem dX2_writesNumber_6 : decode cX2_writesNumber 6 = .ok (.aload_n 0, 1) := dk_42 (dk_at dksX2_writesNumber_0 6 rfl rfl)
theorem dX2_writesNumber_7 : decode cX2_writesNumber 7 = .ok (.bipush 48, 2) := dk_16 48 (dk_at dksX2_writesNumber_0 7 rfl rfl)
theorem dX2_writesNumber_9 : decode cX2_writesNumber 9 = .ok (.iload_n 1, 1) := dk_27 (dk_at dksX2_writesNumber_0 9 rfl rfl)
theorem dX2_writesNumber_10 : decode cX2_writesNumber 10 = .ok (.bipush 10, 2) := dk_16 10 (dk_at dksX2_writesNumber_0 10 rfl rfl)
theorem dX2_writesNumber_12 : decode cX2_writesNumber 12 = .ok (.idiv, 1) := dk_108 (dk_at dksX2_writesNumber_0 12 rfl rfl)
theorem dX2_writesNumber_13 : decode cX2_writesNumber 13 = .ok (.iadd, 1) := dk_96 (dk_at dksX2_writesNumber_0 13 rfl rfl)
theorem dX2_writesNumber_14 : decode cX2_writesNumber 14 = .ok (.invokevirtual 247, 3) := dk_182 0 247 (dk_at dksX2_writesNumber_0 14 rfl rfl)
theorem dX2_writesNumber_17 : decode cX2_writesNumber 17 = .ok (.aload_n 0, 1) := dk_42 (dk_at dksX2_writesNumber_0 17 rfl rfl)
theorem dX2_writesNumber_18 : decode cX2_writesNumber 18 = .ok (.bipush 48, 2) := dk_16 48 (dk_at dksX2_writesNumber_0 18 rfl rfl)
theorem dX2_writesNumber_20 : decode cX2_writesNumber 20 = .ok (.iload_n 1, 1) := dk_27 (dk_at dksX2_writesNumber_0 20 rfl rfl)
theorem dX2_writesNumber_21 : decode cX2_writesNumber 21 = .ok (.bipush 10, 2) := dk_16 10 (dk_at dksX2_writesNumber_0 21 rfl rfl)
theorem dX2_writesNumber_23 : decode cX2_writesNumber 23 = .ok (.irem, 1) := dk_112 (dk_at dksX2_writesNumber_0 23 rfl rfl)
theorem dX2_writesNumber_24 : decode cX2_writesNumber 24 = .ok (.iadd, 1) := dk_96 (dk_at dksX2_writesNumber_1 0 rfl rfl)
theorem dX2_writesNumber_25 : decode cX2_writesNumber 25 = .ok (.invokevirtual 247, 3) := dk_182 0 247 (dk_at dksX2_writesNumber_1 1 rfl rfl)
theorem dX2_writesNumber_28 : decode cX2_writesNumber 28 = .ok (.return_, 1) := dk_177 (dk_at dksX2_writesNumber_1 4 rfl rfl)
abbrev cX2_tellWaiting : ByteArray := prog_13_method_89_code
def yX2_tellWaiting : MethodName := ⟨RX2, "tellWaiting", "()I"⟩
def dkwX2_tellWaiting_3 : List UInt8 := [167, 255, 192, 42, 180, 0, 244, 172]
abbrev dktX2_tellWaiting_3 : List UInt8 := dkwX2_tellWaiting_3 ++ []
def dkwX2_tellWaiting_2 : List UInt8 := [42, 16, 107, 182, 0, 247, 42, 16, 58, 182, 0, 247, 42, 42, 28, 182, 0, 107, 182, 0, 250, 132, 1, 1]
abbrev dktX2_tellWaiting_2 : List UInt8 := dkwX2_tellWaiting_2 ++ dktX2_tellWaiting_3
def dkwX2_tellWaiting_1 : List UInt8 := [158, 0, 9, 42, 16, 44, 182, 0, 247, 42, 28, 182, 0, 250, 42, 28, 4, 182, 0, 64, 4, 160, 0, 9]
abbrev dktX2_tellWaiting_1 : List UInt8 := dkwX2_tellWaiting_1 ++ dktX2_tellWaiting_2
def dkwX2_tellWaiting_0 : List UInt8 := [42, 3, 181, 0, 244, 3, 60, 27, 42, 3, 182, 0, 104, 162, 0, 61, 42, 27, 182, 1, 0, 61, 27]
abbrev dktX2_tellWaiting_0 : List UInt8 := dkwX2_tellWaiting_0 ++ dktX2_tellWaiting_1
theorem dksX2_tellWaiting_0 : cX2_tellWaiting.data.toList.drop 0 = dktX2_tellWaiting_0 := by decide +kernel
theorem dksX2_tellWaiting_1 : cX2_tellWaiting.data.toList.drop 23 = dktX2_tellWaiting_1 := dk_seg dksX2_tellWaiting_0 23 rfl rfl
theorem dksX2_tellWaiting_2 : cX2_tellWaiting.data.toList.drop 47 = dktX2_tellWaiting_2 := dk_seg dksX2_tellWaiting_1 24 rfl rfl
theorem dksX2_tellWaiting_3 : cX2_tellWaiting.data.toList.drop 71 = dktX2_tellWaiting_3 := dk_seg dksX2_tellWaiting_2 24 rfl rfl
theorem dX2_tellWaiting_0 : decode cX2_tellWaiting 0 = .ok (.aload_n 0, 1) := dk_42 (dk_at dksX2_tellWaiting_0 0 rfl rfl)
theorem dX2_tellWaiting_1 : decode cX2_tellWaiting 1 = .ok (.iconst 0, 1) := dk_3 (dk_at dksX2_tellWaiting_0 1 rfl rfl)
theorem dX2_tellWaiting_2 : decode cX2_tellWaiting 2 = .ok (.putfield 244, 3) := dk_181 0 244 (dk_at dksX2_tellWaiting_0 2 rfl rfl)
theorem dX2_tellWaiting_5 : decode cX2_tellWaiting 5 = .ok (.iconst 0, 1) := dk_3 (dk_at dksX2_tellWaiting_0 5 rfl rfl)
theorem dX2_tellWaiting_6 : decode cX2_tellWaiting 6 = .ok (.istore_n 1, 1) := dk_60 (dk_at dksX2_tellWaiting_0 6 rfl rfl)
theorem dX2_tellWaiting_7 : decode cX2_tellWaiting 7 = .ok (.iload_n 1, 1) := dk_27 (dk_at dksX2_tellWaiting_0 7 rfl rfl)
theorem dX2_tellWaiting_8 : decode cX2_tellWaiting 8 = .ok (.aload_n 0, 1) := dk_42 (dk_at dksX2_tellWaiting_0 8 rfl rfl)
theorem dX2_tellWaiting_9 : decode cX2_tellWaiting 9 = .ok (.iconst 0, 1) := dk_3 (dk_at dksX2_tellWaiting_0 9 rfl rfl)
theorem dX2_tellWaiting_10 : decode cX2_tellWaiting 10 = .ok (.invokevirtual 104, 3) := dk_182 0 104 (dk_at dksX2_tellWaiting_0 10 rfl rfl)
theorem dX2_tellWaiting_13 : decode cX2_tellWaiting 13 = .ok (.if_icmp .ge 61, 3) := dk_162 0 61 (dk_at dksX2_tellWaiting_0 13 rfl rfl)
theorem dX2_tellWaiting_16 : decode cX2_tellWaiting 16 = .ok (.aload_n 0, 1) := dk_42 (dk_at dksX2_tellWaiting_0 16 rfl rfl)
theorem dX2_tellWaiting_17 : decode cX2_tellWaiting 17 = .ok (.iload_n 1, 1) := dk_27 (dk_at dksX2_tellWaiting_0 17 rfl rfl)
theorem dX2_tellWaiting_18 : decode cX2_tellWaiting 18 = .ok (.invokevirtual 256, 3) := dk_182 1 0 (dk_at dksX2_tellWaiting_0 18 rfl rfl)
theorem dX2_tellWaiting_21 : decode cX2_tellWaiting 21 = .ok (.istore_n 2, 1) := dk_61 (dk_at dksX2_tellWaiting_0 21 rfl rfl)
theorem dX2_tellWaiting_22 : decode cX2_tellWaiting 22 = .ok (.iload_n 1, 1) := dk_27 (dk_at dksX2_tellWaiting_0 22 rfl rfl)
theorem dX2_tellWaiting_23 : decode cX2_tellWaiting 23 = .ok (.ifCond .le 9, 3) := dk_158 0 9 (dk_at dksX2_tellWaiting_1 0 rfl rfl)
theorem dX2_tellWaiting_26 : decode cX2_tellWaiting 26 = .ok (.aload_n 0, 1) := dk_42 (dk_at dksX2_tellWaiting_1 3 rfl rfl)
theorem dX2_tellWaiting_27 : decode cX2_tellWaiting 27 = .ok (.bipush 44, 2) := dk_16 44 (dk_at dksX2_tellWaiting_1 4 rfl rfl)
theorem dX2_tellWaiting_29 : decode cX2_tellWaiting 29 = .ok (.invokevirtual 247, 3) := dk_182 0 247 (dk_at dksX2_tellWaiting_1 6 rfl rfl)
theorem dX2_tellWaiting_32 : decode cX2_tellWaiting 32 = .ok (.aload_n 0, 1) := dk_42 (dk_at dksX2_tellWaiting_1 9 rfl rfl)
theorem dX2_tellWaiting_33 : decode cX2_tellWaiting 33 = .ok (.iload_n 2, 1) := dk_28 (dk_at dksX2_tellWaiting_1 10 rfl rfl)
theorem dX2_tellWaiting_34 : decode cX2_tellWaiting 34 = .ok (.invokevirtual 250, 3) := dk_182 0 250 (dk_at dksX2_tellWaiting_1 11 rfl rfl)
theorem dX2_tellWaiting_37 : decode cX2_tellWaiting 37 = .ok (.aload_n 0, 1) := dk_42 (dk_at dksX2_tellWaiting_1 14 rfl rfl)
theorem dX2_tellWaiting_38 : decode cX2_tellWaiting 38 = .ok (.iload_n 2, 1) := dk_28 (dk_at dksX2_tellWaiting_1 15 rfl rfl)
theorem dX2_tellWaiting_39 : decode cX2_tellWaiting 39 = .ok (.iconst 1, 1) := dk_4 (dk_at dksX2_tellWaiting_1 16 rfl rfl)
theorem dX2_tellWaiting_40 : decode cX2_tellWaiting 40 = .ok (.invokevirtual 64, 3) := dk_182 0 64 (dk_at dksX2_tellWaiting_1 17 rfl rfl)
theorem dX2_tellWaiting_43 : decode cX2_tellWaiting 43 = .ok (.iconst 1, 1) := dk_4 (dk_at dksX2_tellWaiting_1 20 rfl rfl)
theorem dX2_tellWaiting_44 : decode cX2_tellWaiting 44 = .ok (.if_icmp .ne 9, 3) := dk_160 0 9 (dk_at dksX2_tellWaiting_1 21 rfl rfl)
theorem dX2_tellWaiting_47 : decode cX2_tellWaiting 47 = .ok (.aload_n 0, 1) := dk_42 (dk_at dksX2_tellWaiting_2 0 rfl rfl)
theorem dX2_tellWaiting_48 : decode cX2_tellWaiting 48 = .ok (.bipush 107, 2) := dk_16 107 (dk_at dksX2_tellWaiting_2 1 rfl rfl)
theorem dX2_tellWaiting_50 : decode cX2_tellWaiting 50 = .ok (.invokevirtual 247, 3) := dk_182 0 247 (dk_at dksX2_tellWaiting_2 3 rfl rfl)
theorem dX2_tellWaiting_53 : decode cX2_tellWaiting 53 = .ok (.aload_n 0, 1) := dk_42 (dk_at dksX2_tellWaiting_2 6 rfl rfl)
theorem dX2_tellWaiting_54 : decode cX2_tellWaiting 54 = .ok (.bipush 58, 2) := dk_16 58 (dk_at dksX2_tellWaiting_2 7 rfl rfl)
theorem dX2_tellWaiting_56 : decode cX2_tellWaiting 56 = .ok (.invokevirtual 247, 3) := dk_182 0 247 (dk_at dksX2_tellWaiting_2 9 rfl rfl)
theorem dX2_tellWaiting_59 : decode cX2_tellWaiting 59 = .ok (.aload_n 0, 1) := dk_42 (dk_at dksX2_tellWaiting_2 12 rfl rfl)
theorem dX2_tellWaiting_60 : decode cX2_tellWaiting 60 = .ok (.aload_n 0, 1) := dk_42 (dk_at dksX2_tellWaiting_2 13 rfl rfl)
theorem dX2_tellWaiting_61 : decode cX2_tellWaiting 61 = .ok (.iload_n 2, 1) := dk_28 (dk_at dksX2_tellWaiting_2 14 rfl rfl)
theorem dX2_tellWaiting_62 : decode cX2_tellWaiting 62 = .ok (.invokevirtual 107, 3) := dk_182 0 107 (dk_at dksX2_tellWaiting_2 15 rfl rfl)
theorem dX2_tellWaiting_65 : decode cX2_tellWaiting 65 = .ok (.invokevirtual 250, 3) := dk_182 0 250 (dk_at dksX2_tellWaiting_2 18 rfl rfl)
theorem dX2_tellWaiting_68 : decode cX2_tellWaiting 68 = .ok (.iinc 1 1, 3) := dk_132 1 1 (dk_at dksX2_tellWaiting_2 21 rfl rfl)
theorem dX2_tellWaiting_71 : decode cX2_tellWaiting 71 = .ok (.goto (-64), 3) := dk_167 255 192 (dk_at dksX2_tellWaiting_3 0 rfl rfl)
theorem dX2_tellWaiting_74 : decode cX2_tellWaiting 74 = .ok (.aload_n 0, 1) := dk_42 (dk_at dksX2_tellWaiting_3 3 rfl rfl)
theorem dX2_tellWaiting_75 : decode cX2_tellWaiting 75 = .ok (.getfield 244, 3) := dk_180 0 244 (dk_at dksX2_tellWaiting_3 4 rfl rfl)
theorem dX2_tellWaiting_78 : decode cX2_tellWaiting 78 = .ok (.ireturn, 1) := dk_172 (dk_at dksX2_tellWaiting_3 7 rfl rfl)
abbrev cX2_inLine : ByteArray := prog_13_method_88_code
def yX2_inLine : MethodName := ⟨RX2, "inLine", "(I)I"⟩
def dkwX2_inLine_1 : List UInt8 := [182, 0, 201, 27, 160, 0, 5, 28, 172, 132, 2, 1, 167, 255, 223, 16, 245, 172]
abbrev dktX2_inLine_1 : List UInt8 := dkwX2_inLine_1 ++ []
def dkwX2_inLine_0 : List UInt8 := [3, 61, 28, 42, 180, 0, 7, 5, 46, 162, 0, 29, 42, 28, 3, 182, 0, 68, 153, 0, 14, 42, 28]
abbrev dktX2_inLine_0 : List UInt8 := dkwX2_inLine_0 ++ dktX2_inLine_1
theorem dksX2_inLine_0 : cX2_inLine.data.toList.drop 0 = dktX2_inLine_0 := by decide +kernel
theorem dksX2_inLine_1 : cX2_inLine.data.toList.drop 23 = dktX2_inLine_1 := dk_seg dksX2_inLine_0 23 rfl rfl
theorem dX2_inLine_0 : decode cX2_inLine 0 = .ok (.iconst 0, 1) := dk_3 (dk_at dksX2_inLine_0 0 rfl rfl)
theorem dX2_inLine_1 : decode cX2_inLine 1 = .ok (.istore_n 2, 1) := dk_61 (dk_at dksX2_inLine_0 1 rfl rfl)
theorem dX2_inLine_2 : decode cX2_inLine 2 = .ok (.iload_n 2, 1) := dk_28 (dk_at dksX2_inLine_0 2 rfl rfl)
theorem dX2_inLine_3 : decode cX2_inLine 3 = .ok (.aload_n 0, 1) := dk_42 (dk_at dksX2_inLine_0 3 rfl rfl)
theorem dX2_inLine_4 : decode cX2_inLine 4 = .ok (.getfield 7, 3) := dk_180 0 7 (dk_at dksX2_inLine_0 4 rfl rfl)
theorem dX2_inLine_7 : decode cX2_inLine 7 = .ok (.iconst 2, 1) := dk_5 (dk_at dksX2_inLine_0 7 rfl rfl)
theorem dX2_inLine_8 : decode cX2_inLine 8 = .ok (.iaload, 1) := dk_46 (dk_at dksX2_inLine_0 8 rfl rfl)
theorem dX2_inLine_9 : decode cX2_inLine 9 = .ok (.if_icmp .ge 29, 3) := dk_162 0 29 (dk_at dksX2_inLine_0 9 rfl rfl)
theorem dX2_inLine_12 : decode cX2_inLine 12 = .ok (.aload_n 0, 1) := dk_42 (dk_at dksX2_inLine_0 12 rfl rfl)
theorem dX2_inLine_13 : decode cX2_inLine 13 = .ok (.iload_n 2, 1) := dk_28 (dk_at dksX2_inLine_0 13 rfl rfl)
theorem dX2_inLine_14 : decode cX2_inLine 14 = .ok (.iconst 0, 1) := dk_3 (dk_at dksX2_inLine_0 14 rfl rfl)
theorem dX2_inLine_15 : decode cX2_inLine 15 = .ok (.invokevirtual 68, 3) := dk_182 0 68 (dk_at dksX2_inLine_0 15 rfl rfl)
theorem dX2_inLine_18 : decode cX2_inLine 18 = .ok (.ifCond .eq 14, 3) := dk_153 0 14 (dk_at dksX2_inLine_0 18 rfl rfl)
theorem dX2_inLine_21 : decode cX2_inLine 21 = .ok (.aload_n 0, 1) := dk_42 (dk_at dksX2_inLine_0 21 rfl rfl)
theorem dX2_inLine_22 : decode cX2_inLine 22 = .ok (.iload_n 2, 1) := dk_28 (dk_at dksX2_inLine_0 22 rfl rfl)
theorem dX2_inLine_23 : decode cX2_inLine 23 = .ok (.invokevirtual 201, 3) := dk_182 0 201 (dk_at dksX2_inLine_1 0 rfl rfl)
theorem dX2_inLine_26 : decode cX2_inLine 26 = .ok (.iload_n 1, 1) := dk_27 (dk_at dksX2_inLine_1 3 rfl rfl)
theorem dX2_inLine_27 : decode cX2_inLine 27 = .ok (.if_icmp .ne 5, 3) := dk_160 0 5 (dk_at dksX2_inLine_1 4 rfl rfl)
theorem dX2_inLine_30 : decode cX2_inLine 30 = .ok (.iload_n 2, 1) := dk_28 (dk_at dksX2_inLine_1 7 rfl rfl)
theorem dX2_inLine_31 : decode cX2_inLine 31 = .ok (.ireturn, 1) := dk_172 (dk_at dksX2_inLine_1 8 rfl rfl)
theorem dX2_inLine_32 : decode cX2_inLine 32 = .ok (.iinc 2 1, 3) := dk_132 2 1 (dk_at dksX2_inLine_1 9 rfl rfl)
theorem dX2_inLine_35 : decode cX2_inLine 35 = .ok (.goto (-33), 3) := dk_167 255 223 (dk_at dksX2_inLine_1 12 rfl rfl)
theorem dX2_inLine_38 : decode cX2_inLine 38 = .ok (.bipush (-11), 2) := dk_16 245 (dk_at dksX2_inLine_1 15 rfl rfl)
theorem dX2_inLine_40 : decode cX2_inLine 40 = .ok (.ireturn, 1) := dk_172 (dk_at dksX2_inLine_1 17 rfl rfl)
abbrev cX2_character : ByteArray := prog_13_method_90_code
def yX2_character : MethodName := ⟨RX2, "character", "(I)I"⟩
def dkwX2_character_1 : List UInt8 := [16, 245, 172]
abbrev dktX2_character_1 : List UInt8 := dkwX2_character_1 ++ []
def dkwX2_character_0 : List UInt8 := [27, 3, 42, 180, 0, 244, 4, 100, 184, 0, 60, 153, 0, 12, 42, 180, 0, 32, 27, 52, 167, 0, 5]
abbrev dktX2_character_0 : List UInt8 := dkwX2_character_0 ++ dktX2_character_1
theorem dksX2_character_0 : cX2_character.data.toList.drop 0 = dktX2_character_0 := by decide +kernel
theorem dksX2_character_1 : cX2_character.data.toList.drop 23 = dktX2_character_1 := dk_seg dksX2_character_0 23 rfl rfl
theorem dX2_character_0 : decode cX2_character 0 = .ok (.iload_n 1, 1) := dk_27 (dk_at dksX2_character_0 0 rfl rfl)
theorem dX2_character_1 : decode cX2_character 1 = .ok (.iconst 0, 1) := dk_3 (dk_at dksX2_character_0 1 rfl rfl)
theorem dX2_character_2 : decode cX2_character 2 = .ok (.aload_n 0, 1) := dk_42 (dk_at dksX2_character_0 2 rfl rfl)
theorem dX2_character_3 : decode cX2_character 3 = .ok (.getfield 244, 3) := dk_180 0 244 (dk_at dksX2_character_0 3 rfl rfl)
theorem dX2_character_6 : decode cX2_character 6 = .ok (.iconst 1, 1) := dk_4 (dk_at dksX2_character_0 6 rfl rfl)
theorem dX2_character_7 : decode cX2_character 7 = .ok (.isub, 1) := dk_100 (dk_at dksX2_character_0 7 rfl rfl)
theorem dX2_character_8 : decode cX2_character 8 = .ok (.invokestatic 60, 3) := dk_184 0 60 (dk_at dksX2_character_0 8 rfl rfl)
theorem dX2_character_11 : decode cX2_character 11 = .ok (.ifCond .eq 12, 3) := dk_153 0 12 (dk_at dksX2_character_0 11 rfl rfl)
theorem dX2_character_14 : decode cX2_character 14 = .ok (.aload_n 0, 1) := dk_42 (dk_at dksX2_character_0 14 rfl rfl)
theorem dX2_character_15 : decode cX2_character 15 = .ok (.getfield 32, 3) := dk_180 0 32 (dk_at dksX2_character_0 15 rfl rfl)
theorem dX2_character_18 : decode cX2_character 18 = .ok (.iload_n 1, 1) := dk_27 (dk_at dksX2_character_0 18 rfl rfl)
theorem dX2_character_19 : decode cX2_character 19 = .ok (.caload, 1) := dk_52 (dk_at dksX2_character_0 19 rfl rfl)
theorem dX2_character_20 : decode cX2_character 20 = .ok (.goto 5, 3) := dk_167 0 5 (dk_at dksX2_character_0 20 rfl rfl)
theorem dX2_character_23 : decode cX2_character 23 = .ok (.bipush (-11), 2) := dk_16 245 (dk_at dksX2_character_1 0 rfl rfl)
theorem dX2_character_25 : decode cX2_character 25 = .ok (.ireturn, 1) := dk_172 (dk_at dksX2_character_1 2 rfl rfl)
abbrev cX2_account : ByteArray := prog_13_method_93_code
def yX2_account : MethodName := ⟨RX2, "account", "(I)I"⟩
def dkwX2_account_4 : List UInt8 := [16, 244, 172]
abbrev dktX2_account_4 : List UInt8 := dkwX2_account_4 ++ []
def dkwX2_account_3 : List UInt8 := [16, 9, 46, 172, 42, 180, 0, 7, 27, 16, 6, 100, 46, 172, 42, 180, 0, 204, 172, 42, 180, 0, 48, 172]
abbrev dktX2_account_3 : List UInt8 := dkwX2_account_3 ++ dktX2_account_4
def dkwX2_account_2 : List UInt8 := [42, 180, 0, 7, 27, 46, 172, 42, 27, 6, 100, 182, 0, 104, 172, 42, 182, 1, 3, 172, 42, 180, 0, 7]
abbrev dktX2_account_2 : List UInt8 := dkwX2_account_2 ++ dktX2_account_3
def dkwX2_account_1 : List UInt8 := [170, 0, 0, 0, 0, 0, 131, 0, 0, 0, 0, 0, 0, 0, 16, 0, 0, 0, 83, 0, 0, 0, 83, 0, 0, 0, 83, 0, 0, 0, 90, 0, 0, 0, 90, 0, 0, 0, 90, 0, 0, 0, 90, 0, 0, 0, 98, 0, 0, 0, 103, 0, 0, 0, 111, 0, 0, 0, 111, 0, 0, 0, 111, 0, 0, 0, 111, 0, 0, 0, 111, 0, 0, 0, 111, 0, 0, 0, 121, 0, 0, 0, 126]
abbrev dktX2_account_1 : List UInt8 := dkwX2_account_1 ++ dktX2_account_2
def dkwX2_account_0 : List UInt8 := [27]
abbrev dktX2_account_0 : List UInt8 := dkwX2_account_0 ++ dktX2_account_1
theorem dksX2_account_0 : cX2_account.data.toList.drop 0 = dktX2_account_0 := by decide +kernel
theorem dksX2_account_1 : cX2_account.data.toList.drop 1 = dktX2_account_1 := dk_seg dksX2_account_0 1 rfl rfl
theorem dksX2_account_2 : cX2_account.data.toList.drop 84 = dktX2_account_2 := dk_seg dksX2_account_1 83 rfl rfl
theorem dksX2_account_3 : cX2_account.data.toList.drop 108 = dktX2_account_3 := dk_seg dksX2_account_2 24 rfl rfl
theorem dksX2_account_4 : cX2_account.data.toList.drop 132 = dktX2_account_4 := dk_seg dksX2_account_3 24 rfl rfl
theorem dX2_account_0 : decode cX2_account 0 = .ok (.iload_n 1, 1) := dk_27 (dk_at dksX2_account_0 0 rfl rfl)
theorem dX2_account_1 : decode cX2_account 1 = .ok (.tableswitch 131 0 16 #[83, 83, 83, 90, 90, 90, 90, 98, 103, 111, 111, 111, 111, 111, 111, 121, 126], 83) := by decide +kernel
theorem dX2_account_84 : decode cX2_account 84 = .ok (.aload_n 0, 1) := dk_42 (dk_at dksX2_account_2 0 rfl rfl)
theorem dX2_account_85 : decode cX2_account 85 = .ok (.getfield 7, 3) := dk_180 0 7 (dk_at dksX2_account_2 1 rfl rfl)
theorem dX2_account_88 : decode cX2_account 88 = .ok (.iload_n 1, 1) := dk_27 (dk_at dksX2_account_2 4 rfl rfl)
theorem dX2_account_89 : decode cX2_account 89 = .ok (.iaload, 1) := dk_46 (dk_at dksX2_account_2 5 rfl rfl)
theorem dX2_account_90 : decode cX2_account 90 = .ok (.ireturn, 1) := dk_172 (dk_at dksX2_account_2 6 rfl rfl)
theorem dX2_account_91 : decode cX2_account 91 = .ok (.aload_n 0, 1) := dk_42 (dk_at dksX2_account_2 7 rfl rfl)
theorem dX2_account_92 : decode cX2_account 92 = .ok (.iload_n 1, 1) := dk_27 (dk_at dksX2_account_2 8 rfl rfl)
theorem dX2_account_93 : decode cX2_account 93 = .ok (.iconst 3, 1) := dk_6 (dk_at dksX2_account_2 9 rfl rfl)
theorem dX2_account_94 : decode cX2_account 94 = .ok (.isub, 1) := dk_100 (dk_at dksX2_account_2 10 rfl rfl)
theorem dX2_account_95 : decode cX2_account 95 = .ok (.invokevirtual 104, 3) := dk_182 0 104 (dk_at dksX2_account_2 11 rfl rfl)
theorem dX2_account_98 : decode cX2_account 98 = .ok (.ireturn, 1) := dk_172 (dk_at dksX2_account_2 14 rfl rfl)
theorem dX2_account_99 : decode cX2_account 99 = .ok (.aload_n 0, 1) := dk_42 (dk_at dksX2_account_2 15 rfl rfl)
theorem dX2_account_100 : decode cX2_account 100 = .ok (.invokevirtual 259, 3) := dk_182 1 3 (dk_at dksX2_account_2 16 rfl rfl)
theorem dX2_account_103 : decode cX2_account 103 = .ok (.ireturn, 1) := dk_172 (dk_at dksX2_account_2 19 rfl rfl)
theorem dX2_account_104 : decode cX2_account 104 = .ok (.aload_n 0, 1) := dk_42 (dk_at dksX2_account_2 20 rfl rfl)
theorem dX2_account_105 : decode cX2_account 105 = .ok (.getfield 7, 3) := dk_180 0 7 (dk_at dksX2_account_2 21 rfl rfl)
theorem dX2_account_108 : decode cX2_account 108 = .ok (.bipush 9, 2) := dk_16 9 (dk_at dksX2_account_3 0 rfl rfl)
theorem dX2_account_110 : decode cX2_account 110 = .ok (.iaload, 1) := dk_46 (dk_at dksX2_account_3 2 rfl rfl)
theorem dX2_account_111 : decode cX2_account 111 = .ok (.ireturn, 1) := dk_172 (dk_at dksX2_account_3 3 rfl rfl)
theorem dX2_account_112 : decode cX2_account 112 = .ok (.aload_n 0, 1) := dk_42 (dk_at dksX2_account_3 4 rfl rfl)
theorem dX2_account_113 : decode cX2_account 113 = .ok (.getfield 7, 3) := dk_180 0 7 (dk_at dksX2_account_3 5 rfl rfl)
theorem dX2_account_116 : decode cX2_account 116 = .ok (.iload_n 1, 1) := dk_27 (dk_at dksX2_account_3 8 rfl rfl)
theorem dX2_account_117 : decode cX2_account 117 = .ok (.bipush 6, 2) := dk_16 6 (dk_at dksX2_account_3 9 rfl rfl)
theorem dX2_account_119 : decode cX2_account 119 = .ok (.isub, 1) := dk_100 (dk_at dksX2_account_3 11 rfl rfl)
theorem dX2_account_120 : decode cX2_account 120 = .ok (.iaload, 1) := dk_46 (dk_at dksX2_account_3 12 rfl rfl)
theorem dX2_account_121 : decode cX2_account 121 = .ok (.ireturn, 1) := dk_172 (dk_at dksX2_account_3 13 rfl rfl)
theorem dX2_account_122 : decode cX2_account 122 = .ok (.aload_n 0, 1) := dk_42 (dk_at dksX2_account_3 14 rfl rfl)
theorem dX2_account_123 : decode cX2_account 123 = .ok (.getfield 204, 3) := dk_180 0 204 (dk_at dksX2_account_3 15 rfl rfl)
theorem dX2_account_126 : decode cX2_account 126 = .ok (.ireturn, 1) := dk_172 (dk_at dksX2_account_3 18 rfl rfl)
theorem dX2_account_127 : decode cX2_account 127 = .ok (.aload_n 0, 1) := dk_42 (dk_at dksX2_account_3 19 rfl rfl)
theorem dX2_account_128 : decode cX2_account 128 = .ok (.getfield 48, 3) := dk_180 0 48 (dk_at dksX2_account_3 20 rfl rfl)
theorem dX2_account_131 : decode cX2_account 131 = .ok (.ireturn, 1) := dk_172 (dk_at dksX2_account_3 23 rfl rfl)
theorem dX2_account_132 : decode cX2_account 132 = .ok (.bipush (-12), 2) := dk_16 244 (dk_at dksX2_account_4 0 rfl rfl)
theorem dX2_account_134 : decode cX2_account 134 = .ok (.ireturn, 1) := dk_172 (dk_at dksX2_account_4 2 rfl rfl)
abbrev cX2_banned : ByteArray := prog_13_method_91_code
def yX2_banned : MethodName := ⟨RX2, "banned", "()I"⟩
def dkwX2_banned_1 : List UInt8 := [4, 167, 0, 4, 3, 96, 60, 132, 2, 1, 167, 255, 226, 27, 172]
abbrev dktX2_banned_1 : List UInt8 := dkwX2_banned_1 ++ []
def dkwX2_banned_0 : List UInt8 := [3, 60, 3, 61, 28, 42, 180, 0, 7, 5, 46, 162, 0, 26, 27, 42, 28, 8, 182, 0, 64, 158, 0, 7]
abbrev dktX2_banned_0 : List UInt8 := dkwX2_banned_0 ++ dktX2_banned_1
theorem dksX2_banned_0 : cX2_banned.data.toList.drop 0 = dktX2_banned_0 := by decide +kernel
theorem dksX2_banned_1 : cX2_banned.data.toList.drop 24 = dktX2_banned_1 := dk_seg dksX2_banned_0 24 rfl rfl
theorem dX2_banned_0 : decode cX2_banned 0 = .ok (.iconst 0, 1) := dk_3 (dk_at dksX2_banned_0 0 rfl rfl)
theorem dX2_banned_1 : decode cX2_banned 1 = .ok (.istore_n 1, 1) := dk_60 (dk_at dksX2_banned_0 1 rfl rfl)
theorem dX2_banned_2 : decode cX2_banned 2 = .ok (.iconst 0, 1) := dk_3 (dk_at dksX2_banned_0 2 rfl rfl)
theorem dX2_banned_3 : decode cX2_banned 3 = .ok (.istore_n 2, 1) := dk_61 (dk_at dksX2_banned_0 3 rfl rfl)
theorem dX2_banned_4 : decode cX2_banned 4 = .ok (.iload_n 2, 1) := dk_28 (dk_at dksX2_banned_0 4 rfl rfl)
theorem dX2_banned_5 : decode cX2_banned 5 = .ok (.aload_n 0, 1) := dk_42 (dk_at dksX2_banned_0 5 rfl rfl)
theorem dX2_banned_6 : decode cX2_banned 6 = .ok (.getfield 7, 3) := dk_180 0 7 (dk_at dksX2_banned_0 6 rfl rfl)
theorem dX2_banned_9 : decode cX2_banned 9 = .ok (.iconst 2, 1) := dk_5 (dk_at dksX2_banned_0 9 rfl rfl)
theorem dX2_banned_10 : decode cX2_banned 10 = .ok (.iaload, 1) := dk_46 (dk_at dksX2_banned_0 10 rfl rfl)
theorem dX2_banned_11 : decode cX2_banned 11 = .ok (.if_icmp .ge 26, 3) := dk_162 0 26 (dk_at dksX2_banned_0 11 rfl rfl)
theorem dX2_banned_14 : decode cX2_banned 14 = .ok (.iload_n 1, 1) := dk_27 (dk_at dksX2_banned_0 14 rfl rfl)
theorem dX2_banned_15 : decode cX2_banned 15 = .ok (.aload_n 0, 1) := dk_42 (dk_at dksX2_banned_0 15 rfl rfl)
theorem dX2_banned_16 : decode cX2_banned 16 = .ok (.iload_n 2, 1) := dk_28 (dk_at dksX2_banned_0 16 rfl rfl)
theorem dX2_banned_17 : decode cX2_banned 17 = .ok (.iconst 5, 1) := dk_8 (dk_at dksX2_banned_0 17 rfl rfl)
theorem dX2_banned_18 : decode cX2_banned 18 = .ok (.invokevirtual 64, 3) := dk_182 0 64 (dk_at dksX2_banned_0 18 rfl rfl)
theorem dX2_banned_21 : decode cX2_banned 21 = .ok (.ifCond .le 7, 3) := dk_158 0 7 (dk_at dksX2_banned_0 21 rfl rfl)
theorem dX2_banned_24 : decode cX2_banned 24 = .ok (.iconst 1, 1) := dk_4 (dk_at dksX2_banned_1 0 rfl rfl)
theorem dX2_banned_25 : decode cX2_banned 25 = .ok (.goto 4, 3) := dk_167 0 4 (dk_at dksX2_banned_1 1 rfl rfl)
theorem dX2_banned_28 : decode cX2_banned 28 = .ok (.iconst 0, 1) := dk_3 (dk_at dksX2_banned_1 4 rfl rfl)
theorem dX2_banned_29 : decode cX2_banned 29 = .ok (.iadd, 1) := dk_96 (dk_at dksX2_banned_1 5 rfl rfl)
theorem dX2_banned_30 : decode cX2_banned 30 = .ok (.istore_n 1, 1) := dk_60 (dk_at dksX2_banned_1 6 rfl rfl)
theorem dX2_banned_31 : decode cX2_banned 31 = .ok (.iinc 2 1, 3) := dk_132 2 1 (dk_at dksX2_banned_1 7 rfl rfl)
theorem dX2_banned_34 : decode cX2_banned 34 = .ok (.goto (-30), 3) := dk_167 255 226 (dk_at dksX2_banned_1 10 rfl rfl)
theorem dX2_banned_37 : decode cX2_banned 37 = .ok (.iload_n 1, 1) := dk_27 (dk_at dksX2_banned_1 13 rfl rfl)
theorem dX2_banned_38 : decode cX2_banned 38 = .ok (.ireturn, 1) := dk_172 (dk_at dksX2_banned_1 14 rfl rfl)
abbrev cX2_isBalanced : ByteArray := prog_13_method_94_code
def yX2_isBalanced : MethodName := ⟨RX2, "isBalanced", "()I"⟩
def dkwX2_isBalanced_4 : List UInt8 := [160, 0, 7, 4, 167, 0, 4, 3, 172]
abbrev dktX2_isBalanced_4 : List UInt8 := dkwX2_isBalanced_4 ++ []
def dkwX2_isBalanced_3 : List UInt8 := [4, 167, 0, 4, 3, 96, 61, 132, 3, 1, 167, 255, 231, 27, 153, 0, 16, 28, 42, 4, 182, 0, 104]
abbrev dktX2_isBalanced_3 : List UInt8 := dkwX2_isBalanced_3 ++ dktX2_isBalanced_4
def dkwX2_isBalanced_2 : List UInt8 := [167, 0, 4, 3, 60, 3, 61, 3, 62, 29, 16, 8, 162, 0, 25, 28, 42, 29, 182, 0, 122, 155, 0, 7]
abbrev dktX2_isBalanced_2 : List UInt8 := dkwX2_isBalanced_2 ++ dktX2_isBalanced_3
def dkwX2_isBalanced_1 : List UInt8 := [180, 0, 7, 16, 6, 46, 100, 160, 0, 20, 42, 180, 0, 7, 8, 46, 42, 182, 1, 6, 160, 0, 7, 4]
abbrev dktX2_isBalanced_1 : List UInt8 := dkwX2_isBalanced_1 ++ dktX2_isBalanced_2
def dkwX2_isBalanced_0 : List UInt8 := [42, 180, 0, 7, 6, 46, 16, 100, 42, 180, 0, 7, 7, 46, 96, 42, 180, 0, 7, 8, 46, 100, 42]
abbrev dktX2_isBalanced_0 : List UInt8 := dkwX2_isBalanced_0 ++ dktX2_isBalanced_1
theorem dksX2_isBalanced_0 : cX2_isBalanced.data.toList.drop 0 = dktX2_isBalanced_0 := by decide +kernel
theorem dksX2_isBalanced_1 : cX2_isBalanced.data.toList.drop 23 = dktX2_isBalanced_1 := dk_seg dksX2_isBalanced_0 23 rfl rfl
theorem dksX2_isBalanced_2 : cX2_isBalanced.data.toList.drop 47 = dktX2_isBalanced_2 := dk_seg dksX2_isBalanced_1 24 rfl rfl
theorem dksX2_isBalanced_3 : cX2_isBalanced.data.toList.drop 71 = dktX2_isBalanced_3 := dk_seg dksX2_isBalanced_2 24 rfl rfl
theorem dksX2_isBalanced_4 : cX2_isBalanced.data.toList.drop 94 = dktX2_isBalanced_4 := dk_seg dksX2_isBalanced_3 23 rfl rfl
theorem dX2_isBalanced_0 : decode cX2_isBalanced 0 = .ok (.aload_n 0, 1) := dk_42 (dk_at dksX2_isBalanced_0 0 rfl rfl)
theorem dX2_isBalanced_1 : decode cX2_isBalanced 1 = .ok (.getfield 7, 3) := dk_180 0 7 (dk_at dksX2_isBalanced_0 1 rfl rfl)
theorem dX2_isBalanced_4 : decode cX2_isBalanced 4 = .ok (.iconst 3, 1) := dk_6 (dk_at dksX2_isBalanced_0 4 rfl rfl)
theorem dX2_isBalanced_5 : decode cX2_isBalanced 5 = .ok (.iaload, 1) := dk_46 (dk_at dksX2_isBalanced_0 5 rfl rfl)
theorem dX2_isBalanced_6 : decode cX2_isBalanced 6 = .ok (.bipush 100, 2) := dk_16 100 (dk_at dksX2_isBalanced_0 6 rfl rfl)
theorem dX2_isBalanced_8 : decode cX2_isBalanced 8 = .ok (.aload_n 0, 1) := dk_42 (dk_at dksX2_isBalanced_0 8 rfl rfl)
theorem dX2_isBalanced_9 : decode cX2_isBalanced 9 = .ok (.getfield 7, 3) := dk_180 0 7 (dk_at dksX2_isBalanced_0 9 rfl rfl)
theorem dX2_isBalanced_12 : decode cX2_isBalanced 12 = .ok (.iconst 4, 1) := dk_7 (dk_at dksX2_isBalanced_0 12 rfl rfl)
theorem dX2_isBalanced_13 : decode cX2_isBalanced 13 = .ok (.iaload, 1) := dk_46 (dk_at dksX2_isBalanced_0 13 rfl rfl)
theorem dX2_isBalanced_14 : decode cX2_isBalanced 14 = .ok (.iadd, 1) := dk_96 (dk_at dksX2_isBalanced_0 14 rfl rfl)
theorem dX2_isBalanced_15 : decode cX2_isBalanced 15 = .ok (.aload_n 0, 1) := dk_42 (dk_at dksX2_isBalanced_0 15 rfl rfl)
theorem dX2_isBalanced_16 : decode cX2_isBalanced 16 = .ok (.getfield 7, 3) := dk_180 0 7 (dk_at dksX2_isBalanced_0 16 rfl rfl)
theorem dX2_isBalanced_19 : decode cX2_isBalanced 19 = .ok (.iconst 5, 1) := dk_8 (dk_at dksX2_isBalanced_0 19 rfl rfl)
theorem dX2_isBalanced_20 : decode cX2_isBalanced 20 = .ok (.iaload, 1) := dk_46 (dk_at dksX2_isBalanced_0 20 rfl rfl)
theorem dX2_isBalanced_21 : decode cX2_isBalanced 21 = .ok (.isub, 1) := dk_100 (dk_at dksX2_isBalanced_0 21 rfl rfl)
theorem dX2_isBalanced_22 : decode cX2_isBalanced 22 = .ok (.aload_n 0, 1) := dk_42 (dk_at dksX2_isBalanced_0 22 rfl rfl)
theorem dX2_isBalanced_23 : decode cX2_isBalanced 23 = .ok (.getfield 7, 3) := dk_180 0 7 (dk_at dksX2_isBalanced_1 0 rfl rfl)
theorem dX2_isBalanced_26 : decode cX2_isBalanced 26 = .ok (.bipush 6, 2) := dk_16 6 (dk_at dksX2_isBalanced_1 3 rfl rfl)
theorem dX2_isBalanced_28 : decode cX2_isBalanced 28 = .ok (.iaload, 1) := dk_46 (dk_at dksX2_isBalanced_1 5 rfl rfl)
theorem dX2_isBalanced_29 : decode cX2_isBalanced 29 = .ok (.isub, 1) := dk_100 (dk_at dksX2_isBalanced_1 6 rfl rfl)
theorem dX2_isBalanced_30 : decode cX2_isBalanced 30 = .ok (.if_icmp .ne 20, 3) := dk_160 0 20 (dk_at dksX2_isBalanced_1 7 rfl rfl)
theorem dX2_isBalanced_33 : decode cX2_isBalanced 33 = .ok (.aload_n 0, 1) := dk_42 (dk_at dksX2_isBalanced_1 10 rfl rfl)
theorem dX2_isBalanced_34 : decode cX2_isBalanced 34 = .ok (.getfield 7, 3) := dk_180 0 7 (dk_at dksX2_isBalanced_1 11 rfl rfl)
theorem dX2_isBalanced_37 : decode cX2_isBalanced 37 = .ok (.iconst 5, 1) := dk_8 (dk_at dksX2_isBalanced_1 14 rfl rfl)
theorem dX2_isBalanced_38 : decode cX2_isBalanced 38 = .ok (.iaload, 1) := dk_46 (dk_at dksX2_isBalanced_1 15 rfl rfl)
theorem dX2_isBalanced_39 : decode cX2_isBalanced 39 = .ok (.aload_n 0, 1) := dk_42 (dk_at dksX2_isBalanced_1 16 rfl rfl)
theorem dX2_isBalanced_40 : decode cX2_isBalanced 40 = .ok (.invokevirtual 262, 3) := dk_182 1 6 (dk_at dksX2_isBalanced_1 17 rfl rfl)
theorem dX2_isBalanced_43 : decode cX2_isBalanced 43 = .ok (.if_icmp .ne 7, 3) := dk_160 0 7 (dk_at dksX2_isBalanced_1 20 rfl rfl)
theorem dX2_isBalanced_46 : decode cX2_isBalanced 46 = .ok (.iconst 1, 1) := dk_4 (dk_at dksX2_isBalanced_1 23 rfl rfl)
theorem dX2_isBalanced_47 : decode cX2_isBalanced 47 = .ok (.goto 4, 3) := dk_167 0 4 (dk_at dksX2_isBalanced_2 0 rfl rfl)
theorem dX2_isBalanced_50 : decode cX2_isBalanced 50 = .ok (.iconst 0, 1) := dk_3 (dk_at dksX2_isBalanced_2 3 rfl rfl)
theorem dX2_isBalanced_51 : decode cX2_isBalanced 51 = .ok (.istore_n 1, 1) := dk_60 (dk_at dksX2_isBalanced_2 4 rfl rfl)
theorem dX2_isBalanced_52 : decode cX2_isBalanced 52 = .ok (.iconst 0, 1) := dk_3 (dk_at dksX2_isBalanced_2 5 rfl rfl)
theorem dX2_isBalanced_53 : decode cX2_isBalanced 53 = .ok (.istore_n 2, 1) := dk_61 (dk_at dksX2_isBalanced_2 6 rfl rfl)
theorem dX2_isBalanced_54 : decode cX2_isBalanced 54 = .ok (.iconst 0, 1) := dk_3 (dk_at dksX2_isBalanced_2 7 rfl rfl)
theorem dX2_isBalanced_55 : decode cX2_isBalanced 55 = .ok (.istore_n 3, 1) := dk_62 (dk_at dksX2_isBalanced_2 8 rfl rfl)
theorem dX2_isBalanced_56 : decode cX2_isBalanced 56 = .ok (.iload_n 3, 1) := dk_29 (dk_at dksX2_isBalanced_2 9 rfl rfl)
theorem dX2_isBalanced_57 : decode cX2_isBalanced 57 = .ok (.bipush 8, 2) := dk_16 8 (dk_at dksX2_isBalanced_2 10 rfl rfl)
theorem dX2_isBalanced_59 : decode cX2_isBalanced 59 = .ok (.if_icmp .ge 25, 3) := dk_162 0 25 (dk_at dksX2_isBalanced_2 12 rfl rfl)
theorem dX2_isBalanced_62 : decode cX2_isBalanced 62 = .ok (.iload_n 2, 1) := dk_28 (dk_at dksX2_isBalanced_2 15 rfl rfl)
theorem dX2_isBalanced_63 : decode cX2_isBalanced 63 = .ok (.aload_n 0, 1) := dk_42 (dk_at dksX2_isBalanced_2 16 rfl rfl)
theorem dX2_isBalanced_64 : decode cX2_isBalanced 64 = .ok (.iload_n 3, 1) := dk_29 (dk_at dksX2_isBalanced_2 17 rfl rfl)
theorem dX2_isBalanced_65 : decode cX2_isBalanced 65 = .ok (.invokevirtual 122, 3) := dk_182 0 122 (dk_at dksX2_isBalanced_2 18 rfl rfl)
theorem dX2_isBalanced_68 : decode cX2_isBalanced 68 = .ok (.ifCond .lt 7, 3) := dk_155 0 7 (dk_at dksX2_isBalanced_2 21 rfl rfl)
theorem dX2_isBalanced_71 : decode cX2_isBalanced 71 = .ok (.iconst 1, 1) := dk_4 (dk_at dksX2_isBalanced_3 0 rfl rfl)
theorem dX2_isBalanced_72 : decode cX2_isBalanced 72 = .ok (.goto 4, 3) := dk_167 0 4 (dk_at dksX2_isBalanced_3 1 rfl rfl)
theorem dX2_isBalanced_75 : decode cX2_isBalanced 75 = .ok (.iconst 0, 1) := dk_3 (dk_at dksX2_isBalanced_3 4 rfl rfl)
theorem dX2_isBalanced_76 : decode cX2_isBalanced 76 = .ok (.iadd, 1) := dk_96 (dk_at dksX2_isBalanced_3 5 rfl rfl)
theorem dX2_isBalanced_77 : decode cX2_isBalanced 77 = .ok (.istore_n 2, 1) := dk_61 (dk_at dksX2_isBalanced_3 6 rfl rfl)
theorem dX2_isBalanced_78 : decode cX2_isBalanced 78 = .ok (.iinc 3 1, 3) := dk_132 3 1 (dk_at dksX2_isBalanced_3 7 rfl rfl)
theorem dX2_isBalanced_81 : decode cX2_isBalanced 81 = .ok (.goto (-25), 3) := dk_167 255 231 (dk_at dksX2_isBalanced_3 10 rfl rfl)
theorem dX2_isBalanced_84 : decode cX2_isBalanced 84 = .ok (.iload_n 1, 1) := dk_27 (dk_at dksX2_isBalanced_3 13 rfl rfl)
theorem dX2_isBalanced_85 : decode cX2_isBalanced 85 = .ok (.ifCond .eq 16, 3) := dk_153 0 16 (dk_at dksX2_isBalanced_3 14 rfl rfl)
theorem dX2_isBalanced_88 : decode cX2_isBalanced 88 = .ok (.iload_n 2, 1) := dk_28 (dk_at dksX2_isBalanced_3 17 rfl rfl)
theorem dX2_isBalanced_89 : decode cX2_isBalanced 89 = .ok (.aload_n 0, 1) := dk_42 (dk_at dksX2_isBalanced_3 18 rfl rfl)
theorem dX2_isBalanced_90 : decode cX2_isBalanced 90 = .ok (.iconst 1, 1) := dk_4 (dk_at dksX2_isBalanced_3 19 rfl rfl)
theorem dX2_isBalanced_91 : decode cX2_isBalanced 91 = .ok (.invokevirtual 104, 3) := dk_182 0 104 (dk_at dksX2_isBalanced_3 20 rfl rfl)
theorem dX2_isBalanced_94 : decode cX2_isBalanced 94 = .ok (.if_icmp .ne 7, 3) := dk_160 0 7 (dk_at dksX2_isBalanced_4 0 rfl rfl)
theorem dX2_isBalanced_97 : decode cX2_isBalanced 97 = .ok (.iconst 1, 1) := dk_4 (dk_at dksX2_isBalanced_4 3 rfl rfl)
theorem dX2_isBalanced_98 : decode cX2_isBalanced 98 = .ok (.goto 4, 3) := dk_167 0 4 (dk_at dksX2_isBalanced_4 4 rfl rfl)
theorem dX2_isBalanced_101 : decode cX2_isBalanced 101 = .ok (.iconst 0, 1) := dk_3 (dk_at dksX2_isBalanced_4 7 rfl rfl)
theorem dX2_isBalanced_102 : decode cX2_isBalanced 102 = .ok (.ireturn, 1) := dk_172 (dk_at dksX2_isBalanced_4 8 rfl rfl)
abbrev cX2_gotAll : ByteArray := prog_13_method_92_code
def yX2_gotAll : MethodName := ⟨RX2, "gotAll", "()I"⟩
def dkwX2_gotAll_1 : List UInt8 := [132, 2, 1, 167, 255, 233, 27, 172]
abbrev dktX2_gotAll_1 : List UInt8 := dkwX2_gotAll_1 ++ []
def dkwX2_gotAll_0 : List UInt8 := [3, 60, 3, 61, 28, 42, 180, 0, 7, 5, 46, 162, 0, 19, 27, 42, 28, 16, 6, 182, 0, 64, 96, 60]
abbrev dktX2_gotAll_0 : List UInt8 := dkwX2_gotAll_0 ++ dktX2_gotAll_1
theorem dksX2_gotAll_0 : cX2_gotAll.data.toList.drop 0 = dktX2_gotAll_0 := by decide +kernel
theorem dksX2_gotAll_1 : cX2_gotAll.data.toList.drop 24 = dktX2_gotAll_1 := dk_seg dksX2_gotAll_0 24 rfl rfl
theorem dX2_gotAll_0 : decode cX2_gotAll 0 = .ok (.iconst 0, 1) := dk_3 (dk_at dksX2_gotAll_0 0 rfl rfl)
theorem dX2_gotAll_1 : decode cX2_gotAll 1 = .ok (.istore_n 1, 1) := dk_60 (dk_at dksX2_gotAll_0 1 rfl rfl)
theorem dX2_gotAll_2 : decode cX2_gotAll 2 = .ok (.iconst 0, 1) := dk_3 (dk_at dksX2_gotAll_0 2 rfl rfl)
theorem dX2_gotAll_3 : decode cX2_gotAll 3 = .ok (.istore_n 2, 1) := dk_61 (dk_at dksX2_gotAll_0 3 rfl rfl)
theorem dX2_gotAll_4 : decode cX2_gotAll 4 = .ok (.iload_n 2, 1) := dk_28 (dk_at dksX2_gotAll_0 4 rfl rfl)
theorem dX2_gotAll_5 : decode cX2_gotAll 5 = .ok (.aload_n 0, 1) := dk_42 (dk_at dksX2_gotAll_0 5 rfl rfl)
theorem dX2_gotAll_6 : decode cX2_gotAll 6 = .ok (.getfield 7, 3) := dk_180 0 7 (dk_at dksX2_gotAll_0 6 rfl rfl)
theorem dX2_gotAll_9 : decode cX2_gotAll 9 = .ok (.iconst 2, 1) := dk_5 (dk_at dksX2_gotAll_0 9 rfl rfl)
theorem dX2_gotAll_10 : decode cX2_gotAll 10 = .ok (.iaload, 1) := dk_46 (dk_at dksX2_gotAll_0 10 rfl rfl)
theorem dX2_gotAll_11 : decode cX2_gotAll 11 = .ok (.if_icmp .ge 19, 3) := dk_162 0 19 (dk_at dksX2_gotAll_0 11 rfl rfl)
theorem dX2_gotAll_14 : decode cX2_gotAll 14 = .ok (.iload_n 1, 1) := dk_27 (dk_at dksX2_gotAll_0 14 rfl rfl)
theorem dX2_gotAll_15 : decode cX2_gotAll 15 = .ok (.aload_n 0, 1) := dk_42 (dk_at dksX2_gotAll_0 15 rfl rfl)
theorem dX2_gotAll_16 : decode cX2_gotAll 16 = .ok (.iload_n 2, 1) := dk_28 (dk_at dksX2_gotAll_0 16 rfl rfl)
theorem dX2_gotAll_17 : decode cX2_gotAll 17 = .ok (.bipush 6, 2) := dk_16 6 (dk_at dksX2_gotAll_0 17 rfl rfl)
theorem dX2_gotAll_19 : decode cX2_gotAll 19 = .ok (.invokevirtual 64, 3) := dk_182 0 64 (dk_at dksX2_gotAll_0 19 rfl rfl)
theorem dX2_gotAll_22 : decode cX2_gotAll 22 = .ok (.iadd, 1) := dk_96 (dk_at dksX2_gotAll_0 22 rfl rfl)
theorem dX2_gotAll_23 : decode cX2_gotAll 23 = .ok (.istore_n 1, 1) := dk_60 (dk_at dksX2_gotAll_0 23 rfl rfl)
theorem dX2_gotAll_24 : decode cX2_gotAll 24 = .ok (.iinc 2 1, 3) := dk_132 2 1 (dk_at dksX2_gotAll_1 0 rfl rfl)
theorem dX2_gotAll_27 : decode cX2_gotAll 27 = .ok (.goto (-23), 3) := dk_167 255 233 (dk_at dksX2_gotAll_1 3 rfl rfl)
theorem dX2_gotAll_30 : decode cX2_gotAll 30 = .ok (.iload_n 1, 1) := dk_27 (dk_at dksX2_gotAll_1 6 rfl rfl)
theorem dX2_gotAll_31 : decode cX2_gotAll 31 = .ok (.ireturn, 1) := dk_172 (dk_at dksX2_gotAll_1 7 rfl rfl)
abbrev cX2_meanAge : ByteArray := prog_13_method_95_code
def yX2_meanAge : MethodName := ⟨RX2, "meanAge", "()D"⟩
def dkwX2_meanAge_2 : List UInt8 := [27, 154, 0, 7, 14, 167, 0, 8, 28, 135, 27, 135, 111, 175]
abbrev dktX2_meanAge_2 : List UInt8 := dkwX2_meanAge_2 ++ []
def dkwX2_meanAge_1 : List UInt8 := [182, 0, 68, 153, 0, 12, 42, 29, 3, 182, 0, 64, 167, 0, 4, 3, 96, 61, 132, 3, 1, 167, 255, 221]
abbrev dktX2_meanAge_1 : List UInt8 := dkwX2_meanAge_1 ++ dktX2_meanAge_2
def dkwX2_meanAge_0 : List UInt8 := [42, 4, 182, 0, 104, 60, 3, 61, 3, 62, 29, 42, 180, 0, 7, 5, 46, 162, 0, 31, 28, 42, 29, 4]
abbrev dktX2_meanAge_0 : List UInt8 := dkwX2_meanAge_0 ++ dktX2_meanAge_1
theorem dksX2_meanAge_0 : cX2_meanAge.data.toList.drop 0 = dktX2_meanAge_0 := by decide +kernel
theorem dksX2_meanAge_1 : cX2_meanAge.data.toList.drop 24 = dktX2_meanAge_1 := dk_seg dksX2_meanAge_0 24 rfl rfl
theorem dksX2_meanAge_2 : cX2_meanAge.data.toList.drop 48 = dktX2_meanAge_2 := dk_seg dksX2_meanAge_1 24 rfl rfl
theorem dX2_meanAge_0 : decode cX2_meanAge 0 = .ok (.aload_n 0, 1) := dk_42 (dk_at dksX2_meanAge_0 0 rfl rfl)
theorem dX2_meanAge_1 : decode cX2_meanAge 1 = .ok (.iconst 1, 1) := dk_4 (dk_at dksX2_meanAge_0 1 rfl rfl)
theorem dX2_meanAge_2 : decode cX2_meanAge 2 = .ok (.invokevirtual 104, 3) := dk_182 0 104 (dk_at dksX2_meanAge_0 2 rfl rfl)
theorem dX2_meanAge_5 : decode cX2_meanAge 5 = .ok (.istore_n 1, 1) := dk_60 (dk_at dksX2_meanAge_0 5 rfl rfl)
theorem dX2_meanAge_6 : decode cX2_meanAge 6 = .ok (.iconst 0, 1) := dk_3 (dk_at dksX2_meanAge_0 6 rfl rfl)
theorem dX2_meanAge_7 : decode cX2_meanAge 7 = .ok (.istore_n 2, 1) := dk_61 (dk_at dksX2_meanAge_0 7 rfl rfl)
theorem dX2_meanAge_8 : decode cX2_meanAge 8 = .ok (.iconst 0, 1) := dk_3 (dk_at dksX2_meanAge_0 8 rfl rfl)
theorem dX2_meanAge_9 : decode cX2_meanAge 9 = .ok (.istore_n 3, 1) := dk_62 (dk_at dksX2_meanAge_0 9 rfl rfl)
theorem dX2_meanAge_10 : decode cX2_meanAge 10 = .ok (.iload_n 3, 1) := dk_29 (dk_at dksX2_meanAge_0 10 rfl rfl)
theorem dX2_meanAge_11 : decode cX2_meanAge 11 = .ok (.aload_n 0, 1) := dk_42 (dk_at dksX2_meanAge_0 11 rfl rfl)
theorem dX2_meanAge_12 : decode cX2_meanAge 12 = .ok (.getfield 7, 3) := dk_180 0 7 (dk_at dksX2_meanAge_0 12 rfl rfl)
theorem dX2_meanAge_15 : decode cX2_meanAge 15 = .ok (.iconst 2, 1) := dk_5 (dk_at dksX2_meanAge_0 15 rfl rfl)
theorem dX2_meanAge_16 : decode cX2_meanAge 16 = .ok (.iaload, 1) := dk_46 (dk_at dksX2_meanAge_0 16 rfl rfl)
theorem dX2_meanAge_17 : decode cX2_meanAge 17 = .ok (.if_icmp .ge 31, 3) := dk_162 0 31 (dk_at dksX2_meanAge_0 17 rfl rfl)
theorem dX2_meanAge_20 : decode cX2_meanAge 20 = .ok (.iload_n 2, 1) := dk_28 (dk_at dksX2_meanAge_0 20 rfl rfl)
theorem dX2_meanAge_21 : decode cX2_meanAge 21 = .ok (.aload_n 0, 1) := dk_42 (dk_at dksX2_meanAge_0 21 rfl rfl)
theorem dX2_meanAge_22 : decode cX2_meanAge 22 = .ok (.iload_n 3, 1) := dk_29 (dk_at dksX2_meanAge_0 22 rfl rfl)
theorem dX2_meanAge_23 : decode cX2_meanAge 23 = .ok (.iconst 1, 1) := dk_4 (dk_at dksX2_meanAge_0 23 rfl rfl)
theorem dX2_meanAge_24 : decode cX2_meanAge 24 = .ok (.invokevirtual 68, 3) := dk_182 0 68 (dk_at dksX2_meanAge_1 0 rfl rfl)
theorem dX2_meanAge_27 : decode cX2_meanAge 27 = .ok (.ifCond .eq 12, 3) := dk_153 0 12 (dk_at dksX2_meanAge_1 3 rfl rfl)
theorem dX2_meanAge_30 : decode cX2_meanAge 30 = .ok (.aload_n 0, 1) := dk_42 (dk_at dksX2_meanAge_1 6 rfl rfl)
theorem dX2_meanAge_31 : decode cX2_meanAge 31 = .ok (.iload_n 3, 1) := dk_29 (dk_at dksX2_meanAge_1 7 rfl rfl)
theorem dX2_meanAge_32 : decode cX2_meanAge 32 = .ok (.iconst 0, 1) := dk_3 (dk_at dksX2_meanAge_1 8 rfl rfl)
theorem dX2_meanAge_33 : decode cX2_meanAge 33 = .ok (.invokevirtual 64, 3) := dk_182 0 64 (dk_at dksX2_meanAge_1 9 rfl rfl)
theorem dX2_meanAge_36 : decode cX2_meanAge 36 = .ok (.goto 4, 3) := dk_167 0 4 (dk_at dksX2_meanAge_1 12 rfl rfl)
theorem dX2_meanAge_39 : decode cX2_meanAge 39 = .ok (.iconst 0, 1) := dk_3 (dk_at dksX2_meanAge_1 15 rfl rfl)
theorem dX2_meanAge_40 : decode cX2_meanAge 40 = .ok (.iadd, 1) := dk_96 (dk_at dksX2_meanAge_1 16 rfl rfl)
theorem dX2_meanAge_41 : decode cX2_meanAge 41 = .ok (.istore_n 2, 1) := dk_61 (dk_at dksX2_meanAge_1 17 rfl rfl)
theorem dX2_meanAge_42 : decode cX2_meanAge 42 = .ok (.iinc 3 1, 3) := dk_132 3 1 (dk_at dksX2_meanAge_1 18 rfl rfl)
theorem dX2_meanAge_45 : decode cX2_meanAge 45 = .ok (.goto (-35), 3) := dk_167 255 221 (dk_at dksX2_meanAge_1 21 rfl rfl)
theorem dX2_meanAge_48 : decode cX2_meanAge 48 = .ok (.iload_n 1, 1) := dk_27 (dk_at dksX2_meanAge_2 0 rfl rfl)
theorem dX2_meanAge_49 : decode cX2_meanAge 49 = .ok (.ifCond .ne 7, 3) := dk_154 0 7 (dk_at dksX2_meanAge_2 1 rfl rfl)
theorem dX2_meanAge_52 : decode cX2_meanAge 52 = .ok (.dconst 0, 1) := dk_14 (dk_at dksX2_meanAge_2 4 rfl rfl)
theorem dX2_meanAge_53 : decode cX2_meanAge 53 = .ok (.goto 8, 3) := dk_167 0 8 (dk_at dksX2_meanAge_2 5 rfl rfl)
theorem dX2_meanAge_56 : decode cX2_meanAge 56 = .ok (.iload_n 2, 1) := dk_28 (dk_at dksX2_meanAge_2 8 rfl rfl)
theorem dX2_meanAge_57 : decode cX2_meanAge 57 = .ok (.i2d, 1) := dk_135 (dk_at dksX2_meanAge_2 9 rfl rfl)
theorem dX2_meanAge_58 : decode cX2_meanAge 58 = .ok (.iload_n 1, 1) := dk_27 (dk_at dksX2_meanAge_2 10 rfl rfl)
theorem dX2_meanAge_59 : decode cX2_meanAge 59 = .ok (.i2d, 1) := dk_135 (dk_at dksX2_meanAge_2 11 rfl rfl)
theorem dX2_meanAge_60 : decode cX2_meanAge 60 = .ok (.ddiv, 1) := dk_111 (dk_at dksX2_meanAge_2 12 rfl rfl)
theorem dX2_meanAge_61 : decode cX2_meanAge 61 = .ok (.dreturn, 1) := dk_175 (dk_at dksX2_meanAge_2 13 rfl rfl)
abbrev cX2_entitledShare : ByteArray := prog_13_method_96_code
def yX2_entitledShare : MethodName := ⟨RX2, "entitledShare", "()F"⟩
def dkwX2_entitledShare_0 : List UInt8 := [42, 4, 182, 0, 104, 60, 27, 154, 0, 7, 11, 167, 0, 11, 42, 182, 0, 170, 134, 27, 134, 110, 174]
abbrev dktX2_entitledShare_0 : List UInt8 := dkwX2_entitledShare_0 ++ []
theorem dksX2_entitledShare_0 : cX2_entitledShare.data.toList.drop 0 = dktX2_entitledShare_0 := by decide +kernel
theorem dX2_entitledShare_0 : decode cX2_entitledShare 0 = .ok (.aload_n 0, 1) := dk_42 (dk_at dksX2_entitledShare_0 0 rfl rfl)
theorem dX2_entitledShare_1 : decode cX2_entitledShare 1 = .ok (.iconst 1, 1) := dk_4 (dk_at dksX2_entitledShare_0 1 rfl rfl)
theorem dX2_entitledShare_2 : decode cX2_entitledShare 2 = .ok (.invokevirtual 104, 3) := dk_182 0 104 (dk_at dksX2_entitledShare_0 2 rfl rfl)
theorem dX2_entitledShare_5 : decode cX2_entitledShare 5 = .ok (.istore_n 1, 1) := dk_60 (dk_at dksX2_entitledShare_0 5 rfl rfl)
theorem dX2_entitledShare_6 : decode cX2_entitledShare 6 = .ok (.iload_n 1, 1) := dk_27 (dk_at dksX2_entitledShare_0 6 rfl rfl)
theorem dX2_entitledShare_7 : decode cX2_entitledShare 7 = .ok (.ifCond .ne 7, 3) := dk_154 0 7 (dk_at dksX2_entitledShare_0 7 rfl rfl)
theorem dX2_entitledShare_10 : decode cX2_entitledShare 10 = .ok (.fconst 0, 1) := dk_11 (dk_at dksX2_entitledShare_0 10 rfl rfl)
theorem dX2_entitledShare_11 : decode cX2_entitledShare 11 = .ok (.goto 11, 3) := dk_167 0 11 (dk_at dksX2_entitledShare_0 11 rfl rfl)
theorem dX2_entitledShare_14 : decode cX2_entitledShare 14 = .ok (.aload_n 0, 1) := dk_42 (dk_at dksX2_entitledShare_0 14 rfl rfl)
theorem dX2_entitledShare_15 : decode cX2_entitledShare 15 = .ok (.invokevirtual 170, 3) := dk_182 0 170 (dk_at dksX2_entitledShare_0 15 rfl rfl)
theorem dX2_entitledShare_18 : decode cX2_entitledShare 18 = .ok (.i2f, 1) := dk_134 (dk_at dksX2_entitledShare_0 18 rfl rfl)
theorem dX2_entitledShare_19 : decode cX2_entitledShare 19 = .ok (.iload_n 1, 1) := dk_27 (dk_at dksX2_entitledShare_0 19 rfl rfl)
theorem dX2_entitledShare_20 : decode cX2_entitledShare 20 = .ok (.i2f, 1) := dk_134 (dk_at dksX2_entitledShare_0 20 rfl rfl)
theorem dX2_entitledShare_21 : decode cX2_entitledShare 21 = .ok (.fdiv, 1) := dk_110 (dk_at dksX2_entitledShare_0 21 rfl rfl)
theorem dX2_entitledShare_22 : decode cX2_entitledShare 22 = .ok (.freturn, 1) := dk_174 (dk_at dksX2_entitledShare_0 22 rfl rfl)
abbrev cX2_undo : ByteArray := prog_13_method_97_code
def yX2_undo : MethodName := ⟨RX2, "undo", "()I"⟩
def dkwX2_undo_2 : List UInt8 := [180, 0, 13, 17, 1, 64, 27, 104, 28, 96, 46, 79, 132, 2, 1, 167, 255, 228, 42, 180, 0, 48, 172]
abbrev dktX2_undo_2 : List UInt8 := dkwX2_undo_2 ++ []
def dkwX2_undo_1 : List UInt8 := [42, 180, 0, 48, 96, 16, 8, 112, 60, 3, 61, 28, 17, 1, 64, 162, 0, 27, 42, 180, 0, 7, 28, 42]
abbrev dktX2_undo_1 : List UInt8 := dkwX2_undo_1 ++ dktX2_undo_2
def dkwX2_undo_0 : List UInt8 := [42, 180, 0, 48, 154, 0, 6, 16, 241, 172, 42, 89, 180, 0, 48, 4, 100, 181, 0, 48, 42, 180, 0, 51]
abbrev dktX2_undo_0 : List UInt8 := dkwX2_undo_0 ++ dktX2_undo_1
theorem dksX2_undo_0 : cX2_undo.data.toList.drop 0 = dktX2_undo_0 := by decide +kernel
theorem dksX2_undo_1 : cX2_undo.data.toList.drop 24 = dktX2_undo_1 := dk_seg dksX2_undo_0 24 rfl rfl
theorem dksX2_undo_2 : cX2_undo.data.toList.drop 48 = dktX2_undo_2 := dk_seg dksX2_undo_1 24 rfl rfl
theorem dX2_undo_0 : decode cX2_undo 0 = .ok (.aload_n 0, 1) := dk_42 (dk_at dksX2_undo_0 0 rfl rfl)
theorem dX2_undo_1 : decode cX2_undo 1 = .ok (.getfield 48, 3) := dk_180 0 48 (dk_at dksX2_undo_0 1 rfl rfl)
theorem dX2_undo_4 : decode cX2_undo 4 = .ok (.ifCond .ne 6, 3) := dk_154 0 6 (dk_at dksX2_undo_0 4 rfl rfl)
theorem dX2_undo_7 : decode cX2_undo 7 = .ok (.bipush (-15), 2) := dk_16 241 (dk_at dksX2_undo_0 7 rfl rfl)
theorem dX2_undo_9 : decode cX2_undo 9 = .ok (.ireturn, 1) := dk_172 (dk_at dksX2_undo_0 9 rfl rfl)
theorem dX2_undo_10 : decode cX2_undo 10 = .ok (.aload_n 0, 1) := dk_42 (dk_at dksX2_undo_0 10 rfl rfl)
theorem dX2_undo_11 : decode cX2_undo 11 = .ok (.dup, 1) := dk_89 (dk_at dksX2_undo_0 11 rfl rfl)
theorem dX2_undo_12 : decode cX2_undo 12 = .ok (.getfield 48, 3) := dk_180 0 48 (dk_at dksX2_undo_0 12 rfl rfl)
theorem dX2_undo_15 : decode cX2_undo 15 = .ok (.iconst 1, 1) := dk_4 (dk_at dksX2_undo_0 15 rfl rfl)
theorem dX2_undo_16 : decode cX2_undo 16 = .ok (.isub, 1) := dk_100 (dk_at dksX2_undo_0 16 rfl rfl)
theorem dX2_undo_17 : decode cX2_undo 17 = .ok (.putfield 48, 3) := dk_181 0 48 (dk_at dksX2_undo_0 17 rfl rfl)
theorem dX2_undo_20 : decode cX2_undo 20 = .ok (.aload_n 0, 1) := dk_42 (dk_at dksX2_undo_0 20 rfl rfl)
theorem dX2_undo_21 : decode cX2_undo 21 = .ok (.getfield 51, 3) := dk_180 0 51 (dk_at dksX2_undo_0 21 rfl rfl)
theorem dX2_undo_24 : decode cX2_undo 24 = .ok (.aload_n 0, 1) := dk_42 (dk_at dksX2_undo_1 0 rfl rfl)
theorem dX2_undo_25 : decode cX2_undo 25 = .ok (.getfield 48, 3) := dk_180 0 48 (dk_at dksX2_undo_1 1 rfl rfl)
theorem dX2_undo_28 : decode cX2_undo 28 = .ok (.iadd, 1) := dk_96 (dk_at dksX2_undo_1 4 rfl rfl)
theorem dX2_undo_29 : decode cX2_undo 29 = .ok (.bipush 8, 2) := dk_16 8 (dk_at dksX2_undo_1 5 rfl rfl)
theorem dX2_undo_31 : decode cX2_undo 31 = .ok (.irem, 1) := dk_112 (dk_at dksX2_undo_1 7 rfl rfl)
theorem dX2_undo_32 : decode cX2_undo 32 = .ok (.istore_n 1, 1) := dk_60 (dk_at dksX2_undo_1 8 rfl rfl)
theorem dX2_undo_33 : decode cX2_undo 33 = .ok (.iconst 0, 1) := dk_3 (dk_at dksX2_undo_1 9 rfl rfl)
theorem dX2_undo_34 : decode cX2_undo 34 = .ok (.istore_n 2, 1) := dk_61 (dk_at dksX2_undo_1 10 rfl rfl)
theorem dX2_undo_35 : decode cX2_undo 35 = .ok (.iload_n 2, 1) := dk_28 (dk_at dksX2_undo_1 11 rfl rfl)
theorem dX2_undo_36 : decode cX2_undo 36 = .ok (.sipush 320, 3) := dk_17 1 64 (dk_at dksX2_undo_1 12 rfl rfl)
theorem dX2_undo_39 : decode cX2_undo 39 = .ok (.if_icmp .ge 27, 3) := dk_162 0 27 (dk_at dksX2_undo_1 15 rfl rfl)
theorem dX2_undo_42 : decode cX2_undo 42 = .ok (.aload_n 0, 1) := dk_42 (dk_at dksX2_undo_1 18 rfl rfl)
theorem dX2_undo_43 : decode cX2_undo 43 = .ok (.getfield 7, 3) := dk_180 0 7 (dk_at dksX2_undo_1 19 rfl rfl)
theorem dX2_undo_46 : decode cX2_undo 46 = .ok (.iload_n 2, 1) := dk_28 (dk_at dksX2_undo_1 22 rfl rfl)
theorem dX2_undo_47 : decode cX2_undo 47 = .ok (.aload_n 0, 1) := dk_42 (dk_at dksX2_undo_1 23 rfl rfl)
theorem dX2_undo_48 : decode cX2_undo 48 = .ok (.getfield 13, 3) := dk_180 0 13 (dk_at dksX2_undo_2 0 rfl rfl)
theorem dX2_undo_51 : decode cX2_undo 51 = .ok (.sipush 320, 3) := dk_17 1 64 (dk_at dksX2_undo_2 3 rfl rfl)
theorem dX2_undo_54 : decode cX2_undo 54 = .ok (.iload_n 1, 1) := dk_27 (dk_at dksX2_undo_2 6 rfl rfl)
theorem dX2_undo_55 : decode cX2_undo 55 = .ok (.imul, 1) := dk_104 (dk_at dksX2_undo_2 7 rfl rfl)
theorem dX2_undo_56 : decode cX2_undo 56 = .ok (.iload_n 2, 1) := dk_28 (dk_at dksX2_undo_2 8 rfl rfl)
theorem dX2_undo_57 : decode cX2_undo 57 = .ok (.iadd, 1) := dk_96 (dk_at dksX2_undo_2 9 rfl rfl)
theorem dX2_undo_58 : decode cX2_undo 58 = .ok (.iaload, 1) := dk_46 (dk_at dksX2_undo_2 10 rfl rfl)
theorem dX2_undo_59 : decode cX2_undo 59 = .ok (.iastore, 1) := dk_79 (dk_at dksX2_undo_2 11 rfl rfl)
theorem dX2_undo_60 : decode cX2_undo 60 = .ok (.iinc 2 1, 3) := dk_132 2 1 (dk_at dksX2_undo_2 12 rfl rfl)
theorem dX2_undo_63 : decode cX2_undo 63 = .ok (.goto (-28), 3) := dk_167 255 228 (dk_at dksX2_undo_2 15 rfl rfl)
theorem dX2_undo_66 : decode cX2_undo 66 = .ok (.aload_n 0, 1) := dk_42 (dk_at dksX2_undo_2 18 rfl rfl)
theorem dX2_undo_67 : decode cX2_undo 67 = .ok (.getfield 48, 3) := dk_180 0 48 (dk_at dksX2_undo_2 19 rfl rfl)
theorem dX2_undo_70 : decode cX2_undo 70 = .ok (.ireturn, 1) := dk_172 (dk_at dksX2_undo_2 22 rfl rfl)
abbrev cX2_save : ByteArray := prog_13_method_98_code
def yX2_save : MethodName := ⟨RX2, "save", "()I"⟩
def dkwX2_save_1 : List UInt8 := [167, 255, 234, 42, 4, 181, 1, 9, 42, 180, 0, 7, 5, 46, 172]
abbrev dktX2_save_1 : List UInt8 := dkwX2_save_1 ++ []
def dkwX2_save_0 : List UInt8 := [3, 60, 27, 17, 1, 64, 162, 0, 21, 42, 180, 0, 16, 27, 42, 180, 0, 7, 27, 46, 79, 132, 1, 1]
abbrev dktX2_save_0 : List UInt8 := dkwX2_save_0 ++ dktX2_save_1
theorem dksX2_save_0 : cX2_save.data.toList.drop 0 = dktX2_save_0 := by decide +kernel
theorem dksX2_save_1 : cX2_save.data.toList.drop 24 = dktX2_save_1 := dk_seg dksX2_save_0 24 rfl rfl
theorem dX2_save_0 : decode cX2_save 0 = .ok (.iconst 0, 1) := dk_3 (dk_at dksX2_save_0 0 rfl rfl)
theorem dX2_save_1 : decode cX2_save 1 = .ok (.istore_n 1, 1) := dk_60 (dk_at dksX2_save_0 1 rfl rfl)
theorem dX2_save_2 : decode cX2_save 2 = .ok (.iload_n 1, 1) := dk_27 (dk_at dksX2_save_0 2 rfl rfl)
theorem dX2_save_3 : decode cX2_save 3 = .ok (.sipush 320, 3) := dk_17 1 64 (dk_at dksX2_save_0 3 rfl rfl)
theorem dX2_save_6 : decode cX2_save 6 = .ok (.if_icmp .ge 21, 3) := dk_162 0 21 (dk_at dksX2_save_0 6 rfl rfl)
theorem dX2_save_9 : decode cX2_save 9 = .ok (.aload_n 0, 1) := dk_42 (dk_at dksX2_save_0 9 rfl rfl)
theorem dX2_save_10 : decode cX2_save 10 = .ok (.getfield 16, 3) := dk_180 0 16 (dk_at dksX2_save_0 10 rfl rfl)
theorem dX2_save_13 : decode cX2_save 13 = .ok (.iload_n 1, 1) := dk_27 (dk_at dksX2_save_0 13 rfl rfl)
theorem dX2_save_14 : decode cX2_save 14 = .ok (.aload_n 0, 1) := dk_42 (dk_at dksX2_save_0 14 rfl rfl)
theorem dX2_save_15 : decode cX2_save 15 = .ok (.getfield 7, 3) := dk_180 0 7 (dk_at dksX2_save_0 15 rfl rfl)
theorem dX2_save_18 : decode cX2_save 18 = .ok (.iload_n 1, 1) := dk_27 (dk_at dksX2_save_0 18 rfl rfl)
theorem dX2_save_19 : decode cX2_save 19 = .ok (.iaload, 1) := dk_46 (dk_at dksX2_save_0 19 rfl rfl)
theorem dX2_save_20 : decode cX2_save 20 = .ok (.iastore, 1) := dk_79 (dk_at dksX2_save_0 20 rfl rfl)
theorem dX2_save_21 : decode cX2_save 21 = .ok (.iinc 1 1, 3) := dk_132 1 1 (dk_at dksX2_save_0 21 rfl rfl)
theorem dX2_save_24 : decode cX2_save 24 = .ok (.goto (-22), 3) := dk_167 255 234 (dk_at dksX2_save_1 0 rfl rfl)
theorem dX2_save_27 : decode cX2_save 27 = .ok (.aload_n 0, 1) := dk_42 (dk_at dksX2_save_1 3 rfl rfl)
theorem dX2_save_28 : decode cX2_save 28 = .ok (.iconst 1, 1) := dk_4 (dk_at dksX2_save_1 4 rfl rfl)
theorem dX2_save_29 : decode cX2_save 29 = .ok (.putfield 265, 3) := dk_181 1 9 (dk_at dksX2_save_1 5 rfl rfl)
theorem dX2_save_32 : decode cX2_save 32 = .ok (.aload_n 0, 1) := dk_42 (dk_at dksX2_save_1 8 rfl rfl)
theorem dX2_save_33 : decode cX2_save 33 = .ok (.getfield 7, 3) := dk_180 0 7 (dk_at dksX2_save_1 9 rfl rfl)
theorem dX2_save_36 : decode cX2_save 36 = .ok (.iconst 2, 1) := dk_5 (dk_at dksX2_save_1 12 rfl rfl)
theorem dX2_save_37 : decode cX2_save 37 = .ok (.iaload, 1) := dk_46 (dk_at dksX2_save_1 13 rfl rfl)
theorem dX2_save_38 : decode cX2_save 38 = .ok (.ireturn, 1) := dk_172 (dk_at dksX2_save_1 14 rfl rfl)
abbrev cX2_restore : ByteArray := prog_13_method_99_code
def yX2_restore : MethodName := ⟨RX2, "restore", "()I"⟩
def dkwX2_restore_2 : List UInt8 := [180, 0, 7, 5, 46, 172]
abbrev dktX2_restore_2 : List UInt8 := dkwX2_restore_2 ++ []
def dkwX2_restore_1 : List UInt8 := [42, 180, 0, 16, 27, 46, 79, 132, 1, 1, 167, 255, 234, 42, 3, 181, 0, 48, 42, 3, 181, 0, 51, 42]
abbrev dktX2_restore_1 : List UInt8 := dkwX2_restore_1 ++ dktX2_restore_2
def dkwX2_restore_0 : List UInt8 := [42, 180, 1, 9, 154, 0, 6, 16, 241, 172, 3, 60, 27, 17, 1, 64, 162, 0, 21, 42, 180, 0, 7, 27]
abbrev dktX2_restore_0 : List UInt8 := dkwX2_restore_0 ++ dktX2_restore_1
theorem dksX2_restore_0 : cX2_restore.data.toList.drop 0 = dktX2_restore_0 := by decide +kernel
theorem dksX2_restore_1 : cX2_restore.data.toList.drop 24 = dktX2_restore_1 := dk_seg dksX2_restore_0 24 rfl rfl
theorem dksX2_restore_2 : cX2_restore.data.toList.drop 48 = dktX2_restore_2 := dk_seg dksX2_restore_1 24 rfl rfl
theorem dX2_restore_0 : decode cX2_restore 0 = .ok (.aload_n 0, 1) := dk_42 (dk_at dksX2_restore_0 0 rfl rfl)
theorem dX2_restore_1 : decode cX2_restore 1 = .ok (.getfield 265, 3) := dk_180 1 9 (dk_at dksX2_restore_0 1 rfl rfl)
theorem dX2_restore_4 : decode cX2_restore 4 = .ok (.ifCond .ne 6, 3) := dk_154 0 6 (dk_at dksX2_restore_0 4 rfl rfl)
theorem dX2_restore_7 : decode cX2_restore 7 = .ok (.bipush (-15), 2) := dk_16 241 (dk_at dksX2_restore_0 7 rfl rfl)
theorem dX2_restore_9 : decode cX2_restore 9 = .ok (.ireturn, 1) := dk_172 (dk_at dksX2_restore_0 9 rfl rfl)
theorem dX2_restore_10 : decode cX2_restore 10 = .ok (.iconst 0, 1) := dk_3 (dk_at dksX2_restore_0 10 rfl rfl)
theorem dX2_restore_11 : decode cX2_restore 11 = .ok (.istore_n 1, 1) := dk_60 (dk_at dksX2_restore_0 11 rfl rfl)
theorem dX2_restore_12 : decode cX2_restore 12 = .ok (.iload_n 1, 1) := dk_27 (dk_at dksX2_restore_0 12 rfl rfl)
theorem dX2_restore_13 : decode cX2_restore 13 = .ok (.sipush 320, 3) := dk_17 1 64 (dk_at dksX2_restore_0 13 rfl rfl)
theorem dX2_restore_16 : decode cX2_restore 16 = .ok (.if_icmp .ge 21, 3) := dk_162 0 21 (dk_at dksX2_restore_0 16 rfl rfl)
theorem dX2_restore_19 : decode cX2_restore 19 = .ok (.aload_n 0, 1) := dk_42 (dk_at dksX2_restore_0 19 rfl rfl)
theorem dX2_restore_20 : decode cX2_restore 20 = .ok (.getfield 7, 3) := dk_180 0 7 (dk_at dksX2_restore_0 20 rfl rfl)
theorem dX2_restore_23 : decode cX2_restore 23 = .ok (.iload_n 1, 1) := dk_27 (dk_at dksX2_restore_0 23 rfl rfl)
theorem dX2_restore_24 : decode cX2_restore 24 = .ok (.aload_n 0, 1) := dk_42 (dk_at dksX2_restore_1 0 rfl rfl)
theorem dX2_restore_25 : decode cX2_restore 25 = .ok (.getfield 16, 3) := dk_180 0 16 (dk_at dksX2_restore_1 1 rfl rfl)
theorem dX2_restore_28 : decode cX2_restore 28 = .ok (.iload_n 1, 1) := dk_27 (dk_at dksX2_restore_1 4 rfl rfl)
theorem dX2_restore_29 : decode cX2_restore 29 = .ok (.iaload, 1) := dk_46 (dk_at dksX2_restore_1 5 rfl rfl)
theorem dX2_restore_30 : decode cX2_restore 30 = .ok (.iastore, 1) := dk_79 (dk_at dksX2_restore_1 6 rfl rfl)
theorem dX2_restore_31 : decode cX2_restore 31 = .ok (.iinc 1 1, 3) := dk_132 1 1 (dk_at dksX2_restore_1 7 rfl rfl)
theorem dX2_restore_34 : decode cX2_restore 34 = .ok (.goto (-22), 3) := dk_167 255 234 (dk_at dksX2_restore_1 10 rfl rfl)
theorem dX2_restore_37 : decode cX2_restore 37 = .ok (.aload_n 0, 1) := dk_42 (dk_at dksX2_restore_1 13 rfl rfl)
theorem dX2_restore_38 : decode cX2_restore 38 = .ok (.iconst 0, 1) := dk_3 (dk_at dksX2_restore_1 14 rfl rfl)
theorem dX2_restore_39 : decode cX2_restore 39 = .ok (.putfield 48, 3) := dk_181 0 48 (dk_at dksX2_restore_1 15 rfl rfl)
theorem dX2_restore_42 : decode cX2_restore 42 = .ok (.aload_n 0, 1) := dk_42 (dk_at dksX2_restore_1 18 rfl rfl)
theorem dX2_restore_43 : decode cX2_restore 43 = .ok (.iconst 0, 1) := dk_3 (dk_at dksX2_restore_1 19 rfl rfl)
theorem dX2_restore_44 : decode cX2_restore 44 = .ok (.putfield 51, 3) := dk_181 0 51 (dk_at dksX2_restore_1 20 rfl rfl)
theorem dX2_restore_47 : decode cX2_restore 47 = .ok (.aload_n 0, 1) := dk_42 (dk_at dksX2_restore_1 23 rfl rfl)
theorem dX2_restore_48 : decode cX2_restore 48 = .ok (.getfield 7, 3) := dk_180 0 7 (dk_at dksX2_restore_2 0 rfl rfl)
theorem dX2_restore_51 : decode cX2_restore 51 = .ok (.iconst 2, 1) := dk_5 (dk_at dksX2_restore_2 3 rfl rfl)
theorem dX2_restore_52 : decode cX2_restore 52 = .ok (.iaload, 1) := dk_46 (dk_at dksX2_restore_2 4 rfl rfl)
theorem dX2_restore_53 : decode cX2_restore 53 = .ok (.ireturn, 1) := dk_172 (dk_at dksX2_restore_2 5 rfl rfl)
theorem q110 : (Jvm.Cond.initialized "PittanceHouseModel") ∈ lw_all := lw_g (lw_at lw_m1 13 rfl) rfl
theorem q601 : (Jvm.Cond.selects "PittanceHouseModel" ({ cls := "java/lang/Object", name := "getClass", desc := "()Ljava/lang/Class;" } : Jvm.MethodName) ({ cls := "java/lang/Object", name := "getClass", desc := "()Ljava/lang/Class;" } : Jvm.MethodName)) ∈ lw_all := lw_g (lw_at lw_m3 24 rfl) rfl
theorem q2130 : (Jvm.Cond.instantiable "PittanceHouseModel" (20 : Nat)) ∈ lw_all := lw_g (lw_at lw_m9 113 rfl) rfl
theorem q2132 : (Jvm.Cond.instanceMethod ({ cls := "PittanceHouseModel", name := "<init>", desc := "()V" } : Jvm.MethodName)) ∈ lw_all := lw_g (lw_at lw_m9 115 rfl) rfl
theorem q2133 : (Jvm.Cond.code ({ cls := "PittanceHouseModel", name := "<init>", desc := "()V" } : Jvm.MethodName) prog_13_method_1_code (1 : Nat) (Option.none : Option Jvm.ClassFile.FieldType)) ∈ lw_all := lw_g (lw_at lw_m9 116 rfl) rfl
theorem q2134 : (Jvm.Cond.methodLink "PittanceHouseModel" (1 : Nat) ({ cls := "java/lang/Object", name := "<init>", desc := "()V" } : Jvm.MethodName)) ∈ lw_all := lw_g (lw_at lw_m9 117 rfl) rfl
theorem q2135 : (Jvm.Cond.fieldLink "PittanceHouseModel" (42 : Nat) "PittanceHouseModel" "why" "I") ∈ lw_all := lw_g (lw_at lw_m9 118 rfl) rfl
theorem q2136 : (Jvm.Cond.fieldLink "PittanceHouseModel" (45 : Nat) "PittanceHouseModel" "detail" "I") ∈ lw_all := lw_g (lw_at lw_m9 119 rfl) rfl
theorem q2137 : (Jvm.Cond.fieldLink "PittanceHouseModel" (35 : Nat) "PittanceHouseModel" "reasonNow" "I") ∈ lw_all := lw_g (lw_at lw_m9 120 rfl) rfl
theorem q2138 : (Jvm.Cond.fieldLink "PittanceHouseModel" (39 : Nat) "PittanceHouseModel" "detailNow" "I") ∈ lw_all := lw_g (lw_at lw_m9 121 rfl) rfl
theorem q2139 : (Jvm.Cond.fieldLink "PittanceHouseModel" (7 : Nat) "PittanceHouseModel" "w" "[I") ∈ lw_all := lw_g (lw_at lw_m9 122 rfl) rfl
theorem q2140 : (Jvm.Cond.fieldLink "PittanceHouseModel" (13 : Nat) "PittanceHouseModel" "undos" "[I") ∈ lw_all := lw_g (lw_at lw_m9 123 rfl) rfl
theorem q2141 : (Jvm.Cond.fieldLink "PittanceHouseModel" (16 : Nat) "PittanceHouseModel" "savedRow" "[I") ∈ lw_all := lw_g (lw_at lw_m9 124 rfl) rfl
theorem q2142 : (Jvm.Cond.fieldLink "PittanceHouseModel" (19 : Nat) "PittanceHouseModel" "mind" "[I") ∈ lw_all := lw_g (lw_at lw_m9 125 rfl) rfl
theorem q2143 : (Jvm.Cond.fieldLink "PittanceHouseModel" (48 : Nat) "PittanceHouseModel" "changes" "I") ∈ lw_all := lw_g (lw_at lw_m9 126 rfl) rfl
theorem q2144 : (Jvm.Cond.fieldLink "PittanceHouseModel" (51 : Nat) "PittanceHouseModel" "firstChange" "I") ∈ lw_all := lw_g (lw_at lw_m9 127 rfl) rfl
theorem q2145 : (Jvm.Cond.fieldLink "PittanceHouseModel" (265 : Nat) "PittanceHouseModel" "isSaved" "Z") ∈ lw_all := lw_g (lw_at lw_m9 128 rfl) rfl
theorem q2146 : (Jvm.Cond.fieldLink "PittanceHouseModel" (22 : Nat) "PittanceHouseModel" "counted" "[I") ∈ lw_all := lw_g (lw_at lw_m9 129 rfl) rfl
theorem q2147 : (Jvm.Cond.fieldLink "PittanceHouseModel" (25 : Nat) "PittanceHouseModel" "input" "[C") ∈ lw_all := lw_g (lw_at lw_m9 130 rfl) rfl
theorem q2148 : (Jvm.Cond.fieldLink "PittanceHouseModel" (204 : Nat) "PittanceHouseModel" "length" "I") ∈ lw_all := lw_g (lw_at lw_m9 131 rfl) rfl
theorem q2149 : (Jvm.Cond.fieldLink "PittanceHouseModel" (207 : Nat) "PittanceHouseModel" "at" "I") ∈ lw_all := lw_g (lw_at lw_m9 132 rfl) rfl
theorem q2150 : (Jvm.Cond.fieldLink "PittanceHouseModel" (29 : Nat) "PittanceHouseModel" "numbers" "[I") ∈ lw_all := lw_g (lw_at lw_m9 133 rfl) rfl
theorem q2151 : (Jvm.Cond.fieldLink "PittanceHouseModel" (216 : Nat) "PittanceHouseModel" "sort" "I") ∈ lw_all := lw_g (lw_at lw_m9 134 rfl) rfl
theorem q2152 : (Jvm.Cond.fieldLink "PittanceHouseModel" (229 : Nat) "PittanceHouseModel" "done" "I") ∈ lw_all := lw_g (lw_at lw_m9 135 rfl) rfl
theorem q2153 : (Jvm.Cond.fieldLink "PittanceHouseModel" (32 : Nat) "PittanceHouseModel" "line" "[C") ∈ lw_all := lw_g (lw_at lw_m9 136 rfl) rfl
theorem q2154 : (Jvm.Cond.fieldLink "PittanceHouseModel" (244 : Nat) "PittanceHouseModel" "lineLength" "I") ∈ lw_all := lw_g (lw_at lw_m9 137 rfl) rfl
theorem q2155 : (Jvm.Cond.lays "PittanceHouseModel" "PittanceHouseModel" "why" "I") ∈ lw_all := lw_g (lw_at lw_m9 138 rfl) rfl
theorem q2156 : (Jvm.Cond.soleField "PittanceHouseModel" "why") ∈ lw_all := lw_g (lw_at lw_m9 139 rfl) rfl
theorem q2157 : (Jvm.Cond.lays "PittanceHouseModel" "PittanceHouseModel" "detail" "I") ∈ lw_all := lw_g (lw_at lw_m9 140 rfl) rfl
theorem q2158 : (Jvm.Cond.soleField "PittanceHouseModel" "detail") ∈ lw_all := lw_g (lw_at lw_m9 141 rfl) rfl
theorem q2159 : (Jvm.Cond.lays "PittanceHouseModel" "PittanceHouseModel" "reasonNow" "I") ∈ lw_all := lw_g (lw_at lw_m9 142 rfl) rfl
theorem q2160 : (Jvm.Cond.soleField "PittanceHouseModel" "reasonNow") ∈ lw_all := lw_g (lw_at lw_m9 143 rfl) rfl
theorem q2161 : (Jvm.Cond.lays "PittanceHouseModel" "PittanceHouseModel" "detailNow" "I") ∈ lw_all := lw_g (lw_at lw_m9 144 rfl) rfl
theorem q2162 : (Jvm.Cond.soleField "PittanceHouseModel" "detailNow") ∈ lw_all := lw_g (lw_at lw_m9 145 rfl) rfl
theorem q2163 : (Jvm.Cond.laysFinal "PittanceHouseModel" "PittanceHouseModel" "w" "[I") ∈ lw_all := lw_g (lw_at lw_m9 146 rfl) rfl
theorem q2164 : (Jvm.Cond.soleField "PittanceHouseModel" "w") ∈ lw_all := lw_g (lw_at lw_m9 147 rfl) rfl
theorem q2165 : (Jvm.Cond.laysFinal "PittanceHouseModel" "PittanceHouseModel" "undos" "[I") ∈ lw_all := lw_g (lw_at lw_m9 148 rfl) rfl
theorem q2166 : (Jvm.Cond.soleField "PittanceHouseModel" "undos") ∈ lw_all := lw_g (lw_at lw_m9 149 rfl) rfl
theorem q2167 : (Jvm.Cond.laysFinal "PittanceHouseModel" "PittanceHouseModel" "savedRow" "[I") ∈ lw_all := lw_g (lw_at lw_m9 150 rfl) rfl
theorem q2168 : (Jvm.Cond.soleField "PittanceHouseModel" "savedRow") ∈ lw_all := lw_g (lw_at lw_m9 151 rfl) rfl
theorem q2169 : (Jvm.Cond.laysFinal "PittanceHouseModel" "PittanceHouseModel" "mind" "[I") ∈ lw_all := lw_g (lw_at lw_m9 152 rfl) rfl
theorem q2170 : (Jvm.Cond.soleField "PittanceHouseModel" "mind") ∈ lw_all := lw_g (lw_at lw_m9 153 rfl) rfl
theorem q2171 : (Jvm.Cond.lays "PittanceHouseModel" "PittanceHouseModel" "changes" "I") ∈ lw_all := lw_g (lw_at lw_m9 154 rfl) rfl
theorem q2172 : (Jvm.Cond.soleField "PittanceHouseModel" "changes") ∈ lw_all := lw_g (lw_at lw_m9 155 rfl) rfl
theorem q2173 : (Jvm.Cond.lays "PittanceHouseModel" "PittanceHouseModel" "firstChange" "I") ∈ lw_all := lw_g (lw_at lw_m9 156 rfl) rfl
theorem q2174 : (Jvm.Cond.soleField "PittanceHouseModel" "firstChange") ∈ lw_all := lw_g (lw_at lw_m9 157 rfl) rfl
theorem q2175 : (Jvm.Cond.lays "PittanceHouseModel" "PittanceHouseModel" "isSaved" "Z") ∈ lw_all := lw_g (lw_at lw_m9 158 rfl) rfl
theorem q2176 : (Jvm.Cond.soleField "PittanceHouseModel" "isSaved") ∈ lw_all := lw_g (lw_at lw_m9 159 rfl) rfl
theorem q2177 : (Jvm.Cond.laysFinal "PittanceHouseModel" "PittanceHouseModel" "counted" "[I") ∈ lw_all := lw_g (lw_at lw_m9 160 rfl) rfl
theorem q2178 : (Jvm.Cond.soleField "PittanceHouseModel" "counted") ∈ lw_all := lw_g (lw_at lw_m9 161 rfl) rfl
theorem q2179 : (Jvm.Cond.laysFinal "PittanceHouseModel" "PittanceHouseModel" "input" "[C") ∈ lw_all := lw_g (lw_at lw_m9 162 rfl) rfl
theorem q2180 : (Jvm.Cond.soleField "PittanceHouseModel" "input") ∈ lw_all := lw_g (lw_at lw_m9 163 rfl) rfl
theorem q2181 : (Jvm.Cond.lays "PittanceHouseModel" "PittanceHouseModel" "length" "I") ∈ lw_all := lw_g (lw_at lw_m9 164 rfl) rfl
theorem q2182 : (Jvm.Cond.soleField "PittanceHouseModel" "length") ∈ lw_all := lw_g (lw_at lw_m9 165 rfl) rfl
theorem q2183 : (Jvm.Cond.lays "PittanceHouseModel" "PittanceHouseModel" "at" "I") ∈ lw_all := lw_g (lw_at lw_m9 166 rfl) rfl
theorem q2184 : (Jvm.Cond.soleField "PittanceHouseModel" "at") ∈ lw_all := lw_g (lw_at lw_m9 167 rfl) rfl
theorem q2185 : (Jvm.Cond.laysFinal "PittanceHouseModel" "PittanceHouseModel" "numbers" "[I") ∈ lw_all := lw_g (lw_at lw_m9 168 rfl) rfl
theorem q2186 : (Jvm.Cond.soleField "PittanceHouseModel" "numbers") ∈ lw_all := lw_g (lw_at lw_m9 169 rfl) rfl
theorem q2187 : (Jvm.Cond.lays "PittanceHouseModel" "PittanceHouseModel" "sort" "I") ∈ lw_all := lw_g (lw_at lw_m9 170 rfl) rfl
theorem q2188 : (Jvm.Cond.soleField "PittanceHouseModel" "sort") ∈ lw_all := lw_g (lw_at lw_m9 171 rfl) rfl
theorem q2189 : (Jvm.Cond.lays "PittanceHouseModel" "PittanceHouseModel" "done" "I") ∈ lw_all := lw_g (lw_at lw_m9 172 rfl) rfl
theorem q2190 : (Jvm.Cond.soleField "PittanceHouseModel" "done") ∈ lw_all := lw_g (lw_at lw_m9 173 rfl) rfl
theorem q2191 : (Jvm.Cond.laysFinal "PittanceHouseModel" "PittanceHouseModel" "line" "[C") ∈ lw_all := lw_g (lw_at lw_m9 174 rfl) rfl
theorem q2192 : (Jvm.Cond.soleField "PittanceHouseModel" "line") ∈ lw_all := lw_g (lw_at lw_m9 175 rfl) rfl
theorem q2193 : (Jvm.Cond.lays "PittanceHouseModel" "PittanceHouseModel" "lineLength" "I") ∈ lw_all := lw_g (lw_at lw_m9 176 rfl) rfl
theorem q2194 : (Jvm.Cond.soleField "PittanceHouseModel" "lineLength") ∈ lw_all := lw_g (lw_at lw_m9 177 rfl) rfl
theorem q2195 : (Jvm.Cond.superclass "PittanceHouseModel" "java/lang/Object") ∈ lw_all := lw_g (lw_at lw_m9 178 rfl) rfl
theorem q2198 : (Jvm.Cond.instanceMethod ({ cls := "PittanceHouseModel", name := "reason", desc := "(Z)I" } : Jvm.MethodName)) ∈ lw_all := lw_g (lw_at lw_m9 181 rfl) rfl
theorem q2199 : (Jvm.Cond.selects "PittanceHouseModel" ({ cls := "PittanceHouseModel", name := "reason", desc := "(Z)I" } : Jvm.MethodName) ({ cls := "PittanceHouseModel", name := "reason", desc := "(Z)I" } : Jvm.MethodName)) ∈ lw_all := lw_g (lw_at lw_m9 182 rfl) rfl
theorem q2200 : (Jvm.Cond.code ({ cls := "PittanceHouseModel", name := "reason", desc := "(Z)I" } : Jvm.MethodName) prog_13_method_6_code (2 : Nat) (Option.some Jvm.ClassFile.FieldType.int)) ∈ lw_all := lw_g (lw_at lw_m9 183 rfl) rfl
theorem q2202 : (Jvm.Cond.instanceMethod ({ cls := "PittanceHouseModel", name := "come", desc := "(IZ)I" } : Jvm.MethodName)) ∈ lw_all := lw_g (lw_at lw_m9 185 rfl) rfl
theorem q2203 : (Jvm.Cond.selects "PittanceHouseModel" ({ cls := "PittanceHouseModel", name := "come", desc := "(IZ)I" } : Jvm.MethodName) ({ cls := "PittanceHouseModel", name := "come", desc := "(IZ)I" } : Jvm.MethodName)) ∈ lw_all := lw_g (lw_at lw_m9 186 rfl) rfl
theorem q2204 : (Jvm.Cond.code ({ cls := "PittanceHouseModel", name := "come", desc := "(IZ)I" } : Jvm.MethodName) prog_13_method_23_code (4 : Nat) (Option.some Jvm.ClassFile.FieldType.int)) ∈ lw_all := lw_g (lw_at lw_m9 187 rfl) rfl
theorem q2205 : (Jvm.Cond.methodLink "PittanceHouseModel" (60 : Nat) ({ cls := "PittanceHouseModel", name := "isBetween", desc := "(III)Z" } : Jvm.MethodName)) ∈ lw_all := lw_g (lw_at lw_m9 188 rfl) rfl
theorem q2206 : (Jvm.Cond.static ({ cls := "PittanceHouseModel", name := "isBetween", desc := "(III)Z" } : Jvm.MethodName)) ∈ lw_all := lw_g (lw_at lw_m9 189 rfl) rfl
theorem q2207 : (Jvm.Cond.code ({ cls := "PittanceHouseModel", name := "isBetween", desc := "(III)Z" } : Jvm.MethodName) prog_13_method_2_code (3 : Nat) (Option.some Jvm.ClassFile.FieldType.boolean)) ∈ lw_all := lw_g (lw_at lw_m9 190 rfl) rfl
theorem q2208 : (Jvm.Cond.methodLink "PittanceHouseModel" (84 : Nat) ({ cls := "PittanceHouseModel", name := "isNot", desc := "(II)I" } : Jvm.MethodName)) ∈ lw_all := lw_g (lw_at lw_m9 191 rfl) rfl
theorem q2209 : (Jvm.Cond.privateMethod ({ cls := "PittanceHouseModel", name := "isNot", desc := "(II)I" } : Jvm.MethodName)) ∈ lw_tbl := lw_at lw_m9 192 rfl
theorem q2210 : (Jvm.Cond.instanceMethod ({ cls := "PittanceHouseModel", name := "isNot", desc := "(II)I" } : Jvm.MethodName)) ∈ lw_all := lw_g (lw_at lw_m9 193 rfl) rfl
theorem q2211 : (Jvm.Cond.code ({ cls := "PittanceHouseModel", name := "isNot", desc := "(II)I" } : Jvm.MethodName) prog_13_method_4_code (3 : Nat) (Option.some Jvm.ClassFile.FieldType.int)) ∈ lw_all := lw_g (lw_at lw_m9 194 rfl) rfl
theorem q2212 : (Jvm.Cond.methodLink "PittanceHouseModel" (87 : Nat) ({ cls := "PittanceHouseModel", name := "refuses", desc := "(I)I" } : Jvm.MethodName)) ∈ lw_all := lw_g (lw_at lw_m9 195 rfl) rfl
theorem q2213 : (Jvm.Cond.privateMethod ({ cls := "PittanceHouseModel", name := "refuses", desc := "(I)I" } : Jvm.MethodName)) ∈ lw_tbl := lw_at lw_m9 196 rfl
theorem q2214 : (Jvm.Cond.instanceMethod ({ cls := "PittanceHouseModel", name := "refuses", desc := "(I)I" } : Jvm.MethodName)) ∈ lw_all := lw_g (lw_at lw_m9 197 rfl) rfl
theorem q2215 : (Jvm.Cond.code ({ cls := "PittanceHouseModel", name := "refuses", desc := "(I)I" } : Jvm.MethodName) prog_13_method_5_code (2 : Nat) (Option.some Jvm.ClassFile.FieldType.int)) ∈ lw_all := lw_g (lw_at lw_m9 198 rfl) rfl
theorem q2216 : (Jvm.Cond.methodLink "PittanceHouseModel" (90 : Nat) ({ cls := "PittanceHouseModel", name := "remembers", desc := "()V" } : Jvm.MethodName)) ∈ lw_all := lw_g (lw_at lw_m9 199 rfl) rfl
theorem q2217 : (Jvm.Cond.privateMethod ({ cls := "PittanceHouseModel", name := "remembers", desc := "()V" } : Jvm.MethodName)) ∈ lw_tbl := lw_at lw_m9 200 rfl
theorem q2218 : (Jvm.Cond.instanceMethod ({ cls := "PittanceHouseModel", name := "remembers", desc := "()V" } : Jvm.MethodName)) ∈ lw_all := lw_g (lw_at lw_m9 201 rfl) rfl
theorem q2219 : (Jvm.Cond.code ({ cls := "PittanceHouseModel", name := "remembers", desc := "()V" } : Jvm.MethodName) prog_13_method_10_code (1 : Nat) (Option.none : Option Jvm.ClassFile.FieldType)) ∈ lw_all := lw_g (lw_at lw_m9 202 rfl) rfl
theorem q2220 : (Jvm.Cond.methodLink "PittanceHouseModel" (54 : Nat) ({ cls := "PittanceHouseModel", name := "thinks", desc := "()V" } : Jvm.MethodName)) ∈ lw_all := lw_g (lw_at lw_m9 203 rfl) rfl
theorem q2221 : (Jvm.Cond.privateMethod ({ cls := "PittanceHouseModel", name := "thinks", desc := "()V" } : Jvm.MethodName)) ∈ lw_tbl := lw_at lw_m9 204 rfl
theorem q2222 : (Jvm.Cond.instanceMethod ({ cls := "PittanceHouseModel", name := "thinks", desc := "()V" } : Jvm.MethodName)) ∈ lw_all := lw_g (lw_at lw_m9 205 rfl) rfl
theorem q2223 : (Jvm.Cond.code ({ cls := "PittanceHouseModel", name := "thinks", desc := "()V" } : Jvm.MethodName) prog_13_method_7_code (2 : Nat) (Option.none : Option Jvm.ClassFile.FieldType)) ∈ lw_all := lw_g (lw_at lw_m9 206 rfl) rfl
theorem q2224 : (Jvm.Cond.methodLink "PittanceHouseModel" (57 : Nat) ({ cls := "PittanceHouseModel", name := "keepsMind", desc := "()V" } : Jvm.MethodName)) ∈ lw_all := lw_g (lw_at lw_m9 207 rfl) rfl
theorem q2225 : (Jvm.Cond.privateMethod ({ cls := "PittanceHouseModel", name := "keepsMind", desc := "()V" } : Jvm.MethodName)) ∈ lw_tbl := lw_at lw_m9 208 rfl
theorem q2226 : (Jvm.Cond.instanceMethod ({ cls := "PittanceHouseModel", name := "keepsMind", desc := "()V" } : Jvm.MethodName)) ∈ lw_all := lw_g (lw_at lw_m9 209 rfl) rfl
theorem q2227 : (Jvm.Cond.code ({ cls := "PittanceHouseModel", name := "keepsMind", desc := "()V" } : Jvm.MethodName) prog_13_method_9_code (3 : Nat) (Option.none : Option Jvm.ClassFile.FieldType)) ∈ lw_all := lw_g (lw_at lw_m9 210 rfl) rfl
theorem q2228 : (Jvm.Cond.methodLink "PittanceHouseModel" (76 : Nat) ({ cls := "PittanceHouseModel", name := "sets", desc := "(III)V" } : Jvm.MethodName)) ∈ lw_all := lw_g (lw_at lw_m9 211 rfl) rfl
theorem q2229 : (Jvm.Cond.privateMethod ({ cls := "PittanceHouseModel", name := "sets", desc := "(III)V" } : Jvm.MethodName)) ∈ lw_tbl := lw_at lw_m9 212 rfl
theorem q2230 : (Jvm.Cond.instanceMethod ({ cls := "PittanceHouseModel", name := "sets", desc := "(III)V" } : Jvm.MethodName)) ∈ lw_all := lw_g (lw_at lw_m9 213 rfl) rfl
theorem q2231 : (Jvm.Cond.code ({ cls := "PittanceHouseModel", name := "sets", desc := "(III)V" } : Jvm.MethodName) prog_13_method_12_code (4 : Nat) (Option.none : Option Jvm.ClassFile.FieldType)) ∈ lw_all := lw_g (lw_at lw_m9 214 rfl) rfl
theorem q2232 : (Jvm.Cond.methodLink "PittanceHouseModel" (93 : Nat) ({ cls := "PittanceHouseModel", name := "stamps", desc := "(I)V" } : Jvm.MethodName)) ∈ lw_all := lw_g (lw_at lw_m9 215 rfl) rfl
theorem q2233 : (Jvm.Cond.privateMethod ({ cls := "PittanceHouseModel", name := "stamps", desc := "(I)V" } : Jvm.MethodName)) ∈ lw_tbl := lw_at lw_m9 216 rfl
theorem q2234 : (Jvm.Cond.instanceMethod ({ cls := "PittanceHouseModel", name := "stamps", desc := "(I)V" } : Jvm.MethodName)) ∈ lw_all := lw_g (lw_at lw_m9 217 rfl) rfl
theorem q2235 : (Jvm.Cond.code ({ cls := "PittanceHouseModel", name := "stamps", desc := "(I)V" } : Jvm.MethodName) prog_13_method_21_code (2 : Nat) (Option.none : Option Jvm.ClassFile.FieldType)) ∈ lw_all := lw_g (lw_at lw_m9 218 rfl) rfl
theorem q2237 : (Jvm.Cond.instanceMethod ({ cls := "PittanceHouseModel", name := "withdraw", desc := "(I)I" } : Jvm.MethodName)) ∈ lw_all := lw_g (lw_at lw_m9 220 rfl) rfl
theorem q2238 : (Jvm.Cond.selects "PittanceHouseModel" ({ cls := "PittanceHouseModel", name := "withdraw", desc := "(I)I" } : Jvm.MethodName) ({ cls := "PittanceHouseModel", name := "withdraw", desc := "(I)I" } : Jvm.MethodName)) ∈ lw_all := lw_g (lw_at lw_m9 221 rfl) rfl
theorem q2239 : (Jvm.Cond.code ({ cls := "PittanceHouseModel", name := "withdraw", desc := "(I)I" } : Jvm.MethodName) prog_13_method_24_code (2 : Nat) (Option.some Jvm.ClassFile.FieldType.int)) ∈ lw_all := lw_g (lw_at lw_m9 222 rfl) rfl
theorem q2240 : (Jvm.Cond.methodLink "PittanceHouseModel" (96 : Nat) ({ cls := "PittanceHouseModel", name := "isBrother", desc := "(I)Z" } : Jvm.MethodName)) ∈ lw_all := lw_g (lw_at lw_m9 223 rfl) rfl
theorem q2241 : (Jvm.Cond.privateMethod ({ cls := "PittanceHouseModel", name := "isBrother", desc := "(I)Z" } : Jvm.MethodName)) ∈ lw_tbl := lw_at lw_m9 224 rfl
theorem q2242 : (Jvm.Cond.instanceMethod ({ cls := "PittanceHouseModel", name := "isBrother", desc := "(I)Z" } : Jvm.MethodName)) ∈ lw_all := lw_g (lw_at lw_m9 225 rfl) rfl
theorem q2243 : (Jvm.Cond.code ({ cls := "PittanceHouseModel", name := "isBrother", desc := "(I)Z" } : Jvm.MethodName) prog_13_method_13_code (2 : Nat) (Option.some Jvm.ClassFile.FieldType.boolean)) ∈ lw_all := lw_g (lw_at lw_m9 226 rfl) rfl
theorem q2244 : (Jvm.Cond.methodLink "PittanceHouseModel" (68 : Nat) ({ cls := "PittanceHouseModel", name := "isSo", desc := "(II)Z" } : Jvm.MethodName)) ∈ lw_all := lw_g (lw_at lw_m9 227 rfl) rfl
theorem q2245 : (Jvm.Cond.privateMethod ({ cls := "PittanceHouseModel", name := "isSo", desc := "(II)Z" } : Jvm.MethodName)) ∈ lw_tbl := lw_at lw_m9 228 rfl
theorem q2246 : (Jvm.Cond.instanceMethod ({ cls := "PittanceHouseModel", name := "isSo", desc := "(II)Z" } : Jvm.MethodName)) ∈ lw_all := lw_g (lw_at lw_m9 229 rfl) rfl
theorem q2247 : (Jvm.Cond.code ({ cls := "PittanceHouseModel", name := "isSo", desc := "(II)Z" } : Jvm.MethodName) prog_13_method_15_code (3 : Nat) (Option.some Jvm.ClassFile.FieldType.boolean)) ∈ lw_all := lw_g (lw_at lw_m9 230 rfl) rfl
theorem q2248 : (Jvm.Cond.methodLink "PittanceHouseModel" (64 : Nat) ({ cls := "PittanceHouseModel", name := "of", desc := "(II)I" } : Jvm.MethodName)) ∈ lw_all := lw_g (lw_at lw_m9 231 rfl) rfl
theorem q2249 : (Jvm.Cond.privateMethod ({ cls := "PittanceHouseModel", name := "of", desc := "(II)I" } : Jvm.MethodName)) ∈ lw_tbl := lw_at lw_m9 232 rfl
theorem q2250 : (Jvm.Cond.instanceMethod ({ cls := "PittanceHouseModel", name := "of", desc := "(II)I" } : Jvm.MethodName)) ∈ lw_all := lw_g (lw_at lw_m9 233 rfl) rfl
theorem q2251 : (Jvm.Cond.code ({ cls := "PittanceHouseModel", name := "of", desc := "(II)I" } : Jvm.MethodName) prog_13_method_11_code (3 : Nat) (Option.some Jvm.ClassFile.FieldType.int)) ∈ lw_all := lw_g (lw_at lw_m9 234 rfl) rfl
theorem q2252 : (Jvm.Cond.methodLink "PittanceHouseModel" (100 : Nat) ({ cls := "PittanceHouseModel", name := "becomes", desc := "(II)V" } : Jvm.MethodName)) ∈ lw_all := lw_g (lw_at lw_m9 235 rfl) rfl
theorem q2253 : (Jvm.Cond.privateMethod ({ cls := "PittanceHouseModel", name := "becomes", desc := "(II)V" } : Jvm.MethodName)) ∈ lw_tbl := lw_at lw_m9 236 rfl
theorem q2254 : (Jvm.Cond.instanceMethod ({ cls := "PittanceHouseModel", name := "becomes", desc := "(II)V" } : Jvm.MethodName)) ∈ lw_all := lw_g (lw_at lw_m9 237 rfl) rfl
theorem q2255 : (Jvm.Cond.code ({ cls := "PittanceHouseModel", name := "becomes", desc := "(II)V" } : Jvm.MethodName) prog_13_method_22_code (3 : Nat) (Option.none : Option Jvm.ClassFile.FieldType)) ∈ lw_all := lw_g (lw_at lw_m9 238 rfl) rfl
theorem q2256 : (Jvm.Cond.methodLink "PittanceHouseModel" (80 : Nat) ({ cls := "PittanceHouseModel", name := "voicesGo", desc := "(I)V" } : Jvm.MethodName)) ∈ lw_all := lw_g (lw_at lw_m9 239 rfl) rfl
theorem q2257 : (Jvm.Cond.privateMethod ({ cls := "PittanceHouseModel", name := "voicesGo", desc := "(I)V" } : Jvm.MethodName)) ∈ lw_tbl := lw_at lw_m10 0 rfl
theorem q2258 : (Jvm.Cond.instanceMethod ({ cls := "PittanceHouseModel", name := "voicesGo", desc := "(I)V" } : Jvm.MethodName)) ∈ lw_all := lw_g (lw_at lw_m10 1 rfl) rfl
theorem q2259 : (Jvm.Cond.code ({ cls := "PittanceHouseModel", name := "voicesGo", desc := "(I)V" } : Jvm.MethodName) prog_13_method_20_code (3 : Nat) (Option.none : Option Jvm.ClassFile.FieldType)) ∈ lw_all := lw_g (lw_at lw_m10 2 rfl) rfl
theorem q2260 : (Jvm.Cond.methodLink "PittanceHouseModel" (104 : Nat) ({ cls := "PittanceHouseModel", name := "brethrenThat", desc := "(I)I" } : Jvm.MethodName)) ∈ lw_all := lw_g (lw_at lw_m10 3 rfl) rfl
theorem q2261 : (Jvm.Cond.privateMethod ({ cls := "PittanceHouseModel", name := "brethrenThat", desc := "(I)I" } : Jvm.MethodName)) ∈ lw_tbl := lw_at lw_m10 4 rfl
theorem q2262 : (Jvm.Cond.instanceMethod ({ cls := "PittanceHouseModel", name := "brethrenThat", desc := "(I)I" } : Jvm.MethodName)) ∈ lw_all := lw_g (lw_at lw_m10 5 rfl) rfl
theorem q2263 : (Jvm.Cond.code ({ cls := "PittanceHouseModel", name := "brethrenThat", desc := "(I)I" } : Jvm.MethodName) prog_13_method_16_code (4 : Nat) (Option.some Jvm.ClassFile.FieldType.int)) ∈ lw_all := lw_g (lw_at lw_m10 6 rfl) rfl
theorem q2265 : (Jvm.Cond.instanceMethod ({ cls := "PittanceHouseModel", name := "voice", desc := "(II)I" } : Jvm.MethodName)) ∈ lw_all := lw_g (lw_at lw_m10 8 rfl) rfl
theorem q2266 : (Jvm.Cond.selects "PittanceHouseModel" ({ cls := "PittanceHouseModel", name := "voice", desc := "(II)I" } : Jvm.MethodName) ({ cls := "PittanceHouseModel", name := "voice", desc := "(II)I" } : Jvm.MethodName)) ∈ lw_all := lw_g (lw_at lw_m10 9 rfl) rfl
theorem q2267 : (Jvm.Cond.code ({ cls := "PittanceHouseModel", name := "voice", desc := "(II)I" } : Jvm.MethodName) prog_13_method_27_code (4 : Nat) (Option.some Jvm.ClassFile.FieldType.int)) ∈ lw_all := lw_g (lw_at lw_m10 10 rfl) rfl
theorem q2268 : (Jvm.Cond.methodLink "PittanceHouseModel" (110 : Nat) ({ cls := "PittanceHouseModel", name := "notVoice", desc := "(II)I" } : Jvm.MethodName)) ∈ lw_all := lw_g (lw_at lw_m10 11 rfl) rfl
theorem q2269 : (Jvm.Cond.privateMethod ({ cls := "PittanceHouseModel", name := "notVoice", desc := "(II)I" } : Jvm.MethodName)) ∈ lw_tbl := lw_at lw_m10 12 rfl
theorem q2270 : (Jvm.Cond.instanceMethod ({ cls := "PittanceHouseModel", name := "notVoice", desc := "(II)I" } : Jvm.MethodName)) ∈ lw_all := lw_g (lw_at lw_m10 13 rfl) rfl
theorem q2271 : (Jvm.Cond.code ({ cls := "PittanceHouseModel", name := "notVoice", desc := "(II)I" } : Jvm.MethodName) prog_13_method_25_code (3 : Nat) (Option.some Jvm.ClassFile.FieldType.int)) ∈ lw_all := lw_g (lw_at lw_m10 14 rfl) rfl
theorem q2272 : (Jvm.Cond.methodLink "PittanceHouseModel" (113 : Nat) ({ cls := "PittanceHouseModel", name := "gives", desc := "(II)I" } : Jvm.MethodName)) ∈ lw_all := lw_g (lw_at lw_m10 15 rfl) rfl
theorem q2273 : (Jvm.Cond.privateMethod ({ cls := "PittanceHouseModel", name := "gives", desc := "(II)I" } : Jvm.MethodName)) ∈ lw_tbl := lw_at lw_m10 16 rfl
theorem q2274 : (Jvm.Cond.instanceMethod ({ cls := "PittanceHouseModel", name := "gives", desc := "(II)I" } : Jvm.MethodName)) ∈ lw_all := lw_g (lw_at lw_m10 17 rfl) rfl
theorem q2275 : (Jvm.Cond.code ({ cls := "PittanceHouseModel", name := "gives", desc := "(II)I" } : Jvm.MethodName) prog_13_method_26_code (3 : Nat) (Option.some Jvm.ClassFile.FieldType.int)) ∈ lw_all := lw_g (lw_at lw_m10 18 rfl) rfl
theorem q2276 : (Jvm.Cond.methodLink "PittanceHouseModel" (107 : Nat) ({ cls := "PittanceHouseModel", name := "voicesFor", desc := "(I)I" } : Jvm.MethodName)) ∈ lw_all := lw_g (lw_at lw_m10 19 rfl) rfl
theorem q2277 : (Jvm.Cond.privateMethod ({ cls := "PittanceHouseModel", name := "voicesFor", desc := "(I)I" } : Jvm.MethodName)) ∈ lw_tbl := lw_at lw_m10 20 rfl
theorem q2278 : (Jvm.Cond.instanceMethod ({ cls := "PittanceHouseModel", name := "voicesFor", desc := "(I)I" } : Jvm.MethodName)) ∈ lw_all := lw_g (lw_at lw_m10 21 rfl) rfl
theorem q2279 : (Jvm.Cond.code ({ cls := "PittanceHouseModel", name := "voicesFor", desc := "(I)I" } : Jvm.MethodName) prog_13_method_19_code (4 : Nat) (Option.some Jvm.ClassFile.FieldType.int)) ∈ lw_all := lw_g (lw_at lw_m10 22 rfl) rfl
theorem q2280 : (Jvm.Cond.methodLink "PittanceHouseModel" (72 : Nat) ({ cls := "PittanceHouseModel", name := "countsFor", desc := "(I)I" } : Jvm.MethodName)) ∈ lw_all := lw_g (lw_at lw_m10 23 rfl) rfl
theorem q2281 : (Jvm.Cond.privateMethod ({ cls := "PittanceHouseModel", name := "countsFor", desc := "(I)I" } : Jvm.MethodName)) ∈ lw_tbl := lw_at lw_m10 24 rfl
theorem q2282 : (Jvm.Cond.instanceMethod ({ cls := "PittanceHouseModel", name := "countsFor", desc := "(I)I" } : Jvm.MethodName)) ∈ lw_all := lw_g (lw_at lw_m10 25 rfl) rfl
theorem q2283 : (Jvm.Cond.code ({ cls := "PittanceHouseModel", name := "countsFor", desc := "(I)I" } : Jvm.MethodName) prog_13_method_18_code (2 : Nat) (Option.some Jvm.ClassFile.FieldType.int)) ∈ lw_all := lw_g (lw_at lw_m10 26 rfl) rfl
theorem q2285 : (Jvm.Cond.instanceMethod ({ cls := "PittanceHouseModel", name := "choose", desc := "(I)I" } : Jvm.MethodName)) ∈ lw_all := lw_g (lw_at lw_m10 28 rfl) rfl
theorem q2286 : (Jvm.Cond.selects "PittanceHouseModel" ({ cls := "PittanceHouseModel", name := "choose", desc := "(I)I" } : Jvm.MethodName) ({ cls := "PittanceHouseModel", name := "choose", desc := "(I)I" } : Jvm.MethodName)) ∈ lw_all := lw_g (lw_at lw_m10 29 rfl) rfl
theorem q2287 : (Jvm.Cond.code ({ cls := "PittanceHouseModel", name := "choose", desc := "(I)I" } : Jvm.MethodName) prog_13_method_32_code (3 : Nat) (Option.some Jvm.ClassFile.FieldType.int)) ∈ lw_all := lw_g (lw_at lw_m10 30 rfl) rfl
theorem q2288 : (Jvm.Cond.methodLink "PittanceHouseModel" (128 : Nat) ({ cls := "PittanceHouseModel", name := "notChoose", desc := "(I)I" } : Jvm.MethodName)) ∈ lw_all := lw_g (lw_at lw_m10 31 rfl) rfl
theorem q2289 : (Jvm.Cond.privateMethod ({ cls := "PittanceHouseModel", name := "notChoose", desc := "(I)I" } : Jvm.MethodName)) ∈ lw_tbl := lw_at lw_m10 32 rfl
theorem q2290 : (Jvm.Cond.instanceMethod ({ cls := "PittanceHouseModel", name := "notChoose", desc := "(I)I" } : Jvm.MethodName)) ∈ lw_all := lw_g (lw_at lw_m10 33 rfl) rfl
theorem q2291 : (Jvm.Cond.code ({ cls := "PittanceHouseModel", name := "notChoose", desc := "(I)I" } : Jvm.MethodName) prog_13_method_30_code (2 : Nat) (Option.some Jvm.ClassFile.FieldType.int)) ∈ lw_all := lw_g (lw_at lw_m10 34 rfl) rfl
theorem q2292 : (Jvm.Cond.methodLink "PittanceHouseModel" (119 : Nat) ({ cls := "PittanceHouseModel", name := "isCell", desc := "(I)Z" } : Jvm.MethodName)) ∈ lw_all := lw_g (lw_at lw_m10 35 rfl) rfl
theorem q2293 : (Jvm.Cond.static ({ cls := "PittanceHouseModel", name := "isCell", desc := "(I)Z" } : Jvm.MethodName)) ∈ lw_all := lw_g (lw_at lw_m10 36 rfl) rfl
theorem q2294 : (Jvm.Cond.code ({ cls := "PittanceHouseModel", name := "isCell", desc := "(I)Z" } : Jvm.MethodName) prog_13_method_14_code (1 : Nat) (Option.some Jvm.ClassFile.FieldType.boolean)) ∈ lw_all := lw_g (lw_at lw_m10 37 rfl) rfl
theorem q2295 : (Jvm.Cond.methodLink "PittanceHouseModel" (122 : Nat) ({ cls := "PittanceHouseModel", name := "brotherIn", desc := "(I)I" } : Jvm.MethodName)) ∈ lw_all := lw_g (lw_at lw_m10 38 rfl) rfl
theorem q2296 : (Jvm.Cond.privateMethod ({ cls := "PittanceHouseModel", name := "brotherIn", desc := "(I)I" } : Jvm.MethodName)) ∈ lw_tbl := lw_at lw_m10 39 rfl
theorem q2297 : (Jvm.Cond.instanceMethod ({ cls := "PittanceHouseModel", name := "brotherIn", desc := "(I)I" } : Jvm.MethodName)) ∈ lw_all := lw_g (lw_at lw_m10 40 rfl) rfl
theorem q2298 : (Jvm.Cond.code ({ cls := "PittanceHouseModel", name := "brotherIn", desc := "(I)I" } : Jvm.MethodName) prog_13_method_17_code (3 : Nat) (Option.some Jvm.ClassFile.FieldType.int)) ∈ lw_all := lw_g (lw_at lw_m10 41 rfl) rfl
theorem q2299 : (Jvm.Cond.methodLink "PittanceHouseModel" (131 : Nat) ({ cls := "PittanceHouseModel", name := "chooses", desc := "(I)I" } : Jvm.MethodName)) ∈ lw_all := lw_g (lw_at lw_m10 42 rfl) rfl
theorem q2300 : (Jvm.Cond.privateMethod ({ cls := "PittanceHouseModel", name := "chooses", desc := "(I)I" } : Jvm.MethodName)) ∈ lw_tbl := lw_at lw_m10 43 rfl
theorem q2301 : (Jvm.Cond.instanceMethod ({ cls := "PittanceHouseModel", name := "chooses", desc := "(I)I" } : Jvm.MethodName)) ∈ lw_all := lw_g (lw_at lw_m10 44 rfl) rfl
theorem q2302 : (Jvm.Cond.code ({ cls := "PittanceHouseModel", name := "chooses", desc := "(I)I" } : Jvm.MethodName) prog_13_method_31_code (3 : Nat) (Option.some Jvm.ClassFile.FieldType.int)) ∈ lw_all := lw_g (lw_at lw_m10 45 rfl) rfl
theorem q2303 : (Jvm.Cond.methodLink "PittanceHouseModel" (125 : Nat) ({ cls := "PittanceHouseModel", name := "rankedAt", desc := "(I)I" } : Jvm.MethodName)) ∈ lw_all := lw_g (lw_at lw_m10 46 rfl) rfl
theorem q2304 : (Jvm.Cond.privateMethod ({ cls := "PittanceHouseModel", name := "rankedAt", desc := "(I)I" } : Jvm.MethodName)) ∈ lw_tbl := lw_at lw_m10 47 rfl
theorem q2305 : (Jvm.Cond.instanceMethod ({ cls := "PittanceHouseModel", name := "rankedAt", desc := "(I)I" } : Jvm.MethodName)) ∈ lw_all := lw_g (lw_at lw_m10 48 rfl) rfl
theorem q2306 : (Jvm.Cond.code ({ cls := "PittanceHouseModel", name := "rankedAt", desc := "(I)I" } : Jvm.MethodName) prog_13_method_29_code (5 : Nat) (Option.some Jvm.ClassFile.FieldType.int)) ∈ lw_all := lw_g (lw_at lw_m10 49 rfl) rfl
theorem q2307 : (Jvm.Cond.methodLink "PittanceHouseModel" (116 : Nat) ({ cls := "PittanceHouseModel", name := "isChosenAhead", desc := "(II)Z" } : Jvm.MethodName)) ∈ lw_all := lw_g (lw_at lw_m10 50 rfl) rfl
theorem q2308 : (Jvm.Cond.privateMethod ({ cls := "PittanceHouseModel", name := "isChosenAhead", desc := "(II)Z" } : Jvm.MethodName)) ∈ lw_tbl := lw_at lw_m10 51 rfl
theorem q2309 : (Jvm.Cond.instanceMethod ({ cls := "PittanceHouseModel", name := "isChosenAhead", desc := "(II)Z" } : Jvm.MethodName)) ∈ lw_all := lw_g (lw_at lw_m10 52 rfl) rfl
theorem q2310 : (Jvm.Cond.code ({ cls := "PittanceHouseModel", name := "isChosenAhead", desc := "(II)Z" } : Jvm.MethodName) prog_13_method_28_code (3 : Nat) (Option.some Jvm.ClassFile.FieldType.boolean)) ∈ lw_all := lw_g (lw_at lw_m10 53 rfl) rfl
theorem q2312 : (Jvm.Cond.instanceMethod ({ cls := "PittanceHouseModel", name := "leave", desc := "(I)I" } : Jvm.MethodName)) ∈ lw_all := lw_g (lw_at lw_m10 55 rfl) rfl
theorem q2313 : (Jvm.Cond.selects "PittanceHouseModel" ({ cls := "PittanceHouseModel", name := "leave", desc := "(I)I" } : Jvm.MethodName) ({ cls := "PittanceHouseModel", name := "leave", desc := "(I)I" } : Jvm.MethodName)) ∈ lw_all := lw_g (lw_at lw_m10 56 rfl) rfl
theorem q2314 : (Jvm.Cond.code ({ cls := "PittanceHouseModel", name := "leave", desc := "(I)I" } : Jvm.MethodName) prog_13_method_35_code (3 : Nat) (Option.some Jvm.ClassFile.FieldType.int)) ∈ lw_all := lw_g (lw_at lw_m10 57 rfl) rfl
theorem q2315 : (Jvm.Cond.methodLink "PittanceHouseModel" (134 : Nat) ({ cls := "PittanceHouseModel", name := "notLeave", desc := "(I)I" } : Jvm.MethodName)) ∈ lw_all := lw_g (lw_at lw_m10 58 rfl) rfl
theorem q2316 : (Jvm.Cond.privateMethod ({ cls := "PittanceHouseModel", name := "notLeave", desc := "(I)I" } : Jvm.MethodName)) ∈ lw_tbl := lw_at lw_m10 59 rfl
theorem q2317 : (Jvm.Cond.instanceMethod ({ cls := "PittanceHouseModel", name := "notLeave", desc := "(I)I" } : Jvm.MethodName)) ∈ lw_all := lw_g (lw_at lw_m10 60 rfl) rfl
theorem q2318 : (Jvm.Cond.code ({ cls := "PittanceHouseModel", name := "notLeave", desc := "(I)I" } : Jvm.MethodName) prog_13_method_33_code (2 : Nat) (Option.some Jvm.ClassFile.FieldType.int)) ∈ lw_all := lw_g (lw_at lw_m10 61 rfl) rfl
theorem q2319 : (Jvm.Cond.methodLink "PittanceHouseModel" (137 : Nat) ({ cls := "PittanceHouseModel", name := "leaves", desc := "(I)I" } : Jvm.MethodName)) ∈ lw_all := lw_g (lw_at lw_m10 62 rfl) rfl
theorem q2320 : (Jvm.Cond.privateMethod ({ cls := "PittanceHouseModel", name := "leaves", desc := "(I)I" } : Jvm.MethodName)) ∈ lw_tbl := lw_at lw_m10 63 rfl
theorem q2321 : (Jvm.Cond.instanceMethod ({ cls := "PittanceHouseModel", name := "leaves", desc := "(I)I" } : Jvm.MethodName)) ∈ lw_all := lw_g (lw_at lw_m10 64 rfl) rfl
theorem q2322 : (Jvm.Cond.code ({ cls := "PittanceHouseModel", name := "leaves", desc := "(I)I" } : Jvm.MethodName) prog_13_method_34_code (3 : Nat) (Option.some Jvm.ClassFile.FieldType.int)) ∈ lw_all := lw_g (lw_at lw_m10 65 rfl) rfl
theorem q2324 : (Jvm.Cond.instanceMethod ({ cls := "PittanceHouseModel", name := "feast", desc := "(II)I" } : Jvm.MethodName)) ∈ lw_all := lw_g (lw_at lw_m10 67 rfl) rfl
theorem q2325 : (Jvm.Cond.selects "PittanceHouseModel" ({ cls := "PittanceHouseModel", name := "feast", desc := "(II)I" } : Jvm.MethodName) ({ cls := "PittanceHouseModel", name := "feast", desc := "(II)I" } : Jvm.MethodName)) ∈ lw_all := lw_g (lw_at lw_m10 68 rfl) rfl
theorem q2326 : (Jvm.Cond.code ({ cls := "PittanceHouseModel", name := "feast", desc := "(II)I" } : Jvm.MethodName) prog_13_method_38_code (4 : Nat) (Option.some Jvm.ClassFile.FieldType.int)) ∈ lw_all := lw_g (lw_at lw_m10 69 rfl) rfl
theorem q2327 : (Jvm.Cond.methodLink "PittanceHouseModel" (140 : Nat) ({ cls := "PittanceHouseModel", name := "notFeast", desc := "(II)I" } : Jvm.MethodName)) ∈ lw_all := lw_g (lw_at lw_m10 70 rfl) rfl
theorem q2328 : (Jvm.Cond.privateMethod ({ cls := "PittanceHouseModel", name := "notFeast", desc := "(II)I" } : Jvm.MethodName)) ∈ lw_tbl := lw_at lw_m10 71 rfl
theorem q2329 : (Jvm.Cond.instanceMethod ({ cls := "PittanceHouseModel", name := "notFeast", desc := "(II)I" } : Jvm.MethodName)) ∈ lw_all := lw_g (lw_at lw_m10 72 rfl) rfl
theorem q2330 : (Jvm.Cond.code ({ cls := "PittanceHouseModel", name := "notFeast", desc := "(II)I" } : Jvm.MethodName) prog_13_method_36_code (3 : Nat) (Option.some Jvm.ClassFile.FieldType.int)) ∈ lw_all := lw_g (lw_at lw_m10 73 rfl) rfl
theorem q2331 : (Jvm.Cond.methodLink "PittanceHouseModel" (143 : Nat) ({ cls := "PittanceHouseModel", name := "tells", desc := "(II)I" } : Jvm.MethodName)) ∈ lw_all := lw_g (lw_at lw_m10 74 rfl) rfl
theorem q2332 : (Jvm.Cond.privateMethod ({ cls := "PittanceHouseModel", name := "tells", desc := "(II)I" } : Jvm.MethodName)) ∈ lw_tbl := lw_at lw_m10 75 rfl
theorem q2333 : (Jvm.Cond.instanceMethod ({ cls := "PittanceHouseModel", name := "tells", desc := "(II)I" } : Jvm.MethodName)) ∈ lw_all := lw_g (lw_at lw_m10 76 rfl) rfl
theorem q2334 : (Jvm.Cond.code ({ cls := "PittanceHouseModel", name := "tells", desc := "(II)I" } : Jvm.MethodName) prog_13_method_37_code (3 : Nat) (Option.some Jvm.ClassFile.FieldType.int)) ∈ lw_all := lw_g (lw_at lw_m10 77 rfl) rfl
theorem q2336 : (Jvm.Cond.instanceMethod ({ cls := "PittanceHouseModel", name := "breach", desc := "(II)I" } : Jvm.MethodName)) ∈ lw_all := lw_g (lw_at lw_m10 79 rfl) rfl
theorem q2337 : (Jvm.Cond.selects "PittanceHouseModel" ({ cls := "PittanceHouseModel", name := "breach", desc := "(II)I" } : Jvm.MethodName) ({ cls := "PittanceHouseModel", name := "breach", desc := "(II)I" } : Jvm.MethodName)) ∈ lw_all := lw_g (lw_at lw_m10 80 rfl) rfl
theorem q2338 : (Jvm.Cond.code ({ cls := "PittanceHouseModel", name := "breach", desc := "(II)I" } : Jvm.MethodName) prog_13_method_41_code (4 : Nat) (Option.some Jvm.ClassFile.FieldType.int)) ∈ lw_all := lw_g (lw_at lw_m10 81 rfl) rfl
theorem q2339 : (Jvm.Cond.methodLink "PittanceHouseModel" (146 : Nat) ({ cls := "PittanceHouseModel", name := "notBreach", desc := "(II)I" } : Jvm.MethodName)) ∈ lw_all := lw_g (lw_at lw_m10 82 rfl) rfl
theorem q2340 : (Jvm.Cond.privateMethod ({ cls := "PittanceHouseModel", name := "notBreach", desc := "(II)I" } : Jvm.MethodName)) ∈ lw_tbl := lw_at lw_m10 83 rfl
theorem q2341 : (Jvm.Cond.instanceMethod ({ cls := "PittanceHouseModel", name := "notBreach", desc := "(II)I" } : Jvm.MethodName)) ∈ lw_all := lw_g (lw_at lw_m10 84 rfl) rfl
theorem q2342 : (Jvm.Cond.code ({ cls := "PittanceHouseModel", name := "notBreach", desc := "(II)I" } : Jvm.MethodName) prog_13_method_39_code (3 : Nat) (Option.some Jvm.ClassFile.FieldType.int)) ∈ lw_all := lw_g (lw_at lw_m10 85 rfl) rfl
theorem q2343 : (Jvm.Cond.methodLink "PittanceHouseModel" (149 : Nat) ({ cls := "PittanceHouseModel", name := "breaks", desc := "(II)I" } : Jvm.MethodName)) ∈ lw_all := lw_g (lw_at lw_m10 86 rfl) rfl
theorem q2344 : (Jvm.Cond.privateMethod ({ cls := "PittanceHouseModel", name := "breaks", desc := "(II)I" } : Jvm.MethodName)) ∈ lw_tbl := lw_at lw_m10 87 rfl
theorem q2345 : (Jvm.Cond.instanceMethod ({ cls := "PittanceHouseModel", name := "breaks", desc := "(II)I" } : Jvm.MethodName)) ∈ lw_all := lw_g (lw_at lw_m10 88 rfl) rfl
theorem q2346 : (Jvm.Cond.code ({ cls := "PittanceHouseModel", name := "breaks", desc := "(II)I" } : Jvm.MethodName) prog_13_method_40_code (4 : Nat) (Option.some Jvm.ClassFile.FieldType.int)) ∈ lw_all := lw_g (lw_at lw_m10 89 rfl) rfl
theorem q2348 : (Jvm.Cond.instanceMethod ({ cls := "PittanceHouseModel", name := "pardon", desc := "(I)I" } : Jvm.MethodName)) ∈ lw_all := lw_g (lw_at lw_m10 91 rfl) rfl
theorem q2349 : (Jvm.Cond.selects "PittanceHouseModel" ({ cls := "PittanceHouseModel", name := "pardon", desc := "(I)I" } : Jvm.MethodName) ({ cls := "PittanceHouseModel", name := "pardon", desc := "(I)I" } : Jvm.MethodName)) ∈ lw_all := lw_g (lw_at lw_m10 92 rfl) rfl
theorem q2350 : (Jvm.Cond.code ({ cls := "PittanceHouseModel", name := "pardon", desc := "(I)I" } : Jvm.MethodName) prog_13_method_44_code (3 : Nat) (Option.some Jvm.ClassFile.FieldType.int)) ∈ lw_all := lw_g (lw_at lw_m10 93 rfl) rfl
theorem q2351 : (Jvm.Cond.methodLink "PittanceHouseModel" (152 : Nat) ({ cls := "PittanceHouseModel", name := "notPardon", desc := "(I)I" } : Jvm.MethodName)) ∈ lw_all := lw_g (lw_at lw_m10 94 rfl) rfl
theorem q2352 : (Jvm.Cond.privateMethod ({ cls := "PittanceHouseModel", name := "notPardon", desc := "(I)I" } : Jvm.MethodName)) ∈ lw_tbl := lw_at lw_m10 95 rfl
theorem q2353 : (Jvm.Cond.instanceMethod ({ cls := "PittanceHouseModel", name := "notPardon", desc := "(I)I" } : Jvm.MethodName)) ∈ lw_all := lw_g (lw_at lw_m10 96 rfl) rfl
theorem q2354 : (Jvm.Cond.code ({ cls := "PittanceHouseModel", name := "notPardon", desc := "(I)I" } : Jvm.MethodName) prog_13_method_42_code (2 : Nat) (Option.some Jvm.ClassFile.FieldType.int)) ∈ lw_all := lw_g (lw_at lw_m10 97 rfl) rfl
theorem q2355 : (Jvm.Cond.methodLink "PittanceHouseModel" (155 : Nat) ({ cls := "PittanceHouseModel", name := "pardons", desc := "(I)I" } : Jvm.MethodName)) ∈ lw_all := lw_g (lw_at lw_m10 98 rfl) rfl
theorem q2356 : (Jvm.Cond.privateMethod ({ cls := "PittanceHouseModel", name := "pardons", desc := "(I)I" } : Jvm.MethodName)) ∈ lw_tbl := lw_at lw_m10 99 rfl
theorem q2357 : (Jvm.Cond.instanceMethod ({ cls := "PittanceHouseModel", name := "pardons", desc := "(I)I" } : Jvm.MethodName)) ∈ lw_all := lw_g (lw_at lw_m10 100 rfl) rfl
theorem q2358 : (Jvm.Cond.code ({ cls := "PittanceHouseModel", name := "pardons", desc := "(I)I" } : Jvm.MethodName) prog_13_method_43_code (3 : Nat) (Option.some Jvm.ClassFile.FieldType.int)) ∈ lw_all := lw_g (lw_at lw_m10 101 rfl) rfl
theorem q2360 : (Jvm.Cond.instanceMethod ({ cls := "PittanceHouseModel", name := "gift", desc := "(I)I" } : Jvm.MethodName)) ∈ lw_all := lw_g (lw_at lw_m10 103 rfl) rfl
theorem q2361 : (Jvm.Cond.selects "PittanceHouseModel" ({ cls := "PittanceHouseModel", name := "gift", desc := "(I)I" } : Jvm.MethodName) ({ cls := "PittanceHouseModel", name := "gift", desc := "(I)I" } : Jvm.MethodName)) ∈ lw_all := lw_g (lw_at lw_m10 104 rfl) rfl
theorem q2362 : (Jvm.Cond.code ({ cls := "PittanceHouseModel", name := "gift", desc := "(I)I" } : Jvm.MethodName) prog_13_method_47_code (2 : Nat) (Option.some Jvm.ClassFile.FieldType.int)) ∈ lw_all := lw_g (lw_at lw_m10 105 rfl) rfl
theorem q2363 : (Jvm.Cond.methodLink "PittanceHouseModel" (164 : Nat) ({ cls := "PittanceHouseModel", name := "puts", desc := "(I)I" } : Jvm.MethodName)) ∈ lw_all := lw_g (lw_at lw_m10 106 rfl) rfl
theorem q2364 : (Jvm.Cond.privateMethod ({ cls := "PittanceHouseModel", name := "puts", desc := "(I)I" } : Jvm.MethodName)) ∈ lw_tbl := lw_at lw_m10 107 rfl
theorem q2365 : (Jvm.Cond.instanceMethod ({ cls := "PittanceHouseModel", name := "puts", desc := "(I)I" } : Jvm.MethodName)) ∈ lw_all := lw_g (lw_at lw_m10 108 rfl) rfl
theorem q2366 : (Jvm.Cond.code ({ cls := "PittanceHouseModel", name := "puts", desc := "(I)I" } : Jvm.MethodName) prog_13_method_46_code (2 : Nat) (Option.some Jvm.ClassFile.FieldType.int)) ∈ lw_all := lw_g (lw_at lw_m10 109 rfl) rfl
theorem q2367 : (Jvm.Cond.methodLink "PittanceHouseModel" (161 : Nat) ({ cls := "PittanceHouseModel", name := "comesIn", desc := "(I)V" } : Jvm.MethodName)) ∈ lw_all := lw_g (lw_at lw_m10 110 rfl) rfl
theorem q2368 : (Jvm.Cond.privateMethod ({ cls := "PittanceHouseModel", name := "comesIn", desc := "(I)V" } : Jvm.MethodName)) ∈ lw_tbl := lw_at lw_m10 111 rfl
theorem q2369 : (Jvm.Cond.instanceMethod ({ cls := "PittanceHouseModel", name := "comesIn", desc := "(I)V" } : Jvm.MethodName)) ∈ lw_all := lw_g (lw_at lw_m10 112 rfl) rfl
theorem q2370 : (Jvm.Cond.code ({ cls := "PittanceHouseModel", name := "comesIn", desc := "(I)V" } : Jvm.MethodName) prog_13_method_45_code (3 : Nat) (Option.none : Option Jvm.ClassFile.FieldType)) ∈ lw_all := lw_g (lw_at lw_m10 113 rfl) rfl
theorem q2371 : (Jvm.Cond.methodLink "PittanceHouseModel" (158 : Nat) ({ cls := "PittanceHouseModel", name := "lesser", desc := "(II)I" } : Jvm.MethodName)) ∈ lw_all := lw_g (lw_at lw_m10 114 rfl) rfl
theorem q2372 : (Jvm.Cond.static ({ cls := "PittanceHouseModel", name := "lesser", desc := "(II)I" } : Jvm.MethodName)) ∈ lw_all := lw_g (lw_at lw_m10 115 rfl) rfl
theorem q2373 : (Jvm.Cond.code ({ cls := "PittanceHouseModel", name := "lesser", desc := "(II)I" } : Jvm.MethodName) prog_13_method_3_code (2 : Nat) (Option.some Jvm.ClassFile.FieldType.int)) ∈ lw_all := lw_g (lw_at lw_m10 116 rfl) rfl
theorem q2375 : (Jvm.Cond.instanceMethod ({ cls := "PittanceHouseModel", name := "weeks", desc := "(I)I" } : Jvm.MethodName)) ∈ lw_all := lw_g (lw_at lw_m10 118 rfl) rfl
theorem q2376 : (Jvm.Cond.selects "PittanceHouseModel" ({ cls := "PittanceHouseModel", name := "weeks", desc := "(I)I" } : Jvm.MethodName) ({ cls := "PittanceHouseModel", name := "weeks", desc := "(I)I" } : Jvm.MethodName)) ∈ lw_all := lw_g (lw_at lw_m10 119 rfl) rfl
theorem q2377 : (Jvm.Cond.code ({ cls := "PittanceHouseModel", name := "weeks", desc := "(I)I" } : Jvm.MethodName) prog_13_method_57_code (2 : Nat) (Option.some Jvm.ClassFile.FieldType.int)) ∈ lw_all := lw_g (lw_at lw_m10 120 rfl) rfl
theorem q2378 : (Jvm.Cond.methodLink "PittanceHouseModel" (192 : Nat) ({ cls := "PittanceHouseModel", name := "weeksGo", desc := "(I)I" } : Jvm.MethodName)) ∈ lw_all := lw_g (lw_at lw_m10 121 rfl) rfl
theorem q2379 : (Jvm.Cond.privateMethod ({ cls := "PittanceHouseModel", name := "weeksGo", desc := "(I)I" } : Jvm.MethodName)) ∈ lw_tbl := lw_at lw_m10 122 rfl
theorem q2380 : (Jvm.Cond.instanceMethod ({ cls := "PittanceHouseModel", name := "weeksGo", desc := "(I)I" } : Jvm.MethodName)) ∈ lw_all := lw_g (lw_at lw_m10 123 rfl) rfl
theorem q2381 : (Jvm.Cond.code ({ cls := "PittanceHouseModel", name := "weeksGo", desc := "(I)I" } : Jvm.MethodName) prog_13_method_56_code (4 : Nat) (Option.some Jvm.ClassFile.FieldType.int)) ∈ lw_all := lw_g (lw_at lw_m10 124 rfl) rfl
theorem q2382 : (Jvm.Cond.methodLink "PittanceHouseModel" (189 : Nat) ({ cls := "PittanceHouseModel", name := "weekGoes", desc := "()I" } : Jvm.MethodName)) ∈ lw_all := lw_g (lw_at lw_m10 125 rfl) rfl
theorem q2383 : (Jvm.Cond.privateMethod ({ cls := "PittanceHouseModel", name := "weekGoes", desc := "()I" } : Jvm.MethodName)) ∈ lw_tbl := lw_at lw_m10 126 rfl
theorem q2384 : (Jvm.Cond.instanceMethod ({ cls := "PittanceHouseModel", name := "weekGoes", desc := "()I" } : Jvm.MethodName)) ∈ lw_all := lw_g (lw_at lw_m10 127 rfl) rfl
theorem q2385 : (Jvm.Cond.code ({ cls := "PittanceHouseModel", name := "weekGoes", desc := "()I" } : Jvm.MethodName) prog_13_method_55_code (3 : Nat) (Option.some Jvm.ClassFile.FieldType.int)) ∈ lw_all := lw_g (lw_at lw_m10 128 rfl) rfl
theorem q2386 : (Jvm.Cond.methodLink "PittanceHouseModel" (183 : Nat) ({ cls := "PittanceHouseModel", name := "feastComes", desc := "()I" } : Jvm.MethodName)) ∈ lw_all := lw_g (lw_at lw_m10 129 rfl) rfl
theorem q2387 : (Jvm.Cond.privateMethod ({ cls := "PittanceHouseModel", name := "feastComes", desc := "()I" } : Jvm.MethodName)) ∈ lw_tbl := lw_at lw_m10 130 rfl
theorem q2388 : (Jvm.Cond.instanceMethod ({ cls := "PittanceHouseModel", name := "feastComes", desc := "()I" } : Jvm.MethodName)) ∈ lw_all := lw_g (lw_at lw_m10 131 rfl) rfl
theorem q2389 : (Jvm.Cond.code ({ cls := "PittanceHouseModel", name := "feastComes", desc := "()I" } : Jvm.MethodName) prog_13_method_50_code (5 : Nat) (Option.some Jvm.ClassFile.FieldType.int)) ∈ lw_all := lw_g (lw_at lw_m10 132 rfl) rfl
theorem q2390 : (Jvm.Cond.methodLink "PittanceHouseModel" (170 : Nat) ({ cls := "PittanceHouseModel", name := "entitledMany", desc := "()I" } : Jvm.MethodName)) ∈ lw_all := lw_g (lw_at lw_m10 133 rfl) rfl
theorem q2391 : (Jvm.Cond.privateMethod ({ cls := "PittanceHouseModel", name := "entitledMany", desc := "()I" } : Jvm.MethodName)) ∈ lw_tbl := lw_at lw_m10 134 rfl
theorem q2392 : (Jvm.Cond.instanceMethod ({ cls := "PittanceHouseModel", name := "entitledMany", desc := "()I" } : Jvm.MethodName)) ∈ lw_all := lw_g (lw_at lw_m10 135 rfl) rfl
theorem q2393 : (Jvm.Cond.code ({ cls := "PittanceHouseModel", name := "entitledMany", desc := "()I" } : Jvm.MethodName) prog_13_method_49_code (3 : Nat) (Option.some Jvm.ClassFile.FieldType.int)) ∈ lw_all := lw_g (lw_at lw_m10 136 rfl) rfl
theorem q2394 : (Jvm.Cond.methodLink "PittanceHouseModel" (167 : Nat) ({ cls := "PittanceHouseModel", name := "isEntitled", desc := "(I)Z" } : Jvm.MethodName)) ∈ lw_all := lw_g (lw_at lw_m10 137 rfl) rfl
theorem q2395 : (Jvm.Cond.privateMethod ({ cls := "PittanceHouseModel", name := "isEntitled", desc := "(I)Z" } : Jvm.MethodName)) ∈ lw_tbl := lw_at lw_m10 138 rfl
theorem q2396 : (Jvm.Cond.instanceMethod ({ cls := "PittanceHouseModel", name := "isEntitled", desc := "(I)Z" } : Jvm.MethodName)) ∈ lw_all := lw_g (lw_at lw_m10 139 rfl) rfl
theorem q2397 : (Jvm.Cond.code ({ cls := "PittanceHouseModel", name := "isEntitled", desc := "(I)Z" } : Jvm.MethodName) prog_13_method_48_code (2 : Nat) (Option.some Jvm.ClassFile.FieldType.boolean)) ∈ lw_all := lw_g (lw_at lw_m10 140 rfl) rfl
theorem q2398 : (Jvm.Cond.methodLink "PittanceHouseModel" (186 : Nat) ({ cls := "PittanceHouseModel", name := "yearBegins", desc := "()V" } : Jvm.MethodName)) ∈ lw_all := lw_g (lw_at lw_m10 141 rfl) rfl
theorem q2399 : (Jvm.Cond.privateMethod ({ cls := "PittanceHouseModel", name := "yearBegins", desc := "()V" } : Jvm.MethodName)) ∈ lw_tbl := lw_at lw_m10 142 rfl
theorem q2400 : (Jvm.Cond.instanceMethod ({ cls := "PittanceHouseModel", name := "yearBegins", desc := "()V" } : Jvm.MethodName)) ∈ lw_all := lw_g (lw_at lw_m10 143 rfl) rfl
theorem q2401 : (Jvm.Cond.code ({ cls := "PittanceHouseModel", name := "yearBegins", desc := "()V" } : Jvm.MethodName) prog_13_method_54_code (2 : Nat) (Option.none : Option Jvm.ClassFile.FieldType)) ∈ lw_all := lw_g (lw_at lw_m10 144 rfl) rfl
theorem q2402 : (Jvm.Cond.methodLink "PittanceHouseModel" (180 : Nat) ({ cls := "PittanceHouseModel", name := "shabbyAt", desc := "(I)I" } : Jvm.MethodName)) ∈ lw_all := lw_g (lw_at lw_m10 145 rfl) rfl
theorem q2403 : (Jvm.Cond.privateMethod ({ cls := "PittanceHouseModel", name := "shabbyAt", desc := "(I)I" } : Jvm.MethodName)) ∈ lw_tbl := lw_at lw_m10 146 rfl
theorem q2404 : (Jvm.Cond.instanceMethod ({ cls := "PittanceHouseModel", name := "shabbyAt", desc := "(I)I" } : Jvm.MethodName)) ∈ lw_all := lw_g (lw_at lw_m10 147 rfl) rfl
theorem q2405 : (Jvm.Cond.code ({ cls := "PittanceHouseModel", name := "shabbyAt", desc := "(I)I" } : Jvm.MethodName) prog_13_method_53_code (5 : Nat) (Option.some Jvm.ClassFile.FieldType.int)) ∈ lw_all := lw_g (lw_at lw_m10 148 rfl) rfl
theorem q2406 : (Jvm.Cond.methodLink "PittanceHouseModel" (177 : Nat) ({ cls := "PittanceHouseModel", name := "isShabbier", desc := "(II)Z" } : Jvm.MethodName)) ∈ lw_all := lw_g (lw_at lw_m10 149 rfl) rfl
theorem q2407 : (Jvm.Cond.privateMethod ({ cls := "PittanceHouseModel", name := "isShabbier", desc := "(II)Z" } : Jvm.MethodName)) ∈ lw_tbl := lw_at lw_m10 150 rfl
theorem q2408 : (Jvm.Cond.instanceMethod ({ cls := "PittanceHouseModel", name := "isShabbier", desc := "(II)Z" } : Jvm.MethodName)) ∈ lw_all := lw_g (lw_at lw_m10 151 rfl) rfl
theorem q2409 : (Jvm.Cond.code ({ cls := "PittanceHouseModel", name := "isShabbier", desc := "(II)Z" } : Jvm.MethodName) prog_13_method_52_code (3 : Nat) (Option.some Jvm.ClassFile.FieldType.boolean)) ∈ lw_all := lw_g (lw_at lw_m10 152 rfl) rfl
theorem q2410 : (Jvm.Cond.methodLink "PittanceHouseModel" (174 : Nat) ({ cls := "PittanceHouseModel", name := "isSeniorTo", desc := "(II)Z" } : Jvm.MethodName)) ∈ lw_all := lw_g (lw_at lw_m10 153 rfl) rfl
theorem q2411 : (Jvm.Cond.privateMethod ({ cls := "PittanceHouseModel", name := "isSeniorTo", desc := "(II)Z" } : Jvm.MethodName)) ∈ lw_tbl := lw_at lw_m10 154 rfl
theorem q2412 : (Jvm.Cond.instanceMethod ({ cls := "PittanceHouseModel", name := "isSeniorTo", desc := "(II)Z" } : Jvm.MethodName)) ∈ lw_all := lw_g (lw_at lw_m10 155 rfl) rfl
theorem q2413 : (Jvm.Cond.code ({ cls := "PittanceHouseModel", name := "isSeniorTo", desc := "(II)Z" } : Jvm.MethodName) prog_13_method_51_code (3 : Nat) (Option.some Jvm.ClassFile.FieldType.boolean)) ∈ lw_all := lw_g (lw_at lw_m10 156 rfl) rfl
theorem q2415 : (Jvm.Cond.instanceMethod ({ cls := "PittanceHouseModel", name := "wouldGet", desc := "(II)I" } : Jvm.MethodName)) ∈ lw_all := lw_g (lw_at lw_m10 158 rfl) rfl
theorem q2416 : (Jvm.Cond.selects "PittanceHouseModel" ({ cls := "PittanceHouseModel", name := "wouldGet", desc := "(II)I" } : Jvm.MethodName) ({ cls := "PittanceHouseModel", name := "wouldGet", desc := "(II)I" } : Jvm.MethodName)) ∈ lw_all := lw_g (lw_at lw_m10 159 rfl) rfl
theorem q2417 : (Jvm.Cond.code ({ cls := "PittanceHouseModel", name := "wouldGet", desc := "(II)I" } : Jvm.MethodName) prog_13_method_58_code (5 : Nat) (Option.some Jvm.ClassFile.FieldType.int)) ∈ lw_all := lw_g (lw_at lw_m10 160 rfl) rfl
theorem q2418 : (Jvm.Cond.methodLink "PittanceHouseModel" (195 : Nat) ({ cls := "PittanceHouseModel", name := "forgets", desc := "()V" } : Jvm.MethodName)) ∈ lw_all := lw_g (lw_at lw_m10 161 rfl) rfl
theorem q2419 : (Jvm.Cond.privateMethod ({ cls := "PittanceHouseModel", name := "forgets", desc := "()V" } : Jvm.MethodName)) ∈ lw_tbl := lw_at lw_m10 162 rfl
theorem q2420 : (Jvm.Cond.instanceMethod ({ cls := "PittanceHouseModel", name := "forgets", desc := "()V" } : Jvm.MethodName)) ∈ lw_all := lw_g (lw_at lw_m10 163 rfl) rfl
theorem q2421 : (Jvm.Cond.code ({ cls := "PittanceHouseModel", name := "forgets", desc := "()V" } : Jvm.MethodName) prog_13_method_8_code (2 : Nat) (Option.none : Option Jvm.ClassFile.FieldType)) ∈ lw_all := lw_g (lw_at lw_m10 164 rfl) rfl
theorem q2423 : (Jvm.Cond.instanceMethod ({ cls := "PittanceHouseModel", name := "chestIn", desc := "(I)I" } : Jvm.MethodName)) ∈ lw_all := lw_g (lw_at lw_m10 166 rfl) rfl
theorem q2424 : (Jvm.Cond.selects "PittanceHouseModel" ({ cls := "PittanceHouseModel", name := "chestIn", desc := "(I)I" } : Jvm.MethodName) ({ cls := "PittanceHouseModel", name := "chestIn", desc := "(I)I" } : Jvm.MethodName)) ∈ lw_all := lw_g (lw_at lw_m10 167 rfl) rfl
theorem q2425 : (Jvm.Cond.code ({ cls := "PittanceHouseModel", name := "chestIn", desc := "(I)I" } : Jvm.MethodName) prog_13_method_59_code (3 : Nat) (Option.some Jvm.ClassFile.FieldType.int)) ∈ lw_all := lw_g (lw_at lw_m10 168 rfl) rfl
theorem q2427 : (Jvm.Cond.instanceMethod ({ cls := "PittanceHouseModel", name := "brotherOf", desc := "(II)I" } : Jvm.MethodName)) ∈ lw_all := lw_g (lw_at lw_m10 170 rfl) rfl
theorem q2428 : (Jvm.Cond.selects "PittanceHouseModel" ({ cls := "PittanceHouseModel", name := "brotherOf", desc := "(II)I" } : Jvm.MethodName) ({ cls := "PittanceHouseModel", name := "brotherOf", desc := "(II)I" } : Jvm.MethodName)) ∈ lw_all := lw_g (lw_at lw_m10 171 rfl) rfl
theorem q2429 : (Jvm.Cond.code ({ cls := "PittanceHouseModel", name := "brotherOf", desc := "(II)I" } : Jvm.MethodName) prog_13_method_62_code (3 : Nat) (Option.some Jvm.ClassFile.FieldType.int)) ∈ lw_all := lw_g (lw_at lw_m10 172 rfl) rfl
theorem q2430 : (Jvm.Cond.methodLink "PittanceHouseModel" (198 : Nat) ({ cls := "PittanceHouseModel", name := "brokeAll", desc := "(I)I" } : Jvm.MethodName)) ∈ lw_all := lw_g (lw_at lw_m10 173 rfl) rfl
theorem q2431 : (Jvm.Cond.privateMethod ({ cls := "PittanceHouseModel", name := "brokeAll", desc := "(I)I" } : Jvm.MethodName)) ∈ lw_tbl := lw_at lw_m10 174 rfl
theorem q2432 : (Jvm.Cond.instanceMethod ({ cls := "PittanceHouseModel", name := "brokeAll", desc := "(I)I" } : Jvm.MethodName)) ∈ lw_all := lw_g (lw_at lw_m10 175 rfl) rfl
theorem q2433 : (Jvm.Cond.code ({ cls := "PittanceHouseModel", name := "brokeAll", desc := "(I)I" } : Jvm.MethodName) prog_13_method_61_code (4 : Nat) (Option.some Jvm.ClassFile.FieldType.int)) ∈ lw_all := lw_g (lw_at lw_m10 176 rfl) rfl
theorem q2434 : (Jvm.Cond.methodLink "PittanceHouseModel" (201 : Nat) ({ cls := "PittanceHouseModel", name := "placeInLine", desc := "(I)I" } : Jvm.MethodName)) ∈ lw_all := lw_g (lw_at lw_m10 177 rfl) rfl
theorem q2435 : (Jvm.Cond.privateMethod ({ cls := "PittanceHouseModel", name := "placeInLine", desc := "(I)I" } : Jvm.MethodName)) ∈ lw_tbl := lw_at lw_m10 178 rfl
theorem q2436 : (Jvm.Cond.instanceMethod ({ cls := "PittanceHouseModel", name := "placeInLine", desc := "(I)I" } : Jvm.MethodName)) ∈ lw_all := lw_g (lw_at lw_m10 179 rfl) rfl
theorem q2437 : (Jvm.Cond.code ({ cls := "PittanceHouseModel", name := "placeInLine", desc := "(I)I" } : Jvm.MethodName) prog_13_method_60_code (4 : Nat) (Option.some Jvm.ClassFile.FieldType.int)) ∈ lw_all := lw_g (lw_at lw_m10 180 rfl) rfl
theorem q2439 : (Jvm.Cond.instanceMethod ({ cls := "PittanceHouseModel", name := "broke", desc := "(II)I" } : Jvm.MethodName)) ∈ lw_all := lw_g (lw_at lw_m10 182 rfl) rfl
theorem q2440 : (Jvm.Cond.selects "PittanceHouseModel" ({ cls := "PittanceHouseModel", name := "broke", desc := "(II)I" } : Jvm.MethodName) ({ cls := "PittanceHouseModel", name := "broke", desc := "(II)I" } : Jvm.MethodName)) ∈ lw_all := lw_g (lw_at lw_m10 183 rfl) rfl
theorem q2441 : (Jvm.Cond.code ({ cls := "PittanceHouseModel", name := "broke", desc := "(II)I" } : Jvm.MethodName) prog_13_method_63_code (3 : Nat) (Option.some Jvm.ClassFile.FieldType.int)) ∈ lw_all := lw_g (lw_at lw_m10 184 rfl) rfl
theorem q2443 : (Jvm.Cond.instanceMethod ({ cls := "PittanceHouseModel", name := "inCell", desc := "(I)I" } : Jvm.MethodName)) ∈ lw_all := lw_g (lw_at lw_m10 186 rfl) rfl
theorem q2444 : (Jvm.Cond.selects "PittanceHouseModel" ({ cls := "PittanceHouseModel", name := "inCell", desc := "(I)I" } : Jvm.MethodName) ({ cls := "PittanceHouseModel", name := "inCell", desc := "(I)I" } : Jvm.MethodName)) ∈ lw_all := lw_g (lw_at lw_m10 187 rfl) rfl
theorem q2445 : (Jvm.Cond.code ({ cls := "PittanceHouseModel", name := "inCell", desc := "(I)I" } : Jvm.MethodName) prog_13_method_64_code (2 : Nat) (Option.some Jvm.ClassFile.FieldType.int)) ∈ lw_all := lw_g (lw_at lw_m10 188 rfl) rfl
theorem q2447 : (Jvm.Cond.instanceMethod ({ cls := "PittanceHouseModel", name := "entitled", desc := "()I" } : Jvm.MethodName)) ∈ lw_all := lw_g (lw_at lw_m10 190 rfl) rfl
theorem q2448 : (Jvm.Cond.selects "PittanceHouseModel" ({ cls := "PittanceHouseModel", name := "entitled", desc := "()I" } : Jvm.MethodName) ({ cls := "PittanceHouseModel", name := "entitled", desc := "()I" } : Jvm.MethodName)) ∈ lw_all := lw_g (lw_at lw_m10 191 rfl) rfl
theorem q2449 : (Jvm.Cond.code ({ cls := "PittanceHouseModel", name := "entitled", desc := "()I" } : Jvm.MethodName) prog_13_method_65_code (3 : Nat) (Option.some Jvm.ClassFile.FieldType.int)) ∈ lw_all := lw_g (lw_at lw_m10 192 rfl) rfl
theorem q2451 : (Jvm.Cond.instanceMethod ({ cls := "PittanceHouseModel", name := "entitledAgain", desc := "()I" } : Jvm.MethodName)) ∈ lw_all := lw_g (lw_at lw_m10 194 rfl) rfl
theorem q2452 : (Jvm.Cond.selects "PittanceHouseModel" ({ cls := "PittanceHouseModel", name := "entitledAgain", desc := "()I" } : Jvm.MethodName) ({ cls := "PittanceHouseModel", name := "entitledAgain", desc := "()I" } : Jvm.MethodName)) ∈ lw_all := lw_g (lw_at lw_m10 195 rfl) rfl
theorem q2453 : (Jvm.Cond.code ({ cls := "PittanceHouseModel", name := "entitledAgain", desc := "()I" } : Jvm.MethodName) prog_13_method_66_code (4 : Nat) (Option.some Jvm.ClassFile.FieldType.int)) ∈ lw_all := lw_g (lw_at lw_m10 196 rfl) rfl
theorem q2455 : (Jvm.Cond.instanceMethod ({ cls := "PittanceHouseModel", name := "voices", desc := "(I)I" } : Jvm.MethodName)) ∈ lw_all := lw_g (lw_at lw_m10 198 rfl) rfl
theorem q2456 : (Jvm.Cond.selects "PittanceHouseModel" ({ cls := "PittanceHouseModel", name := "voices", desc := "(I)I" } : Jvm.MethodName) ({ cls := "PittanceHouseModel", name := "voices", desc := "(I)I" } : Jvm.MethodName)) ∈ lw_all := lw_g (lw_at lw_m10 199 rfl) rfl
theorem q2457 : (Jvm.Cond.code ({ cls := "PittanceHouseModel", name := "voices", desc := "(I)I" } : Jvm.MethodName) prog_13_method_67_code (2 : Nat) (Option.some Jvm.ClassFile.FieldType.int)) ∈ lw_all := lw_g (lw_at lw_m10 200 rfl) rfl
theorem q2459 : (Jvm.Cond.instanceMethod ({ cls := "PittanceHouseModel", name := "voicesAgain", desc := "(I)I" } : Jvm.MethodName)) ∈ lw_all := lw_g (lw_at lw_m10 202 rfl) rfl
theorem q2460 : (Jvm.Cond.selects "PittanceHouseModel" ({ cls := "PittanceHouseModel", name := "voicesAgain", desc := "(I)I" } : Jvm.MethodName) ({ cls := "PittanceHouseModel", name := "voicesAgain", desc := "(I)I" } : Jvm.MethodName)) ∈ lw_all := lw_g (lw_at lw_m10 203 rfl) rfl
theorem q2461 : (Jvm.Cond.code ({ cls := "PittanceHouseModel", name := "voicesAgain", desc := "(I)I" } : Jvm.MethodName) prog_13_method_68_code (4 : Nat) (Option.some Jvm.ClassFile.FieldType.int)) ∈ lw_all := lw_g (lw_at lw_m10 204 rfl) rfl
theorem q2463 : (Jvm.Cond.instanceMethod ({ cls := "PittanceHouseModel", name := "ranked", desc := "(I)I" } : Jvm.MethodName)) ∈ lw_all := lw_g (lw_at lw_m10 206 rfl) rfl
theorem q2464 : (Jvm.Cond.selects "PittanceHouseModel" ({ cls := "PittanceHouseModel", name := "ranked", desc := "(I)I" } : Jvm.MethodName) ({ cls := "PittanceHouseModel", name := "ranked", desc := "(I)I" } : Jvm.MethodName)) ∈ lw_all := lw_g (lw_at lw_m10 207 rfl) rfl
theorem q2465 : (Jvm.Cond.code ({ cls := "PittanceHouseModel", name := "ranked", desc := "(I)I" } : Jvm.MethodName) prog_13_method_69_code (2 : Nat) (Option.some Jvm.ClassFile.FieldType.int)) ∈ lw_all := lw_g (lw_at lw_m10 208 rfl) rfl
theorem q2467 : (Jvm.Cond.instanceMethod ({ cls := "PittanceHouseModel", name := "senior", desc := "(I)I" } : Jvm.MethodName)) ∈ lw_all := lw_g (lw_at lw_m10 210 rfl) rfl
theorem q2468 : (Jvm.Cond.selects "PittanceHouseModel" ({ cls := "PittanceHouseModel", name := "senior", desc := "(I)I" } : Jvm.MethodName) ({ cls := "PittanceHouseModel", name := "senior", desc := "(I)I" } : Jvm.MethodName)) ∈ lw_all := lw_g (lw_at lw_m10 211 rfl) rfl
theorem q2469 : (Jvm.Cond.code ({ cls := "PittanceHouseModel", name := "senior", desc := "(I)I" } : Jvm.MethodName) prog_13_method_70_code (5 : Nat) (Option.some Jvm.ClassFile.FieldType.int)) ∈ lw_all := lw_g (lw_at lw_m10 212 rfl) rfl
theorem q2471 : (Jvm.Cond.instanceMethod ({ cls := "PittanceHouseModel", name := "shabby", desc := "(I)I" } : Jvm.MethodName)) ∈ lw_all := lw_g (lw_at lw_m10 214 rfl) rfl
theorem q2472 : (Jvm.Cond.selects "PittanceHouseModel" ({ cls := "PittanceHouseModel", name := "shabby", desc := "(I)I" } : Jvm.MethodName) ({ cls := "PittanceHouseModel", name := "shabby", desc := "(I)I" } : Jvm.MethodName)) ∈ lw_all := lw_g (lw_at lw_m10 215 rfl) rfl
theorem q2473 : (Jvm.Cond.code ({ cls := "PittanceHouseModel", name := "shabby", desc := "(I)I" } : Jvm.MethodName) prog_13_method_71_code (2 : Nat) (Option.some Jvm.ClassFile.FieldType.int)) ∈ lw_all := lw_g (lw_at lw_m10 216 rfl) rfl
theorem q2475 : (Jvm.Cond.instanceMethod ({ cls := "PittanceHouseModel", name := "nextFeast", desc := "()I" } : Jvm.MethodName)) ∈ lw_all := lw_g (lw_at lw_m10 218 rfl) rfl
theorem q2476 : (Jvm.Cond.selects "PittanceHouseModel" ({ cls := "PittanceHouseModel", name := "nextFeast", desc := "()I" } : Jvm.MethodName) ({ cls := "PittanceHouseModel", name := "nextFeast", desc := "()I" } : Jvm.MethodName)) ∈ lw_all := lw_g (lw_at lw_m10 219 rfl) rfl
theorem q2477 : (Jvm.Cond.code ({ cls := "PittanceHouseModel", name := "nextFeast", desc := "()I" } : Jvm.MethodName) prog_13_method_72_code (2 : Nat) (Option.some Jvm.ClassFile.FieldType.int)) ∈ lw_all := lw_g (lw_at lw_m10 220 rfl) rfl
theorem q2479 : (Jvm.Cond.instanceMethod ({ cls := "PittanceHouseModel", name := "append", desc := "(I)I" } : Jvm.MethodName)) ∈ lw_all := lw_g (lw_at lw_m10 222 rfl) rfl
theorem q2480 : (Jvm.Cond.selects "PittanceHouseModel" ({ cls := "PittanceHouseModel", name := "append", desc := "(I)I" } : Jvm.MethodName) ({ cls := "PittanceHouseModel", name := "append", desc := "(I)I" } : Jvm.MethodName)) ∈ lw_all := lw_g (lw_at lw_m10 223 rfl) rfl
theorem q2481 : (Jvm.Cond.code ({ cls := "PittanceHouseModel", name := "append", desc := "(I)I" } : Jvm.MethodName) prog_13_method_73_code (2 : Nat) (Option.some Jvm.ClassFile.FieldType.int)) ∈ lw_all := lw_g (lw_at lw_m10 224 rfl) rfl
theorem q2483 : (Jvm.Cond.instanceMethod ({ cls := "PittanceHouseModel", name := "run", desc := "()I" } : Jvm.MethodName)) ∈ lw_all := lw_g (lw_at lw_m10 226 rfl) rfl
theorem q2484 : (Jvm.Cond.selects "PittanceHouseModel" ({ cls := "PittanceHouseModel", name := "run", desc := "()I" } : Jvm.MethodName) ({ cls := "PittanceHouseModel", name := "run", desc := "()I" } : Jvm.MethodName)) ∈ lw_all := lw_g (lw_at lw_m10 227 rfl) rfl
theorem q2485 : (Jvm.Cond.code ({ cls := "PittanceHouseModel", name := "run", desc := "()I" } : Jvm.MethodName) prog_13_method_83_code (2 : Nat) (Option.some Jvm.ClassFile.FieldType.int)) ∈ lw_all := lw_g (lw_at lw_m10 228 rfl) rfl
theorem q2486 : (Jvm.Cond.methodLink "PittanceHouseModel" (238 : Nat) ({ cls := "PittanceHouseModel", name := "readsAll", desc := "()Z" } : Jvm.MethodName)) ∈ lw_all := lw_g (lw_at lw_m10 229 rfl) rfl
theorem q2487 : (Jvm.Cond.privateMethod ({ cls := "PittanceHouseModel", name := "readsAll", desc := "()Z" } : Jvm.MethodName)) ∈ lw_tbl := lw_at lw_m10 230 rfl
theorem q2488 : (Jvm.Cond.instanceMethod ({ cls := "PittanceHouseModel", name := "readsAll", desc := "()Z" } : Jvm.MethodName)) ∈ lw_all := lw_g (lw_at lw_m10 231 rfl) rfl
theorem q2489 : (Jvm.Cond.code ({ cls := "PittanceHouseModel", name := "readsAll", desc := "()Z" } : Jvm.MethodName) prog_13_method_79_code (2 : Nat) (Option.some Jvm.ClassFile.FieldType.boolean)) ∈ lw_all := lw_g (lw_at lw_m10 232 rfl) rfl
theorem q2490 : (Jvm.Cond.methodLink "PittanceHouseModel" (225 : Nat) ({ cls := "PittanceHouseModel", name := "readsOrder", desc := "()Z" } : Jvm.MethodName)) ∈ lw_all := lw_g (lw_at lw_m10 233 rfl) rfl
theorem q2491 : (Jvm.Cond.privateMethod ({ cls := "PittanceHouseModel", name := "readsOrder", desc := "()Z" } : Jvm.MethodName)) ∈ lw_tbl := lw_at lw_m10 234 rfl
theorem q2492 : (Jvm.Cond.instanceMethod ({ cls := "PittanceHouseModel", name := "readsOrder", desc := "()Z" } : Jvm.MethodName)) ∈ lw_all := lw_g (lw_at lw_m10 235 rfl) rfl
theorem q2493 : (Jvm.Cond.code ({ cls := "PittanceHouseModel", name := "readsOrder", desc := "()Z" } : Jvm.MethodName) prog_13_method_78_code (1 : Nat) (Option.some Jvm.ClassFile.FieldType.boolean)) ∈ lw_all := lw_g (lw_at lw_m10 236 rfl) rfl
theorem q2494 : (Jvm.Cond.methodLink "PittanceHouseModel" (213 : Nat) ({ cls := "PittanceHouseModel", name := "reads", desc := "(I)Z" } : Jvm.MethodName)) ∈ lw_all := lw_g (lw_at lw_m10 237 rfl) rfl
theorem q2495 : (Jvm.Cond.privateMethod ({ cls := "PittanceHouseModel", name := "reads", desc := "(I)Z" } : Jvm.MethodName)) ∈ lw_tbl := lw_at lw_m10 238 rfl
theorem q2496 : (Jvm.Cond.instanceMethod ({ cls := "PittanceHouseModel", name := "reads", desc := "(I)Z" } : Jvm.MethodName)) ∈ lw_all := lw_g (lw_at lw_m10 239 rfl) rfl
theorem q2497 : (Jvm.Cond.code ({ cls := "PittanceHouseModel", name := "reads", desc := "(I)Z" } : Jvm.MethodName) prog_13_method_75_code (2 : Nat) (Option.some Jvm.ClassFile.FieldType.boolean)) ∈ lw_all := lw_g (lw_at lw_m11 0 rfl) rfl
theorem q2498 : (Jvm.Cond.methodLink "PittanceHouseModel" (210 : Nat) ({ cls := "PittanceHouseModel", name := "sign", desc := "()I" } : Jvm.MethodName)) ∈ lw_all := lw_g (lw_at lw_m11 1 rfl) rfl
theorem q2499 : (Jvm.Cond.privateMethod ({ cls := "PittanceHouseModel", name := "sign", desc := "()I" } : Jvm.MethodName)) ∈ lw_tbl := lw_at lw_m11 2 rfl
theorem q2500 : (Jvm.Cond.instanceMethod ({ cls := "PittanceHouseModel", name := "sign", desc := "()I" } : Jvm.MethodName)) ∈ lw_all := lw_g (lw_at lw_m11 3 rfl) rfl
theorem q2501 : (Jvm.Cond.code ({ cls := "PittanceHouseModel", name := "sign", desc := "()I" } : Jvm.MethodName) prog_13_method_74_code (1 : Nat) (Option.some Jvm.ClassFile.FieldType.int)) ∈ lw_all := lw_g (lw_at lw_m11 4 rfl) rfl
theorem q2502 : (Jvm.Cond.methodLink "PittanceHouseModel" (222 : Nat) ({ cls := "PittanceHouseModel", name := "readsTwo", desc := "(III)Z" } : Jvm.MethodName)) ∈ lw_all := lw_g (lw_at lw_m11 5 rfl) rfl
theorem q2503 : (Jvm.Cond.privateMethod ({ cls := "PittanceHouseModel", name := "readsTwo", desc := "(III)Z" } : Jvm.MethodName)) ∈ lw_tbl := lw_at lw_m11 6 rfl
theorem q2504 : (Jvm.Cond.instanceMethod ({ cls := "PittanceHouseModel", name := "readsTwo", desc := "(III)Z" } : Jvm.MethodName)) ∈ lw_all := lw_g (lw_at lw_m11 7 rfl) rfl
theorem q2505 : (Jvm.Cond.code ({ cls := "PittanceHouseModel", name := "readsTwo", desc := "(III)Z" } : Jvm.MethodName) prog_13_method_77_code (4 : Nat) (Option.some Jvm.ClassFile.FieldType.boolean)) ∈ lw_all := lw_g (lw_at lw_m11 8 rfl) rfl
theorem q2506 : (Jvm.Cond.methodLink "PittanceHouseModel" (219 : Nat) ({ cls := "PittanceHouseModel", name := "readsNumber", desc := "(II)Z" } : Jvm.MethodName)) ∈ lw_all := lw_g (lw_at lw_m11 9 rfl) rfl
theorem q2507 : (Jvm.Cond.privateMethod ({ cls := "PittanceHouseModel", name := "readsNumber", desc := "(II)Z" } : Jvm.MethodName)) ∈ lw_tbl := lw_at lw_m11 10 rfl
theorem q2508 : (Jvm.Cond.instanceMethod ({ cls := "PittanceHouseModel", name := "readsNumber", desc := "(II)Z" } : Jvm.MethodName)) ∈ lw_all := lw_g (lw_at lw_m11 11 rfl) rfl
theorem q2509 : (Jvm.Cond.code ({ cls := "PittanceHouseModel", name := "readsNumber", desc := "(II)Z" } : Jvm.MethodName) prog_13_method_76_code (4 : Nat) (Option.some Jvm.ClassFile.FieldType.boolean)) ∈ lw_all := lw_g (lw_at lw_m11 12 rfl) rfl
theorem q2510 : (Jvm.Cond.methodLink "PittanceHouseModel" (241 : Nat) ({ cls := "PittanceHouseModel", name := "doesAll", desc := "()Z" } : Jvm.MethodName)) ∈ lw_all := lw_g (lw_at lw_m11 13 rfl) rfl
theorem q2511 : (Jvm.Cond.privateMethod ({ cls := "PittanceHouseModel", name := "doesAll", desc := "()Z" } : Jvm.MethodName)) ∈ lw_tbl := lw_at lw_m11 14 rfl
theorem q2512 : (Jvm.Cond.instanceMethod ({ cls := "PittanceHouseModel", name := "doesAll", desc := "()Z" } : Jvm.MethodName)) ∈ lw_all := lw_g (lw_at lw_m11 15 rfl) rfl
theorem q2513 : (Jvm.Cond.code ({ cls := "PittanceHouseModel", name := "doesAll", desc := "()Z" } : Jvm.MethodName) prog_13_method_82_code (2 : Nat) (Option.some Jvm.ClassFile.FieldType.boolean)) ∈ lw_all := lw_g (lw_at lw_m11 16 rfl) rfl
theorem q2514 : (Jvm.Cond.methodLink "PittanceHouseModel" (232 : Nat) ({ cls := "PittanceHouseModel", name := "notNow", desc := "()I" } : Jvm.MethodName)) ∈ lw_all := lw_g (lw_at lw_m11 17 rfl) rfl
theorem q2515 : (Jvm.Cond.privateMethod ({ cls := "PittanceHouseModel", name := "notNow", desc := "()I" } : Jvm.MethodName)) ∈ lw_tbl := lw_at lw_m11 18 rfl
theorem q2516 : (Jvm.Cond.instanceMethod ({ cls := "PittanceHouseModel", name := "notNow", desc := "()I" } : Jvm.MethodName)) ∈ lw_all := lw_g (lw_at lw_m11 19 rfl) rfl
theorem q2517 : (Jvm.Cond.code ({ cls := "PittanceHouseModel", name := "notNow", desc := "()I" } : Jvm.MethodName) prog_13_method_80_code (3 : Nat) (Option.some Jvm.ClassFile.FieldType.int)) ∈ lw_all := lw_g (lw_at lw_m11 20 rfl) rfl
theorem q2518 : (Jvm.Cond.methodLink "PittanceHouseModel" (235 : Nat) ({ cls := "PittanceHouseModel", name := "doesNow", desc := "()I" } : Jvm.MethodName)) ∈ lw_all := lw_g (lw_at lw_m11 21 rfl) rfl
theorem q2519 : (Jvm.Cond.privateMethod ({ cls := "PittanceHouseModel", name := "doesNow", desc := "()I" } : Jvm.MethodName)) ∈ lw_tbl := lw_at lw_m11 22 rfl
theorem q2520 : (Jvm.Cond.instanceMethod ({ cls := "PittanceHouseModel", name := "doesNow", desc := "()I" } : Jvm.MethodName)) ∈ lw_all := lw_g (lw_at lw_m11 23 rfl) rfl
theorem q2521 : (Jvm.Cond.code ({ cls := "PittanceHouseModel", name := "doesNow", desc := "()I" } : Jvm.MethodName) prog_13_method_81_code (3 : Nat) (Option.some Jvm.ClassFile.FieldType.int)) ∈ lw_all := lw_g (lw_at lw_m11 24 rfl) rfl
theorem q2523 : (Jvm.Cond.instanceMethod ({ cls := "PittanceHouseModel", name := "tell", desc := "()I" } : Jvm.MethodName)) ∈ lw_all := lw_g (lw_at lw_m11 26 rfl) rfl
theorem q2524 : (Jvm.Cond.selects "PittanceHouseModel" ({ cls := "PittanceHouseModel", name := "tell", desc := "()I" } : Jvm.MethodName) ({ cls := "PittanceHouseModel", name := "tell", desc := "()I" } : Jvm.MethodName)) ∈ lw_all := lw_g (lw_at lw_m11 27 rfl) rfl
theorem q2525 : (Jvm.Cond.code ({ cls := "PittanceHouseModel", name := "tell", desc := "()I" } : Jvm.MethodName) prog_13_method_87_code (2 : Nat) (Option.some Jvm.ClassFile.FieldType.int)) ∈ lw_all := lw_g (lw_at lw_m11 28 rfl) rfl
theorem q2526 : (Jvm.Cond.methodLink "PittanceHouseModel" (247 : Nat) ({ cls := "PittanceHouseModel", name := "writes", desc := "(I)V" } : Jvm.MethodName)) ∈ lw_all := lw_g (lw_at lw_m11 29 rfl) rfl
theorem q2527 : (Jvm.Cond.privateMethod ({ cls := "PittanceHouseModel", name := "writes", desc := "(I)V" } : Jvm.MethodName)) ∈ lw_tbl := lw_at lw_m11 30 rfl
theorem q2528 : (Jvm.Cond.instanceMethod ({ cls := "PittanceHouseModel", name := "writes", desc := "(I)V" } : Jvm.MethodName)) ∈ lw_all := lw_g (lw_at lw_m11 31 rfl) rfl
theorem q2529 : (Jvm.Cond.code ({ cls := "PittanceHouseModel", name := "writes", desc := "(I)V" } : Jvm.MethodName) prog_13_method_84_code (2 : Nat) (Option.none : Option Jvm.ClassFile.FieldType)) ∈ lw_all := lw_g (lw_at lw_m11 32 rfl) rfl
theorem q2530 : (Jvm.Cond.methodLink "PittanceHouseModel" (253 : Nat) ({ cls := "PittanceHouseModel", name := "writesCell", desc := "(I)V" } : Jvm.MethodName)) ∈ lw_all := lw_g (lw_at lw_m11 33 rfl) rfl
theorem q2531 : (Jvm.Cond.privateMethod ({ cls := "PittanceHouseModel", name := "writesCell", desc := "(I)V" } : Jvm.MethodName)) ∈ lw_tbl := lw_at lw_m11 34 rfl
theorem q2532 : (Jvm.Cond.instanceMethod ({ cls := "PittanceHouseModel", name := "writesCell", desc := "(I)V" } : Jvm.MethodName)) ∈ lw_all := lw_g (lw_at lw_m11 35 rfl) rfl
theorem q2533 : (Jvm.Cond.code ({ cls := "PittanceHouseModel", name := "writesCell", desc := "(I)V" } : Jvm.MethodName) prog_13_method_86_code (3 : Nat) (Option.none : Option Jvm.ClassFile.FieldType)) ∈ lw_all := lw_g (lw_at lw_m11 36 rfl) rfl
theorem q2534 : (Jvm.Cond.methodLink "PittanceHouseModel" (250 : Nat) ({ cls := "PittanceHouseModel", name := "writesNumber", desc := "(I)V" } : Jvm.MethodName)) ∈ lw_all := lw_g (lw_at lw_m11 37 rfl) rfl
theorem q2535 : (Jvm.Cond.privateMethod ({ cls := "PittanceHouseModel", name := "writesNumber", desc := "(I)V" } : Jvm.MethodName)) ∈ lw_tbl := lw_at lw_m11 38 rfl
theorem q2536 : (Jvm.Cond.instanceMethod ({ cls := "PittanceHouseModel", name := "writesNumber", desc := "(I)V" } : Jvm.MethodName)) ∈ lw_all := lw_g (lw_at lw_m11 39 rfl) rfl
theorem q2537 : (Jvm.Cond.code ({ cls := "PittanceHouseModel", name := "writesNumber", desc := "(I)V" } : Jvm.MethodName) prog_13_method_85_code (2 : Nat) (Option.none : Option Jvm.ClassFile.FieldType)) ∈ lw_all := lw_g (lw_at lw_m11 40 rfl) rfl
theorem q2539 : (Jvm.Cond.instanceMethod ({ cls := "PittanceHouseModel", name := "tellWaiting", desc := "()I" } : Jvm.MethodName)) ∈ lw_all := lw_g (lw_at lw_m11 42 rfl) rfl
theorem q2540 : (Jvm.Cond.selects "PittanceHouseModel" ({ cls := "PittanceHouseModel", name := "tellWaiting", desc := "()I" } : Jvm.MethodName) ({ cls := "PittanceHouseModel", name := "tellWaiting", desc := "()I" } : Jvm.MethodName)) ∈ lw_all := lw_g (lw_at lw_m11 43 rfl) rfl
theorem q2541 : (Jvm.Cond.code ({ cls := "PittanceHouseModel", name := "tellWaiting", desc := "()I" } : Jvm.MethodName) prog_13_method_89_code (3 : Nat) (Option.some Jvm.ClassFile.FieldType.int)) ∈ lw_all := lw_g (lw_at lw_m11 44 rfl) rfl
theorem q2542 : (Jvm.Cond.methodLink "PittanceHouseModel" (256 : Nat) ({ cls := "PittanceHouseModel", name := "inLine", desc := "(I)I" } : Jvm.MethodName)) ∈ lw_all := lw_g (lw_at lw_m11 45 rfl) rfl
theorem q2543 : (Jvm.Cond.privateMethod ({ cls := "PittanceHouseModel", name := "inLine", desc := "(I)I" } : Jvm.MethodName)) ∈ lw_tbl := lw_at lw_m11 46 rfl
theorem q2544 : (Jvm.Cond.instanceMethod ({ cls := "PittanceHouseModel", name := "inLine", desc := "(I)I" } : Jvm.MethodName)) ∈ lw_all := lw_g (lw_at lw_m11 47 rfl) rfl
theorem q2545 : (Jvm.Cond.code ({ cls := "PittanceHouseModel", name := "inLine", desc := "(I)I" } : Jvm.MethodName) prog_13_method_88_code (3 : Nat) (Option.some Jvm.ClassFile.FieldType.int)) ∈ lw_all := lw_g (lw_at lw_m11 48 rfl) rfl
theorem q2547 : (Jvm.Cond.instanceMethod ({ cls := "PittanceHouseModel", name := "character", desc := "(I)I" } : Jvm.MethodName)) ∈ lw_all := lw_g (lw_at lw_m11 50 rfl) rfl
theorem q2548 : (Jvm.Cond.selects "PittanceHouseModel" ({ cls := "PittanceHouseModel", name := "character", desc := "(I)I" } : Jvm.MethodName) ({ cls := "PittanceHouseModel", name := "character", desc := "(I)I" } : Jvm.MethodName)) ∈ lw_all := lw_g (lw_at lw_m11 51 rfl) rfl
theorem q2549 : (Jvm.Cond.code ({ cls := "PittanceHouseModel", name := "character", desc := "(I)I" } : Jvm.MethodName) prog_13_method_90_code (2 : Nat) (Option.some Jvm.ClassFile.FieldType.int)) ∈ lw_all := lw_g (lw_at lw_m11 52 rfl) rfl
theorem q2551 : (Jvm.Cond.instanceMethod ({ cls := "PittanceHouseModel", name := "account", desc := "(I)I" } : Jvm.MethodName)) ∈ lw_all := lw_g (lw_at lw_m11 54 rfl) rfl
theorem q2552 : (Jvm.Cond.selects "PittanceHouseModel" ({ cls := "PittanceHouseModel", name := "account", desc := "(I)I" } : Jvm.MethodName) ({ cls := "PittanceHouseModel", name := "account", desc := "(I)I" } : Jvm.MethodName)) ∈ lw_all := lw_g (lw_at lw_m11 55 rfl) rfl
theorem q2553 : (Jvm.Cond.code ({ cls := "PittanceHouseModel", name := "account", desc := "(I)I" } : Jvm.MethodName) prog_13_method_93_code (2 : Nat) (Option.some Jvm.ClassFile.FieldType.int)) ∈ lw_all := lw_g (lw_at lw_m11 56 rfl) rfl
theorem q2554 : (Jvm.Cond.methodLink "PittanceHouseModel" (259 : Nat) ({ cls := "PittanceHouseModel", name := "banned", desc := "()I" } : Jvm.MethodName)) ∈ lw_all := lw_g (lw_at lw_m11 57 rfl) rfl
theorem q2555 : (Jvm.Cond.privateMethod ({ cls := "PittanceHouseModel", name := "banned", desc := "()I" } : Jvm.MethodName)) ∈ lw_tbl := lw_at lw_m11 58 rfl
theorem q2556 : (Jvm.Cond.instanceMethod ({ cls := "PittanceHouseModel", name := "banned", desc := "()I" } : Jvm.MethodName)) ∈ lw_all := lw_g (lw_at lw_m11 59 rfl) rfl
theorem q2557 : (Jvm.Cond.code ({ cls := "PittanceHouseModel", name := "banned", desc := "()I" } : Jvm.MethodName) prog_13_method_91_code (3 : Nat) (Option.some Jvm.ClassFile.FieldType.int)) ∈ lw_all := lw_g (lw_at lw_m11 60 rfl) rfl
theorem q2559 : (Jvm.Cond.instanceMethod ({ cls := "PittanceHouseModel", name := "isBalanced", desc := "()I" } : Jvm.MethodName)) ∈ lw_all := lw_g (lw_at lw_m11 62 rfl) rfl
theorem q2560 : (Jvm.Cond.selects "PittanceHouseModel" ({ cls := "PittanceHouseModel", name := "isBalanced", desc := "()I" } : Jvm.MethodName) ({ cls := "PittanceHouseModel", name := "isBalanced", desc := "()I" } : Jvm.MethodName)) ∈ lw_all := lw_g (lw_at lw_m11 63 rfl) rfl
theorem q2561 : (Jvm.Cond.code ({ cls := "PittanceHouseModel", name := "isBalanced", desc := "()I" } : Jvm.MethodName) prog_13_method_94_code (4 : Nat) (Option.some Jvm.ClassFile.FieldType.int)) ∈ lw_all := lw_g (lw_at lw_m11 64 rfl) rfl
theorem q2562 : (Jvm.Cond.methodLink "PittanceHouseModel" (262 : Nat) ({ cls := "PittanceHouseModel", name := "gotAll", desc := "()I" } : Jvm.MethodName)) ∈ lw_all := lw_g (lw_at lw_m11 65 rfl) rfl
theorem q2563 : (Jvm.Cond.privateMethod ({ cls := "PittanceHouseModel", name := "gotAll", desc := "()I" } : Jvm.MethodName)) ∈ lw_tbl := lw_at lw_m11 66 rfl
theorem q2564 : (Jvm.Cond.instanceMethod ({ cls := "PittanceHouseModel", name := "gotAll", desc := "()I" } : Jvm.MethodName)) ∈ lw_all := lw_g (lw_at lw_m11 67 rfl) rfl
theorem q2565 : (Jvm.Cond.code ({ cls := "PittanceHouseModel", name := "gotAll", desc := "()I" } : Jvm.MethodName) prog_13_method_92_code (3 : Nat) (Option.some Jvm.ClassFile.FieldType.int)) ∈ lw_all := lw_g (lw_at lw_m11 68 rfl) rfl
theorem q2567 : (Jvm.Cond.instanceMethod ({ cls := "PittanceHouseModel", name := "meanAge", desc := "()D" } : Jvm.MethodName)) ∈ lw_all := lw_g (lw_at lw_m11 70 rfl) rfl
theorem q2568 : (Jvm.Cond.selects "PittanceHouseModel" ({ cls := "PittanceHouseModel", name := "meanAge", desc := "()D" } : Jvm.MethodName) ({ cls := "PittanceHouseModel", name := "meanAge", desc := "()D" } : Jvm.MethodName)) ∈ lw_all := lw_g (lw_at lw_m11 71 rfl) rfl
theorem q2569 : (Jvm.Cond.code ({ cls := "PittanceHouseModel", name := "meanAge", desc := "()D" } : Jvm.MethodName) prog_13_method_95_code (4 : Nat) (Option.some Jvm.ClassFile.FieldType.double)) ∈ lw_all := lw_g (lw_at lw_m11 72 rfl) rfl
theorem q2571 : (Jvm.Cond.instanceMethod ({ cls := "PittanceHouseModel", name := "entitledShare", desc := "()F" } : Jvm.MethodName)) ∈ lw_all := lw_g (lw_at lw_m11 74 rfl) rfl
theorem q2572 : (Jvm.Cond.selects "PittanceHouseModel" ({ cls := "PittanceHouseModel", name := "entitledShare", desc := "()F" } : Jvm.MethodName) ({ cls := "PittanceHouseModel", name := "entitledShare", desc := "()F" } : Jvm.MethodName)) ∈ lw_all := lw_g (lw_at lw_m11 75 rfl) rfl
theorem q2573 : (Jvm.Cond.code ({ cls := "PittanceHouseModel", name := "entitledShare", desc := "()F" } : Jvm.MethodName) prog_13_method_96_code (2 : Nat) (Option.some Jvm.ClassFile.FieldType.float)) ∈ lw_all := lw_g (lw_at lw_m11 76 rfl) rfl
theorem q2575 : (Jvm.Cond.instanceMethod ({ cls := "PittanceHouseModel", name := "undo", desc := "()I" } : Jvm.MethodName)) ∈ lw_all := lw_g (lw_at lw_m11 78 rfl) rfl
theorem q2576 : (Jvm.Cond.selects "PittanceHouseModel" ({ cls := "PittanceHouseModel", name := "undo", desc := "()I" } : Jvm.MethodName) ({ cls := "PittanceHouseModel", name := "undo", desc := "()I" } : Jvm.MethodName)) ∈ lw_all := lw_g (lw_at lw_m11 79 rfl) rfl
theorem q2577 : (Jvm.Cond.code ({ cls := "PittanceHouseModel", name := "undo", desc := "()I" } : Jvm.MethodName) prog_13_method_97_code (3 : Nat) (Option.some Jvm.ClassFile.FieldType.int)) ∈ lw_all := lw_g (lw_at lw_m11 80 rfl) rfl
theorem q2579 : (Jvm.Cond.instanceMethod ({ cls := "PittanceHouseModel", name := "save", desc := "()I" } : Jvm.MethodName)) ∈ lw_all := lw_g (lw_at lw_m11 82 rfl) rfl
theorem q2580 : (Jvm.Cond.selects "PittanceHouseModel" ({ cls := "PittanceHouseModel", name := "save", desc := "()I" } : Jvm.MethodName) ({ cls := "PittanceHouseModel", name := "save", desc := "()I" } : Jvm.MethodName)) ∈ lw_all := lw_g (lw_at lw_m11 83 rfl) rfl
theorem q2581 : (Jvm.Cond.code ({ cls := "PittanceHouseModel", name := "save", desc := "()I" } : Jvm.MethodName) prog_13_method_98_code (2 : Nat) (Option.some Jvm.ClassFile.FieldType.int)) ∈ lw_all := lw_g (lw_at lw_m11 84 rfl) rfl
theorem q2583 : (Jvm.Cond.instanceMethod ({ cls := "PittanceHouseModel", name := "restore", desc := "()I" } : Jvm.MethodName)) ∈ lw_all := lw_g (lw_at lw_m11 86 rfl) rfl
theorem q2584 : (Jvm.Cond.selects "PittanceHouseModel" ({ cls := "PittanceHouseModel", name := "restore", desc := "()I" } : Jvm.MethodName) ({ cls := "PittanceHouseModel", name := "restore", desc := "()I" } : Jvm.MethodName)) ∈ lw_all := lw_g (lw_at lw_m11 87 rfl) rfl
theorem q2585 : (Jvm.Cond.code ({ cls := "PittanceHouseModel", name := "restore", desc := "()I" } : Jvm.MethodName) prog_13_method_99_code (2 : Nat) (Option.some Jvm.ClassFile.FieldType.int)) ∈ lw_all := lw_g (lw_at lw_m11 88 rfl) rfl
theorem q2616 : (Jvm.Cond.castable "PittanceHouseModel" "java/lang/Object") ∈ lw_tbl := lw_at lw_m11 119 rfl
theorem in_X2 : ∀ w ∈ wsX20, w ∈ lw_all := lw_in wsX20 [2155, 2157, 2159, 2161, 2163, 2165, 2167, 2169, 2171, 2173, 2175, 2177, 2179, 2181, 2183, 2185, 2187, 2189, 2191, 2193] (by decide +kernel) (by decide +kernel)
