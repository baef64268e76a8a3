/-! PittanceHouse$Brother -/
set_option maxRecDepth 100000
def RX3 : String := "PittanceHouse$Brother"
def TX3 : u_T := fun k => match k with
  | 0 => ("PittanceHouse$Brother", "number", "I", true)
  | 1 => ("PittanceHouse$Brother", "isKin", "Z", true)
  | 2 => ("PittanceHouse$Brother", "age", "I", false)
  | 3 => ("PittanceHouse$Brother", "state", "I", false)
  | 4 => ("PittanceHouse$Brother", "cell", "I", false)
  | 5 => ("PittanceHouse$Brother", "gown", "I", false)
  | 6 => ("PittanceHouse$Brother", "ban", "I", false)
  | 7 => ("PittanceHouse$Brother", "pence", "I", false)
  | 8 => ("PittanceHouse$Brother", "voice", "I", false)
  | _ => ("PittanceHouse$Brother", "broke", "[I", true)
def tyX3 : Nat → FieldType := fun k => match k with
  | 0 => .int
  | 1 => .boolean
  | 2 => .int
  | 3 => .int
  | 4 => .int
  | 5 => .int
  | 6 => .int
  | 7 => .int
  | 8 => .int
  | _ => .array .int
abbrev wsX30 : List Cond := u_ws RX3 TX3 10
theorem nmX3 : ∀ a, a < 10 → ∀ b, b < 10 → a ≠ b → (TX3 a).2.1 ≠ (TX3 b).2.1 := by decide +kernel
theorem tyX3_ok : ∀ k, k < 10 → parseFieldDescriptor (TX3 k).2.2.1 = some (tyX3 k) := by decide +kernel
abbrev cX3_copy : ByteArray := prog_4_method_2_code
def yX3_copy : MethodName := ⟨RX3, "copy", "()LPittanceHouse$Brother;"⟩
def dkwX3_copy_3 : List UInt8 := [180, 0, 21, 3, 43, 180, 0, 21, 3, 8, 184, 0, 47, 43, 176]
abbrev dktX3_copy_3 : List UInt8 := dkwX3_copy_3 ++ []
def dkwX3_copy_2 : List UInt8 := [180, 0, 41, 181, 0, 41, 43, 42, 180, 0, 44, 181, 0, 44, 43, 42, 180, 0, 18, 181, 0, 18, 42]
abbrev dktX3_copy_2 : List UInt8 := dkwX3_copy_2 ++ dktX3_copy_3
def dkwX3_copy_1 : List UInt8 := [180, 0, 9, 181, 0, 9, 43, 42, 180, 0, 15, 181, 0, 15, 43, 42, 180, 0, 38, 181, 0, 38, 43, 42]
abbrev dktX3_copy_1 : List UInt8 := dkwX3_copy_1 ++ dktX3_copy_2
def dkwX3_copy_0 : List UInt8 := [187, 0, 10, 89, 42, 180, 0, 25, 42, 180, 0, 28, 42, 180, 0, 31, 183, 0, 35, 76, 43, 42]
abbrev dktX3_copy_0 : List UInt8 := dkwX3_copy_0 ++ dktX3_copy_1
theorem dksX3_copy_0 : cX3_copy.data.toList.drop 0 = dktX3_copy_0 := by decide +kernel
theorem dksX3_copy_1 : cX3_copy.data.toList.drop 22 = dktX3_copy_1 := dk_seg dksX3_copy_0 22 rfl rfl
theorem dksX3_copy_2 : cX3_copy.data.toList.drop 46 = dktX3_copy_2 := dk_seg dksX3_copy_1 24 rfl rfl
theorem dksX3_copy_3 : cX3_copy.data.toList.drop 69 = dktX3_copy_3 := dk_seg dksX3_copy_2 23 rfl rfl
theorem dX3_copy_0 : decode cX3_copy 0 = .ok (.new 10, 3) := dk_187 0 10 (dk_at dksX3_copy_0 0 rfl rfl)
theorem dX3_copy_3 : decode cX3_copy 3 = .ok (.dup, 1) := dk_89 (dk_at dksX3_copy_0 3 rfl rfl)
theorem dX3_copy_4 : decode cX3_copy 4 = .ok (.aload_n 0, 1) := dk_42 (dk_at dksX3_copy_0 4 rfl rfl)
theorem dX3_copy_5 : decode cX3_copy 5 = .ok (.getfield 25, 3) := dk_180 0 25 (dk_at dksX3_copy_0 5 rfl rfl)
theorem dX3_copy_8 : decode cX3_copy 8 = .ok (.aload_n 0, 1) := dk_42 (dk_at dksX3_copy_0 8 rfl rfl)
theorem dX3_copy_9 : decode cX3_copy 9 = .ok (.getfield 28, 3) := dk_180 0 28 (dk_at dksX3_copy_0 9 rfl rfl)
theorem dX3_copy_12 : decode cX3_copy 12 = .ok (.aload_n 0, 1) := dk_42 (dk_at dksX3_copy_0 12 rfl rfl)
theorem dX3_copy_13 : decode cX3_copy 13 = .ok (.getfield 31, 3) := dk_180 0 31 (dk_at dksX3_copy_0 13 rfl rfl)
theorem dX3_copy_16 : decode cX3_copy 16 = .ok (.invokespecial 35, 3) := dk_183 0 35 (dk_at dksX3_copy_0 16 rfl rfl)
theorem dX3_copy_19 : decode cX3_copy 19 = .ok (.astore_n 1, 1) := dk_76 (dk_at dksX3_copy_0 19 rfl rfl)
theorem dX3_copy_20 : decode cX3_copy 20 = .ok (.aload_n 1, 1) := dk_43 (dk_at dksX3_copy_0 20 rfl rfl)
theorem dX3_copy_21 : decode cX3_copy 21 = .ok (.aload_n 0, 1) := dk_42 (dk_at dksX3_copy_0 21 rfl rfl)
theorem dX3_copy_22 : decode cX3_copy 22 = .ok (.getfield 9, 3) := dk_180 0 9 (dk_at dksX3_copy_1 0 rfl rfl)
theorem dX3_copy_25 : decode cX3_copy 25 = .ok (.putfield 9, 3) := dk_181 0 9 (dk_at dksX3_copy_1 3 rfl rfl)
theorem dX3_copy_28 : decode cX3_copy 28 = .ok (.aload_n 1, 1) := dk_43 (dk_at dksX3_copy_1 6 rfl rfl)
theorem dX3_copy_29 : decode cX3_copy 29 = .ok (.aload_n 0, 1) := dk_42 (dk_at dksX3_copy_1 7 rfl rfl)
theorem dX3_copy_30 : decode cX3_copy 30 = .ok (.getfield 15, 3) := dk_180 0 15 (dk_at dksX3_copy_1 8 rfl rfl)
theorem dX3_copy_33 : decode cX3_copy 33 = .ok (.putfield 15, 3) := dk_181 0 15 (dk_at dksX3_copy_1 11 rfl rfl)
theorem dX3_copy_36 : decode cX3_copy 36 = .ok (.aload_n 1, 1) := dk_43 (dk_at dksX3_copy_1 14 rfl rfl)
theorem dX3_copy_37 : decode cX3_copy 37 = .ok (.aload_n 0, 1) := dk_42 (dk_at dksX3_copy_1 15 rfl rfl)
theorem dX3_copy_38 : decode cX3_copy 38 = .ok (.getfield 38, 3) := dk_180 0 38 (dk_at dksX3_copy_1 16 rfl rfl)
theorem dX3_copy_41 : decode cX3_copy 41 = .ok (.putfield 38, 3) := dk_181 0 38 (dk_at dksX3_copy_1 19 rfl rfl)
theorem dX3_copy_44 : decode cX3_copy 44 = .ok (.aload_n 1, 1) := dk_43 (dk_at dksX3_copy_1 22 rfl rfl)
theorem dX3_copy_45 : decode cX3_copy 45 = .ok (.aload_n 0, 1) := dk_42 (dk_at dksX3_copy_1 23 rfl rfl)
theorem dX3_copy_46 : decode cX3_copy 46 = .ok (.getfield 41, 3) := dk_180 0 41 (dk_at dksX3_copy_2 0 rfl rfl)
theorem dX3_copy_49 : decode cX3_copy 49 = .ok (.putfield 41, 3) := dk_181 0 41 (dk_at dksX3_copy_2 3 rfl rfl)
theorem dX3_copy_52 : decode cX3_copy 52 = .ok (.aload_n 1, 1) := dk_43 (dk_at dksX3_copy_2 6 rfl rfl)
theorem dX3_copy_53 : decode cX3_copy 53 = .ok (.aload_n 0, 1) := dk_42 (dk_at dksX3_copy_2 7 rfl rfl)
theorem dX3_copy_54 : decode cX3_copy 54 = .ok (.getfield 44, 3) := dk_180 0 44 (dk_at dksX3_copy_2 8 rfl rfl)
theorem dX3_copy_57 : decode cX3_copy 57 = .ok (.putfield 44, 3) := dk_181 0 44 (dk_at dksX3_copy_2 11 rfl rfl)
theorem dX3_copy_60 : decode cX3_copy 60 = .ok (.aload_n 1, 1) := dk_43 (dk_at dksX3_copy_2 14 rfl rfl)
theorem dX3_copy_61 : decode cX3_copy 61 = .ok (.aload_n 0, 1) := dk_42 (dk_at dksX3_copy_2 15 rfl rfl)
theorem dX3_copy_62 : decode cX3_copy 62 = .ok (.getfield 18, 3) := dk_180 0 18 (dk_at dksX3_copy_2 16 rfl rfl)
theorem dX3_copy_65 : decode cX3_copy 65 = .ok (.putfield 18, 3) := dk_181 0 18 (dk_at dksX3_copy_2 19 rfl rfl)
theorem dX3_copy_68 : decode cX3_copy 68 = .ok (.aload_n 0, 1) := dk_42 (dk_at dksX3_copy_2 22 rfl rfl)
theorem dX3_copy_69 : decode cX3_copy 69 = .ok (.getfield 21, 3) := dk_180 0 21 (dk_at dksX3_copy_3 0 rfl rfl)
theorem dX3_copy_72 : decode cX3_copy 72 = .ok (.iconst 0, 1) := dk_3 (dk_at dksX3_copy_3 3 rfl rfl)
theorem dX3_copy_73 : decode cX3_copy 73 = .ok (.aload_n 1, 1) := dk_43 (dk_at dksX3_copy_3 4 rfl rfl)
theorem dX3_copy_74 : decode cX3_copy 74 = .ok (.getfield 21, 3) := dk_180 0 21 (dk_at dksX3_copy_3 5 rfl rfl)
theorem dX3_copy_77 : decode cX3_copy 77 = .ok (.iconst 0, 1) := dk_3 (dk_at dksX3_copy_3 8 rfl rfl)
theorem dX3_copy_78 : decode cX3_copy 78 = .ok (.iconst 5, 1) := dk_8 (dk_at dksX3_copy_3 9 rfl rfl)
theorem dX3_copy_79 : decode cX3_copy 79 = .ok (.invokestatic 47, 3) := dk_184 0 47 (dk_at dksX3_copy_3 10 rfl rfl)
theorem dX3_copy_82 : decode cX3_copy 82 = .ok (.aload_n 1, 1) := dk_43 (dk_at dksX3_copy_3 13 rfl rfl)
theorem dX3_copy_83 : decode cX3_copy 83 = .ok (.areturn, 1) := dk_176 (dk_at dksX3_copy_3 14 rfl rfl)
abbrev cX3_init : ByteArray := prog_4_method_1_code
def yX3_init : MethodName := ⟨RX3, "<init>", "(IIZ)V"⟩
def dkwX3_init_1 : List UInt8 := [188, 10, 181, 0, 21, 42, 27, 181, 0, 25, 42, 28, 181, 0, 28, 42, 29, 181, 0, 31, 177]
abbrev dktX3_init_1 : List UInt8 := dkwX3_init_1 ++ []
def dkwX3_init_0 : List UInt8 := [42, 183, 0, 3, 42, 3, 181, 0, 9, 42, 16, 241, 181, 0, 15, 42, 16, 241, 181, 0, 18, 42, 8]
abbrev dktX3_init_0 : List UInt8 := dkwX3_init_0 ++ dktX3_init_1
theorem dksX3_init_0 : cX3_init.data.toList.drop 0 = dktX3_init_0 := by decide +kernel
theorem dksX3_init_1 : cX3_init.data.toList.drop 23 = dktX3_init_1 := dk_seg dksX3_init_0 23 rfl rfl
theorem dX3_init_0 : decode cX3_init 0 = .ok (.aload_n 0, 1) := dk_42 (dk_at dksX3_init_0 0 rfl rfl)
theorem dX3_init_1 : decode cX3_init 1 = .ok (.invokespecial 3, 3) := dk_183 0 3 (dk_at dksX3_init_0 1 rfl rfl)
theorem dX3_init_4 : decode cX3_init 4 = .ok (.aload_n 0, 1) := dk_42 (dk_at dksX3_init_0 4 rfl rfl)
theorem dX3_init_5 : decode cX3_init 5 = .ok (.iconst 0, 1) := dk_3 (dk_at dksX3_init_0 5 rfl rfl)
theorem dX3_init_6 : decode cX3_init 6 = .ok (.putfield 9, 3) := dk_181 0 9 (dk_at dksX3_init_0 6 rfl rfl)
theorem dX3_init_9 : decode cX3_init 9 = .ok (.aload_n 0, 1) := dk_42 (dk_at dksX3_init_0 9 rfl rfl)
theorem dX3_init_10 : decode cX3_init 10 = .ok (.bipush (-15), 2) := dk_16 241 (dk_at dksX3_init_0 10 rfl rfl)
theorem dX3_init_12 : decode cX3_init 12 = .ok (.putfield 15, 3) := dk_181 0 15 (dk_at dksX3_init_0 12 rfl rfl)
theorem dX3_init_15 : decode cX3_init 15 = .ok (.aload_n 0, 1) := dk_42 (dk_at dksX3_init_0 15 rfl rfl)
theorem dX3_init_16 : decode cX3_init 16 = .ok (.bipush (-15), 2) := dk_16 241 (dk_at dksX3_init_0 16 rfl rfl)
theorem dX3_init_18 : decode cX3_init 18 = .ok (.putfield 18, 3) := dk_181 0 18 (dk_at dksX3_init_0 18 rfl rfl)
theorem dX3_init_21 : decode cX3_init 21 = .ok (.aload_n 0, 1) := dk_42 (dk_at dksX3_init_0 21 rfl rfl)
theorem dX3_init_22 : decode cX3_init 22 = .ok (.iconst 5, 1) := dk_8 (dk_at dksX3_init_0 22 rfl rfl)
theorem dX3_init_23 : decode cX3_init 23 = .ok (.newarray .int, 2) := dk_188_10 (dk_at dksX3_init_1 0 rfl rfl)
theorem dX3_init_25 : decode cX3_init 25 = .ok (.putfield 21, 3) := dk_181 0 21 (dk_at dksX3_init_1 2 rfl rfl)
theorem dX3_init_28 : decode cX3_init 28 = .ok (.aload_n 0, 1) := dk_42 (dk_at dksX3_init_1 5 rfl rfl)
theorem dX3_init_29 : decode cX3_init 29 = .ok (.iload_n 1, 1) := dk_27 (dk_at dksX3_init_1 6 rfl rfl)
theorem dX3_init_30 : decode cX3_init 30 = .ok (.putfield 25, 3) := dk_181 0 25 (dk_at dksX3_init_1 7 rfl rfl)
theorem dX3_init_33 : decode cX3_init 33 = .ok (.aload_n 0, 1) := dk_42 (dk_at dksX3_init_1 10 rfl rfl)
theorem dX3_init_34 : decode cX3_init 34 = .ok (.iload_n 2, 1) := dk_28 (dk_at dksX3_init_1 11 rfl rfl)
theorem dX3_init_35 : decode cX3_init 35 = .ok (.putfield 28, 3) := dk_181 0 28 (dk_at dksX3_init_1 12 rfl rfl)
theorem dX3_init_38 : decode cX3_init 38 = .ok (.aload_n 0, 1) := dk_42 (dk_at dksX3_init_1 15 rfl rfl)
theorem dX3_init_39 : decode cX3_init 39 = .ok (.iload_n 3, 1) := dk_29 (dk_at dksX3_init_1 16 rfl rfl)
theorem dX3_init_40 : decode cX3_init 40 = .ok (.putfield 31, 3) := dk_181 0 31 (dk_at dksX3_init_1 17 rfl rfl)
theorem dX3_init_43 : decode cX3_init 43 = .ok (.return_, 1) := dk_177 (dk_at dksX3_init_1 20 rfl rfl)
abbrev cX3_checkWaits : ByteArray := prog_4_method_5_code
def yX3_checkWaits : MethodName := ⟨RX3, "checkWaits", "()V"⟩
def dkwX3_checkWaits_0 : List UInt8 := [42, 180, 0, 9, 153, 0, 7, 4, 167, 0, 4, 3, 5, 42, 180, 0, 9, 184, 0, 53, 177]
abbrev dktX3_checkWaits_0 : List UInt8 := dkwX3_checkWaits_0 ++ []
theorem dksX3_checkWaits_0 : cX3_checkWaits.data.toList.drop 0 = dktX3_checkWaits_0 := by decide +kernel
theorem dX3_checkWaits_0 : decode cX3_checkWaits 0 = .ok (.aload_n 0, 1) := dk_42 (dk_at dksX3_checkWaits_0 0 rfl rfl)
theorem dX3_checkWaits_1 : decode cX3_checkWaits 1 = .ok (.getfield 9, 3) := dk_180 0 9 (dk_at dksX3_checkWaits_0 1 rfl rfl)
theorem dX3_checkWaits_4 : decode cX3_checkWaits 4 = .ok (.ifCond .eq 7, 3) := dk_153 0 7 (dk_at dksX3_checkWaits_0 4 rfl rfl)
theorem dX3_checkWaits_7 : decode cX3_checkWaits 7 = .ok (.iconst 1, 1) := dk_4 (dk_at dksX3_checkWaits_0 7 rfl rfl)
theorem dX3_checkWaits_8 : decode cX3_checkWaits 8 = .ok (.goto 4, 3) := dk_167 0 4 (dk_at dksX3_checkWaits_0 8 rfl rfl)
theorem dX3_checkWaits_11 : decode cX3_checkWaits 11 = .ok (.iconst 0, 1) := dk_3 (dk_at dksX3_checkWaits_0 11 rfl rfl)
theorem dX3_checkWaits_12 : decode cX3_checkWaits 12 = .ok (.iconst 2, 1) := dk_5 (dk_at dksX3_checkWaits_0 12 rfl rfl)
theorem dX3_checkWaits_13 : decode cX3_checkWaits 13 = .ok (.aload_n 0, 1) := dk_42 (dk_at dksX3_checkWaits_0 13 rfl rfl)
theorem dX3_checkWaits_14 : decode cX3_checkWaits 14 = .ok (.getfield 9, 3) := dk_180 0 9 (dk_at dksX3_checkWaits_0 14 rfl rfl)
theorem dX3_checkWaits_17 : decode cX3_checkWaits 17 = .ok (.invokestatic 53, 3) := dk_184 0 53 (dk_at dksX3_checkWaits_0 17 rfl rfl)
theorem dX3_checkWaits_20 : decode cX3_checkWaits 20 = .ok (.return_, 1) := dk_177 (dk_at dksX3_checkWaits_0 20 rfl rfl)
abbrev cX3_goes : ByteArray := prog_4_method_8_code
def yX3_goes : MethodName := ⟨RX3, "goes", "(I)V"⟩
def dkwX3_goes_1 : List UInt8 := [181, 0, 38, 177]
abbrev dktX3_goes_1 : List UInt8 := dkwX3_goes_1 ++ []
def dkwX3_goes_0 : List UInt8 := [42, 27, 181, 0, 9, 42, 16, 241, 181, 0, 15, 42, 16, 241, 181, 0, 18, 42, 3, 181, 0, 41, 42, 3]
abbrev dktX3_goes_0 : List UInt8 := dkwX3_goes_0 ++ dktX3_goes_1
theorem dksX3_goes_0 : cX3_goes.data.toList.drop 0 = dktX3_goes_0 := by decide +kernel
theorem dksX3_goes_1 : cX3_goes.data.toList.drop 24 = dktX3_goes_1 := dk_seg dksX3_goes_0 24 rfl rfl
theorem dX3_goes_0 : decode cX3_goes 0 = .ok (.aload_n 0, 1) := dk_42 (dk_at dksX3_goes_0 0 rfl rfl)
theorem dX3_goes_1 : decode cX3_goes 1 = .ok (.iload_n 1, 1) := dk_27 (dk_at dksX3_goes_0 1 rfl rfl)
theorem dX3_goes_2 : decode cX3_goes 2 = .ok (.putfield 9, 3) := dk_181 0 9 (dk_at dksX3_goes_0 2 rfl rfl)
theorem dX3_goes_5 : decode cX3_goes 5 = .ok (.aload_n 0, 1) := dk_42 (dk_at dksX3_goes_0 5 rfl rfl)
theorem dX3_goes_6 : decode cX3_goes 6 = .ok (.bipush (-15), 2) := dk_16 241 (dk_at dksX3_goes_0 6 rfl rfl)
theorem dX3_goes_8 : decode cX3_goes 8 = .ok (.putfield 15, 3) := dk_181 0 15 (dk_at dksX3_goes_0 8 rfl rfl)
theorem dX3_goes_11 : decode cX3_goes 11 = .ok (.aload_n 0, 1) := dk_42 (dk_at dksX3_goes_0 11 rfl rfl)
theorem dX3_goes_12 : decode cX3_goes 12 = .ok (.bipush (-15), 2) := dk_16 241 (dk_at dksX3_goes_0 12 rfl rfl)
theorem dX3_goes_14 : decode cX3_goes 14 = .ok (.putfield 18, 3) := dk_181 0 18 (dk_at dksX3_goes_0 14 rfl rfl)
theorem dX3_goes_17 : decode cX3_goes 17 = .ok (.aload_n 0, 1) := dk_42 (dk_at dksX3_goes_0 17 rfl rfl)
theorem dX3_goes_18 : decode cX3_goes 18 = .ok (.iconst 0, 1) := dk_3 (dk_at dksX3_goes_0 18 rfl rfl)
theorem dX3_goes_19 : decode cX3_goes 19 = .ok (.putfield 41, 3) := dk_181 0 41 (dk_at dksX3_goes_0 19 rfl rfl)
theorem dX3_goes_22 : decode cX3_goes 22 = .ok (.aload_n 0, 1) := dk_42 (dk_at dksX3_goes_0 22 rfl rfl)
theorem dX3_goes_23 : decode cX3_goes 23 = .ok (.iconst 0, 1) := dk_3 (dk_at dksX3_goes_0 23 rfl rfl)
theorem dX3_goes_24 : decode cX3_goes 24 = .ok (.putfield 38, 3) := dk_181 0 38 (dk_at dksX3_goes_1 0 rfl rfl)
theorem dX3_goes_27 : decode cX3_goes 27 = .ok (.return_, 1) := dk_177 (dk_at dksX3_goes_1 3 rfl rfl)
abbrev cX3_checkCell : ByteArray := prog_4_method_6_code
def yX3_checkCell : MethodName := ⟨RX3, "checkCell", "()V"⟩
def dkwX3_checkCell_0 : List UInt8 := [42, 180, 0, 9, 4, 159, 0, 7, 4, 167, 0, 4, 3, 6, 42, 180, 0, 9, 184, 0, 53, 177]
abbrev dktX3_checkCell_0 : List UInt8 := dkwX3_checkCell_0 ++ []
theorem dksX3_checkCell_0 : cX3_checkCell.data.toList.drop 0 = dktX3_checkCell_0 := by decide +kernel
theorem dX3_checkCell_0 : decode cX3_checkCell 0 = .ok (.aload_n 0, 1) := dk_42 (dk_at dksX3_checkCell_0 0 rfl rfl)
theorem dX3_checkCell_1 : decode cX3_checkCell 1 = .ok (.getfield 9, 3) := dk_180 0 9 (dk_at dksX3_checkCell_0 1 rfl rfl)
theorem dX3_checkCell_4 : decode cX3_checkCell 4 = .ok (.iconst 1, 1) := dk_4 (dk_at dksX3_checkCell_0 4 rfl rfl)
theorem dX3_checkCell_5 : decode cX3_checkCell 5 = .ok (.if_icmp .eq 7, 3) := dk_159 0 7 (dk_at dksX3_checkCell_0 5 rfl rfl)
theorem dX3_checkCell_8 : decode cX3_checkCell 8 = .ok (.iconst 1, 1) := dk_4 (dk_at dksX3_checkCell_0 8 rfl rfl)
theorem dX3_checkCell_9 : decode cX3_checkCell 9 = .ok (.goto 4, 3) := dk_167 0 4 (dk_at dksX3_checkCell_0 9 rfl rfl)
theorem dX3_checkCell_12 : decode cX3_checkCell 12 = .ok (.iconst 0, 1) := dk_3 (dk_at dksX3_checkCell_0 12 rfl rfl)
theorem dX3_checkCell_13 : decode cX3_checkCell 13 = .ok (.iconst 3, 1) := dk_6 (dk_at dksX3_checkCell_0 13 rfl rfl)
theorem dX3_checkCell_14 : decode cX3_checkCell 14 = .ok (.aload_n 0, 1) := dk_42 (dk_at dksX3_checkCell_0 14 rfl rfl)
theorem dX3_checkCell_15 : decode cX3_checkCell 15 = .ok (.getfield 9, 3) := dk_180 0 9 (dk_at dksX3_checkCell_0 15 rfl rfl)
theorem dX3_checkCell_18 : decode cX3_checkCell 18 = .ok (.invokestatic 53, 3) := dk_184 0 53 (dk_at dksX3_checkCell_0 18 rfl rfl)
theorem dX3_checkCell_21 : decode cX3_checkCell 21 = .ok (.return_, 1) := dk_177 (dk_at dksX3_checkCell_0 21 rfl rfl)
abbrev cX3_comesTo : ByteArray := prog_4_method_7_code
def yX3_comesTo : MethodName := ⟨RX3, "comesTo", "(I)V"⟩
def dkwX3_comesTo_0 : List UInt8 := [42, 4, 181, 0, 9, 42, 27, 181, 0, 15, 42, 3, 181, 0, 38, 177]
abbrev dktX3_comesTo_0 : List UInt8 := dkwX3_comesTo_0 ++ []
theorem dksX3_comesTo_0 : cX3_comesTo.data.toList.drop 0 = dktX3_comesTo_0 := by decide +kernel
theorem dX3_comesTo_0 : decode cX3_comesTo 0 = .ok (.aload_n 0, 1) := dk_42 (dk_at dksX3_comesTo_0 0 rfl rfl)
theorem dX3_comesTo_1 : decode cX3_comesTo 1 = .ok (.iconst 1, 1) := dk_4 (dk_at dksX3_comesTo_0 1 rfl rfl)
theorem dX3_comesTo_2 : decode cX3_comesTo 2 = .ok (.putfield 9, 3) := dk_181 0 9 (dk_at dksX3_comesTo_0 2 rfl rfl)
theorem dX3_comesTo_5 : decode cX3_comesTo 5 = .ok (.aload_n 0, 1) := dk_42 (dk_at dksX3_comesTo_0 5 rfl rfl)
theorem dX3_comesTo_6 : decode cX3_comesTo 6 = .ok (.iload_n 1, 1) := dk_27 (dk_at dksX3_comesTo_0 6 rfl rfl)
theorem dX3_comesTo_7 : decode cX3_comesTo 7 = .ok (.putfield 15, 3) := dk_181 0 15 (dk_at dksX3_comesTo_0 7 rfl rfl)
theorem dX3_comesTo_10 : decode cX3_comesTo 10 = .ok (.aload_n 0, 1) := dk_42 (dk_at dksX3_comesTo_0 10 rfl rfl)
theorem dX3_comesTo_11 : decode cX3_comesTo 11 = .ok (.iconst 0, 1) := dk_3 (dk_at dksX3_comesTo_0 11 rfl rfl)
theorem dX3_comesTo_12 : decode cX3_comesTo 12 = .ok (.putfield 38, 3) := dk_181 0 38 (dk_at dksX3_comesTo_0 12 rfl rfl)
theorem dX3_comesTo_15 : decode cX3_comesTo 15 = .ok (.return_, 1) := dk_177 (dk_at dksX3_comesTo_0 15 rfl rfl)
abbrev cX3_isTooMuch : ByteArray := prog_4_method_9_code
def yX3_isTooMuch : MethodName := ⟨RX3, "isTooMuch", "(I)Z"⟩
def dkwX3_isTooMuch_1 : List UInt8 := [181, 0, 41, 42, 180, 0, 21, 27, 46, 6, 160, 0, 7, 4, 167, 0, 4, 3, 172]
abbrev dktX3_isTooMuch_1 : List UInt8 := dkwX3_isTooMuch_1 ++ []
def dkwX3_isTooMuch_0 : List UInt8 := [42, 180, 0, 21, 27, 92, 46, 4, 96, 79, 42, 89, 180, 0, 41, 42, 180, 0, 21, 27, 46, 96]
abbrev dktX3_isTooMuch_0 : List UInt8 := dkwX3_isTooMuch_0 ++ dktX3_isTooMuch_1
theorem dksX3_isTooMuch_0 : cX3_isTooMuch.data.toList.drop 0 = dktX3_isTooMuch_0 := by decide +kernel
theorem dksX3_isTooMuch_1 : cX3_isTooMuch.data.toList.drop 22 = dktX3_isTooMuch_1 := dk_seg dksX3_isTooMuch_0 22 rfl rfl
theorem dX3_isTooMuch_0 : decode cX3_isTooMuch 0 = .ok (.aload_n 0, 1) := dk_42 (dk_at dksX3_isTooMuch_0 0 rfl rfl)
theorem dX3_isTooMuch_1 : decode cX3_isTooMuch 1 = .ok (.getfield 21, 3) := dk_180 0 21 (dk_at dksX3_isTooMuch_0 1 rfl rfl)
theorem dX3_isTooMuch_4 : decode cX3_isTooMuch 4 = .ok (.iload_n 1, 1) := dk_27 (dk_at dksX3_isTooMuch_0 4 rfl rfl)
theorem dX3_isTooMuch_5 : decode cX3_isTooMuch 5 = .ok (.dup2, 1) := dk_92 (dk_at dksX3_isTooMuch_0 5 rfl rfl)
theorem dX3_isTooMuch_6 : decode cX3_isTooMuch 6 = .ok (.iaload, 1) := dk_46 (dk_at dksX3_isTooMuch_0 6 rfl rfl)
theorem dX3_isTooMuch_7 : decode cX3_isTooMuch 7 = .ok (.iconst 1, 1) := dk_4 (dk_at dksX3_isTooMuch_0 7 rfl rfl)
theorem dX3_isTooMuch_8 : decode cX3_isTooMuch 8 = .ok (.iadd, 1) := dk_96 (dk_at dksX3_isTooMuch_0 8 rfl rfl)
theorem dX3_isTooMuch_9 : decode cX3_isTooMuch 9 = .ok (.iastore, 1) := dk_79 (dk_at dksX3_isTooMuch_0 9 rfl rfl)
theorem dX3_isTooMuch_10 : decode cX3_isTooMuch 10 = .ok (.aload_n 0, 1) := dk_42 (dk_at dksX3_isTooMuch_0 10 rfl rfl)
theorem dX3_isTooMuch_11 : decode cX3_isTooMuch 11 = .ok (.dup, 1) := dk_89 (dk_at dksX3_isTooMuch_0 11 rfl rfl)
theorem dX3_isTooMuch_12 : decode cX3_isTooMuch 12 = .ok (.getfield 41, 3) := dk_180 0 41 (dk_at dksX3_isTooMuch_0 12 rfl rfl)
theorem dX3_isTooMuch_15 : decode cX3_isTooMuch 15 = .ok (.aload_n 0, 1) := dk_42 (dk_at dksX3_isTooMuch_0 15 rfl rfl)
theorem dX3_isTooMuch_16 : decode cX3_isTooMuch 16 = .ok (.getfield 21, 3) := dk_180 0 21 (dk_at dksX3_isTooMuch_0 16 rfl rfl)
theorem dX3_isTooMuch_19 : decode cX3_isTooMuch 19 = .ok (.iload_n 1, 1) := dk_27 (dk_at dksX3_isTooMuch_0 19 rfl rfl)
theorem dX3_isTooMuch_20 : decode cX3_isTooMuch 20 = .ok (.iaload, 1) := dk_46 (dk_at dksX3_isTooMuch_0 20 rfl rfl)
theorem dX3_isTooMuch_21 : decode cX3_isTooMuch 21 = .ok (.iadd, 1) := dk_96 (dk_at dksX3_isTooMuch_0 21 rfl rfl)
theorem dX3_isTooMuch_22 : decode cX3_isTooMuch 22 = .ok (.putfield 41, 3) := dk_181 0 41 (dk_at dksX3_isTooMuch_1 0 rfl rfl)
theorem dX3_isTooMuch_25 : decode cX3_isTooMuch 25 = .ok (.aload_n 0, 1) := dk_42 (dk_at dksX3_isTooMuch_1 3 rfl rfl)
theorem dX3_isTooMuch_26 : decode cX3_isTooMuch 26 = .ok (.getfield 21, 3) := dk_180 0 21 (dk_at dksX3_isTooMuch_1 4 rfl rfl)
theorem dX3_isTooMuch_29 : decode cX3_isTooMuch 29 = .ok (.iload_n 1, 1) := dk_27 (dk_at dksX3_isTooMuch_1 7 rfl rfl)
theorem dX3_isTooMuch_30 : decode cX3_isTooMuch 30 = .ok (.iaload, 1) := dk_46 (dk_at dksX3_isTooMuch_1 8 rfl rfl)
theorem dX3_isTooMuch_31 : decode cX3_isTooMuch 31 = .ok (.iconst 3, 1) := dk_6 (dk_at dksX3_isTooMuch_1 9 rfl rfl)
theorem dX3_isTooMuch_32 : decode cX3_isTooMuch 32 = .ok (.if_icmp .ne 7, 3) := dk_160 0 7 (dk_at dksX3_isTooMuch_1 10 rfl rfl)
theorem dX3_isTooMuch_35 : decode cX3_isTooMuch 35 = .ok (.iconst 1, 1) := dk_4 (dk_at dksX3_isTooMuch_1 13 rfl rfl)
theorem dX3_isTooMuch_36 : decode cX3_isTooMuch 36 = .ok (.goto 4, 3) := dk_167 0 4 (dk_at dksX3_isTooMuch_1 14 rfl rfl)
theorem dX3_isTooMuch_39 : decode cX3_isTooMuch 39 = .ok (.iconst 0, 1) := dk_3 (dk_at dksX3_isTooMuch_1 17 rfl rfl)
theorem dX3_isTooMuch_40 : decode cX3_isTooMuch 40 = .ok (.ireturn, 1) := dk_172 (dk_at dksX3_isTooMuch_1 18 rfl rfl)
abbrev cX3_isEntitled : ByteArray := prog_4_method_3_code
def yX3_isEntitled : MethodName := ⟨RX3, "isEntitled", "()Z"⟩
def dkwX3_isEntitled_0 : List UInt8 := [42, 180, 0, 9, 4, 160, 0, 14, 42, 180, 0, 41, 154, 0, 7, 4, 167, 0, 4, 3, 172]
abbrev dktX3_isEntitled_0 : List UInt8 := dkwX3_isEntitled_0 ++ []
theorem dksX3_isEntitled_0 : cX3_isEntitled.data.toList.drop 0 = dktX3_isEntitled_0 := by decide +kernel
theorem dX3_isEntitled_0 : decode cX3_isEntitled 0 = .ok (.aload_n 0, 1) := dk_42 (dk_at dksX3_isEntitled_0 0 rfl rfl)
theorem dX3_isEntitled_1 : decode cX3_isEntitled 1 = .ok (.getfield 9, 3) := dk_180 0 9 (dk_at dksX3_isEntitled_0 1 rfl rfl)
theorem dX3_isEntitled_4 : decode cX3_isEntitled 4 = .ok (.iconst 1, 1) := dk_4 (dk_at dksX3_isEntitled_0 4 rfl rfl)
theorem dX3_isEntitled_5 : decode cX3_isEntitled 5 = .ok (.if_icmp .ne 14, 3) := dk_160 0 14 (dk_at dksX3_isEntitled_0 5 rfl rfl)
theorem dX3_isEntitled_8 : decode cX3_isEntitled 8 = .ok (.aload_n 0, 1) := dk_42 (dk_at dksX3_isEntitled_0 8 rfl rfl)
theorem dX3_isEntitled_9 : decode cX3_isEntitled 9 = .ok (.getfield 41, 3) := dk_180 0 41 (dk_at dksX3_isEntitled_0 9 rfl rfl)
theorem dX3_isEntitled_12 : decode cX3_isEntitled 12 = .ok (.ifCond .ne 7, 3) := dk_154 0 7 (dk_at dksX3_isEntitled_0 12 rfl rfl)
theorem dX3_isEntitled_15 : decode cX3_isEntitled 15 = .ok (.iconst 1, 1) := dk_4 (dk_at dksX3_isEntitled_0 15 rfl rfl)
theorem dX3_isEntitled_16 : decode cX3_isEntitled 16 = .ok (.goto 4, 3) := dk_167 0 4 (dk_at dksX3_isEntitled_0 16 rfl rfl)
theorem dX3_isEntitled_19 : decode cX3_isEntitled 19 = .ok (.iconst 0, 1) := dk_3 (dk_at dksX3_isEntitled_0 19 rfl rfl)
theorem dX3_isEntitled_20 : decode cX3_isEntitled 20 = .ok (.ireturn, 1) := dk_172 (dk_at dksX3_isEntitled_0 20 rfl rfl)
abbrev cX3_isHere : ByteArray := prog_4_method_4_code
def yX3_isHere : MethodName := ⟨RX3, "isHere", "()Z"⟩
def dkwX3_isHere_0 : List UInt8 := [42, 180, 0, 9, 153, 0, 11, 42, 180, 0, 9, 4, 160, 0, 7, 4, 167, 0, 4, 3, 172]
abbrev dktX3_isHere_0 : List UInt8 := dkwX3_isHere_0 ++ []
theorem dksX3_isHere_0 : cX3_isHere.data.toList.drop 0 = dktX3_isHere_0 := by decide +kernel
theorem dX3_isHere_0 : decode cX3_isHere 0 = .ok (.aload_n 0, 1) := dk_42 (dk_at dksX3_isHere_0 0 rfl rfl)
theorem dX3_isHere_1 : decode cX3_isHere 1 = .ok (.getfield 9, 3) := dk_180 0 9 (dk_at dksX3_isHere_0 1 rfl rfl)
theorem dX3_isHere_4 : decode cX3_isHere 4 = .ok (.ifCond .eq 11, 3) := dk_153 0 11 (dk_at dksX3_isHere_0 4 rfl rfl)
theorem dX3_isHere_7 : decode cX3_isHere 7 = .ok (.aload_n 0, 1) := dk_42 (dk_at dksX3_isHere_0 7 rfl rfl)
theorem dX3_isHere_8 : decode cX3_isHere 8 = .ok (.getfield 9, 3) := dk_180 0 9 (dk_at dksX3_isHere_0 8 rfl rfl)
theorem dX3_isHere_11 : decode cX3_isHere 11 = .ok (.iconst 1, 1) := dk_4 (dk_at dksX3_isHere_0 11 rfl rfl)
theorem dX3_isHere_12 : decode cX3_isHere 12 = .ok (.if_icmp .ne 7, 3) := dk_160 0 7 (dk_at dksX3_isHere_0 12 rfl rfl)
theorem dX3_isHere_15 : decode cX3_isHere 15 = .ok (.iconst 1, 1) := dk_4 (dk_at dksX3_isHere_0 15 rfl rfl)
theorem dX3_isHere_16 : decode cX3_isHere 16 = .ok (.goto 4, 3) := dk_167 0 4 (dk_at dksX3_isHere_0 16 rfl rfl)
theorem dX3_isHere_19 : decode cX3_isHere 19 = .ok (.iconst 0, 1) := dk_3 (dk_at dksX3_isHere_0 19 rfl rfl)
theorem dX3_isHere_20 : decode cX3_isHere 20 = .ok (.ireturn, 1) := dk_172 (dk_at dksX3_isHere_0 20 rfl rfl)
abbrev cX3_allBroken : ByteArray := prog_4_method_10_code
def yX3_allBroken : MethodName := ⟨RX3, "allBroken", "()I"⟩
def dkwX3_allBroken_1 : List UInt8 := [54, 5, 27, 21, 5, 96, 60, 132, 4, 1, 167, 255, 236, 27, 172]
abbrev dktX3_allBroken_1 : List UInt8 := dkwX3_allBroken_1 ++ []
def dkwX3_allBroken_0 : List UInt8 := [3, 60, 42, 180, 0, 21, 77, 44, 190, 62, 3, 54, 4, 21, 4, 29, 162, 0, 20, 44, 21, 4, 46]
abbrev dktX3_allBroken_0 : List UInt8 := dkwX3_allBroken_0 ++ dktX3_allBroken_1
theorem dksX3_allBroken_0 : cX3_allBroken.data.toList.drop 0 = dktX3_allBroken_0 := by decide +kernel
theorem dksX3_allBroken_1 : cX3_allBroken.data.toList.drop 23 = dktX3_allBroken_1 := dk_seg dksX3_allBroken_0 23 rfl rfl
theorem dX3_allBroken_0 : decode cX3_allBroken 0 = .ok (.iconst 0, 1) := dk_3 (dk_at dksX3_allBroken_0 0 rfl rfl)
theorem dX3_allBroken_1 : decode cX3_allBroken 1 = .ok (.istore_n 1, 1) := dk_60 (dk_at dksX3_allBroken_0 1 rfl rfl)
theorem dX3_allBroken_2 : decode cX3_allBroken 2 = .ok (.aload_n 0, 1) := dk_42 (dk_at dksX3_allBroken_0 2 rfl rfl)
theorem dX3_allBroken_3 : decode cX3_allBroken 3 = .ok (.getfield 21, 3) := dk_180 0 21 (dk_at dksX3_allBroken_0 3 rfl rfl)
theorem dX3_allBroken_6 : decode cX3_allBroken 6 = .ok (.astore_n 2, 1) := dk_77 (dk_at dksX3_allBroken_0 6 rfl rfl)
theorem dX3_allBroken_7 : decode cX3_allBroken 7 = .ok (.aload_n 2, 1) := dk_44 (dk_at dksX3_allBroken_0 7 rfl rfl)
theorem dX3_allBroken_8 : decode cX3_allBroken 8 = .ok (.arraylength, 1) := dk_190 (dk_at dksX3_allBroken_0 8 rfl rfl)
theorem dX3_allBroken_9 : decode cX3_allBroken 9 = .ok (.istore_n 3, 1) := dk_62 (dk_at dksX3_allBroken_0 9 rfl rfl)
theorem dX3_allBroken_10 : decode cX3_allBroken 10 = .ok (.iconst 0, 1) := dk_3 (dk_at dksX3_allBroken_0 10 rfl rfl)
theorem dX3_allBroken_11 : decode cX3_allBroken 11 = .ok (.istore 4, 2) := dk_54 4 (dk_at dksX3_allBroken_0 11 rfl rfl)
theorem dX3_allBroken_13 : decode cX3_allBroken 13 = .ok (.iload 4, 2) := dk_21 4 (dk_at dksX3_allBroken_0 13 rfl rfl)
theorem dX3_allBroken_15 : decode cX3_allBroken 15 = .ok (.iload_n 3, 1) := dk_29 (dk_at dksX3_allBroken_0 15 rfl rfl)
theorem dX3_allBroken_16 : decode cX3_allBroken 16 = .ok (.if_icmp .ge 20, 3) := dk_162 0 20 (dk_at dksX3_allBroken_0 16 rfl rfl)
theorem dX3_allBroken_19 : decode cX3_allBroken 19 = .ok (.aload_n 2, 1) := dk_44 (dk_at dksX3_allBroken_0 19 rfl rfl)
theorem dX3_allBroken_20 : decode cX3_allBroken 20 = .ok (.iload 4, 2) := dk_21 4 (dk_at dksX3_allBroken_0 20 rfl rfl)
theorem dX3_allBroken_22 : decode cX3_allBroken 22 = .ok (.iaload, 1) := dk_46 (dk_at dksX3_allBroken_0 22 rfl rfl)
theorem dX3_allBroken_23 : decode cX3_allBroken 23 = .ok (.istore 5, 2) := dk_54 5 (dk_at dksX3_allBroken_1 0 rfl rfl)
theorem dX3_allBroken_25 : decode cX3_allBroken 25 = .ok (.iload_n 1, 1) := dk_27 (dk_at dksX3_allBroken_1 2 rfl rfl)
theorem dX3_allBroken_26 : decode cX3_allBroken 26 = .ok (.iload 5, 2) := dk_21 5 (dk_at dksX3_allBroken_1 3 rfl rfl)
theorem dX3_allBroken_28 : decode cX3_allBroken 28 = .ok (.iadd, 1) := dk_96 (dk_at dksX3_allBroken_1 5 rfl rfl)
theorem dX3_allBroken_29 : decode cX3_allBroken 29 = .ok (.istore_n 1, 1) := dk_60 (dk_at dksX3_allBroken_1 6 rfl rfl)
theorem dX3_allBroken_30 : decode cX3_allBroken 30 = .ok (.iinc 4 1, 3) := dk_132 4 1 (dk_at dksX3_allBroken_1 7 rfl rfl)
theorem dX3_allBroken_33 : decode cX3_allBroken 33 = .ok (.goto (-20), 3) := dk_167 255 236 (dk_at dksX3_allBroken_1 10 rfl rfl)
theorem dX3_allBroken_36 : decode cX3_allBroken 36 = .ok (.iload_n 1, 1) := dk_27 (dk_at dksX3_allBroken_1 13 rfl rfl)
theorem dX3_allBroken_37 : decode cX3_allBroken 37 = .ok (.ireturn, 1) := dk_172 (dk_at dksX3_allBroken_1 14 rfl rfl)
theorem q123 : (Jvm.Cond.initialized "PittanceHouse$Brother") ∈ lw_all := lw_g (lw_at lw_m1 26 rfl) rfl
theorem q593 : (Jvm.Cond.selects "PittanceHouse$Brother" ({ cls := "java/lang/Object", name := "getClass", desc := "()Ljava/lang/Class;" } : Jvm.MethodName) ({ cls := "java/lang/Object", name := "getClass", desc := "()Ljava/lang/Class;" } : Jvm.MethodName)) ∈ lw_all := lw_g (lw_at lw_m3 16 rfl) rfl
theorem q859 : (Jvm.Cond.instanceMethod ({ cls := "PittanceHouse$Brother", name := "copy", desc := "()LPittanceHouse$Brother;" } : Jvm.MethodName)) ∈ lw_all := lw_g (lw_at lw_m4 42 rfl) rfl
theorem q860 : (Jvm.Cond.selects "PittanceHouse$Brother" ({ cls := "PittanceHouse$Brother", name := "copy", desc := "()LPittanceHouse$Brother;" } : Jvm.MethodName) ({ cls := "PittanceHouse$Brother", name := "copy", desc := "()LPittanceHouse$Brother;" } : Jvm.MethodName)) ∈ lw_all := lw_g (lw_at lw_m4 43 rfl) rfl
theorem q861 : (Jvm.Cond.code ({ cls := "PittanceHouse$Brother", name := "copy", desc := "()LPittanceHouse$Brother;" } : Jvm.MethodName) prog_4_method_2_code (2 : Nat) (Option.some (Jvm.ClassFile.FieldType.object "PittanceHouse$Brother"))) ∈ lw_all := lw_g (lw_at lw_m4 44 rfl) rfl
theorem q862 : (Jvm.Cond.classLink "PittanceHouse$Brother" (10 : Nat) "PittanceHouse$Brother") ∈ lw_all := lw_g (lw_at lw_m4 45 rfl) rfl
theorem q863 : (Jvm.Cond.instantiable "PittanceHouse$Brother" (10 : Nat)) ∈ lw_all := lw_g (lw_at lw_m4 46 rfl) rfl
theorem q864 : (Jvm.Cond.methodLink "PittanceHouse$Brother" (35 : Nat) ({ cls := "PittanceHouse$Brother", name := "<init>", desc := "(IIZ)V" } : Jvm.MethodName)) ∈ lw_all := lw_g (lw_at lw_m4 47 rfl) rfl
theorem q865 : (Jvm.Cond.instanceMethod ({ cls := "PittanceHouse$Brother", name := "<init>", desc := "(IIZ)V" } : Jvm.MethodName)) ∈ lw_all := lw_g (lw_at lw_m4 48 rfl) rfl
theorem q866 : (Jvm.Cond.code ({ cls := "PittanceHouse$Brother", name := "<init>", desc := "(IIZ)V" } : Jvm.MethodName) prog_4_method_1_code (4 : Nat) (Option.none : Option Jvm.ClassFile.FieldType)) ∈ lw_all := lw_g (lw_at lw_m4 49 rfl) rfl
theorem q867 : (Jvm.Cond.methodLink "PittanceHouse$Brother" (3 : Nat) ({ cls := "java/lang/Object", name := "<init>", desc := "()V" } : Jvm.MethodName)) ∈ lw_all := lw_g (lw_at lw_m4 50 rfl) rfl
theorem q868 : (Jvm.Cond.fieldLink "PittanceHouse$Brother" (25 : Nat) "PittanceHouse$Brother" "number" "I") ∈ lw_all := lw_g (lw_at lw_m4 51 rfl) rfl
theorem q870 : (Jvm.Cond.fieldLink "PittanceHouse$Brother" (31 : Nat) "PittanceHouse$Brother" "isKin" "Z") ∈ lw_all := lw_g (lw_at lw_m4 53 rfl) rfl
theorem q872 : (Jvm.Cond.fieldLink "PittanceHouse$Brother" (28 : Nat) "PittanceHouse$Brother" "age" "I") ∈ lw_all := lw_g (lw_at lw_m4 55 rfl) rfl
theorem q874 : (Jvm.Cond.fieldLink "PittanceHouse$Brother" (9 : Nat) "PittanceHouse$Brother" "state" "I") ∈ lw_all := lw_g (lw_at lw_m4 57 rfl) rfl
theorem q876 : (Jvm.Cond.fieldLink "PittanceHouse$Brother" (15 : Nat) "PittanceHouse$Brother" "cell" "I") ∈ lw_all := lw_g (lw_at lw_m4 59 rfl) rfl
theorem q878 : (Jvm.Cond.fieldLink "PittanceHouse$Brother" (38 : Nat) "PittanceHouse$Brother" "gown" "I") ∈ lw_all := lw_g (lw_at lw_m4 61 rfl) rfl
theorem q880 : (Jvm.Cond.fieldLink "PittanceHouse$Brother" (41 : Nat) "PittanceHouse$Brother" "ban" "I") ∈ lw_all := lw_g (lw_at lw_m4 63 rfl) rfl
theorem q882 : (Jvm.Cond.fieldLink "PittanceHouse$Brother" (44 : Nat) "PittanceHouse$Brother" "pence" "I") ∈ lw_all := lw_g (lw_at lw_m4 65 rfl) rfl
theorem q885 : (Jvm.Cond.fieldLink "PittanceHouse$Brother" (18 : Nat) "PittanceHouse$Brother" "voice" "I") ∈ lw_all := lw_g (lw_at lw_m4 68 rfl) rfl
theorem q887 : (Jvm.Cond.fieldLink "PittanceHouse$Brother" (21 : Nat) "PittanceHouse$Brother" "broke" "[I") ∈ lw_all := lw_g (lw_at lw_m4 70 rfl) rfl
theorem q889 : (Jvm.Cond.laysFinal "PittanceHouse$Brother" "PittanceHouse$Brother" "number" "I") ∈ lw_all := lw_g (lw_at lw_m4 72 rfl) rfl
theorem q890 : (Jvm.Cond.soleField "PittanceHouse$Brother" "number") ∈ lw_all := lw_g (lw_at lw_m4 73 rfl) rfl
theorem q891 : (Jvm.Cond.laysFinal "PittanceHouse$Brother" "PittanceHouse$Brother" "isKin" "Z") ∈ lw_all := lw_g (lw_at lw_m4 74 rfl) rfl
theorem q892 : (Jvm.Cond.soleField "PittanceHouse$Brother" "isKin") ∈ lw_all := lw_g (lw_at lw_m4 75 rfl) rfl
theorem q893 : (Jvm.Cond.lays "PittanceHouse$Brother" "PittanceHouse$Brother" "age" "I") ∈ lw_all := lw_g (lw_at lw_m4 76 rfl) rfl
theorem q894 : (Jvm.Cond.soleField "PittanceHouse$Brother" "age") ∈ lw_all := lw_g (lw_at lw_m4 77 rfl) rfl
theorem q895 : (Jvm.Cond.lays "PittanceHouse$Brother" "PittanceHouse$Brother" "state" "I") ∈ lw_all := lw_g (lw_at lw_m4 78 rfl) rfl
theorem q896 : (Jvm.Cond.soleField "PittanceHouse$Brother" "state") ∈ lw_all := lw_g (lw_at lw_m4 79 rfl) rfl
theorem q897 : (Jvm.Cond.lays "PittanceHouse$Brother" "PittanceHouse$Brother" "cell" "I") ∈ lw_all := lw_g (lw_at lw_m4 80 rfl) rfl
theorem q898 : (Jvm.Cond.soleField "PittanceHouse$Brother" "cell") ∈ lw_all := lw_g (lw_at lw_m4 81 rfl) rfl
theorem q899 : (Jvm.Cond.lays "PittanceHouse$Brother" "PittanceHouse$Brother" "gown" "I") ∈ lw_all := lw_g (lw_at lw_m4 82 rfl) rfl
theorem q900 : (Jvm.Cond.soleField "PittanceHouse$Brother" "gown") ∈ lw_all := lw_g (lw_at lw_m4 83 rfl) rfl
theorem q901 : (Jvm.Cond.lays "PittanceHouse$Brother" "PittanceHouse$Brother" "ban" "I") ∈ lw_all := lw_g (lw_at lw_m4 84 rfl) rfl
theorem q902 : (Jvm.Cond.soleField "PittanceHouse$Brother" "ban") ∈ lw_all := lw_g (lw_at lw_m4 85 rfl) rfl
theorem q903 : (Jvm.Cond.lays "PittanceHouse$Brother" "PittanceHouse$Brother" "pence" "I") ∈ lw_all := lw_g (lw_at lw_m4 86 rfl) rfl
theorem q904 : (Jvm.Cond.soleField "PittanceHouse$Brother" "pence") ∈ lw_all := lw_g (lw_at lw_m4 87 rfl) rfl
theorem q905 : (Jvm.Cond.lays "PittanceHouse$Brother" "PittanceHouse$Brother" "voice" "I") ∈ lw_all := lw_g (lw_at lw_m4 88 rfl) rfl
theorem q906 : (Jvm.Cond.soleField "PittanceHouse$Brother" "voice") ∈ lw_all := lw_g (lw_at lw_m4 89 rfl) rfl
theorem q907 : (Jvm.Cond.laysFinal "PittanceHouse$Brother" "PittanceHouse$Brother" "broke" "[I") ∈ lw_all := lw_g (lw_at lw_m4 90 rfl) rfl
theorem q908 : (Jvm.Cond.soleField "PittanceHouse$Brother" "broke") ∈ lw_all := lw_g (lw_at lw_m4 91 rfl) rfl
theorem q909 : (Jvm.Cond.superclass "PittanceHouse$Brother" "java/lang/Object") ∈ lw_all := lw_g (lw_at lw_m4 92 rfl) rfl
theorem q910 : (Jvm.Cond.methodLink "PittanceHouse$Brother" (47 : Nat) ({ cls := "java/lang/System", name := "arraycopy", desc := "(Ljava/lang/Object;ILjava/lang/Object;II)V" } : Jvm.MethodName)) ∈ lw_all := lw_g (lw_at lw_m4 93 rfl) rfl
theorem q1164 : (Jvm.Cond.instanceMethod ({ cls := "PittanceHouse$Brother", name := "checkWaits", desc := "()V" } : Jvm.MethodName)) ∈ lw_all := lw_g (lw_at lw_m5 107 rfl) rfl
theorem q1165 : (Jvm.Cond.selects "PittanceHouse$Brother" ({ cls := "PittanceHouse$Brother", name := "checkWaits", desc := "()V" } : Jvm.MethodName) ({ cls := "PittanceHouse$Brother", name := "checkWaits", desc := "()V" } : Jvm.MethodName)) ∈ lw_all := lw_g (lw_at lw_m5 108 rfl) rfl
theorem q1166 : (Jvm.Cond.code ({ cls := "PittanceHouse$Brother", name := "checkWaits", desc := "()V" } : Jvm.MethodName) prog_4_method_5_code (1 : Nat) (Option.none : Option Jvm.ClassFile.FieldType)) ∈ lw_all := lw_g (lw_at lw_m5 109 rfl) rfl
theorem q1167 : (Jvm.Cond.methodLinkNest "PittanceHouse$Brother" (53 : Nat) ({ cls := "PittanceHouse", name := "refuse", desc := "(ZII)V" } : Jvm.MethodName) "PittanceHouse") ∈ lw_tbl := lw_at lw_m5 110 rfl
theorem q1273 : (Jvm.Cond.instanceMethod ({ cls := "PittanceHouse$Brother", name := "goes", desc := "(I)V" } : Jvm.MethodName)) ∈ lw_all := lw_g (lw_at lw_m5 216 rfl) rfl
theorem q1274 : (Jvm.Cond.selects "PittanceHouse$Brother" ({ cls := "PittanceHouse$Brother", name := "goes", desc := "(I)V" } : Jvm.MethodName) ({ cls := "PittanceHouse$Brother", name := "goes", desc := "(I)V" } : Jvm.MethodName)) ∈ lw_all := lw_g (lw_at lw_m5 217 rfl) rfl
theorem q1275 : (Jvm.Cond.code ({ cls := "PittanceHouse$Brother", name := "goes", desc := "(I)V" } : Jvm.MethodName) prog_4_method_8_code (2 : Nat) (Option.none : Option Jvm.ClassFile.FieldType)) ∈ lw_all := lw_g (lw_at lw_m5 218 rfl) rfl
theorem q1286 : (Jvm.Cond.instanceMethod ({ cls := "PittanceHouse$Brother", name := "checkCell", desc := "()V" } : Jvm.MethodName)) ∈ lw_all := lw_g (lw_at lw_m5 229 rfl) rfl
theorem q1287 : (Jvm.Cond.selects "PittanceHouse$Brother" ({ cls := "PittanceHouse$Brother", name := "checkCell", desc := "()V" } : Jvm.MethodName) ({ cls := "PittanceHouse$Brother", name := "checkCell", desc := "()V" } : Jvm.MethodName)) ∈ lw_all := lw_g (lw_at lw_m5 230 rfl) rfl
theorem q1288 : (Jvm.Cond.code ({ cls := "PittanceHouse$Brother", name := "checkCell", desc := "()V" } : Jvm.MethodName) prog_4_method_6_code (1 : Nat) (Option.none : Option Jvm.ClassFile.FieldType)) ∈ lw_all := lw_g (lw_at lw_m5 231 rfl) rfl
theorem q1416 : (Jvm.Cond.instanceMethod ({ cls := "PittanceHouse$Brother", name := "comesTo", desc := "(I)V" } : Jvm.MethodName)) ∈ lw_all := lw_g (lw_at lw_m6 119 rfl) rfl
theorem q1417 : (Jvm.Cond.selects "PittanceHouse$Brother" ({ cls := "PittanceHouse$Brother", name := "comesTo", desc := "(I)V" } : Jvm.MethodName) ({ cls := "PittanceHouse$Brother", name := "comesTo", desc := "(I)V" } : Jvm.MethodName)) ∈ lw_all := lw_g (lw_at lw_m6 120 rfl) rfl
theorem q1418 : (Jvm.Cond.code ({ cls := "PittanceHouse$Brother", name := "comesTo", desc := "(I)V" } : Jvm.MethodName) prog_4_method_7_code (2 : Nat) (Option.none : Option Jvm.ClassFile.FieldType)) ∈ lw_all := lw_g (lw_at lw_m6 121 rfl) rfl
theorem q1458 : (Jvm.Cond.instanceMethod ({ cls := "PittanceHouse$Brother", name := "isTooMuch", desc := "(I)Z" } : Jvm.MethodName)) ∈ lw_all := lw_g (lw_at lw_m6 161 rfl) rfl
theorem q1459 : (Jvm.Cond.selects "PittanceHouse$Brother" ({ cls := "PittanceHouse$Brother", name := "isTooMuch", desc := "(I)Z" } : Jvm.MethodName) ({ cls := "PittanceHouse$Brother", name := "isTooMuch", desc := "(I)Z" } : Jvm.MethodName)) ∈ lw_all := lw_g (lw_at lw_m6 162 rfl) rfl
theorem q1460 : (Jvm.Cond.code ({ cls := "PittanceHouse$Brother", name := "isTooMuch", desc := "(I)Z" } : Jvm.MethodName) prog_4_method_9_code (2 : Nat) (Option.some Jvm.ClassFile.FieldType.boolean)) ∈ lw_all := lw_g (lw_at lw_m6 163 rfl) rfl
theorem q1526 : (Jvm.Cond.instanceMethod ({ cls := "PittanceHouse$Brother", name := "isEntitled", desc := "()Z" } : Jvm.MethodName)) ∈ lw_all := lw_g (lw_at lw_m6 229 rfl) rfl
theorem q1527 : (Jvm.Cond.selects "PittanceHouse$Brother" ({ cls := "PittanceHouse$Brother", name := "isEntitled", desc := "()Z" } : Jvm.MethodName) ({ cls := "PittanceHouse$Brother", name := "isEntitled", desc := "()Z" } : Jvm.MethodName)) ∈ lw_all := lw_g (lw_at lw_m6 230 rfl) rfl
theorem q1528 : (Jvm.Cond.code ({ cls := "PittanceHouse$Brother", name := "isEntitled", desc := "()Z" } : Jvm.MethodName) prog_4_method_3_code (1 : Nat) (Option.some Jvm.ClassFile.FieldType.boolean)) ∈ lw_all := lw_g (lw_at lw_m6 231 rfl) rfl
theorem q1534 : (Jvm.Cond.instanceMethod ({ cls := "PittanceHouse$Brother", name := "isHere", desc := "()Z" } : Jvm.MethodName)) ∈ lw_all := lw_g (lw_at lw_m6 237 rfl) rfl
theorem q1535 : (Jvm.Cond.selects "PittanceHouse$Brother" ({ cls := "PittanceHouse$Brother", name := "isHere", desc := "()Z" } : Jvm.MethodName) ({ cls := "PittanceHouse$Brother", name := "isHere", desc := "()Z" } : Jvm.MethodName)) ∈ lw_all := lw_g (lw_at lw_m6 238 rfl) rfl
theorem q1536 : (Jvm.Cond.code ({ cls := "PittanceHouse$Brother", name := "isHere", desc := "()Z" } : Jvm.MethodName) prog_4_method_4_code (1 : Nat) (Option.some Jvm.ClassFile.FieldType.boolean)) ∈ lw_all := lw_g (lw_at lw_m6 239 rfl) rfl
theorem q1558 : (Jvm.Cond.instanceMethod ({ cls := "PittanceHouse$Brother", name := "allBroken", desc := "()I" } : Jvm.MethodName)) ∈ lw_all := lw_g (lw_at lw_m7 21 rfl) rfl
theorem q1559 : (Jvm.Cond.selects "PittanceHouse$Brother" ({ cls := "PittanceHouse$Brother", name := "allBroken", desc := "()I" } : Jvm.MethodName) ({ cls := "PittanceHouse$Brother", name := "allBroken", desc := "()I" } : Jvm.MethodName)) ∈ lw_all := lw_g (lw_at lw_m7 22 rfl) rfl
theorem q1560 : (Jvm.Cond.code ({ cls := "PittanceHouse$Brother", name := "allBroken", desc := "()I" } : Jvm.MethodName) prog_4_method_10_code (6 : Nat) (Option.some Jvm.ClassFile.FieldType.int)) ∈ lw_all := lw_g (lw_at lw_m7 23 rfl) rfl
theorem q2618 : (Jvm.Cond.castable "PittanceHouse$Brother" "java/lang/Object") ∈ lw_tbl := lw_at lw_m11 121 rfl
theorem in_X3 : ∀ w ∈ wsX30, w ∈ lw_all := lw_in wsX30 [889, 891, 893, 895, 897, 899, 901, 903, 905, 907] (by decide +kernel) (by decide +kernel)
/-! PittanceHouse$Refused -/
set_option maxRecDepth 100000
def RX4 : String := "PittanceHouse$Refused"
def TX4 : u_T := fun k => match k with
  | 0 => ("java/lang/Throwable", "cause", "Ljava/lang/Throwable;", false)
  | 1 => ("java/lang/Throwable", "stackTrace", "[Ljava/lang/StackTraceElement;", false)
  | 2 => ("java/lang/Throwable", "suppressedExceptions", "Ljava/util/List;", false)
  | 3 => ("java/lang/Throwable", "detailMessage", "Ljava/lang/String;", false)
  | 4 => ("java/lang/Throwable", "backtrace", "Ljava/lang/Object;", false)
  | 5 => ("java/lang/Throwable", "depth", "I", false)
  | 6 => ("PittanceHouse$Refused", "reason", "I", true)
  | _ => ("PittanceHouse$Refused", "detail", "I", true)
def tyX4 : Nat → FieldType := fun k => match k with
  | 0 => .object "java/lang/Throwable"
  | 1 => .array (.object "java/lang/StackTraceElement")
  | 2 => .object "java/util/List"
  | 3 => .object "java/lang/String"
  | 4 => .object "java/lang/Object"
  | 5 => .int
  | 6 => .int
  | _ => .int
abbrev wsX40 : List Cond := u_ws RX4 TX4 8
theorem nmX4 : ∀ a, a < 8 → ∀ b, b < 8 → a ≠ b → (TX4 a).2.1 ≠ (TX4 b).2.1 := by decide +kernel
theorem tyX4_ok : ∀ k, k < 8 → parseFieldDescriptor (TX4 k).2.2.1 = some (tyX4 k) := by decide +kernel
abbrev cX4_init : ByteArray := prog_10_method_1_code
def yX4_init : MethodName := ⟨RX4, "<init>", "(II)V"⟩
def dkwX4_init_0 : List UInt8 := [42, 1, 1, 3, 3, 183, 0, 1, 42, 27, 181, 0, 7, 42, 28, 181, 0, 13, 177]
abbrev dktX4_init_0 : List UInt8 := dkwX4_init_0 ++ []
theorem dksX4_init_0 : cX4_init.data.toList.drop 0 = dktX4_init_0 := by decide +kernel
theorem dX4_init_0 : decode cX4_init 0 = .ok (.aload_n 0, 1) := dk_42 (dk_at dksX4_init_0 0 rfl rfl)
theorem dX4_init_1 : decode cX4_init 1 = .ok (.aconst_null, 1) := dk_1 (dk_at dksX4_init_0 1 rfl rfl)
theorem dX4_init_2 : decode cX4_init 2 = .ok (.aconst_null, 1) := dk_1 (dk_at dksX4_init_0 2 rfl rfl)
theorem dX4_init_3 : decode cX4_init 3 = .ok (.iconst 0, 1) := dk_3 (dk_at dksX4_init_0 3 rfl rfl)
theorem dX4_init_4 : decode cX4_init 4 = .ok (.iconst 0, 1) := dk_3 (dk_at dksX4_init_0 4 rfl rfl)
theorem dX4_init_5 : decode cX4_init 5 = .ok (.invokespecial 1, 3) := dk_183 0 1 (dk_at dksX4_init_0 5 rfl rfl)
theorem dX4_init_8 : decode cX4_init 8 = .ok (.aload_n 0, 1) := dk_42 (dk_at dksX4_init_0 8 rfl rfl)
theorem dX4_init_9 : decode cX4_init 9 = .ok (.iload_n 1, 1) := dk_27 (dk_at dksX4_init_0 9 rfl rfl)
theorem dX4_init_10 : decode cX4_init 10 = .ok (.putfield 7, 3) := dk_181 0 7 (dk_at dksX4_init_0 10 rfl rfl)
theorem dX4_init_13 : decode cX4_init 13 = .ok (.aload_n 0, 1) := dk_42 (dk_at dksX4_init_0 13 rfl rfl)
theorem dX4_init_14 : decode cX4_init 14 = .ok (.iload_n 2, 1) := dk_28 (dk_at dksX4_init_0 14 rfl rfl)
theorem dX4_init_15 : decode cX4_init 15 = .ok (.putfield 13, 3) := dk_181 0 13 (dk_at dksX4_init_0 15 rfl rfl)
theorem dX4_init_18 : decode cX4_init 18 = .ok (.return_, 1) := dk_177 (dk_at dksX4_init_0 18 rfl rfl)
theorem q132 : (Jvm.Cond.initialized "PittanceHouse$Refused") ∈ lw_all := lw_g (lw_at lw_m1 35 rfl) rfl
theorem q484 : (Jvm.Cond.selects "PittanceHouse$Refused" ({ cls := "java/lang/Throwable", name := "fillInStackTrace", desc := "()Ljava/lang/Throwable;" } : Jvm.MethodName) ({ cls := "java/lang/Throwable", name := "fillInStackTrace", desc := "()Ljava/lang/Throwable;" } : Jvm.MethodName)) ∈ lw_all := lw_g (lw_at lw_m2 147 rfl) rfl
theorem q582 : (Jvm.Cond.selects "PittanceHouse$Refused" ({ cls := "java/lang/Throwable", name := "toString", desc := "()Ljava/lang/String;" } : Jvm.MethodName) ({ cls := "java/lang/Throwable", name := "toString", desc := "()Ljava/lang/String;" } : Jvm.MethodName)) ∈ lw_all := lw_g (lw_at lw_m3 5 rfl) rfl
theorem q599 : (Jvm.Cond.selects "PittanceHouse$Refused" ({ cls := "java/lang/Object", name := "getClass", desc := "()Ljava/lang/Class;" } : Jvm.MethodName) ({ cls := "java/lang/Object", name := "getClass", desc := "()Ljava/lang/Class;" } : Jvm.MethodName)) ∈ lw_all := lw_g (lw_at lw_m3 22 rfl) rfl
theorem q623 : (Jvm.Cond.selects "PittanceHouse$Refused" ({ cls := "java/lang/Throwable", name := "getLocalizedMessage", desc := "()Ljava/lang/String;" } : Jvm.MethodName) ({ cls := "java/lang/Throwable", name := "getLocalizedMessage", desc := "()Ljava/lang/String;" } : Jvm.MethodName)) ∈ lw_all := lw_g (lw_at lw_m3 46 rfl) rfl
theorem q632 : (Jvm.Cond.selects "PittanceHouse$Refused" ({ cls := "java/lang/Throwable", name := "getMessage", desc := "()Ljava/lang/String;" } : Jvm.MethodName) ({ cls := "java/lang/Throwable", name := "getMessage", desc := "()Ljava/lang/String;" } : Jvm.MethodName)) ∈ lw_all := lw_g (lw_at lw_m3 55 rfl) rfl
theorem q1078 : (Jvm.Cond.instantiable "PittanceHouse$Refused" (8 : Nat)) ∈ lw_all := lw_g (lw_at lw_m5 21 rfl) rfl
theorem q1079 : (Jvm.Cond.castable "PittanceHouse$Refused" "PittanceHouse$Refused") ∈ lw_tbl := lw_at lw_m5 22 rfl
theorem q1080 : (Jvm.Cond.selects "PittanceHouse$Refused" ({ cls := "java/lang/Throwable", name := "fillInStackTrace", desc := "(I)Ljava/lang/Throwable;" } : Jvm.MethodName) ({ cls := "java/lang/Throwable", name := "fillInStackTrace", desc := "(I)Ljava/lang/Throwable;" } : Jvm.MethodName)) ∈ lw_all := lw_g (lw_at lw_m5 23 rfl) rfl
theorem q1081 : (Jvm.Cond.lays "PittanceHouse$Refused" "java/lang/Throwable" "cause" "Ljava/lang/Throwable;") ∈ lw_all := lw_g (lw_at lw_m5 24 rfl) rfl
theorem q1082 : (Jvm.Cond.lays "PittanceHouse$Refused" "java/lang/Throwable" "stackTrace" "[Ljava/lang/StackTraceElement;") ∈ lw_all := lw_g (lw_at lw_m5 25 rfl) rfl
theorem q1083 : (Jvm.Cond.lays "PittanceHouse$Refused" "java/lang/Throwable" "suppressedExceptions" "Ljava/util/List;") ∈ lw_all := lw_g (lw_at lw_m5 26 rfl) rfl
theorem q1084 : (Jvm.Cond.lays "PittanceHouse$Refused" "java/lang/Throwable" "detailMessage" "Ljava/lang/String;") ∈ lw_all := lw_g (lw_at lw_m5 27 rfl) rfl
theorem q1085 : (Jvm.Cond.lays "PittanceHouse$Refused" "java/lang/Throwable" "backtrace" "Ljava/lang/Object;") ∈ lw_all := lw_g (lw_at lw_m5 28 rfl) rfl
theorem q1087 : (Jvm.Cond.instanceMethod ({ cls := "PittanceHouse$Refused", name := "<init>", desc := "(II)V" } : Jvm.MethodName)) ∈ lw_all := lw_g (lw_at lw_m5 30 rfl) rfl
theorem q1088 : (Jvm.Cond.code ({ cls := "PittanceHouse$Refused", name := "<init>", desc := "(II)V" } : Jvm.MethodName) prog_10_method_1_code (3 : Nat) (Option.none : Option Jvm.ClassFile.FieldType)) ∈ lw_all := lw_g (lw_at lw_m5 31 rfl) rfl
theorem q1089 : (Jvm.Cond.methodLink "PittanceHouse$Refused" (1 : Nat) ({ cls := "java/lang/Exception", name := "<init>", desc := "(Ljava/lang/String;Ljava/lang/Throwable;ZZ)V" } : Jvm.MethodName)) ∈ lw_all := lw_g (lw_at lw_m5 32 rfl) rfl
theorem q1095 : (Jvm.Cond.fieldLink "PittanceHouse$Refused" (7 : Nat) "PittanceHouse$Refused" "reason" "I") ∈ lw_all := lw_g (lw_at lw_m5 38 rfl) rfl
theorem q1097 : (Jvm.Cond.fieldLink "PittanceHouse$Refused" (13 : Nat) "PittanceHouse$Refused" "detail" "I") ∈ lw_all := lw_g (lw_at lw_m5 40 rfl) rfl
theorem q1099 : (Jvm.Cond.laysFinal "PittanceHouse$Refused" "PittanceHouse$Refused" "reason" "I") ∈ lw_all := lw_g (lw_at lw_m5 42 rfl) rfl
theorem q1100 : (Jvm.Cond.soleField "PittanceHouse$Refused" "reason") ∈ lw_all := lw_g (lw_at lw_m5 43 rfl) rfl
theorem q1101 : (Jvm.Cond.laysFinal "PittanceHouse$Refused" "PittanceHouse$Refused" "detail" "I") ∈ lw_all := lw_g (lw_at lw_m5 44 rfl) rfl
theorem q1102 : (Jvm.Cond.soleField "PittanceHouse$Refused" "detail") ∈ lw_all := lw_g (lw_at lw_m5 45 rfl) rfl
theorem q1103 : (Jvm.Cond.lays "PittanceHouse$Refused" "java/lang/Throwable" "depth" "I") ∈ lw_all := lw_g (lw_at lw_m5 46 rfl) rfl
theorem q1104 : (Jvm.Cond.superclass "PittanceHouse$Refused" "java/lang/Exception") ∈ lw_all := lw_g (lw_at lw_m5 47 rfl) rfl
theorem q2625 : (Jvm.Cond.castable "PittanceHouse$Refused" "java/lang/Object") ∈ lw_tbl := lw_at lw_m11 128 rfl
theorem in_X4 : ∀ w ∈ wsX40, w ∈ lw_all := lw_in wsX40 [1081, 1082, 1083, 1084, 1085, 1103, 1099, 1101] (by decide +kernel) (by decide +kernel)
/-! PittanceHouse$House$1$1 -/
set_option maxRecDepth 100000
def RX5 : String := "PittanceHouse$House$1$1"
def TX5 : u_T := fun k => match k with
  | 0 => ("PittanceHouse$House$1$1", "at", "I", false)
  | _ => ("PittanceHouse$House$1$1", "this$1", "LPittanceHouse$House$1;", true)
def tyX5 : Nat → FieldType := fun k => match k with
  | 0 => .int
  | _ => .object "PittanceHouse$House$1"
abbrev wsX50 : List Cond := u_ws RX5 TX5 2
theorem nmX5 : ∀ a, a < 2 → ∀ b, b < 2 → a ≠ b → (TX5 a).2.1 ≠ (TX5 b).2.1 := by decide +kernel
theorem tyX5_ok : ∀ k, k < 2 → parseFieldDescriptor (TX5 k).2.2.1 = some (tyX5 k) := by decide +kernel
abbrev cX5_hasNext : ByteArray := prog_7_method_3_code
def yX5_hasNext : MethodName := ⟨RX5, "hasNext", "()Z"⟩
def dkwX5_hasNext_0 : List UInt8 := [42, 180, 0, 19, 16, 8, 162, 0, 7, 4, 167, 0, 4, 3, 172]
abbrev dktX5_hasNext_0 : List UInt8 := dkwX5_hasNext_0 ++ []
theorem dksX5_hasNext_0 : cX5_hasNext.data.toList.drop 0 = dktX5_hasNext_0 := by decide +kernel
theorem dX5_hasNext_0 : decode cX5_hasNext 0 = .ok (.aload_n 0, 1) := dk_42 (dk_at dksX5_hasNext_0 0 rfl rfl)
theorem dX5_hasNext_1 : decode cX5_hasNext 1 = .ok (.getfield 19, 3) := dk_180 0 19 (dk_at dksX5_hasNext_0 1 rfl rfl)
theorem dX5_hasNext_4 : decode cX5_hasNext 4 = .ok (.bipush 8, 2) := dk_16 8 (dk_at dksX5_hasNext_0 4 rfl rfl)
theorem dX5_hasNext_6 : decode cX5_hasNext 6 = .ok (.if_icmp .ge 7, 3) := dk_162 0 7 (dk_at dksX5_hasNext_0 6 rfl rfl)
theorem dX5_hasNext_9 : decode cX5_hasNext 9 = .ok (.iconst 1, 1) := dk_4 (dk_at dksX5_hasNext_0 9 rfl rfl)
theorem dX5_hasNext_10 : decode cX5_hasNext 10 = .ok (.goto 4, 3) := dk_167 0 4 (dk_at dksX5_hasNext_0 10 rfl rfl)
theorem dX5_hasNext_13 : decode cX5_hasNext 13 = .ok (.iconst 0, 1) := dk_3 (dk_at dksX5_hasNext_0 13 rfl rfl)
theorem dX5_hasNext_14 : decode cX5_hasNext 14 = .ok (.ireturn, 1) := dk_172 (dk_at dksX5_hasNext_0 14 rfl rfl)
abbrev cX5_next : ByteArray := prog_7_method_5_code
def yX5_next : MethodName := ⟨RX5, "next", "()Ljava/lang/Object;"⟩
theorem dX5_next_0 : decode cX5_next 0 = .ok (.aload_n 0, 1) := by decide +kernel
theorem dX5_next_1 : decode cX5_next 1 = .ok (.invokevirtual 50, 3) := by decide +kernel
theorem dX5_next_4 : decode cX5_next 4 = .ok (.areturn, 1) := by decide +kernel
abbrev cX5_next_2 : ByteArray := prog_7_method_4_code
def yX5_next_2 : MethodName := ⟨RX5, "next", "()LPittanceHouse$Brother;"⟩
def dkwX5_next_2_2 : List UInt8 := [76, 42, 42, 42, 180, 0, 19, 4, 96, 182, 0, 15, 181, 0, 19, 43, 176]
abbrev dktX5_next_2_2 : List UInt8 := dkwX5_next_2_2 ++ []
def dkwX5_next_2_1 : List UInt8 := [180, 0, 38, 42, 180, 0, 3, 180, 0, 23, 180, 0, 29, 42, 180, 0, 19, 46, 182, 0, 42, 192, 0, 48]
abbrev dktX5_next_2_1 : List UInt8 := dkwX5_next_2_1 ++ dktX5_next_2_2
def dkwX5_next_2_0 : List UInt8 := [42, 180, 0, 19, 16, 8, 161, 0, 11, 187, 0, 35, 89, 183, 0, 37, 191, 42, 180, 0, 3, 180, 0, 23]
abbrev dktX5_next_2_0 : List UInt8 := dkwX5_next_2_0 ++ dktX5_next_2_1
theorem dksX5_next_2_0 : cX5_next_2.data.toList.drop 0 = dktX5_next_2_0 := by decide +kernel
theorem dksX5_next_2_1 : cX5_next_2.data.toList.drop 24 = dktX5_next_2_1 := dk_seg dksX5_next_2_0 24 rfl rfl
theorem dksX5_next_2_2 : cX5_next_2.data.toList.drop 48 = dktX5_next_2_2 := dk_seg dksX5_next_2_1 24 rfl rfl
theorem dX5_next_2_0 : decode cX5_next_2 0 = .ok (.aload_n 0, 1) := dk_42 (dk_at dksX5_next_2_0 0 rfl rfl)
theorem dX5_next_2_1 : decode cX5_next_2 1 = .ok (.getfield 19, 3) := dk_180 0 19 (dk_at dksX5_next_2_0 1 rfl rfl)
theorem dX5_next_2_4 : decode cX5_next_2 4 = .ok (.bipush 8, 2) := dk_16 8 (dk_at dksX5_next_2_0 4 rfl rfl)
theorem dX5_next_2_6 : decode cX5_next_2 6 = .ok (.if_icmp .lt 11, 3) := dk_161 0 11 (dk_at dksX5_next_2_0 6 rfl rfl)
theorem dX5_next_2_9 : decode cX5_next_2 9 = .ok (.new 35, 3) := dk_187 0 35 (dk_at dksX5_next_2_0 9 rfl rfl)
theorem dX5_next_2_12 : decode cX5_next_2 12 = .ok (.dup, 1) := dk_89 (dk_at dksX5_next_2_0 12 rfl rfl)
theorem dX5_next_2_13 : decode cX5_next_2 13 = .ok (.invokespecial 37, 3) := dk_183 0 37 (dk_at dksX5_next_2_0 13 rfl rfl)
theorem dX5_next_2_16 : decode cX5_next_2 16 = .ok (.athrow, 1) := dk_191 (dk_at dksX5_next_2_0 16 rfl rfl)
theorem dX5_next_2_17 : decode cX5_next_2 17 = .ok (.aload_n 0, 1) := dk_42 (dk_at dksX5_next_2_0 17 rfl rfl)
theorem dX5_next_2_18 : decode cX5_next_2 18 = .ok (.getfield 3, 3) := dk_180 0 3 (dk_at dksX5_next_2_0 18 rfl rfl)
theorem dX5_next_2_21 : decode cX5_next_2 21 = .ok (.getfield 23, 3) := dk_180 0 23 (dk_at dksX5_next_2_0 21 rfl rfl)
theorem dX5_next_2_24 : decode cX5_next_2 24 = .ok (.getfield 38, 3) := dk_180 0 38 (dk_at dksX5_next_2_1 0 rfl rfl)
theorem dX5_next_2_27 : decode cX5_next_2 27 = .ok (.aload_n 0, 1) := dk_42 (dk_at dksX5_next_2_1 3 rfl rfl)
theorem dX5_next_2_28 : decode cX5_next_2 28 = .ok (.getfield 3, 3) := dk_180 0 3 (dk_at dksX5_next_2_1 4 rfl rfl)
theorem dX5_next_2_31 : decode cX5_next_2 31 = .ok (.getfield 23, 3) := dk_180 0 23 (dk_at dksX5_next_2_1 7 rfl rfl)
theorem dX5_next_2_34 : decode cX5_next_2 34 = .ok (.getfield 29, 3) := dk_180 0 29 (dk_at dksX5_next_2_1 10 rfl rfl)
theorem dX5_next_2_37 : decode cX5_next_2 37 = .ok (.aload_n 0, 1) := dk_42 (dk_at dksX5_next_2_1 13 rfl rfl)
theorem dX5_next_2_38 : decode cX5_next_2 38 = .ok (.getfield 19, 3) := dk_180 0 19 (dk_at dksX5_next_2_1 14 rfl rfl)
theorem dX5_next_2_41 : decode cX5_next_2 41 = .ok (.iaload, 1) := dk_46 (dk_at dksX5_next_2_1 17 rfl rfl)
theorem dX5_next_2_42 : decode cX5_next_2 42 = .ok (.invokevirtual 42, 3) := dk_182 0 42 (dk_at dksX5_next_2_1 18 rfl rfl)
theorem dX5_next_2_45 : decode cX5_next_2 45 = .ok (.checkcast 48, 3) := dk_192 0 48 (dk_at dksX5_next_2_1 21 rfl rfl)
theorem dX5_next_2_48 : decode cX5_next_2 48 = .ok (.astore_n 1, 1) := dk_76 (dk_at dksX5_next_2_2 0 rfl rfl)
theorem dX5_next_2_49 : decode cX5_next_2 49 = .ok (.aload_n 0, 1) := dk_42 (dk_at dksX5_next_2_2 1 rfl rfl)
theorem dX5_next_2_50 : decode cX5_next_2 50 = .ok (.aload_n 0, 1) := dk_42 (dk_at dksX5_next_2_2 2 rfl rfl)
theorem dX5_next_2_51 : decode cX5_next_2 51 = .ok (.aload_n 0, 1) := dk_42 (dk_at dksX5_next_2_2 3 rfl rfl)
theorem dX5_next_2_52 : decode cX5_next_2 52 = .ok (.getfield 19, 3) := dk_180 0 19 (dk_at dksX5_next_2_2 4 rfl rfl)
theorem dX5_next_2_55 : decode cX5_next_2 55 = .ok (.iconst 1, 1) := dk_4 (dk_at dksX5_next_2_2 7 rfl rfl)
theorem dX5_next_2_56 : decode cX5_next_2 56 = .ok (.iadd, 1) := dk_96 (dk_at dksX5_next_2_2 8 rfl rfl)
theorem dX5_next_2_57 : decode cX5_next_2 57 = .ok (.invokevirtual 15, 3) := dk_182 0 15 (dk_at dksX5_next_2_2 9 rfl rfl)
theorem dX5_next_2_60 : decode cX5_next_2 60 = .ok (.putfield 19, 3) := dk_181 0 19 (dk_at dksX5_next_2_2 12 rfl rfl)
theorem dX5_next_2_63 : decode cX5_next_2 63 = .ok (.aload_n 1, 1) := dk_43 (dk_at dksX5_next_2_2 15 rfl rfl)
theorem dX5_next_2_64 : decode cX5_next_2 64 = .ok (.areturn, 1) := dk_176 (dk_at dksX5_next_2_2 16 rfl rfl)
abbrev cX5_next_3 : ByteArray := prog_7_method_2_code
def yX5_next_3 : MethodName := ⟨RX5, "next", "(I)I"⟩
def dkwX5_next_3_1 : List UInt8 := [160, 0, 9, 132, 2, 1, 167, 255, 230, 28, 172]
abbrev dktX5_next_3_1 : List UInt8 := dkwX5_next_3_1 ++ []
def dkwX5_next_3_0 : List UInt8 := [27, 61, 28, 16, 8, 162, 0, 26, 42, 180, 0, 3, 180, 0, 23, 180, 0, 29, 28, 46, 16, 241]
abbrev dktX5_next_3_0 : List UInt8 := dkwX5_next_3_0 ++ dktX5_next_3_1
theorem dksX5_next_3_0 : cX5_next_3.data.toList.drop 0 = dktX5_next_3_0 := by decide +kernel
theorem dksX5_next_3_1 : cX5_next_3.data.toList.drop 22 = dktX5_next_3_1 := dk_seg dksX5_next_3_0 22 rfl rfl
theorem dX5_next_3_0 : decode cX5_next_3 0 = .ok (.iload_n 1, 1) := dk_27 (dk_at dksX5_next_3_0 0 rfl rfl)
theorem dX5_next_3_1 : decode cX5_next_3 1 = .ok (.istore_n 2, 1) := dk_61 (dk_at dksX5_next_3_0 1 rfl rfl)
theorem dX5_next_3_2 : decode cX5_next_3 2 = .ok (.iload_n 2, 1) := dk_28 (dk_at dksX5_next_3_0 2 rfl rfl)
theorem dX5_next_3_3 : decode cX5_next_3 3 = .ok (.bipush 8, 2) := dk_16 8 (dk_at dksX5_next_3_0 3 rfl rfl)
theorem dX5_next_3_5 : decode cX5_next_3 5 = .ok (.if_icmp .ge 26, 3) := dk_162 0 26 (dk_at dksX5_next_3_0 5 rfl rfl)
theorem dX5_next_3_8 : decode cX5_next_3 8 = .ok (.aload_n 0, 1) := dk_42 (dk_at dksX5_next_3_0 8 rfl rfl)
theorem dX5_next_3_9 : decode cX5_next_3 9 = .ok (.getfield 3, 3) := dk_180 0 3 (dk_at dksX5_next_3_0 9 rfl rfl)
theorem dX5_next_3_12 : decode cX5_next_3 12 = .ok (.getfield 23, 3) := dk_180 0 23 (dk_at dksX5_next_3_0 12 rfl rfl)
theorem dX5_next_3_15 : decode cX5_next_3 15 = .ok (.getfield 29, 3) := dk_180 0 29 (dk_at dksX5_next_3_0 15 rfl rfl)
theorem dX5_next_3_18 : decode cX5_next_3 18 = .ok (.iload_n 2, 1) := dk_28 (dk_at dksX5_next_3_0 18 rfl rfl)
theorem dX5_next_3_19 : decode cX5_next_3 19 = .ok (.iaload, 1) := dk_46 (dk_at dksX5_next_3_0 19 rfl rfl)
theorem dX5_next_3_20 : decode cX5_next_3 20 = .ok (.bipush (-15), 2) := dk_16 241 (dk_at dksX5_next_3_0 20 rfl rfl)
theorem dX5_next_3_22 : decode cX5_next_3 22 = .ok (.if_icmp .ne 9, 3) := dk_160 0 9 (dk_at dksX5_next_3_1 0 rfl rfl)
theorem dX5_next_3_25 : decode cX5_next_3 25 = .ok (.iinc 2 1, 3) := dk_132 2 1 (dk_at dksX5_next_3_1 3 rfl rfl)
theorem dX5_next_3_28 : decode cX5_next_3 28 = .ok (.goto (-26), 3) := dk_167 255 230 (dk_at dksX5_next_3_1 6 rfl rfl)
theorem dX5_next_3_31 : decode cX5_next_3 31 = .ok (.iload_n 2, 1) := dk_28 (dk_at dksX5_next_3_1 9 rfl rfl)
theorem dX5_next_3_32 : decode cX5_next_3 32 = .ok (.ireturn, 1) := dk_172 (dk_at dksX5_next_3_1 10 rfl rfl)
abbrev cX5_init : ByteArray := prog_7_method_1_code
def yX5_init : MethodName := ⟨RX5, "<init>", "(LPittanceHouse$House$1;)V"⟩
def dkwX5_init_0 : List UInt8 := [42, 43, 181, 0, 3, 42, 183, 0, 9, 42, 42, 3, 182, 0, 15, 181, 0, 19, 177]
abbrev dktX5_init_0 : List UInt8 := dkwX5_init_0 ++ []
theorem dksX5_init_0 : cX5_init.data.toList.drop 0 = dktX5_init_0 := by decide +kernel
theorem dX5_init_0 : decode cX5_init 0 = .ok (.aload_n 0, 1) := dk_42 (dk_at dksX5_init_0 0 rfl rfl)
theorem dX5_init_1 : decode cX5_init 1 = .ok (.aload_n 1, 1) := dk_43 (dk_at dksX5_init_0 1 rfl rfl)
theorem dX5_init_2 : decode cX5_init 2 = .ok (.putfield 3, 3) := dk_181 0 3 (dk_at dksX5_init_0 2 rfl rfl)
theorem dX5_init_5 : decode cX5_init 5 = .ok (.aload_n 0, 1) := dk_42 (dk_at dksX5_init_0 5 rfl rfl)
theorem dX5_init_6 : decode cX5_init 6 = .ok (.invokespecial 9, 3) := dk_183 0 9 (dk_at dksX5_init_0 6 rfl rfl)
theorem dX5_init_9 : decode cX5_init 9 = .ok (.aload_n 0, 1) := dk_42 (dk_at dksX5_init_0 9 rfl rfl)
theorem dX5_init_10 : decode cX5_init 10 = .ok (.aload_n 0, 1) := dk_42 (dk_at dksX5_init_0 10 rfl rfl)
theorem dX5_init_11 : decode cX5_init 11 = .ok (.iconst 0, 1) := dk_3 (dk_at dksX5_init_0 11 rfl rfl)
theorem dX5_init_12 : decode cX5_init 12 = .ok (.invokevirtual 15, 3) := dk_182 0 15 (dk_at dksX5_init_0 12 rfl rfl)
theorem dX5_init_15 : decode cX5_init 15 = .ok (.putfield 19, 3) := dk_181 0 19 (dk_at dksX5_init_0 15 rfl rfl)
theorem dX5_init_18 : decode cX5_init 18 = .ok (.return_, 1) := dk_177 (dk_at dksX5_init_0 18 rfl rfl)
theorem q135 : (Jvm.Cond.initialized "PittanceHouse$House$1$1") ∈ lw_all := lw_g (lw_at lw_m1 38 rfl) rfl
theorem q215 : (Jvm.Cond.fieldLinkNest "PittanceHouse$House$1$1" (38 : Nat) "PittanceHouse$House" "brethren" "Ljava/util/ArrayList;" "PittanceHouse") ∈ lw_tbl := lw_at lw_m1 118 rfl
theorem q221 : (Jvm.Cond.fieldLinkNest "PittanceHouse$House$1$1" (29 : Nat) "PittanceHouse$House" "cells" "[I" "PittanceHouse") ∈ lw_tbl := lw_at lw_m1 124 rfl
theorem q396 : (Jvm.Cond.castable "PittanceHouse$House$1$1" "java/util/Iterator") ∈ lw_tbl := lw_at lw_m2 59 rfl
theorem q397 : (Jvm.Cond.selects "PittanceHouse$House$1$1" ({ cls := "java/util/Iterator", name := "hasNext", desc := "()Z" } : Jvm.MethodName) ({ cls := "PittanceHouse$House$1$1", name := "hasNext", desc := "()Z" } : Jvm.MethodName)) ∈ lw_all := lw_g (lw_at lw_m2 60 rfl) rfl
theorem q398 : (Jvm.Cond.unhidden "PittanceHouse$House$1$1" "hasNext" "()Z") ∈ lw_tbl := lw_at lw_m2 61 rfl
theorem q399 : (Jvm.Cond.instanceMethod ({ cls := "PittanceHouse$House$1$1", name := "hasNext", desc := "()Z" } : Jvm.MethodName)) ∈ lw_all := lw_g (lw_at lw_m2 62 rfl) rfl
theorem q400 : (Jvm.Cond.publicMethod ({ cls := "PittanceHouse$House$1$1", name := "hasNext", desc := "()Z" } : Jvm.MethodName)) ∈ lw_tbl := lw_at lw_m2 63 rfl
theorem q401 : (Jvm.Cond.code ({ cls := "PittanceHouse$House$1$1", name := "hasNext", desc := "()Z" } : Jvm.MethodName) prog_7_method_3_code (1 : Nat) (Option.some Jvm.ClassFile.FieldType.boolean)) ∈ lw_all := lw_g (lw_at lw_m2 64 rfl) rfl
theorem q442 : (Jvm.Cond.selects "PittanceHouse$House$1$1" ({ cls := "java/util/Iterator", name := "next", desc := "()Ljava/lang/Object;" } : Jvm.MethodName) ({ cls := "PittanceHouse$House$1$1", name := "next", desc := "()Ljava/lang/Object;" } : Jvm.MethodName)) ∈ lw_all := lw_g (lw_at lw_m2 105 rfl) rfl
theorem q443 : (Jvm.Cond.unhidden "PittanceHouse$House$1$1" "next" "()Ljava/lang/Object;") ∈ lw_tbl := lw_at lw_m2 106 rfl
theorem q444 : (Jvm.Cond.instanceMethod ({ cls := "PittanceHouse$House$1$1", name := "next", desc := "()Ljava/lang/Object;" } : Jvm.MethodName)) ∈ lw_all := lw_g (lw_at lw_m2 107 rfl) rfl
theorem q445 : (Jvm.Cond.publicMethod ({ cls := "PittanceHouse$House$1$1", name := "next", desc := "()Ljava/lang/Object;" } : Jvm.MethodName)) ∈ lw_tbl := lw_at lw_m2 108 rfl
theorem q446 : (Jvm.Cond.code ({ cls := "PittanceHouse$House$1$1", name := "next", desc := "()Ljava/lang/Object;" } : Jvm.MethodName) prog_7_method_5_code (1 : Nat) (Option.some (Jvm.ClassFile.FieldType.object "java/lang/Object"))) ∈ lw_all := lw_g (lw_at lw_m2 109 rfl) rfl
theorem q447 : (Jvm.Cond.methodLink "PittanceHouse$House$1$1" (50 : Nat) ({ cls := "PittanceHouse$House$1$1", name := "next", desc := "()LPittanceHouse$Brother;" } : Jvm.MethodName)) ∈ lw_all := lw_g (lw_at lw_m2 110 rfl) rfl
theorem q448 : (Jvm.Cond.instanceMethod ({ cls := "PittanceHouse$House$1$1", name := "next", desc := "()LPittanceHouse$Brother;" } : Jvm.MethodName)) ∈ lw_all := lw_g (lw_at lw_m2 111 rfl) rfl
theorem q449 : (Jvm.Cond.selects "PittanceHouse$House$1$1" ({ cls := "PittanceHouse$House$1$1", name := "next", desc := "()LPittanceHouse$Brother;" } : Jvm.MethodName) ({ cls := "PittanceHouse$House$1$1", name := "next", desc := "()LPittanceHouse$Brother;" } : Jvm.MethodName)) ∈ lw_all := lw_g (lw_at lw_m2 112 rfl) rfl
theorem q450 : (Jvm.Cond.code ({ cls := "PittanceHouse$House$1$1", name := "next", desc := "()LPittanceHouse$Brother;" } : Jvm.MethodName) prog_7_method_4_code (2 : Nat) (Option.some (Jvm.ClassFile.FieldType.object "PittanceHouse$Brother"))) ∈ lw_all := lw_g (lw_at lw_m2 113 rfl) rfl
theorem q451 : (Jvm.Cond.classLink "PittanceHouse$House$1$1" (35 : Nat) "java/util/NoSuchElementException") ∈ lw_all := lw_g (lw_at lw_m2 114 rfl) rfl
theorem q494 : (Jvm.Cond.methodLink "PittanceHouse$House$1$1" (37 : Nat) ({ cls := "java/util/NoSuchElementException", name := "<init>", desc := "()V" } : Jvm.MethodName)) ∈ lw_all := lw_g (lw_at lw_m2 157 rfl) rfl
theorem q517 : (Jvm.Cond.methodLink "PittanceHouse$House$1$1" (42 : Nat) ({ cls := "java/util/ArrayList", name := "get", desc := "(I)Ljava/lang/Object;" } : Jvm.MethodName)) ∈ lw_all := lw_g (lw_at lw_m2 180 rfl) rfl
theorem q531 : (Jvm.Cond.classLink "PittanceHouse$House$1$1" (48 : Nat) "PittanceHouse$Brother") ∈ lw_all := lw_g (lw_at lw_m2 194 rfl) rfl
theorem q532 : (Jvm.Cond.methodLink "PittanceHouse$House$1$1" (15 : Nat) ({ cls := "PittanceHouse$House$1$1", name := "next", desc := "(I)I" } : Jvm.MethodName)) ∈ lw_all := lw_g (lw_at lw_m2 195 rfl) rfl
theorem q533 : (Jvm.Cond.privateMethod ({ cls := "PittanceHouse$House$1$1", name := "next", desc := "(I)I" } : Jvm.MethodName)) ∈ lw_tbl := lw_at lw_m2 196 rfl
theorem q534 : (Jvm.Cond.instanceMethod ({ cls := "PittanceHouse$House$1$1", name := "next", desc := "(I)I" } : Jvm.MethodName)) ∈ lw_all := lw_g (lw_at lw_m2 197 rfl) rfl
theorem q535 : (Jvm.Cond.instantiable "PittanceHouse$House$1$1" (2 : Nat)) ∈ lw_all := lw_g (lw_at lw_m2 198 rfl) rfl
theorem q536 : (Jvm.Cond.code ({ cls := "PittanceHouse$House$1$1", name := "next", desc := "(I)I" } : Jvm.MethodName) prog_7_method_2_code (3 : Nat) (Option.some Jvm.ClassFile.FieldType.int)) ∈ lw_all := lw_g (lw_at lw_m2 199 rfl) rfl
theorem q596 : (Jvm.Cond.selects "PittanceHouse$House$1$1" ({ cls := "java/lang/Object", name := "getClass", desc := "()Ljava/lang/Class;" } : Jvm.MethodName) ({ cls := "java/lang/Object", name := "getClass", desc := "()Ljava/lang/Class;" } : Jvm.MethodName)) ∈ lw_all := lw_g (lw_at lw_m3 19 rfl) rfl
theorem q1175 : (Jvm.Cond.unhidden "PittanceHouse$House$1$1" "remove" "()V") ∈ lw_tbl := lw_at lw_m5 118 rfl
theorem q1334 : (Jvm.Cond.instanceMethod ({ cls := "PittanceHouse$House$1$1", name := "<init>", desc := "(LPittanceHouse$House$1;)V" } : Jvm.MethodName)) ∈ lw_all := lw_g (lw_at lw_m6 37 rfl) rfl
theorem q1335 : (Jvm.Cond.code ({ cls := "PittanceHouse$House$1$1", name := "<init>", desc := "(LPittanceHouse$House$1;)V" } : Jvm.MethodName) prog_7_method_1_code (2 : Nat) (Option.none : Option Jvm.ClassFile.FieldType)) ∈ lw_all := lw_g (lw_at lw_m6 38 rfl) rfl
theorem q1336 : (Jvm.Cond.methodLink "PittanceHouse$House$1$1" (9 : Nat) ({ cls := "java/lang/Object", name := "<init>", desc := "()V" } : Jvm.MethodName)) ∈ lw_all := lw_g (lw_at lw_m6 39 rfl) rfl
theorem q1337 : (Jvm.Cond.fieldLink "PittanceHouse$House$1$1" (19 : Nat) "PittanceHouse$House$1$1" "at" "I") ∈ lw_all := lw_g (lw_at lw_m6 40 rfl) rfl
theorem q1338 : (Jvm.Cond.fieldLink "PittanceHouse$House$1$1" (3 : Nat) "PittanceHouse$House$1$1" "this$1" "LPittanceHouse$House$1;") ∈ lw_all := lw_g (lw_at lw_m6 41 rfl) rfl
theorem q1339 : (Jvm.Cond.lays "PittanceHouse$House$1$1" "PittanceHouse$House$1$1" "at" "I") ∈ lw_all := lw_g (lw_at lw_m6 42 rfl) rfl
theorem q1340 : (Jvm.Cond.soleField "PittanceHouse$House$1$1" "at") ∈ lw_all := lw_g (lw_at lw_m6 43 rfl) rfl
theorem q1341 : (Jvm.Cond.laysFinal "PittanceHouse$House$1$1" "PittanceHouse$House$1$1" "this$1" "LPittanceHouse$House$1;") ∈ lw_all := lw_g (lw_at lw_m6 44 rfl) rfl
theorem q1342 : (Jvm.Cond.soleField "PittanceHouse$House$1$1" "this$1") ∈ lw_all := lw_g (lw_at lw_m6 45 rfl) rfl
theorem q1343 : (Jvm.Cond.superclass "PittanceHouse$House$1$1" "java/lang/Object") ∈ lw_all := lw_g (lw_at lw_m6 46 rfl) rfl
theorem q1519 : (Jvm.Cond.fieldLink "PittanceHouse$House$1$1" (23 : Nat) "PittanceHouse$House$1" "this$0" "LPittanceHouse$House;") ∈ lw_all := lw_g (lw_at lw_m6 222 rfl) rfl
theorem q2631 : (Jvm.Cond.castable "PittanceHouse$House$1$1" "java/lang/Object") ∈ lw_tbl := lw_at lw_m11 134 rfl
theorem in_X5 : ∀ w ∈ wsX50, w ∈ lw_all := lw_in wsX50 [1339, 1341] (by decide +kernel) (by decide +kernel)
/-! PittanceHouse$1Count -/
set_option maxRecDepth 100000
def RX6 : String := "PittanceHouse$1Count"
def TX6 : u_T := fun k => match k with
  | 0 => ("PittanceHouse$1Count", "own", "I", true)
  | 1 => ("PittanceHouse$1Count", "isBehind", "Z", false)
  | 2 => ("PittanceHouse$1Count", "many", "I", false)
  | 3 => ("PittanceHouse$1Count", "val$ahead", "LPittanceHouse$Ahead;", true)
  | _ => ("PittanceHouse$1Count", "val$keys", "[I", true)
def tyX6 : Nat → FieldType := fun k => match k with
  | 0 => .int
  | 1 => .boolean
  | 2 => .int
  | 3 => .object "PittanceHouse$Ahead"
  | _ => .array .int
abbrev wsX60 : List Cond := u_ws RX6 TX6 5
theorem nmX6 : ∀ a, a < 5 → ∀ b, b < 5 → a ≠ b → (TX6 a).2.1 ≠ (TX6 b).2.1 := by decide +kernel
theorem tyX6_ok : ∀ k, k < 5 → parseFieldDescriptor (TX6 k).2.2.1 = some (tyX6 k) := by decide +kernel
abbrev cX6_init : ByteArray := prog_2_method_1_code
def yX6_init : MethodName := ⟨RX6, "<init>", "(ILPittanceHouse$Ahead;[I)V"⟩
def dkwX6_init_0 : List UInt8 := [42, 44, 181, 0, 1, 42, 45, 181, 0, 7, 42, 183, 0, 11, 42, 27, 181, 0, 17, 177]
abbrev dktX6_init_0 : List UInt8 := dkwX6_init_0 ++ []
theorem dksX6_init_0 : cX6_init.data.toList.drop 0 = dktX6_init_0 := by decide +kernel
theorem dX6_init_0 : decode cX6_init 0 = .ok (.aload_n 0, 1) := dk_42 (dk_at dksX6_init_0 0 rfl rfl)
theorem dX6_init_1 : decode cX6_init 1 = .ok (.aload_n 2, 1) := dk_44 (dk_at dksX6_init_0 1 rfl rfl)
theorem dX6_init_2 : decode cX6_init 2 = .ok (.putfield 1, 3) := dk_181 0 1 (dk_at dksX6_init_0 2 rfl rfl)
theorem dX6_init_5 : decode cX6_init 5 = .ok (.aload_n 0, 1) := dk_42 (dk_at dksX6_init_0 5 rfl rfl)
theorem dX6_init_6 : decode cX6_init 6 = .ok (.aload_n 3, 1) := dk_45 (dk_at dksX6_init_0 6 rfl rfl)
theorem dX6_init_7 : decode cX6_init 7 = .ok (.putfield 7, 3) := dk_181 0 7 (dk_at dksX6_init_0 7 rfl rfl)
theorem dX6_init_10 : decode cX6_init 10 = .ok (.aload_n 0, 1) := dk_42 (dk_at dksX6_init_0 10 rfl rfl)
theorem dX6_init_11 : decode cX6_init 11 = .ok (.invokespecial 11, 3) := dk_183 0 11 (dk_at dksX6_init_0 11 rfl rfl)
theorem dX6_init_14 : decode cX6_init 14 = .ok (.aload_n 0, 1) := dk_42 (dk_at dksX6_init_0 14 rfl rfl)
theorem dX6_init_15 : decode cX6_init 15 = .ok (.iload_n 1, 1) := dk_27 (dk_at dksX6_init_0 15 rfl rfl)
theorem dX6_init_16 : decode cX6_init 16 = .ok (.putfield 17, 3) := dk_181 0 17 (dk_at dksX6_init_0 16 rfl rfl)
theorem dX6_init_19 : decode cX6_init 19 = .ok (.return_, 1) := dk_177 (dk_at dksX6_init_0 19 rfl rfl)
abbrev cX6_meets : ByteArray := prog_2_method_2_code
def yX6_meets : MethodName := ⟨RX6, "meets", "(I)V"⟩
def dkwX6_meets_4 : List UInt8 := [181, 0, 27, 42, 89, 180, 0, 31, 28, 153, 0, 7, 4, 167, 0, 4, 3, 96, 181, 0, 31, 177]
abbrev dktX6_meets_4 : List UInt8 := dkwX6_meets_4 ++ []
def dkwX6_meets_3 : List UInt8 := [167, 0, 4, 3, 61, 42, 89, 180, 0, 27, 27, 42, 180, 0, 17, 160, 0, 7, 4, 167, 0, 4, 3, 128]
abbrev dktX6_meets_3 : List UInt8 := dkwX6_meets_3 ++ dktX6_meets_4
def dkwX6_meets_2 : List UInt8 := [180, 0, 7, 42, 180, 0, 17, 46, 42, 180, 0, 7, 27, 46, 185, 0, 21, 3, 0, 154, 0, 7, 4]
abbrev dktX6_meets_2 : List UInt8 := dkwX6_meets_2 ++ dktX6_meets_3
def dkwX6_meets_1 : List UInt8 := [154, 0, 45, 42, 180, 0, 27, 154, 0, 42, 27, 42, 180, 0, 17, 159, 0, 34, 42, 180, 0, 1, 42]
abbrev dktX6_meets_1 : List UInt8 := dkwX6_meets_1 ++ dktX6_meets_2
def dkwX6_meets_0 : List UInt8 := [42, 180, 0, 1, 42, 180, 0, 7, 27, 46, 42, 180, 0, 7, 42, 180, 0, 17, 46, 185, 0, 21, 3, 0]
abbrev dktX6_meets_0 : List UInt8 := dkwX6_meets_0 ++ dktX6_meets_1
theorem dksX6_meets_0 : cX6_meets.data.toList.drop 0 = dktX6_meets_0 := by decide +kernel
theorem dksX6_meets_1 : cX6_meets.data.toList.drop 24 = dktX6_meets_1 := dk_seg dksX6_meets_0 24 rfl rfl
theorem dksX6_meets_2 : cX6_meets.data.toList.drop 47 = dktX6_meets_2 := dk_seg dksX6_meets_1 23 rfl rfl
theorem dksX6_meets_3 : cX6_meets.data.toList.drop 70 = dktX6_meets_3 := dk_seg dksX6_meets_2 23 rfl rfl
theorem dksX6_meets_4 : cX6_meets.data.toList.drop 94 = dktX6_meets_4 := dk_seg dksX6_meets_3 24 rfl rfl
theorem dX6_meets_0 : decode cX6_meets 0 = .ok (.aload_n 0, 1) := dk_42 (dk_at dksX6_meets_0 0 rfl rfl)
theorem dX6_meets_1 : decode cX6_meets 1 = .ok (.getfield 1, 3) := dk_180 0 1 (dk_at dksX6_meets_0 1 rfl rfl)
theorem dX6_meets_4 : decode cX6_meets 4 = .ok (.aload_n 0, 1) := dk_42 (dk_at dksX6_meets_0 4 rfl rfl)
theorem dX6_meets_5 : decode cX6_meets 5 = .ok (.getfield 7, 3) := dk_180 0 7 (dk_at dksX6_meets_0 5 rfl rfl)
theorem dX6_meets_8 : decode cX6_meets 8 = .ok (.iload_n 1, 1) := dk_27 (dk_at dksX6_meets_0 8 rfl rfl)
theorem dX6_meets_9 : decode cX6_meets 9 = .ok (.iaload, 1) := dk_46 (dk_at dksX6_meets_0 9 rfl rfl)
theorem dX6_meets_10 : decode cX6_meets 10 = .ok (.aload_n 0, 1) := dk_42 (dk_at dksX6_meets_0 10 rfl rfl)
theorem dX6_meets_11 : decode cX6_meets 11 = .ok (.getfield 7, 3) := dk_180 0 7 (dk_at dksX6_meets_0 11 rfl rfl)
theorem dX6_meets_14 : decode cX6_meets 14 = .ok (.aload_n 0, 1) := dk_42 (dk_at dksX6_meets_0 14 rfl rfl)
theorem dX6_meets_15 : decode cX6_meets 15 = .ok (.getfield 17, 3) := dk_180 0 17 (dk_at dksX6_meets_0 15 rfl rfl)
theorem dX6_meets_18 : decode cX6_meets 18 = .ok (.iaload, 1) := dk_46 (dk_at dksX6_meets_0 18 rfl rfl)
theorem dX6_meets_19 : decode cX6_meets 19 = .ok (.invokeinterface 21 3, 5) := by decide +kernel
theorem dX6_meets_24 : decode cX6_meets 24 = .ok (.ifCond .ne 45, 3) := dk_154 0 45 (dk_at dksX6_meets_1 0 rfl rfl)
theorem dX6_meets_27 : decode cX6_meets 27 = .ok (.aload_n 0, 1) := dk_42 (dk_at dksX6_meets_1 3 rfl rfl)
theorem dX6_meets_28 : decode cX6_meets 28 = .ok (.getfield 27, 3) := dk_180 0 27 (dk_at dksX6_meets_1 4 rfl rfl)
theorem dX6_meets_31 : decode cX6_meets 31 = .ok (.ifCond .ne 42, 3) := dk_154 0 42 (dk_at dksX6_meets_1 7 rfl rfl)
theorem dX6_meets_34 : decode cX6_meets 34 = .ok (.iload_n 1, 1) := dk_27 (dk_at dksX6_meets_1 10 rfl rfl)
theorem dX6_meets_35 : decode cX6_meets 35 = .ok (.aload_n 0, 1) := dk_42 (dk_at dksX6_meets_1 11 rfl rfl)
theorem dX6_meets_36 : decode cX6_meets 36 = .ok (.getfield 17, 3) := dk_180 0 17 (dk_at dksX6_meets_1 12 rfl rfl)
theorem dX6_meets_39 : decode cX6_meets 39 = .ok (.if_icmp .eq 34, 3) := dk_159 0 34 (dk_at dksX6_meets_1 15 rfl rfl)
theorem dX6_meets_42 : decode cX6_meets 42 = .ok (.aload_n 0, 1) := dk_42 (dk_at dksX6_meets_1 18 rfl rfl)
theorem dX6_meets_43 : decode cX6_meets 43 = .ok (.getfield 1, 3) := dk_180 0 1 (dk_at dksX6_meets_1 19 rfl rfl)
theorem dX6_meets_46 : decode cX6_meets 46 = .ok (.aload_n 0, 1) := dk_42 (dk_at dksX6_meets_1 22 rfl rfl)
theorem dX6_meets_47 : decode cX6_meets 47 = .ok (.getfield 7, 3) := dk_180 0 7 (dk_at dksX6_meets_2 0 rfl rfl)
theorem dX6_meets_50 : decode cX6_meets 50 = .ok (.aload_n 0, 1) := dk_42 (dk_at dksX6_meets_2 3 rfl rfl)
theorem dX6_meets_51 : decode cX6_meets 51 = .ok (.getfield 17, 3) := dk_180 0 17 (dk_at dksX6_meets_2 4 rfl rfl)
theorem dX6_meets_54 : decode cX6_meets 54 = .ok (.iaload, 1) := dk_46 (dk_at dksX6_meets_2 7 rfl rfl)
theorem dX6_meets_55 : decode cX6_meets 55 = .ok (.aload_n 0, 1) := dk_42 (dk_at dksX6_meets_2 8 rfl rfl)
theorem dX6_meets_56 : decode cX6_meets 56 = .ok (.getfield 7, 3) := dk_180 0 7 (dk_at dksX6_meets_2 9 rfl rfl)
theorem dX6_meets_59 : decode cX6_meets 59 = .ok (.iload_n 1, 1) := dk_27 (dk_at dksX6_meets_2 12 rfl rfl)
theorem dX6_meets_60 : decode cX6_meets 60 = .ok (.iaload, 1) := dk_46 (dk_at dksX6_meets_2 13 rfl rfl)
theorem dX6_meets_61 : decode cX6_meets 61 = .ok (.invokeinterface 21 3, 5) := by decide +kernel
theorem dX6_meets_66 : decode cX6_meets 66 = .ok (.ifCond .ne 7, 3) := dk_154 0 7 (dk_at dksX6_meets_2 19 rfl rfl)
theorem dX6_meets_69 : decode cX6_meets 69 = .ok (.iconst 1, 1) := dk_4 (dk_at dksX6_meets_2 22 rfl rfl)
theorem dX6_meets_70 : decode cX6_meets 70 = .ok (.goto 4, 3) := dk_167 0 4 (dk_at dksX6_meets_3 0 rfl rfl)
theorem dX6_meets_73 : decode cX6_meets 73 = .ok (.iconst 0, 1) := dk_3 (dk_at dksX6_meets_3 3 rfl rfl)
theorem dX6_meets_74 : decode cX6_meets 74 = .ok (.istore_n 2, 1) := dk_61 (dk_at dksX6_meets_3 4 rfl rfl)
theorem dX6_meets_75 : decode cX6_meets 75 = .ok (.aload_n 0, 1) := dk_42 (dk_at dksX6_meets_3 5 rfl rfl)
theorem dX6_meets_76 : decode cX6_meets 76 = .ok (.dup, 1) := dk_89 (dk_at dksX6_meets_3 6 rfl rfl)
theorem dX6_meets_77 : decode cX6_meets 77 = .ok (.getfield 27, 3) := dk_180 0 27 (dk_at dksX6_meets_3 7 rfl rfl)
theorem dX6_meets_80 : decode cX6_meets 80 = .ok (.iload_n 1, 1) := dk_27 (dk_at dksX6_meets_3 10 rfl rfl)
theorem dX6_meets_81 : decode cX6_meets 81 = .ok (.aload_n 0, 1) := dk_42 (dk_at dksX6_meets_3 11 rfl rfl)
theorem dX6_meets_82 : decode cX6_meets 82 = .ok (.getfield 17, 3) := dk_180 0 17 (dk_at dksX6_meets_3 12 rfl rfl)
theorem dX6_meets_85 : decode cX6_meets 85 = .ok (.if_icmp .ne 7, 3) := dk_160 0 7 (dk_at dksX6_meets_3 15 rfl rfl)
theorem dX6_meets_88 : decode cX6_meets 88 = .ok (.iconst 1, 1) := dk_4 (dk_at dksX6_meets_3 18 rfl rfl)
theorem dX6_meets_89 : decode cX6_meets 89 = .ok (.goto 4, 3) := dk_167 0 4 (dk_at dksX6_meets_3 19 rfl rfl)
theorem dX6_meets_92 : decode cX6_meets 92 = .ok (.iconst 0, 1) := dk_3 (dk_at dksX6_meets_3 22 rfl rfl)
theorem dX6_meets_93 : decode cX6_meets 93 = .ok (.ior, 1) := dk_128 (dk_at dksX6_meets_3 23 rfl rfl)
theorem dX6_meets_94 : decode cX6_meets 94 = .ok (.putfield 27, 3) := dk_181 0 27 (dk_at dksX6_meets_4 0 rfl rfl)
theorem dX6_meets_97 : decode cX6_meets 97 = .ok (.aload_n 0, 1) := dk_42 (dk_at dksX6_meets_4 3 rfl rfl)
theorem dX6_meets_98 : decode cX6_meets 98 = .ok (.dup, 1) := dk_89 (dk_at dksX6_meets_4 4 rfl rfl)
theorem dX6_meets_99 : decode cX6_meets 99 = .ok (.getfield 31, 3) := dk_180 0 31 (dk_at dksX6_meets_4 5 rfl rfl)
theorem dX6_meets_102 : decode cX6_meets 102 = .ok (.iload_n 2, 1) := dk_28 (dk_at dksX6_meets_4 8 rfl rfl)
theorem dX6_meets_103 : decode cX6_meets 103 = .ok (.ifCond .eq 7, 3) := dk_153 0 7 (dk_at dksX6_meets_4 9 rfl rfl)
theorem dX6_meets_106 : decode cX6_meets 106 = .ok (.iconst 1, 1) := dk_4 (dk_at dksX6_meets_4 12 rfl rfl)
theorem dX6_meets_107 : decode cX6_meets 107 = .ok (.goto 4, 3) := dk_167 0 4 (dk_at dksX6_meets_4 13 rfl rfl)
theorem dX6_meets_110 : decode cX6_meets 110 = .ok (.iconst 0, 1) := dk_3 (dk_at dksX6_meets_4 16 rfl rfl)
theorem dX6_meets_111 : decode cX6_meets 111 = .ok (.iadd, 1) := dk_96 (dk_at dksX6_meets_4 17 rfl rfl)
theorem dX6_meets_112 : decode cX6_meets 112 = .ok (.putfield 31, 3) := dk_181 0 31 (dk_at dksX6_meets_4 18 rfl rfl)
theorem dX6_meets_115 : decode cX6_meets 115 = .ok (.return_, 1) := dk_177 (dk_at dksX6_meets_4 21 rfl rfl)
theorem q137 : (Jvm.Cond.initialized "PittanceHouse$1Count") ∈ lw_all := lw_g (lw_at lw_m1 40 rfl) rfl
theorem q592 : (Jvm.Cond.selects "PittanceHouse$1Count" ({ cls := "java/lang/Object", name := "getClass", desc := "()Ljava/lang/Class;" } : Jvm.MethodName) ({ cls := "java/lang/Object", name := "getClass", desc := "()Ljava/lang/Class;" } : Jvm.MethodName)) ∈ lw_all := lw_g (lw_at lw_m3 15 rfl) rfl
theorem q1385 : (Jvm.Cond.instantiable "PittanceHouse$1Count" (5 : Nat)) ∈ lw_all := lw_g (lw_at lw_m6 88 rfl) rfl
theorem q1387 : (Jvm.Cond.instanceMethod ({ cls := "PittanceHouse$1Count", name := "<init>", desc := "(ILPittanceHouse$Ahead;[I)V" } : Jvm.MethodName)) ∈ lw_all := lw_g (lw_at lw_m6 90 rfl) rfl
theorem q1388 : (Jvm.Cond.code ({ cls := "PittanceHouse$1Count", name := "<init>", desc := "(ILPittanceHouse$Ahead;[I)V" } : Jvm.MethodName) prog_2_method_1_code (4 : Nat) (Option.none : Option Jvm.ClassFile.FieldType)) ∈ lw_all := lw_g (lw_at lw_m6 91 rfl) rfl
theorem q1389 : (Jvm.Cond.methodLink "PittanceHouse$1Count" (11 : Nat) ({ cls := "java/lang/Object", name := "<init>", desc := "()V" } : Jvm.MethodName)) ∈ lw_all := lw_g (lw_at lw_m6 92 rfl) rfl
theorem q1390 : (Jvm.Cond.fieldLink "PittanceHouse$1Count" (17 : Nat) "PittanceHouse$1Count" "own" "I") ∈ lw_all := lw_g (lw_at lw_m6 93 rfl) rfl
theorem q1391 : (Jvm.Cond.fieldLink "PittanceHouse$1Count" (27 : Nat) "PittanceHouse$1Count" "isBehind" "Z") ∈ lw_all := lw_g (lw_at lw_m6 94 rfl) rfl
theorem q1392 : (Jvm.Cond.fieldLink "PittanceHouse$1Count" (31 : Nat) "PittanceHouse$1Count" "many" "I") ∈ lw_all := lw_g (lw_at lw_m6 95 rfl) rfl
theorem q1394 : (Jvm.Cond.fieldLink "PittanceHouse$1Count" (1 : Nat) "PittanceHouse$1Count" "val$ahead" "LPittanceHouse$Ahead;") ∈ lw_all := lw_g (lw_at lw_m6 97 rfl) rfl
theorem q1395 : (Jvm.Cond.fieldLink "PittanceHouse$1Count" (7 : Nat) "PittanceHouse$1Count" "val$keys" "[I") ∈ lw_all := lw_g (lw_at lw_m6 98 rfl) rfl
theorem q1396 : (Jvm.Cond.laysFinal "PittanceHouse$1Count" "PittanceHouse$1Count" "own" "I") ∈ lw_all := lw_g (lw_at lw_m6 99 rfl) rfl
theorem q1397 : (Jvm.Cond.soleField "PittanceHouse$1Count" "own") ∈ lw_all := lw_g (lw_at lw_m6 100 rfl) rfl
theorem q1398 : (Jvm.Cond.lays "PittanceHouse$1Count" "PittanceHouse$1Count" "isBehind" "Z") ∈ lw_all := lw_g (lw_at lw_m6 101 rfl) rfl
theorem q1399 : (Jvm.Cond.soleField "PittanceHouse$1Count" "isBehind") ∈ lw_all := lw_g (lw_at lw_m6 102 rfl) rfl
theorem q1400 : (Jvm.Cond.lays "PittanceHouse$1Count" "PittanceHouse$1Count" "many" "I") ∈ lw_all := lw_g (lw_at lw_m6 103 rfl) rfl
theorem q1401 : (Jvm.Cond.soleField "PittanceHouse$1Count" "many") ∈ lw_all := lw_g (lw_at lw_m6 104 rfl) rfl
theorem q1402 : (Jvm.Cond.laysFinal "PittanceHouse$1Count" "PittanceHouse$1Count" "val$ahead" "LPittanceHouse$Ahead;") ∈ lw_all := lw_g (lw_at lw_m6 105 rfl) rfl
theorem q1403 : (Jvm.Cond.soleField "PittanceHouse$1Count" "val$ahead") ∈ lw_all := lw_g (lw_at lw_m6 106 rfl) rfl
theorem q1404 : (Jvm.Cond.laysFinal "PittanceHouse$1Count" "PittanceHouse$1Count" "val$keys" "[I") ∈ lw_all := lw_g (lw_at lw_m6 107 rfl) rfl
theorem q1405 : (Jvm.Cond.soleField "PittanceHouse$1Count" "val$keys") ∈ lw_all := lw_g (lw_at lw_m6 108 rfl) rfl
theorem q1406 : (Jvm.Cond.superclass "PittanceHouse$1Count" "java/lang/Object") ∈ lw_all := lw_g (lw_at lw_m6 109 rfl) rfl
theorem q1408 : (Jvm.Cond.instanceMethod ({ cls := "PittanceHouse$1Count", name := "meets", desc := "(I)V" } : Jvm.MethodName)) ∈ lw_all := lw_g (lw_at lw_m6 111 rfl) rfl
theorem q1409 : (Jvm.Cond.selects "PittanceHouse$1Count" ({ cls := "PittanceHouse$1Count", name := "meets", desc := "(I)V" } : Jvm.MethodName) ({ cls := "PittanceHouse$1Count", name := "meets", desc := "(I)V" } : Jvm.MethodName)) ∈ lw_all := lw_g (lw_at lw_m6 112 rfl) rfl
theorem q1410 : (Jvm.Cond.code ({ cls := "PittanceHouse$1Count", name := "meets", desc := "(I)V" } : Jvm.MethodName) prog_2_method_2_code (3 : Nat) (Option.none : Option Jvm.ClassFile.FieldType)) ∈ lw_all := lw_g (lw_at lw_m6 113 rfl) rfl
theorem q1411 : (Jvm.Cond.interfaceEntry "PittanceHouse$1Count" (21 : Nat)) ∈ lw_tbl := lw_at lw_m6 114 rfl
theorem q1412 : (Jvm.Cond.methodLink "PittanceHouse$1Count" (21 : Nat) ({ cls := "PittanceHouse$Ahead", name := "is", desc := "(II)Z" } : Jvm.MethodName)) ∈ lw_all := lw_g (lw_at lw_m6 115 rfl) rfl
theorem q2629 : (Jvm.Cond.castable "PittanceHouse$1Count" "java/lang/Object") ∈ lw_tbl := lw_at lw_m11 132 rfl
theorem in_X6 : ∀ w ∈ wsX60, w ∈ lw_all := lw_in wsX60 [1396, 1398, 1400, 1402, 1404] (by decide +kernel) (by decide +kernel)
/-! PittanceHouse$House$1 -/
set_option maxRecDepth 100000
def RX7 : String := "PittanceHouse$House$1"
def TX7 : u_T := fun k => match k with
  | _ => ("PittanceHouse$House$1", "this$0", "LPittanceHouse$House;", true)
def tyX7 : Nat → FieldType := fun k => match k with
  | _ => .object "PittanceHouse$House"
abbrev wsX70 : List Cond := u_ws RX7 TX7 1
theorem nmX7 : ∀ a, a < 1 → ∀ b, b < 1 → a ≠ b → (TX7 a).2.1 ≠ (TX7 b).2.1 := by decide +kernel
theorem tyX7_ok : ∀ k, k < 1 → parseFieldDescriptor (TX7 k).2.2.1 = some (tyX7 k) := by decide +kernel
abbrev cX7_iterator : ByteArray := prog_6_method_2_code
def yX7_iterator : MethodName := ⟨RX7, "iterator", "()Ljava/util/Iterator;"⟩
def dkwX7_iterator_0 : List UInt8 := [187, 0, 13, 89, 42, 183, 0, 15, 176]
abbrev dktX7_iterator_0 : List UInt8 := dkwX7_iterator_0 ++ []
theorem dksX7_iterator_0 : cX7_iterator.data.toList.drop 0 = dktX7_iterator_0 := by decide +kernel
theorem dX7_iterator_0 : decode cX7_iterator 0 = .ok (.new 13, 3) := dk_187 0 13 (dk_at dksX7_iterator_0 0 rfl rfl)
theorem dX7_iterator_3 : decode cX7_iterator 3 = .ok (.dup, 1) := dk_89 (dk_at dksX7_iterator_0 3 rfl rfl)
theorem dX7_iterator_4 : decode cX7_iterator 4 = .ok (.aload_n 0, 1) := dk_42 (dk_at dksX7_iterator_0 4 rfl rfl)
theorem dX7_iterator_5 : decode cX7_iterator 5 = .ok (.invokespecial 15, 3) := dk_183 0 15 (dk_at dksX7_iterator_0 5 rfl rfl)
theorem dX7_iterator_8 : decode cX7_iterator 8 = .ok (.areturn, 1) := dk_176 (dk_at dksX7_iterator_0 8 rfl rfl)
abbrev cX7_init : ByteArray := prog_6_method_1_code
def yX7_init : MethodName := ⟨RX7, "<init>", "(LPittanceHouse$House;)V"⟩
def dkwX7_init_0 : List UInt8 := [42, 43, 181, 0, 1, 42, 183, 0, 7, 177]
abbrev dktX7_init_0 : List UInt8 := dkwX7_init_0 ++ []
theorem dksX7_init_0 : cX7_init.data.toList.drop 0 = dktX7_init_0 := by decide +kernel
theorem dX7_init_0 : decode cX7_init 0 = .ok (.aload_n 0, 1) := dk_42 (dk_at dksX7_init_0 0 rfl rfl)
theorem dX7_init_1 : decode cX7_init 1 = .ok (.aload_n 1, 1) := dk_43 (dk_at dksX7_init_0 1 rfl rfl)
theorem dX7_init_2 : decode cX7_init 2 = .ok (.putfield 1, 3) := dk_181 0 1 (dk_at dksX7_init_0 2 rfl rfl)
theorem dX7_init_5 : decode cX7_init 5 = .ok (.aload_n 0, 1) := dk_42 (dk_at dksX7_init_0 5 rfl rfl)
theorem dX7_init_6 : decode cX7_init 6 = .ok (.invokespecial 7, 3) := dk_183 0 7 (dk_at dksX7_init_0 6 rfl rfl)
theorem dX7_init_9 : decode cX7_init 9 = .ok (.return_, 1) := dk_177 (dk_at dksX7_init_0 9 rfl rfl)
theorem q138 : (Jvm.Cond.initialized "PittanceHouse$House$1") ∈ lw_all := lw_g (lw_at lw_m1 41 rfl) rfl
theorem q595 : (Jvm.Cond.selects "PittanceHouse$House$1" ({ cls := "java/lang/Object", name := "getClass", desc := "()Ljava/lang/Class;" } : Jvm.MethodName) ({ cls := "java/lang/Object", name := "getClass", desc := "()Ljava/lang/Class;" } : Jvm.MethodName)) ∈ lw_all := lw_g (lw_at lw_m3 18 rfl) rfl
theorem q1326 : (Jvm.Cond.castable "PittanceHouse$House$1" "java/lang/Iterable") ∈ lw_tbl := lw_at lw_m6 29 rfl
theorem q1327 : (Jvm.Cond.selects "PittanceHouse$House$1" ({ cls := "java/lang/Iterable", name := "iterator", desc := "()Ljava/util/Iterator;" } : Jvm.MethodName) ({ cls := "PittanceHouse$House$1", name := "iterator", desc := "()Ljava/util/Iterator;" } : Jvm.MethodName)) ∈ lw_all := lw_g (lw_at lw_m6 30 rfl) rfl
theorem q1328 : (Jvm.Cond.unhidden "PittanceHouse$House$1" "iterator" "()Ljava/util/Iterator;") ∈ lw_tbl := lw_at lw_m6 31 rfl
theorem q1329 : (Jvm.Cond.instanceMethod ({ cls := "PittanceHouse$House$1", name := "iterator", desc := "()Ljava/util/Iterator;" } : Jvm.MethodName)) ∈ lw_all := lw_g (lw_at lw_m6 32 rfl) rfl
theorem q1330 : (Jvm.Cond.publicMethod ({ cls := "PittanceHouse$House$1", name := "iterator", desc := "()Ljava/util/Iterator;" } : Jvm.MethodName)) ∈ lw_tbl := lw_at lw_m6 33 rfl
theorem q1331 : (Jvm.Cond.code ({ cls := "PittanceHouse$House$1", name := "iterator", desc := "()Ljava/util/Iterator;" } : Jvm.MethodName) prog_6_method_2_code (1 : Nat) (Option.some (Jvm.ClassFile.FieldType.object "java/util/Iterator"))) ∈ lw_all := lw_g (lw_at lw_m6 34 rfl) rfl
theorem q1332 : (Jvm.Cond.classLink "PittanceHouse$House$1" (13 : Nat) "PittanceHouse$House$1$1") ∈ lw_all := lw_g (lw_at lw_m6 35 rfl) rfl
theorem q1333 : (Jvm.Cond.methodLink "PittanceHouse$House$1" (15 : Nat) ({ cls := "PittanceHouse$House$1$1", name := "<init>", desc := "(LPittanceHouse$House$1;)V" } : Jvm.MethodName)) ∈ lw_all := lw_g (lw_at lw_m6 36 rfl) rfl
theorem q1513 : (Jvm.Cond.instantiable "PittanceHouse$House$1" (1 : Nat)) ∈ lw_all := lw_g (lw_at lw_m6 216 rfl) rfl
theorem q1515 : (Jvm.Cond.instanceMethod ({ cls := "PittanceHouse$House$1", name := "<init>", desc := "(LPittanceHouse$House;)V" } : Jvm.MethodName)) ∈ lw_all := lw_g (lw_at lw_m6 218 rfl) rfl
theorem q1516 : (Jvm.Cond.code ({ cls := "PittanceHouse$House$1", name := "<init>", desc := "(LPittanceHouse$House;)V" } : Jvm.MethodName) prog_6_method_1_code (2 : Nat) (Option.none : Option Jvm.ClassFile.FieldType)) ∈ lw_all := lw_g (lw_at lw_m6 219 rfl) rfl
theorem q1517 : (Jvm.Cond.methodLink "PittanceHouse$House$1" (7 : Nat) ({ cls := "java/lang/Object", name := "<init>", desc := "()V" } : Jvm.MethodName)) ∈ lw_all := lw_g (lw_at lw_m6 220 rfl) rfl
theorem q1518 : (Jvm.Cond.fieldLink "PittanceHouse$House$1" (1 : Nat) "PittanceHouse$House$1" "this$0" "LPittanceHouse$House;") ∈ lw_all := lw_g (lw_at lw_m6 221 rfl) rfl
theorem q1520 : (Jvm.Cond.laysFinal "PittanceHouse$House$1" "PittanceHouse$House$1" "this$0" "LPittanceHouse$House;") ∈ lw_all := lw_g (lw_at lw_m6 223 rfl) rfl
theorem q1521 : (Jvm.Cond.soleField "PittanceHouse$House$1" "this$0") ∈ lw_all := lw_g (lw_at lw_m6 224 rfl) rfl
theorem q1522 : (Jvm.Cond.superclass "PittanceHouse$House$1" "java/lang/Object") ∈ lw_all := lw_g (lw_at lw_m6 225 rfl) rfl
theorem q2630 : (Jvm.Cond.castable "PittanceHouse$House$1" "java/lang/Object") ∈ lw_tbl := lw_at lw_m11 133 rfl
theorem in_X7 : ∀ w ∈ wsX70, w ∈ lw_all := lw_in wsX70 [1520] (by decide +kernel) (by decide +kernel)
/-! PittanceHouse$Reader -/
set_option maxRecDepth 100000
def RX8 : String := "PittanceHouse$Reader"
def TX8 : u_T := fun k => match k with
  | 0 => ("PittanceHouse$Reader", "words", "[Ljava/lang/String;", true)
  | 1 => ("PittanceHouse$Reader", "at", "I", false)
  | _ => ("PittanceHouse$Reader", "this$0", "LPittanceHouse;", true)
def tyX8 : Nat → FieldType := fun k => match k with
  | 0 => .array (.object "java/lang/String")
  | 1 => .int
  | _ => .object "PittanceHouse"
abbrev wsX80 : List Cond := u_ws RX8 TX8 3
theorem nmX8 : ∀ a, a < 3 → ∀ b, b < 3 → a ≠ b → (TX8 a).2.1 ≠ (TX8 b).2.1 := by decide +kernel
theorem tyX8_ok : ∀ k, k < 3 → parseFieldDescriptor (TX8 k).2.2.1 = some (tyX8 k) := by decide +kernel
abbrev cX8_init : ByteArray := prog_9_method_1_code
def yX8_init : MethodName := ⟨RX8, "<init>", "(LPittanceHouse;)V"⟩
def dkwX8_init_2 : List UInt8 := [18, 29, 83, 89, 16, 7, 18, 31, 83, 181, 0, 33, 177]
abbrev dktX8_init_2 : List UInt8 := dkwX8_init_2 ++ []
def dkwX8_init_1 : List UInt8 := [83, 89, 5, 18, 21, 83, 89, 6, 18, 23, 83, 89, 7, 18, 25, 83, 89, 8, 18, 27, 83, 89, 16, 6]
abbrev dktX8_init_1 : List UInt8 := dkwX8_init_1 ++ dktX8_init_2
def dkwX8_init_0 : List UInt8 := [42, 43, 181, 0, 3, 42, 183, 0, 9, 42, 16, 8, 189, 0, 15, 89, 3, 18, 17, 83, 89, 4, 18, 19]
abbrev dktX8_init_0 : List UInt8 := dkwX8_init_0 ++ dktX8_init_1
theorem dksX8_init_0 : cX8_init.data.toList.drop 0 = dktX8_init_0 := by decide +kernel
theorem dksX8_init_1 : cX8_init.data.toList.drop 24 = dktX8_init_1 := dk_seg dksX8_init_0 24 rfl rfl
theorem dksX8_init_2 : cX8_init.data.toList.drop 48 = dktX8_init_2 := dk_seg dksX8_init_1 24 rfl rfl
theorem dX8_init_0 : decode cX8_init 0 = .ok (.aload_n 0, 1) := dk_42 (dk_at dksX8_init_0 0 rfl rfl)
theorem dX8_init_1 : decode cX8_init 1 = .ok (.aload_n 1, 1) := dk_43 (dk_at dksX8_init_0 1 rfl rfl)
theorem dX8_init_2 : decode cX8_init 2 = .ok (.putfield 3, 3) := dk_181 0 3 (dk_at dksX8_init_0 2 rfl rfl)
theorem dX8_init_5 : decode cX8_init 5 = .ok (.aload_n 0, 1) := dk_42 (dk_at dksX8_init_0 5 rfl rfl)
theorem dX8_init_6 : decode cX8_init 6 = .ok (.invokespecial 9, 3) := dk_183 0 9 (dk_at dksX8_init_0 6 rfl rfl)
theorem dX8_init_9 : decode cX8_init 9 = .ok (.aload_n 0, 1) := dk_42 (dk_at dksX8_init_0 9 rfl rfl)
theorem dX8_init_10 : decode cX8_init 10 = .ok (.bipush 8, 2) := dk_16 8 (dk_at dksX8_init_0 10 rfl rfl)
theorem dX8_init_12 : decode cX8_init 12 = .ok (.anewarray 15, 3) := dk_189 0 15 (dk_at dksX8_init_0 12 rfl rfl)
theorem dX8_init_15 : decode cX8_init 15 = .ok (.dup, 1) := dk_89 (dk_at dksX8_init_0 15 rfl rfl)
theorem dX8_init_16 : decode cX8_init 16 = .ok (.iconst 0, 1) := dk_3 (dk_at dksX8_init_0 16 rfl rfl)
theorem dX8_init_17 : decode cX8_init 17 = .ok (.ldc 17, 2) := dk_18 17 (dk_at dksX8_init_0 17 rfl rfl)
theorem dX8_init_19 : decode cX8_init 19 = .ok (.aastore, 1) := dk_83 (dk_at dksX8_init_0 19 rfl rfl)
theorem dX8_init_20 : decode cX8_init 20 = .ok (.dup, 1) := dk_89 (dk_at dksX8_init_0 20 rfl rfl)
theorem dX8_init_21 : decode cX8_init 21 = .ok (.iconst 1, 1) := dk_4 (dk_at dksX8_init_0 21 rfl rfl)
theorem dX8_init_22 : decode cX8_init 22 = .ok (.ldc 19, 2) := dk_18 19 (dk_at dksX8_init_0 22 rfl rfl)
theorem dX8_init_24 : decode cX8_init 24 = .ok (.aastore, 1) := dk_83 (dk_at dksX8_init_1 0 rfl rfl)
theorem dX8_init_25 : decode cX8_init 25 = .ok (.dup, 1) := dk_89 (dk_at dksX8_init_1 1 rfl rfl)
theorem dX8_init_26 : decode cX8_init 26 = .ok (.iconst 2, 1) := dk_5 (dk_at dksX8_init_1 2 rfl rfl)
theorem dX8_init_27 : decode cX8_init 27 = .ok (.ldc 21, 2) := dk_18 21 (dk_at dksX8_init_1 3 rfl rfl)
theorem dX8_init_29 : decode cX8_init 29 = .ok (.aastore, 1) := dk_83 (dk_at dksX8_init_1 5 rfl rfl)
theorem dX8_init_30 : decode cX8_init 30 = .ok (.dup, 1) := dk_89 (dk_at dksX8_init_1 6 rfl rfl)
theorem dX8_init_31 : decode cX8_init 31 = .ok (.iconst 3, 1) := dk_6 (dk_at dksX8_init_1 7 rfl rfl)
theorem dX8_init_32 : decode cX8_init 32 = .ok (.ldc 23, 2) := dk_18 23 (dk_at dksX8_init_1 8 rfl rfl)
theorem dX8_init_34 : decode cX8_init 34 = .ok (.aastore, 1) := dk_83 (dk_at dksX8_init_1 10 rfl rfl)
theorem dX8_init_35 : decode cX8_init 35 = .ok (.dup, 1) := dk_89 (dk_at dksX8_init_1 11 rfl rfl)
theorem dX8_init_36 : decode cX8_init 36 = .ok (.iconst 4, 1) := dk_7 (dk_at dksX8_init_1 12 rfl rfl)
theorem dX8_init_37 : decode cX8_init 37 = .ok (.ldc 25, 2) := dk_18 25 (dk_at dksX8_init_1 13 rfl rfl)
theorem dX8_init_39 : decode cX8_init 39 = .ok (.aastore, 1) := dk_83 (dk_at dksX8_init_1 15 rfl rfl)
theorem dX8_init_40 : decode cX8_init 40 = .ok (.dup, 1) := dk_89 (dk_at dksX8_init_1 16 rfl rfl)
theorem dX8_init_41 : decode cX8_init 41 = .ok (.iconst 5, 1) := dk_8 (dk_at dksX8_init_1 17 rfl rfl)
theorem dX8_init_42 : decode cX8_init 42 = .ok (.ldc 27, 2) := dk_18 27 (dk_at dksX8_init_1 18 rfl rfl)
theorem dX8_init_44 : decode cX8_init 44 = .ok (.aastore, 1) := dk_83 (dk_at dksX8_init_1 20 rfl rfl)
theorem dX8_init_45 : decode cX8_init 45 = .ok (.dup, 1) := dk_89 (dk_at dksX8_init_1 21 rfl rfl)
theorem dX8_init_46 : decode cX8_init 46 = .ok (.bipush 6, 2) := dk_16 6 (dk_at dksX8_init_1 22 rfl rfl)
theorem dX8_init_48 : decode cX8_init 48 = .ok (.ldc 29, 2) := dk_18 29 (dk_at dksX8_init_2 0 rfl rfl)
theorem dX8_init_50 : decode cX8_init 50 = .ok (.aastore, 1) := dk_83 (dk_at dksX8_init_2 2 rfl rfl)
theorem dX8_init_51 : decode cX8_init 51 = .ok (.dup, 1) := dk_89 (dk_at dksX8_init_2 3 rfl rfl)
theorem dX8_init_52 : decode cX8_init 52 = .ok (.bipush 7, 2) := dk_16 7 (dk_at dksX8_init_2 4 rfl rfl)
theorem dX8_init_54 : decode cX8_init 54 = .ok (.ldc 31, 2) := dk_18 31 (dk_at dksX8_init_2 6 rfl rfl)
theorem dX8_init_56 : decode cX8_init 56 = .ok (.aastore, 1) := dk_83 (dk_at dksX8_init_2 8 rfl rfl)
theorem dX8_init_57 : decode cX8_init 57 = .ok (.putfield 33, 3) := dk_181 0 33 (dk_at dksX8_init_2 9 rfl rfl)
theorem dX8_init_60 : decode cX8_init 60 = .ok (.return_, 1) := dk_177 (dk_at dksX8_init_2 12 rfl rfl)
abbrev cX8_orders : ByteArray := prog_9_method_9_code
def yX8_orders : MethodName := ⟨RX8, "orders", "()Ljava/util/LinkedList;"⟩
def dkwX8_orders_2 : List UInt8 := [180, 0, 41, 182, 0, 45, 160, 0, 7, 4, 167, 0, 4, 3, 182, 0, 69, 43, 176]
abbrev dktX8_orders_2 : List UInt8 := dkwX8_orders_2 ++ []
def dkwX8_orders_1 : List UInt8 := [153, 0, 14, 43, 42, 182, 0, 112, 182, 0, 116, 167, 255, 239, 42, 42, 180, 0, 37, 42, 180, 0, 3]
abbrev dktX8_orders_1 : List UInt8 := dkwX8_orders_1 ++ dktX8_orders_2
def dkwX8_orders_0 : List UInt8 := [187, 0, 109, 89, 183, 0, 111, 76, 43, 42, 182, 0, 112, 182, 0, 116, 42, 16, 59, 182, 0, 65]
abbrev dktX8_orders_0 : List UInt8 := dkwX8_orders_0 ++ dktX8_orders_1
theorem dksX8_orders_0 : cX8_orders.data.toList.drop 0 = dktX8_orders_0 := by decide +kernel
theorem dksX8_orders_1 : cX8_orders.data.toList.drop 22 = dktX8_orders_1 := dk_seg dksX8_orders_0 22 rfl rfl
theorem dksX8_orders_2 : cX8_orders.data.toList.drop 45 = dktX8_orders_2 := dk_seg dksX8_orders_1 23 rfl rfl
theorem dX8_orders_0 : decode cX8_orders 0 = .ok (.new 109, 3) := dk_187 0 109 (dk_at dksX8_orders_0 0 rfl rfl)
theorem dX8_orders_3 : decode cX8_orders 3 = .ok (.dup, 1) := dk_89 (dk_at dksX8_orders_0 3 rfl rfl)
theorem dX8_orders_4 : decode cX8_orders 4 = .ok (.invokespecial 111, 3) := dk_183 0 111 (dk_at dksX8_orders_0 4 rfl rfl)
theorem dX8_orders_7 : decode cX8_orders 7 = .ok (.astore_n 1, 1) := dk_76 (dk_at dksX8_orders_0 7 rfl rfl)
theorem dX8_orders_8 : decode cX8_orders 8 = .ok (.aload_n 1, 1) := dk_43 (dk_at dksX8_orders_0 8 rfl rfl)
theorem dX8_orders_9 : decode cX8_orders 9 = .ok (.aload_n 0, 1) := dk_42 (dk_at dksX8_orders_0 9 rfl rfl)
theorem dX8_orders_10 : decode cX8_orders 10 = .ok (.invokevirtual 112, 3) := dk_182 0 112 (dk_at dksX8_orders_0 10 rfl rfl)
theorem dX8_orders_13 : decode cX8_orders 13 = .ok (.invokevirtual 116, 3) := dk_182 0 116 (dk_at dksX8_orders_0 13 rfl rfl)
theorem dX8_orders_16 : decode cX8_orders 16 = .ok (.aload_n 0, 1) := dk_42 (dk_at dksX8_orders_0 16 rfl rfl)
theorem dX8_orders_17 : decode cX8_orders 17 = .ok (.bipush 59, 2) := dk_16 59 (dk_at dksX8_orders_0 17 rfl rfl)
theorem dX8_orders_19 : decode cX8_orders 19 = .ok (.invokevirtual 65, 3) := dk_182 0 65 (dk_at dksX8_orders_0 19 rfl rfl)
theorem dX8_orders_22 : decode cX8_orders 22 = .ok (.ifCond .eq 14, 3) := dk_153 0 14 (dk_at dksX8_orders_1 0 rfl rfl)
theorem dX8_orders_25 : decode cX8_orders 25 = .ok (.aload_n 1, 1) := dk_43 (dk_at dksX8_orders_1 3 rfl rfl)
theorem dX8_orders_26 : decode cX8_orders 26 = .ok (.aload_n 0, 1) := dk_42 (dk_at dksX8_orders_1 4 rfl rfl)
theorem dX8_orders_27 : decode cX8_orders 27 = .ok (.invokevirtual 112, 3) := dk_182 0 112 (dk_at dksX8_orders_1 5 rfl rfl)
theorem dX8_orders_30 : decode cX8_orders 30 = .ok (.invokevirtual 116, 3) := dk_182 0 116 (dk_at dksX8_orders_1 8 rfl rfl)
theorem dX8_orders_33 : decode cX8_orders 33 = .ok (.goto (-17), 3) := dk_167 255 239 (dk_at dksX8_orders_1 11 rfl rfl)
theorem dX8_orders_36 : decode cX8_orders 36 = .ok (.aload_n 0, 1) := dk_42 (dk_at dksX8_orders_1 14 rfl rfl)
theorem dX8_orders_37 : decode cX8_orders 37 = .ok (.aload_n 0, 1) := dk_42 (dk_at dksX8_orders_1 15 rfl rfl)
theorem dX8_orders_38 : decode cX8_orders 38 = .ok (.getfield 37, 3) := dk_180 0 37 (dk_at dksX8_orders_1 16 rfl rfl)
theorem dX8_orders_41 : decode cX8_orders 41 = .ok (.aload_n 0, 1) := dk_42 (dk_at dksX8_orders_1 19 rfl rfl)
theorem dX8_orders_42 : decode cX8_orders 42 = .ok (.getfield 3, 3) := dk_180 0 3 (dk_at dksX8_orders_1 20 rfl rfl)
theorem dX8_orders_45 : decode cX8_orders 45 = .ok (.getfield 41, 3) := dk_180 0 41 (dk_at dksX8_orders_2 0 rfl rfl)
theorem dX8_orders_48 : decode cX8_orders 48 = .ok (.invokevirtual 45, 3) := dk_182 0 45 (dk_at dksX8_orders_2 3 rfl rfl)
theorem dX8_orders_51 : decode cX8_orders 51 = .ok (.if_icmp .ne 7, 3) := dk_160 0 7 (dk_at dksX8_orders_2 6 rfl rfl)
theorem dX8_orders_54 : decode cX8_orders 54 = .ok (.iconst 1, 1) := dk_4 (dk_at dksX8_orders_2 9 rfl rfl)
theorem dX8_orders_55 : decode cX8_orders 55 = .ok (.goto 4, 3) := dk_167 0 4 (dk_at dksX8_orders_2 10 rfl rfl)
theorem dX8_orders_58 : decode cX8_orders 58 = .ok (.iconst 0, 1) := dk_3 (dk_at dksX8_orders_2 13 rfl rfl)
theorem dX8_orders_59 : decode cX8_orders 59 = .ok (.invokevirtual 69, 3) := dk_182 0 69 (dk_at dksX8_orders_2 14 rfl rfl)
theorem dX8_orders_62 : decode cX8_orders 62 = .ok (.aload_n 1, 1) := dk_43 (dk_at dksX8_orders_2 17 rfl rfl)
theorem dX8_orders_63 : decode cX8_orders 63 = .ok (.areturn, 1) := dk_176 (dk_at dksX8_orders_2 18 rfl rfl)
abbrev cX8_order : ByteArray := prog_9_method_8_code
def yX8_order : MethodName := ⟨RX8, "order", "()LPittanceHouse$Order;"⟩
def dkwX8_order_10 : List UInt8 := [181, 0, 100, 43, 176]
abbrev dktX8_order_10 : List UInt8 := dkwX8_order_10 ++ []
def dkwX8_order_9 : List UInt8 := [181, 0, 100, 167, 0, 24, 43, 42, 6, 182, 0, 77, 181, 0, 100, 167, 0, 12, 43, 42, 5, 182, 0, 77]
abbrev dktX8_order_9 : List UInt8 := dkwX8_order_9 ++ dktX8_order_10
def dkwX8_order_8 : List UInt8 := [182, 0, 77, 181, 0, 100, 43, 42, 4, 182, 0, 103, 181, 0, 106, 167, 0, 36, 43, 42, 4, 182, 0, 77]
abbrev dktX8_order_8 : List UInt8 := dkwX8_order_8 ++ dktX8_order_9
def dkwX8_order_7 : List UInt8 := [43, 42, 5, 182, 0, 77, 181, 0, 100, 43, 42, 5, 182, 0, 103, 181, 0, 106, 167, 0, 57, 43, 42, 5]
abbrev dktX8_order_7 : List UInt8 := dkwX8_order_7 ++ dktX8_order_8
def dkwX8_order_6 : List UInt8 := [170, 0, 0, 0, 0, 104, 0, 0, 0, 0, 0, 0, 0, 5, 0, 0, 0, 38, 0, 0, 0, 59, 0, 0, 0, 59, 0, 0, 0, 80, 0, 0, 0, 80, 0, 0, 0, 92]
abbrev dktX8_order_6 : List UInt8 := dkwX8_order_6 ++ dktX8_order_7
def dkwX8_order_5 : List UInt8 := [18, 29, 182, 0, 96, 153, 0, 5, 8, 62, 29]
abbrev dktX8_order_5 : List UInt8 := dkwX8_order_5 ++ dktX8_order_6
def dkwX8_order_4 : List UInt8 := [153, 0, 33, 6, 62, 167, 0, 28, 44, 18, 21, 182, 0, 96, 153, 0, 19, 7, 62, 167, 0, 14, 44]
abbrev dktX8_order_4 : List UInt8 := dkwX8_order_4 ++ dktX8_order_5
def dkwX8_order_3 : List UInt8 := [62, 167, 0, 56, 44, 18, 27, 182, 0, 96, 153, 0, 47, 5, 62, 167, 0, 42, 44, 18, 19, 182, 0, 96]
abbrev dktX8_order_3 : List UInt8 := dkwX8_order_3 ++ dktX8_order_4
def dkwX8_order_2 : List UInt8 := [44, 18, 17, 182, 0, 96, 153, 0, 75, 3, 62, 167, 0, 70, 44, 18, 23, 182, 0, 96, 153, 0, 61, 4]
abbrev dktX8_order_2 : List UInt8 := dkwX8_order_2 ++ dktX8_order_3
def dkwX8_order_1 : List UInt8 := [171, 0, 0, 0, 138, 0, 0, 0, 6, 179, 203, 107, 29, 0, 0, 0, 85, 190, 8, 136, 73, 0, 0, 0, 113, 207, 169, 69, 46, 0, 0, 0, 57, 5, 220, 188, 240, 0, 0, 0, 127, 8, 104, 3, 239, 0, 0, 0, 71, 44, 209, 76, 233, 0, 0, 0, 99]
abbrev dktX8_order_1 : List UInt8 := dkwX8_order_1 ++ dktX8_order_2
def dkwX8_order_0 : List UInt8 := [187, 0, 81, 89, 42, 182, 0, 83, 183, 0, 87, 76, 43, 180, 0, 90, 77, 2, 62, 44, 182, 0, 93]
abbrev dktX8_order_0 : List UInt8 := dkwX8_order_0 ++ dktX8_order_1
theorem dksX8_order_0 : cX8_order.data.toList.drop 0 = dktX8_order_0 := by decide +kernel
theorem dksX8_order_1 : cX8_order.data.toList.drop 23 = dktX8_order_1 := dk_seg dksX8_order_0 23 rfl rfl
theorem dksX8_order_2 : cX8_order.data.toList.drop 80 = dktX8_order_2 := dk_seg dksX8_order_1 57 rfl rfl
theorem dksX8_order_3 : cX8_order.data.toList.drop 104 = dktX8_order_3 := dk_seg dksX8_order_2 24 rfl rfl
theorem dksX8_order_4 : cX8_order.data.toList.drop 128 = dktX8_order_4 := dk_seg dksX8_order_3 24 rfl rfl
theorem dksX8_order_5 : cX8_order.data.toList.drop 151 = dktX8_order_5 := dk_seg dksX8_order_4 23 rfl rfl
theorem dksX8_order_6 : cX8_order.data.toList.drop 162 = dktX8_order_6 := dk_seg dksX8_order_5 11 rfl rfl
theorem dksX8_order_7 : cX8_order.data.toList.drop 200 = dktX8_order_7 := dk_seg dksX8_order_6 38 rfl rfl
theorem dksX8_order_8 : cX8_order.data.toList.drop 224 = dktX8_order_8 := dk_seg dksX8_order_7 24 rfl rfl
theorem dksX8_order_9 : cX8_order.data.toList.drop 248 = dktX8_order_9 := dk_seg dksX8_order_8 24 rfl rfl
theorem dksX8_order_10 : cX8_order.data.toList.drop 272 = dktX8_order_10 := dk_seg dksX8_order_9 24 rfl rfl
theorem dX8_order_0 : decode cX8_order 0 = .ok (.new 81, 3) := dk_187 0 81 (dk_at dksX8_order_0 0 rfl rfl)
theorem dX8_order_3 : decode cX8_order 3 = .ok (.dup, 1) := dk_89 (dk_at dksX8_order_0 3 rfl rfl)
theorem dX8_order_4 : decode cX8_order 4 = .ok (.aload_n 0, 1) := dk_42 (dk_at dksX8_order_0 4 rfl rfl)
theorem dX8_order_5 : decode cX8_order 5 = .ok (.invokevirtual 83, 3) := dk_182 0 83 (dk_at dksX8_order_0 5 rfl rfl)
theorem dX8_order_8 : decode cX8_order 8 = .ok (.invokespecial 87, 3) := dk_183 0 87 (dk_at dksX8_order_0 8 rfl rfl)
theorem dX8_order_11 : decode cX8_order 11 = .ok (.astore_n 1, 1) := dk_76 (dk_at dksX8_order_0 11 rfl rfl)
theorem dX8_order_12 : decode cX8_order 12 = .ok (.aload_n 1, 1) := dk_43 (dk_at dksX8_order_0 12 rfl rfl)
theorem dX8_order_13 : decode cX8_order 13 = .ok (.getfield 90, 3) := dk_180 0 90 (dk_at dksX8_order_0 13 rfl rfl)
theorem dX8_order_16 : decode cX8_order 16 = .ok (.astore_n 2, 1) := dk_77 (dk_at dksX8_order_0 16 rfl rfl)
theorem dX8_order_17 : decode cX8_order 17 = .ok (.iconst (-1), 1) := dk_2 (dk_at dksX8_order_0 17 rfl rfl)
theorem dX8_order_18 : decode cX8_order 18 = .ok (.istore_n 3, 1) := dk_62 (dk_at dksX8_order_0 18 rfl rfl)
theorem dX8_order_19 : decode cX8_order 19 = .ok (.aload_n 2, 1) := dk_44 (dk_at dksX8_order_0 19 rfl rfl)
theorem dX8_order_20 : decode cX8_order 20 = .ok (.invokevirtual 93, 3) := dk_182 0 93 (dk_at dksX8_order_0 20 rfl rfl)
theorem dX8_order_23 : decode cX8_order 23 = .ok (.lookupswitch 138 #[(-1278514403, 85), (-1106737079, 113), (-810990290, 57), (98352368, 127), (141034479, 71), (751914217, 99)], 57) := by decide +kernel
theorem dX8_order_80 : decode cX8_order 80 = .ok (.aload_n 2, 1) := dk_44 (dk_at dksX8_order_2 0 rfl rfl)
theorem dX8_order_81 : decode cX8_order 81 = .ok (.ldc 17, 2) := dk_18 17 (dk_at dksX8_order_2 1 rfl rfl)
theorem dX8_order_83 : decode cX8_order 83 = .ok (.invokevirtual 96, 3) := dk_182 0 96 (dk_at dksX8_order_2 3 rfl rfl)
theorem dX8_order_86 : decode cX8_order 86 = .ok (.ifCond .eq 75, 3) := dk_153 0 75 (dk_at dksX8_order_2 6 rfl rfl)
theorem dX8_order_89 : decode cX8_order 89 = .ok (.iconst 0, 1) := dk_3 (dk_at dksX8_order_2 9 rfl rfl)
theorem dX8_order_90 : decode cX8_order 90 = .ok (.istore_n 3, 1) := dk_62 (dk_at dksX8_order_2 10 rfl rfl)
theorem dX8_order_91 : decode cX8_order 91 = .ok (.goto 70, 3) := dk_167 0 70 (dk_at dksX8_order_2 11 rfl rfl)
theorem dX8_order_94 : decode cX8_order 94 = .ok (.aload_n 2, 1) := dk_44 (dk_at dksX8_order_2 14 rfl rfl)
theorem dX8_order_95 : decode cX8_order 95 = .ok (.ldc 23, 2) := dk_18 23 (dk_at dksX8_order_2 15 rfl rfl)
theorem dX8_order_97 : decode cX8_order 97 = .ok (.invokevirtual 96, 3) := dk_182 0 96 (dk_at dksX8_order_2 17 rfl rfl)
theorem dX8_order_100 : decode cX8_order 100 = .ok (.ifCond .eq 61, 3) := dk_153 0 61 (dk_at dksX8_order_2 20 rfl rfl)
theorem dX8_order_103 : decode cX8_order 103 = .ok (.iconst 1, 1) := dk_4 (dk_at dksX8_order_2 23 rfl rfl)
theorem dX8_order_104 : decode cX8_order 104 = .ok (.istore_n 3, 1) := dk_62 (dk_at dksX8_order_3 0 rfl rfl)
theorem dX8_order_105 : decode cX8_order 105 = .ok (.goto 56, 3) := dk_167 0 56 (dk_at dksX8_order_3 1 rfl rfl)
theorem dX8_order_108 : decode cX8_order 108 = .ok (.aload_n 2, 1) := dk_44 (dk_at dksX8_order_3 4 rfl rfl)
theorem dX8_order_109 : decode cX8_order 109 = .ok (.ldc 27, 2) := dk_18 27 (dk_at dksX8_order_3 5 rfl rfl)
theorem dX8_order_111 : decode cX8_order 111 = .ok (.invokevirtual 96, 3) := dk_182 0 96 (dk_at dksX8_order_3 7 rfl rfl)
theorem dX8_order_114 : decode cX8_order 114 = .ok (.ifCond .eq 47, 3) := dk_153 0 47 (dk_at dksX8_order_3 10 rfl rfl)
theorem dX8_order_117 : decode cX8_order 117 = .ok (.iconst 2, 1) := dk_5 (dk_at dksX8_order_3 13 rfl rfl)
theorem dX8_order_118 : decode cX8_order 118 = .ok (.istore_n 3, 1) := dk_62 (dk_at dksX8_order_3 14 rfl rfl)
theorem dX8_order_119 : decode cX8_order 119 = .ok (.goto 42, 3) := dk_167 0 42 (dk_at dksX8_order_3 15 rfl rfl)
theorem dX8_order_122 : decode cX8_order 122 = .ok (.aload_n 2, 1) := dk_44 (dk_at dksX8_order_3 18 rfl rfl)
theorem dX8_order_123 : decode cX8_order 123 = .ok (.ldc 19, 2) := dk_18 19 (dk_at dksX8_order_3 19 rfl rfl)
theorem dX8_order_125 : decode cX8_order 125 = .ok (.invokevirtual 96, 3) := dk_182 0 96 (dk_at dksX8_order_3 21 rfl rfl)
theorem dX8_order_128 : decode cX8_order 128 = .ok (.ifCond .eq 33, 3) := dk_153 0 33 (dk_at dksX8_order_4 0 rfl rfl)
theorem dX8_order_131 : decode cX8_order 131 = .ok (.iconst 3, 1) := dk_6 (dk_at dksX8_order_4 3 rfl rfl)
theorem dX8_order_132 : decode cX8_order 132 = .ok (.istore_n 3, 1) := dk_62 (dk_at dksX8_order_4 4 rfl rfl)
theorem dX8_order_133 : decode cX8_order 133 = .ok (.goto 28, 3) := dk_167 0 28 (dk_at dksX8_order_4 5 rfl rfl)
theorem dX8_order_136 : decode cX8_order 136 = .ok (.aload_n 2, 1) := dk_44 (dk_at dksX8_order_4 8 rfl rfl)
theorem dX8_order_137 : decode cX8_order 137 = .ok (.ldc 21, 2) := dk_18 21 (dk_at dksX8_order_4 9 rfl rfl)
theorem dX8_order_139 : decode cX8_order 139 = .ok (.invokevirtual 96, 3) := dk_182 0 96 (dk_at dksX8_order_4 11 rfl rfl)
theorem dX8_order_142 : decode cX8_order 142 = .ok (.ifCond .eq 19, 3) := dk_153 0 19 (dk_at dksX8_order_4 14 rfl rfl)
theorem dX8_order_145 : decode cX8_order 145 = .ok (.iconst 4, 1) := dk_7 (dk_at dksX8_order_4 17 rfl rfl)
theorem dX8_order_146 : decode cX8_order 146 = .ok (.istore_n 3, 1) := dk_62 (dk_at dksX8_order_4 18 rfl rfl)
theorem dX8_order_147 : decode cX8_order 147 = .ok (.goto 14, 3) := dk_167 0 14 (dk_at dksX8_order_4 19 rfl rfl)
theorem dX8_order_150 : decode cX8_order 150 = .ok (.aload_n 2, 1) := dk_44 (dk_at dksX8_order_4 22 rfl rfl)
theorem dX8_order_151 : decode cX8_order 151 = .ok (.ldc 29, 2) := dk_18 29 (dk_at dksX8_order_5 0 rfl rfl)
theorem dX8_order_153 : decode cX8_order 153 = .ok (.invokevirtual 96, 3) := dk_182 0 96 (dk_at dksX8_order_5 2 rfl rfl)
theorem dX8_order_156 : decode cX8_order 156 = .ok (.ifCond .eq 5, 3) := dk_153 0 5 (dk_at dksX8_order_5 5 rfl rfl)
theorem dX8_order_159 : decode cX8_order 159 = .ok (.iconst 5, 1) := dk_8 (dk_at dksX8_order_5 8 rfl rfl)
theorem dX8_order_160 : decode cX8_order 160 = .ok (.istore_n 3, 1) := dk_62 (dk_at dksX8_order_5 9 rfl rfl)
theorem dX8_order_161 : decode cX8_order 161 = .ok (.iload_n 3, 1) := dk_29 (dk_at dksX8_order_5 10 rfl rfl)
theorem dX8_order_162 : decode cX8_order 162 = .ok (.tableswitch 104 0 5 #[38, 59, 59, 80, 80, 92], 38) := by decide +kernel
theorem dX8_order_200 : decode cX8_order 200 = .ok (.aload_n 1, 1) := dk_43 (dk_at dksX8_order_7 0 rfl rfl)
theorem dX8_order_201 : decode cX8_order 201 = .ok (.aload_n 0, 1) := dk_42 (dk_at dksX8_order_7 1 rfl rfl)
theorem dX8_order_202 : decode cX8_order 202 = .ok (.iconst 2, 1) := dk_5 (dk_at dksX8_order_7 2 rfl rfl)
theorem dX8_order_203 : decode cX8_order 203 = .ok (.invokevirtual 77, 3) := dk_182 0 77 (dk_at dksX8_order_7 3 rfl rfl)
theorem dX8_order_206 : decode cX8_order 206 = .ok (.putfield 100, 3) := dk_181 0 100 (dk_at dksX8_order_7 6 rfl rfl)
theorem dX8_order_209 : decode cX8_order 209 = .ok (.aload_n 1, 1) := dk_43 (dk_at dksX8_order_7 9 rfl rfl)
theorem dX8_order_210 : decode cX8_order 210 = .ok (.aload_n 0, 1) := dk_42 (dk_at dksX8_order_7 10 rfl rfl)
theorem dX8_order_211 : decode cX8_order 211 = .ok (.iconst 2, 1) := dk_5 (dk_at dksX8_order_7 11 rfl rfl)
theorem dX8_order_212 : decode cX8_order 212 = .ok (.invokevirtual 103, 3) := dk_182 0 103 (dk_at dksX8_order_7 12 rfl rfl)
theorem dX8_order_215 : decode cX8_order 215 = .ok (.putfield 106, 3) := dk_181 0 106 (dk_at dksX8_order_7 15 rfl rfl)
theorem dX8_order_218 : decode cX8_order 218 = .ok (.goto 57, 3) := dk_167 0 57 (dk_at dksX8_order_7 18 rfl rfl)
theorem dX8_order_221 : decode cX8_order 221 = .ok (.aload_n 1, 1) := dk_43 (dk_at dksX8_order_7 21 rfl rfl)
theorem dX8_order_222 : decode cX8_order 222 = .ok (.aload_n 0, 1) := dk_42 (dk_at dksX8_order_7 22 rfl rfl)
theorem dX8_order_223 : decode cX8_order 223 = .ok (.iconst 2, 1) := dk_5 (dk_at dksX8_order_7 23 rfl rfl)
theorem dX8_order_224 : decode cX8_order 224 = .ok (.invokevirtual 77, 3) := dk_182 0 77 (dk_at dksX8_order_8 0 rfl rfl)
theorem dX8_order_227 : decode cX8_order 227 = .ok (.putfield 100, 3) := dk_181 0 100 (dk_at dksX8_order_8 3 rfl rfl)
theorem dX8_order_230 : decode cX8_order 230 = .ok (.aload_n 1, 1) := dk_43 (dk_at dksX8_order_8 6 rfl rfl)
theorem dX8_order_231 : decode cX8_order 231 = .ok (.aload_n 0, 1) := dk_42 (dk_at dksX8_order_8 7 rfl rfl)
theorem dX8_order_232 : decode cX8_order 232 = .ok (.iconst 1, 1) := dk_4 (dk_at dksX8_order_8 8 rfl rfl)
theorem dX8_order_233 : decode cX8_order 233 = .ok (.invokevirtual 103, 3) := dk_182 0 103 (dk_at dksX8_order_8 9 rfl rfl)
theorem dX8_order_236 : decode cX8_order 236 = .ok (.putfield 106, 3) := dk_181 0 106 (dk_at dksX8_order_8 12 rfl rfl)
theorem dX8_order_239 : decode cX8_order 239 = .ok (.goto 36, 3) := dk_167 0 36 (dk_at dksX8_order_8 15 rfl rfl)
theorem dX8_order_242 : decode cX8_order 242 = .ok (.aload_n 1, 1) := dk_43 (dk_at dksX8_order_8 18 rfl rfl)
theorem dX8_order_243 : decode cX8_order 243 = .ok (.aload_n 0, 1) := dk_42 (dk_at dksX8_order_8 19 rfl rfl)
theorem dX8_order_244 : decode cX8_order 244 = .ok (.iconst 1, 1) := dk_4 (dk_at dksX8_order_8 20 rfl rfl)
theorem dX8_order_245 : decode cX8_order 245 = .ok (.invokevirtual 77, 3) := dk_182 0 77 (dk_at dksX8_order_8 21 rfl rfl)
theorem dX8_order_248 : decode cX8_order 248 = .ok (.putfield 100, 3) := dk_181 0 100 (dk_at dksX8_order_9 0 rfl rfl)
theorem dX8_order_251 : decode cX8_order 251 = .ok (.goto 24, 3) := dk_167 0 24 (dk_at dksX8_order_9 3 rfl rfl)
theorem dX8_order_254 : decode cX8_order 254 = .ok (.aload_n 1, 1) := dk_43 (dk_at dksX8_order_9 6 rfl rfl)
theorem dX8_order_255 : decode cX8_order 255 = .ok (.aload_n 0, 1) := dk_42 (dk_at dksX8_order_9 7 rfl rfl)
theorem dX8_order_256 : decode cX8_order 256 = .ok (.iconst 3, 1) := dk_6 (dk_at dksX8_order_9 8 rfl rfl)
theorem dX8_order_257 : decode cX8_order 257 = .ok (.invokevirtual 77, 3) := dk_182 0 77 (dk_at dksX8_order_9 9 rfl rfl)
theorem dX8_order_260 : decode cX8_order 260 = .ok (.putfield 100, 3) := dk_181 0 100 (dk_at dksX8_order_9 12 rfl rfl)
theorem dX8_order_263 : decode cX8_order 263 = .ok (.goto 12, 3) := dk_167 0 12 (dk_at dksX8_order_9 15 rfl rfl)
theorem dX8_order_266 : decode cX8_order 266 = .ok (.aload_n 1, 1) := dk_43 (dk_at dksX8_order_9 18 rfl rfl)
theorem dX8_order_267 : decode cX8_order 267 = .ok (.aload_n 0, 1) := dk_42 (dk_at dksX8_order_9 19 rfl rfl)
theorem dX8_order_268 : decode cX8_order 268 = .ok (.iconst 2, 1) := dk_5 (dk_at dksX8_order_9 20 rfl rfl)
theorem dX8_order_269 : decode cX8_order 269 = .ok (.invokevirtual 77, 3) := dk_182 0 77 (dk_at dksX8_order_9 21 rfl rfl)
theorem dX8_order_272 : decode cX8_order 272 = .ok (.putfield 100, 3) := dk_181 0 100 (dk_at dksX8_order_10 0 rfl rfl)
theorem dX8_order_275 : decode cX8_order 275 = .ok (.aload_n 1, 1) := dk_43 (dk_at dksX8_order_10 3 rfl rfl)
theorem dX8_order_276 : decode cX8_order 276 = .ok (.areturn, 1) := dk_176 (dk_at dksX8_order_10 4 rfl rfl)
abbrev cX8_word : ByteArray := prog_9_method_5_code
def yX8_word : MethodName := ⟨RX8, "word", "()Ljava/lang/String;"⟩
def dkwX8_word_3 : List UInt8 := [25, 4, 176, 132, 3, 1, 167, 255, 190, 187, 0, 55, 89, 42, 180, 0, 37, 183, 0, 57, 191]
abbrev dktX8_word_3 : List UInt8 := dkwX8_word_3 ++ []
def dkwX8_word_2 : List UInt8 := [162, 0, 24, 42, 42, 25, 4, 21, 5, 182, 0, 63, 182, 0, 65, 182, 0, 69, 132, 5, 1, 167, 255, 228]
abbrev dktX8_word_2 : List UInt8 := dkwX8_word_2 ++ dktX8_word_3
def dkwX8_word_1 : List UInt8 := [25, 4, 3, 182, 0, 63, 159, 0, 6, 167, 0, 40, 3, 54, 5, 21, 5, 25, 4, 182, 0, 64]
abbrev dktX8_word_1 : List UInt8 := dkwX8_word_1 ++ dktX8_word_2
def dkwX8_word_0 : List UInt8 := [42, 180, 0, 33, 76, 43, 190, 61, 3, 62, 29, 28, 162, 0, 67, 43, 29, 50, 58, 4, 42, 182, 0, 60]
abbrev dktX8_word_0 : List UInt8 := dkwX8_word_0 ++ dktX8_word_1
theorem dksX8_word_0 : cX8_word.data.toList.drop 0 = dktX8_word_0 := by decide +kernel
theorem dksX8_word_1 : cX8_word.data.toList.drop 24 = dktX8_word_1 := dk_seg dksX8_word_0 24 rfl rfl
theorem dksX8_word_2 : cX8_word.data.toList.drop 46 = dktX8_word_2 := dk_seg dksX8_word_1 22 rfl rfl
theorem dksX8_word_3 : cX8_word.data.toList.drop 70 = dktX8_word_3 := dk_seg dksX8_word_2 24 rfl rfl
theorem dX8_word_0 : decode cX8_word 0 = .ok (.aload_n 0, 1) := dk_42 (dk_at dksX8_word_0 0 rfl rfl)
theorem dX8_word_1 : decode cX8_word 1 = .ok (.getfield 33, 3) := dk_180 0 33 (dk_at dksX8_word_0 1 rfl rfl)
theorem dX8_word_4 : decode cX8_word 4 = .ok (.astore_n 1, 1) := dk_76 (dk_at dksX8_word_0 4 rfl rfl)
theorem dX8_word_5 : decode cX8_word 5 = .ok (.aload_n 1, 1) := dk_43 (dk_at dksX8_word_0 5 rfl rfl)
theorem dX8_word_6 : decode cX8_word 6 = .ok (.arraylength, 1) := dk_190 (dk_at dksX8_word_0 6 rfl rfl)
theorem dX8_word_7 : decode cX8_word 7 = .ok (.istore_n 2, 1) := dk_61 (dk_at dksX8_word_0 7 rfl rfl)
theorem dX8_word_8 : decode cX8_word 8 = .ok (.iconst 0, 1) := dk_3 (dk_at dksX8_word_0 8 rfl rfl)
theorem dX8_word_9 : decode cX8_word 9 = .ok (.istore_n 3, 1) := dk_62 (dk_at dksX8_word_0 9 rfl rfl)
theorem dX8_word_10 : decode cX8_word 10 = .ok (.iload_n 3, 1) := dk_29 (dk_at dksX8_word_0 10 rfl rfl)
theorem dX8_word_11 : decode cX8_word 11 = .ok (.iload_n 2, 1) := dk_28 (dk_at dksX8_word_0 11 rfl rfl)
theorem dX8_word_12 : decode cX8_word 12 = .ok (.if_icmp .ge 67, 3) := dk_162 0 67 (dk_at dksX8_word_0 12 rfl rfl)
theorem dX8_word_15 : decode cX8_word 15 = .ok (.aload_n 1, 1) := dk_43 (dk_at dksX8_word_0 15 rfl rfl)
theorem dX8_word_16 : decode cX8_word 16 = .ok (.iload_n 3, 1) := dk_29 (dk_at dksX8_word_0 16 rfl rfl)
theorem dX8_word_17 : decode cX8_word 17 = .ok (.aaload, 1) := dk_50 (dk_at dksX8_word_0 17 rfl rfl)
theorem dX8_word_18 : decode cX8_word 18 = .ok (.astore 4, 2) := dk_58 4 (dk_at dksX8_word_0 18 rfl rfl)
theorem dX8_word_20 : decode cX8_word 20 = .ok (.aload_n 0, 1) := dk_42 (dk_at dksX8_word_0 20 rfl rfl)
theorem dX8_word_21 : decode cX8_word 21 = .ok (.invokevirtual 60, 3) := dk_182 0 60 (dk_at dksX8_word_0 21 rfl rfl)
theorem dX8_word_24 : decode cX8_word 24 = .ok (.aload 4, 2) := dk_25 4 (dk_at dksX8_word_1 0 rfl rfl)
theorem dX8_word_26 : decode cX8_word 26 = .ok (.iconst 0, 1) := dk_3 (dk_at dksX8_word_1 2 rfl rfl)
theorem dX8_word_27 : decode cX8_word 27 = .ok (.invokevirtual 63, 3) := dk_182 0 63 (dk_at dksX8_word_1 3 rfl rfl)
theorem dX8_word_30 : decode cX8_word 30 = .ok (.if_icmp .eq 6, 3) := dk_159 0 6 (dk_at dksX8_word_1 6 rfl rfl)
theorem dX8_word_33 : decode cX8_word 33 = .ok (.goto 40, 3) := dk_167 0 40 (dk_at dksX8_word_1 9 rfl rfl)
theorem dX8_word_36 : decode cX8_word 36 = .ok (.iconst 0, 1) := dk_3 (dk_at dksX8_word_1 12 rfl rfl)
theorem dX8_word_37 : decode cX8_word 37 = .ok (.istore 5, 2) := dk_54 5 (dk_at dksX8_word_1 13 rfl rfl)
theorem dX8_word_39 : decode cX8_word 39 = .ok (.iload 5, 2) := dk_21 5 (dk_at dksX8_word_1 15 rfl rfl)
theorem dX8_word_41 : decode cX8_word 41 = .ok (.aload 4, 2) := dk_25 4 (dk_at dksX8_word_1 17 rfl rfl)
theorem dX8_word_43 : decode cX8_word 43 = .ok (.invokevirtual 64, 3) := dk_182 0 64 (dk_at dksX8_word_1 19 rfl rfl)
theorem dX8_word_46 : decode cX8_word 46 = .ok (.if_icmp .ge 24, 3) := dk_162 0 24 (dk_at dksX8_word_2 0 rfl rfl)
theorem dX8_word_49 : decode cX8_word 49 = .ok (.aload_n 0, 1) := dk_42 (dk_at dksX8_word_2 3 rfl rfl)
theorem dX8_word_50 : decode cX8_word 50 = .ok (.aload_n 0, 1) := dk_42 (dk_at dksX8_word_2 4 rfl rfl)
theorem dX8_word_51 : decode cX8_word 51 = .ok (.aload 4, 2) := dk_25 4 (dk_at dksX8_word_2 5 rfl rfl)
theorem dX8_word_53 : decode cX8_word 53 = .ok (.iload 5, 2) := dk_21 5 (dk_at dksX8_word_2 7 rfl rfl)
theorem dX8_word_55 : decode cX8_word 55 = .ok (.invokevirtual 63, 3) := dk_182 0 63 (dk_at dksX8_word_2 9 rfl rfl)
theorem dX8_word_58 : decode cX8_word 58 = .ok (.invokevirtual 65, 3) := dk_182 0 65 (dk_at dksX8_word_2 12 rfl rfl)
theorem dX8_word_61 : decode cX8_word 61 = .ok (.invokevirtual 69, 3) := dk_182 0 69 (dk_at dksX8_word_2 15 rfl rfl)
theorem dX8_word_64 : decode cX8_word 64 = .ok (.iinc 5 1, 3) := dk_132 5 1 (dk_at dksX8_word_2 18 rfl rfl)
theorem dX8_word_67 : decode cX8_word 67 = .ok (.goto (-28), 3) := dk_167 255 228 (dk_at dksX8_word_2 21 rfl rfl)
theorem dX8_word_70 : decode cX8_word 70 = .ok (.aload 4, 2) := dk_25 4 (dk_at dksX8_word_3 0 rfl rfl)
theorem dX8_word_72 : decode cX8_word 72 = .ok (.areturn, 1) := dk_176 (dk_at dksX8_word_3 2 rfl rfl)
theorem dX8_word_73 : decode cX8_word 73 = .ok (.iinc 3 1, 3) := dk_132 3 1 (dk_at dksX8_word_3 3 rfl rfl)
theorem dX8_word_76 : decode cX8_word 76 = .ok (.goto (-66), 3) := dk_167 255 190 (dk_at dksX8_word_3 6 rfl rfl)
theorem dX8_word_79 : decode cX8_word 79 = .ok (.new 55, 3) := dk_187 0 55 (dk_at dksX8_word_3 9 rfl rfl)
theorem dX8_word_82 : decode cX8_word 82 = .ok (.dup, 1) := dk_89 (dk_at dksX8_word_3 12 rfl rfl)
theorem dX8_word_83 : decode cX8_word 83 = .ok (.aload_n 0, 1) := dk_42 (dk_at dksX8_word_3 13 rfl rfl)
theorem dX8_word_84 : decode cX8_word 84 = .ok (.getfield 37, 3) := dk_180 0 37 (dk_at dksX8_word_3 14 rfl rfl)
theorem dX8_word_87 : decode cX8_word 87 = .ok (.invokespecial 57, 3) := dk_183 0 57 (dk_at dksX8_word_3 17 rfl rfl)
theorem dX8_word_90 : decode cX8_word 90 = .ok (.athrow, 1) := dk_191 (dk_at dksX8_word_3 20 rfl rfl)
abbrev cX8_here : ByteArray := prog_9_method_2_code
def yX8_here : MethodName := ⟨RX8, "here", "()I"⟩
def dkwX8_here_1 : List UInt8 := [42, 180, 0, 37, 182, 0, 51, 167, 0, 5, 16, 245, 172]
abbrev dktX8_here_1 : List UInt8 := dkwX8_here_1 ++ []
def dkwX8_here_0 : List UInt8 := [42, 180, 0, 37, 42, 180, 0, 3, 180, 0, 41, 182, 0, 45, 162, 0, 20, 42, 180, 0, 3, 180, 0, 41]
abbrev dktX8_here_0 : List UInt8 := dkwX8_here_0 ++ dktX8_here_1
theorem dksX8_here_0 : cX8_here.data.toList.drop 0 = dktX8_here_0 := by decide +kernel
theorem dksX8_here_1 : cX8_here.data.toList.drop 24 = dktX8_here_1 := dk_seg dksX8_here_0 24 rfl rfl
theorem dX8_here_0 : decode cX8_here 0 = .ok (.aload_n 0, 1) := dk_42 (dk_at dksX8_here_0 0 rfl rfl)
theorem dX8_here_1 : decode cX8_here 1 = .ok (.getfield 37, 3) := dk_180 0 37 (dk_at dksX8_here_0 1 rfl rfl)
theorem dX8_here_4 : decode cX8_here 4 = .ok (.aload_n 0, 1) := dk_42 (dk_at dksX8_here_0 4 rfl rfl)
theorem dX8_here_5 : decode cX8_here 5 = .ok (.getfield 3, 3) := dk_180 0 3 (dk_at dksX8_here_0 5 rfl rfl)
theorem dX8_here_8 : decode cX8_here 8 = .ok (.getfield 41, 3) := dk_180 0 41 (dk_at dksX8_here_0 8 rfl rfl)
theorem dX8_here_11 : decode cX8_here 11 = .ok (.invokevirtual 45, 3) := dk_182 0 45 (dk_at dksX8_here_0 11 rfl rfl)
theorem dX8_here_14 : decode cX8_here 14 = .ok (.if_icmp .ge 20, 3) := dk_162 0 20 (dk_at dksX8_here_0 14 rfl rfl)
theorem dX8_here_17 : decode cX8_here 17 = .ok (.aload_n 0, 1) := dk_42 (dk_at dksX8_here_0 17 rfl rfl)
theorem dX8_here_18 : decode cX8_here 18 = .ok (.getfield 3, 3) := dk_180 0 3 (dk_at dksX8_here_0 18 rfl rfl)
theorem dX8_here_21 : decode cX8_here 21 = .ok (.getfield 41, 3) := dk_180 0 41 (dk_at dksX8_here_0 21 rfl rfl)
theorem dX8_here_24 : decode cX8_here 24 = .ok (.aload_n 0, 1) := dk_42 (dk_at dksX8_here_1 0 rfl rfl)
theorem dX8_here_25 : decode cX8_here 25 = .ok (.getfield 37, 3) := dk_180 0 37 (dk_at dksX8_here_1 1 rfl rfl)
theorem dX8_here_28 : decode cX8_here 28 = .ok (.invokevirtual 51, 3) := dk_182 0 51 (dk_at dksX8_here_1 4 rfl rfl)
theorem dX8_here_31 : decode cX8_here 31 = .ok (.goto 5, 3) := dk_167 0 5 (dk_at dksX8_here_1 7 rfl rfl)
theorem dX8_here_34 : decode cX8_here 34 = .ok (.bipush (-11), 2) := dk_16 245 (dk_at dksX8_here_1 10 rfl rfl)
theorem dX8_here_36 : decode cX8_here 36 = .ok (.ireturn, 1) := dk_172 (dk_at dksX8_here_1 12 rfl rfl)
abbrev cX8_takes : ByteArray := prog_9_method_4_code
def yX8_takes : MethodName := ⟨RX8, "takes", "(I)Z"⟩
def dkwX8_takes_1 : List UInt8 := [167, 0, 4, 3, 96, 181, 0, 37, 28, 172]
abbrev dktX8_takes_1 : List UInt8 := dkwX8_takes_1 ++ []
def dkwX8_takes_0 : List UInt8 := [42, 182, 0, 60, 27, 160, 0, 7, 4, 167, 0, 4, 3, 61, 42, 89, 180, 0, 37, 28, 153, 0, 7, 4]
abbrev dktX8_takes_0 : List UInt8 := dkwX8_takes_0 ++ dktX8_takes_1
theorem dksX8_takes_0 : cX8_takes.data.toList.drop 0 = dktX8_takes_0 := by decide +kernel
theorem dksX8_takes_1 : cX8_takes.data.toList.drop 24 = dktX8_takes_1 := dk_seg dksX8_takes_0 24 rfl rfl
theorem dX8_takes_0 : decode cX8_takes 0 = .ok (.aload_n 0, 1) := dk_42 (dk_at dksX8_takes_0 0 rfl rfl)
theorem dX8_takes_1 : decode cX8_takes 1 = .ok (.invokevirtual 60, 3) := dk_182 0 60 (dk_at dksX8_takes_0 1 rfl rfl)
theorem dX8_takes_4 : decode cX8_takes 4 = .ok (.iload_n 1, 1) := dk_27 (dk_at dksX8_takes_0 4 rfl rfl)
theorem dX8_takes_5 : decode cX8_takes 5 = .ok (.if_icmp .ne 7, 3) := dk_160 0 7 (dk_at dksX8_takes_0 5 rfl rfl)
theorem dX8_takes_8 : decode cX8_takes 8 = .ok (.iconst 1, 1) := dk_4 (dk_at dksX8_takes_0 8 rfl rfl)
theorem dX8_takes_9 : decode cX8_takes 9 = .ok (.goto 4, 3) := dk_167 0 4 (dk_at dksX8_takes_0 9 rfl rfl)
theorem dX8_takes_12 : decode cX8_takes 12 = .ok (.iconst 0, 1) := dk_3 (dk_at dksX8_takes_0 12 rfl rfl)
theorem dX8_takes_13 : decode cX8_takes 13 = .ok (.istore_n 2, 1) := dk_61 (dk_at dksX8_takes_0 13 rfl rfl)
theorem dX8_takes_14 : decode cX8_takes 14 = .ok (.aload_n 0, 1) := dk_42 (dk_at dksX8_takes_0 14 rfl rfl)
theorem dX8_takes_15 : decode cX8_takes 15 = .ok (.dup, 1) := dk_89 (dk_at dksX8_takes_0 15 rfl rfl)
theorem dX8_takes_16 : decode cX8_takes 16 = .ok (.getfield 37, 3) := dk_180 0 37 (dk_at dksX8_takes_0 16 rfl rfl)
theorem dX8_takes_19 : decode cX8_takes 19 = .ok (.iload_n 2, 1) := dk_28 (dk_at dksX8_takes_0 19 rfl rfl)
theorem dX8_takes_20 : decode cX8_takes 20 = .ok (.ifCond .eq 7, 3) := dk_153 0 7 (dk_at dksX8_takes_0 20 rfl rfl)
theorem dX8_takes_23 : decode cX8_takes 23 = .ok (.iconst 1, 1) := dk_4 (dk_at dksX8_takes_0 23 rfl rfl)
theorem dX8_takes_24 : decode cX8_takes 24 = .ok (.goto 4, 3) := dk_167 0 4 (dk_at dksX8_takes_1 0 rfl rfl)
theorem dX8_takes_27 : decode cX8_takes 27 = .ok (.iconst 0, 1) := dk_3 (dk_at dksX8_takes_1 3 rfl rfl)
theorem dX8_takes_28 : decode cX8_takes 28 = .ok (.iadd, 1) := dk_96 (dk_at dksX8_takes_1 4 rfl rfl)
theorem dX8_takes_29 : decode cX8_takes 29 = .ok (.putfield 37, 3) := dk_181 0 37 (dk_at dksX8_takes_1 5 rfl rfl)
theorem dX8_takes_32 : decode cX8_takes 32 = .ok (.iload_n 2, 1) := dk_28 (dk_at dksX8_takes_1 8 rfl rfl)
theorem dX8_takes_33 : decode cX8_takes 33 = .ok (.ireturn, 1) := dk_172 (dk_at dksX8_takes_1 9 rfl rfl)
abbrev cX8_needs : ByteArray := prog_9_method_3_code
def yX8_needs : MethodName := ⟨RX8, "needs", "(Z)V"⟩
def dkwX8_needs_0 : List UInt8 := [27, 154, 0, 15, 187, 0, 55, 89, 42, 180, 0, 37, 183, 0, 57, 191, 177]
abbrev dktX8_needs_0 : List UInt8 := dkwX8_needs_0 ++ []
theorem dksX8_needs_0 : cX8_needs.data.toList.drop 0 = dktX8_needs_0 := by decide +kernel
theorem dX8_needs_0 : decode cX8_needs 0 = .ok (.iload_n 1, 1) := dk_27 (dk_at dksX8_needs_0 0 rfl rfl)
theorem dX8_needs_1 : decode cX8_needs 1 = .ok (.ifCond .ne 15, 3) := dk_154 0 15 (dk_at dksX8_needs_0 1 rfl rfl)
theorem dX8_needs_4 : decode cX8_needs 4 = .ok (.new 55, 3) := dk_187 0 55 (dk_at dksX8_needs_0 4 rfl rfl)
theorem dX8_needs_7 : decode cX8_needs 7 = .ok (.dup, 1) := dk_89 (dk_at dksX8_needs_0 7 rfl rfl)
theorem dX8_needs_8 : decode cX8_needs 8 = .ok (.aload_n 0, 1) := dk_42 (dk_at dksX8_needs_0 8 rfl rfl)
theorem dX8_needs_9 : decode cX8_needs 9 = .ok (.getfield 37, 3) := dk_180 0 37 (dk_at dksX8_needs_0 9 rfl rfl)
theorem dX8_needs_12 : decode cX8_needs 12 = .ok (.invokespecial 57, 3) := dk_183 0 57 (dk_at dksX8_needs_0 12 rfl rfl)
theorem dX8_needs_15 : decode cX8_needs 15 = .ok (.athrow, 1) := dk_191 (dk_at dksX8_needs_0 15 rfl rfl)
theorem dX8_needs_16 : decode cX8_needs 16 = .ok (.return_, 1) := dk_177 (dk_at dksX8_needs_0 16 rfl rfl)
abbrev cX8_number : ByteArray := prog_9_method_6_code
def yX8_number : MethodName := ⟨RX8, "number", "(I)I"⟩
def dkwX8_number_2 : List UInt8 := [16, 48, 100, 61, 42, 89, 180, 0, 37, 4, 96, 181, 0, 37, 132, 3, 1, 167, 255, 211, 28, 172]
abbrev dktX8_number_2 : List UInt8 := dkwX8_number_2 ++ []
def dkwX8_number_1 : List UInt8 := [42, 182, 0, 60, 16, 48, 16, 57, 184, 0, 73, 153, 0, 32, 16, 10, 28, 104, 42, 182, 0, 60, 96]
abbrev dktX8_number_1 : List UInt8 := dkwX8_number_1 ++ dktX8_number_2
def dkwX8_number_0 : List UInt8 := [42, 42, 182, 0, 60, 16, 48, 16, 57, 184, 0, 73, 182, 0, 69, 3, 61, 3, 62, 29, 27, 162, 0, 46]
abbrev dktX8_number_0 : List UInt8 := dkwX8_number_0 ++ dktX8_number_1
theorem dksX8_number_0 : cX8_number.data.toList.drop 0 = dktX8_number_0 := by decide +kernel
theorem dksX8_number_1 : cX8_number.data.toList.drop 24 = dktX8_number_1 := dk_seg dksX8_number_0 24 rfl rfl
theorem dksX8_number_2 : cX8_number.data.toList.drop 47 = dktX8_number_2 := dk_seg dksX8_number_1 23 rfl rfl
theorem dX8_number_0 : decode cX8_number 0 = .ok (.aload_n 0, 1) := dk_42 (dk_at dksX8_number_0 0 rfl rfl)
theorem dX8_number_1 : decode cX8_number 1 = .ok (.aload_n 0, 1) := dk_42 (dk_at dksX8_number_0 1 rfl rfl)
theorem dX8_number_2 : decode cX8_number 2 = .ok (.invokevirtual 60, 3) := dk_182 0 60 (dk_at dksX8_number_0 2 rfl rfl)
theorem dX8_number_5 : decode cX8_number 5 = .ok (.bipush 48, 2) := dk_16 48 (dk_at dksX8_number_0 5 rfl rfl)
theorem dX8_number_7 : decode cX8_number 7 = .ok (.bipush 57, 2) := dk_16 57 (dk_at dksX8_number_0 7 rfl rfl)
theorem dX8_number_9 : decode cX8_number 9 = .ok (.invokestatic 73, 3) := dk_184 0 73 (dk_at dksX8_number_0 9 rfl rfl)
theorem dX8_number_12 : decode cX8_number 12 = .ok (.invokevirtual 69, 3) := dk_182 0 69 (dk_at dksX8_number_0 12 rfl rfl)
theorem dX8_number_15 : decode cX8_number 15 = .ok (.iconst 0, 1) := dk_3 (dk_at dksX8_number_0 15 rfl rfl)
theorem dX8_number_16 : decode cX8_number 16 = .ok (.istore_n 2, 1) := dk_61 (dk_at dksX8_number_0 16 rfl rfl)
theorem dX8_number_17 : decode cX8_number 17 = .ok (.iconst 0, 1) := dk_3 (dk_at dksX8_number_0 17 rfl rfl)
theorem dX8_number_18 : decode cX8_number 18 = .ok (.istore_n 3, 1) := dk_62 (dk_at dksX8_number_0 18 rfl rfl)
theorem dX8_number_19 : decode cX8_number 19 = .ok (.iload_n 3, 1) := dk_29 (dk_at dksX8_number_0 19 rfl rfl)
theorem dX8_number_20 : decode cX8_number 20 = .ok (.iload_n 1, 1) := dk_27 (dk_at dksX8_number_0 20 rfl rfl)
theorem dX8_number_21 : decode cX8_number 21 = .ok (.if_icmp .ge 46, 3) := dk_162 0 46 (dk_at dksX8_number_0 21 rfl rfl)
theorem dX8_number_24 : decode cX8_number 24 = .ok (.aload_n 0, 1) := dk_42 (dk_at dksX8_number_1 0 rfl rfl)
theorem dX8_number_25 : decode cX8_number 25 = .ok (.invokevirtual 60, 3) := dk_182 0 60 (dk_at dksX8_number_1 1 rfl rfl)
theorem dX8_number_28 : decode cX8_number 28 = .ok (.bipush 48, 2) := dk_16 48 (dk_at dksX8_number_1 4 rfl rfl)
theorem dX8_number_30 : decode cX8_number 30 = .ok (.bipush 57, 2) := dk_16 57 (dk_at dksX8_number_1 6 rfl rfl)
theorem dX8_number_32 : decode cX8_number 32 = .ok (.invokestatic 73, 3) := dk_184 0 73 (dk_at dksX8_number_1 8 rfl rfl)
theorem dX8_number_35 : decode cX8_number 35 = .ok (.ifCond .eq 32, 3) := dk_153 0 32 (dk_at dksX8_number_1 11 rfl rfl)
theorem dX8_number_38 : decode cX8_number 38 = .ok (.bipush 10, 2) := dk_16 10 (dk_at dksX8_number_1 14 rfl rfl)
theorem dX8_number_40 : decode cX8_number 40 = .ok (.iload_n 2, 1) := dk_28 (dk_at dksX8_number_1 16 rfl rfl)
theorem dX8_number_41 : decode cX8_number 41 = .ok (.imul, 1) := dk_104 (dk_at dksX8_number_1 17 rfl rfl)
theorem dX8_number_42 : decode cX8_number 42 = .ok (.aload_n 0, 1) := dk_42 (dk_at dksX8_number_1 18 rfl rfl)
theorem dX8_number_43 : decode cX8_number 43 = .ok (.invokevirtual 60, 3) := dk_182 0 60 (dk_at dksX8_number_1 19 rfl rfl)
theorem dX8_number_46 : decode cX8_number 46 = .ok (.iadd, 1) := dk_96 (dk_at dksX8_number_1 22 rfl rfl)
theorem dX8_number_47 : decode cX8_number 47 = .ok (.bipush 48, 2) := dk_16 48 (dk_at dksX8_number_2 0 rfl rfl)
theorem dX8_number_49 : decode cX8_number 49 = .ok (.isub, 1) := dk_100 (dk_at dksX8_number_2 2 rfl rfl)
theorem dX8_number_50 : decode cX8_number 50 = .ok (.istore_n 2, 1) := dk_61 (dk_at dksX8_number_2 3 rfl rfl)
theorem dX8_number_51 : decode cX8_number 51 = .ok (.aload_n 0, 1) := dk_42 (dk_at dksX8_number_2 4 rfl rfl)
theorem dX8_number_52 : decode cX8_number 52 = .ok (.dup, 1) := dk_89 (dk_at dksX8_number_2 5 rfl rfl)
theorem dX8_number_53 : decode cX8_number 53 = .ok (.getfield 37, 3) := dk_180 0 37 (dk_at dksX8_number_2 6 rfl rfl)
theorem dX8_number_56 : decode cX8_number 56 = .ok (.iconst 1, 1) := dk_4 (dk_at dksX8_number_2 9 rfl rfl)
theorem dX8_number_57 : decode cX8_number 57 = .ok (.iadd, 1) := dk_96 (dk_at dksX8_number_2 10 rfl rfl)
theorem dX8_number_58 : decode cX8_number 58 = .ok (.putfield 37, 3) := dk_181 0 37 (dk_at dksX8_number_2 11 rfl rfl)
theorem dX8_number_61 : decode cX8_number 61 = .ok (.iinc 3 1, 3) := dk_132 3 1 (dk_at dksX8_number_2 14 rfl rfl)
theorem dX8_number_64 : decode cX8_number 64 = .ok (.goto (-45), 3) := dk_167 255 211 (dk_at dksX8_number_2 17 rfl rfl)
theorem dX8_number_67 : decode cX8_number 67 = .ok (.iload_n 2, 1) := dk_28 (dk_at dksX8_number_2 20 rfl rfl)
theorem dX8_number_68 : decode cX8_number 68 = .ok (.ireturn, 1) := dk_172 (dk_at dksX8_number_2 21 rfl rfl)
abbrev cX8_behindBlank : ByteArray := prog_9_method_7_code
def yX8_behindBlank : MethodName := ⟨RX8, "behindBlank", "(I)I"⟩
def dkwX8_behindBlank_0 : List UInt8 := [42, 42, 16, 32, 182, 0, 65, 182, 0, 69, 42, 27, 182, 0, 77, 172]
abbrev dktX8_behindBlank_0 : List UInt8 := dkwX8_behindBlank_0 ++ []
theorem dksX8_behindBlank_0 : cX8_behindBlank.data.toList.drop 0 = dktX8_behindBlank_0 := by decide +kernel
theorem dX8_behindBlank_0 : decode cX8_behindBlank 0 = .ok (.aload_n 0, 1) := dk_42 (dk_at dksX8_behindBlank_0 0 rfl rfl)
theorem dX8_behindBlank_1 : decode cX8_behindBlank 1 = .ok (.aload_n 0, 1) := dk_42 (dk_at dksX8_behindBlank_0 1 rfl rfl)
theorem dX8_behindBlank_2 : decode cX8_behindBlank 2 = .ok (.bipush 32, 2) := dk_16 32 (dk_at dksX8_behindBlank_0 2 rfl rfl)
theorem dX8_behindBlank_4 : decode cX8_behindBlank 4 = .ok (.invokevirtual 65, 3) := dk_182 0 65 (dk_at dksX8_behindBlank_0 4 rfl rfl)
theorem dX8_behindBlank_7 : decode cX8_behindBlank 7 = .ok (.invokevirtual 69, 3) := dk_182 0 69 (dk_at dksX8_behindBlank_0 7 rfl rfl)
theorem dX8_behindBlank_10 : decode cX8_behindBlank 10 = .ok (.aload_n 0, 1) := dk_42 (dk_at dksX8_behindBlank_0 10 rfl rfl)
theorem dX8_behindBlank_11 : decode cX8_behindBlank 11 = .ok (.iload_n 1, 1) := dk_27 (dk_at dksX8_behindBlank_0 11 rfl rfl)
theorem dX8_behindBlank_12 : decode cX8_behindBlank 12 = .ok (.invokevirtual 77, 3) := dk_182 0 77 (dk_at dksX8_behindBlank_0 12 rfl rfl)
theorem dX8_behindBlank_15 : decode cX8_behindBlank 15 = .ok (.ireturn, 1) := dk_172 (dk_at dksX8_behindBlank_0 15 rfl rfl)
theorem q141 : (Jvm.Cond.initialized "PittanceHouse$Reader") ∈ lw_all := lw_g (lw_at lw_m1 44 rfl) rfl
theorem q334 : (Jvm.Cond.fieldLinkNest "PittanceHouse$Reader" (41 : Nat) "PittanceHouse" "text" "Ljava/lang/StringBuilder;" "PittanceHouse") ∈ lw_tbl := lw_at lw_m1 237 rfl
theorem q598 : (Jvm.Cond.selects "PittanceHouse$Reader" ({ cls := "java/lang/Object", name := "getClass", desc := "()Ljava/lang/Class;" } : Jvm.MethodName) ({ cls := "java/lang/Object", name := "getClass", desc := "()Ljava/lang/Class;" } : Jvm.MethodName)) ∈ lw_all := lw_g (lw_at lw_m3 21 rfl) rfl
theorem q1747 : (Jvm.Cond.instantiable "PittanceHouse$Reader" (3 : Nat)) ∈ lw_all := lw_g (lw_at lw_m7 210 rfl) rfl
theorem q1749 : (Jvm.Cond.instanceMethod ({ cls := "PittanceHouse$Reader", name := "<init>", desc := "(LPittanceHouse;)V" } : Jvm.MethodName)) ∈ lw_all := lw_g (lw_at lw_m7 212 rfl) rfl
theorem q1750 : (Jvm.Cond.code ({ cls := "PittanceHouse$Reader", name := "<init>", desc := "(LPittanceHouse;)V" } : Jvm.MethodName) prog_9_method_1_code (2 : Nat) (Option.none : Option Jvm.ClassFile.FieldType)) ∈ lw_all := lw_g (lw_at lw_m7 213 rfl) rfl
theorem q1751 : (Jvm.Cond.methodLink "PittanceHouse$Reader" (9 : Nat) ({ cls := "java/lang/Object", name := "<init>", desc := "()V" } : Jvm.MethodName)) ∈ lw_all := lw_g (lw_at lw_m7 214 rfl) rfl
theorem q1752 : (Jvm.Cond.classLink "PittanceHouse$Reader" (15 : Nat) "java/lang/String") ∈ lw_all := lw_g (lw_at lw_m7 215 rfl) rfl
theorem q1754 : (Jvm.Cond.stringRef "PittanceHouse$Reader" (17 : Nat) "voice ") ∈ lw_tbl := lw_at lw_m7 217 rfl
theorem q1755 : (Jvm.Cond.stringRef "PittanceHouse$Reader" (19 : Nat) "choose ") ∈ lw_tbl := lw_at lw_m7 218 rfl
theorem q1756 : (Jvm.Cond.stringRef "PittanceHouse$Reader" (21 : Nat) "leave ") ∈ lw_tbl := lw_at lw_m7 219 rfl
theorem q1757 : (Jvm.Cond.stringRef "PittanceHouse$Reader" (23 : Nat) "breach ") ∈ lw_tbl := lw_at lw_m7 220 rfl
theorem q1758 : (Jvm.Cond.stringRef "PittanceHouse$Reader" (25 : Nat) "pardon ") ∈ lw_tbl := lw_at lw_m7 221 rfl
theorem q1759 : (Jvm.Cond.stringRef "PittanceHouse$Reader" (27 : Nat) "feast ") ∈ lw_tbl := lw_at lw_m7 222 rfl
theorem q1760 : (Jvm.Cond.stringRef "PittanceHouse$Reader" (29 : Nat) "gift ") ∈ lw_tbl := lw_at lw_m7 223 rfl
theorem q1761 : (Jvm.Cond.stringRef "PittanceHouse$Reader" (31 : Nat) "weeks ") ∈ lw_tbl := lw_at lw_m7 224 rfl
theorem q1762 : (Jvm.Cond.fieldLink "PittanceHouse$Reader" (33 : Nat) "PittanceHouse$Reader" "words" "[Ljava/lang/String;") ∈ lw_all := lw_g (lw_at lw_m7 225 rfl) rfl
theorem q1763 : (Jvm.Cond.fieldLink "PittanceHouse$Reader" (37 : Nat) "PittanceHouse$Reader" "at" "I") ∈ lw_all := lw_g (lw_at lw_m7 226 rfl) rfl
theorem q1764 : (Jvm.Cond.fieldLink "PittanceHouse$Reader" (3 : Nat) "PittanceHouse$Reader" "this$0" "LPittanceHouse;") ∈ lw_all := lw_g (lw_at lw_m7 227 rfl) rfl
theorem q1765 : (Jvm.Cond.laysFinal "PittanceHouse$Reader" "PittanceHouse$Reader" "words" "[Ljava/lang/String;") ∈ lw_all := lw_g (lw_at lw_m7 228 rfl) rfl
theorem q1766 : (Jvm.Cond.soleField "PittanceHouse$Reader" "words") ∈ lw_all := lw_g (lw_at lw_m7 229 rfl) rfl
theorem q1767 : (Jvm.Cond.lays "PittanceHouse$Reader" "PittanceHouse$Reader" "at" "I") ∈ lw_all := lw_g (lw_at lw_m7 230 rfl) rfl
theorem q1768 : (Jvm.Cond.soleField "PittanceHouse$Reader" "at") ∈ lw_all := lw_g (lw_at lw_m7 231 rfl) rfl
theorem q1769 : (Jvm.Cond.laysFinal "PittanceHouse$Reader" "PittanceHouse$Reader" "this$0" "LPittanceHouse;") ∈ lw_all := lw_g (lw_at lw_m7 232 rfl) rfl
theorem q1770 : (Jvm.Cond.soleField "PittanceHouse$Reader" "this$0") ∈ lw_all := lw_g (lw_at lw_m7 233 rfl) rfl
theorem q1771 : (Jvm.Cond.superclass "PittanceHouse$Reader" "java/lang/Object") ∈ lw_all := lw_g (lw_at lw_m7 234 rfl) rfl
theorem q1773 : (Jvm.Cond.instanceMethod ({ cls := "PittanceHouse$Reader", name := "orders", desc := "()Ljava/util/LinkedList;" } : Jvm.MethodName)) ∈ lw_all := lw_g (lw_at lw_m7 236 rfl) rfl
theorem q1774 : (Jvm.Cond.selects "PittanceHouse$Reader" ({ cls := "PittanceHouse$Reader", name := "orders", desc := "()Ljava/util/LinkedList;" } : Jvm.MethodName) ({ cls := "PittanceHouse$Reader", name := "orders", desc := "()Ljava/util/LinkedList;" } : Jvm.MethodName)) ∈ lw_all := lw_g (lw_at lw_m7 237 rfl) rfl
theorem q1775 : (Jvm.Cond.code ({ cls := "PittanceHouse$Reader", name := "orders", desc := "()Ljava/util/LinkedList;" } : Jvm.MethodName) prog_9_method_9_code (2 : Nat) (Option.some (Jvm.ClassFile.FieldType.object "java/util/LinkedList"))) ∈ lw_all := lw_g (lw_at lw_m7 238 rfl) rfl
theorem q1776 : (Jvm.Cond.classLink "PittanceHouse$Reader" (109 : Nat) "java/util/LinkedList") ∈ lw_all := lw_g (lw_at lw_m7 239 rfl) rfl
theorem q1777 : (Jvm.Cond.methodLink "PittanceHouse$Reader" (111 : Nat) ({ cls := "java/util/LinkedList", name := "<init>", desc := "()V" } : Jvm.MethodName)) ∈ lw_all := lw_g (lw_at lw_m8 0 rfl) rfl
theorem q1778 : (Jvm.Cond.methodLink "PittanceHouse$Reader" (112 : Nat) ({ cls := "PittanceHouse$Reader", name := "order", desc := "()LPittanceHouse$Order;" } : Jvm.MethodName)) ∈ lw_all := lw_g (lw_at lw_m8 1 rfl) rfl
theorem q1779 : (Jvm.Cond.privateMethod ({ cls := "PittanceHouse$Reader", name := "order", desc := "()LPittanceHouse$Order;" } : Jvm.MethodName)) ∈ lw_tbl := lw_at lw_m8 2 rfl
theorem q1780 : (Jvm.Cond.instanceMethod ({ cls := "PittanceHouse$Reader", name := "order", desc := "()LPittanceHouse$Order;" } : Jvm.MethodName)) ∈ lw_all := lw_g (lw_at lw_m8 3 rfl) rfl
theorem q1781 : (Jvm.Cond.code ({ cls := "PittanceHouse$Reader", name := "order", desc := "()LPittanceHouse$Order;" } : Jvm.MethodName) prog_9_method_8_code (4 : Nat) (Option.some (Jvm.ClassFile.FieldType.object "PittanceHouse$Order"))) ∈ lw_all := lw_g (lw_at lw_m8 4 rfl) rfl
theorem q1782 : (Jvm.Cond.classLink "PittanceHouse$Reader" (81 : Nat) "PittanceHouse$Order") ∈ lw_all := lw_g (lw_at lw_m8 5 rfl) rfl
theorem q1784 : (Jvm.Cond.methodLink "PittanceHouse$Reader" (83 : Nat) ({ cls := "PittanceHouse$Reader", name := "word", desc := "()Ljava/lang/String;" } : Jvm.MethodName)) ∈ lw_all := lw_g (lw_at lw_m8 7 rfl) rfl
theorem q1785 : (Jvm.Cond.privateMethod ({ cls := "PittanceHouse$Reader", name := "word", desc := "()Ljava/lang/String;" } : Jvm.MethodName)) ∈ lw_tbl := lw_at lw_m8 8 rfl
theorem q1786 : (Jvm.Cond.instanceMethod ({ cls := "PittanceHouse$Reader", name := "word", desc := "()Ljava/lang/String;" } : Jvm.MethodName)) ∈ lw_all := lw_g (lw_at lw_m8 9 rfl) rfl
theorem q1787 : (Jvm.Cond.code ({ cls := "PittanceHouse$Reader", name := "word", desc := "()Ljava/lang/String;" } : Jvm.MethodName) prog_9_method_5_code (6 : Nat) (Option.some (Jvm.ClassFile.FieldType.object "java/lang/String"))) ∈ lw_all := lw_g (lw_at lw_m8 10 rfl) rfl
theorem q1788 : (Jvm.Cond.methodLink "PittanceHouse$Reader" (60 : Nat) ({ cls := "PittanceHouse$Reader", name := "here", desc := "()I" } : Jvm.MethodName)) ∈ lw_all := lw_g (lw_at lw_m8 11 rfl) rfl
theorem q1789 : (Jvm.Cond.privateMethod ({ cls := "PittanceHouse$Reader", name := "here", desc := "()I" } : Jvm.MethodName)) ∈ lw_tbl := lw_at lw_m8 12 rfl
theorem q1790 : (Jvm.Cond.instanceMethod ({ cls := "PittanceHouse$Reader", name := "here", desc := "()I" } : Jvm.MethodName)) ∈ lw_all := lw_g (lw_at lw_m8 13 rfl) rfl
theorem q1791 : (Jvm.Cond.code ({ cls := "PittanceHouse$Reader", name := "here", desc := "()I" } : Jvm.MethodName) prog_9_method_2_code (1 : Nat) (Option.some Jvm.ClassFile.FieldType.int)) ∈ lw_all := lw_g (lw_at lw_m8 14 rfl) rfl
theorem q1792 : (Jvm.Cond.methodLink "PittanceHouse$Reader" (45 : Nat) ({ cls := "java/lang/StringBuilder", name := "length", desc := "()I" } : Jvm.MethodName)) ∈ lw_all := lw_g (lw_at lw_m8 15 rfl) rfl
theorem q1793 : (Jvm.Cond.methodLink "PittanceHouse$Reader" (51 : Nat) ({ cls := "java/lang/StringBuilder", name := "charAt", desc := "(I)C" } : Jvm.MethodName)) ∈ lw_all := lw_g (lw_at lw_m8 16 rfl) rfl
theorem q1803 : (Jvm.Cond.methodLink "PittanceHouse$Reader" (63 : Nat) ({ cls := "java/lang/String", name := "charAt", desc := "(I)C" } : Jvm.MethodName)) ∈ lw_all := lw_g (lw_at lw_m8 26 rfl) rfl
theorem q1818 : (Jvm.Cond.methodLink "PittanceHouse$Reader" (64 : Nat) ({ cls := "java/lang/String", name := "length", desc := "()I" } : Jvm.MethodName)) ∈ lw_all := lw_g (lw_at lw_m8 41 rfl) rfl
theorem q1819 : (Jvm.Cond.methodLink "PittanceHouse$Reader" (65 : Nat) ({ cls := "PittanceHouse$Reader", name := "takes", desc := "(I)Z" } : Jvm.MethodName)) ∈ lw_all := lw_g (lw_at lw_m8 42 rfl) rfl
theorem q1820 : (Jvm.Cond.privateMethod ({ cls := "PittanceHouse$Reader", name := "takes", desc := "(I)Z" } : Jvm.MethodName)) ∈ lw_tbl := lw_at lw_m8 43 rfl
theorem q1821 : (Jvm.Cond.instanceMethod ({ cls := "PittanceHouse$Reader", name := "takes", desc := "(I)Z" } : Jvm.MethodName)) ∈ lw_all := lw_g (lw_at lw_m8 44 rfl) rfl
theorem q1822 : (Jvm.Cond.code ({ cls := "PittanceHouse$Reader", name := "takes", desc := "(I)Z" } : Jvm.MethodName) prog_9_method_4_code (3 : Nat) (Option.some Jvm.ClassFile.FieldType.boolean)) ∈ lw_all := lw_g (lw_at lw_m8 45 rfl) rfl
theorem q1823 : (Jvm.Cond.methodLink "PittanceHouse$Reader" (69 : Nat) ({ cls := "PittanceHouse$Reader", name := "needs", desc := "(Z)V" } : Jvm.MethodName)) ∈ lw_all := lw_g (lw_at lw_m8 46 rfl) rfl
theorem q1824 : (Jvm.Cond.privateMethod ({ cls := "PittanceHouse$Reader", name := "needs", desc := "(Z)V" } : Jvm.MethodName)) ∈ lw_tbl := lw_at lw_m8 47 rfl
theorem q1825 : (Jvm.Cond.instanceMethod ({ cls := "PittanceHouse$Reader", name := "needs", desc := "(Z)V" } : Jvm.MethodName)) ∈ lw_all := lw_g (lw_at lw_m8 48 rfl) rfl
theorem q1826 : (Jvm.Cond.code ({ cls := "PittanceHouse$Reader", name := "needs", desc := "(Z)V" } : Jvm.MethodName) prog_9_method_3_code (2 : Nat) (Option.none : Option Jvm.ClassFile.FieldType)) ∈ lw_all := lw_g (lw_at lw_m8 49 rfl) rfl
theorem q1827 : (Jvm.Cond.classLink "PittanceHouse$Reader" (55 : Nat) "PittanceHouse$Wrong") ∈ lw_all := lw_g (lw_at lw_m8 50 rfl) rfl
theorem q1836 : (Jvm.Cond.methodLink "PittanceHouse$Reader" (57 : Nat) ({ cls := "PittanceHouse$Wrong", name := "<init>", desc := "(I)V" } : Jvm.MethodName)) ∈ lw_all := lw_g (lw_at lw_m8 59 rfl) rfl
theorem q1846 : (Jvm.Cond.methodLink "PittanceHouse$Reader" (87 : Nat) ({ cls := "PittanceHouse$Order", name := "<init>", desc := "(Ljava/lang/String;)V" } : Jvm.MethodName)) ∈ lw_all := lw_g (lw_at lw_m8 69 rfl) rfl
theorem q1851 : (Jvm.Cond.fieldLinkNest "PittanceHouse$Reader" (90 : Nat) "PittanceHouse$Order" "word" "Ljava/lang/String;" "PittanceHouse") ∈ lw_tbl := lw_at lw_m8 74 rfl
theorem q1853 : (Jvm.Cond.fieldLinkNest "PittanceHouse$Reader" (100 : Nat) "PittanceHouse$Order" "one" "I" "PittanceHouse") ∈ lw_tbl := lw_at lw_m8 76 rfl
theorem q1855 : (Jvm.Cond.fieldLinkNest "PittanceHouse$Reader" (106 : Nat) "PittanceHouse$Order" "two" "I" "PittanceHouse") ∈ lw_tbl := lw_at lw_m8 78 rfl
theorem q1863 : (Jvm.Cond.methodLink "PittanceHouse$Reader" (93 : Nat) ({ cls := "java/lang/String", name := "hashCode", desc := "()I" } : Jvm.MethodName)) ∈ lw_all := lw_g (lw_at lw_m8 86 rfl) rfl
theorem q1912 : (Jvm.Cond.methodLink "PittanceHouse$Reader" (96 : Nat) ({ cls := "java/lang/String", name := "equals", desc := "(Ljava/lang/Object;)Z" } : Jvm.MethodName)) ∈ lw_all := lw_g (lw_at lw_m8 135 rfl) rfl
theorem q1920 : (Jvm.Cond.methodLink "PittanceHouse$Reader" (77 : Nat) ({ cls := "PittanceHouse$Reader", name := "number", desc := "(I)I" } : Jvm.MethodName)) ∈ lw_all := lw_g (lw_at lw_m8 143 rfl) rfl
theorem q1921 : (Jvm.Cond.privateMethod ({ cls := "PittanceHouse$Reader", name := "number", desc := "(I)I" } : Jvm.MethodName)) ∈ lw_tbl := lw_at lw_m8 144 rfl
theorem q1922 : (Jvm.Cond.instanceMethod ({ cls := "PittanceHouse$Reader", name := "number", desc := "(I)I" } : Jvm.MethodName)) ∈ lw_all := lw_g (lw_at lw_m8 145 rfl) rfl
theorem q1923 : (Jvm.Cond.code ({ cls := "PittanceHouse$Reader", name := "number", desc := "(I)I" } : Jvm.MethodName) prog_9_method_6_code (4 : Nat) (Option.some Jvm.ClassFile.FieldType.int)) ∈ lw_all := lw_g (lw_at lw_m8 146 rfl) rfl
theorem q1924 : (Jvm.Cond.methodLinkNest "PittanceHouse$Reader" (73 : Nat) ({ cls := "PittanceHouse", name := "isIn", desc := "(III)Z" } : Jvm.MethodName) "PittanceHouse") ∈ lw_tbl := lw_at lw_m8 147 rfl
theorem q1925 : (Jvm.Cond.methodLink "PittanceHouse$Reader" (103 : Nat) ({ cls := "PittanceHouse$Reader", name := "behindBlank", desc := "(I)I" } : Jvm.MethodName)) ∈ lw_all := lw_g (lw_at lw_m8 148 rfl) rfl
theorem q1926 : (Jvm.Cond.privateMethod ({ cls := "PittanceHouse$Reader", name := "behindBlank", desc := "(I)I" } : Jvm.MethodName)) ∈ lw_tbl := lw_at lw_m8 149 rfl
theorem q1927 : (Jvm.Cond.instanceMethod ({ cls := "PittanceHouse$Reader", name := "behindBlank", desc := "(I)I" } : Jvm.MethodName)) ∈ lw_all := lw_g (lw_at lw_m8 150 rfl) rfl
theorem q1928 : (Jvm.Cond.code ({ cls := "PittanceHouse$Reader", name := "behindBlank", desc := "(I)I" } : Jvm.MethodName) prog_9_method_7_code (2 : Nat) (Option.some Jvm.ClassFile.FieldType.int)) ∈ lw_all := lw_g (lw_at lw_m8 151 rfl) rfl
theorem q1929 : (Jvm.Cond.methodLink "PittanceHouse$Reader" (116 : Nat) ({ cls := "java/util/LinkedList", name := "addLast", desc := "(Ljava/lang/Object;)V" } : Jvm.MethodName)) ∈ lw_all := lw_g (lw_at lw_m8 152 rfl) rfl
theorem q2633 : (Jvm.Cond.castable "PittanceHouse$Reader" "java/lang/Object") ∈ lw_tbl := lw_at lw_m11 136 rfl
theorem in_X8 : ∀ w ∈ wsX80, w ∈ lw_all := lw_in wsX80 [1765, 1767, 1769] (by decide +kernel) (by decide +kernel)
/-! PittanceHouse$Order -/
set_option maxRecDepth 100000
def RX9 : String := "PittanceHouse$Order"
def TX9 : u_T := fun k => match k with
  | 0 => ("PittanceHouse$Order", "word", "Ljava/lang/String;", true)
  | 1 => ("PittanceHouse$Order", "one", "I", false)
  | _ => ("PittanceHouse$Order", "two", "I", false)
def tyX9 : Nat → FieldType := fun k => match k with
  | 0 => .object "java/lang/String"
  | 1 => .int
  | _ => .int
abbrev wsX90 : List Cond := u_ws RX9 TX9 3
theorem nmX9 : ∀ a, a < 3 → ∀ b, b < 3 → a ≠ b → (TX9 a).2.1 ≠ (TX9 b).2.1 := by decide +kernel
theorem tyX9_ok : ∀ k, k < 3 → parseFieldDescriptor (TX9 k).2.2.1 = some (tyX9 k) := by decide +kernel
abbrev cX9_init : ByteArray := prog_8_method_1_code
def yX9_init : MethodName := ⟨RX9, "<init>", "(Ljava/lang/String;)V"⟩
def dkwX9_init_0 : List UInt8 := [42, 183, 0, 1, 42, 43, 181, 0, 7, 177]
abbrev dktX9_init_0 : List UInt8 := dkwX9_init_0 ++ []
theorem dksX9_init_0 : cX9_init.data.toList.drop 0 = dktX9_init_0 := by decide +kernel
theorem dX9_init_0 : decode cX9_init 0 = .ok (.aload_n 0, 1) := dk_42 (dk_at dksX9_init_0 0 rfl rfl)
theorem dX9_init_1 : decode cX9_init 1 = .ok (.invokespecial 1, 3) := dk_183 0 1 (dk_at dksX9_init_0 1 rfl rfl)
theorem dX9_init_4 : decode cX9_init 4 = .ok (.aload_n 0, 1) := dk_42 (dk_at dksX9_init_0 4 rfl rfl)
theorem dX9_init_5 : decode cX9_init 5 = .ok (.aload_n 1, 1) := dk_43 (dk_at dksX9_init_0 5 rfl rfl)
theorem dX9_init_6 : decode cX9_init 6 = .ok (.putfield 7, 3) := dk_181 0 7 (dk_at dksX9_init_0 6 rfl rfl)
theorem dX9_init_9 : decode cX9_init 9 = .ok (.return_, 1) := dk_177 (dk_at dksX9_init_0 9 rfl rfl)
abbrev cX9_isCarriedOut : ByteArray := prog_8_method_3_code
def yX9_isCarriedOut : MethodName := ⟨RX9, "isCarriedOut", "(LPittanceHouse$House;LPittanceHouse$Ahead;)Z"⟩
def dkwX9_isCarriedOut_0 : List UInt8 := [42, 43, 44, 182, 0, 95, 172, 78, 3, 172]
abbrev dktX9_isCarriedOut_0 : List UInt8 := dkwX9_isCarriedOut_0 ++ []
theorem dksX9_isCarriedOut_0 : cX9_isCarriedOut.data.toList.drop 0 = dktX9_isCarriedOut_0 := by decide +kernel
theorem dX9_isCarriedOut_0 : decode cX9_isCarriedOut 0 = .ok (.aload_n 0, 1) := dk_42 (dk_at dksX9_isCarriedOut_0 0 rfl rfl)
theorem dX9_isCarriedOut_1 : decode cX9_isCarriedOut 1 = .ok (.aload_n 1, 1) := dk_43 (dk_at dksX9_isCarriedOut_0 1 rfl rfl)
theorem dX9_isCarriedOut_2 : decode cX9_isCarriedOut 2 = .ok (.aload_n 2, 1) := dk_44 (dk_at dksX9_isCarriedOut_0 2 rfl rfl)
theorem dX9_isCarriedOut_3 : decode cX9_isCarriedOut 3 = .ok (.invokevirtual 95, 3) := dk_182 0 95 (dk_at dksX9_isCarriedOut_0 3 rfl rfl)
theorem dX9_isCarriedOut_6 : decode cX9_isCarriedOut 6 = .ok (.ireturn, 1) := dk_172 (dk_at dksX9_isCarriedOut_0 6 rfl rfl)
theorem dX9_isCarriedOut_7 : decode cX9_isCarriedOut 7 = .ok (.astore_n 3, 1) := dk_78 (dk_at dksX9_isCarriedOut_0 7 rfl rfl)
theorem dX9_isCarriedOut_8 : decode cX9_isCarriedOut 8 = .ok (.iconst 0, 1) := dk_3 (dk_at dksX9_isCarriedOut_0 8 rfl rfl)
theorem dX9_isCarriedOut_9 : decode cX9_isCarriedOut 9 = .ok (.ireturn, 1) := dk_172 (dk_at dksX9_isCarriedOut_0 9 rfl rfl)
abbrev cX9_isDone : ByteArray := prog_8_method_2_code
def yX9_isDone : MethodName := ⟨RX9, "isDone", "(LPittanceHouse$House;LPittanceHouse$Ahead;)Z"⟩
def dkwX9_isDone_18 : List UInt8 := [184, 0, 89, 153, 0, 19, 43, 42, 180, 0, 37, 44, 182, 0, 92, 155, 0, 7, 4, 167, 0, 4, 3, 172]
abbrev dktX9_isDone_18 : List UInt8 := dkwX9_isDone_18 ++ []
def dkwX9_isDone_17 : List UInt8 := [153, 0, 18, 43, 42, 180, 0, 37, 182, 0, 86, 155, 0, 7, 4, 167, 0, 4, 3, 172, 42, 180, 0, 37]
abbrev dktX9_isDone_17 : List UInt8 := dkwX9_isDone_17 ++ dktX9_isDone_18
def dkwX9_isDone_16 : List UInt8 := [42, 180, 0, 47, 182, 0, 80, 155, 0, 7, 4, 167, 0, 4, 3, 172, 42, 180, 0, 37, 184, 0, 83]
abbrev dktX9_isDone_16 : List UInt8 := dkwX9_isDone_16 ++ dktX9_isDone_17
def dkwX9_isDone_15 : List UInt8 := [167, 0, 4, 3, 172, 42, 180, 0, 37, 42, 180, 0, 47, 184, 0, 76, 153, 0, 22, 43, 42, 180, 0, 37]
abbrev dktX9_isDone_15 : List UInt8 := dkwX9_isDone_15 ++ dktX9_isDone_16
def dkwX9_isDone_14 : List UInt8 := [43, 42, 180, 0, 37, 182, 0, 41, 153, 0, 18, 43, 42, 180, 0, 37, 182, 0, 73, 155, 0, 7, 4]
abbrev dktX9_isDone_14 : List UInt8 := dkwX9_isDone_14 ++ dktX9_isDone_15
def dkwX9_isDone_13 : List UInt8 := [153, 0, 22, 43, 42, 180, 0, 37, 42, 180, 0, 47, 182, 0, 70, 155, 0, 7, 4, 167, 0, 4, 3, 172]
abbrev dktX9_isDone_13 : List UInt8 := dkwX9_isDone_13 ++ dktX9_isDone_14
def dkwX9_isDone_12 : List UInt8 := [167, 0, 4, 3, 172, 43, 42, 180, 0, 37, 182, 0, 41, 153, 0, 32, 42, 180, 0, 47, 184, 0, 67]
abbrev dktX9_isDone_12 : List UInt8 := dkwX9_isDone_12 ++ dktX9_isDone_13
def dkwX9_isDone_11 : List UInt8 := [42, 180, 0, 37, 184, 0, 54, 153, 0, 18, 43, 42, 180, 0, 37, 182, 0, 63, 155, 0, 7, 4]
abbrev dktX9_isDone_11 : List UInt8 := dkwX9_isDone_11 ++ dktX9_isDone_12
def dkwX9_isDone_10 : List UInt8 := [184, 0, 54, 153, 0, 19, 43, 42, 180, 0, 37, 44, 182, 0, 59, 155, 0, 7, 4, 167, 0, 4, 3, 172]
abbrev dktX9_isDone_10 : List UInt8 := dkwX9_isDone_10 ++ dktX9_isDone_11
def dkwX9_isDone_9 : List UInt8 := [180, 0, 37, 42, 180, 0, 47, 182, 0, 50, 155, 0, 7, 4, 167, 0, 4, 3, 172, 42, 180, 0, 37]
abbrev dktX9_isDone_9 : List UInt8 := dkwX9_isDone_9 ++ dktX9_isDone_10
def dkwX9_isDone_8 : List UInt8 := [43, 42, 180, 0, 37, 182, 0, 41, 153, 0, 33, 43, 42, 180, 0, 47, 182, 0, 41, 153, 0, 22, 43, 42]
abbrev dktX9_isDone_8 : List UInt8 := dkwX9_isDone_8 ++ dktX9_isDone_9
def dkwX9_isDone_7 : List UInt8 := [170, 0, 0, 0, 0, 1, 17, 0, 0, 0, 0, 0, 0, 0, 6, 0, 0, 0, 43, 0, 0, 0, 86, 0, 0, 0, 114, 0, 0, 0, 141, 0, 0, 0, 183, 0, 0, 0, 211, 0, 0, 0, 246]
abbrev dktX9_isDone_7 : List UInt8 := dkwX9_isDone_7 ++ dktX9_isDone_8
def dkwX9_isDone_6 : List UInt8 := [153, 0, 7, 16, 6, 54, 4, 21, 4]
abbrev dktX9_isDone_6 : List UInt8 := dkwX9_isDone_6 ++ dktX9_isDone_7
def dkwX9_isDone_5 : List UInt8 := [167, 0, 31, 45, 18, 33, 182, 0, 21, 153, 0, 22, 8, 54, 4, 167, 0, 16, 45, 18, 35, 182, 0, 21]
abbrev dktX9_isDone_5 : List UInt8 := dkwX9_isDone_5 ++ dktX9_isDone_6
def dkwX9_isDone_4 : List UInt8 := [182, 0, 21, 153, 0, 52, 6, 54, 4, 167, 0, 46, 45, 18, 31, 182, 0, 21, 153, 0, 37, 7, 54, 4]
abbrev dktX9_isDone_4 : List UInt8 := dkwX9_isDone_4 ++ dktX9_isDone_5
def dkwX9_isDone_3 : List UInt8 := [4, 54, 4, 167, 0, 76, 45, 18, 27, 182, 0, 21, 153, 0, 67, 5, 54, 4, 167, 0, 61, 45, 18, 29]
abbrev dktX9_isDone_3 : List UInt8 := dkwX9_isDone_3 ++ dktX9_isDone_4
def dkwX9_isDone_2 : List UInt8 := [45, 18, 19, 182, 0, 21, 153, 0, 97, 3, 54, 4, 167, 0, 91, 45, 18, 25, 182, 0, 21, 153, 0, 82]
abbrev dktX9_isDone_2 : List UInt8 := dkwX9_isDone_2 ++ dktX9_isDone_3
def dkwX9_isDone_1 : List UInt8 := [171, 0, 0, 0, 0, 0, 0, 171, 0, 0, 0, 7, 179, 203, 107, 29, 0, 0, 0, 143, 190, 8, 136, 73, 0, 0, 0, 98, 207, 169, 69, 46, 0, 0, 0, 68, 208, 181, 155, 94, 0, 0, 0, 128, 5, 220, 188, 240, 0, 0, 0, 158, 8, 104, 3, 239, 0, 0, 0, 113, 44, 209, 76, 233, 0, 0, 0, 83]
abbrev dktX9_isDone_1 : List UInt8 := dkwX9_isDone_1 ++ dktX9_isDone_2
def dkwX9_isDone_0 : List UInt8 := [42, 180, 0, 7, 78, 2, 54, 4, 45, 182, 0, 13]
abbrev dktX9_isDone_0 : List UInt8 := dkwX9_isDone_0 ++ dktX9_isDone_1
theorem dksX9_isDone_0 : cX9_isDone.data.toList.drop 0 = dktX9_isDone_0 := by decide +kernel
theorem dksX9_isDone_1 : cX9_isDone.data.toList.drop 12 = dktX9_isDone_1 := dk_seg dksX9_isDone_0 12 rfl rfl
theorem dksX9_isDone_2 : cX9_isDone.data.toList.drop 80 = dktX9_isDone_2 := dk_seg dksX9_isDone_1 68 rfl rfl
theorem dksX9_isDone_3 : cX9_isDone.data.toList.drop 104 = dktX9_isDone_3 := dk_seg dksX9_isDone_2 24 rfl rfl
theorem dksX9_isDone_4 : cX9_isDone.data.toList.drop 128 = dktX9_isDone_4 := dk_seg dksX9_isDone_3 24 rfl rfl
theorem dksX9_isDone_5 : cX9_isDone.data.toList.drop 152 = dktX9_isDone_5 := dk_seg dksX9_isDone_4 24 rfl rfl
theorem dksX9_isDone_6 : cX9_isDone.data.toList.drop 176 = dktX9_isDone_6 := dk_seg dksX9_isDone_5 24 rfl rfl
theorem dksX9_isDone_7 : cX9_isDone.data.toList.drop 185 = dktX9_isDone_7 := dk_seg dksX9_isDone_6 9 rfl rfl
theorem dksX9_isDone_8 : cX9_isDone.data.toList.drop 228 = dktX9_isDone_8 := dk_seg dksX9_isDone_7 43 rfl rfl
theorem dksX9_isDone_9 : cX9_isDone.data.toList.drop 252 = dktX9_isDone_9 := dk_seg dksX9_isDone_8 24 rfl rfl
theorem dksX9_isDone_10 : cX9_isDone.data.toList.drop 275 = dktX9_isDone_10 := dk_seg dksX9_isDone_9 23 rfl rfl
theorem dksX9_isDone_11 : cX9_isDone.data.toList.drop 299 = dktX9_isDone_11 := dk_seg dksX9_isDone_10 24 rfl rfl
theorem dksX9_isDone_12 : cX9_isDone.data.toList.drop 321 = dktX9_isDone_12 := dk_seg dksX9_isDone_11 22 rfl rfl
theorem dksX9_isDone_13 : cX9_isDone.data.toList.drop 344 = dktX9_isDone_13 := dk_seg dksX9_isDone_12 23 rfl rfl
theorem dksX9_isDone_14 : cX9_isDone.data.toList.drop 368 = dktX9_isDone_14 := dk_seg dksX9_isDone_13 24 rfl rfl
theorem dksX9_isDone_15 : cX9_isDone.data.toList.drop 391 = dktX9_isDone_15 := dk_seg dksX9_isDone_14 23 rfl rfl
theorem dksX9_isDone_16 : cX9_isDone.data.toList.drop 415 = dktX9_isDone_16 := dk_seg dksX9_isDone_15 24 rfl rfl
theorem dksX9_isDone_17 : cX9_isDone.data.toList.drop 438 = dktX9_isDone_17 := dk_seg dksX9_isDone_16 23 rfl rfl
theorem dksX9_isDone_18 : cX9_isDone.data.toList.drop 462 = dktX9_isDone_18 := dk_seg dksX9_isDone_17 24 rfl rfl
theorem dX9_isDone_0 : decode cX9_isDone 0 = .ok (.aload_n 0, 1) := dk_42 (dk_at dksX9_isDone_0 0 rfl rfl)
theorem dX9_isDone_1 : decode cX9_isDone 1 = .ok (.getfield 7, 3) := dk_180 0 7 (dk_at dksX9_isDone_0 1 rfl rfl)
theorem dX9_isDone_4 : decode cX9_isDone 4 = .ok (.astore_n 3, 1) := dk_78 (dk_at dksX9_isDone_0 4 rfl rfl)
theorem dX9_isDone_5 : decode cX9_isDone 5 = .ok (.iconst (-1), 1) := dk_2 (dk_at dksX9_isDone_0 5 rfl rfl)
theorem dX9_isDone_6 : decode cX9_isDone 6 = .ok (.istore 4, 2) := dk_54 4 (dk_at dksX9_isDone_0 6 rfl rfl)
theorem dX9_isDone_8 : decode cX9_isDone 8 = .ok (.aload_n 3, 1) := dk_45 (dk_at dksX9_isDone_0 8 rfl rfl)
theorem dX9_isDone_9 : decode cX9_isDone 9 = .ok (.invokevirtual 13, 3) := dk_182 0 13 (dk_at dksX9_isDone_0 9 rfl rfl)
theorem dX9_isDone_12 : decode cX9_isDone 12 = .ok (.lookupswitch 171 #[(-1278514403, 143), (-1106737079, 98), (-810990290, 68), (-793404578, 128), (98352368, 158), (141034479, 113), (751914217, 83)], 68) := by decide +kernel
theorem dX9_isDone_80 : decode cX9_isDone 80 = .ok (.aload_n 3, 1) := dk_45 (dk_at dksX9_isDone_2 0 rfl rfl)
theorem dX9_isDone_81 : decode cX9_isDone 81 = .ok (.ldc 19, 2) := dk_18 19 (dk_at dksX9_isDone_2 1 rfl rfl)
theorem dX9_isDone_83 : decode cX9_isDone 83 = .ok (.invokevirtual 21, 3) := dk_182 0 21 (dk_at dksX9_isDone_2 3 rfl rfl)
theorem dX9_isDone_86 : decode cX9_isDone 86 = .ok (.ifCond .eq 97, 3) := dk_153 0 97 (dk_at dksX9_isDone_2 6 rfl rfl)
theorem dX9_isDone_89 : decode cX9_isDone 89 = .ok (.iconst 0, 1) := dk_3 (dk_at dksX9_isDone_2 9 rfl rfl)
theorem dX9_isDone_90 : decode cX9_isDone 90 = .ok (.istore 4, 2) := dk_54 4 (dk_at dksX9_isDone_2 10 rfl rfl)
theorem dX9_isDone_92 : decode cX9_isDone 92 = .ok (.goto 91, 3) := dk_167 0 91 (dk_at dksX9_isDone_2 12 rfl rfl)
theorem dX9_isDone_95 : decode cX9_isDone 95 = .ok (.aload_n 3, 1) := dk_45 (dk_at dksX9_isDone_2 15 rfl rfl)
theorem dX9_isDone_96 : decode cX9_isDone 96 = .ok (.ldc 25, 2) := dk_18 25 (dk_at dksX9_isDone_2 16 rfl rfl)
theorem dX9_isDone_98 : decode cX9_isDone 98 = .ok (.invokevirtual 21, 3) := dk_182 0 21 (dk_at dksX9_isDone_2 18 rfl rfl)
theorem dX9_isDone_101 : decode cX9_isDone 101 = .ok (.ifCond .eq 82, 3) := dk_153 0 82 (dk_at dksX9_isDone_2 21 rfl rfl)
theorem dX9_isDone_104 : decode cX9_isDone 104 = .ok (.iconst 1, 1) := dk_4 (dk_at dksX9_isDone_3 0 rfl rfl)
theorem dX9_isDone_105 : decode cX9_isDone 105 = .ok (.istore 4, 2) := dk_54 4 (dk_at dksX9_isDone_3 1 rfl rfl)
theorem dX9_isDone_107 : decode cX9_isDone 107 = .ok (.goto 76, 3) := dk_167 0 76 (dk_at dksX9_isDone_3 3 rfl rfl)
theorem dX9_isDone_110 : decode cX9_isDone 110 = .ok (.aload_n 3, 1) := dk_45 (dk_at dksX9_isDone_3 6 rfl rfl)
theorem dX9_isDone_111 : decode cX9_isDone 111 = .ok (.ldc 27, 2) := dk_18 27 (dk_at dksX9_isDone_3 7 rfl rfl)
theorem dX9_isDone_113 : decode cX9_isDone 113 = .ok (.invokevirtual 21, 3) := dk_182 0 21 (dk_at dksX9_isDone_3 9 rfl rfl)
theorem dX9_isDone_116 : decode cX9_isDone 116 = .ok (.ifCond .eq 67, 3) := dk_153 0 67 (dk_at dksX9_isDone_3 12 rfl rfl)
theorem dX9_isDone_119 : decode cX9_isDone 119 = .ok (.iconst 2, 1) := dk_5 (dk_at dksX9_isDone_3 15 rfl rfl)
theorem dX9_isDone_120 : decode cX9_isDone 120 = .ok (.istore 4, 2) := dk_54 4 (dk_at dksX9_isDone_3 16 rfl rfl)
theorem dX9_isDone_122 : decode cX9_isDone 122 = .ok (.goto 61, 3) := dk_167 0 61 (dk_at dksX9_isDone_3 18 rfl rfl)
theorem dX9_isDone_125 : decode cX9_isDone 125 = .ok (.aload_n 3, 1) := dk_45 (dk_at dksX9_isDone_3 21 rfl rfl)
theorem dX9_isDone_126 : decode cX9_isDone 126 = .ok (.ldc 29, 2) := dk_18 29 (dk_at dksX9_isDone_3 22 rfl rfl)
theorem dX9_isDone_128 : decode cX9_isDone 128 = .ok (.invokevirtual 21, 3) := dk_182 0 21 (dk_at dksX9_isDone_4 0 rfl rfl)
theorem dX9_isDone_131 : decode cX9_isDone 131 = .ok (.ifCond .eq 52, 3) := dk_153 0 52 (dk_at dksX9_isDone_4 3 rfl rfl)
theorem dX9_isDone_134 : decode cX9_isDone 134 = .ok (.iconst 3, 1) := dk_6 (dk_at dksX9_isDone_4 6 rfl rfl)
theorem dX9_isDone_135 : decode cX9_isDone 135 = .ok (.istore 4, 2) := dk_54 4 (dk_at dksX9_isDone_4 7 rfl rfl)
theorem dX9_isDone_137 : decode cX9_isDone 137 = .ok (.goto 46, 3) := dk_167 0 46 (dk_at dksX9_isDone_4 9 rfl rfl)
theorem dX9_isDone_140 : decode cX9_isDone 140 = .ok (.aload_n 3, 1) := dk_45 (dk_at dksX9_isDone_4 12 rfl rfl)
theorem dX9_isDone_141 : decode cX9_isDone 141 = .ok (.ldc 31, 2) := dk_18 31 (dk_at dksX9_isDone_4 13 rfl rfl)
theorem dX9_isDone_143 : decode cX9_isDone 143 = .ok (.invokevirtual 21, 3) := dk_182 0 21 (dk_at dksX9_isDone_4 15 rfl rfl)
theorem dX9_isDone_146 : decode cX9_isDone 146 = .ok (.ifCond .eq 37, 3) := dk_153 0 37 (dk_at dksX9_isDone_4 18 rfl rfl)
theorem dX9_isDone_149 : decode cX9_isDone 149 = .ok (.iconst 4, 1) := dk_7 (dk_at dksX9_isDone_4 21 rfl rfl)
theorem dX9_isDone_150 : decode cX9_isDone 150 = .ok (.istore 4, 2) := dk_54 4 (dk_at dksX9_isDone_4 22 rfl rfl)
theorem dX9_isDone_152 : decode cX9_isDone 152 = .ok (.goto 31, 3) := dk_167 0 31 (dk_at dksX9_isDone_5 0 rfl rfl)
theorem dX9_isDone_155 : decode cX9_isDone 155 = .ok (.aload_n 3, 1) := dk_45 (dk_at dksX9_isDone_5 3 rfl rfl)
theorem dX9_isDone_156 : decode cX9_isDone 156 = .ok (.ldc 33, 2) := dk_18 33 (dk_at dksX9_isDone_5 4 rfl rfl)
theorem dX9_isDone_158 : decode cX9_isDone 158 = .ok (.invokevirtual 21, 3) := dk_182 0 21 (dk_at dksX9_isDone_5 6 rfl rfl)
theorem dX9_isDone_161 : decode cX9_isDone 161 = .ok (.ifCond .eq 22, 3) := dk_153 0 22 (dk_at dksX9_isDone_5 9 rfl rfl)
theorem dX9_isDone_164 : decode cX9_isDone 164 = .ok (.iconst 5, 1) := dk_8 (dk_at dksX9_isDone_5 12 rfl rfl)
theorem dX9_isDone_165 : decode cX9_isDone 165 = .ok (.istore 4, 2) := dk_54 4 (dk_at dksX9_isDone_5 13 rfl rfl)
theorem dX9_isDone_167 : decode cX9_isDone 167 = .ok (.goto 16, 3) := dk_167 0 16 (dk_at dksX9_isDone_5 15 rfl rfl)
theorem dX9_isDone_170 : decode cX9_isDone 170 = .ok (.aload_n 3, 1) := dk_45 (dk_at dksX9_isDone_5 18 rfl rfl)
theorem dX9_isDone_171 : decode cX9_isDone 171 = .ok (.ldc 35, 2) := dk_18 35 (dk_at dksX9_isDone_5 19 rfl rfl)
theorem dX9_isDone_173 : decode cX9_isDone 173 = .ok (.invokevirtual 21, 3) := dk_182 0 21 (dk_at dksX9_isDone_5 21 rfl rfl)
theorem dX9_isDone_176 : decode cX9_isDone 176 = .ok (.ifCond .eq 7, 3) := dk_153 0 7 (dk_at dksX9_isDone_6 0 rfl rfl)
theorem dX9_isDone_179 : decode cX9_isDone 179 = .ok (.bipush 6, 2) := dk_16 6 (dk_at dksX9_isDone_6 3 rfl rfl)
theorem dX9_isDone_181 : decode cX9_isDone 181 = .ok (.istore 4, 2) := dk_54 4 (dk_at dksX9_isDone_6 5 rfl rfl)
theorem dX9_isDone_183 : decode cX9_isDone 183 = .ok (.iload 4, 2) := dk_21 4 (dk_at dksX9_isDone_6 7 rfl rfl)
theorem dX9_isDone_185 : decode cX9_isDone 185 = .ok (.tableswitch 273 0 6 #[43, 86, 114, 141, 183, 211, 246], 43) := by decide +kernel
theorem dX9_isDone_228 : decode cX9_isDone 228 = .ok (.aload_n 1, 1) := dk_43 (dk_at dksX9_isDone_8 0 rfl rfl)
theorem dX9_isDone_229 : decode cX9_isDone 229 = .ok (.aload_n 0, 1) := dk_42 (dk_at dksX9_isDone_8 1 rfl rfl)
theorem dX9_isDone_230 : decode cX9_isDone 230 = .ok (.getfield 37, 3) := dk_180 0 37 (dk_at dksX9_isDone_8 2 rfl rfl)
theorem dX9_isDone_233 : decode cX9_isDone 233 = .ok (.invokevirtual 41, 3) := dk_182 0 41 (dk_at dksX9_isDone_8 5 rfl rfl)
theorem dX9_isDone_236 : decode cX9_isDone 236 = .ok (.ifCond .eq 33, 3) := dk_153 0 33 (dk_at dksX9_isDone_8 8 rfl rfl)
theorem dX9_isDone_239 : decode cX9_isDone 239 = .ok (.aload_n 1, 1) := dk_43 (dk_at dksX9_isDone_8 11 rfl rfl)
theorem dX9_isDone_240 : decode cX9_isDone 240 = .ok (.aload_n 0, 1) := dk_42 (dk_at dksX9_isDone_8 12 rfl rfl)
theorem dX9_isDone_241 : decode cX9_isDone 241 = .ok (.getfield 47, 3) := dk_180 0 47 (dk_at dksX9_isDone_8 13 rfl rfl)
theorem dX9_isDone_244 : decode cX9_isDone 244 = .ok (.invokevirtual 41, 3) := dk_182 0 41 (dk_at dksX9_isDone_8 16 rfl rfl)
theorem dX9_isDone_247 : decode cX9_isDone 247 = .ok (.ifCond .eq 22, 3) := dk_153 0 22 (dk_at dksX9_isDone_8 19 rfl rfl)
theorem dX9_isDone_250 : decode cX9_isDone 250 = .ok (.aload_n 1, 1) := dk_43 (dk_at dksX9_isDone_8 22 rfl rfl)
theorem dX9_isDone_251 : decode cX9_isDone 251 = .ok (.aload_n 0, 1) := dk_42 (dk_at dksX9_isDone_8 23 rfl rfl)
theorem dX9_isDone_252 : decode cX9_isDone 252 = .ok (.getfield 37, 3) := dk_180 0 37 (dk_at dksX9_isDone_9 0 rfl rfl)
theorem dX9_isDone_255 : decode cX9_isDone 255 = .ok (.aload_n 0, 1) := dk_42 (dk_at dksX9_isDone_9 3 rfl rfl)
theorem dX9_isDone_256 : decode cX9_isDone 256 = .ok (.getfield 47, 3) := dk_180 0 47 (dk_at dksX9_isDone_9 4 rfl rfl)
theorem dX9_isDone_259 : decode cX9_isDone 259 = .ok (.invokevirtual 50, 3) := dk_182 0 50 (dk_at dksX9_isDone_9 7 rfl rfl)
theorem dX9_isDone_262 : decode cX9_isDone 262 = .ok (.ifCond .lt 7, 3) := dk_155 0 7 (dk_at dksX9_isDone_9 10 rfl rfl)
theorem dX9_isDone_265 : decode cX9_isDone 265 = .ok (.iconst 1, 1) := dk_4 (dk_at dksX9_isDone_9 13 rfl rfl)
theorem dX9_isDone_266 : decode cX9_isDone 266 = .ok (.goto 4, 3) := dk_167 0 4 (dk_at dksX9_isDone_9 14 rfl rfl)
theorem dX9_isDone_269 : decode cX9_isDone 269 = .ok (.iconst 0, 1) := dk_3 (dk_at dksX9_isDone_9 17 rfl rfl)
theorem dX9_isDone_270 : decode cX9_isDone 270 = .ok (.ireturn, 1) := dk_172 (dk_at dksX9_isDone_9 18 rfl rfl)
theorem dX9_isDone_271 : decode cX9_isDone 271 = .ok (.aload_n 0, 1) := dk_42 (dk_at dksX9_isDone_9 19 rfl rfl)
theorem dX9_isDone_272 : decode cX9_isDone 272 = .ok (.getfield 37, 3) := dk_180 0 37 (dk_at dksX9_isDone_9 20 rfl rfl)
theorem dX9_isDone_275 : decode cX9_isDone 275 = .ok (.invokestatic 54, 3) := dk_184 0 54 (dk_at dksX9_isDone_10 0 rfl rfl)
theorem dX9_isDone_278 : decode cX9_isDone 278 = .ok (.ifCond .eq 19, 3) := dk_153 0 19 (dk_at dksX9_isDone_10 3 rfl rfl)
theorem dX9_isDone_281 : decode cX9_isDone 281 = .ok (.aload_n 1, 1) := dk_43 (dk_at dksX9_isDone_10 6 rfl rfl)
theorem dX9_isDone_282 : decode cX9_isDone 282 = .ok (.aload_n 0, 1) := dk_42 (dk_at dksX9_isDone_10 7 rfl rfl)
theorem dX9_isDone_283 : decode cX9_isDone 283 = .ok (.getfield 37, 3) := dk_180 0 37 (dk_at dksX9_isDone_10 8 rfl rfl)
theorem dX9_isDone_286 : decode cX9_isDone 286 = .ok (.aload_n 2, 1) := dk_44 (dk_at dksX9_isDone_10 11 rfl rfl)
theorem dX9_isDone_287 : decode cX9_isDone 287 = .ok (.invokevirtual 59, 3) := dk_182 0 59 (dk_at dksX9_isDone_10 12 rfl rfl)
theorem dX9_isDone_290 : decode cX9_isDone 290 = .ok (.ifCond .lt 7, 3) := dk_155 0 7 (dk_at dksX9_isDone_10 15 rfl rfl)
theorem dX9_isDone_293 : decode cX9_isDone 293 = .ok (.iconst 1, 1) := dk_4 (dk_at dksX9_isDone_10 18 rfl rfl)
theorem dX9_isDone_294 : decode cX9_isDone 294 = .ok (.goto 4, 3) := dk_167 0 4 (dk_at dksX9_isDone_10 19 rfl rfl)
theorem dX9_isDone_297 : decode cX9_isDone 297 = .ok (.iconst 0, 1) := dk_3 (dk_at dksX9_isDone_10 22 rfl rfl)
theorem dX9_isDone_298 : decode cX9_isDone 298 = .ok (.ireturn, 1) := dk_172 (dk_at dksX9_isDone_10 23 rfl rfl)
theorem dX9_isDone_299 : decode cX9_isDone 299 = .ok (.aload_n 0, 1) := dk_42 (dk_at dksX9_isDone_11 0 rfl rfl)
theorem dX9_isDone_300 : decode cX9_isDone 300 = .ok (.getfield 37, 3) := dk_180 0 37 (dk_at dksX9_isDone_11 1 rfl rfl)
theorem dX9_isDone_303 : decode cX9_isDone 303 = .ok (.invokestatic 54, 3) := dk_184 0 54 (dk_at dksX9_isDone_11 4 rfl rfl)
theorem dX9_isDone_306 : decode cX9_isDone 306 = .ok (.ifCond .eq 18, 3) := dk_153 0 18 (dk_at dksX9_isDone_11 7 rfl rfl)
theorem dX9_isDone_309 : decode cX9_isDone 309 = .ok (.aload_n 1, 1) := dk_43 (dk_at dksX9_isDone_11 10 rfl rfl)
theorem dX9_isDone_310 : decode cX9_isDone 310 = .ok (.aload_n 0, 1) := dk_42 (dk_at dksX9_isDone_11 11 rfl rfl)
theorem dX9_isDone_311 : decode cX9_isDone 311 = .ok (.getfield 37, 3) := dk_180 0 37 (dk_at dksX9_isDone_11 12 rfl rfl)
theorem dX9_isDone_314 : decode cX9_isDone 314 = .ok (.invokevirtual 63, 3) := dk_182 0 63 (dk_at dksX9_isDone_11 15 rfl rfl)
theorem dX9_isDone_317 : decode cX9_isDone 317 = .ok (.ifCond .lt 7, 3) := dk_155 0 7 (dk_at dksX9_isDone_11 18 rfl rfl)
theorem dX9_isDone_320 : decode cX9_isDone 320 = .ok (.iconst 1, 1) := dk_4 (dk_at dksX9_isDone_11 21 rfl rfl)
theorem dX9_isDone_321 : decode cX9_isDone 321 = .ok (.goto 4, 3) := dk_167 0 4 (dk_at dksX9_isDone_12 0 rfl rfl)
theorem dX9_isDone_324 : decode cX9_isDone 324 = .ok (.iconst 0, 1) := dk_3 (dk_at dksX9_isDone_12 3 rfl rfl)
theorem dX9_isDone_325 : decode cX9_isDone 325 = .ok (.ireturn, 1) := dk_172 (dk_at dksX9_isDone_12 4 rfl rfl)
theorem dX9_isDone_326 : decode cX9_isDone 326 = .ok (.aload_n 1, 1) := dk_43 (dk_at dksX9_isDone_12 5 rfl rfl)
theorem dX9_isDone_327 : decode cX9_isDone 327 = .ok (.aload_n 0, 1) := dk_42 (dk_at dksX9_isDone_12 6 rfl rfl)
theorem dX9_isDone_328 : decode cX9_isDone 328 = .ok (.getfield 37, 3) := dk_180 0 37 (dk_at dksX9_isDone_12 7 rfl rfl)
theorem dX9_isDone_331 : decode cX9_isDone 331 = .ok (.invokevirtual 41, 3) := dk_182 0 41 (dk_at dksX9_isDone_12 10 rfl rfl)
theorem dX9_isDone_334 : decode cX9_isDone 334 = .ok (.ifCond .eq 32, 3) := dk_153 0 32 (dk_at dksX9_isDone_12 13 rfl rfl)
theorem dX9_isDone_337 : decode cX9_isDone 337 = .ok (.aload_n 0, 1) := dk_42 (dk_at dksX9_isDone_12 16 rfl rfl)
theorem dX9_isDone_338 : decode cX9_isDone 338 = .ok (.getfield 47, 3) := dk_180 0 47 (dk_at dksX9_isDone_12 17 rfl rfl)
theorem dX9_isDone_341 : decode cX9_isDone 341 = .ok (.invokestatic 67, 3) := dk_184 0 67 (dk_at dksX9_isDone_12 20 rfl rfl)
theorem dX9_isDone_344 : decode cX9_isDone 344 = .ok (.ifCond .eq 22, 3) := dk_153 0 22 (dk_at dksX9_isDone_13 0 rfl rfl)
theorem dX9_isDone_347 : decode cX9_isDone 347 = .ok (.aload_n 1, 1) := dk_43 (dk_at dksX9_isDone_13 3 rfl rfl)
theorem dX9_isDone_348 : decode cX9_isDone 348 = .ok (.aload_n 0, 1) := dk_42 (dk_at dksX9_isDone_13 4 rfl rfl)
theorem dX9_isDone_349 : decode cX9_isDone 349 = .ok (.getfield 37, 3) := dk_180 0 37 (dk_at dksX9_isDone_13 5 rfl rfl)
theorem dX9_isDone_352 : decode cX9_isDone 352 = .ok (.aload_n 0, 1) := dk_42 (dk_at dksX9_isDone_13 8 rfl rfl)
theorem dX9_isDone_353 : decode cX9_isDone 353 = .ok (.getfield 47, 3) := dk_180 0 47 (dk_at dksX9_isDone_13 9 rfl rfl)
theorem dX9_isDone_356 : decode cX9_isDone 356 = .ok (.invokevirtual 70, 3) := dk_182 0 70 (dk_at dksX9_isDone_13 12 rfl rfl)
theorem dX9_isDone_359 : decode cX9_isDone 359 = .ok (.ifCond .lt 7, 3) := dk_155 0 7 (dk_at dksX9_isDone_13 15 rfl rfl)
theorem dX9_isDone_362 : decode cX9_isDone 362 = .ok (.iconst 1, 1) := dk_4 (dk_at dksX9_isDone_13 18 rfl rfl)
theorem dX9_isDone_363 : decode cX9_isDone 363 = .ok (.goto 4, 3) := dk_167 0 4 (dk_at dksX9_isDone_13 19 rfl rfl)
theorem dX9_isDone_366 : decode cX9_isDone 366 = .ok (.iconst 0, 1) := dk_3 (dk_at dksX9_isDone_13 22 rfl rfl)
theorem dX9_isDone_367 : decode cX9_isDone 367 = .ok (.ireturn, 1) := dk_172 (dk_at dksX9_isDone_13 23 rfl rfl)
theorem dX9_isDone_368 : decode cX9_isDone 368 = .ok (.aload_n 1, 1) := dk_43 (dk_at dksX9_isDone_14 0 rfl rfl)
theorem dX9_isDone_369 : decode cX9_isDone 369 = .ok (.aload_n 0, 1) := dk_42 (dk_at dksX9_isDone_14 1 rfl rfl)
theorem dX9_isDone_370 : decode cX9_isDone 370 = .ok (.getfield 37, 3) := dk_180 0 37 (dk_at dksX9_isDone_14 2 rfl rfl)
theorem dX9_isDone_373 : decode cX9_isDone 373 = .ok (.invokevirtual 41, 3) := dk_182 0 41 (dk_at dksX9_isDone_14 5 rfl rfl)
theorem dX9_isDone_376 : decode cX9_isDone 376 = .ok (.ifCond .eq 18, 3) := dk_153 0 18 (dk_at dksX9_isDone_14 8 rfl rfl)
theorem dX9_isDone_379 : decode cX9_isDone 379 = .ok (.aload_n 1, 1) := dk_43 (dk_at dksX9_isDone_14 11 rfl rfl)
theorem dX9_isDone_380 : decode cX9_isDone 380 = .ok (.aload_n 0, 1) := dk_42 (dk_at dksX9_isDone_14 12 rfl rfl)
theorem dX9_isDone_381 : decode cX9_isDone 381 = .ok (.getfield 37, 3) := dk_180 0 37 (dk_at dksX9_isDone_14 13 rfl rfl)
theorem dX9_isDone_384 : decode cX9_isDone 384 = .ok (.invokevirtual 73, 3) := dk_182 0 73 (dk_at dksX9_isDone_14 16 rfl rfl)
theorem dX9_isDone_387 : decode cX9_isDone 387 = .ok (.ifCond .lt 7, 3) := dk_155 0 7 (dk_at dksX9_isDone_14 19 rfl rfl)
theorem dX9_isDone_390 : decode cX9_isDone 390 = .ok (.iconst 1, 1) := dk_4 (dk_at dksX9_isDone_14 22 rfl rfl)
theorem dX9_isDone_391 : decode cX9_isDone 391 = .ok (.goto 4, 3) := dk_167 0 4 (dk_at dksX9_isDone_15 0 rfl rfl)
theorem dX9_isDone_394 : decode cX9_isDone 394 = .ok (.iconst 0, 1) := dk_3 (dk_at dksX9_isDone_15 3 rfl rfl)
theorem dX9_isDone_395 : decode cX9_isDone 395 = .ok (.ireturn, 1) := dk_172 (dk_at dksX9_isDone_15 4 rfl rfl)
theorem dX9_isDone_396 : decode cX9_isDone 396 = .ok (.aload_n 0, 1) := dk_42 (dk_at dksX9_isDone_15 5 rfl rfl)
theorem dX9_isDone_397 : decode cX9_isDone 397 = .ok (.getfield 37, 3) := dk_180 0 37 (dk_at dksX9_isDone_15 6 rfl rfl)
theorem dX9_isDone_400 : decode cX9_isDone 400 = .ok (.aload_n 0, 1) := dk_42 (dk_at dksX9_isDone_15 9 rfl rfl)
theorem dX9_isDone_401 : decode cX9_isDone 401 = .ok (.getfield 47, 3) := dk_180 0 47 (dk_at dksX9_isDone_15 10 rfl rfl)
theorem dX9_isDone_404 : decode cX9_isDone 404 = .ok (.invokestatic 76, 3) := dk_184 0 76 (dk_at dksX9_isDone_15 13 rfl rfl)
theorem dX9_isDone_407 : decode cX9_isDone 407 = .ok (.ifCond .eq 22, 3) := dk_153 0 22 (dk_at dksX9_isDone_15 16 rfl rfl)
theorem dX9_isDone_410 : decode cX9_isDone 410 = .ok (.aload_n 1, 1) := dk_43 (dk_at dksX9_isDone_15 19 rfl rfl)
theorem dX9_isDone_411 : decode cX9_isDone 411 = .ok (.aload_n 0, 1) := dk_42 (dk_at dksX9_isDone_15 20 rfl rfl)
theorem dX9_isDone_412 : decode cX9_isDone 412 = .ok (.getfield 37, 3) := dk_180 0 37 (dk_at dksX9_isDone_15 21 rfl rfl)
theorem dX9_isDone_415 : decode cX9_isDone 415 = .ok (.aload_n 0, 1) := dk_42 (dk_at dksX9_isDone_16 0 rfl rfl)
theorem dX9_isDone_416 : decode cX9_isDone 416 = .ok (.getfield 47, 3) := dk_180 0 47 (dk_at dksX9_isDone_16 1 rfl rfl)
theorem dX9_isDone_419 : decode cX9_isDone 419 = .ok (.invokevirtual 80, 3) := dk_182 0 80 (dk_at dksX9_isDone_16 4 rfl rfl)
theorem dX9_isDone_422 : decode cX9_isDone 422 = .ok (.ifCond .lt 7, 3) := dk_155 0 7 (dk_at dksX9_isDone_16 7 rfl rfl)
theorem dX9_isDone_425 : decode cX9_isDone 425 = .ok (.iconst 1, 1) := dk_4 (dk_at dksX9_isDone_16 10 rfl rfl)
theorem dX9_isDone_426 : decode cX9_isDone 426 = .ok (.goto 4, 3) := dk_167 0 4 (dk_at dksX9_isDone_16 11 rfl rfl)
theorem dX9_isDone_429 : decode cX9_isDone 429 = .ok (.iconst 0, 1) := dk_3 (dk_at dksX9_isDone_16 14 rfl rfl)
theorem dX9_isDone_430 : decode cX9_isDone 430 = .ok (.ireturn, 1) := dk_172 (dk_at dksX9_isDone_16 15 rfl rfl)
theorem dX9_isDone_431 : decode cX9_isDone 431 = .ok (.aload_n 0, 1) := dk_42 (dk_at dksX9_isDone_16 16 rfl rfl)
theorem dX9_isDone_432 : decode cX9_isDone 432 = .ok (.getfield 37, 3) := dk_180 0 37 (dk_at dksX9_isDone_16 17 rfl rfl)
theorem dX9_isDone_435 : decode cX9_isDone 435 = .ok (.invokestatic 83, 3) := dk_184 0 83 (dk_at dksX9_isDone_16 20 rfl rfl)
theorem dX9_isDone_438 : decode cX9_isDone 438 = .ok (.ifCond .eq 18, 3) := dk_153 0 18 (dk_at dksX9_isDone_17 0 rfl rfl)
theorem dX9_isDone_441 : decode cX9_isDone 441 = .ok (.aload_n 1, 1) := dk_43 (dk_at dksX9_isDone_17 3 rfl rfl)
theorem dX9_isDone_442 : decode cX9_isDone 442 = .ok (.aload_n 0, 1) := dk_42 (dk_at dksX9_isDone_17 4 rfl rfl)
theorem dX9_isDone_443 : decode cX9_isDone 443 = .ok (.getfield 37, 3) := dk_180 0 37 (dk_at dksX9_isDone_17 5 rfl rfl)
theorem dX9_isDone_446 : decode cX9_isDone 446 = .ok (.invokevirtual 86, 3) := dk_182 0 86 (dk_at dksX9_isDone_17 8 rfl rfl)
theorem dX9_isDone_449 : decode cX9_isDone 449 = .ok (.ifCond .lt 7, 3) := dk_155 0 7 (dk_at dksX9_isDone_17 11 rfl rfl)
theorem dX9_isDone_452 : decode cX9_isDone 452 = .ok (.iconst 1, 1) := dk_4 (dk_at dksX9_isDone_17 14 rfl rfl)
theorem dX9_isDone_453 : decode cX9_isDone 453 = .ok (.goto 4, 3) := dk_167 0 4 (dk_at dksX9_isDone_17 15 rfl rfl)
theorem dX9_isDone_456 : decode cX9_isDone 456 = .ok (.iconst 0, 1) := dk_3 (dk_at dksX9_isDone_17 18 rfl rfl)
theorem dX9_isDone_457 : decode cX9_isDone 457 = .ok (.ireturn, 1) := dk_172 (dk_at dksX9_isDone_17 19 rfl rfl)
theorem dX9_isDone_458 : decode cX9_isDone 458 = .ok (.aload_n 0, 1) := dk_42 (dk_at dksX9_isDone_17 20 rfl rfl)
theorem dX9_isDone_459 : decode cX9_isDone 459 = .ok (.getfield 37, 3) := dk_180 0 37 (dk_at dksX9_isDone_17 21 rfl rfl)
theorem dX9_isDone_462 : decode cX9_isDone 462 = .ok (.invokestatic 89, 3) := dk_184 0 89 (dk_at dksX9_isDone_18 0 rfl rfl)
theorem dX9_isDone_465 : decode cX9_isDone 465 = .ok (.ifCond .eq 19, 3) := dk_153 0 19 (dk_at dksX9_isDone_18 3 rfl rfl)
theorem dX9_isDone_468 : decode cX9_isDone 468 = .ok (.aload_n 1, 1) := dk_43 (dk_at dksX9_isDone_18 6 rfl rfl)
theorem dX9_isDone_469 : decode cX9_isDone 469 = .ok (.aload_n 0, 1) := dk_42 (dk_at dksX9_isDone_18 7 rfl rfl)
theorem dX9_isDone_470 : decode cX9_isDone 470 = .ok (.getfield 37, 3) := dk_180 0 37 (dk_at dksX9_isDone_18 8 rfl rfl)
theorem dX9_isDone_473 : decode cX9_isDone 473 = .ok (.aload_n 2, 1) := dk_44 (dk_at dksX9_isDone_18 11 rfl rfl)
theorem dX9_isDone_474 : decode cX9_isDone 474 = .ok (.invokevirtual 92, 3) := dk_182 0 92 (dk_at dksX9_isDone_18 12 rfl rfl)
theorem dX9_isDone_477 : decode cX9_isDone 477 = .ok (.ifCond .lt 7, 3) := dk_155 0 7 (dk_at dksX9_isDone_18 15 rfl rfl)
theorem dX9_isDone_480 : decode cX9_isDone 480 = .ok (.iconst 1, 1) := dk_4 (dk_at dksX9_isDone_18 18 rfl rfl)
theorem dX9_isDone_481 : decode cX9_isDone 481 = .ok (.goto 4, 3) := dk_167 0 4 (dk_at dksX9_isDone_18 19 rfl rfl)
theorem dX9_isDone_484 : decode cX9_isDone 484 = .ok (.iconst 0, 1) := dk_3 (dk_at dksX9_isDone_18 22 rfl rfl)
theorem dX9_isDone_485 : decode cX9_isDone 485 = .ok (.ireturn, 1) := dk_172 (dk_at dksX9_isDone_18 23 rfl rfl)
theorem q142 : (Jvm.Cond.initialized "PittanceHouse$Order") ∈ lw_all := lw_g (lw_at lw_m1 45 rfl) rfl
theorem q597 : (Jvm.Cond.selects "PittanceHouse$Order" ({ cls := "java/lang/Object", name := "getClass", desc := "()Ljava/lang/Class;" } : Jvm.MethodName) ({ cls := "java/lang/Object", name := "getClass", desc := "()Ljava/lang/Class;" } : Jvm.MethodName)) ∈ lw_all := lw_g (lw_at lw_m3 20 rfl) rfl
theorem q1783 : (Jvm.Cond.instantiable "PittanceHouse$Order" (3 : Nat)) ∈ lw_all := lw_g (lw_at lw_m8 6 rfl) rfl
theorem q1847 : (Jvm.Cond.instanceMethod ({ cls := "PittanceHouse$Order", name := "<init>", desc := "(Ljava/lang/String;)V" } : Jvm.MethodName)) ∈ lw_all := lw_g (lw_at lw_m8 70 rfl) rfl
theorem q1848 : (Jvm.Cond.code ({ cls := "PittanceHouse$Order", name := "<init>", desc := "(Ljava/lang/String;)V" } : Jvm.MethodName) prog_8_method_1_code (2 : Nat) (Option.none : Option Jvm.ClassFile.FieldType)) ∈ lw_all := lw_g (lw_at lw_m8 71 rfl) rfl
theorem q1849 : (Jvm.Cond.methodLink "PittanceHouse$Order" (1 : Nat) ({ cls := "java/lang/Object", name := "<init>", desc := "()V" } : Jvm.MethodName)) ∈ lw_all := lw_g (lw_at lw_m8 72 rfl) rfl
theorem q1850 : (Jvm.Cond.fieldLink "PittanceHouse$Order" (7 : Nat) "PittanceHouse$Order" "word" "Ljava/lang/String;") ∈ lw_all := lw_g (lw_at lw_m8 73 rfl) rfl
theorem q1852 : (Jvm.Cond.fieldLink "PittanceHouse$Order" (37 : Nat) "PittanceHouse$Order" "one" "I") ∈ lw_all := lw_g (lw_at lw_m8 75 rfl) rfl
theorem q1854 : (Jvm.Cond.fieldLink "PittanceHouse$Order" (47 : Nat) "PittanceHouse$Order" "two" "I") ∈ lw_all := lw_g (lw_at lw_m8 77 rfl) rfl
theorem q1856 : (Jvm.Cond.laysFinal "PittanceHouse$Order" "PittanceHouse$Order" "word" "Ljava/lang/String;") ∈ lw_all := lw_g (lw_at lw_m8 79 rfl) rfl
theorem q1857 : (Jvm.Cond.soleField "PittanceHouse$Order" "word") ∈ lw_all := lw_g (lw_at lw_m8 80 rfl) rfl
theorem q1858 : (Jvm.Cond.lays "PittanceHouse$Order" "PittanceHouse$Order" "one" "I") ∈ lw_all := lw_g (lw_at lw_m8 81 rfl) rfl
theorem q1859 : (Jvm.Cond.soleField "PittanceHouse$Order" "one") ∈ lw_all := lw_g (lw_at lw_m8 82 rfl) rfl
theorem q1860 : (Jvm.Cond.lays "PittanceHouse$Order" "PittanceHouse$Order" "two" "I") ∈ lw_all := lw_g (lw_at lw_m8 83 rfl) rfl
theorem q1861 : (Jvm.Cond.soleField "PittanceHouse$Order" "two") ∈ lw_all := lw_g (lw_at lw_m8 84 rfl) rfl
theorem q1862 : (Jvm.Cond.superclass "PittanceHouse$Order" "java/lang/Object") ∈ lw_all := lw_g (lw_at lw_m8 85 rfl) rfl
theorem q1932 : (Jvm.Cond.instanceMethod ({ cls := "PittanceHouse$Order", name := "isCarriedOut", desc := "(LPittanceHouse$House;LPittanceHouse$Ahead;)Z" } : Jvm.MethodName)) ∈ lw_all := lw_g (lw_at lw_m8 155 rfl) rfl
theorem q1933 : (Jvm.Cond.selects "PittanceHouse$Order" ({ cls := "PittanceHouse$Order", name := "isCarriedOut", desc := "(LPittanceHouse$House;LPittanceHouse$Ahead;)Z" } : Jvm.MethodName) ({ cls := "PittanceHouse$Order", name := "isCarriedOut", desc := "(LPittanceHouse$House;LPittanceHouse$Ahead;)Z" } : Jvm.MethodName)) ∈ lw_all := lw_g (lw_at lw_m8 156 rfl) rfl
theorem q1934 : (Jvm.Cond.codeWith ({ cls := "PittanceHouse$Order", name := "isCarriedOut", desc := "(LPittanceHouse$House;LPittanceHouse$Ahead;)Z" } : Jvm.MethodName) prog_8_method_3_code (4 : Nat) (Option.some Jvm.ClassFile.FieldType.boolean) [((0 : Nat), (6 : Nat), (7 : Nat), (99 : Nat))]) ∈ lw_all := lw_g (lw_at lw_m8 157 rfl) rfl
theorem q1935 : (Jvm.Cond.classLink "PittanceHouse$Order" (99 : Nat) "PittanceHouse$Refused") ∈ lw_all := lw_g (lw_at lw_m8 158 rfl) rfl
theorem q1936 : (Jvm.Cond.methodLink "PittanceHouse$Order" (95 : Nat) ({ cls := "PittanceHouse$Order", name := "isDone", desc := "(LPittanceHouse$House;LPittanceHouse$Ahead;)Z" } : Jvm.MethodName)) ∈ lw_all := lw_g (lw_at lw_m8 159 rfl) rfl
theorem q1937 : (Jvm.Cond.privateMethod ({ cls := "PittanceHouse$Order", name := "isDone", desc := "(LPittanceHouse$House;LPittanceHouse$Ahead;)Z" } : Jvm.MethodName)) ∈ lw_tbl := lw_at lw_m8 160 rfl
theorem q1938 : (Jvm.Cond.instanceMethod ({ cls := "PittanceHouse$Order", name := "isDone", desc := "(LPittanceHouse$House;LPittanceHouse$Ahead;)Z" } : Jvm.MethodName)) ∈ lw_all := lw_g (lw_at lw_m8 161 rfl) rfl
theorem q1939 : (Jvm.Cond.code ({ cls := "PittanceHouse$Order", name := "isDone", desc := "(LPittanceHouse$House;LPittanceHouse$Ahead;)Z" } : Jvm.MethodName) prog_8_method_2_code (5 : Nat) (Option.some Jvm.ClassFile.FieldType.boolean)) ∈ lw_all := lw_g (lw_at lw_m8 162 rfl) rfl
theorem q1940 : (Jvm.Cond.methodLink "PittanceHouse$Order" (13 : Nat) ({ cls := "java/lang/String", name := "hashCode", desc := "()I" } : Jvm.MethodName)) ∈ lw_all := lw_g (lw_at lw_m8 163 rfl) rfl
theorem q1941 : (Jvm.Cond.stringRef "PittanceHouse$Order" (19 : Nat) "voice ") ∈ lw_tbl := lw_at lw_m8 164 rfl
theorem q1942 : (Jvm.Cond.methodLink "PittanceHouse$Order" (21 : Nat) ({ cls := "java/lang/String", name := "equals", desc := "(Ljava/lang/Object;)Z" } : Jvm.MethodName)) ∈ lw_all := lw_g (lw_at lw_m8 165 rfl) rfl
theorem q1943 : (Jvm.Cond.stringRef "PittanceHouse$Order" (25 : Nat) "choose ") ∈ lw_tbl := lw_at lw_m8 166 rfl
theorem q1944 : (Jvm.Cond.stringRef "PittanceHouse$Order" (27 : Nat) "leave ") ∈ lw_tbl := lw_at lw_m8 167 rfl
theorem q1945 : (Jvm.Cond.stringRef "PittanceHouse$Order" (29 : Nat) "breach ") ∈ lw_tbl := lw_at lw_m8 168 rfl
theorem q1946 : (Jvm.Cond.stringRef "PittanceHouse$Order" (31 : Nat) "pardon ") ∈ lw_tbl := lw_at lw_m8 169 rfl
theorem q1947 : (Jvm.Cond.stringRef "PittanceHouse$Order" (33 : Nat) "feast ") ∈ lw_tbl := lw_at lw_m8 170 rfl
theorem q1948 : (Jvm.Cond.stringRef "PittanceHouse$Order" (35 : Nat) "gift ") ∈ lw_tbl := lw_at lw_m8 171 rfl
theorem q1949 : (Jvm.Cond.methodLink "PittanceHouse$Order" (41 : Nat) ({ cls := "PittanceHouse$House", name := "has", desc := "(I)Z" } : Jvm.MethodName)) ∈ lw_all := lw_g (lw_at lw_m8 172 rfl) rfl
theorem q1950 : (Jvm.Cond.methodLink "PittanceHouse$Order" (50 : Nat) ({ cls := "PittanceHouse$House", name := "gives", desc := "(II)I" } : Jvm.MethodName)) ∈ lw_all := lw_g (lw_at lw_m8 173 rfl) rfl
theorem q1951 : (Jvm.Cond.methodLinkNest "PittanceHouse$Order" (54 : Nat) ({ cls := "PittanceHouse", name := "isCell", desc := "(I)Z" } : Jvm.MethodName) "PittanceHouse") ∈ lw_tbl := lw_at lw_m8 174 rfl
theorem q1952 : (Jvm.Cond.methodLink "PittanceHouse$Order" (59 : Nat) ({ cls := "PittanceHouse$House", name := "chooses", desc := "(ILPittanceHouse$Ahead;)I" } : Jvm.MethodName)) ∈ lw_all := lw_g (lw_at lw_m8 175 rfl) rfl
theorem q1953 : (Jvm.Cond.methodLink "PittanceHouse$Order" (63 : Nat) ({ cls := "PittanceHouse$House", name := "leaves", desc := "(I)I" } : Jvm.MethodName)) ∈ lw_all := lw_g (lw_at lw_m8 176 rfl) rfl
theorem q1954 : (Jvm.Cond.methodLinkNest "PittanceHouse$Order" (67 : Nat) ({ cls := "PittanceHouse", name := "isRule", desc := "(I)Z" } : Jvm.MethodName) "PittanceHouse") ∈ lw_tbl := lw_at lw_m8 177 rfl
theorem q1955 : (Jvm.Cond.methodLink "PittanceHouse$Order" (70 : Nat) ({ cls := "PittanceHouse$House", name := "breaks", desc := "(II)I" } : Jvm.MethodName)) ∈ lw_all := lw_g (lw_at lw_m8 178 rfl) rfl
theorem q1956 : (Jvm.Cond.methodLink "PittanceHouse$Order" (73 : Nat) ({ cls := "PittanceHouse$House", name := "pardoned", desc := "(I)I" } : Jvm.MethodName)) ∈ lw_all := lw_g (lw_at lw_m8 179 rfl) rfl
theorem q1957 : (Jvm.Cond.methodLinkNest "PittanceHouse$Order" (76 : Nat) ({ cls := "PittanceHouse", name := "isFeast", desc := "(II)Z" } : Jvm.MethodName) "PittanceHouse") ∈ lw_tbl := lw_at lw_m8 180 rfl
theorem q1958 : (Jvm.Cond.methodLink "PittanceHouse$Order" (80 : Nat) ({ cls := "PittanceHouse$House", name := "tellsFeast", desc := "(II)I" } : Jvm.MethodName)) ∈ lw_all := lw_g (lw_at lw_m8 181 rfl) rfl
theorem q1959 : (Jvm.Cond.methodLinkNest "PittanceHouse$Order" (83 : Nat) ({ cls := "PittanceHouse", name := "isGift", desc := "(I)Z" } : Jvm.MethodName) "PittanceHouse") ∈ lw_tbl := lw_at lw_m8 182 rfl
theorem q1960 : (Jvm.Cond.methodLink "PittanceHouse$Order" (86 : Nat) ({ cls := "PittanceHouse$House", name := "isGiven", desc := "(I)I" } : Jvm.MethodName)) ∈ lw_all := lw_g (lw_at lw_m8 183 rfl) rfl
theorem q1961 : (Jvm.Cond.methodLinkNest "PittanceHouse$Order" (89 : Nat) ({ cls := "PittanceHouse", name := "areWeeks", desc := "(I)Z" } : Jvm.MethodName) "PittanceHouse") ∈ lw_tbl := lw_at lw_m8 184 rfl
theorem q1962 : (Jvm.Cond.methodLink "PittanceHouse$Order" (92 : Nat) ({ cls := "PittanceHouse$House", name := "weeksGo", desc := "(ILPittanceHouse$Ahead;)I" } : Jvm.MethodName)) ∈ lw_all := lw_g (lw_at lw_m8 185 rfl) rfl
theorem q2634 : (Jvm.Cond.castable "PittanceHouse$Order" "java/lang/Object") ∈ lw_tbl := lw_at lw_m11 137 rfl
theorem in_X9 : ∀ w ∈ wsX90, w ∈ lw_all := lw_in wsX90 [1856, 1858, 1860] (by decide +kernel) (by decide +kernel)
/-! PittanceHouse$Wrong -/
set_option maxRecDepth 100000
def RX10 : String := "PittanceHouse$Wrong"
def TX10 : u_T := fun k => match k with
  | 0 => ("java/lang/Throwable", "cause", "Ljava/lang/Throwable;", false)
  | 1 => ("java/lang/Throwable", "stackTrace", "[Ljava/lang/StackTraceElement;", false)
  | 2 => ("java/lang/Throwable", "suppressedExceptions", "Ljava/util/List;", false)
  | 3 => ("java/lang/Throwable", "detailMessage", "Ljava/lang/String;", false)
  | 4 => ("java/lang/Throwable", "backtrace", "Ljava/lang/Object;", false)
  | 5 => ("java/lang/Throwable", "depth", "I", false)
  | _ => ("PittanceHouse$Wrong", "at", "I", true)
def tyX10 : Nat → FieldType := fun k => match k with
  | 0 => .object "java/lang/Throwable"
  | 1 => .array (.object "java/lang/StackTraceElement")
  | 2 => .object "java/util/List"
  | 3 => .object "java/lang/String"
  | 4 => .object "java/lang/Object"
  | 5 => .int
  | _ => .int
abbrev wsX100 : List Cond := u_ws RX10 TX10 7
theorem nmX10 : ∀ a, a < 7 → ∀ b, b < 7 → a ≠ b → (TX10 a).2.1 ≠ (TX10 b).2.1 := by decide +kernel
theorem tyX10_ok : ∀ k, k < 7 → parseFieldDescriptor (TX10 k).2.2.1 = some (tyX10 k) := by decide +kernel
abbrev cX10_init : ByteArray := prog_11_method_1_code
def yX10_init : MethodName := ⟨RX10, "<init>", "(I)V"⟩
def dkwX10_init_0 : List UInt8 := [42, 1, 1, 3, 3, 183, 0, 1, 42, 27, 181, 0, 7, 177]
abbrev dktX10_init_0 : List UInt8 := dkwX10_init_0 ++ []
theorem dksX10_init_0 : cX10_init.data.toList.drop 0 = dktX10_init_0 := by decide +kernel
theorem dX10_init_0 : decode cX10_init 0 = .ok (.aload_n 0, 1) := dk_42 (dk_at dksX10_init_0 0 rfl rfl)
theorem dX10_init_1 : decode cX10_init 1 = .ok (.aconst_null, 1) := dk_1 (dk_at dksX10_init_0 1 rfl rfl)
theorem dX10_init_2 : decode cX10_init 2 = .ok (.aconst_null, 1) := dk_1 (dk_at dksX10_init_0 2 rfl rfl)
theorem dX10_init_3 : decode cX10_init 3 = .ok (.iconst 0, 1) := dk_3 (dk_at dksX10_init_0 3 rfl rfl)
theorem dX10_init_4 : decode cX10_init 4 = .ok (.iconst 0, 1) := dk_3 (dk_at dksX10_init_0 4 rfl rfl)
theorem dX10_init_5 : decode cX10_init 5 = .ok (.invokespecial 1, 3) := dk_183 0 1 (dk_at dksX10_init_0 5 rfl rfl)
theorem dX10_init_8 : decode cX10_init 8 = .ok (.aload_n 0, 1) := dk_42 (dk_at dksX10_init_0 8 rfl rfl)
theorem dX10_init_9 : decode cX10_init 9 = .ok (.iload_n 1, 1) := dk_27 (dk_at dksX10_init_0 9 rfl rfl)
theorem dX10_init_10 : decode cX10_init 10 = .ok (.putfield 7, 3) := dk_181 0 7 (dk_at dksX10_init_0 10 rfl rfl)
theorem dX10_init_13 : decode cX10_init 13 = .ok (.return_, 1) := dk_177 (dk_at dksX10_init_0 13 rfl rfl)
theorem q143 : (Jvm.Cond.initialized "PittanceHouse$Wrong") ∈ lw_all := lw_g (lw_at lw_m1 46 rfl) rfl
theorem q485 : (Jvm.Cond.selects "PittanceHouse$Wrong" ({ cls := "java/lang/Throwable", name := "fillInStackTrace", desc := "()Ljava/lang/Throwable;" } : Jvm.MethodName) ({ cls := "java/lang/Throwable", name := "fillInStackTrace", desc := "()Ljava/lang/Throwable;" } : Jvm.MethodName)) ∈ lw_all := lw_g (lw_at lw_m2 148 rfl) rfl
theorem q583 : (Jvm.Cond.selects "PittanceHouse$Wrong" ({ cls := "java/lang/Throwable", name := "toString", desc := "()Ljava/lang/String;" } : Jvm.MethodName) ({ cls := "java/lang/Throwable", name := "toString", desc := "()Ljava/lang/String;" } : Jvm.MethodName)) ∈ lw_all := lw_g (lw_at lw_m3 6 rfl) rfl
theorem q600 : (Jvm.Cond.selects "PittanceHouse$Wrong" ({ cls := "java/lang/Object", name := "getClass", desc := "()Ljava/lang/Class;" } : Jvm.MethodName) ({ cls := "java/lang/Object", name := "getClass", desc := "()Ljava/lang/Class;" } : Jvm.MethodName)) ∈ lw_all := lw_g (lw_at lw_m3 23 rfl) rfl
theorem q624 : (Jvm.Cond.selects "PittanceHouse$Wrong" ({ cls := "java/lang/Throwable", name := "getLocalizedMessage", desc := "()Ljava/lang/String;" } : Jvm.MethodName) ({ cls := "java/lang/Throwable", name := "getLocalizedMessage", desc := "()Ljava/lang/String;" } : Jvm.MethodName)) ∈ lw_all := lw_g (lw_at lw_m3 47 rfl) rfl
theorem q633 : (Jvm.Cond.selects "PittanceHouse$Wrong" ({ cls := "java/lang/Throwable", name := "getMessage", desc := "()Ljava/lang/String;" } : Jvm.MethodName) ({ cls := "java/lang/Throwable", name := "getMessage", desc := "()Ljava/lang/String;" } : Jvm.MethodName)) ∈ lw_all := lw_g (lw_at lw_m3 56 rfl) rfl
theorem q1828 : (Jvm.Cond.instantiable "PittanceHouse$Wrong" (7 : Nat)) ∈ lw_all := lw_g (lw_at lw_m8 51 rfl) rfl
theorem q1829 : (Jvm.Cond.castable "PittanceHouse$Wrong" "PittanceHouse$Wrong") ∈ lw_tbl := lw_at lw_m8 52 rfl
theorem q1830 : (Jvm.Cond.selects "PittanceHouse$Wrong" ({ cls := "java/lang/Throwable", name := "fillInStackTrace", desc := "(I)Ljava/lang/Throwable;" } : Jvm.MethodName) ({ cls := "java/lang/Throwable", name := "fillInStackTrace", desc := "(I)Ljava/lang/Throwable;" } : Jvm.MethodName)) ∈ lw_all := lw_g (lw_at lw_m8 53 rfl) rfl
theorem q1831 : (Jvm.Cond.lays "PittanceHouse$Wrong" "java/lang/Throwable" "cause" "Ljava/lang/Throwable;") ∈ lw_all := lw_g (lw_at lw_m8 54 rfl) rfl
theorem q1832 : (Jvm.Cond.lays "PittanceHouse$Wrong" "java/lang/Throwable" "stackTrace" "[Ljava/lang/StackTraceElement;") ∈ lw_all := lw_g (lw_at lw_m8 55 rfl) rfl
theorem q1833 : (Jvm.Cond.lays "PittanceHouse$Wrong" "java/lang/Throwable" "suppressedExceptions" "Ljava/util/List;") ∈ lw_all := lw_g (lw_at lw_m8 56 rfl) rfl
theorem q1834 : (Jvm.Cond.lays "PittanceHouse$Wrong" "java/lang/Throwable" "detailMessage" "Ljava/lang/String;") ∈ lw_all := lw_g (lw_at lw_m8 57 rfl) rfl
theorem q1835 : (Jvm.Cond.lays "PittanceHouse$Wrong" "java/lang/Throwable" "backtrace" "Ljava/lang/Object;") ∈ lw_all := lw_g (lw_at lw_m8 58 rfl) rfl
theorem q1837 : (Jvm.Cond.instanceMethod ({ cls := "PittanceHouse$Wrong", name := "<init>", desc := "(I)V" } : Jvm.MethodName)) ∈ lw_all := lw_g (lw_at lw_m8 60 rfl) rfl
theorem q1838 : (Jvm.Cond.code ({ cls := "PittanceHouse$Wrong", name := "<init>", desc := "(I)V" } : Jvm.MethodName) prog_11_method_1_code (2 : Nat) (Option.none : Option Jvm.ClassFile.FieldType)) ∈ lw_all := lw_g (lw_at lw_m8 61 rfl) rfl
theorem q1839 : (Jvm.Cond.methodLink "PittanceHouse$Wrong" (1 : Nat) ({ cls := "java/lang/Exception", name := "<init>", desc := "(Ljava/lang/String;Ljava/lang/Throwable;ZZ)V" } : Jvm.MethodName)) ∈ lw_all := lw_g (lw_at lw_m8 62 rfl) rfl
theorem q1840 : (Jvm.Cond.fieldLink "PittanceHouse$Wrong" (7 : Nat) "PittanceHouse$Wrong" "at" "I") ∈ lw_all := lw_g (lw_at lw_m8 63 rfl) rfl
theorem q1842 : (Jvm.Cond.laysFinal "PittanceHouse$Wrong" "PittanceHouse$Wrong" "at" "I") ∈ lw_all := lw_g (lw_at lw_m8 65 rfl) rfl
theorem q1843 : (Jvm.Cond.soleField "PittanceHouse$Wrong" "at") ∈ lw_all := lw_g (lw_at lw_m8 66 rfl) rfl
theorem q1844 : (Jvm.Cond.lays "PittanceHouse$Wrong" "java/lang/Throwable" "depth" "I") ∈ lw_all := lw_g (lw_at lw_m8 67 rfl) rfl
theorem q1845 : (Jvm.Cond.superclass "PittanceHouse$Wrong" "java/lang/Exception") ∈ lw_all := lw_g (lw_at lw_m8 68 rfl) rfl
theorem q2635 : (Jvm.Cond.castable "PittanceHouse$Wrong" "java/lang/Object") ∈ lw_tbl := lw_at lw_m11 138 rfl
theorem in_X10 : ∀ w ∈ wsX100, w ∈ lw_all := lw_in wsX100 [1831, 1832, 1833, 1834, 1835, 1844, 1842] (by decide +kernel) (by decide +kernel)
/-! the law's own entry -/
set_option maxRecDepth 100000
abbrev cL_law : ByteArray := code
def dkwL_law_40 : List UInt8 := [4, 172]
abbrev dktL_law_40 : List UInt8 := dkwL_law_40 ++ []
def dkwL_law_39 : List UInt8 := [159, 0, 18, 3, 172, 43, 182, 0, 160, 44, 182, 0, 163, 159, 0, 5, 3, 172, 132, 3, 3, 167, 251, 235]
abbrev dktL_law_39 : List UInt8 := dkwL_law_39 ++ dktL_law_40
def dkwL_law_38 : List UInt8 := [167, 0, 42, 43, 182, 0, 152, 44, 182, 0, 155, 159, 0, 31, 3, 172, 43, 182, 0, 156, 44, 182, 0, 159]
abbrev dktL_law_38 : List UInt8 := dkwL_law_38 ++ dktL_law_39
def dkwL_law_37 : List UInt8 := [24, 6, 151, 153, 0, 21, 24, 4, 24, 4, 151, 153, 0, 11, 24, 6, 24, 6, 151, 154, 0, 5, 3, 172]
abbrev dktL_law_37 : List UInt8 := dkwL_law_37 ++ dktL_law_38
def dkwL_law_36 : List UInt8 := [154, 0, 5, 3, 172, 167, 0, 85, 43, 182, 0, 147, 141, 57, 4, 44, 182, 0, 151, 141, 57, 6, 24, 4]
abbrev dktL_law_36 : List UInt8 := dkwL_law_36 ++ dktL_law_37
def dkwL_law_35 : List UInt8 := [57, 6, 24, 4, 24, 6, 151, 153, 0, 21, 24, 4, 24, 4, 151, 153, 0, 11, 24, 6, 24, 6, 151]
abbrev dktL_law_35 : List UInt8 := dkwL_law_35 ++ dktL_law_36
def dkwL_law_34 : List UInt8 := [172, 43, 182, 0, 138, 44, 182, 0, 141, 159, 0, 128, 3, 172, 43, 182, 0, 142, 57, 4, 44, 182, 0, 146]
abbrev dktL_law_34 : List UInt8 := dkwL_law_34 ++ dktL_law_35
def dkwL_law_33 : List UInt8 := [3, 172, 43, 42, 29, 4, 96, 46, 182, 0, 134, 44, 42, 29, 4, 96, 46, 182, 0, 137, 159, 0, 141, 3]
abbrev dktL_law_33 : List UInt8 := dkwL_law_33 ++ dktL_law_34
def dkwL_law_32 : List UInt8 := [3, 182, 0, 129, 44, 42, 29, 4, 96, 46, 153, 0, 7, 4, 167, 0, 4, 3, 182, 0, 133, 159, 0, 164]
abbrev dktL_law_32 : List UInt8 := dkwL_law_32 ++ dktL_law_33
def dkwL_law_31 : List UInt8 := [4, 96, 46, 182, 0, 128, 159, 0, 203, 3, 172, 43, 42, 29, 4, 96, 46, 153, 0, 7, 4, 167, 0, 4]
abbrev dktL_law_31 : List UInt8 := dkwL_law_31 ++ dktL_law_32
def dkwL_law_30 : List UInt8 := [182, 0, 121, 44, 182, 0, 124, 159, 0, 226, 3, 172, 43, 42, 29, 4, 96, 46, 182, 0, 125, 44, 42, 29]
abbrev dktL_law_30 : List UInt8 := dkwL_law_30 ++ dktL_law_31
def dkwL_law_29 : List UInt8 := [182, 0, 116, 159, 0, 252, 3, 172, 43, 182, 0, 117, 44, 182, 0, 120, 159, 0, 239, 3, 172, 43]
abbrev dktL_law_29 : List UInt8 := dkwL_law_29 ++ dktL_law_30
def dkwL_law_28 : List UInt8 := [182, 0, 109, 44, 42, 29, 4, 96, 46, 182, 0, 112, 159, 1, 9, 3, 172, 43, 182, 0, 113, 44]
abbrev dktL_law_28 : List UInt8 := dkwL_law_28 ++ dktL_law_29
def dkwL_law_27 : List UInt8 := [182, 0, 105, 44, 42, 29, 4, 96, 46, 182, 0, 108, 159, 1, 32, 3, 172, 43, 42, 29, 4, 96, 46]
abbrev dktL_law_27 : List UInt8 := dkwL_law_27 ++ dktL_law_28
def dkwL_law_26 : List UInt8 := [29, 4, 96, 46, 42, 29, 5, 96, 46, 182, 0, 104, 159, 1, 55, 3, 172, 43, 42, 29, 4, 96, 46]
abbrev dktL_law_26 : List UInt8 := dkwL_law_26 ++ dktL_law_27
def dkwL_law_25 : List UInt8 := [182, 0, 100, 159, 1, 88, 3, 172, 43, 42, 29, 4, 96, 46, 42, 29, 5, 96, 46, 182, 0, 101, 44, 42]
abbrev dktL_law_25 : List UInt8 := dkwL_law_25 ++ dktL_law_26
def dkwL_law_24 : List UInt8 := [182, 0, 93, 44, 42, 29, 4, 96, 46, 182, 0, 96, 159, 1, 101, 3, 172, 43, 182, 0, 97, 44]
abbrev dktL_law_24 : List UInt8 := dkwL_law_24 ++ dktL_law_25
def dkwL_law_23 : List UInt8 := [182, 0, 89, 44, 42, 29, 4, 96, 46, 182, 0, 92, 159, 1, 124, 3, 172, 43, 42, 29, 4, 96, 46]
abbrev dktL_law_23 : List UInt8 := dkwL_law_23 ++ dktL_law_24
def dkwL_law_22 : List UInt8 := [46, 182, 0, 85, 44, 42, 29, 4, 96, 46, 182, 0, 88, 159, 1, 147, 3, 172, 43, 42, 29, 4, 96, 46]
abbrev dktL_law_22 : List UInt8 := dkwL_law_22 ++ dktL_law_23
def dkwL_law_21 : List UInt8 := [96, 46, 182, 0, 81, 44, 42, 29, 4, 96, 46, 182, 0, 84, 159, 1, 170, 3, 172, 43, 42, 29, 4, 96]
abbrev dktL_law_21 : List UInt8 := dkwL_law_21 ++ dktL_law_22
def dkwL_law_20 : List UInt8 := [4, 96, 46, 182, 0, 77, 44, 42, 29, 4, 96, 46, 182, 0, 80, 159, 1, 193, 3, 172, 43, 42, 29, 4]
abbrev dktL_law_20 : List UInt8 := dkwL_law_20 ++ dktL_law_21
def dkwL_law_19 : List UInt8 := [182, 0, 72, 159, 1, 229, 3, 172, 43, 182, 0, 73, 44, 182, 0, 76, 159, 1, 216, 3, 172, 43, 42, 29]
abbrev dktL_law_19 : List UInt8 := dkwL_law_19 ++ dktL_law_20
def dkwL_law_18 : List UInt8 := [182, 0, 64, 44, 42, 29, 4, 96, 46, 182, 0, 67, 159, 1, 242, 3, 172, 43, 182, 0, 68, 44]
abbrev dktL_law_18 : List UInt8 := dkwL_law_18 ++ dktL_law_19
def dkwL_law_17 : List UInt8 := [29, 4, 96, 46, 42, 29, 5, 96, 46, 182, 0, 63, 159, 2, 9, 3, 172, 43, 42, 29, 4, 96, 46]
abbrev dktL_law_17 : List UInt8 := dkwL_law_17 ++ dktL_law_18
def dkwL_law_16 : List UInt8 := [182, 0, 59, 159, 2, 42, 3, 172, 43, 42, 29, 4, 96, 46, 42, 29, 5, 96, 46, 182, 0, 60, 44, 42]
abbrev dktL_law_16 : List UInt8 := dkwL_law_16 ++ dktL_law_17
def dkwL_law_15 : List UInt8 := [42, 29, 4, 96, 46, 42, 29, 5, 96, 46, 182, 0, 56, 44, 42, 29, 4, 96, 46, 42, 29, 5, 96, 46]
abbrev dktL_law_15 : List UInt8 := dkwL_law_15 ++ dktL_law_16
def dkwL_law_14 : List UInt8 := [43, 42, 29, 4, 96, 46, 182, 0, 52, 44, 42, 29, 4, 96, 46, 182, 0, 55, 159, 2, 75, 3, 172, 43]
abbrev dktL_law_14 : List UInt8 := dkwL_law_14 ++ dktL_law_15
def dkwL_law_13 : List UInt8 := [172, 43, 42, 29, 4, 96, 46, 182, 0, 48, 44, 42, 29, 4, 96, 46, 182, 0, 51, 159, 2, 98, 3, 172]
abbrev dktL_law_13 : List UInt8 := dkwL_law_13 ++ dktL_law_14
def dkwL_law_12 : List UInt8 := [3, 172, 43, 42, 29, 4, 96, 46, 182, 0, 44, 44, 42, 29, 4, 96, 46, 182, 0, 47, 159, 2, 121, 3]
abbrev dktL_law_12 : List UInt8 := dkwL_law_12 ++ dktL_law_13
def dkwL_law_11 : List UInt8 := [29, 5, 96, 46, 182, 0, 40, 44, 42, 29, 4, 96, 46, 42, 29, 5, 96, 46, 182, 0, 43, 159, 2, 144]
abbrev dktL_law_11 : List UInt8 := dkwL_law_11 ++ dktL_law_12
def dkwL_law_10 : List UInt8 := [29, 4, 96, 46, 42, 29, 5, 96, 46, 182, 0, 39, 159, 2, 177, 3, 172, 43, 42, 29, 4, 96, 46, 42]
abbrev dktL_law_10 : List UInt8 := dkwL_law_10 ++ dktL_law_11
def dkwL_law_9 : List UInt8 := [182, 0, 35, 159, 2, 210, 3, 172, 43, 42, 29, 4, 96, 46, 42, 29, 5, 96, 46, 182, 0, 36, 44, 42]
abbrev dktL_law_9 : List UInt8 := dkwL_law_9 ++ dktL_law_10
def dkwL_law_8 : List UInt8 := [182, 0, 31, 159, 2, 233, 3, 172, 43, 42, 29, 4, 96, 46, 182, 0, 32, 44, 42, 29, 4, 96, 46]
abbrev dktL_law_8 : List UInt8 := dkwL_law_8 ++ dktL_law_9
def dkwL_law_7 : List UInt8 := [46, 182, 0, 27, 159, 3, 0, 3, 172, 43, 42, 29, 4, 96, 46, 182, 0, 28, 44, 42, 29, 4, 96, 46]
abbrev dktL_law_7 : List UInt8 := dkwL_law_7 ++ dktL_law_8
def dkwL_law_6 : List UInt8 := [43, 42, 29, 4, 96, 46, 42, 29, 5, 96, 46, 182, 0, 23, 44, 42, 29, 4, 96, 46, 42, 29, 5, 96]
abbrev dktL_law_6 : List UInt8 := dkwL_law_6 ++ dktL_law_7
def dkwL_law_5 : List UInt8 := [172, 43, 42, 29, 4, 96, 46, 182, 0, 18, 44, 42, 29, 4, 96, 46, 182, 0, 22, 159, 3, 33, 3, 172]
abbrev dktL_law_5 : List UInt8 := dkwL_law_5 ++ dktL_law_6
def dkwL_law_4 : List UInt8 := [29, 4, 96, 46, 42, 29, 5, 96, 46, 153, 0, 7, 4, 167, 0, 4, 3, 182, 0, 17, 159, 3, 56, 3]
abbrev dktL_law_4 : List UInt8 := dkwL_law_4 ++ dktL_law_5
def dkwL_law_3 : List UInt8 := [43, 42, 29, 4, 96, 46, 42, 29, 5, 96, 46, 153, 0, 7, 4, 167, 0, 4, 3, 182, 0, 13, 44, 42]
abbrev dktL_law_3 : List UInt8 := dkwL_law_3 ++ dktL_law_4
def dkwL_law_2 : List UInt8 := [170, 0, 0, 0, 0, 0, 4, 4, 0, 0, 0, 0, 0, 0, 0, 35, 0, 0, 0, 160, 0, 0, 0, 209, 0, 0, 0, 232, 0, 0, 1, 9, 0, 0, 1, 32, 0, 0, 1, 55, 0, 0, 1, 88, 0, 0, 1, 121, 0, 0, 1, 144, 0, 0, 1, 167, 0, 0, 1, 190, 0, 0, 1, 223, 0, 0, 2, 0, 0, 0, 2, 23, 0, 0, 2, 36, 0, 0, 2, 49, 0, 0, 2, 72, 0, 0, 2, 95, 0, 0, 2, 118, 0, 0, 2, 141, 0, 0, 2, 164, 0, 0, 2, 177, 0, 0, 2, 210, 0, 0, 2, 233, 0, 0, 3, 0, 0, 0, 3, 13, 0, 0, 3, 26, 0, 0, 3, 39, 0, 0, 3, 62, 0, 0, 3, 101, 0, 0, 3, 124, 0, 0, 3, 137, 0, 0, 3, 178, 0, 0, 3, 221, 0, 0, 3, 234, 0, 0, 3, 247]
abbrev dktL_law_2 : List UInt8 := dkwL_law_2 ++ dktL_law_3
def dkwL_law_1 : List UInt8 := [163, 4, 19, 42, 29, 46, 16, 63, 126]
abbrev dktL_law_1 : List UInt8 := dkwL_law_1 ++ dktL_law_2
def dkwL_law_0 : List UInt8 := [187, 0, 7, 89, 183, 0, 9, 76, 187, 0, 10, 89, 183, 0, 12, 77, 3, 62, 29, 42, 190, 6, 100]
abbrev dktL_law_0 : List UInt8 := dkwL_law_0 ++ dktL_law_1
theorem dksL_law_0 : cL_law.data.toList.drop 0 = dktL_law_0 := by decide +kernel
theorem dksL_law_1 : cL_law.data.toList.drop 23 = dktL_law_1 := dk_seg dksL_law_0 23 rfl rfl
theorem dksL_law_2 : cL_law.data.toList.drop 32 = dktL_law_2 := dk_seg dksL_law_1 9 rfl rfl
theorem dksL_law_3 : cL_law.data.toList.drop 192 = dktL_law_3 := dk_seg dksL_law_2 160 rfl rfl
theorem dksL_law_4 : cL_law.data.toList.drop 216 = dktL_law_4 := dk_seg dksL_law_3 24 rfl rfl
theorem dksL_law_5 : cL_law.data.toList.drop 240 = dktL_law_5 := dk_seg dksL_law_4 24 rfl rfl
theorem dksL_law_6 : cL_law.data.toList.drop 264 = dktL_law_6 := dk_seg dksL_law_5 24 rfl rfl
theorem dksL_law_7 : cL_law.data.toList.drop 288 = dktL_law_7 := dk_seg dksL_law_6 24 rfl rfl
theorem dksL_law_8 : cL_law.data.toList.drop 312 = dktL_law_8 := dk_seg dksL_law_7 24 rfl rfl
theorem dksL_law_9 : cL_law.data.toList.drop 335 = dktL_law_9 := dk_seg dksL_law_8 23 rfl rfl
theorem dksL_law_10 : cL_law.data.toList.drop 359 = dktL_law_10 := dk_seg dksL_law_9 24 rfl rfl
theorem dksL_law_11 : cL_law.data.toList.drop 383 = dktL_law_11 := dk_seg dksL_law_10 24 rfl rfl
theorem dksL_law_12 : cL_law.data.toList.drop 407 = dktL_law_12 := dk_seg dksL_law_11 24 rfl rfl
theorem dksL_law_13 : cL_law.data.toList.drop 431 = dktL_law_13 := dk_seg dksL_law_12 24 rfl rfl
theorem dksL_law_14 : cL_law.data.toList.drop 455 = dktL_law_14 := dk_seg dksL_law_13 24 rfl rfl
theorem dksL_law_15 : cL_law.data.toList.drop 479 = dktL_law_15 := dk_seg dksL_law_14 24 rfl rfl
theorem dksL_law_16 : cL_law.data.toList.drop 503 = dktL_law_16 := dk_seg dksL_law_15 24 rfl rfl
theorem dksL_law_17 : cL_law.data.toList.drop 527 = dktL_law_17 := dk_seg dksL_law_16 24 rfl rfl
theorem dksL_law_18 : cL_law.data.toList.drop 550 = dktL_law_18 := dk_seg dksL_law_17 23 rfl rfl
theorem dksL_law_19 : cL_law.data.toList.drop 572 = dktL_law_19 := dk_seg dksL_law_18 22 rfl rfl
theorem dksL_law_20 : cL_law.data.toList.drop 596 = dktL_law_20 := dk_seg dksL_law_19 24 rfl rfl
theorem dksL_law_21 : cL_law.data.toList.drop 620 = dktL_law_21 := dk_seg dksL_law_20 24 rfl rfl
theorem dksL_law_22 : cL_law.data.toList.drop 644 = dktL_law_22 := dk_seg dksL_law_21 24 rfl rfl
theorem dksL_law_23 : cL_law.data.toList.drop 668 = dktL_law_23 := dk_seg dksL_law_22 24 rfl rfl
theorem dksL_law_24 : cL_law.data.toList.drop 691 = dktL_law_24 := dk_seg dksL_law_23 23 rfl rfl
theorem dksL_law_25 : cL_law.data.toList.drop 713 = dktL_law_25 := dk_seg dksL_law_24 22 rfl rfl
theorem dksL_law_26 : cL_law.data.toList.drop 737 = dktL_law_26 := dk_seg dksL_law_25 24 rfl rfl
theorem dksL_law_27 : cL_law.data.toList.drop 760 = dktL_law_27 := dk_seg dksL_law_26 23 rfl rfl
theorem dksL_law_28 : cL_law.data.toList.drop 783 = dktL_law_28 := dk_seg dksL_law_27 23 rfl rfl
theorem dksL_law_29 : cL_law.data.toList.drop 805 = dktL_law_29 := dk_seg dksL_law_28 22 rfl rfl
theorem dksL_law_30 : cL_law.data.toList.drop 827 = dktL_law_30 := dk_seg dksL_law_29 22 rfl rfl
theorem dksL_law_31 : cL_law.data.toList.drop 851 = dktL_law_31 := dk_seg dksL_law_30 24 rfl rfl
theorem dksL_law_32 : cL_law.data.toList.drop 875 = dktL_law_32 := dk_seg dksL_law_31 24 rfl rfl
theorem dksL_law_33 : cL_law.data.toList.drop 899 = dktL_law_33 := dk_seg dksL_law_32 24 rfl rfl
theorem dksL_law_34 : cL_law.data.toList.drop 923 = dktL_law_34 := dk_seg dksL_law_33 24 rfl rfl
theorem dksL_law_35 : cL_law.data.toList.drop 947 = dktL_law_35 := dk_seg dksL_law_34 24 rfl rfl
theorem dksL_law_36 : cL_law.data.toList.drop 970 = dktL_law_36 := dk_seg dksL_law_35 23 rfl rfl
theorem dksL_law_37 : cL_law.data.toList.drop 994 = dktL_law_37 := dk_seg dksL_law_36 24 rfl rfl
theorem dksL_law_38 : cL_law.data.toList.drop 1018 = dktL_law_38 := dk_seg dksL_law_37 24 rfl rfl
theorem dksL_law_39 : cL_law.data.toList.drop 1042 = dktL_law_39 := dk_seg dksL_law_38 24 rfl rfl
theorem dksL_law_40 : cL_law.data.toList.drop 1066 = dktL_law_40 := dk_seg dksL_law_39 24 rfl rfl
theorem dL_law_0 : decode cL_law 0 = .ok (.new 7, 3) := dk_187 0 7 (dk_at dksL_law_0 0 rfl rfl)
theorem dL_law_3 : decode cL_law 3 = .ok (.dup, 1) := dk_89 (dk_at dksL_law_0 3 rfl rfl)
theorem dL_law_4 : decode cL_law 4 = .ok (.invokespecial 9, 3) := dk_183 0 9 (dk_at dksL_law_0 4 rfl rfl)
theorem dL_law_7 : decode cL_law 7 = .ok (.astore_n 1, 1) := dk_76 (dk_at dksL_law_0 7 rfl rfl)
theorem dL_law_8 : decode cL_law 8 = .ok (.new 10, 3) := dk_187 0 10 (dk_at dksL_law_0 8 rfl rfl)
theorem dL_law_11 : decode cL_law 11 = .ok (.dup, 1) := dk_89 (dk_at dksL_law_0 11 rfl rfl)
theorem dL_law_12 : decode cL_law 12 = .ok (.invokespecial 12, 3) := dk_183 0 12 (dk_at dksL_law_0 12 rfl rfl)
theorem dL_law_15 : decode cL_law 15 = .ok (.astore_n 2, 1) := dk_77 (dk_at dksL_law_0 15 rfl rfl)
theorem dL_law_16 : decode cL_law 16 = .ok (.iconst 0, 1) := dk_3 (dk_at dksL_law_0 16 rfl rfl)
theorem dL_law_17 : decode cL_law 17 = .ok (.istore_n 3, 1) := dk_62 (dk_at dksL_law_0 17 rfl rfl)
theorem dL_law_18 : decode cL_law 18 = .ok (.iload_n 3, 1) := dk_29 (dk_at dksL_law_0 18 rfl rfl)
theorem dL_law_19 : decode cL_law 19 = .ok (.aload_n 0, 1) := dk_42 (dk_at dksL_law_0 19 rfl rfl)
theorem dL_law_20 : decode cL_law 20 = .ok (.arraylength, 1) := dk_190 (dk_at dksL_law_0 20 rfl rfl)
theorem dL_law_21 : decode cL_law 21 = .ok (.iconst 3, 1) := dk_6 (dk_at dksL_law_0 21 rfl rfl)
theorem dL_law_22 : decode cL_law 22 = .ok (.isub, 1) := dk_100 (dk_at dksL_law_0 22 rfl rfl)
theorem dL_law_23 : decode cL_law 23 = .ok (.if_icmp .gt 1043, 3) := dk_163 4 19 (dk_at dksL_law_1 0 rfl rfl)
theorem dL_law_26 : decode cL_law 26 = .ok (.aload_n 0, 1) := dk_42 (dk_at dksL_law_1 3 rfl rfl)
theorem dL_law_27 : decode cL_law 27 = .ok (.iload_n 3, 1) := dk_29 (dk_at dksL_law_1 4 rfl rfl)
theorem dL_law_28 : decode cL_law 28 = .ok (.iaload, 1) := dk_46 (dk_at dksL_law_1 5 rfl rfl)
theorem dL_law_29 : decode cL_law 29 = .ok (.bipush 63, 2) := dk_16 63 (dk_at dksL_law_1 6 rfl rfl)
theorem dL_law_31 : decode cL_law 31 = .ok (.iand, 1) := dk_126 (dk_at dksL_law_1 8 rfl rfl)
theorem dL_law_32 : decode cL_law 32 = .ok (.tableswitch 1028 0 35 #[160, 209, 232, 265, 288, 311, 344, 377, 400, 423, 446, 479, 512, 535, 548, 561, 584, 607, 630, 653, 676, 689, 722, 745, 768, 781, 794, 807, 830, 869, 892, 905, 946, 989, 1002, 1015], 160) := by decide +kernel
theorem dL_law_192 : decode cL_law 192 = .ok (.aload_n 1, 1) := dk_43 (dk_at dksL_law_3 0 rfl rfl)
theorem dL_law_193 : decode cL_law 193 = .ok (.aload_n 0, 1) := dk_42 (dk_at dksL_law_3 1 rfl rfl)
theorem dL_law_194 : decode cL_law 194 = .ok (.iload_n 3, 1) := dk_29 (dk_at dksL_law_3 2 rfl rfl)
theorem dL_law_195 : decode cL_law 195 = .ok (.iconst 1, 1) := dk_4 (dk_at dksL_law_3 3 rfl rfl)
theorem dL_law_196 : decode cL_law 196 = .ok (.iadd, 1) := dk_96 (dk_at dksL_law_3 4 rfl rfl)
theorem dL_law_197 : decode cL_law 197 = .ok (.iaload, 1) := dk_46 (dk_at dksL_law_3 5 rfl rfl)
theorem dL_law_198 : decode cL_law 198 = .ok (.aload_n 0, 1) := dk_42 (dk_at dksL_law_3 6 rfl rfl)
theorem dL_law_199 : decode cL_law 199 = .ok (.iload_n 3, 1) := dk_29 (dk_at dksL_law_3 7 rfl rfl)
theorem dL_law_200 : decode cL_law 200 = .ok (.iconst 2, 1) := dk_5 (dk_at dksL_law_3 8 rfl rfl)
theorem dL_law_201 : decode cL_law 201 = .ok (.iadd, 1) := dk_96 (dk_at dksL_law_3 9 rfl rfl)
theorem dL_law_202 : decode cL_law 202 = .ok (.iaload, 1) := dk_46 (dk_at dksL_law_3 10 rfl rfl)
theorem dL_law_203 : decode cL_law 203 = .ok (.ifCond .eq 7, 3) := dk_153 0 7 (dk_at dksL_law_3 11 rfl rfl)
theorem dL_law_206 : decode cL_law 206 = .ok (.iconst 1, 1) := dk_4 (dk_at dksL_law_3 14 rfl rfl)
theorem dL_law_207 : decode cL_law 207 = .ok (.goto 4, 3) := dk_167 0 4 (dk_at dksL_law_3 15 rfl rfl)
theorem dL_law_210 : decode cL_law 210 = .ok (.iconst 0, 1) := dk_3 (dk_at dksL_law_3 18 rfl rfl)
theorem dL_law_211 : decode cL_law 211 = .ok (.invokevirtual 13, 3) := dk_182 0 13 (dk_at dksL_law_3 19 rfl rfl)
theorem dL_law_214 : decode cL_law 214 = .ok (.aload_n 2, 1) := dk_44 (dk_at dksL_law_3 22 rfl rfl)
theorem dL_law_215 : decode cL_law 215 = .ok (.aload_n 0, 1) := dk_42 (dk_at dksL_law_3 23 rfl rfl)
theorem dL_law_216 : decode cL_law 216 = .ok (.iload_n 3, 1) := dk_29 (dk_at dksL_law_4 0 rfl rfl)
theorem dL_law_217 : decode cL_law 217 = .ok (.iconst 1, 1) := dk_4 (dk_at dksL_law_4 1 rfl rfl)
theorem dL_law_218 : decode cL_law 218 = .ok (.iadd, 1) := dk_96 (dk_at dksL_law_4 2 rfl rfl)
theorem dL_law_219 : decode cL_law 219 = .ok (.iaload, 1) := dk_46 (dk_at dksL_law_4 3 rfl rfl)
theorem dL_law_220 : decode cL_law 220 = .ok (.aload_n 0, 1) := dk_42 (dk_at dksL_law_4 4 rfl rfl)
theorem dL_law_221 : decode cL_law 221 = .ok (.iload_n 3, 1) := dk_29 (dk_at dksL_law_4 5 rfl rfl)
theorem dL_law_222 : decode cL_law 222 = .ok (.iconst 2, 1) := dk_5 (dk_at dksL_law_4 6 rfl rfl)
theorem dL_law_223 : decode cL_law 223 = .ok (.iadd, 1) := dk_96 (dk_at dksL_law_4 7 rfl rfl)
theorem dL_law_224 : decode cL_law 224 = .ok (.iaload, 1) := dk_46 (dk_at dksL_law_4 8 rfl rfl)
theorem dL_law_225 : decode cL_law 225 = .ok (.ifCond .eq 7, 3) := dk_153 0 7 (dk_at dksL_law_4 9 rfl rfl)
theorem dL_law_228 : decode cL_law 228 = .ok (.iconst 1, 1) := dk_4 (dk_at dksL_law_4 12 rfl rfl)
theorem dL_law_229 : decode cL_law 229 = .ok (.goto 4, 3) := dk_167 0 4 (dk_at dksL_law_4 13 rfl rfl)
theorem dL_law_232 : decode cL_law 232 = .ok (.iconst 0, 1) := dk_3 (dk_at dksL_law_4 16 rfl rfl)
theorem dL_law_233 : decode cL_law 233 = .ok (.invokevirtual 17, 3) := dk_182 0 17 (dk_at dksL_law_4 17 rfl rfl)
theorem dL_law_236 : decode cL_law 236 = .ok (.if_icmp .eq 824, 3) := dk_159 3 56 (dk_at dksL_law_4 20 rfl rfl)
theorem dL_law_239 : decode cL_law 239 = .ok (.iconst 0, 1) := dk_3 (dk_at dksL_law_4 23 rfl rfl)
theorem dL_law_240 : decode cL_law 240 = .ok (.ireturn, 1) := dk_172 (dk_at dksL_law_5 0 rfl rfl)
theorem dL_law_241 : decode cL_law 241 = .ok (.aload_n 1, 1) := dk_43 (dk_at dksL_law_5 1 rfl rfl)
theorem dL_law_242 : decode cL_law 242 = .ok (.aload_n 0, 1) := dk_42 (dk_at dksL_law_5 2 rfl rfl)
theorem dL_law_243 : decode cL_law 243 = .ok (.iload_n 3, 1) := dk_29 (dk_at dksL_law_5 3 rfl rfl)
theorem dL_law_244 : decode cL_law 244 = .ok (.iconst 1, 1) := dk_4 (dk_at dksL_law_5 4 rfl rfl)
theorem dL_law_245 : decode cL_law 245 = .ok (.iadd, 1) := dk_96 (dk_at dksL_law_5 5 rfl rfl)
theorem dL_law_246 : decode cL_law 246 = .ok (.iaload, 1) := dk_46 (dk_at dksL_law_5 6 rfl rfl)
theorem dL_law_247 : decode cL_law 247 = .ok (.invokevirtual 18, 3) := dk_182 0 18 (dk_at dksL_law_5 7 rfl rfl)
theorem dL_law_250 : decode cL_law 250 = .ok (.aload_n 2, 1) := dk_44 (dk_at dksL_law_5 10 rfl rfl)
theorem dL_law_251 : decode cL_law 251 = .ok (.aload_n 0, 1) := dk_42 (dk_at dksL_law_5 11 rfl rfl)
theorem dL_law_252 : decode cL_law 252 = .ok (.iload_n 3, 1) := dk_29 (dk_at dksL_law_5 12 rfl rfl)
theorem dL_law_253 : decode cL_law 253 = .ok (.iconst 1, 1) := dk_4 (dk_at dksL_law_5 13 rfl rfl)
theorem dL_law_254 : decode cL_law 254 = .ok (.iadd, 1) := dk_96 (dk_at dksL_law_5 14 rfl rfl)
theorem dL_law_255 : decode cL_law 255 = .ok (.iaload, 1) := dk_46 (dk_at dksL_law_5 15 rfl rfl)
theorem dL_law_256 : decode cL_law 256 = .ok (.invokevirtual 22, 3) := dk_182 0 22 (dk_at dksL_law_5 16 rfl rfl)
theorem dL_law_259 : decode cL_law 259 = .ok (.if_icmp .eq 801, 3) := dk_159 3 33 (dk_at dksL_law_5 19 rfl rfl)
theorem dL_law_262 : decode cL_law 262 = .ok (.iconst 0, 1) := dk_3 (dk_at dksL_law_5 22 rfl rfl)
theorem dL_law_263 : decode cL_law 263 = .ok (.ireturn, 1) := dk_172 (dk_at dksL_law_5 23 rfl rfl)
theorem dL_law_264 : decode cL_law 264 = .ok (.aload_n 1, 1) := dk_43 (dk_at dksL_law_6 0 rfl rfl)
theorem dL_law_265 : decode cL_law 265 = .ok (.aload_n 0, 1) := dk_42 (dk_at dksL_law_6 1 rfl rfl)
theorem dL_law_266 : decode cL_law 266 = .ok (.iload_n 3, 1) := dk_29 (dk_at dksL_law_6 2 rfl rfl)
theorem dL_law_267 : decode cL_law 267 = .ok (.iconst 1, 1) := dk_4 (dk_at dksL_law_6 3 rfl rfl)
theorem dL_law_268 : decode cL_law 268 = .ok (.iadd, 1) := dk_96 (dk_at dksL_law_6 4 rfl rfl)
theorem dL_law_269 : decode cL_law 269 = .ok (.iaload, 1) := dk_46 (dk_at dksL_law_6 5 rfl rfl)
theorem dL_law_270 : decode cL_law 270 = .ok (.aload_n 0, 1) := dk_42 (dk_at dksL_law_6 6 rfl rfl)
theorem dL_law_271 : decode cL_law 271 = .ok (.iload_n 3, 1) := dk_29 (dk_at dksL_law_6 7 rfl rfl)
theorem dL_law_272 : decode cL_law 272 = .ok (.iconst 2, 1) := dk_5 (dk_at dksL_law_6 8 rfl rfl)
theorem dL_law_273 : decode cL_law 273 = .ok (.iadd, 1) := dk_96 (dk_at dksL_law_6 9 rfl rfl)
theorem dL_law_274 : decode cL_law 274 = .ok (.iaload, 1) := dk_46 (dk_at dksL_law_6 10 rfl rfl)
theorem dL_law_275 : decode cL_law 275 = .ok (.invokevirtual 23, 3) := dk_182 0 23 (dk_at dksL_law_6 11 rfl rfl)
theorem dL_law_278 : decode cL_law 278 = .ok (.aload_n 2, 1) := dk_44 (dk_at dksL_law_6 14 rfl rfl)
theorem dL_law_279 : decode cL_law 279 = .ok (.aload_n 0, 1) := dk_42 (dk_at dksL_law_6 15 rfl rfl)
theorem dL_law_280 : decode cL_law 280 = .ok (.iload_n 3, 1) := dk_29 (dk_at dksL_law_6 16 rfl rfl)
theorem dL_law_281 : decode cL_law 281 = .ok (.iconst 1, 1) := dk_4 (dk_at dksL_law_6 17 rfl rfl)
theorem dL_law_282 : decode cL_law 282 = .ok (.iadd, 1) := dk_96 (dk_at dksL_law_6 18 rfl rfl)
theorem dL_law_283 : decode cL_law 283 = .ok (.iaload, 1) := dk_46 (dk_at dksL_law_6 19 rfl rfl)
theorem dL_law_284 : decode cL_law 284 = .ok (.aload_n 0, 1) := dk_42 (dk_at dksL_law_6 20 rfl rfl)
theorem dL_law_285 : decode cL_law 285 = .ok (.iload_n 3, 1) := dk_29 (dk_at dksL_law_6 21 rfl rfl)
theorem dL_law_286 : decode cL_law 286 = .ok (.iconst 2, 1) := dk_5 (dk_at dksL_law_6 22 rfl rfl)
theorem dL_law_287 : decode cL_law 287 = .ok (.iadd, 1) := dk_96 (dk_at dksL_law_6 23 rfl rfl)
theorem dL_law_288 : decode cL_law 288 = .ok (.iaload, 1) := dk_46 (dk_at dksL_law_7 0 rfl rfl)
theorem dL_law_289 : decode cL_law 289 = .ok (.invokevirtual 27, 3) := dk_182 0 27 (dk_at dksL_law_7 1 rfl rfl)
theorem dL_law_292 : decode cL_law 292 = .ok (.if_icmp .eq 768, 3) := dk_159 3 0 (dk_at dksL_law_7 4 rfl rfl)
theorem dL_law_295 : decode cL_law 295 = .ok (.iconst 0, 1) := dk_3 (dk_at dksL_law_7 7 rfl rfl)
theorem dL_law_296 : decode cL_law 296 = .ok (.ireturn, 1) := dk_172 (dk_at dksL_law_7 8 rfl rfl)
theorem dL_law_297 : decode cL_law 297 = .ok (.aload_n 1, 1) := dk_43 (dk_at dksL_law_7 9 rfl rfl)
theorem dL_law_298 : decode cL_law 298 = .ok (.aload_n 0, 1) := dk_42 (dk_at dksL_law_7 10 rfl rfl)
theorem dL_law_299 : decode cL_law 299 = .ok (.iload_n 3, 1) := dk_29 (dk_at dksL_law_7 11 rfl rfl)
theorem dL_law_300 : decode cL_law 300 = .ok (.iconst 1, 1) := dk_4 (dk_at dksL_law_7 12 rfl rfl)
theorem dL_law_301 : decode cL_law 301 = .ok (.iadd, 1) := dk_96 (dk_at dksL_law_7 13 rfl rfl)
theorem dL_law_302 : decode cL_law 302 = .ok (.iaload, 1) := dk_46 (dk_at dksL_law_7 14 rfl rfl)
theorem dL_law_303 : decode cL_law 303 = .ok (.invokevirtual 28, 3) := dk_182 0 28 (dk_at dksL_law_7 15 rfl rfl)
theorem dL_law_306 : decode cL_law 306 = .ok (.aload_n 2, 1) := dk_44 (dk_at dksL_law_7 18 rfl rfl)
theorem dL_law_307 : decode cL_law 307 = .ok (.aload_n 0, 1) := dk_42 (dk_at dksL_law_7 19 rfl rfl)
theorem dL_law_308 : decode cL_law 308 = .ok (.iload_n 3, 1) := dk_29 (dk_at dksL_law_7 20 rfl rfl)
theorem dL_law_309 : decode cL_law 309 = .ok (.iconst 1, 1) := dk_4 (dk_at dksL_law_7 21 rfl rfl)
theorem dL_law_310 : decode cL_law 310 = .ok (.iadd, 1) := dk_96 (dk_at dksL_law_7 22 rfl rfl)
theorem dL_law_311 : decode cL_law 311 = .ok (.iaload, 1) := dk_46 (dk_at dksL_law_7 23 rfl rfl)
theorem dL_law_312 : decode cL_law 312 = .ok (.invokevirtual 31, 3) := dk_182 0 31 (dk_at dksL_law_8 0 rfl rfl)
theorem dL_law_315 : decode cL_law 315 = .ok (.if_icmp .eq 745, 3) := dk_159 2 233 (dk_at dksL_law_8 3 rfl rfl)
theorem dL_law_318 : decode cL_law 318 = .ok (.iconst 0, 1) := dk_3 (dk_at dksL_law_8 6 rfl rfl)
theorem dL_law_319 : decode cL_law 319 = .ok (.ireturn, 1) := dk_172 (dk_at dksL_law_8 7 rfl rfl)
theorem dL_law_320 : decode cL_law 320 = .ok (.aload_n 1, 1) := dk_43 (dk_at dksL_law_8 8 rfl rfl)
theorem dL_law_321 : decode cL_law 321 = .ok (.aload_n 0, 1) := dk_42 (dk_at dksL_law_8 9 rfl rfl)
theorem dL_law_322 : decode cL_law 322 = .ok (.iload_n 3, 1) := dk_29 (dk_at dksL_law_8 10 rfl rfl)
theorem dL_law_323 : decode cL_law 323 = .ok (.iconst 1, 1) := dk_4 (dk_at dksL_law_8 11 rfl rfl)
theorem dL_law_324 : decode cL_law 324 = .ok (.iadd, 1) := dk_96 (dk_at dksL_law_8 12 rfl rfl)
theorem dL_law_325 : decode cL_law 325 = .ok (.iaload, 1) := dk_46 (dk_at dksL_law_8 13 rfl rfl)
theorem dL_law_326 : decode cL_law 326 = .ok (.invokevirtual 32, 3) := dk_182 0 32 (dk_at dksL_law_8 14 rfl rfl)
theorem dL_law_329 : decode cL_law 329 = .ok (.aload_n 2, 1) := dk_44 (dk_at dksL_law_8 17 rfl rfl)
theorem dL_law_330 : decode cL_law 330 = .ok (.aload_n 0, 1) := dk_42 (dk_at dksL_law_8 18 rfl rfl)
theorem dL_law_331 : decode cL_law 331 = .ok (.iload_n 3, 1) := dk_29 (dk_at dksL_law_8 19 rfl rfl)
theorem dL_law_332 : decode cL_law 332 = .ok (.iconst 1, 1) := dk_4 (dk_at dksL_law_8 20 rfl rfl)
theorem dL_law_333 : decode cL_law 333 = .ok (.iadd, 1) := dk_96 (dk_at dksL_law_8 21 rfl rfl)
theorem dL_law_334 : decode cL_law 334 = .ok (.iaload, 1) := dk_46 (dk_at dksL_law_8 22 rfl rfl)
theorem dL_law_335 : decode cL_law 335 = .ok (.invokevirtual 35, 3) := dk_182 0 35 (dk_at dksL_law_9 0 rfl rfl)
theorem dL_law_338 : decode cL_law 338 = .ok (.if_icmp .eq 722, 3) := dk_159 2 210 (dk_at dksL_law_9 3 rfl rfl)
theorem dL_law_341 : decode cL_law 341 = .ok (.iconst 0, 1) := dk_3 (dk_at dksL_law_9 6 rfl rfl)
theorem dL_law_342 : decode cL_law 342 = .ok (.ireturn, 1) := dk_172 (dk_at dksL_law_9 7 rfl rfl)
theorem dL_law_343 : decode cL_law 343 = .ok (.aload_n 1, 1) := dk_43 (dk_at dksL_law_9 8 rfl rfl)
theorem dL_law_344 : decode cL_law 344 = .ok (.aload_n 0, 1) := dk_42 (dk_at dksL_law_9 9 rfl rfl)
theorem dL_law_345 : decode cL_law 345 = .ok (.iload_n 3, 1) := dk_29 (dk_at dksL_law_9 10 rfl rfl)
theorem dL_law_346 : decode cL_law 346 = .ok (.iconst 1, 1) := dk_4 (dk_at dksL_law_9 11 rfl rfl)
theorem dL_law_347 : decode cL_law 347 = .ok (.iadd, 1) := dk_96 (dk_at dksL_law_9 12 rfl rfl)
theorem dL_law_348 : decode cL_law 348 = .ok (.iaload, 1) := dk_46 (dk_at dksL_law_9 13 rfl rfl)
theorem dL_law_349 : decode cL_law 349 = .ok (.aload_n 0, 1) := dk_42 (dk_at dksL_law_9 14 rfl rfl)
theorem dL_law_350 : decode cL_law 350 = .ok (.iload_n 3, 1) := dk_29 (dk_at dksL_law_9 15 rfl rfl)
theorem dL_law_351 : decode cL_law 351 = .ok (.iconst 2, 1) := dk_5 (dk_at dksL_law_9 16 rfl rfl)
theorem dL_law_352 : decode cL_law 352 = .ok (.iadd, 1) := dk_96 (dk_at dksL_law_9 17 rfl rfl)
theorem dL_law_353 : decode cL_law 353 = .ok (.iaload, 1) := dk_46 (dk_at dksL_law_9 18 rfl rfl)
theorem dL_law_354 : decode cL_law 354 = .ok (.invokevirtual 36, 3) := dk_182 0 36 (dk_at dksL_law_9 19 rfl rfl)
theorem dL_law_357 : decode cL_law 357 = .ok (.aload_n 2, 1) := dk_44 (dk_at dksL_law_9 22 rfl rfl)
theorem dL_law_358 : decode cL_law 358 = .ok (.aload_n 0, 1) := dk_42 (dk_at dksL_law_9 23 rfl rfl)
theorem dL_law_359 : decode cL_law 359 = .ok (.iload_n 3, 1) := dk_29 (dk_at dksL_law_10 0 rfl rfl)
theorem dL_law_360 : decode cL_law 360 = .ok (.iconst 1, 1) := dk_4 (dk_at dksL_law_10 1 rfl rfl)
theorem dL_law_361 : decode cL_law 361 = .ok (.iadd, 1) := dk_96 (dk_at dksL_law_10 2 rfl rfl)
theorem dL_law_362 : decode cL_law 362 = .ok (.iaload, 1) := dk_46 (dk_at dksL_law_10 3 rfl rfl)
theorem dL_law_363 : decode cL_law 363 = .ok (.aload_n 0, 1) := dk_42 (dk_at dksL_law_10 4 rfl rfl)
theorem dL_law_364 : decode cL_law 364 = .ok (.iload_n 3, 1) := dk_29 (dk_at dksL_law_10 5 rfl rfl)
theorem dL_law_365 : decode cL_law 365 = .ok (.iconst 2, 1) := dk_5 (dk_at dksL_law_10 6 rfl rfl)
theorem dL_law_366 : decode cL_law 366 = .ok (.iadd, 1) := dk_96 (dk_at dksL_law_10 7 rfl rfl)
theorem dL_law_367 : decode cL_law 367 = .ok (.iaload, 1) := dk_46 (dk_at dksL_law_10 8 rfl rfl)
theorem dL_law_368 : decode cL_law 368 = .ok (.invokevirtual 39, 3) := dk_182 0 39 (dk_at dksL_law_10 9 rfl rfl)
theorem dL_law_371 : decode cL_law 371 = .ok (.if_icmp .eq 689, 3) := dk_159 2 177 (dk_at dksL_law_10 12 rfl rfl)
theorem dL_law_374 : decode cL_law 374 = .ok (.iconst 0, 1) := dk_3 (dk_at dksL_law_10 15 rfl rfl)
theorem dL_law_375 : decode cL_law 375 = .ok (.ireturn, 1) := dk_172 (dk_at dksL_law_10 16 rfl rfl)
theorem dL_law_376 : decode cL_law 376 = .ok (.aload_n 1, 1) := dk_43 (dk_at dksL_law_10 17 rfl rfl)
theorem dL_law_377 : decode cL_law 377 = .ok (.aload_n 0, 1) := dk_42 (dk_at dksL_law_10 18 rfl rfl)
theorem dL_law_378 : decode cL_law 378 = .ok (.iload_n 3, 1) := dk_29 (dk_at dksL_law_10 19 rfl rfl)
theorem dL_law_379 : decode cL_law 379 = .ok (.iconst 1, 1) := dk_4 (dk_at dksL_law_10 20 rfl rfl)
theorem dL_law_380 : decode cL_law 380 = .ok (.iadd, 1) := dk_96 (dk_at dksL_law_10 21 rfl rfl)
theorem dL_law_381 : decode cL_law 381 = .ok (.iaload, 1) := dk_46 (dk_at dksL_law_10 22 rfl rfl)
theorem dL_law_382 : decode cL_law 382 = .ok (.aload_n 0, 1) := dk_42 (dk_at dksL_law_10 23 rfl rfl)
theorem dL_law_383 : decode cL_law 383 = .ok (.iload_n 3, 1) := dk_29 (dk_at dksL_law_11 0 rfl rfl)
theorem dL_law_384 : decode cL_law 384 = .ok (.iconst 2, 1) := dk_5 (dk_at dksL_law_11 1 rfl rfl)
theorem dL_law_385 : decode cL_law 385 = .ok (.iadd, 1) := dk_96 (dk_at dksL_law_11 2 rfl rfl)
theorem dL_law_386 : decode cL_law 386 = .ok (.iaload, 1) := dk_46 (dk_at dksL_law_11 3 rfl rfl)
theorem dL_law_387 : decode cL_law 387 = .ok (.invokevirtual 40, 3) := dk_182 0 40 (dk_at dksL_law_11 4 rfl rfl)
theorem dL_law_390 : decode cL_law 390 = .ok (.aload_n 2, 1) := dk_44 (dk_at dksL_law_11 7 rfl rfl)
theorem dL_law_391 : decode cL_law 391 = .ok (.aload_n 0, 1) := dk_42 (dk_at dksL_law_11 8 rfl rfl)
theorem dL_law_392 : decode cL_law 392 = .ok (.iload_n 3, 1) := dk_29 (dk_at dksL_law_11 9 rfl rfl)
theorem dL_law_393 : decode cL_law 393 = .ok (.iconst 1, 1) := dk_4 (dk_at dksL_law_11 10 rfl rfl)
theorem dL_law_394 : decode cL_law 394 = .ok (.iadd, 1) := dk_96 (dk_at dksL_law_11 11 rfl rfl)
theorem dL_law_395 : decode cL_law 395 = .ok (.iaload, 1) := dk_46 (dk_at dksL_law_11 12 rfl rfl)
theorem dL_law_396 : decode cL_law 396 = .ok (.aload_n 0, 1) := dk_42 (dk_at dksL_law_11 13 rfl rfl)
theorem dL_law_397 : decode cL_law 397 = .ok (.iload_n 3, 1) := dk_29 (dk_at dksL_law_11 14 rfl rfl)
theorem dL_law_398 : decode cL_law 398 = .ok (.iconst 2, 1) := dk_5 (dk_at dksL_law_11 15 rfl rfl)
theorem dL_law_399 : decode cL_law 399 = .ok (.iadd, 1) := dk_96 (dk_at dksL_law_11 16 rfl rfl)
theorem dL_law_400 : decode cL_law 400 = .ok (.iaload, 1) := dk_46 (dk_at dksL_law_11 17 rfl rfl)
theorem dL_law_401 : decode cL_law 401 = .ok (.invokevirtual 43, 3) := dk_182 0 43 (dk_at dksL_law_11 18 rfl rfl)
theorem dL_law_404 : decode cL_law 404 = .ok (.if_icmp .eq 656, 3) := dk_159 2 144 (dk_at dksL_law_11 21 rfl rfl)
theorem dL_law_407 : decode cL_law 407 = .ok (.iconst 0, 1) := dk_3 (dk_at dksL_law_12 0 rfl rfl)
theorem dL_law_408 : decode cL_law 408 = .ok (.ireturn, 1) := dk_172 (dk_at dksL_law_12 1 rfl rfl)
theorem dL_law_409 : decode cL_law 409 = .ok (.aload_n 1, 1) := dk_43 (dk_at dksL_law_12 2 rfl rfl)
theorem dL_law_410 : decode cL_law 410 = .ok (.aload_n 0, 1) := dk_42 (dk_at dksL_law_12 3 rfl rfl)
theorem dL_law_411 : decode cL_law 411 = .ok (.iload_n 3, 1) := dk_29 (dk_at dksL_law_12 4 rfl rfl)
theorem dL_law_412 : decode cL_law 412 = .ok (.iconst 1, 1) := dk_4 (dk_at dksL_law_12 5 rfl rfl)
theorem dL_law_413 : decode cL_law 413 = .ok (.iadd, 1) := dk_96 (dk_at dksL_law_12 6 rfl rfl)
theorem dL_law_414 : decode cL_law 414 = .ok (.iaload, 1) := dk_46 (dk_at dksL_law_12 7 rfl rfl)
theorem dL_law_415 : decode cL_law 415 = .ok (.invokevirtual 44, 3) := dk_182 0 44 (dk_at dksL_law_12 8 rfl rfl)
theorem dL_law_418 : decode cL_law 418 = .ok (.aload_n 2, 1) := dk_44 (dk_at dksL_law_12 11 rfl rfl)
theorem dL_law_419 : decode cL_law 419 = .ok (.aload_n 0, 1) := dk_42 (dk_at dksL_law_12 12 rfl rfl)
theorem dL_law_420 : decode cL_law 420 = .ok (.iload_n 3, 1) := dk_29 (dk_at dksL_law_12 13 rfl rfl)
theorem dL_law_421 : decode cL_law 421 = .ok (.iconst 1, 1) := dk_4 (dk_at dksL_law_12 14 rfl rfl)
theorem dL_law_422 : decode cL_law 422 = .ok (.iadd, 1) := dk_96 (dk_at dksL_law_12 15 rfl rfl)
theorem dL_law_423 : decode cL_law 423 = .ok (.iaload, 1) := dk_46 (dk_at dksL_law_12 16 rfl rfl)
theorem dL_law_424 : decode cL_law 424 = .ok (.invokevirtual 47, 3) := dk_182 0 47 (dk_at dksL_law_12 17 rfl rfl)
theorem dL_law_427 : decode cL_law 427 = .ok (.if_icmp .eq 633, 3) := dk_159 2 121 (dk_at dksL_law_12 20 rfl rfl)
theorem dL_law_430 : decode cL_law 430 = .ok (.iconst 0, 1) := dk_3 (dk_at dksL_law_12 23 rfl rfl)
theorem dL_law_431 : decode cL_law 431 = .ok (.ireturn, 1) := dk_172 (dk_at dksL_law_13 0 rfl rfl)
theorem dL_law_432 : decode cL_law 432 = .ok (.aload_n 1, 1) := dk_43 (dk_at dksL_law_13 1 rfl rfl)
theorem dL_law_433 : decode cL_law 433 = .ok (.aload_n 0, 1) := dk_42 (dk_at dksL_law_13 2 rfl rfl)
theorem dL_law_434 : decode cL_law 434 = .ok (.iload_n 3, 1) := dk_29 (dk_at dksL_law_13 3 rfl rfl)
theorem dL_law_435 : decode cL_law 435 = .ok (.iconst 1, 1) := dk_4 (dk_at dksL_law_13 4 rfl rfl)
theorem dL_law_436 : decode cL_law 436 = .ok (.iadd, 1) := dk_96 (dk_at dksL_law_13 5 rfl rfl)
theorem dL_law_437 : decode cL_law 437 = .ok (.iaload, 1) := dk_46 (dk_at dksL_law_13 6 rfl rfl)
theorem dL_law_438 : decode cL_law 438 = .ok (.invokevirtual 48, 3) := dk_182 0 48 (dk_at dksL_law_13 7 rfl rfl)
theorem dL_law_441 : decode cL_law 441 = .ok (.aload_n 2, 1) := dk_44 (dk_at dksL_law_13 10 rfl rfl)
theorem dL_law_442 : decode cL_law 442 = .ok (.aload_n 0, 1) := dk_42 (dk_at dksL_law_13 11 rfl rfl)
theorem dL_law_443 : decode cL_law 443 = .ok (.iload_n 3, 1) := dk_29 (dk_at dksL_law_13 12 rfl rfl)
theorem dL_law_444 : decode cL_law 444 = .ok (.iconst 1, 1) := dk_4 (dk_at dksL_law_13 13 rfl rfl)
theorem dL_law_445 : decode cL_law 445 = .ok (.iadd, 1) := dk_96 (dk_at dksL_law_13 14 rfl rfl)
theorem dL_law_446 : decode cL_law 446 = .ok (.iaload, 1) := dk_46 (dk_at dksL_law_13 15 rfl rfl)
theorem dL_law_447 : decode cL_law 447 = .ok (.invokevirtual 51, 3) := dk_182 0 51 (dk_at dksL_law_13 16 rfl rfl)
theorem dL_law_450 : decode cL_law 450 = .ok (.if_icmp .eq 610, 3) := dk_159 2 98 (dk_at dksL_law_13 19 rfl rfl)
theorem dL_law_453 : decode cL_law 453 = .ok (.iconst 0, 1) := dk_3 (dk_at dksL_law_13 22 rfl rfl)
theorem dL_law_454 : decode cL_law 454 = .ok (.ireturn, 1) := dk_172 (dk_at dksL_law_13 23 rfl rfl)
theorem dL_law_455 : decode cL_law 455 = .ok (.aload_n 1, 1) := dk_43 (dk_at dksL_law_14 0 rfl rfl)
theorem dL_law_456 : decode cL_law 456 = .ok (.aload_n 0, 1) := dk_42 (dk_at dksL_law_14 1 rfl rfl)
theorem dL_law_457 : decode cL_law 457 = .ok (.iload_n 3, 1) := dk_29 (dk_at dksL_law_14 2 rfl rfl)
theorem dL_law_458 : decode cL_law 458 = .ok (.iconst 1, 1) := dk_4 (dk_at dksL_law_14 3 rfl rfl)
theorem dL_law_459 : decode cL_law 459 = .ok (.iadd, 1) := dk_96 (dk_at dksL_law_14 4 rfl rfl)
theorem dL_law_460 : decode cL_law 460 = .ok (.iaload, 1) := dk_46 (dk_at dksL_law_14 5 rfl rfl)
theorem dL_law_461 : decode cL_law 461 = .ok (.invokevirtual 52, 3) := dk_182 0 52 (dk_at dksL_law_14 6 rfl rfl)
theorem dL_law_464 : decode cL_law 464 = .ok (.aload_n 2, 1) := dk_44 (dk_at dksL_law_14 9 rfl rfl)
theorem dL_law_465 : decode cL_law 465 = .ok (.aload_n 0, 1) := dk_42 (dk_at dksL_law_14 10 rfl rfl)
theorem dL_law_466 : decode cL_law 466 = .ok (.iload_n 3, 1) := dk_29 (dk_at dksL_law_14 11 rfl rfl)
theorem dL_law_467 : decode cL_law 467 = .ok (.iconst 1, 1) := dk_4 (dk_at dksL_law_14 12 rfl rfl)
theorem dL_law_468 : decode cL_law 468 = .ok (.iadd, 1) := dk_96 (dk_at dksL_law_14 13 rfl rfl)
theorem dL_law_469 : decode cL_law 469 = .ok (.iaload, 1) := dk_46 (dk_at dksL_law_14 14 rfl rfl)
theorem dL_law_470 : decode cL_law 470 = .ok (.invokevirtual 55, 3) := dk_182 0 55 (dk_at dksL_law_14 15 rfl rfl)
theorem dL_law_473 : decode cL_law 473 = .ok (.if_icmp .eq 587, 3) := dk_159 2 75 (dk_at dksL_law_14 18 rfl rfl)
theorem dL_law_476 : decode cL_law 476 = .ok (.iconst 0, 1) := dk_3 (dk_at dksL_law_14 21 rfl rfl)
theorem dL_law_477 : decode cL_law 477 = .ok (.ireturn, 1) := dk_172 (dk_at dksL_law_14 22 rfl rfl)
theorem dL_law_478 : decode cL_law 478 = .ok (.aload_n 1, 1) := dk_43 (dk_at dksL_law_14 23 rfl rfl)
theorem dL_law_479 : decode cL_law 479 = .ok (.aload_n 0, 1) := dk_42 (dk_at dksL_law_15 0 rfl rfl)
theorem dL_law_480 : decode cL_law 480 = .ok (.iload_n 3, 1) := dk_29 (dk_at dksL_law_15 1 rfl rfl)
theorem dL_law_481 : decode cL_law 481 = .ok (.iconst 1, 1) := dk_4 (dk_at dksL_law_15 2 rfl rfl)
theorem dL_law_482 : decode cL_law 482 = .ok (.iadd, 1) := dk_96 (dk_at dksL_law_15 3 rfl rfl)
theorem dL_law_483 : decode cL_law 483 = .ok (.iaload, 1) := dk_46 (dk_at dksL_law_15 4 rfl rfl)
theorem dL_law_484 : decode cL_law 484 = .ok (.aload_n 0, 1) := dk_42 (dk_at dksL_law_15 5 rfl rfl)
theorem dL_law_485 : decode cL_law 485 = .ok (.iload_n 3, 1) := dk_29 (dk_at dksL_law_15 6 rfl rfl)
theorem dL_law_486 : decode cL_law 486 = .ok (.iconst 2, 1) := dk_5 (dk_at dksL_law_15 7 rfl rfl)
theorem dL_law_487 : decode cL_law 487 = .ok (.iadd, 1) := dk_96 (dk_at dksL_law_15 8 rfl rfl)
theorem dL_law_488 : decode cL_law 488 = .ok (.iaload, 1) := dk_46 (dk_at dksL_law_15 9 rfl rfl)
theorem dL_law_489 : decode cL_law 489 = .ok (.invokevirtual 56, 3) := dk_182 0 56 (dk_at dksL_law_15 10 rfl rfl)
theorem dL_law_492 : decode cL_law 492 = .ok (.aload_n 2, 1) := dk_44 (dk_at dksL_law_15 13 rfl rfl)
theorem dL_law_493 : decode cL_law 493 = .ok (.aload_n 0, 1) := dk_42 (dk_at dksL_law_15 14 rfl rfl)
theorem dL_law_494 : decode cL_law 494 = .ok (.iload_n 3, 1) := dk_29 (dk_at dksL_law_15 15 rfl rfl)
theorem dL_law_495 : decode cL_law 495 = .ok (.iconst 1, 1) := dk_4 (dk_at dksL_law_15 16 rfl rfl)
theorem dL_law_496 : decode cL_law 496 = .ok (.iadd, 1) := dk_96 (dk_at dksL_law_15 17 rfl rfl)
theorem dL_law_497 : decode cL_law 497 = .ok (.iaload, 1) := dk_46 (dk_at dksL_law_15 18 rfl rfl)
theorem dL_law_498 : decode cL_law 498 = .ok (.aload_n 0, 1) := dk_42 (dk_at dksL_law_15 19 rfl rfl)
theorem dL_law_499 : decode cL_law 499 = .ok (.iload_n 3, 1) := dk_29 (dk_at dksL_law_15 20 rfl rfl)
theorem dL_law_500 : decode cL_law 500 = .ok (.iconst 2, 1) := dk_5 (dk_at dksL_law_15 21 rfl rfl)
theorem dL_law_501 : decode cL_law 501 = .ok (.iadd, 1) := dk_96 (dk_at dksL_law_15 22 rfl rfl)
theorem dL_law_502 : decode cL_law 502 = .ok (.iaload, 1) := dk_46 (dk_at dksL_law_15 23 rfl rfl)
theorem dL_law_503 : decode cL_law 503 = .ok (.invokevirtual 59, 3) := dk_182 0 59 (dk_at dksL_law_16 0 rfl rfl)
theorem dL_law_506 : decode cL_law 506 = .ok (.if_icmp .eq 554, 3) := dk_159 2 42 (dk_at dksL_law_16 3 rfl rfl)
theorem dL_law_509 : decode cL_law 509 = .ok (.iconst 0, 1) := dk_3 (dk_at dksL_law_16 6 rfl rfl)
theorem dL_law_510 : decode cL_law 510 = .ok (.ireturn, 1) := dk_172 (dk_at dksL_law_16 7 rfl rfl)
theorem dL_law_511 : decode cL_law 511 = .ok (.aload_n 1, 1) := dk_43 (dk_at dksL_law_16 8 rfl rfl)
theorem dL_law_512 : decode cL_law 512 = .ok (.aload_n 0, 1) := dk_42 (dk_at dksL_law_16 9 rfl rfl)
theorem dL_law_513 : decode cL_law 513 = .ok (.iload_n 3, 1) := dk_29 (dk_at dksL_law_16 10 rfl rfl)
theorem dL_law_514 : decode cL_law 514 = .ok (.iconst 1, 1) := dk_4 (dk_at dksL_law_16 11 rfl rfl)
theorem dL_law_515 : decode cL_law 515 = .ok (.iadd, 1) := dk_96 (dk_at dksL_law_16 12 rfl rfl)
theorem dL_law_516 : decode cL_law 516 = .ok (.iaload, 1) := dk_46 (dk_at dksL_law_16 13 rfl rfl)
theorem dL_law_517 : decode cL_law 517 = .ok (.aload_n 0, 1) := dk_42 (dk_at dksL_law_16 14 rfl rfl)
theorem dL_law_518 : decode cL_law 518 = .ok (.iload_n 3, 1) := dk_29 (dk_at dksL_law_16 15 rfl rfl)
theorem dL_law_519 : decode cL_law 519 = .ok (.iconst 2, 1) := dk_5 (dk_at dksL_law_16 16 rfl rfl)
theorem dL_law_520 : decode cL_law 520 = .ok (.iadd, 1) := dk_96 (dk_at dksL_law_16 17 rfl rfl)
theorem dL_law_521 : decode cL_law 521 = .ok (.iaload, 1) := dk_46 (dk_at dksL_law_16 18 rfl rfl)
theorem dL_law_522 : decode cL_law 522 = .ok (.invokevirtual 60, 3) := dk_182 0 60 (dk_at dksL_law_16 19 rfl rfl)
theorem dL_law_525 : decode cL_law 525 = .ok (.aload_n 2, 1) := dk_44 (dk_at dksL_law_16 22 rfl rfl)
theorem dL_law_526 : decode cL_law 526 = .ok (.aload_n 0, 1) := dk_42 (dk_at dksL_law_16 23 rfl rfl)
theorem dL_law_527 : decode cL_law 527 = .ok (.iload_n 3, 1) := dk_29 (dk_at dksL_law_17 0 rfl rfl)
theorem dL_law_528 : decode cL_law 528 = .ok (.iconst 1, 1) := dk_4 (dk_at dksL_law_17 1 rfl rfl)
theorem dL_law_529 : decode cL_law 529 = .ok (.iadd, 1) := dk_96 (dk_at dksL_law_17 2 rfl rfl)
theorem dL_law_530 : decode cL_law 530 = .ok (.iaload, 1) := dk_46 (dk_at dksL_law_17 3 rfl rfl)
theorem dL_law_531 : decode cL_law 531 = .ok (.aload_n 0, 1) := dk_42 (dk_at dksL_law_17 4 rfl rfl)
theorem dL_law_532 : decode cL_law 532 = .ok (.iload_n 3, 1) := dk_29 (dk_at dksL_law_17 5 rfl rfl)
theorem dL_law_533 : decode cL_law 533 = .ok (.iconst 2, 1) := dk_5 (dk_at dksL_law_17 6 rfl rfl)
theorem dL_law_534 : decode cL_law 534 = .ok (.iadd, 1) := dk_96 (dk_at dksL_law_17 7 rfl rfl)
theorem dL_law_535 : decode cL_law 535 = .ok (.iaload, 1) := dk_46 (dk_at dksL_law_17 8 rfl rfl)
theorem dL_law_536 : decode cL_law 536 = .ok (.invokevirtual 63, 3) := dk_182 0 63 (dk_at dksL_law_17 9 rfl rfl)
theorem dL_law_539 : decode cL_law 539 = .ok (.if_icmp .eq 521, 3) := dk_159 2 9 (dk_at dksL_law_17 12 rfl rfl)
theorem dL_law_542 : decode cL_law 542 = .ok (.iconst 0, 1) := dk_3 (dk_at dksL_law_17 15 rfl rfl)
theorem dL_law_543 : decode cL_law 543 = .ok (.ireturn, 1) := dk_172 (dk_at dksL_law_17 16 rfl rfl)
theorem dL_law_544 : decode cL_law 544 = .ok (.aload_n 1, 1) := dk_43 (dk_at dksL_law_17 17 rfl rfl)
theorem dL_law_545 : decode cL_law 545 = .ok (.aload_n 0, 1) := dk_42 (dk_at dksL_law_17 18 rfl rfl)
theorem dL_law_546 : decode cL_law 546 = .ok (.iload_n 3, 1) := dk_29 (dk_at dksL_law_17 19 rfl rfl)
theorem dL_law_547 : decode cL_law 547 = .ok (.iconst 1, 1) := dk_4 (dk_at dksL_law_17 20 rfl rfl)
theorem dL_law_548 : decode cL_law 548 = .ok (.iadd, 1) := dk_96 (dk_at dksL_law_17 21 rfl rfl)
theorem dL_law_549 : decode cL_law 549 = .ok (.iaload, 1) := dk_46 (dk_at dksL_law_17 22 rfl rfl)
theorem dL_law_550 : decode cL_law 550 = .ok (.invokevirtual 64, 3) := dk_182 0 64 (dk_at dksL_law_18 0 rfl rfl)
theorem dL_law_553 : decode cL_law 553 = .ok (.aload_n 2, 1) := dk_44 (dk_at dksL_law_18 3 rfl rfl)
theorem dL_law_554 : decode cL_law 554 = .ok (.aload_n 0, 1) := dk_42 (dk_at dksL_law_18 4 rfl rfl)
theorem dL_law_555 : decode cL_law 555 = .ok (.iload_n 3, 1) := dk_29 (dk_at dksL_law_18 5 rfl rfl)
theorem dL_law_556 : decode cL_law 556 = .ok (.iconst 1, 1) := dk_4 (dk_at dksL_law_18 6 rfl rfl)
theorem dL_law_557 : decode cL_law 557 = .ok (.iadd, 1) := dk_96 (dk_at dksL_law_18 7 rfl rfl)
theorem dL_law_558 : decode cL_law 558 = .ok (.iaload, 1) := dk_46 (dk_at dksL_law_18 8 rfl rfl)
theorem dL_law_559 : decode cL_law 559 = .ok (.invokevirtual 67, 3) := dk_182 0 67 (dk_at dksL_law_18 9 rfl rfl)
theorem dL_law_562 : decode cL_law 562 = .ok (.if_icmp .eq 498, 3) := dk_159 1 242 (dk_at dksL_law_18 12 rfl rfl)
theorem dL_law_565 : decode cL_law 565 = .ok (.iconst 0, 1) := dk_3 (dk_at dksL_law_18 15 rfl rfl)
theorem dL_law_566 : decode cL_law 566 = .ok (.ireturn, 1) := dk_172 (dk_at dksL_law_18 16 rfl rfl)
theorem dL_law_567 : decode cL_law 567 = .ok (.aload_n 1, 1) := dk_43 (dk_at dksL_law_18 17 rfl rfl)
theorem dL_law_568 : decode cL_law 568 = .ok (.invokevirtual 68, 3) := dk_182 0 68 (dk_at dksL_law_18 18 rfl rfl)
theorem dL_law_571 : decode cL_law 571 = .ok (.aload_n 2, 1) := dk_44 (dk_at dksL_law_18 21 rfl rfl)
theorem dL_law_572 : decode cL_law 572 = .ok (.invokevirtual 72, 3) := dk_182 0 72 (dk_at dksL_law_19 0 rfl rfl)
theorem dL_law_575 : decode cL_law 575 = .ok (.if_icmp .eq 485, 3) := dk_159 1 229 (dk_at dksL_law_19 3 rfl rfl)
theorem dL_law_578 : decode cL_law 578 = .ok (.iconst 0, 1) := dk_3 (dk_at dksL_law_19 6 rfl rfl)
theorem dL_law_579 : decode cL_law 579 = .ok (.ireturn, 1) := dk_172 (dk_at dksL_law_19 7 rfl rfl)
theorem dL_law_580 : decode cL_law 580 = .ok (.aload_n 1, 1) := dk_43 (dk_at dksL_law_19 8 rfl rfl)
theorem dL_law_581 : decode cL_law 581 = .ok (.invokevirtual 73, 3) := dk_182 0 73 (dk_at dksL_law_19 9 rfl rfl)
theorem dL_law_584 : decode cL_law 584 = .ok (.aload_n 2, 1) := dk_44 (dk_at dksL_law_19 12 rfl rfl)
theorem dL_law_585 : decode cL_law 585 = .ok (.invokevirtual 76, 3) := dk_182 0 76 (dk_at dksL_law_19 13 rfl rfl)
theorem dL_law_588 : decode cL_law 588 = .ok (.if_icmp .eq 472, 3) := dk_159 1 216 (dk_at dksL_law_19 16 rfl rfl)
theorem dL_law_591 : decode cL_law 591 = .ok (.iconst 0, 1) := dk_3 (dk_at dksL_law_19 19 rfl rfl)
theorem dL_law_592 : decode cL_law 592 = .ok (.ireturn, 1) := dk_172 (dk_at dksL_law_19 20 rfl rfl)
theorem dL_law_593 : decode cL_law 593 = .ok (.aload_n 1, 1) := dk_43 (dk_at dksL_law_19 21 rfl rfl)
theorem dL_law_594 : decode cL_law 594 = .ok (.aload_n 0, 1) := dk_42 (dk_at dksL_law_19 22 rfl rfl)
theorem dL_law_595 : decode cL_law 595 = .ok (.iload_n 3, 1) := dk_29 (dk_at dksL_law_19 23 rfl rfl)
theorem dL_law_596 : decode cL_law 596 = .ok (.iconst 1, 1) := dk_4 (dk_at dksL_law_20 0 rfl rfl)
theorem dL_law_597 : decode cL_law 597 = .ok (.iadd, 1) := dk_96 (dk_at dksL_law_20 1 rfl rfl)
theorem dL_law_598 : decode cL_law 598 = .ok (.iaload, 1) := dk_46 (dk_at dksL_law_20 2 rfl rfl)
theorem dL_law_599 : decode cL_law 599 = .ok (.invokevirtual 77, 3) := dk_182 0 77 (dk_at dksL_law_20 3 rfl rfl)
theorem dL_law_602 : decode cL_law 602 = .ok (.aload_n 2, 1) := dk_44 (dk_at dksL_law_20 6 rfl rfl)
theorem dL_law_603 : decode cL_law 603 = .ok (.aload_n 0, 1) := dk_42 (dk_at dksL_law_20 7 rfl rfl)
theorem dL_law_604 : decode cL_law 604 = .ok (.iload_n 3, 1) := dk_29 (dk_at dksL_law_20 8 rfl rfl)
theorem dL_law_605 : decode cL_law 605 = .ok (.iconst 1, 1) := dk_4 (dk_at dksL_law_20 9 rfl rfl)
theorem dL_law_606 : decode cL_law 606 = .ok (.iadd, 1) := dk_96 (dk_at dksL_law_20 10 rfl rfl)
theorem dL_law_607 : decode cL_law 607 = .ok (.iaload, 1) := dk_46 (dk_at dksL_law_20 11 rfl rfl)
theorem dL_law_608 : decode cL_law 608 = .ok (.invokevirtual 80, 3) := dk_182 0 80 (dk_at dksL_law_20 12 rfl rfl)
theorem dL_law_611 : decode cL_law 611 = .ok (.if_icmp .eq 449, 3) := dk_159 1 193 (dk_at dksL_law_20 15 rfl rfl)
theorem dL_law_614 : decode cL_law 614 = .ok (.iconst 0, 1) := dk_3 (dk_at dksL_law_20 18 rfl rfl)
theorem dL_law_615 : decode cL_law 615 = .ok (.ireturn, 1) := dk_172 (dk_at dksL_law_20 19 rfl rfl)
theorem dL_law_616 : decode cL_law 616 = .ok (.aload_n 1, 1) := dk_43 (dk_at dksL_law_20 20 rfl rfl)
theorem dL_law_617 : decode cL_law 617 = .ok (.aload_n 0, 1) := dk_42 (dk_at dksL_law_20 21 rfl rfl)
theorem dL_law_618 : decode cL_law 618 = .ok (.iload_n 3, 1) := dk_29 (dk_at dksL_law_20 22 rfl rfl)
theorem dL_law_619 : decode cL_law 619 = .ok (.iconst 1, 1) := dk_4 (dk_at dksL_law_20 23 rfl rfl)
theorem dL_law_620 : decode cL_law 620 = .ok (.iadd, 1) := dk_96 (dk_at dksL_law_21 0 rfl rfl)
theorem dL_law_621 : decode cL_law 621 = .ok (.iaload, 1) := dk_46 (dk_at dksL_law_21 1 rfl rfl)
theorem dL_law_622 : decode cL_law 622 = .ok (.invokevirtual 81, 3) := dk_182 0 81 (dk_at dksL_law_21 2 rfl rfl)
theorem dL_law_625 : decode cL_law 625 = .ok (.aload_n 2, 1) := dk_44 (dk_at dksL_law_21 5 rfl rfl)
theorem dL_law_626 : decode cL_law 626 = .ok (.aload_n 0, 1) := dk_42 (dk_at dksL_law_21 6 rfl rfl)
theorem dL_law_627 : decode cL_law 627 = .ok (.iload_n 3, 1) := dk_29 (dk_at dksL_law_21 7 rfl rfl)
theorem dL_law_628 : decode cL_law 628 = .ok (.iconst 1, 1) := dk_4 (dk_at dksL_law_21 8 rfl rfl)
theorem dL_law_629 : decode cL_law 629 = .ok (.iadd, 1) := dk_96 (dk_at dksL_law_21 9 rfl rfl)
theorem dL_law_630 : decode cL_law 630 = .ok (.iaload, 1) := dk_46 (dk_at dksL_law_21 10 rfl rfl)
theorem dL_law_631 : decode cL_law 631 = .ok (.invokevirtual 84, 3) := dk_182 0 84 (dk_at dksL_law_21 11 rfl rfl)
theorem dL_law_634 : decode cL_law 634 = .ok (.if_icmp .eq 426, 3) := dk_159 1 170 (dk_at dksL_law_21 14 rfl rfl)
theorem dL_law_637 : decode cL_law 637 = .ok (.iconst 0, 1) := dk_3 (dk_at dksL_law_21 17 rfl rfl)
theorem dL_law_638 : decode cL_law 638 = .ok (.ireturn, 1) := dk_172 (dk_at dksL_law_21 18 rfl rfl)
theorem dL_law_639 : decode cL_law 639 = .ok (.aload_n 1, 1) := dk_43 (dk_at dksL_law_21 19 rfl rfl)
theorem dL_law_640 : decode cL_law 640 = .ok (.aload_n 0, 1) := dk_42 (dk_at dksL_law_21 20 rfl rfl)
theorem dL_law_641 : decode cL_law 641 = .ok (.iload_n 3, 1) := dk_29 (dk_at dksL_law_21 21 rfl rfl)
theorem dL_law_642 : decode cL_law 642 = .ok (.iconst 1, 1) := dk_4 (dk_at dksL_law_21 22 rfl rfl)
theorem dL_law_643 : decode cL_law 643 = .ok (.iadd, 1) := dk_96 (dk_at dksL_law_21 23 rfl rfl)
theorem dL_law_644 : decode cL_law 644 = .ok (.iaload, 1) := dk_46 (dk_at dksL_law_22 0 rfl rfl)
theorem dL_law_645 : decode cL_law 645 = .ok (.invokevirtual 85, 3) := dk_182 0 85 (dk_at dksL_law_22 1 rfl rfl)
theorem dL_law_648 : decode cL_law 648 = .ok (.aload_n 2, 1) := dk_44 (dk_at dksL_law_22 4 rfl rfl)
theorem dL_law_649 : decode cL_law 649 = .ok (.aload_n 0, 1) := dk_42 (dk_at dksL_law_22 5 rfl rfl)
theorem dL_law_650 : decode cL_law 650 = .ok (.iload_n 3, 1) := dk_29 (dk_at dksL_law_22 6 rfl rfl)
theorem dL_law_651 : decode cL_law 651 = .ok (.iconst 1, 1) := dk_4 (dk_at dksL_law_22 7 rfl rfl)
theorem dL_law_652 : decode cL_law 652 = .ok (.iadd, 1) := dk_96 (dk_at dksL_law_22 8 rfl rfl)
theorem dL_law_653 : decode cL_law 653 = .ok (.iaload, 1) := dk_46 (dk_at dksL_law_22 9 rfl rfl)
theorem dL_law_654 : decode cL_law 654 = .ok (.invokevirtual 88, 3) := dk_182 0 88 (dk_at dksL_law_22 10 rfl rfl)
theorem dL_law_657 : decode cL_law 657 = .ok (.if_icmp .eq 403, 3) := dk_159 1 147 (dk_at dksL_law_22 13 rfl rfl)
theorem dL_law_660 : decode cL_law 660 = .ok (.iconst 0, 1) := dk_3 (dk_at dksL_law_22 16 rfl rfl)
theorem dL_law_661 : decode cL_law 661 = .ok (.ireturn, 1) := dk_172 (dk_at dksL_law_22 17 rfl rfl)
theorem dL_law_662 : decode cL_law 662 = .ok (.aload_n 1, 1) := dk_43 (dk_at dksL_law_22 18 rfl rfl)
theorem dL_law_663 : decode cL_law 663 = .ok (.aload_n 0, 1) := dk_42 (dk_at dksL_law_22 19 rfl rfl)
theorem dL_law_664 : decode cL_law 664 = .ok (.iload_n 3, 1) := dk_29 (dk_at dksL_law_22 20 rfl rfl)
theorem dL_law_665 : decode cL_law 665 = .ok (.iconst 1, 1) := dk_4 (dk_at dksL_law_22 21 rfl rfl)
theorem dL_law_666 : decode cL_law 666 = .ok (.iadd, 1) := dk_96 (dk_at dksL_law_22 22 rfl rfl)
theorem dL_law_667 : decode cL_law 667 = .ok (.iaload, 1) := dk_46 (dk_at dksL_law_22 23 rfl rfl)
theorem dL_law_668 : decode cL_law 668 = .ok (.invokevirtual 89, 3) := dk_182 0 89 (dk_at dksL_law_23 0 rfl rfl)
theorem dL_law_671 : decode cL_law 671 = .ok (.aload_n 2, 1) := dk_44 (dk_at dksL_law_23 3 rfl rfl)
theorem dL_law_672 : decode cL_law 672 = .ok (.aload_n 0, 1) := dk_42 (dk_at dksL_law_23 4 rfl rfl)
theorem dL_law_673 : decode cL_law 673 = .ok (.iload_n 3, 1) := dk_29 (dk_at dksL_law_23 5 rfl rfl)
theorem dL_law_674 : decode cL_law 674 = .ok (.iconst 1, 1) := dk_4 (dk_at dksL_law_23 6 rfl rfl)
theorem dL_law_675 : decode cL_law 675 = .ok (.iadd, 1) := dk_96 (dk_at dksL_law_23 7 rfl rfl)
theorem dL_law_676 : decode cL_law 676 = .ok (.iaload, 1) := dk_46 (dk_at dksL_law_23 8 rfl rfl)
theorem dL_law_677 : decode cL_law 677 = .ok (.invokevirtual 92, 3) := dk_182 0 92 (dk_at dksL_law_23 9 rfl rfl)
theorem dL_law_680 : decode cL_law 680 = .ok (.if_icmp .eq 380, 3) := dk_159 1 124 (dk_at dksL_law_23 12 rfl rfl)
theorem dL_law_683 : decode cL_law 683 = .ok (.iconst 0, 1) := dk_3 (dk_at dksL_law_23 15 rfl rfl)
theorem dL_law_684 : decode cL_law 684 = .ok (.ireturn, 1) := dk_172 (dk_at dksL_law_23 16 rfl rfl)
theorem dL_law_685 : decode cL_law 685 = .ok (.aload_n 1, 1) := dk_43 (dk_at dksL_law_23 17 rfl rfl)
theorem dL_law_686 : decode cL_law 686 = .ok (.aload_n 0, 1) := dk_42 (dk_at dksL_law_23 18 rfl rfl)
theorem dL_law_687 : decode cL_law 687 = .ok (.iload_n 3, 1) := dk_29 (dk_at dksL_law_23 19 rfl rfl)
theorem dL_law_688 : decode cL_law 688 = .ok (.iconst 1, 1) := dk_4 (dk_at dksL_law_23 20 rfl rfl)
theorem dL_law_689 : decode cL_law 689 = .ok (.iadd, 1) := dk_96 (dk_at dksL_law_23 21 rfl rfl)
theorem dL_law_690 : decode cL_law 690 = .ok (.iaload, 1) := dk_46 (dk_at dksL_law_23 22 rfl rfl)
theorem dL_law_691 : decode cL_law 691 = .ok (.invokevirtual 93, 3) := dk_182 0 93 (dk_at dksL_law_24 0 rfl rfl)
theorem dL_law_694 : decode cL_law 694 = .ok (.aload_n 2, 1) := dk_44 (dk_at dksL_law_24 3 rfl rfl)
theorem dL_law_695 : decode cL_law 695 = .ok (.aload_n 0, 1) := dk_42 (dk_at dksL_law_24 4 rfl rfl)
theorem dL_law_696 : decode cL_law 696 = .ok (.iload_n 3, 1) := dk_29 (dk_at dksL_law_24 5 rfl rfl)
theorem dL_law_697 : decode cL_law 697 = .ok (.iconst 1, 1) := dk_4 (dk_at dksL_law_24 6 rfl rfl)
theorem dL_law_698 : decode cL_law 698 = .ok (.iadd, 1) := dk_96 (dk_at dksL_law_24 7 rfl rfl)
theorem dL_law_699 : decode cL_law 699 = .ok (.iaload, 1) := dk_46 (dk_at dksL_law_24 8 rfl rfl)
theorem dL_law_700 : decode cL_law 700 = .ok (.invokevirtual 96, 3) := dk_182 0 96 (dk_at dksL_law_24 9 rfl rfl)
theorem dL_law_703 : decode cL_law 703 = .ok (.if_icmp .eq 357, 3) := dk_159 1 101 (dk_at dksL_law_24 12 rfl rfl)
theorem dL_law_706 : decode cL_law 706 = .ok (.iconst 0, 1) := dk_3 (dk_at dksL_law_24 15 rfl rfl)
theorem dL_law_707 : decode cL_law 707 = .ok (.ireturn, 1) := dk_172 (dk_at dksL_law_24 16 rfl rfl)
theorem dL_law_708 : decode cL_law 708 = .ok (.aload_n 1, 1) := dk_43 (dk_at dksL_law_24 17 rfl rfl)
theorem dL_law_709 : decode cL_law 709 = .ok (.invokevirtual 97, 3) := dk_182 0 97 (dk_at dksL_law_24 18 rfl rfl)
theorem dL_law_712 : decode cL_law 712 = .ok (.aload_n 2, 1) := dk_44 (dk_at dksL_law_24 21 rfl rfl)
theorem dL_law_713 : decode cL_law 713 = .ok (.invokevirtual 100, 3) := dk_182 0 100 (dk_at dksL_law_25 0 rfl rfl)
theorem dL_law_716 : decode cL_law 716 = .ok (.if_icmp .eq 344, 3) := dk_159 1 88 (dk_at dksL_law_25 3 rfl rfl)
theorem dL_law_719 : decode cL_law 719 = .ok (.iconst 0, 1) := dk_3 (dk_at dksL_law_25 6 rfl rfl)
theorem dL_law_720 : decode cL_law 720 = .ok (.ireturn, 1) := dk_172 (dk_at dksL_law_25 7 rfl rfl)
theorem dL_law_721 : decode cL_law 721 = .ok (.aload_n 1, 1) := dk_43 (dk_at dksL_law_25 8 rfl rfl)
theorem dL_law_722 : decode cL_law 722 = .ok (.aload_n 0, 1) := dk_42 (dk_at dksL_law_25 9 rfl rfl)
theorem dL_law_723 : decode cL_law 723 = .ok (.iload_n 3, 1) := dk_29 (dk_at dksL_law_25 10 rfl rfl)
theorem dL_law_724 : decode cL_law 724 = .ok (.iconst 1, 1) := dk_4 (dk_at dksL_law_25 11 rfl rfl)
theorem dL_law_725 : decode cL_law 725 = .ok (.iadd, 1) := dk_96 (dk_at dksL_law_25 12 rfl rfl)
theorem dL_law_726 : decode cL_law 726 = .ok (.iaload, 1) := dk_46 (dk_at dksL_law_25 13 rfl rfl)
theorem dL_law_727 : decode cL_law 727 = .ok (.aload_n 0, 1) := dk_42 (dk_at dksL_law_25 14 rfl rfl)
theorem dL_law_728 : decode cL_law 728 = .ok (.iload_n 3, 1) := dk_29 (dk_at dksL_law_25 15 rfl rfl)
theorem dL_law_729 : decode cL_law 729 = .ok (.iconst 2, 1) := dk_5 (dk_at dksL_law_25 16 rfl rfl)
theorem dL_law_730 : decode cL_law 730 = .ok (.iadd, 1) := dk_96 (dk_at dksL_law_25 17 rfl rfl)
theorem dL_law_731 : decode cL_law 731 = .ok (.iaload, 1) := dk_46 (dk_at dksL_law_25 18 rfl rfl)
theorem dL_law_732 : decode cL_law 732 = .ok (.invokevirtual 101, 3) := dk_182 0 101 (dk_at dksL_law_25 19 rfl rfl)
theorem dL_law_735 : decode cL_law 735 = .ok (.aload_n 2, 1) := dk_44 (dk_at dksL_law_25 22 rfl rfl)
theorem dL_law_736 : decode cL_law 736 = .ok (.aload_n 0, 1) := dk_42 (dk_at dksL_law_25 23 rfl rfl)
theorem dL_law_737 : decode cL_law 737 = .ok (.iload_n 3, 1) := dk_29 (dk_at dksL_law_26 0 rfl rfl)
theorem dL_law_738 : decode cL_law 738 = .ok (.iconst 1, 1) := dk_4 (dk_at dksL_law_26 1 rfl rfl)
theorem dL_law_739 : decode cL_law 739 = .ok (.iadd, 1) := dk_96 (dk_at dksL_law_26 2 rfl rfl)
theorem dL_law_740 : decode cL_law 740 = .ok (.iaload, 1) := dk_46 (dk_at dksL_law_26 3 rfl rfl)
theorem dL_law_741 : decode cL_law 741 = .ok (.aload_n 0, 1) := dk_42 (dk_at dksL_law_26 4 rfl rfl)
theorem dL_law_742 : decode cL_law 742 = .ok (.iload_n 3, 1) := dk_29 (dk_at dksL_law_26 5 rfl rfl)
theorem dL_law_743 : decode cL_law 743 = .ok (.iconst 2, 1) := dk_5 (dk_at dksL_law_26 6 rfl rfl)
theorem dL_law_744 : decode cL_law 744 = .ok (.iadd, 1) := dk_96 (dk_at dksL_law_26 7 rfl rfl)
theorem dL_law_745 : decode cL_law 745 = .ok (.iaload, 1) := dk_46 (dk_at dksL_law_26 8 rfl rfl)
theorem dL_law_746 : decode cL_law 746 = .ok (.invokevirtual 104, 3) := dk_182 0 104 (dk_at dksL_law_26 9 rfl rfl)
theorem dL_law_749 : decode cL_law 749 = .ok (.if_icmp .eq 311, 3) := dk_159 1 55 (dk_at dksL_law_26 12 rfl rfl)
theorem dL_law_752 : decode cL_law 752 = .ok (.iconst 0, 1) := dk_3 (dk_at dksL_law_26 15 rfl rfl)
theorem dL_law_753 : decode cL_law 753 = .ok (.ireturn, 1) := dk_172 (dk_at dksL_law_26 16 rfl rfl)
theorem dL_law_754 : decode cL_law 754 = .ok (.aload_n 1, 1) := dk_43 (dk_at dksL_law_26 17 rfl rfl)
theorem dL_law_755 : decode cL_law 755 = .ok (.aload_n 0, 1) := dk_42 (dk_at dksL_law_26 18 rfl rfl)
theorem dL_law_756 : decode cL_law 756 = .ok (.iload_n 3, 1) := dk_29 (dk_at dksL_law_26 19 rfl rfl)
theorem dL_law_757 : decode cL_law 757 = .ok (.iconst 1, 1) := dk_4 (dk_at dksL_law_26 20 rfl rfl)
theorem dL_law_758 : decode cL_law 758 = .ok (.iadd, 1) := dk_96 (dk_at dksL_law_26 21 rfl rfl)
theorem dL_law_759 : decode cL_law 759 = .ok (.iaload, 1) := dk_46 (dk_at dksL_law_26 22 rfl rfl)
theorem dL_law_760 : decode cL_law 760 = .ok (.invokevirtual 105, 3) := dk_182 0 105 (dk_at dksL_law_27 0 rfl rfl)
theorem dL_law_763 : decode cL_law 763 = .ok (.aload_n 2, 1) := dk_44 (dk_at dksL_law_27 3 rfl rfl)
theorem dL_law_764 : decode cL_law 764 = .ok (.aload_n 0, 1) := dk_42 (dk_at dksL_law_27 4 rfl rfl)
theorem dL_law_765 : decode cL_law 765 = .ok (.iload_n 3, 1) := dk_29 (dk_at dksL_law_27 5 rfl rfl)
theorem dL_law_766 : decode cL_law 766 = .ok (.iconst 1, 1) := dk_4 (dk_at dksL_law_27 6 rfl rfl)
theorem dL_law_767 : decode cL_law 767 = .ok (.iadd, 1) := dk_96 (dk_at dksL_law_27 7 rfl rfl)
theorem dL_law_768 : decode cL_law 768 = .ok (.iaload, 1) := dk_46 (dk_at dksL_law_27 8 rfl rfl)
theorem dL_law_769 : decode cL_law 769 = .ok (.invokevirtual 108, 3) := dk_182 0 108 (dk_at dksL_law_27 9 rfl rfl)
theorem dL_law_772 : decode cL_law 772 = .ok (.if_icmp .eq 288, 3) := dk_159 1 32 (dk_at dksL_law_27 12 rfl rfl)
theorem dL_law_775 : decode cL_law 775 = .ok (.iconst 0, 1) := dk_3 (dk_at dksL_law_27 15 rfl rfl)
theorem dL_law_776 : decode cL_law 776 = .ok (.ireturn, 1) := dk_172 (dk_at dksL_law_27 16 rfl rfl)
theorem dL_law_777 : decode cL_law 777 = .ok (.aload_n 1, 1) := dk_43 (dk_at dksL_law_27 17 rfl rfl)
theorem dL_law_778 : decode cL_law 778 = .ok (.aload_n 0, 1) := dk_42 (dk_at dksL_law_27 18 rfl rfl)
theorem dL_law_779 : decode cL_law 779 = .ok (.iload_n 3, 1) := dk_29 (dk_at dksL_law_27 19 rfl rfl)
theorem dL_law_780 : decode cL_law 780 = .ok (.iconst 1, 1) := dk_4 (dk_at dksL_law_27 20 rfl rfl)
theorem dL_law_781 : decode cL_law 781 = .ok (.iadd, 1) := dk_96 (dk_at dksL_law_27 21 rfl rfl)
theorem dL_law_782 : decode cL_law 782 = .ok (.iaload, 1) := dk_46 (dk_at dksL_law_27 22 rfl rfl)
theorem dL_law_783 : decode cL_law 783 = .ok (.invokevirtual 109, 3) := dk_182 0 109 (dk_at dksL_law_28 0 rfl rfl)
theorem dL_law_786 : decode cL_law 786 = .ok (.aload_n 2, 1) := dk_44 (dk_at dksL_law_28 3 rfl rfl)
theorem dL_law_787 : decode cL_law 787 = .ok (.aload_n 0, 1) := dk_42 (dk_at dksL_law_28 4 rfl rfl)
theorem dL_law_788 : decode cL_law 788 = .ok (.iload_n 3, 1) := dk_29 (dk_at dksL_law_28 5 rfl rfl)
theorem dL_law_789 : decode cL_law 789 = .ok (.iconst 1, 1) := dk_4 (dk_at dksL_law_28 6 rfl rfl)
theorem dL_law_790 : decode cL_law 790 = .ok (.iadd, 1) := dk_96 (dk_at dksL_law_28 7 rfl rfl)
theorem dL_law_791 : decode cL_law 791 = .ok (.iaload, 1) := dk_46 (dk_at dksL_law_28 8 rfl rfl)
theorem dL_law_792 : decode cL_law 792 = .ok (.invokevirtual 112, 3) := dk_182 0 112 (dk_at dksL_law_28 9 rfl rfl)
theorem dL_law_795 : decode cL_law 795 = .ok (.if_icmp .eq 265, 3) := dk_159 1 9 (dk_at dksL_law_28 12 rfl rfl)
theorem dL_law_798 : decode cL_law 798 = .ok (.iconst 0, 1) := dk_3 (dk_at dksL_law_28 15 rfl rfl)
theorem dL_law_799 : decode cL_law 799 = .ok (.ireturn, 1) := dk_172 (dk_at dksL_law_28 16 rfl rfl)
theorem dL_law_800 : decode cL_law 800 = .ok (.aload_n 1, 1) := dk_43 (dk_at dksL_law_28 17 rfl rfl)
theorem dL_law_801 : decode cL_law 801 = .ok (.invokevirtual 113, 3) := dk_182 0 113 (dk_at dksL_law_28 18 rfl rfl)
theorem dL_law_804 : decode cL_law 804 = .ok (.aload_n 2, 1) := dk_44 (dk_at dksL_law_28 21 rfl rfl)
theorem dL_law_805 : decode cL_law 805 = .ok (.invokevirtual 116, 3) := dk_182 0 116 (dk_at dksL_law_29 0 rfl rfl)
theorem dL_law_808 : decode cL_law 808 = .ok (.if_icmp .eq 252, 3) := dk_159 0 252 (dk_at dksL_law_29 3 rfl rfl)
theorem dL_law_811 : decode cL_law 811 = .ok (.iconst 0, 1) := dk_3 (dk_at dksL_law_29 6 rfl rfl)
theorem dL_law_812 : decode cL_law 812 = .ok (.ireturn, 1) := dk_172 (dk_at dksL_law_29 7 rfl rfl)
theorem dL_law_813 : decode cL_law 813 = .ok (.aload_n 1, 1) := dk_43 (dk_at dksL_law_29 8 rfl rfl)
theorem dL_law_814 : decode cL_law 814 = .ok (.invokevirtual 117, 3) := dk_182 0 117 (dk_at dksL_law_29 9 rfl rfl)
theorem dL_law_817 : decode cL_law 817 = .ok (.aload_n 2, 1) := dk_44 (dk_at dksL_law_29 12 rfl rfl)
theorem dL_law_818 : decode cL_law 818 = .ok (.invokevirtual 120, 3) := dk_182 0 120 (dk_at dksL_law_29 13 rfl rfl)
theorem dL_law_821 : decode cL_law 821 = .ok (.if_icmp .eq 239, 3) := dk_159 0 239 (dk_at dksL_law_29 16 rfl rfl)
theorem dL_law_824 : decode cL_law 824 = .ok (.iconst 0, 1) := dk_3 (dk_at dksL_law_29 19 rfl rfl)
theorem dL_law_825 : decode cL_law 825 = .ok (.ireturn, 1) := dk_172 (dk_at dksL_law_29 20 rfl rfl)
theorem dL_law_826 : decode cL_law 826 = .ok (.aload_n 1, 1) := dk_43 (dk_at dksL_law_29 21 rfl rfl)
theorem dL_law_827 : decode cL_law 827 = .ok (.invokevirtual 121, 3) := dk_182 0 121 (dk_at dksL_law_30 0 rfl rfl)
theorem dL_law_830 : decode cL_law 830 = .ok (.aload_n 2, 1) := dk_44 (dk_at dksL_law_30 3 rfl rfl)
theorem dL_law_831 : decode cL_law 831 = .ok (.invokevirtual 124, 3) := dk_182 0 124 (dk_at dksL_law_30 4 rfl rfl)
theorem dL_law_834 : decode cL_law 834 = .ok (.if_icmp .eq 226, 3) := dk_159 0 226 (dk_at dksL_law_30 7 rfl rfl)
theorem dL_law_837 : decode cL_law 837 = .ok (.iconst 0, 1) := dk_3 (dk_at dksL_law_30 10 rfl rfl)
theorem dL_law_838 : decode cL_law 838 = .ok (.ireturn, 1) := dk_172 (dk_at dksL_law_30 11 rfl rfl)
theorem dL_law_839 : decode cL_law 839 = .ok (.aload_n 1, 1) := dk_43 (dk_at dksL_law_30 12 rfl rfl)
theorem dL_law_840 : decode cL_law 840 = .ok (.aload_n 0, 1) := dk_42 (dk_at dksL_law_30 13 rfl rfl)
theorem dL_law_841 : decode cL_law 841 = .ok (.iload_n 3, 1) := dk_29 (dk_at dksL_law_30 14 rfl rfl)
theorem dL_law_842 : decode cL_law 842 = .ok (.iconst 1, 1) := dk_4 (dk_at dksL_law_30 15 rfl rfl)
theorem dL_law_843 : decode cL_law 843 = .ok (.iadd, 1) := dk_96 (dk_at dksL_law_30 16 rfl rfl)
theorem dL_law_844 : decode cL_law 844 = .ok (.iaload, 1) := dk_46 (dk_at dksL_law_30 17 rfl rfl)
theorem dL_law_845 : decode cL_law 845 = .ok (.invokevirtual 125, 3) := dk_182 0 125 (dk_at dksL_law_30 18 rfl rfl)
theorem dL_law_848 : decode cL_law 848 = .ok (.aload_n 2, 1) := dk_44 (dk_at dksL_law_30 21 rfl rfl)
theorem dL_law_849 : decode cL_law 849 = .ok (.aload_n 0, 1) := dk_42 (dk_at dksL_law_30 22 rfl rfl)
theorem dL_law_850 : decode cL_law 850 = .ok (.iload_n 3, 1) := dk_29 (dk_at dksL_law_30 23 rfl rfl)
theorem dL_law_851 : decode cL_law 851 = .ok (.iconst 1, 1) := dk_4 (dk_at dksL_law_31 0 rfl rfl)
theorem dL_law_852 : decode cL_law 852 = .ok (.iadd, 1) := dk_96 (dk_at dksL_law_31 1 rfl rfl)
theorem dL_law_853 : decode cL_law 853 = .ok (.iaload, 1) := dk_46 (dk_at dksL_law_31 2 rfl rfl)
theorem dL_law_854 : decode cL_law 854 = .ok (.invokevirtual 128, 3) := dk_182 0 128 (dk_at dksL_law_31 3 rfl rfl)
theorem dL_law_857 : decode cL_law 857 = .ok (.if_icmp .eq 203, 3) := dk_159 0 203 (dk_at dksL_law_31 6 rfl rfl)
theorem dL_law_860 : decode cL_law 860 = .ok (.iconst 0, 1) := dk_3 (dk_at dksL_law_31 9 rfl rfl)
theorem dL_law_861 : decode cL_law 861 = .ok (.ireturn, 1) := dk_172 (dk_at dksL_law_31 10 rfl rfl)
theorem dL_law_862 : decode cL_law 862 = .ok (.aload_n 1, 1) := dk_43 (dk_at dksL_law_31 11 rfl rfl)
theorem dL_law_863 : decode cL_law 863 = .ok (.aload_n 0, 1) := dk_42 (dk_at dksL_law_31 12 rfl rfl)
theorem dL_law_864 : decode cL_law 864 = .ok (.iload_n 3, 1) := dk_29 (dk_at dksL_law_31 13 rfl rfl)
theorem dL_law_865 : decode cL_law 865 = .ok (.iconst 1, 1) := dk_4 (dk_at dksL_law_31 14 rfl rfl)
theorem dL_law_866 : decode cL_law 866 = .ok (.iadd, 1) := dk_96 (dk_at dksL_law_31 15 rfl rfl)
theorem dL_law_867 : decode cL_law 867 = .ok (.iaload, 1) := dk_46 (dk_at dksL_law_31 16 rfl rfl)
theorem dL_law_868 : decode cL_law 868 = .ok (.ifCond .eq 7, 3) := dk_153 0 7 (dk_at dksL_law_31 17 rfl rfl)
theorem dL_law_871 : decode cL_law 871 = .ok (.iconst 1, 1) := dk_4 (dk_at dksL_law_31 20 rfl rfl)
theorem dL_law_872 : decode cL_law 872 = .ok (.goto 4, 3) := dk_167 0 4 (dk_at dksL_law_31 21 rfl rfl)
theorem dL_law_875 : decode cL_law 875 = .ok (.iconst 0, 1) := dk_3 (dk_at dksL_law_32 0 rfl rfl)
theorem dL_law_876 : decode cL_law 876 = .ok (.invokevirtual 129, 3) := dk_182 0 129 (dk_at dksL_law_32 1 rfl rfl)
theorem dL_law_879 : decode cL_law 879 = .ok (.aload_n 2, 1) := dk_44 (dk_at dksL_law_32 4 rfl rfl)
theorem dL_law_880 : decode cL_law 880 = .ok (.aload_n 0, 1) := dk_42 (dk_at dksL_law_32 5 rfl rfl)
theorem dL_law_881 : decode cL_law 881 = .ok (.iload_n 3, 1) := dk_29 (dk_at dksL_law_32 6 rfl rfl)
theorem dL_law_882 : decode cL_law 882 = .ok (.iconst 1, 1) := dk_4 (dk_at dksL_law_32 7 rfl rfl)
theorem dL_law_883 : decode cL_law 883 = .ok (.iadd, 1) := dk_96 (dk_at dksL_law_32 8 rfl rfl)
theorem dL_law_884 : decode cL_law 884 = .ok (.iaload, 1) := dk_46 (dk_at dksL_law_32 9 rfl rfl)
theorem dL_law_885 : decode cL_law 885 = .ok (.ifCond .eq 7, 3) := dk_153 0 7 (dk_at dksL_law_32 10 rfl rfl)
theorem dL_law_888 : decode cL_law 888 = .ok (.iconst 1, 1) := dk_4 (dk_at dksL_law_32 13 rfl rfl)
theorem dL_law_889 : decode cL_law 889 = .ok (.goto 4, 3) := dk_167 0 4 (dk_at dksL_law_32 14 rfl rfl)
theorem dL_law_892 : decode cL_law 892 = .ok (.iconst 0, 1) := dk_3 (dk_at dksL_law_32 17 rfl rfl)
theorem dL_law_893 : decode cL_law 893 = .ok (.invokevirtual 133, 3) := dk_182 0 133 (dk_at dksL_law_32 18 rfl rfl)
theorem dL_law_896 : decode cL_law 896 = .ok (.if_icmp .eq 164, 3) := dk_159 0 164 (dk_at dksL_law_32 21 rfl rfl)
theorem dL_law_899 : decode cL_law 899 = .ok (.iconst 0, 1) := dk_3 (dk_at dksL_law_33 0 rfl rfl)
theorem dL_law_900 : decode cL_law 900 = .ok (.ireturn, 1) := dk_172 (dk_at dksL_law_33 1 rfl rfl)
theorem dL_law_901 : decode cL_law 901 = .ok (.aload_n 1, 1) := dk_43 (dk_at dksL_law_33 2 rfl rfl)
theorem dL_law_902 : decode cL_law 902 = .ok (.aload_n 0, 1) := dk_42 (dk_at dksL_law_33 3 rfl rfl)
theorem dL_law_903 : decode cL_law 903 = .ok (.iload_n 3, 1) := dk_29 (dk_at dksL_law_33 4 rfl rfl)
theorem dL_law_904 : decode cL_law 904 = .ok (.iconst 1, 1) := dk_4 (dk_at dksL_law_33 5 rfl rfl)
theorem dL_law_905 : decode cL_law 905 = .ok (.iadd, 1) := dk_96 (dk_at dksL_law_33 6 rfl rfl)
theorem dL_law_906 : decode cL_law 906 = .ok (.iaload, 1) := dk_46 (dk_at dksL_law_33 7 rfl rfl)
theorem dL_law_907 : decode cL_law 907 = .ok (.invokevirtual 134, 3) := dk_182 0 134 (dk_at dksL_law_33 8 rfl rfl)
theorem dL_law_910 : decode cL_law 910 = .ok (.aload_n 2, 1) := dk_44 (dk_at dksL_law_33 11 rfl rfl)
theorem dL_law_911 : decode cL_law 911 = .ok (.aload_n 0, 1) := dk_42 (dk_at dksL_law_33 12 rfl rfl)
theorem dL_law_912 : decode cL_law 912 = .ok (.iload_n 3, 1) := dk_29 (dk_at dksL_law_33 13 rfl rfl)
theorem dL_law_913 : decode cL_law 913 = .ok (.iconst 1, 1) := dk_4 (dk_at dksL_law_33 14 rfl rfl)
theorem dL_law_914 : decode cL_law 914 = .ok (.iadd, 1) := dk_96 (dk_at dksL_law_33 15 rfl rfl)
theorem dL_law_915 : decode cL_law 915 = .ok (.iaload, 1) := dk_46 (dk_at dksL_law_33 16 rfl rfl)
theorem dL_law_916 : decode cL_law 916 = .ok (.invokevirtual 137, 3) := dk_182 0 137 (dk_at dksL_law_33 17 rfl rfl)
theorem dL_law_919 : decode cL_law 919 = .ok (.if_icmp .eq 141, 3) := dk_159 0 141 (dk_at dksL_law_33 20 rfl rfl)
theorem dL_law_922 : decode cL_law 922 = .ok (.iconst 0, 1) := dk_3 (dk_at dksL_law_33 23 rfl rfl)
theorem dL_law_923 : decode cL_law 923 = .ok (.ireturn, 1) := dk_172 (dk_at dksL_law_34 0 rfl rfl)
theorem dL_law_924 : decode cL_law 924 = .ok (.aload_n 1, 1) := dk_43 (dk_at dksL_law_34 1 rfl rfl)
theorem dL_law_925 : decode cL_law 925 = .ok (.invokevirtual 138, 3) := dk_182 0 138 (dk_at dksL_law_34 2 rfl rfl)
theorem dL_law_928 : decode cL_law 928 = .ok (.aload_n 2, 1) := dk_44 (dk_at dksL_law_34 5 rfl rfl)
theorem dL_law_929 : decode cL_law 929 = .ok (.invokevirtual 141, 3) := dk_182 0 141 (dk_at dksL_law_34 6 rfl rfl)
theorem dL_law_932 : decode cL_law 932 = .ok (.if_icmp .eq 128, 3) := dk_159 0 128 (dk_at dksL_law_34 9 rfl rfl)
theorem dL_law_935 : decode cL_law 935 = .ok (.iconst 0, 1) := dk_3 (dk_at dksL_law_34 12 rfl rfl)
theorem dL_law_936 : decode cL_law 936 = .ok (.ireturn, 1) := dk_172 (dk_at dksL_law_34 13 rfl rfl)
theorem dL_law_937 : decode cL_law 937 = .ok (.aload_n 1, 1) := dk_43 (dk_at dksL_law_34 14 rfl rfl)
theorem dL_law_938 : decode cL_law 938 = .ok (.invokevirtual 142, 3) := dk_182 0 142 (dk_at dksL_law_34 15 rfl rfl)
theorem dL_law_941 : decode cL_law 941 = .ok (.dstore 4, 2) := dk_57 4 (dk_at dksL_law_34 18 rfl rfl)
theorem dL_law_943 : decode cL_law 943 = .ok (.aload_n 2, 1) := dk_44 (dk_at dksL_law_34 20 rfl rfl)
theorem dL_law_944 : decode cL_law 944 = .ok (.invokevirtual 146, 3) := dk_182 0 146 (dk_at dksL_law_34 21 rfl rfl)
theorem dL_law_947 : decode cL_law 947 = .ok (.dstore 6, 2) := dk_57 6 (dk_at dksL_law_35 0 rfl rfl)
theorem dL_law_949 : decode cL_law 949 = .ok (.dload 4, 2) := dk_24 4 (dk_at dksL_law_35 2 rfl rfl)
theorem dL_law_951 : decode cL_law 951 = .ok (.dload 6, 2) := dk_24 6 (dk_at dksL_law_35 4 rfl rfl)
theorem dL_law_953 : decode cL_law 953 = .ok (.dcmp .l, 1) := dk_151 (dk_at dksL_law_35 6 rfl rfl)
theorem dL_law_954 : decode cL_law 954 = .ok (.ifCond .eq 21, 3) := dk_153 0 21 (dk_at dksL_law_35 7 rfl rfl)
theorem dL_law_957 : decode cL_law 957 = .ok (.dload 4, 2) := dk_24 4 (dk_at dksL_law_35 10 rfl rfl)
theorem dL_law_959 : decode cL_law 959 = .ok (.dload 4, 2) := dk_24 4 (dk_at dksL_law_35 12 rfl rfl)
theorem dL_law_961 : decode cL_law 961 = .ok (.dcmp .l, 1) := dk_151 (dk_at dksL_law_35 14 rfl rfl)
theorem dL_law_962 : decode cL_law 962 = .ok (.ifCond .eq 11, 3) := dk_153 0 11 (dk_at dksL_law_35 15 rfl rfl)
theorem dL_law_965 : decode cL_law 965 = .ok (.dload 6, 2) := dk_24 6 (dk_at dksL_law_35 18 rfl rfl)
theorem dL_law_967 : decode cL_law 967 = .ok (.dload 6, 2) := dk_24 6 (dk_at dksL_law_35 20 rfl rfl)
theorem dL_law_969 : decode cL_law 969 = .ok (.dcmp .l, 1) := dk_151 (dk_at dksL_law_35 22 rfl rfl)
theorem dL_law_970 : decode cL_law 970 = .ok (.ifCond .ne 5, 3) := dk_154 0 5 (dk_at dksL_law_36 0 rfl rfl)
theorem dL_law_973 : decode cL_law 973 = .ok (.iconst 0, 1) := dk_3 (dk_at dksL_law_36 3 rfl rfl)
theorem dL_law_974 : decode cL_law 974 = .ok (.ireturn, 1) := dk_172 (dk_at dksL_law_36 4 rfl rfl)
theorem dL_law_975 : decode cL_law 975 = .ok (.goto 85, 3) := dk_167 0 85 (dk_at dksL_law_36 5 rfl rfl)
theorem dL_law_978 : decode cL_law 978 = .ok (.aload_n 1, 1) := dk_43 (dk_at dksL_law_36 8 rfl rfl)
theorem dL_law_979 : decode cL_law 979 = .ok (.invokevirtual 147, 3) := dk_182 0 147 (dk_at dksL_law_36 9 rfl rfl)
theorem dL_law_982 : decode cL_law 982 = .ok (.f2d, 1) := dk_141 (dk_at dksL_law_36 12 rfl rfl)
theorem dL_law_983 : decode cL_law 983 = .ok (.dstore 4, 2) := dk_57 4 (dk_at dksL_law_36 13 rfl rfl)
theorem dL_law_985 : decode cL_law 985 = .ok (.aload_n 2, 1) := dk_44 (dk_at dksL_law_36 15 rfl rfl)
theorem dL_law_986 : decode cL_law 986 = .ok (.invokevirtual 151, 3) := dk_182 0 151 (dk_at dksL_law_36 16 rfl rfl)
theorem dL_law_989 : decode cL_law 989 = .ok (.f2d, 1) := dk_141 (dk_at dksL_law_36 19 rfl rfl)
theorem dL_law_990 : decode cL_law 990 = .ok (.dstore 6, 2) := dk_57 6 (dk_at dksL_law_36 20 rfl rfl)
theorem dL_law_992 : decode cL_law 992 = .ok (.dload 4, 2) := dk_24 4 (dk_at dksL_law_36 22 rfl rfl)
theorem dL_law_994 : decode cL_law 994 = .ok (.dload 6, 2) := dk_24 6 (dk_at dksL_law_37 0 rfl rfl)
theorem dL_law_996 : decode cL_law 996 = .ok (.dcmp .l, 1) := dk_151 (dk_at dksL_law_37 2 rfl rfl)
theorem dL_law_997 : decode cL_law 997 = .ok (.ifCond .eq 21, 3) := dk_153 0 21 (dk_at dksL_law_37 3 rfl rfl)
theorem dL_law_1000 : decode cL_law 1000 = .ok (.dload 4, 2) := dk_24 4 (dk_at dksL_law_37 6 rfl rfl)
theorem dL_law_1002 : decode cL_law 1002 = .ok (.dload 4, 2) := dk_24 4 (dk_at dksL_law_37 8 rfl rfl)
theorem dL_law_1004 : decode cL_law 1004 = .ok (.dcmp .l, 1) := dk_151 (dk_at dksL_law_37 10 rfl rfl)
theorem dL_law_1005 : decode cL_law 1005 = .ok (.ifCond .eq 11, 3) := dk_153 0 11 (dk_at dksL_law_37 11 rfl rfl)
theorem dL_law_1008 : decode cL_law 1008 = .ok (.dload 6, 2) := dk_24 6 (dk_at dksL_law_37 14 rfl rfl)
theorem dL_law_1010 : decode cL_law 1010 = .ok (.dload 6, 2) := dk_24 6 (dk_at dksL_law_37 16 rfl rfl)
theorem dL_law_1012 : decode cL_law 1012 = .ok (.dcmp .l, 1) := dk_151 (dk_at dksL_law_37 18 rfl rfl)
theorem dL_law_1013 : decode cL_law 1013 = .ok (.ifCond .ne 5, 3) := dk_154 0 5 (dk_at dksL_law_37 19 rfl rfl)
theorem dL_law_1016 : decode cL_law 1016 = .ok (.iconst 0, 1) := dk_3 (dk_at dksL_law_37 22 rfl rfl)
theorem dL_law_1017 : decode cL_law 1017 = .ok (.ireturn, 1) := dk_172 (dk_at dksL_law_37 23 rfl rfl)
theorem dL_law_1018 : decode cL_law 1018 = .ok (.goto 42, 3) := dk_167 0 42 (dk_at dksL_law_38 0 rfl rfl)
theorem dL_law_1021 : decode cL_law 1021 = .ok (.aload_n 1, 1) := dk_43 (dk_at dksL_law_38 3 rfl rfl)
theorem dL_law_1022 : decode cL_law 1022 = .ok (.invokevirtual 152, 3) := dk_182 0 152 (dk_at dksL_law_38 4 rfl rfl)
theorem dL_law_1025 : decode cL_law 1025 = .ok (.aload_n 2, 1) := dk_44 (dk_at dksL_law_38 7 rfl rfl)
theorem dL_law_1026 : decode cL_law 1026 = .ok (.invokevirtual 155, 3) := dk_182 0 155 (dk_at dksL_law_38 8 rfl rfl)
theorem dL_law_1029 : decode cL_law 1029 = .ok (.if_icmp .eq 31, 3) := dk_159 0 31 (dk_at dksL_law_38 11 rfl rfl)
theorem dL_law_1032 : decode cL_law 1032 = .ok (.iconst 0, 1) := dk_3 (dk_at dksL_law_38 14 rfl rfl)
theorem dL_law_1033 : decode cL_law 1033 = .ok (.ireturn, 1) := dk_172 (dk_at dksL_law_38 15 rfl rfl)
theorem dL_law_1034 : decode cL_law 1034 = .ok (.aload_n 1, 1) := dk_43 (dk_at dksL_law_38 16 rfl rfl)
theorem dL_law_1035 : decode cL_law 1035 = .ok (.invokevirtual 156, 3) := dk_182 0 156 (dk_at dksL_law_38 17 rfl rfl)
theorem dL_law_1038 : decode cL_law 1038 = .ok (.aload_n 2, 1) := dk_44 (dk_at dksL_law_38 20 rfl rfl)
theorem dL_law_1039 : decode cL_law 1039 = .ok (.invokevirtual 159, 3) := dk_182 0 159 (dk_at dksL_law_38 21 rfl rfl)
theorem dL_law_1042 : decode cL_law 1042 = .ok (.if_icmp .eq 18, 3) := dk_159 0 18 (dk_at dksL_law_39 0 rfl rfl)
theorem dL_law_1045 : decode cL_law 1045 = .ok (.iconst 0, 1) := dk_3 (dk_at dksL_law_39 3 rfl rfl)
theorem dL_law_1046 : decode cL_law 1046 = .ok (.ireturn, 1) := dk_172 (dk_at dksL_law_39 4 rfl rfl)
theorem dL_law_1047 : decode cL_law 1047 = .ok (.aload_n 1, 1) := dk_43 (dk_at dksL_law_39 5 rfl rfl)
theorem dL_law_1048 : decode cL_law 1048 = .ok (.invokevirtual 160, 3) := dk_182 0 160 (dk_at dksL_law_39 6 rfl rfl)
theorem dL_law_1051 : decode cL_law 1051 = .ok (.aload_n 2, 1) := dk_44 (dk_at dksL_law_39 9 rfl rfl)
theorem dL_law_1052 : decode cL_law 1052 = .ok (.invokevirtual 163, 3) := dk_182 0 163 (dk_at dksL_law_39 10 rfl rfl)
theorem dL_law_1055 : decode cL_law 1055 = .ok (.if_icmp .eq 5, 3) := dk_159 0 5 (dk_at dksL_law_39 13 rfl rfl)
theorem dL_law_1058 : decode cL_law 1058 = .ok (.iconst 0, 1) := dk_3 (dk_at dksL_law_39 16 rfl rfl)
theorem dL_law_1059 : decode cL_law 1059 = .ok (.ireturn, 1) := dk_172 (dk_at dksL_law_39 17 rfl rfl)
theorem dL_law_1060 : decode cL_law 1060 = .ok (.iinc 3 3, 3) := dk_132 3 3 (dk_at dksL_law_39 18 rfl rfl)
theorem dL_law_1063 : decode cL_law 1063 = .ok (.goto (-1045), 3) := dk_167 251 235 (dk_at dksL_law_39 21 rfl rfl)
theorem dL_law_1066 : decode cL_law 1066 = .ok (.iconst 1, 1) := dk_4 (dk_at dksL_law_40 0 rfl rfl)
theorem dL_law_1067 : decode cL_law 1067 = .ok (.ireturn, 1) := dk_172 (dk_at dksL_law_40 1 rfl rfl)
