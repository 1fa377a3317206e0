/-! KioskReel -/
set_option maxRecDepth 100000
def RX1 : String := "KioskReel"
def TX1 : u_T := fun k => match k with
  | 0 => ("KioskReel", "lists", "Ljava/util/List;", true)
  | 1 => ("KioskReel", "kiosks", "Ljava/util/List;", true)
  | 2 => ("KioskReel", "devices", "Ljava/util/List;", true)
  | 3 => ("KioskReel", "visitors", "Ljava/util/List;", true)
  | 4 => ("KioskReel", "shown", "I", false)
  | _ => ("KioskReel", "done", "J", false)
def tyX1 : Nat → FieldType := fun k => match k with
  | 0 => .object "java/util/List"
  | 1 => .object "java/util/List"
  | 2 => .object "java/util/List"
  | 3 => .object "java/util/List"
  | 4 => .int
  | _ => .long
abbrev wsX10 : List Cond := u_ws RX1 TX1 6
theorem nmX1 : ∀ a, a < 6 → ∀ b, b < 6 → a ≠ b → (TX1 a).2.1 ≠ (TX1 b).2.1 := by decide +kernel
theorem tyX1_ok : ∀ k, k < 6 → parseFieldDescriptor (TX1 k).2.2.1 = some (tyX1 k) := by decide +kernel
abbrev cX1_init : ByteArray := prog_1_method_9_code
def yX1_init : MethodName := ⟨RX1, "<init>", "()V"⟩
def dkwX1_init_3 : List UInt8 := [185, 0, 75, 2, 0, 87, 132, 1, 1, 167, 255, 230, 177]
abbrev dktX1_init_3 : List UInt8 := dkwX1_init_3 ++ []
def dkwX1_init_2 : List UInt8 := [181, 0, 69, 3, 60, 27, 16, 6, 162, 0, 26, 42, 180, 0, 66, 187, 0, 72, 89, 183, 0, 74]
abbrev dktX1_init_2 : List UInt8 := dkwX1_init_2 ++ dktX1_init_3
def dkwX1_init_1 : List UInt8 := [181, 0, 63, 42, 187, 0, 56, 89, 183, 0, 58, 181, 0, 66, 42, 187, 0, 56, 89, 183, 0, 58]
abbrev dktX1_init_1 : List UInt8 := dkwX1_init_1 ++ dktX1_init_2
def dkwX1_init_0 : List UInt8 := [42, 183, 0, 53, 42, 187, 0, 56, 89, 183, 0, 58, 181, 0, 59, 42, 187, 0, 56, 89, 183, 0, 58]
abbrev dktX1_init_0 : List UInt8 := dkwX1_init_0 ++ dktX1_init_1
theorem dksX1_init_0 : cX1_init.data.toList.drop 0 = dktX1_init_0 := by decide +kernel
theorem dksX1_init_1 : cX1_init.data.toList.drop 23 = dktX1_init_1 := dk_seg dksX1_init_0 23 rfl rfl
theorem dksX1_init_2 : cX1_init.data.toList.drop 45 = dktX1_init_2 := dk_seg dksX1_init_1 22 rfl rfl
theorem dksX1_init_3 : cX1_init.data.toList.drop 67 = dktX1_init_3 := dk_seg dksX1_init_2 22 rfl rfl
theorem dX1_init_0 : decode cX1_init 0 = .ok (.aload_n 0, 1) := dk_42 (dk_at dksX1_init_0 0 rfl rfl)
theorem dX1_init_1 : decode cX1_init 1 = .ok (.invokespecial 53, 3) := dk_183 0 53 (dk_at dksX1_init_0 1 rfl rfl)
theorem dX1_init_4 : decode cX1_init 4 = .ok (.aload_n 0, 1) := dk_42 (dk_at dksX1_init_0 4 rfl rfl)
theorem dX1_init_5 : decode cX1_init 5 = .ok (.new 56, 3) := dk_187 0 56 (dk_at dksX1_init_0 5 rfl rfl)
theorem dX1_init_8 : decode cX1_init 8 = .ok (.dup, 1) := dk_89 (dk_at dksX1_init_0 8 rfl rfl)
theorem dX1_init_9 : decode cX1_init 9 = .ok (.invokespecial 58, 3) := dk_183 0 58 (dk_at dksX1_init_0 9 rfl rfl)
theorem dX1_init_12 : decode cX1_init 12 = .ok (.putfield 59, 3) := dk_181 0 59 (dk_at dksX1_init_0 12 rfl rfl)
theorem dX1_init_15 : decode cX1_init 15 = .ok (.aload_n 0, 1) := dk_42 (dk_at dksX1_init_0 15 rfl rfl)
theorem dX1_init_16 : decode cX1_init 16 = .ok (.new 56, 3) := dk_187 0 56 (dk_at dksX1_init_0 16 rfl rfl)
theorem dX1_init_19 : decode cX1_init 19 = .ok (.dup, 1) := dk_89 (dk_at dksX1_init_0 19 rfl rfl)
theorem dX1_init_20 : decode cX1_init 20 = .ok (.invokespecial 58, 3) := dk_183 0 58 (dk_at dksX1_init_0 20 rfl rfl)
theorem dX1_init_23 : decode cX1_init 23 = .ok (.putfield 63, 3) := dk_181 0 63 (dk_at dksX1_init_1 0 rfl rfl)
theorem dX1_init_26 : decode cX1_init 26 = .ok (.aload_n 0, 1) := dk_42 (dk_at dksX1_init_1 3 rfl rfl)
theorem dX1_init_27 : decode cX1_init 27 = .ok (.new 56, 3) := dk_187 0 56 (dk_at dksX1_init_1 4 rfl rfl)
theorem dX1_init_30 : decode cX1_init 30 = .ok (.dup, 1) := dk_89 (dk_at dksX1_init_1 7 rfl rfl)
theorem dX1_init_31 : decode cX1_init 31 = .ok (.invokespecial 58, 3) := dk_183 0 58 (dk_at dksX1_init_1 8 rfl rfl)
theorem dX1_init_34 : decode cX1_init 34 = .ok (.putfield 66, 3) := dk_181 0 66 (dk_at dksX1_init_1 11 rfl rfl)
theorem dX1_init_37 : decode cX1_init 37 = .ok (.aload_n 0, 1) := dk_42 (dk_at dksX1_init_1 14 rfl rfl)
theorem dX1_init_38 : decode cX1_init 38 = .ok (.new 56, 3) := dk_187 0 56 (dk_at dksX1_init_1 15 rfl rfl)
theorem dX1_init_41 : decode cX1_init 41 = .ok (.dup, 1) := dk_89 (dk_at dksX1_init_1 18 rfl rfl)
theorem dX1_init_42 : decode cX1_init 42 = .ok (.invokespecial 58, 3) := dk_183 0 58 (dk_at dksX1_init_1 19 rfl rfl)
theorem dX1_init_45 : decode cX1_init 45 = .ok (.putfield 69, 3) := dk_181 0 69 (dk_at dksX1_init_2 0 rfl rfl)
theorem dX1_init_48 : decode cX1_init 48 = .ok (.iconst 0, 1) := dk_3 (dk_at dksX1_init_2 3 rfl rfl)
theorem dX1_init_49 : decode cX1_init 49 = .ok (.istore_n 1, 1) := dk_60 (dk_at dksX1_init_2 4 rfl rfl)
theorem dX1_init_50 : decode cX1_init 50 = .ok (.iload_n 1, 1) := dk_27 (dk_at dksX1_init_2 5 rfl rfl)
theorem dX1_init_51 : decode cX1_init 51 = .ok (.bipush 6, 2) := dk_16 6 (dk_at dksX1_init_2 6 rfl rfl)
theorem dX1_init_53 : decode cX1_init 53 = .ok (.if_icmp .ge 26, 3) := dk_162 0 26 (dk_at dksX1_init_2 8 rfl rfl)
theorem dX1_init_56 : decode cX1_init 56 = .ok (.aload_n 0, 1) := dk_42 (dk_at dksX1_init_2 11 rfl rfl)
theorem dX1_init_57 : decode cX1_init 57 = .ok (.getfield 66, 3) := dk_180 0 66 (dk_at dksX1_init_2 12 rfl rfl)
theorem dX1_init_60 : decode cX1_init 60 = .ok (.new 72, 3) := dk_187 0 72 (dk_at dksX1_init_2 15 rfl rfl)
theorem dX1_init_63 : decode cX1_init 63 = .ok (.dup, 1) := dk_89 (dk_at dksX1_init_2 18 rfl rfl)
theorem dX1_init_64 : decode cX1_init 64 = .ok (.invokespecial 74, 3) := dk_183 0 74 (dk_at dksX1_init_2 19 rfl rfl)
theorem dX1_init_67 : decode cX1_init 67 = .ok (.invokeinterface 75 2, 5) := by decide +kernel
theorem dX1_init_72 : decode cX1_init 72 = .ok (.pop, 1) := dk_87 (dk_at dksX1_init_3 5 rfl rfl)
theorem dX1_init_73 : decode cX1_init 73 = .ok (.iinc 1 1, 3) := dk_132 1 1 (dk_at dksX1_init_3 6 rfl rfl)
theorem dX1_init_76 : decode cX1_init 76 = .ok (.goto (-26), 3) := dk_167 255 230 (dk_at dksX1_init_3 9 rfl rfl)
theorem dX1_init_79 : decode cX1_init 79 = .ok (.return_, 1) := dk_177 (dk_at dksX1_init_3 12 rfl rfl)
abbrev cX1_done : ByteArray := prog_1_method_48_code
def yX1_done : MethodName := ⟨RX1, "done", "()J"⟩
theorem dX1_done_0 : decode cX1_done 0 = .ok (.aload_n 0, 1) := by decide +kernel
theorem dX1_done_1 : decode cX1_done 1 = .ok (.getfield 299, 3) := by decide +kernel
theorem dX1_done_4 : decode cX1_done 4 = .ok (.lreturn, 1) := by decide +kernel
abbrev cX1_heldShare : ByteArray := prog_1_method_49_code
def yX1_heldShare : MethodName := ⟨RX1, "heldShare", "()F"⟩
def dkwX1_heldShare_0 : List UInt8 := [42, 186, 1, 97, 0, 0, 182, 0, 229, 134, 19, 1, 100, 110, 174]
abbrev dktX1_heldShare_0 : List UInt8 := dkwX1_heldShare_0 ++ []
theorem dksX1_heldShare_0 : cX1_heldShare.data.toList.drop 0 = dktX1_heldShare_0 := by decide +kernel
theorem dX1_heldShare_0 : decode cX1_heldShare 0 = .ok (.aload_n 0, 1) := dk_42 (dk_at dksX1_heldShare_0 0 rfl rfl)
theorem dX1_heldShare_1 : decode cX1_heldShare 1 = .ok (.invokedynamic 353, 5) := by decide +kernel
theorem dX1_heldShare_6 : decode cX1_heldShare 6 = .ok (.invokevirtual 229, 3) := dk_182 0 229 (dk_at dksX1_heldShare_0 6 rfl rfl)
theorem dX1_heldShare_9 : decode cX1_heldShare 9 = .ok (.i2f, 1) := dk_134 (dk_at dksX1_heldShare_0 9 rfl rfl)
theorem dX1_heldShare_10 : decode cX1_heldShare 10 = .ok (.ldc_w 356, 3) := dk_19 1 100 (dk_at dksX1_heldShare_0 10 rfl rfl)
theorem dX1_heldShare_13 : decode cX1_heldShare 13 = .ok (.fdiv, 1) := dk_110 (dk_at dksX1_heldShare_0 13 rfl rfl)
theorem dX1_heldShare_14 : decode cX1_heldShare 14 = .ok (.freturn, 1) := dk_174 (dk_at dksX1_heldShare_0 14 rfl rfl)
abbrev cX1_lambda_heldShare_4 : ByteArray := prog_1_method_56_code
def yX1_lambda_heldShare_4 : MethodName := ⟨RX1, "lambda$heldShare$4", "(LKioskReel$Device;)Z"⟩
def dkwX1_lambda_heldShare_4_0 : List UInt8 := [42, 180, 0, 236, 198, 0, 7, 4, 167, 0, 4, 3, 172]
abbrev dktX1_lambda_heldShare_4_0 : List UInt8 := dkwX1_lambda_heldShare_4_0 ++ []
theorem dksX1_lambda_heldShare_4_0 : cX1_lambda_heldShare_4.data.toList.drop 0 = dktX1_lambda_heldShare_4_0 := by decide +kernel
theorem dX1_lambda_heldShare_4_0 : decode cX1_lambda_heldShare_4 0 = .ok (.aload_n 0, 1) := dk_42 (dk_at dksX1_lambda_heldShare_4_0 0 rfl rfl)
theorem dX1_lambda_heldShare_4_1 : decode cX1_lambda_heldShare_4 1 = .ok (.getfield 236, 3) := dk_180 0 236 (dk_at dksX1_lambda_heldShare_4_0 1 rfl rfl)
theorem dX1_lambda_heldShare_4_4 : decode cX1_lambda_heldShare_4 4 = .ok (.ifnull 7, 3) := dk_198 0 7 (dk_at dksX1_lambda_heldShare_4_0 4 rfl rfl)
theorem dX1_lambda_heldShare_4_7 : decode cX1_lambda_heldShare_4 7 = .ok (.iconst 1, 1) := dk_4 (dk_at dksX1_lambda_heldShare_4_0 7 rfl rfl)
theorem dX1_lambda_heldShare_4_8 : decode cX1_lambda_heldShare_4 8 = .ok (.goto 4, 3) := dk_167 0 4 (dk_at dksX1_lambda_heldShare_4_0 8 rfl rfl)
theorem dX1_lambda_heldShare_4_11 : decode cX1_lambda_heldShare_4 11 = .ok (.iconst 0, 1) := dk_3 (dk_at dksX1_lambda_heldShare_4_0 11 rfl rfl)
theorem dX1_lambda_heldShare_4_12 : decode cX1_lambda_heldShare_4 12 = .ok (.ireturn, 1) := dk_172 (dk_at dksX1_lambda_heldShare_4_0 12 rfl rfl)
abbrev cX1_countDevices : ByteArray := prog_1_method_15_code
def yX1_countDevices : MethodName := ⟨RX1, "countDevices", "(LKioskReel$DeviceTest;)I"⟩
def dkwX1_countDevices_2 : List UInt8 := [167, 0, 4, 3, 96, 61, 167, 255, 217, 28, 172]
abbrev dktX1_countDevices_2 : List UInt8 := dkwX1_countDevices_2 ++ []
def dkwX1_countDevices_1 : List UInt8 := [185, 0, 121, 1, 0, 192, 0, 72, 58, 4, 28, 43, 25, 4, 185, 0, 131, 2, 0, 153, 0, 7, 4]
abbrev dktX1_countDevices_1 : List UInt8 := dkwX1_countDevices_1 ++ dktX1_countDevices_2
def dkwX1_countDevices_0 : List UInt8 := [3, 61, 42, 180, 0, 66, 185, 0, 111, 1, 0, 78, 45, 185, 0, 115, 1, 0, 153, 0, 36, 45]
abbrev dktX1_countDevices_0 : List UInt8 := dkwX1_countDevices_0 ++ dktX1_countDevices_1
theorem dksX1_countDevices_0 : cX1_countDevices.data.toList.drop 0 = dktX1_countDevices_0 := by decide +kernel
theorem dksX1_countDevices_1 : cX1_countDevices.data.toList.drop 22 = dktX1_countDevices_1 := dk_seg dksX1_countDevices_0 22 rfl rfl
theorem dksX1_countDevices_2 : cX1_countDevices.data.toList.drop 45 = dktX1_countDevices_2 := dk_seg dksX1_countDevices_1 23 rfl rfl
theorem dX1_countDevices_0 : decode cX1_countDevices 0 = .ok (.iconst 0, 1) := dk_3 (dk_at dksX1_countDevices_0 0 rfl rfl)
theorem dX1_countDevices_1 : decode cX1_countDevices 1 = .ok (.istore_n 2, 1) := dk_61 (dk_at dksX1_countDevices_0 1 rfl rfl)
theorem dX1_countDevices_2 : decode cX1_countDevices 2 = .ok (.aload_n 0, 1) := dk_42 (dk_at dksX1_countDevices_0 2 rfl rfl)
theorem dX1_countDevices_3 : decode cX1_countDevices 3 = .ok (.getfield 66, 3) := dk_180 0 66 (dk_at dksX1_countDevices_0 3 rfl rfl)
theorem dX1_countDevices_6 : decode cX1_countDevices 6 = .ok (.invokeinterface 111 1, 5) := by decide +kernel
theorem dX1_countDevices_11 : decode cX1_countDevices 11 = .ok (.astore_n 3, 1) := dk_78 (dk_at dksX1_countDevices_0 11 rfl rfl)
theorem dX1_countDevices_12 : decode cX1_countDevices 12 = .ok (.aload_n 3, 1) := dk_45 (dk_at dksX1_countDevices_0 12 rfl rfl)
theorem dX1_countDevices_13 : decode cX1_countDevices 13 = .ok (.invokeinterface 115 1, 5) := by decide +kernel
theorem dX1_countDevices_18 : decode cX1_countDevices 18 = .ok (.ifCond .eq 36, 3) := dk_153 0 36 (dk_at dksX1_countDevices_0 18 rfl rfl)
theorem dX1_countDevices_21 : decode cX1_countDevices 21 = .ok (.aload_n 3, 1) := dk_45 (dk_at dksX1_countDevices_0 21 rfl rfl)
theorem dX1_countDevices_22 : decode cX1_countDevices 22 = .ok (.invokeinterface 121 1, 5) := by decide +kernel
theorem dX1_countDevices_27 : decode cX1_countDevices 27 = .ok (.checkcast 72, 3) := dk_192 0 72 (dk_at dksX1_countDevices_1 5 rfl rfl)
theorem dX1_countDevices_30 : decode cX1_countDevices 30 = .ok (.astore 4, 2) := dk_58 4 (dk_at dksX1_countDevices_1 8 rfl rfl)
theorem dX1_countDevices_32 : decode cX1_countDevices 32 = .ok (.iload_n 2, 1) := dk_28 (dk_at dksX1_countDevices_1 10 rfl rfl)
theorem dX1_countDevices_33 : decode cX1_countDevices 33 = .ok (.aload_n 1, 1) := dk_43 (dk_at dksX1_countDevices_1 11 rfl rfl)
theorem dX1_countDevices_34 : decode cX1_countDevices 34 = .ok (.aload 4, 2) := dk_25 4 (dk_at dksX1_countDevices_1 12 rfl rfl)
theorem dX1_countDevices_36 : decode cX1_countDevices 36 = .ok (.invokeinterface 131 2, 5) := by decide +kernel
theorem dX1_countDevices_41 : decode cX1_countDevices 41 = .ok (.ifCond .eq 7, 3) := dk_153 0 7 (dk_at dksX1_countDevices_1 19 rfl rfl)
theorem dX1_countDevices_44 : decode cX1_countDevices 44 = .ok (.iconst 1, 1) := dk_4 (dk_at dksX1_countDevices_1 22 rfl rfl)
theorem dX1_countDevices_45 : decode cX1_countDevices 45 = .ok (.goto 4, 3) := dk_167 0 4 (dk_at dksX1_countDevices_2 0 rfl rfl)
theorem dX1_countDevices_48 : decode cX1_countDevices 48 = .ok (.iconst 0, 1) := dk_3 (dk_at dksX1_countDevices_2 3 rfl rfl)
theorem dX1_countDevices_49 : decode cX1_countDevices 49 = .ok (.iadd, 1) := dk_96 (dk_at dksX1_countDevices_2 4 rfl rfl)
theorem dX1_countDevices_50 : decode cX1_countDevices 50 = .ok (.istore_n 2, 1) := dk_61 (dk_at dksX1_countDevices_2 5 rfl rfl)
theorem dX1_countDevices_51 : decode cX1_countDevices 51 = .ok (.goto (-39), 3) := dk_167 255 217 (dk_at dksX1_countDevices_2 6 rfl rfl)
theorem dX1_countDevices_54 : decode cX1_countDevices 54 = .ok (.iload_n 2, 1) := dk_28 (dk_at dksX1_countDevices_2 9 rfl rfl)
theorem dX1_countDevices_55 : decode cX1_countDevices 55 = .ok (.ireturn, 1) := dk_172 (dk_at dksX1_countDevices_2 10 rfl rfl)
abbrev cX1_heldBits : ByteArray := prog_1_method_50_code
def yX1_heldBits : MethodName := ⟨RX1, "heldBits", "()I"⟩
def dkwX1_heldBits_0 : List UInt8 := [42, 182, 1, 101, 184, 1, 105, 172]
abbrev dktX1_heldBits_0 : List UInt8 := dkwX1_heldBits_0 ++ []
theorem dksX1_heldBits_0 : cX1_heldBits.data.toList.drop 0 = dktX1_heldBits_0 := by decide +kernel
theorem dX1_heldBits_0 : decode cX1_heldBits 0 = .ok (.aload_n 0, 1) := dk_42 (dk_at dksX1_heldBits_0 0 rfl rfl)
theorem dX1_heldBits_1 : decode cX1_heldBits 1 = .ok (.invokevirtual 357, 3) := dk_182 1 101 (dk_at dksX1_heldBits_0 1 rfl rfl)
theorem dX1_heldBits_4 : decode cX1_heldBits 4 = .ok (.invokestatic 361, 3) := dk_184 1 105 (dk_at dksX1_heldBits_0 4 rfl rfl)
theorem dX1_heldBits_7 : decode cX1_heldBits 7 = .ok (.ireturn, 1) := dk_172 (dk_at dksX1_heldBits_0 7 rfl rfl)
abbrev cX1_isSound : ByteArray := prog_1_method_53_code
def yX1_isSound : MethodName := ⟨RX1, "isSound", "()Z"⟩
def dkwX1_isSound_6 : List UInt8 := [172]
abbrev dktX1_isSound_6 : List UInt8 := dkwX1_isSound_6 ++ []
def dkwX1_isSound_5 : List UInt8 := [21, 4, 46, 96, 163, 0, 7, 4, 167, 0, 4, 3, 126, 60, 132, 4, 1, 167, 255, 219, 167, 255, 194, 27]
abbrev dktX1_isSound_5 : List UInt8 := dkwX1_isSound_5 ++ dktX1_isSound_6
def dkwX1_isSound_4 : List UInt8 := [78, 3, 54, 4, 21, 4, 16, 100, 162, 0, 36, 27, 45, 180, 1, 94, 21, 4, 46, 4, 45, 180, 1, 90]
abbrev dktX1_isSound_4 : List UInt8 := dkwX1_isSound_4 ++ dktX1_isSound_5
def dkwX1_isSound_3 : List UInt8 := [185, 0, 111, 1, 0, 77, 44, 185, 0, 115, 1, 0, 153, 0, 59, 44, 185, 0, 121, 1, 0, 192, 0, 109]
abbrev dktX1_isSound_3 : List UInt8 := dkwX1_isSound_3 ++ dktX1_isSound_4
def dkwX1_isSound_2 : List UInt8 := [182, 1, 119, 153, 0, 7, 4, 167, 0, 4, 3, 126, 60, 167, 255, 211, 42, 180, 0, 69]
abbrev dktX1_isSound_2 : List UInt8 := dkwX1_isSound_2 ++ dktX1_isSound_3
def dkwX1_isSound_1 : List UInt8 := [185, 0, 121, 1, 0, 192, 0, 95, 78, 27, 45, 180, 0, 101, 198, 0, 14, 42, 45, 180, 0, 101]
abbrev dktX1_isSound_1 : List UInt8 := dkwX1_isSound_1 ++ dktX1_isSound_2
def dkwX1_isSound_0 : List UInt8 := [4, 60, 42, 180, 0, 63, 185, 0, 111, 1, 0, 77, 44, 185, 0, 115, 1, 0, 153, 0, 42, 44]
abbrev dktX1_isSound_0 : List UInt8 := dkwX1_isSound_0 ++ dktX1_isSound_1
theorem dksX1_isSound_0 : cX1_isSound.data.toList.drop 0 = dktX1_isSound_0 := by decide +kernel
theorem dksX1_isSound_1 : cX1_isSound.data.toList.drop 22 = dktX1_isSound_1 := dk_seg dksX1_isSound_0 22 rfl rfl
theorem dksX1_isSound_2 : cX1_isSound.data.toList.drop 44 = dktX1_isSound_2 := dk_seg dksX1_isSound_1 22 rfl rfl
theorem dksX1_isSound_3 : cX1_isSound.data.toList.drop 64 = dktX1_isSound_3 := dk_seg dksX1_isSound_2 20 rfl rfl
theorem dksX1_isSound_4 : cX1_isSound.data.toList.drop 88 = dktX1_isSound_4 := dk_seg dksX1_isSound_3 24 rfl rfl
theorem dksX1_isSound_5 : cX1_isSound.data.toList.drop 112 = dktX1_isSound_5 := dk_seg dksX1_isSound_4 24 rfl rfl
theorem dksX1_isSound_6 : cX1_isSound.data.toList.drop 136 = dktX1_isSound_6 := dk_seg dksX1_isSound_5 24 rfl rfl
theorem dX1_isSound_0 : decode cX1_isSound 0 = .ok (.iconst 1, 1) := dk_4 (dk_at dksX1_isSound_0 0 rfl rfl)
theorem dX1_isSound_1 : decode cX1_isSound 1 = .ok (.istore_n 1, 1) := dk_60 (dk_at dksX1_isSound_0 1 rfl rfl)
theorem dX1_isSound_2 : decode cX1_isSound 2 = .ok (.aload_n 0, 1) := dk_42 (dk_at dksX1_isSound_0 2 rfl rfl)
theorem dX1_isSound_3 : decode cX1_isSound 3 = .ok (.getfield 63, 3) := dk_180 0 63 (dk_at dksX1_isSound_0 3 rfl rfl)
theorem dX1_isSound_6 : decode cX1_isSound 6 = .ok (.invokeinterface 111 1, 5) := by decide +kernel
theorem dX1_isSound_11 : decode cX1_isSound 11 = .ok (.astore_n 2, 1) := dk_77 (dk_at dksX1_isSound_0 11 rfl rfl)
theorem dX1_isSound_12 : decode cX1_isSound 12 = .ok (.aload_n 2, 1) := dk_44 (dk_at dksX1_isSound_0 12 rfl rfl)
theorem dX1_isSound_13 : decode cX1_isSound 13 = .ok (.invokeinterface 115 1, 5) := by decide +kernel
theorem dX1_isSound_18 : decode cX1_isSound 18 = .ok (.ifCond .eq 42, 3) := dk_153 0 42 (dk_at dksX1_isSound_0 18 rfl rfl)
theorem dX1_isSound_21 : decode cX1_isSound 21 = .ok (.aload_n 2, 1) := dk_44 (dk_at dksX1_isSound_0 21 rfl rfl)
theorem dX1_isSound_22 : decode cX1_isSound 22 = .ok (.invokeinterface 121 1, 5) := by decide +kernel
theorem dX1_isSound_27 : decode cX1_isSound 27 = .ok (.checkcast 95, 3) := dk_192 0 95 (dk_at dksX1_isSound_1 5 rfl rfl)
theorem dX1_isSound_30 : decode cX1_isSound 30 = .ok (.astore_n 3, 1) := dk_78 (dk_at dksX1_isSound_1 8 rfl rfl)
theorem dX1_isSound_31 : decode cX1_isSound 31 = .ok (.iload_n 1, 1) := dk_27 (dk_at dksX1_isSound_1 9 rfl rfl)
theorem dX1_isSound_32 : decode cX1_isSound 32 = .ok (.aload_n 3, 1) := dk_45 (dk_at dksX1_isSound_1 10 rfl rfl)
theorem dX1_isSound_33 : decode cX1_isSound 33 = .ok (.getfield 101, 3) := dk_180 0 101 (dk_at dksX1_isSound_1 11 rfl rfl)
theorem dX1_isSound_36 : decode cX1_isSound 36 = .ok (.ifnull 14, 3) := dk_198 0 14 (dk_at dksX1_isSound_1 14 rfl rfl)
theorem dX1_isSound_39 : decode cX1_isSound 39 = .ok (.aload_n 0, 1) := dk_42 (dk_at dksX1_isSound_1 17 rfl rfl)
theorem dX1_isSound_40 : decode cX1_isSound 40 = .ok (.aload_n 3, 1) := dk_45 (dk_at dksX1_isSound_1 18 rfl rfl)
theorem dX1_isSound_41 : decode cX1_isSound 41 = .ok (.getfield 101, 3) := dk_180 0 101 (dk_at dksX1_isSound_1 19 rfl rfl)
theorem dX1_isSound_44 : decode cX1_isSound 44 = .ok (.invokevirtual 375, 3) := dk_182 1 119 (dk_at dksX1_isSound_2 0 rfl rfl)
theorem dX1_isSound_47 : decode cX1_isSound 47 = .ok (.ifCond .eq 7, 3) := dk_153 0 7 (dk_at dksX1_isSound_2 3 rfl rfl)
theorem dX1_isSound_50 : decode cX1_isSound 50 = .ok (.iconst 1, 1) := dk_4 (dk_at dksX1_isSound_2 6 rfl rfl)
theorem dX1_isSound_51 : decode cX1_isSound 51 = .ok (.goto 4, 3) := dk_167 0 4 (dk_at dksX1_isSound_2 7 rfl rfl)
theorem dX1_isSound_54 : decode cX1_isSound 54 = .ok (.iconst 0, 1) := dk_3 (dk_at dksX1_isSound_2 10 rfl rfl)
theorem dX1_isSound_55 : decode cX1_isSound 55 = .ok (.iand, 1) := dk_126 (dk_at dksX1_isSound_2 11 rfl rfl)
theorem dX1_isSound_56 : decode cX1_isSound 56 = .ok (.istore_n 1, 1) := dk_60 (dk_at dksX1_isSound_2 12 rfl rfl)
theorem dX1_isSound_57 : decode cX1_isSound 57 = .ok (.goto (-45), 3) := dk_167 255 211 (dk_at dksX1_isSound_2 13 rfl rfl)
theorem dX1_isSound_60 : decode cX1_isSound 60 = .ok (.aload_n 0, 1) := dk_42 (dk_at dksX1_isSound_2 16 rfl rfl)
theorem dX1_isSound_61 : decode cX1_isSound 61 = .ok (.getfield 69, 3) := dk_180 0 69 (dk_at dksX1_isSound_2 17 rfl rfl)
theorem dX1_isSound_64 : decode cX1_isSound 64 = .ok (.invokeinterface 111 1, 5) := by decide +kernel
theorem dX1_isSound_69 : decode cX1_isSound 69 = .ok (.astore_n 2, 1) := dk_77 (dk_at dksX1_isSound_3 5 rfl rfl)
theorem dX1_isSound_70 : decode cX1_isSound 70 = .ok (.aload_n 2, 1) := dk_44 (dk_at dksX1_isSound_3 6 rfl rfl)
theorem dX1_isSound_71 : decode cX1_isSound 71 = .ok (.invokeinterface 115 1, 5) := by decide +kernel
theorem dX1_isSound_76 : decode cX1_isSound 76 = .ok (.ifCond .eq 59, 3) := dk_153 0 59 (dk_at dksX1_isSound_3 12 rfl rfl)
theorem dX1_isSound_79 : decode cX1_isSound 79 = .ok (.aload_n 2, 1) := dk_44 (dk_at dksX1_isSound_3 15 rfl rfl)
theorem dX1_isSound_80 : decode cX1_isSound 80 = .ok (.invokeinterface 121 1, 5) := by decide +kernel
theorem dX1_isSound_85 : decode cX1_isSound 85 = .ok (.checkcast 109, 3) := dk_192 0 109 (dk_at dksX1_isSound_3 21 rfl rfl)
theorem dX1_isSound_88 : decode cX1_isSound 88 = .ok (.astore_n 3, 1) := dk_78 (dk_at dksX1_isSound_4 0 rfl rfl)
theorem dX1_isSound_89 : decode cX1_isSound 89 = .ok (.iconst 0, 1) := dk_3 (dk_at dksX1_isSound_4 1 rfl rfl)
theorem dX1_isSound_90 : decode cX1_isSound 90 = .ok (.istore 4, 2) := dk_54 4 (dk_at dksX1_isSound_4 2 rfl rfl)
theorem dX1_isSound_92 : decode cX1_isSound 92 = .ok (.iload 4, 2) := dk_21 4 (dk_at dksX1_isSound_4 4 rfl rfl)
theorem dX1_isSound_94 : decode cX1_isSound 94 = .ok (.bipush 100, 2) := dk_16 100 (dk_at dksX1_isSound_4 6 rfl rfl)
theorem dX1_isSound_96 : decode cX1_isSound 96 = .ok (.if_icmp .ge 36, 3) := dk_162 0 36 (dk_at dksX1_isSound_4 8 rfl rfl)
theorem dX1_isSound_99 : decode cX1_isSound 99 = .ok (.iload_n 1, 1) := dk_27 (dk_at dksX1_isSound_4 11 rfl rfl)
theorem dX1_isSound_100 : decode cX1_isSound 100 = .ok (.aload_n 3, 1) := dk_45 (dk_at dksX1_isSound_4 12 rfl rfl)
theorem dX1_isSound_101 : decode cX1_isSound 101 = .ok (.getfield 350, 3) := dk_180 1 94 (dk_at dksX1_isSound_4 13 rfl rfl)
theorem dX1_isSound_104 : decode cX1_isSound 104 = .ok (.iload 4, 2) := dk_21 4 (dk_at dksX1_isSound_4 16 rfl rfl)
theorem dX1_isSound_106 : decode cX1_isSound 106 = .ok (.iaload, 1) := dk_46 (dk_at dksX1_isSound_4 18 rfl rfl)
theorem dX1_isSound_107 : decode cX1_isSound 107 = .ok (.iconst 1, 1) := dk_4 (dk_at dksX1_isSound_4 19 rfl rfl)
theorem dX1_isSound_108 : decode cX1_isSound 108 = .ok (.aload_n 3, 1) := dk_45 (dk_at dksX1_isSound_4 20 rfl rfl)
theorem dX1_isSound_109 : decode cX1_isSound 109 = .ok (.getfield 346, 3) := dk_180 1 90 (dk_at dksX1_isSound_4 21 rfl rfl)
theorem dX1_isSound_112 : decode cX1_isSound 112 = .ok (.iload 4, 2) := dk_21 4 (dk_at dksX1_isSound_5 0 rfl rfl)
theorem dX1_isSound_114 : decode cX1_isSound 114 = .ok (.iaload, 1) := dk_46 (dk_at dksX1_isSound_5 2 rfl rfl)
theorem dX1_isSound_115 : decode cX1_isSound 115 = .ok (.iadd, 1) := dk_96 (dk_at dksX1_isSound_5 3 rfl rfl)
theorem dX1_isSound_116 : decode cX1_isSound 116 = .ok (.if_icmp .gt 7, 3) := dk_163 0 7 (dk_at dksX1_isSound_5 4 rfl rfl)
theorem dX1_isSound_119 : decode cX1_isSound 119 = .ok (.iconst 1, 1) := dk_4 (dk_at dksX1_isSound_5 7 rfl rfl)
theorem dX1_isSound_120 : decode cX1_isSound 120 = .ok (.goto 4, 3) := dk_167 0 4 (dk_at dksX1_isSound_5 8 rfl rfl)
theorem dX1_isSound_123 : decode cX1_isSound 123 = .ok (.iconst 0, 1) := dk_3 (dk_at dksX1_isSound_5 11 rfl rfl)
theorem dX1_isSound_124 : decode cX1_isSound 124 = .ok (.iand, 1) := dk_126 (dk_at dksX1_isSound_5 12 rfl rfl)
theorem dX1_isSound_125 : decode cX1_isSound 125 = .ok (.istore_n 1, 1) := dk_60 (dk_at dksX1_isSound_5 13 rfl rfl)
theorem dX1_isSound_126 : decode cX1_isSound 126 = .ok (.iinc 4 1, 3) := dk_132 4 1 (dk_at dksX1_isSound_5 14 rfl rfl)
theorem dX1_isSound_129 : decode cX1_isSound 129 = .ok (.goto (-37), 3) := dk_167 255 219 (dk_at dksX1_isSound_5 17 rfl rfl)
theorem dX1_isSound_132 : decode cX1_isSound 132 = .ok (.goto (-62), 3) := dk_167 255 194 (dk_at dksX1_isSound_5 20 rfl rfl)
theorem dX1_isSound_135 : decode cX1_isSound 135 = .ok (.iload_n 1, 1) := dk_27 (dk_at dksX1_isSound_5 23 rfl rfl)
theorem dX1_isSound_136 : decode cX1_isSound 136 = .ok (.ireturn, 1) := dk_172 (dk_at dksX1_isSound_6 0 rfl rfl)
abbrev cX1_isSoundPlayer : ByteArray := prog_1_method_52_code
def yX1_isSoundPlayer : MethodName := ⟨RX1, "isSoundPlayer", "(LKioskReel$Player;)Z"⟩
def dkwX1_isSoundPlayer_2 : List UInt8 := [172]
abbrev dktX1_isSoundPlayer_2 : List UInt8 := dkwX1_isSoundPlayer_2 ++ []
def dkwX1_isSoundPlayer_1 : List UInt8 := [163, 0, 23, 28, 43, 180, 1, 9, 153, 0, 7, 4, 167, 0, 4, 3, 160, 0, 7, 4, 167, 0, 4, 3]
abbrev dktX1_isSoundPlayer_1 : List UInt8 := dkwX1_isSoundPlayer_1 ++ dktX1_isSoundPlayer_2
def dkwX1_isSoundPlayer_0 : List UInt8 := [42, 43, 186, 1, 117, 0, 0, 182, 0, 229, 61, 42, 43, 186, 1, 118, 0, 0, 182, 0, 229, 62, 29, 6]
abbrev dktX1_isSoundPlayer_0 : List UInt8 := dkwX1_isSoundPlayer_0 ++ dktX1_isSoundPlayer_1
theorem dksX1_isSoundPlayer_0 : cX1_isSoundPlayer.data.toList.drop 0 = dktX1_isSoundPlayer_0 := by decide +kernel
theorem dksX1_isSoundPlayer_1 : cX1_isSoundPlayer.data.toList.drop 24 = dktX1_isSoundPlayer_1 := dk_seg dksX1_isSoundPlayer_0 24 rfl rfl
theorem dksX1_isSoundPlayer_2 : cX1_isSoundPlayer.data.toList.drop 48 = dktX1_isSoundPlayer_2 := dk_seg dksX1_isSoundPlayer_1 24 rfl rfl
theorem dX1_isSoundPlayer_0 : decode cX1_isSoundPlayer 0 = .ok (.aload_n 0, 1) := dk_42 (dk_at dksX1_isSoundPlayer_0 0 rfl rfl)
theorem dX1_isSoundPlayer_1 : decode cX1_isSoundPlayer 1 = .ok (.aload_n 1, 1) := dk_43 (dk_at dksX1_isSoundPlayer_0 1 rfl rfl)
theorem dX1_isSoundPlayer_2 : decode cX1_isSoundPlayer 2 = .ok (.invokedynamic 373, 5) := by decide +kernel
theorem dX1_isSoundPlayer_7 : decode cX1_isSoundPlayer 7 = .ok (.invokevirtual 229, 3) := dk_182 0 229 (dk_at dksX1_isSoundPlayer_0 7 rfl rfl)
theorem dX1_isSoundPlayer_10 : decode cX1_isSoundPlayer 10 = .ok (.istore_n 2, 1) := dk_61 (dk_at dksX1_isSoundPlayer_0 10 rfl rfl)
theorem dX1_isSoundPlayer_11 : decode cX1_isSoundPlayer 11 = .ok (.aload_n 0, 1) := dk_42 (dk_at dksX1_isSoundPlayer_0 11 rfl rfl)
theorem dX1_isSoundPlayer_12 : decode cX1_isSoundPlayer 12 = .ok (.aload_n 1, 1) := dk_43 (dk_at dksX1_isSoundPlayer_0 12 rfl rfl)
theorem dX1_isSoundPlayer_13 : decode cX1_isSoundPlayer 13 = .ok (.invokedynamic 374, 5) := by decide +kernel
theorem dX1_isSoundPlayer_18 : decode cX1_isSoundPlayer 18 = .ok (.invokevirtual 229, 3) := dk_182 0 229 (dk_at dksX1_isSoundPlayer_0 18 rfl rfl)
theorem dX1_isSoundPlayer_21 : decode cX1_isSoundPlayer 21 = .ok (.istore_n 3, 1) := dk_62 (dk_at dksX1_isSoundPlayer_0 21 rfl rfl)
theorem dX1_isSoundPlayer_22 : decode cX1_isSoundPlayer 22 = .ok (.iload_n 3, 1) := dk_29 (dk_at dksX1_isSoundPlayer_0 22 rfl rfl)
theorem dX1_isSoundPlayer_23 : decode cX1_isSoundPlayer 23 = .ok (.iconst 3, 1) := dk_6 (dk_at dksX1_isSoundPlayer_0 23 rfl rfl)
theorem dX1_isSoundPlayer_24 : decode cX1_isSoundPlayer 24 = .ok (.if_icmp .gt 23, 3) := dk_163 0 23 (dk_at dksX1_isSoundPlayer_1 0 rfl rfl)
theorem dX1_isSoundPlayer_27 : decode cX1_isSoundPlayer 27 = .ok (.iload_n 2, 1) := dk_28 (dk_at dksX1_isSoundPlayer_1 3 rfl rfl)
theorem dX1_isSoundPlayer_28 : decode cX1_isSoundPlayer 28 = .ok (.aload_n 1, 1) := dk_43 (dk_at dksX1_isSoundPlayer_1 4 rfl rfl)
theorem dX1_isSoundPlayer_29 : decode cX1_isSoundPlayer 29 = .ok (.getfield 265, 3) := dk_180 1 9 (dk_at dksX1_isSoundPlayer_1 5 rfl rfl)
theorem dX1_isSoundPlayer_32 : decode cX1_isSoundPlayer 32 = .ok (.ifCond .eq 7, 3) := dk_153 0 7 (dk_at dksX1_isSoundPlayer_1 8 rfl rfl)
theorem dX1_isSoundPlayer_35 : decode cX1_isSoundPlayer 35 = .ok (.iconst 1, 1) := dk_4 (dk_at dksX1_isSoundPlayer_1 11 rfl rfl)
theorem dX1_isSoundPlayer_36 : decode cX1_isSoundPlayer 36 = .ok (.goto 4, 3) := dk_167 0 4 (dk_at dksX1_isSoundPlayer_1 12 rfl rfl)
theorem dX1_isSoundPlayer_39 : decode cX1_isSoundPlayer 39 = .ok (.iconst 0, 1) := dk_3 (dk_at dksX1_isSoundPlayer_1 15 rfl rfl)
theorem dX1_isSoundPlayer_40 : decode cX1_isSoundPlayer 40 = .ok (.if_icmp .ne 7, 3) := dk_160 0 7 (dk_at dksX1_isSoundPlayer_1 16 rfl rfl)
theorem dX1_isSoundPlayer_43 : decode cX1_isSoundPlayer 43 = .ok (.iconst 1, 1) := dk_4 (dk_at dksX1_isSoundPlayer_1 19 rfl rfl)
theorem dX1_isSoundPlayer_44 : decode cX1_isSoundPlayer 44 = .ok (.goto 4, 3) := dk_167 0 4 (dk_at dksX1_isSoundPlayer_1 20 rfl rfl)
theorem dX1_isSoundPlayer_47 : decode cX1_isSoundPlayer 47 = .ok (.iconst 0, 1) := dk_3 (dk_at dksX1_isSoundPlayer_1 23 rfl rfl)
theorem dX1_isSoundPlayer_48 : decode cX1_isSoundPlayer 48 = .ok (.ireturn, 1) := dk_172 (dk_at dksX1_isSoundPlayer_2 0 rfl rfl)
abbrev cX1_lambda_isSoundPlayer_5 : ByteArray := prog_1_method_55_code
def yX1_lambda_isSoundPlayer_5 : MethodName := ⟨RX1, "lambda$isSoundPlayer$5", "(LKioskReel$Player;LKioskReel$Device;)Z"⟩
def dkwX1_lambda_isSoundPlayer_5_0 : List UInt8 := [43, 180, 0, 233, 42, 185, 1, 123, 2, 0, 172]
abbrev dktX1_lambda_isSoundPlayer_5_0 : List UInt8 := dkwX1_lambda_isSoundPlayer_5_0 ++ []
theorem dksX1_lambda_isSoundPlayer_5_0 : cX1_lambda_isSoundPlayer_5.data.toList.drop 0 = dktX1_lambda_isSoundPlayer_5_0 := by decide +kernel
theorem dX1_lambda_isSoundPlayer_5_0 : decode cX1_lambda_isSoundPlayer_5 0 = .ok (.aload_n 1, 1) := dk_43 (dk_at dksX1_lambda_isSoundPlayer_5_0 0 rfl rfl)
theorem dX1_lambda_isSoundPlayer_5_1 : decode cX1_lambda_isSoundPlayer_5 1 = .ok (.getfield 233, 3) := dk_180 0 233 (dk_at dksX1_lambda_isSoundPlayer_5_0 1 rfl rfl)
theorem dX1_lambda_isSoundPlayer_5_4 : decode cX1_lambda_isSoundPlayer_5 4 = .ok (.aload_n 0, 1) := dk_42 (dk_at dksX1_lambda_isSoundPlayer_5_0 4 rfl rfl)
theorem dX1_lambda_isSoundPlayer_5_5 : decode cX1_lambda_isSoundPlayer_5 5 = .ok (.invokeinterface 379 2, 5) := by decide +kernel
theorem dX1_lambda_isSoundPlayer_5_10 : decode cX1_lambda_isSoundPlayer_5 10 = .ok (.ireturn, 1) := dk_172 (dk_at dksX1_lambda_isSoundPlayer_5_0 10 rfl rfl)
abbrev cX1_lambda_isSoundPlayer_6 : ByteArray := prog_1_method_54_code
def yX1_lambda_isSoundPlayer_6 : MethodName := ⟨RX1, "lambda$isSoundPlayer$6", "(LKioskReel$Player;LKioskReel$Device;)Z"⟩
def dkwX1_lambda_isSoundPlayer_6_0 : List UInt8 := [43, 180, 0, 236, 42, 166, 0, 7, 4, 167, 0, 4, 3, 172]
abbrev dktX1_lambda_isSoundPlayer_6_0 : List UInt8 := dkwX1_lambda_isSoundPlayer_6_0 ++ []
theorem dksX1_lambda_isSoundPlayer_6_0 : cX1_lambda_isSoundPlayer_6.data.toList.drop 0 = dktX1_lambda_isSoundPlayer_6_0 := by decide +kernel
theorem dX1_lambda_isSoundPlayer_6_0 : decode cX1_lambda_isSoundPlayer_6 0 = .ok (.aload_n 1, 1) := dk_43 (dk_at dksX1_lambda_isSoundPlayer_6_0 0 rfl rfl)
theorem dX1_lambda_isSoundPlayer_6_1 : decode cX1_lambda_isSoundPlayer_6 1 = .ok (.getfield 236, 3) := dk_180 0 236 (dk_at dksX1_lambda_isSoundPlayer_6_0 1 rfl rfl)
theorem dX1_lambda_isSoundPlayer_6_4 : decode cX1_lambda_isSoundPlayer_6 4 = .ok (.aload_n 0, 1) := dk_42 (dk_at dksX1_lambda_isSoundPlayer_6_0 4 rfl rfl)
theorem dX1_lambda_isSoundPlayer_6_5 : decode cX1_lambda_isSoundPlayer_6 5 = .ok (.if_acmp .ne 7, 3) := dk_166 0 7 (dk_at dksX1_lambda_isSoundPlayer_6_0 5 rfl rfl)
theorem dX1_lambda_isSoundPlayer_6_8 : decode cX1_lambda_isSoundPlayer_6 8 = .ok (.iconst 1, 1) := dk_4 (dk_at dksX1_lambda_isSoundPlayer_6_0 8 rfl rfl)
theorem dX1_lambda_isSoundPlayer_6_9 : decode cX1_lambda_isSoundPlayer_6 9 = .ok (.goto 4, 3) := dk_167 0 4 (dk_at dksX1_lambda_isSoundPlayer_6_0 9 rfl rfl)
theorem dX1_lambda_isSoundPlayer_6_12 : decode cX1_lambda_isSoundPlayer_6 12 = .ok (.iconst 0, 1) := dk_3 (dk_at dksX1_lambda_isSoundPlayer_6_0 12 rfl rfl)
theorem dX1_lambda_isSoundPlayer_6_13 : decode cX1_lambda_isSoundPlayer_6 13 = .ok (.ireturn, 1) := dk_172 (dk_at dksX1_lambda_isSoundPlayer_6_0 13 rfl rfl)
abbrev cX1_list : ByteArray := prog_1_method_16_code
def yX1_list : MethodName := ⟨RX1, "list", "()I"⟩
def dkwX1_list_2 : List UInt8 := [185, 0, 81, 1, 0, 4, 100, 172]
abbrev dktX1_list_2 : List UInt8 := dkwX1_list_2 ++ []
def dkwX1_list_1 : List UInt8 := [180, 0, 59, 187, 0, 93, 89, 183, 0, 139, 185, 0, 75, 2, 0, 87, 42, 180, 0, 59]
abbrev dktX1_list_1 : List UInt8 := dkwX1_list_1 ++ dktX1_list_2
def dkwX1_list_0 : List UInt8 := [42, 180, 0, 59, 185, 0, 81, 1, 0, 16, 8, 162, 0, 7, 4, 167, 0, 4, 3, 184, 0, 136, 42]
abbrev dktX1_list_0 : List UInt8 := dkwX1_list_0 ++ dktX1_list_1
theorem dksX1_list_0 : cX1_list.data.toList.drop 0 = dktX1_list_0 := by decide +kernel
theorem dksX1_list_1 : cX1_list.data.toList.drop 23 = dktX1_list_1 := dk_seg dksX1_list_0 23 rfl rfl
theorem dksX1_list_2 : cX1_list.data.toList.drop 43 = dktX1_list_2 := dk_seg dksX1_list_1 20 rfl rfl
theorem dX1_list_0 : decode cX1_list 0 = .ok (.aload_n 0, 1) := dk_42 (dk_at dksX1_list_0 0 rfl rfl)
theorem dX1_list_1 : decode cX1_list 1 = .ok (.getfield 59, 3) := dk_180 0 59 (dk_at dksX1_list_0 1 rfl rfl)
theorem dX1_list_4 : decode cX1_list 4 = .ok (.invokeinterface 81 1, 5) := by decide +kernel
theorem dX1_list_9 : decode cX1_list 9 = .ok (.bipush 8, 2) := dk_16 8 (dk_at dksX1_list_0 9 rfl rfl)
theorem dX1_list_11 : decode cX1_list 11 = .ok (.if_icmp .ge 7, 3) := dk_162 0 7 (dk_at dksX1_list_0 11 rfl rfl)
theorem dX1_list_14 : decode cX1_list 14 = .ok (.iconst 1, 1) := dk_4 (dk_at dksX1_list_0 14 rfl rfl)
theorem dX1_list_15 : decode cX1_list 15 = .ok (.goto 4, 3) := dk_167 0 4 (dk_at dksX1_list_0 15 rfl rfl)
theorem dX1_list_18 : decode cX1_list 18 = .ok (.iconst 0, 1) := dk_3 (dk_at dksX1_list_0 18 rfl rfl)
theorem dX1_list_19 : decode cX1_list 19 = .ok (.invokestatic 136, 3) := dk_184 0 136 (dk_at dksX1_list_0 19 rfl rfl)
theorem dX1_list_22 : decode cX1_list 22 = .ok (.aload_n 0, 1) := dk_42 (dk_at dksX1_list_0 22 rfl rfl)
theorem dX1_list_23 : decode cX1_list 23 = .ok (.getfield 59, 3) := dk_180 0 59 (dk_at dksX1_list_1 0 rfl rfl)
theorem dX1_list_26 : decode cX1_list 26 = .ok (.new 93, 3) := dk_187 0 93 (dk_at dksX1_list_1 3 rfl rfl)
theorem dX1_list_29 : decode cX1_list 29 = .ok (.dup, 1) := dk_89 (dk_at dksX1_list_1 6 rfl rfl)
theorem dX1_list_30 : decode cX1_list 30 = .ok (.invokespecial 139, 3) := dk_183 0 139 (dk_at dksX1_list_1 7 rfl rfl)
theorem dX1_list_33 : decode cX1_list 33 = .ok (.invokeinterface 75 2, 5) := by decide +kernel
theorem dX1_list_38 : decode cX1_list 38 = .ok (.pop, 1) := dk_87 (dk_at dksX1_list_1 15 rfl rfl)
theorem dX1_list_39 : decode cX1_list 39 = .ok (.aload_n 0, 1) := dk_42 (dk_at dksX1_list_1 16 rfl rfl)
theorem dX1_list_40 : decode cX1_list 40 = .ok (.getfield 59, 3) := dk_180 0 59 (dk_at dksX1_list_1 17 rfl rfl)
theorem dX1_list_43 : decode cX1_list 43 = .ok (.invokeinterface 81 1, 5) := by decide +kernel
theorem dX1_list_48 : decode cX1_list 48 = .ok (.iconst 1, 1) := dk_4 (dk_at dksX1_list_2 5 rfl rfl)
theorem dX1_list_49 : decode cX1_list 49 = .ok (.isub, 1) := dk_100 (dk_at dksX1_list_2 6 rfl rfl)
theorem dX1_list_50 : decode cX1_list 50 = .ok (.ireturn, 1) := dk_172 (dk_at dksX1_list_2 7 rfl rfl)
abbrev cX1_requireState : ByteArray := prog_1_method_4_code
def yX1_requireState : MethodName := ⟨RX1, "requireState", "(Z)V"⟩
def dkwX1_requireState_0 : List UInt8 := [26, 154, 0, 11, 187, 0, 10, 89, 183, 0, 12, 191, 177]
abbrev dktX1_requireState_0 : List UInt8 := dkwX1_requireState_0 ++ []
theorem dksX1_requireState_0 : cX1_requireState.data.toList.drop 0 = dktX1_requireState_0 := by decide +kernel
theorem dX1_requireState_0 : decode cX1_requireState 0 = .ok (.iload_n 0, 1) := dk_26 (dk_at dksX1_requireState_0 0 rfl rfl)
theorem dX1_requireState_1 : decode cX1_requireState 1 = .ok (.ifCond .ne 11, 3) := dk_154 0 11 (dk_at dksX1_requireState_0 1 rfl rfl)
theorem dX1_requireState_4 : decode cX1_requireState 4 = .ok (.new 10, 3) := dk_187 0 10 (dk_at dksX1_requireState_0 4 rfl rfl)
theorem dX1_requireState_7 : decode cX1_requireState 7 = .ok (.dup, 1) := dk_89 (dk_at dksX1_requireState_0 7 rfl rfl)
theorem dX1_requireState_8 : decode cX1_requireState 8 = .ok (.invokespecial 12, 3) := dk_183 0 12 (dk_at dksX1_requireState_0 8 rfl rfl)
theorem dX1_requireState_11 : decode cX1_requireState 11 = .ok (.athrow, 1) := dk_191 (dk_at dksX1_requireState_0 11 rfl rfl)
theorem dX1_requireState_12 : decode cX1_requireState 12 = .ok (.return_, 1) := dk_177 (dk_at dksX1_requireState_0 12 rfl rfl)
abbrev cX1_line : ByteArray := prog_1_method_17_code
def yX1_line : MethodName := ⟨RX1, "line", "(IICI)I"⟩
def dkwX1_line_4 : List UInt8 := [185, 0, 81, 1, 0, 172]
abbrev dktX1_line_4 : List UInt8 := dkwX1_line_4 ++ []
def dkwX1_line_3 : List UInt8 := [180, 0, 144, 28, 25, 6, 185, 0, 154, 3, 0, 25, 5, 182, 0, 157, 25, 5, 180, 0, 144]
abbrev dktX1_line_3 : List UInt8 := dkwX1_line_3 ++ dktX1_line_4
def dkwX1_line_2 : List UInt8 := [180, 0, 144, 185, 0, 81, 1, 0, 16, 20, 162, 0, 7, 4, 167, 0, 4, 3, 184, 0, 136, 25, 5]
abbrev dktX1_line_2 : List UInt8 := dkwX1_line_2 ++ dktX1_line_3
def dkwX1_line_1 : List UInt8 := [21, 4, 184, 0, 147, 58, 6, 25, 6, 198, 0, 7, 4, 167, 0, 4, 3, 184, 0, 151, 25, 5]
abbrev dktX1_line_1 : List UInt8 := dkwX1_line_1 ++ dktX1_line_2
def dkwX1_line_0 : List UInt8 := [42, 27, 182, 0, 140, 58, 5, 28, 25, 5, 180, 0, 144, 185, 0, 81, 1, 0, 4, 96, 184, 0, 85, 29]
abbrev dktX1_line_0 : List UInt8 := dkwX1_line_0 ++ dktX1_line_1
theorem dksX1_line_0 : cX1_line.data.toList.drop 0 = dktX1_line_0 := by decide +kernel
theorem dksX1_line_1 : cX1_line.data.toList.drop 24 = dktX1_line_1 := dk_seg dksX1_line_0 24 rfl rfl
theorem dksX1_line_2 : cX1_line.data.toList.drop 46 = dktX1_line_2 := dk_seg dksX1_line_1 22 rfl rfl
theorem dksX1_line_3 : cX1_line.data.toList.drop 69 = dktX1_line_3 := dk_seg dksX1_line_2 23 rfl rfl
theorem dksX1_line_4 : cX1_line.data.toList.drop 90 = dktX1_line_4 := dk_seg dksX1_line_3 21 rfl rfl
theorem dX1_line_0 : decode cX1_line 0 = .ok (.aload_n 0, 1) := dk_42 (dk_at dksX1_line_0 0 rfl rfl)
theorem dX1_line_1 : decode cX1_line 1 = .ok (.iload_n 1, 1) := dk_27 (dk_at dksX1_line_0 1 rfl rfl)
theorem dX1_line_2 : decode cX1_line 2 = .ok (.invokevirtual 140, 3) := dk_182 0 140 (dk_at dksX1_line_0 2 rfl rfl)
theorem dX1_line_5 : decode cX1_line 5 = .ok (.astore 5, 2) := dk_58 5 (dk_at dksX1_line_0 5 rfl rfl)
theorem dX1_line_7 : decode cX1_line 7 = .ok (.iload_n 2, 1) := dk_28 (dk_at dksX1_line_0 7 rfl rfl)
theorem dX1_line_8 : decode cX1_line 8 = .ok (.aload 5, 2) := dk_25 5 (dk_at dksX1_line_0 8 rfl rfl)
theorem dX1_line_10 : decode cX1_line 10 = .ok (.getfield 144, 3) := dk_180 0 144 (dk_at dksX1_line_0 10 rfl rfl)
theorem dX1_line_13 : decode cX1_line 13 = .ok (.invokeinterface 81 1, 5) := by decide +kernel
theorem dX1_line_18 : decode cX1_line 18 = .ok (.iconst 1, 1) := dk_4 (dk_at dksX1_line_0 18 rfl rfl)
theorem dX1_line_19 : decode cX1_line 19 = .ok (.iadd, 1) := dk_96 (dk_at dksX1_line_0 19 rfl rfl)
theorem dX1_line_20 : decode cX1_line 20 = .ok (.invokestatic 85, 3) := dk_184 0 85 (dk_at dksX1_line_0 20 rfl rfl)
theorem dX1_line_23 : decode cX1_line 23 = .ok (.iload_n 3, 1) := dk_29 (dk_at dksX1_line_0 23 rfl rfl)
theorem dX1_line_24 : decode cX1_line 24 = .ok (.iload 4, 2) := dk_21 4 (dk_at dksX1_line_1 0 rfl rfl)
theorem dX1_line_26 : decode cX1_line 26 = .ok (.invokestatic 147, 3) := dk_184 0 147 (dk_at dksX1_line_1 2 rfl rfl)
theorem dX1_line_29 : decode cX1_line 29 = .ok (.astore 6, 2) := dk_58 6 (dk_at dksX1_line_1 5 rfl rfl)
theorem dX1_line_31 : decode cX1_line 31 = .ok (.aload 6, 2) := dk_25 6 (dk_at dksX1_line_1 7 rfl rfl)
theorem dX1_line_33 : decode cX1_line 33 = .ok (.ifnull 7, 3) := dk_198 0 7 (dk_at dksX1_line_1 9 rfl rfl)
theorem dX1_line_36 : decode cX1_line 36 = .ok (.iconst 1, 1) := dk_4 (dk_at dksX1_line_1 12 rfl rfl)
theorem dX1_line_37 : decode cX1_line 37 = .ok (.goto 4, 3) := dk_167 0 4 (dk_at dksX1_line_1 13 rfl rfl)
theorem dX1_line_40 : decode cX1_line 40 = .ok (.iconst 0, 1) := dk_3 (dk_at dksX1_line_1 16 rfl rfl)
theorem dX1_line_41 : decode cX1_line 41 = .ok (.invokestatic 151, 3) := dk_184 0 151 (dk_at dksX1_line_1 17 rfl rfl)
theorem dX1_line_44 : decode cX1_line 44 = .ok (.aload 5, 2) := dk_25 5 (dk_at dksX1_line_1 20 rfl rfl)
theorem dX1_line_46 : decode cX1_line 46 = .ok (.getfield 144, 3) := dk_180 0 144 (dk_at dksX1_line_2 0 rfl rfl)
theorem dX1_line_49 : decode cX1_line 49 = .ok (.invokeinterface 81 1, 5) := by decide +kernel
theorem dX1_line_54 : decode cX1_line 54 = .ok (.bipush 20, 2) := dk_16 20 (dk_at dksX1_line_2 8 rfl rfl)
theorem dX1_line_56 : decode cX1_line 56 = .ok (.if_icmp .ge 7, 3) := dk_162 0 7 (dk_at dksX1_line_2 10 rfl rfl)
theorem dX1_line_59 : decode cX1_line 59 = .ok (.iconst 1, 1) := dk_4 (dk_at dksX1_line_2 13 rfl rfl)
theorem dX1_line_60 : decode cX1_line 60 = .ok (.goto 4, 3) := dk_167 0 4 (dk_at dksX1_line_2 14 rfl rfl)
theorem dX1_line_63 : decode cX1_line 63 = .ok (.iconst 0, 1) := dk_3 (dk_at dksX1_line_2 17 rfl rfl)
theorem dX1_line_64 : decode cX1_line 64 = .ok (.invokestatic 136, 3) := dk_184 0 136 (dk_at dksX1_line_2 18 rfl rfl)
theorem dX1_line_67 : decode cX1_line 67 = .ok (.aload 5, 2) := dk_25 5 (dk_at dksX1_line_2 21 rfl rfl)
theorem dX1_line_69 : decode cX1_line 69 = .ok (.getfield 144, 3) := dk_180 0 144 (dk_at dksX1_line_3 0 rfl rfl)
theorem dX1_line_72 : decode cX1_line 72 = .ok (.iload_n 2, 1) := dk_28 (dk_at dksX1_line_3 3 rfl rfl)
theorem dX1_line_73 : decode cX1_line 73 = .ok (.aload 6, 2) := dk_25 6 (dk_at dksX1_line_3 4 rfl rfl)
theorem dX1_line_75 : decode cX1_line 75 = .ok (.invokeinterface 154 3, 5) := by decide +kernel
theorem dX1_line_80 : decode cX1_line 80 = .ok (.aload 5, 2) := dk_25 5 (dk_at dksX1_line_3 11 rfl rfl)
theorem dX1_line_82 : decode cX1_line 82 = .ok (.invokevirtual 157, 3) := dk_182 0 157 (dk_at dksX1_line_3 13 rfl rfl)
theorem dX1_line_85 : decode cX1_line 85 = .ok (.aload 5, 2) := dk_25 5 (dk_at dksX1_line_3 16 rfl rfl)
theorem dX1_line_87 : decode cX1_line 87 = .ok (.getfield 144, 3) := dk_180 0 144 (dk_at dksX1_line_3 18 rfl rfl)
theorem dX1_line_90 : decode cX1_line 90 = .ok (.invokeinterface 81 1, 5) := by decide +kernel
theorem dX1_line_95 : decode cX1_line 95 = .ok (.ireturn, 1) := dk_172 (dk_at dksX1_line_4 5 rfl rfl)
abbrev cX1_listAt : ByteArray := prog_1_method_10_code
def yX1_listAt : MethodName := ⟨RX1, "listAt", "(I)LKioskReel$Playlist;"⟩
def dkwX1_listAt_1 : List UInt8 := [192, 0, 93, 176]
abbrev dktX1_listAt_1 : List UInt8 := dkwX1_listAt_1 ++ []
def dkwX1_listAt_0 : List UInt8 := [27, 42, 180, 0, 59, 185, 0, 81, 1, 0, 184, 0, 85, 42, 180, 0, 59, 27, 185, 0, 89, 2, 0]
abbrev dktX1_listAt_0 : List UInt8 := dkwX1_listAt_0 ++ dktX1_listAt_1
theorem dksX1_listAt_0 : cX1_listAt.data.toList.drop 0 = dktX1_listAt_0 := by decide +kernel
theorem dksX1_listAt_1 : cX1_listAt.data.toList.drop 23 = dktX1_listAt_1 := dk_seg dksX1_listAt_0 23 rfl rfl
theorem dX1_listAt_0 : decode cX1_listAt 0 = .ok (.iload_n 1, 1) := dk_27 (dk_at dksX1_listAt_0 0 rfl rfl)
theorem dX1_listAt_1 : decode cX1_listAt 1 = .ok (.aload_n 0, 1) := dk_42 (dk_at dksX1_listAt_0 1 rfl rfl)
theorem dX1_listAt_2 : decode cX1_listAt 2 = .ok (.getfield 59, 3) := dk_180 0 59 (dk_at dksX1_listAt_0 2 rfl rfl)
theorem dX1_listAt_5 : decode cX1_listAt 5 = .ok (.invokeinterface 81 1, 5) := by decide +kernel
theorem dX1_listAt_10 : decode cX1_listAt 10 = .ok (.invokestatic 85, 3) := dk_184 0 85 (dk_at dksX1_listAt_0 10 rfl rfl)
theorem dX1_listAt_13 : decode cX1_listAt 13 = .ok (.aload_n 0, 1) := dk_42 (dk_at dksX1_listAt_0 13 rfl rfl)
theorem dX1_listAt_14 : decode cX1_listAt 14 = .ok (.getfield 59, 3) := dk_180 0 59 (dk_at dksX1_listAt_0 14 rfl rfl)
theorem dX1_listAt_17 : decode cX1_listAt 17 = .ok (.iload_n 1, 1) := dk_27 (dk_at dksX1_listAt_0 17 rfl rfl)
theorem dX1_listAt_18 : decode cX1_listAt 18 = .ok (.invokeinterface 89 2, 5) := by decide +kernel
theorem dX1_listAt_23 : decode cX1_listAt 23 = .ok (.checkcast 93, 3) := dk_192 0 93 (dk_at dksX1_listAt_1 0 rfl rfl)
theorem dX1_listAt_26 : decode cX1_listAt 26 = .ok (.areturn, 1) := dk_176 (dk_at dksX1_listAt_1 3 rfl rfl)
abbrev cX1_requireIndex : ByteArray := prog_1_method_2_code
def yX1_requireIndex : MethodName := ⟨RX1, "requireIndex", "(II)V"⟩
def dkwX1_requireIndex_0 : List UInt8 := [26, 155, 0, 8, 26, 27, 161, 0, 11, 187, 0, 1, 89, 183, 0, 3, 191, 177]
abbrev dktX1_requireIndex_0 : List UInt8 := dkwX1_requireIndex_0 ++ []
theorem dksX1_requireIndex_0 : cX1_requireIndex.data.toList.drop 0 = dktX1_requireIndex_0 := by decide +kernel
theorem dX1_requireIndex_0 : decode cX1_requireIndex 0 = .ok (.iload_n 0, 1) := dk_26 (dk_at dksX1_requireIndex_0 0 rfl rfl)
theorem dX1_requireIndex_1 : decode cX1_requireIndex 1 = .ok (.ifCond .lt 8, 3) := dk_155 0 8 (dk_at dksX1_requireIndex_0 1 rfl rfl)
theorem dX1_requireIndex_4 : decode cX1_requireIndex 4 = .ok (.iload_n 0, 1) := dk_26 (dk_at dksX1_requireIndex_0 4 rfl rfl)
theorem dX1_requireIndex_5 : decode cX1_requireIndex 5 = .ok (.iload_n 1, 1) := dk_27 (dk_at dksX1_requireIndex_0 5 rfl rfl)
theorem dX1_requireIndex_6 : decode cX1_requireIndex 6 = .ok (.if_icmp .lt 11, 3) := dk_161 0 11 (dk_at dksX1_requireIndex_0 6 rfl rfl)
theorem dX1_requireIndex_9 : decode cX1_requireIndex 9 = .ok (.new 1, 3) := dk_187 0 1 (dk_at dksX1_requireIndex_0 9 rfl rfl)
theorem dX1_requireIndex_12 : decode cX1_requireIndex 12 = .ok (.dup, 1) := dk_89 (dk_at dksX1_requireIndex_0 12 rfl rfl)
theorem dX1_requireIndex_13 : decode cX1_requireIndex 13 = .ok (.invokespecial 3, 3) := dk_183 0 3 (dk_at dksX1_requireIndex_0 13 rfl rfl)
theorem dX1_requireIndex_16 : decode cX1_requireIndex 16 = .ok (.athrow, 1) := dk_191 (dk_at dksX1_requireIndex_0 16 rfl rfl)
theorem dX1_requireIndex_17 : decode cX1_requireIndex 17 = .ok (.return_, 1) := dk_177 (dk_at dksX1_requireIndex_0 17 rfl rfl)
abbrev cX1_lineOf : ByteArray := prog_1_method_6_code
def yX1_lineOf : MethodName := ⟨RX1, "lineOf", "(CI)LKioskReel$Line;"⟩
def dkwX1_lineOf_11 : List UInt8 := [1, 176]
abbrev dktX1_lineOf_11 : List UInt8 := dkwX1_lineOf_11 ++ []
def dkwX1_lineOf_10 : List UInt8 := [160, 0, 24, 27, 3, 16, 7, 184, 0, 18, 153, 0, 14, 187, 0, 48, 89, 27, 183, 0, 50, 167, 0, 4]
abbrev dktX1_lineOf_10 : List UInt8 := dkwX1_lineOf_10 ++ dktX1_lineOf_11
def dkwX1_lineOf_9 : List UInt8 := [184, 0, 18, 153, 0, 14, 187, 0, 45, 89, 27, 183, 0, 47, 167, 0, 4, 1, 176, 26, 16, 112]
abbrev dktX1_lineOf_9 : List UInt8 := dkwX1_lineOf_9 ++ dktX1_lineOf_10
def dkwX1_lineOf_8 : List UInt8 := [184, 0, 18, 153, 0, 14, 187, 0, 42, 89, 27, 183, 0, 44, 167, 0, 4, 1, 176, 27, 3, 16, 99]
abbrev dktX1_lineOf_8 : List UInt8 := dkwX1_lineOf_8 ++ dktX1_lineOf_9
def dkwX1_lineOf_7 : List UInt8 := [184, 0, 18, 153, 0, 14, 187, 0, 39, 89, 27, 183, 0, 41, 167, 0, 4, 1, 176, 27, 3, 16, 20]
abbrev dktX1_lineOf_7 : List UInt8 := dkwX1_lineOf_7 ++ dktX1_lineOf_8
def dkwX1_lineOf_6 : List UInt8 := [184, 0, 18, 153, 0, 14, 187, 0, 36, 89, 27, 183, 0, 38, 167, 0, 4, 1, 176, 27, 3, 16, 20]
abbrev dktX1_lineOf_6 : List UInt8 := dkwX1_lineOf_6 ++ dktX1_lineOf_7
def dkwX1_lineOf_5 : List UInt8 := [184, 0, 18, 153, 0, 14, 187, 0, 33, 89, 27, 183, 0, 35, 167, 0, 4, 1, 176, 27, 3, 16, 20]
abbrev dktX1_lineOf_5 : List UInt8 := dkwX1_lineOf_5 ++ dktX1_lineOf_6
def dkwX1_lineOf_4 : List UInt8 := [8, 184, 0, 18, 153, 0, 14, 187, 0, 30, 89, 27, 183, 0, 32, 167, 0, 4, 1, 176, 27, 3, 8]
abbrev dktX1_lineOf_4 : List UInt8 := dkwX1_lineOf_4 ++ dktX1_lineOf_5
def dkwX1_lineOf_3 : List UInt8 := [4, 16, 20, 184, 0, 18, 153, 0, 14, 187, 0, 27, 89, 27, 183, 0, 29, 167, 0, 4, 1, 176, 27, 3]
abbrev dktX1_lineOf_3 : List UInt8 := dkwX1_lineOf_3 ++ dktX1_lineOf_4
def dkwX1_lineOf_2 : List UInt8 := [27, 3, 16, 99, 184, 0, 18, 153, 0, 14, 187, 0, 22, 89, 27, 183, 0, 24, 167, 0, 4, 1, 176, 27]
abbrev dktX1_lineOf_2 : List UInt8 := dkwX1_lineOf_2 ++ dktX1_lineOf_3
def dkwX1_lineOf_1 : List UInt8 := [170, 0, 0, 0, 0, 1, 25, 0, 0, 0, 99, 0, 0, 0, 119, 0, 0, 1, 2, 0, 0, 0, 145, 0, 0, 1, 25, 0, 0, 0, 167, 0, 0, 0, 189, 0, 0, 1, 25, 0, 0, 1, 25, 0, 0, 1, 25, 0, 0, 1, 25, 0, 0, 0, 235, 0, 0, 1, 25, 0, 0, 1, 25, 0, 0, 1, 25, 0, 0, 1, 25, 0, 0, 1, 25, 0, 0, 1, 25, 0, 0, 0, 99, 0, 0, 1, 25, 0, 0, 1, 25, 0, 0, 0, 212, 0, 0, 0, 122]
abbrev dktX1_lineOf_1 : List UInt8 := dkwX1_lineOf_1 ++ dktX1_lineOf_2
def dkwX1_lineOf_0 : List UInt8 := [26]
abbrev dktX1_lineOf_0 : List UInt8 := dkwX1_lineOf_0 ++ dktX1_lineOf_1
theorem dksX1_lineOf_0 : cX1_lineOf.data.toList.drop 0 = dktX1_lineOf_0 := by decide +kernel
theorem dksX1_lineOf_1 : cX1_lineOf.data.toList.drop 1 = dktX1_lineOf_1 := dk_seg dksX1_lineOf_0 1 rfl rfl
theorem dksX1_lineOf_2 : cX1_lineOf.data.toList.drop 100 = dktX1_lineOf_2 := dk_seg dksX1_lineOf_1 99 rfl rfl
theorem dksX1_lineOf_3 : cX1_lineOf.data.toList.drop 124 = dktX1_lineOf_3 := dk_seg dksX1_lineOf_2 24 rfl rfl
theorem dksX1_lineOf_4 : cX1_lineOf.data.toList.drop 148 = dktX1_lineOf_4 := dk_seg dksX1_lineOf_3 24 rfl rfl
theorem dksX1_lineOf_5 : cX1_lineOf.data.toList.drop 171 = dktX1_lineOf_5 := dk_seg dksX1_lineOf_4 23 rfl rfl
theorem dksX1_lineOf_6 : cX1_lineOf.data.toList.drop 194 = dktX1_lineOf_6 := dk_seg dksX1_lineOf_5 23 rfl rfl
theorem dksX1_lineOf_7 : cX1_lineOf.data.toList.drop 217 = dktX1_lineOf_7 := dk_seg dksX1_lineOf_6 23 rfl rfl
theorem dksX1_lineOf_8 : cX1_lineOf.data.toList.drop 240 = dktX1_lineOf_8 := dk_seg dksX1_lineOf_7 23 rfl rfl
theorem dksX1_lineOf_9 : cX1_lineOf.data.toList.drop 263 = dktX1_lineOf_9 := dk_seg dksX1_lineOf_8 23 rfl rfl
theorem dksX1_lineOf_10 : cX1_lineOf.data.toList.drop 285 = dktX1_lineOf_10 := dk_seg dksX1_lineOf_9 22 rfl rfl
theorem dksX1_lineOf_11 : cX1_lineOf.data.toList.drop 309 = dktX1_lineOf_11 := dk_seg dksX1_lineOf_10 24 rfl rfl
theorem dX1_lineOf_0 : decode cX1_lineOf 0 = .ok (.iload_n 0, 1) := dk_26 (dk_at dksX1_lineOf_0 0 rfl rfl)
theorem dX1_lineOf_1 : decode cX1_lineOf 1 = .ok (.tableswitch 281 99 119 #[258, 145, 281, 167, 189, 281, 281, 281, 281, 235, 281, 281, 281, 281, 281, 281, 99, 281, 281, 212, 122], 99) := by decide +kernel
theorem dX1_lineOf_100 : decode cX1_lineOf 100 = .ok (.iload_n 1, 1) := dk_27 (dk_at dksX1_lineOf_2 0 rfl rfl)
theorem dX1_lineOf_101 : decode cX1_lineOf 101 = .ok (.iconst 0, 1) := dk_3 (dk_at dksX1_lineOf_2 1 rfl rfl)
theorem dX1_lineOf_102 : decode cX1_lineOf 102 = .ok (.bipush 99, 2) := dk_16 99 (dk_at dksX1_lineOf_2 2 rfl rfl)
theorem dX1_lineOf_104 : decode cX1_lineOf 104 = .ok (.invokestatic 18, 3) := dk_184 0 18 (dk_at dksX1_lineOf_2 4 rfl rfl)
theorem dX1_lineOf_107 : decode cX1_lineOf 107 = .ok (.ifCond .eq 14, 3) := dk_153 0 14 (dk_at dksX1_lineOf_2 7 rfl rfl)
theorem dX1_lineOf_110 : decode cX1_lineOf 110 = .ok (.new 22, 3) := dk_187 0 22 (dk_at dksX1_lineOf_2 10 rfl rfl)
theorem dX1_lineOf_113 : decode cX1_lineOf 113 = .ok (.dup, 1) := dk_89 (dk_at dksX1_lineOf_2 13 rfl rfl)
theorem dX1_lineOf_114 : decode cX1_lineOf 114 = .ok (.iload_n 1, 1) := dk_27 (dk_at dksX1_lineOf_2 14 rfl rfl)
theorem dX1_lineOf_115 : decode cX1_lineOf 115 = .ok (.invokespecial 24, 3) := dk_183 0 24 (dk_at dksX1_lineOf_2 15 rfl rfl)
theorem dX1_lineOf_118 : decode cX1_lineOf 118 = .ok (.goto 4, 3) := dk_167 0 4 (dk_at dksX1_lineOf_2 18 rfl rfl)
theorem dX1_lineOf_121 : decode cX1_lineOf 121 = .ok (.aconst_null, 1) := dk_1 (dk_at dksX1_lineOf_2 21 rfl rfl)
theorem dX1_lineOf_122 : decode cX1_lineOf 122 = .ok (.areturn, 1) := dk_176 (dk_at dksX1_lineOf_2 22 rfl rfl)
theorem dX1_lineOf_123 : decode cX1_lineOf 123 = .ok (.iload_n 1, 1) := dk_27 (dk_at dksX1_lineOf_2 23 rfl rfl)
theorem dX1_lineOf_124 : decode cX1_lineOf 124 = .ok (.iconst 1, 1) := dk_4 (dk_at dksX1_lineOf_3 0 rfl rfl)
theorem dX1_lineOf_125 : decode cX1_lineOf 125 = .ok (.bipush 20, 2) := dk_16 20 (dk_at dksX1_lineOf_3 1 rfl rfl)
theorem dX1_lineOf_127 : decode cX1_lineOf 127 = .ok (.invokestatic 18, 3) := dk_184 0 18 (dk_at dksX1_lineOf_3 3 rfl rfl)
theorem dX1_lineOf_130 : decode cX1_lineOf 130 = .ok (.ifCond .eq 14, 3) := dk_153 0 14 (dk_at dksX1_lineOf_3 6 rfl rfl)
theorem dX1_lineOf_133 : decode cX1_lineOf 133 = .ok (.new 27, 3) := dk_187 0 27 (dk_at dksX1_lineOf_3 9 rfl rfl)
theorem dX1_lineOf_136 : decode cX1_lineOf 136 = .ok (.dup, 1) := dk_89 (dk_at dksX1_lineOf_3 12 rfl rfl)
theorem dX1_lineOf_137 : decode cX1_lineOf 137 = .ok (.iload_n 1, 1) := dk_27 (dk_at dksX1_lineOf_3 13 rfl rfl)
theorem dX1_lineOf_138 : decode cX1_lineOf 138 = .ok (.invokespecial 29, 3) := dk_183 0 29 (dk_at dksX1_lineOf_3 14 rfl rfl)
theorem dX1_lineOf_141 : decode cX1_lineOf 141 = .ok (.goto 4, 3) := dk_167 0 4 (dk_at dksX1_lineOf_3 17 rfl rfl)
theorem dX1_lineOf_144 : decode cX1_lineOf 144 = .ok (.aconst_null, 1) := dk_1 (dk_at dksX1_lineOf_3 20 rfl rfl)
theorem dX1_lineOf_145 : decode cX1_lineOf 145 = .ok (.areturn, 1) := dk_176 (dk_at dksX1_lineOf_3 21 rfl rfl)
theorem dX1_lineOf_146 : decode cX1_lineOf 146 = .ok (.iload_n 1, 1) := dk_27 (dk_at dksX1_lineOf_3 22 rfl rfl)
theorem dX1_lineOf_147 : decode cX1_lineOf 147 = .ok (.iconst 0, 1) := dk_3 (dk_at dksX1_lineOf_3 23 rfl rfl)
theorem dX1_lineOf_148 : decode cX1_lineOf 148 = .ok (.iconst 5, 1) := dk_8 (dk_at dksX1_lineOf_4 0 rfl rfl)
theorem dX1_lineOf_149 : decode cX1_lineOf 149 = .ok (.invokestatic 18, 3) := dk_184 0 18 (dk_at dksX1_lineOf_4 1 rfl rfl)
theorem dX1_lineOf_152 : decode cX1_lineOf 152 = .ok (.ifCond .eq 14, 3) := dk_153 0 14 (dk_at dksX1_lineOf_4 4 rfl rfl)
theorem dX1_lineOf_155 : decode cX1_lineOf 155 = .ok (.new 30, 3) := dk_187 0 30 (dk_at dksX1_lineOf_4 7 rfl rfl)
theorem dX1_lineOf_158 : decode cX1_lineOf 158 = .ok (.dup, 1) := dk_89 (dk_at dksX1_lineOf_4 10 rfl rfl)
theorem dX1_lineOf_159 : decode cX1_lineOf 159 = .ok (.iload_n 1, 1) := dk_27 (dk_at dksX1_lineOf_4 11 rfl rfl)
theorem dX1_lineOf_160 : decode cX1_lineOf 160 = .ok (.invokespecial 32, 3) := dk_183 0 32 (dk_at dksX1_lineOf_4 12 rfl rfl)
theorem dX1_lineOf_163 : decode cX1_lineOf 163 = .ok (.goto 4, 3) := dk_167 0 4 (dk_at dksX1_lineOf_4 15 rfl rfl)
theorem dX1_lineOf_166 : decode cX1_lineOf 166 = .ok (.aconst_null, 1) := dk_1 (dk_at dksX1_lineOf_4 18 rfl rfl)
theorem dX1_lineOf_167 : decode cX1_lineOf 167 = .ok (.areturn, 1) := dk_176 (dk_at dksX1_lineOf_4 19 rfl rfl)
theorem dX1_lineOf_168 : decode cX1_lineOf 168 = .ok (.iload_n 1, 1) := dk_27 (dk_at dksX1_lineOf_4 20 rfl rfl)
theorem dX1_lineOf_169 : decode cX1_lineOf 169 = .ok (.iconst 0, 1) := dk_3 (dk_at dksX1_lineOf_4 21 rfl rfl)
theorem dX1_lineOf_170 : decode cX1_lineOf 170 = .ok (.iconst 5, 1) := dk_8 (dk_at dksX1_lineOf_4 22 rfl rfl)
theorem dX1_lineOf_171 : decode cX1_lineOf 171 = .ok (.invokestatic 18, 3) := dk_184 0 18 (dk_at dksX1_lineOf_5 0 rfl rfl)
theorem dX1_lineOf_174 : decode cX1_lineOf 174 = .ok (.ifCond .eq 14, 3) := dk_153 0 14 (dk_at dksX1_lineOf_5 3 rfl rfl)
theorem dX1_lineOf_177 : decode cX1_lineOf 177 = .ok (.new 33, 3) := dk_187 0 33 (dk_at dksX1_lineOf_5 6 rfl rfl)
theorem dX1_lineOf_180 : decode cX1_lineOf 180 = .ok (.dup, 1) := dk_89 (dk_at dksX1_lineOf_5 9 rfl rfl)
theorem dX1_lineOf_181 : decode cX1_lineOf 181 = .ok (.iload_n 1, 1) := dk_27 (dk_at dksX1_lineOf_5 10 rfl rfl)
theorem dX1_lineOf_182 : decode cX1_lineOf 182 = .ok (.invokespecial 35, 3) := dk_183 0 35 (dk_at dksX1_lineOf_5 11 rfl rfl)
theorem dX1_lineOf_185 : decode cX1_lineOf 185 = .ok (.goto 4, 3) := dk_167 0 4 (dk_at dksX1_lineOf_5 14 rfl rfl)
theorem dX1_lineOf_188 : decode cX1_lineOf 188 = .ok (.aconst_null, 1) := dk_1 (dk_at dksX1_lineOf_5 17 rfl rfl)
theorem dX1_lineOf_189 : decode cX1_lineOf 189 = .ok (.areturn, 1) := dk_176 (dk_at dksX1_lineOf_5 18 rfl rfl)
theorem dX1_lineOf_190 : decode cX1_lineOf 190 = .ok (.iload_n 1, 1) := dk_27 (dk_at dksX1_lineOf_5 19 rfl rfl)
theorem dX1_lineOf_191 : decode cX1_lineOf 191 = .ok (.iconst 0, 1) := dk_3 (dk_at dksX1_lineOf_5 20 rfl rfl)
theorem dX1_lineOf_192 : decode cX1_lineOf 192 = .ok (.bipush 20, 2) := dk_16 20 (dk_at dksX1_lineOf_5 21 rfl rfl)
theorem dX1_lineOf_194 : decode cX1_lineOf 194 = .ok (.invokestatic 18, 3) := dk_184 0 18 (dk_at dksX1_lineOf_6 0 rfl rfl)
theorem dX1_lineOf_197 : decode cX1_lineOf 197 = .ok (.ifCond .eq 14, 3) := dk_153 0 14 (dk_at dksX1_lineOf_6 3 rfl rfl)
theorem dX1_lineOf_200 : decode cX1_lineOf 200 = .ok (.new 36, 3) := dk_187 0 36 (dk_at dksX1_lineOf_6 6 rfl rfl)
theorem dX1_lineOf_203 : decode cX1_lineOf 203 = .ok (.dup, 1) := dk_89 (dk_at dksX1_lineOf_6 9 rfl rfl)
theorem dX1_lineOf_204 : decode cX1_lineOf 204 = .ok (.iload_n 1, 1) := dk_27 (dk_at dksX1_lineOf_6 10 rfl rfl)
theorem dX1_lineOf_205 : decode cX1_lineOf 205 = .ok (.invokespecial 38, 3) := dk_183 0 38 (dk_at dksX1_lineOf_6 11 rfl rfl)
theorem dX1_lineOf_208 : decode cX1_lineOf 208 = .ok (.goto 4, 3) := dk_167 0 4 (dk_at dksX1_lineOf_6 14 rfl rfl)
theorem dX1_lineOf_211 : decode cX1_lineOf 211 = .ok (.aconst_null, 1) := dk_1 (dk_at dksX1_lineOf_6 17 rfl rfl)
theorem dX1_lineOf_212 : decode cX1_lineOf 212 = .ok (.areturn, 1) := dk_176 (dk_at dksX1_lineOf_6 18 rfl rfl)
theorem dX1_lineOf_213 : decode cX1_lineOf 213 = .ok (.iload_n 1, 1) := dk_27 (dk_at dksX1_lineOf_6 19 rfl rfl)
theorem dX1_lineOf_214 : decode cX1_lineOf 214 = .ok (.iconst 0, 1) := dk_3 (dk_at dksX1_lineOf_6 20 rfl rfl)
theorem dX1_lineOf_215 : decode cX1_lineOf 215 = .ok (.bipush 20, 2) := dk_16 20 (dk_at dksX1_lineOf_6 21 rfl rfl)
theorem dX1_lineOf_217 : decode cX1_lineOf 217 = .ok (.invokestatic 18, 3) := dk_184 0 18 (dk_at dksX1_lineOf_7 0 rfl rfl)
theorem dX1_lineOf_220 : decode cX1_lineOf 220 = .ok (.ifCond .eq 14, 3) := dk_153 0 14 (dk_at dksX1_lineOf_7 3 rfl rfl)
theorem dX1_lineOf_223 : decode cX1_lineOf 223 = .ok (.new 39, 3) := dk_187 0 39 (dk_at dksX1_lineOf_7 6 rfl rfl)
theorem dX1_lineOf_226 : decode cX1_lineOf 226 = .ok (.dup, 1) := dk_89 (dk_at dksX1_lineOf_7 9 rfl rfl)
theorem dX1_lineOf_227 : decode cX1_lineOf 227 = .ok (.iload_n 1, 1) := dk_27 (dk_at dksX1_lineOf_7 10 rfl rfl)
theorem dX1_lineOf_228 : decode cX1_lineOf 228 = .ok (.invokespecial 41, 3) := dk_183 0 41 (dk_at dksX1_lineOf_7 11 rfl rfl)
theorem dX1_lineOf_231 : decode cX1_lineOf 231 = .ok (.goto 4, 3) := dk_167 0 4 (dk_at dksX1_lineOf_7 14 rfl rfl)
theorem dX1_lineOf_234 : decode cX1_lineOf 234 = .ok (.aconst_null, 1) := dk_1 (dk_at dksX1_lineOf_7 17 rfl rfl)
theorem dX1_lineOf_235 : decode cX1_lineOf 235 = .ok (.areturn, 1) := dk_176 (dk_at dksX1_lineOf_7 18 rfl rfl)
theorem dX1_lineOf_236 : decode cX1_lineOf 236 = .ok (.iload_n 1, 1) := dk_27 (dk_at dksX1_lineOf_7 19 rfl rfl)
theorem dX1_lineOf_237 : decode cX1_lineOf 237 = .ok (.iconst 0, 1) := dk_3 (dk_at dksX1_lineOf_7 20 rfl rfl)
theorem dX1_lineOf_238 : decode cX1_lineOf 238 = .ok (.bipush 20, 2) := dk_16 20 (dk_at dksX1_lineOf_7 21 rfl rfl)
theorem dX1_lineOf_240 : decode cX1_lineOf 240 = .ok (.invokestatic 18, 3) := dk_184 0 18 (dk_at dksX1_lineOf_8 0 rfl rfl)
theorem dX1_lineOf_243 : decode cX1_lineOf 243 = .ok (.ifCond .eq 14, 3) := dk_153 0 14 (dk_at dksX1_lineOf_8 3 rfl rfl)
theorem dX1_lineOf_246 : decode cX1_lineOf 246 = .ok (.new 42, 3) := dk_187 0 42 (dk_at dksX1_lineOf_8 6 rfl rfl)
theorem dX1_lineOf_249 : decode cX1_lineOf 249 = .ok (.dup, 1) := dk_89 (dk_at dksX1_lineOf_8 9 rfl rfl)
theorem dX1_lineOf_250 : decode cX1_lineOf 250 = .ok (.iload_n 1, 1) := dk_27 (dk_at dksX1_lineOf_8 10 rfl rfl)
theorem dX1_lineOf_251 : decode cX1_lineOf 251 = .ok (.invokespecial 44, 3) := dk_183 0 44 (dk_at dksX1_lineOf_8 11 rfl rfl)
theorem dX1_lineOf_254 : decode cX1_lineOf 254 = .ok (.goto 4, 3) := dk_167 0 4 (dk_at dksX1_lineOf_8 14 rfl rfl)
theorem dX1_lineOf_257 : decode cX1_lineOf 257 = .ok (.aconst_null, 1) := dk_1 (dk_at dksX1_lineOf_8 17 rfl rfl)
theorem dX1_lineOf_258 : decode cX1_lineOf 258 = .ok (.areturn, 1) := dk_176 (dk_at dksX1_lineOf_8 18 rfl rfl)
theorem dX1_lineOf_259 : decode cX1_lineOf 259 = .ok (.iload_n 1, 1) := dk_27 (dk_at dksX1_lineOf_8 19 rfl rfl)
theorem dX1_lineOf_260 : decode cX1_lineOf 260 = .ok (.iconst 0, 1) := dk_3 (dk_at dksX1_lineOf_8 20 rfl rfl)
theorem dX1_lineOf_261 : decode cX1_lineOf 261 = .ok (.bipush 99, 2) := dk_16 99 (dk_at dksX1_lineOf_8 21 rfl rfl)
theorem dX1_lineOf_263 : decode cX1_lineOf 263 = .ok (.invokestatic 18, 3) := dk_184 0 18 (dk_at dksX1_lineOf_9 0 rfl rfl)
theorem dX1_lineOf_266 : decode cX1_lineOf 266 = .ok (.ifCond .eq 14, 3) := dk_153 0 14 (dk_at dksX1_lineOf_9 3 rfl rfl)
theorem dX1_lineOf_269 : decode cX1_lineOf 269 = .ok (.new 45, 3) := dk_187 0 45 (dk_at dksX1_lineOf_9 6 rfl rfl)
theorem dX1_lineOf_272 : decode cX1_lineOf 272 = .ok (.dup, 1) := dk_89 (dk_at dksX1_lineOf_9 9 rfl rfl)
theorem dX1_lineOf_273 : decode cX1_lineOf 273 = .ok (.iload_n 1, 1) := dk_27 (dk_at dksX1_lineOf_9 10 rfl rfl)
theorem dX1_lineOf_274 : decode cX1_lineOf 274 = .ok (.invokespecial 47, 3) := dk_183 0 47 (dk_at dksX1_lineOf_9 11 rfl rfl)
theorem dX1_lineOf_277 : decode cX1_lineOf 277 = .ok (.goto 4, 3) := dk_167 0 4 (dk_at dksX1_lineOf_9 14 rfl rfl)
theorem dX1_lineOf_280 : decode cX1_lineOf 280 = .ok (.aconst_null, 1) := dk_1 (dk_at dksX1_lineOf_9 17 rfl rfl)
theorem dX1_lineOf_281 : decode cX1_lineOf 281 = .ok (.areturn, 1) := dk_176 (dk_at dksX1_lineOf_9 18 rfl rfl)
theorem dX1_lineOf_282 : decode cX1_lineOf 282 = .ok (.iload_n 0, 1) := dk_26 (dk_at dksX1_lineOf_9 19 rfl rfl)
theorem dX1_lineOf_283 : decode cX1_lineOf 283 = .ok (.bipush 112, 2) := dk_16 112 (dk_at dksX1_lineOf_9 20 rfl rfl)
theorem dX1_lineOf_285 : decode cX1_lineOf 285 = .ok (.if_icmp .ne 24, 3) := dk_160 0 24 (dk_at dksX1_lineOf_10 0 rfl rfl)
theorem dX1_lineOf_288 : decode cX1_lineOf 288 = .ok (.iload_n 1, 1) := dk_27 (dk_at dksX1_lineOf_10 3 rfl rfl)
theorem dX1_lineOf_289 : decode cX1_lineOf 289 = .ok (.iconst 0, 1) := dk_3 (dk_at dksX1_lineOf_10 4 rfl rfl)
theorem dX1_lineOf_290 : decode cX1_lineOf 290 = .ok (.bipush 7, 2) := dk_16 7 (dk_at dksX1_lineOf_10 5 rfl rfl)
theorem dX1_lineOf_292 : decode cX1_lineOf 292 = .ok (.invokestatic 18, 3) := dk_184 0 18 (dk_at dksX1_lineOf_10 7 rfl rfl)
theorem dX1_lineOf_295 : decode cX1_lineOf 295 = .ok (.ifCond .eq 14, 3) := dk_153 0 14 (dk_at dksX1_lineOf_10 10 rfl rfl)
theorem dX1_lineOf_298 : decode cX1_lineOf 298 = .ok (.new 48, 3) := dk_187 0 48 (dk_at dksX1_lineOf_10 13 rfl rfl)
theorem dX1_lineOf_301 : decode cX1_lineOf 301 = .ok (.dup, 1) := dk_89 (dk_at dksX1_lineOf_10 16 rfl rfl)
theorem dX1_lineOf_302 : decode cX1_lineOf 302 = .ok (.iload_n 1, 1) := dk_27 (dk_at dksX1_lineOf_10 17 rfl rfl)
theorem dX1_lineOf_303 : decode cX1_lineOf 303 = .ok (.invokespecial 50, 3) := dk_183 0 50 (dk_at dksX1_lineOf_10 18 rfl rfl)
theorem dX1_lineOf_306 : decode cX1_lineOf 306 = .ok (.goto 4, 3) := dk_167 0 4 (dk_at dksX1_lineOf_10 21 rfl rfl)
theorem dX1_lineOf_309 : decode cX1_lineOf 309 = .ok (.aconst_null, 1) := dk_1 (dk_at dksX1_lineOf_11 0 rfl rfl)
theorem dX1_lineOf_310 : decode cX1_lineOf 310 = .ok (.areturn, 1) := dk_176 (dk_at dksX1_lineOf_11 1 rfl rfl)
abbrev cX1_isIn : ByteArray := prog_1_method_1_code
def yX1_isIn : MethodName := ⟨RX1, "isIn", "(III)Z"⟩
def dkwX1_isIn_0 : List UInt8 := [26, 27, 161, 0, 12, 26, 28, 163, 0, 7, 4, 167, 0, 4, 3, 172]
abbrev dktX1_isIn_0 : List UInt8 := dkwX1_isIn_0 ++ []
theorem dksX1_isIn_0 : cX1_isIn.data.toList.drop 0 = dktX1_isIn_0 := by decide +kernel
theorem dX1_isIn_0 : decode cX1_isIn 0 = .ok (.iload_n 0, 1) := dk_26 (dk_at dksX1_isIn_0 0 rfl rfl)
theorem dX1_isIn_1 : decode cX1_isIn 1 = .ok (.iload_n 1, 1) := dk_27 (dk_at dksX1_isIn_0 1 rfl rfl)
theorem dX1_isIn_2 : decode cX1_isIn 2 = .ok (.if_icmp .lt 12, 3) := dk_161 0 12 (dk_at dksX1_isIn_0 2 rfl rfl)
theorem dX1_isIn_5 : decode cX1_isIn 5 = .ok (.iload_n 0, 1) := dk_26 (dk_at dksX1_isIn_0 5 rfl rfl)
theorem dX1_isIn_6 : decode cX1_isIn 6 = .ok (.iload_n 2, 1) := dk_28 (dk_at dksX1_isIn_0 6 rfl rfl)
theorem dX1_isIn_7 : decode cX1_isIn 7 = .ok (.if_icmp .gt 7, 3) := dk_163 0 7 (dk_at dksX1_isIn_0 7 rfl rfl)
theorem dX1_isIn_10 : decode cX1_isIn 10 = .ok (.iconst 1, 1) := dk_4 (dk_at dksX1_isIn_0 10 rfl rfl)
theorem dX1_isIn_11 : decode cX1_isIn 11 = .ok (.goto 4, 3) := dk_167 0 4 (dk_at dksX1_isIn_0 11 rfl rfl)
theorem dX1_isIn_14 : decode cX1_isIn 14 = .ok (.iconst 0, 1) := dk_3 (dk_at dksX1_isIn_0 14 rfl rfl)
theorem dX1_isIn_15 : decode cX1_isIn 15 = .ok (.ireturn, 1) := dk_172 (dk_at dksX1_isIn_0 15 rfl rfl)
abbrev cX1_requireValid : ByteArray := prog_1_method_3_code
def yX1_requireValid : MethodName := ⟨RX1, "requireValid", "(Z)V"⟩
def dkwX1_requireValid_0 : List UInt8 := [26, 154, 0, 11, 187, 0, 7, 89, 183, 0, 9, 191, 177]
abbrev dktX1_requireValid_0 : List UInt8 := dkwX1_requireValid_0 ++ []
theorem dksX1_requireValid_0 : cX1_requireValid.data.toList.drop 0 = dktX1_requireValid_0 := by decide +kernel
theorem dX1_requireValid_0 : decode cX1_requireValid 0 = .ok (.iload_n 0, 1) := dk_26 (dk_at dksX1_requireValid_0 0 rfl rfl)
theorem dX1_requireValid_1 : decode cX1_requireValid 1 = .ok (.ifCond .ne 11, 3) := dk_154 0 11 (dk_at dksX1_requireValid_0 1 rfl rfl)
theorem dX1_requireValid_4 : decode cX1_requireValid 4 = .ok (.new 7, 3) := dk_187 0 7 (dk_at dksX1_requireValid_0 4 rfl rfl)
theorem dX1_requireValid_7 : decode cX1_requireValid 7 = .ok (.dup, 1) := dk_89 (dk_at dksX1_requireValid_0 7 rfl rfl)
theorem dX1_requireValid_8 : decode cX1_requireValid 8 = .ok (.invokespecial 9, 3) := dk_183 0 9 (dk_at dksX1_requireValid_0 8 rfl rfl)
theorem dX1_requireValid_11 : decode cX1_requireValid 11 = .ok (.athrow, 1) := dk_191 (dk_at dksX1_requireValid_0 11 rfl rfl)
theorem dX1_requireValid_12 : decode cX1_requireValid 12 = .ok (.return_, 1) := dk_177 (dk_at dksX1_requireValid_0 12 rfl rfl)
abbrev cX1_cut : ByteArray := prog_1_method_19_code
def yX1_cut : MethodName := ⟨RX1, "cut", "(II)C"⟩
def dkwX1_cut_1 : List UInt8 := [185, 0, 176, 2, 0, 192, 0, 179, 58, 4, 45, 182, 0, 157, 25, 4, 184, 0, 181, 172]
abbrev dktX1_cut_1 : List UInt8 := dkwX1_cut_1 ++ []
def dkwX1_cut_0 : List UInt8 := [42, 27, 182, 0, 140, 78, 28, 45, 180, 0, 144, 185, 0, 81, 1, 0, 184, 0, 85, 45, 180, 0, 144, 28]
abbrev dktX1_cut_0 : List UInt8 := dkwX1_cut_0 ++ dktX1_cut_1
theorem dksX1_cut_0 : cX1_cut.data.toList.drop 0 = dktX1_cut_0 := by decide +kernel
theorem dksX1_cut_1 : cX1_cut.data.toList.drop 24 = dktX1_cut_1 := dk_seg dksX1_cut_0 24 rfl rfl
theorem dX1_cut_0 : decode cX1_cut 0 = .ok (.aload_n 0, 1) := dk_42 (dk_at dksX1_cut_0 0 rfl rfl)
theorem dX1_cut_1 : decode cX1_cut 1 = .ok (.iload_n 1, 1) := dk_27 (dk_at dksX1_cut_0 1 rfl rfl)
theorem dX1_cut_2 : decode cX1_cut 2 = .ok (.invokevirtual 140, 3) := dk_182 0 140 (dk_at dksX1_cut_0 2 rfl rfl)
theorem dX1_cut_5 : decode cX1_cut 5 = .ok (.astore_n 3, 1) := dk_78 (dk_at dksX1_cut_0 5 rfl rfl)
theorem dX1_cut_6 : decode cX1_cut 6 = .ok (.iload_n 2, 1) := dk_28 (dk_at dksX1_cut_0 6 rfl rfl)
theorem dX1_cut_7 : decode cX1_cut 7 = .ok (.aload_n 3, 1) := dk_45 (dk_at dksX1_cut_0 7 rfl rfl)
theorem dX1_cut_8 : decode cX1_cut 8 = .ok (.getfield 144, 3) := dk_180 0 144 (dk_at dksX1_cut_0 8 rfl rfl)
theorem dX1_cut_11 : decode cX1_cut 11 = .ok (.invokeinterface 81 1, 5) := by decide +kernel
theorem dX1_cut_16 : decode cX1_cut 16 = .ok (.invokestatic 85, 3) := dk_184 0 85 (dk_at dksX1_cut_0 16 rfl rfl)
theorem dX1_cut_19 : decode cX1_cut 19 = .ok (.aload_n 3, 1) := dk_45 (dk_at dksX1_cut_0 19 rfl rfl)
theorem dX1_cut_20 : decode cX1_cut 20 = .ok (.getfield 144, 3) := dk_180 0 144 (dk_at dksX1_cut_0 20 rfl rfl)
theorem dX1_cut_23 : decode cX1_cut 23 = .ok (.iload_n 2, 1) := dk_28 (dk_at dksX1_cut_0 23 rfl rfl)
theorem dX1_cut_24 : decode cX1_cut 24 = .ok (.invokeinterface 176 2, 5) := by decide +kernel
theorem dX1_cut_29 : decode cX1_cut 29 = .ok (.checkcast 179, 3) := dk_192 0 179 (dk_at dksX1_cut_1 5 rfl rfl)
theorem dX1_cut_32 : decode cX1_cut 32 = .ok (.astore 4, 2) := dk_58 4 (dk_at dksX1_cut_1 8 rfl rfl)
theorem dX1_cut_34 : decode cX1_cut 34 = .ok (.aload_n 3, 1) := dk_45 (dk_at dksX1_cut_1 10 rfl rfl)
theorem dX1_cut_35 : decode cX1_cut 35 = .ok (.invokevirtual 157, 3) := dk_182 0 157 (dk_at dksX1_cut_1 11 rfl rfl)
theorem dX1_cut_38 : decode cX1_cut 38 = .ok (.aload 4, 2) := dk_25 4 (dk_at dksX1_cut_1 14 rfl rfl)
theorem dX1_cut_40 : decode cX1_cut 40 = .ok (.invokestatic 181, 3) := dk_184 0 181 (dk_at dksX1_cut_1 16 rfl rfl)
theorem dX1_cut_43 : decode cX1_cut 43 = .ok (.ireturn, 1) := dk_172 (dk_at dksX1_cut_1 19 rfl rfl)
abbrev cX1_kindOf : ByteArray := prog_1_method_18_code
def yX1_kindOf : MethodName := ⟨RX1, "kindOf", "(LKioskReel$Line;)C"⟩
def dkwX1_kindOf_2 : List UInt8 := [132, 4, 1, 167, 255, 220, 27, 172]
abbrev dktX1_kindOf_2 : List UInt8 := dkwX1_kindOf_2 ++ []
def dkwX1_kindOf_1 : List UInt8 := [52, 54, 5, 21, 5, 4, 184, 0, 168, 3, 42, 184, 0, 172, 153, 0, 8, 21, 5, 167, 0, 4, 27, 60]
abbrev dktX1_kindOf_1 : List UInt8 := dkwX1_kindOf_1 ++ dktX1_kindOf_2
def dkwX1_kindOf_0 : List UInt8 := [16, 115, 60, 18, 160, 182, 0, 162, 77, 44, 190, 62, 3, 54, 4, 21, 4, 29, 162, 0, 36, 44, 21, 4]
abbrev dktX1_kindOf_0 : List UInt8 := dkwX1_kindOf_0 ++ dktX1_kindOf_1
theorem dksX1_kindOf_0 : cX1_kindOf.data.toList.drop 0 = dktX1_kindOf_0 := by decide +kernel
theorem dksX1_kindOf_1 : cX1_kindOf.data.toList.drop 24 = dktX1_kindOf_1 := dk_seg dksX1_kindOf_0 24 rfl rfl
theorem dksX1_kindOf_2 : cX1_kindOf.data.toList.drop 48 = dktX1_kindOf_2 := dk_seg dksX1_kindOf_1 24 rfl rfl
theorem dX1_kindOf_0 : decode cX1_kindOf 0 = .ok (.bipush 115, 2) := dk_16 115 (dk_at dksX1_kindOf_0 0 rfl rfl)
theorem dX1_kindOf_2 : decode cX1_kindOf 2 = .ok (.istore_n 1, 1) := dk_60 (dk_at dksX1_kindOf_0 2 rfl rfl)
theorem dX1_kindOf_3 : decode cX1_kindOf 3 = .ok (.ldc 160, 2) := dk_18 160 (dk_at dksX1_kindOf_0 3 rfl rfl)
theorem dX1_kindOf_5 : decode cX1_kindOf 5 = .ok (.invokevirtual 162, 3) := dk_182 0 162 (dk_at dksX1_kindOf_0 5 rfl rfl)
theorem dX1_kindOf_8 : decode cX1_kindOf 8 = .ok (.astore_n 2, 1) := dk_77 (dk_at dksX1_kindOf_0 8 rfl rfl)
theorem dX1_kindOf_9 : decode cX1_kindOf 9 = .ok (.aload_n 2, 1) := dk_44 (dk_at dksX1_kindOf_0 9 rfl rfl)
theorem dX1_kindOf_10 : decode cX1_kindOf 10 = .ok (.arraylength, 1) := dk_190 (dk_at dksX1_kindOf_0 10 rfl rfl)
theorem dX1_kindOf_11 : decode cX1_kindOf 11 = .ok (.istore_n 3, 1) := dk_62 (dk_at dksX1_kindOf_0 11 rfl rfl)
theorem dX1_kindOf_12 : decode cX1_kindOf 12 = .ok (.iconst 0, 1) := dk_3 (dk_at dksX1_kindOf_0 12 rfl rfl)
theorem dX1_kindOf_13 : decode cX1_kindOf 13 = .ok (.istore 4, 2) := dk_54 4 (dk_at dksX1_kindOf_0 13 rfl rfl)
theorem dX1_kindOf_15 : decode cX1_kindOf 15 = .ok (.iload 4, 2) := dk_21 4 (dk_at dksX1_kindOf_0 15 rfl rfl)
theorem dX1_kindOf_17 : decode cX1_kindOf 17 = .ok (.iload_n 3, 1) := dk_29 (dk_at dksX1_kindOf_0 17 rfl rfl)
theorem dX1_kindOf_18 : decode cX1_kindOf 18 = .ok (.if_icmp .ge 36, 3) := dk_162 0 36 (dk_at dksX1_kindOf_0 18 rfl rfl)
theorem dX1_kindOf_21 : decode cX1_kindOf 21 = .ok (.aload_n 2, 1) := dk_44 (dk_at dksX1_kindOf_0 21 rfl rfl)
theorem dX1_kindOf_22 : decode cX1_kindOf 22 = .ok (.iload 4, 2) := dk_21 4 (dk_at dksX1_kindOf_0 22 rfl rfl)
theorem dX1_kindOf_24 : decode cX1_kindOf 24 = .ok (.caload, 1) := dk_52 (dk_at dksX1_kindOf_1 0 rfl rfl)
theorem dX1_kindOf_25 : decode cX1_kindOf 25 = .ok (.istore 5, 2) := dk_54 5 (dk_at dksX1_kindOf_1 1 rfl rfl)
theorem dX1_kindOf_27 : decode cX1_kindOf 27 = .ok (.iload 5, 2) := dk_21 5 (dk_at dksX1_kindOf_1 3 rfl rfl)
theorem dX1_kindOf_29 : decode cX1_kindOf 29 = .ok (.iconst 1, 1) := dk_4 (dk_at dksX1_kindOf_1 5 rfl rfl)
theorem dX1_kindOf_30 : decode cX1_kindOf 30 = .ok (.invokestatic 168, 3) := dk_184 0 168 (dk_at dksX1_kindOf_1 6 rfl rfl)
theorem dX1_kindOf_33 : decode cX1_kindOf 33 = .ok (.iconst 0, 1) := dk_3 (dk_at dksX1_kindOf_1 9 rfl rfl)
theorem dX1_kindOf_34 : decode cX1_kindOf 34 = .ok (.aload_n 0, 1) := dk_42 (dk_at dksX1_kindOf_1 10 rfl rfl)
theorem dX1_kindOf_35 : decode cX1_kindOf 35 = .ok (.invokestatic 172, 3) := dk_184 0 172 (dk_at dksX1_kindOf_1 11 rfl rfl)
theorem dX1_kindOf_38 : decode cX1_kindOf 38 = .ok (.ifCond .eq 8, 3) := dk_153 0 8 (dk_at dksX1_kindOf_1 14 rfl rfl)
theorem dX1_kindOf_41 : decode cX1_kindOf 41 = .ok (.iload 5, 2) := dk_21 5 (dk_at dksX1_kindOf_1 17 rfl rfl)
theorem dX1_kindOf_43 : decode cX1_kindOf 43 = .ok (.goto 4, 3) := dk_167 0 4 (dk_at dksX1_kindOf_1 19 rfl rfl)
theorem dX1_kindOf_46 : decode cX1_kindOf 46 = .ok (.iload_n 1, 1) := dk_27 (dk_at dksX1_kindOf_1 22 rfl rfl)
theorem dX1_kindOf_47 : decode cX1_kindOf 47 = .ok (.istore_n 1, 1) := dk_60 (dk_at dksX1_kindOf_1 23 rfl rfl)
theorem dX1_kindOf_48 : decode cX1_kindOf 48 = .ok (.iinc 4 1, 3) := dk_132 4 1 (dk_at dksX1_kindOf_2 0 rfl rfl)
theorem dX1_kindOf_51 : decode cX1_kindOf 51 = .ok (.goto (-36), 3) := dk_167 255 220 (dk_at dksX1_kindOf_2 3 rfl rfl)
theorem dX1_kindOf_54 : decode cX1_kindOf 54 = .ok (.iload_n 1, 1) := dk_27 (dk_at dksX1_kindOf_2 6 rfl rfl)
theorem dX1_kindOf_55 : decode cX1_kindOf 55 = .ok (.ireturn, 1) := dk_172 (dk_at dksX1_kindOf_2 7 rfl rfl)
abbrev cX1_roomFor : ByteArray := prog_1_method_7_code
def yX1_roomFor : MethodName := ⟨RX1, "roomFor", "(CI)[LKioskReel$Line;"⟩
def dkwX1_roomFor_4 : List UInt8 := [189, 0, 48, 167, 0, 4, 1, 176]
abbrev dktX1_roomFor_4 : List UInt8 := dkwX1_roomFor_4 ++ []
def dkwX1_roomFor_3 : List UInt8 := [176, 27, 189, 0, 39, 176, 27, 189, 0, 42, 176, 27, 189, 0, 45, 176, 26, 16, 112, 160, 0, 10, 27]
abbrev dktX1_roomFor_3 : List UInt8 := dkwX1_roomFor_3 ++ dktX1_roomFor_4
def dkwX1_roomFor_2 : List UInt8 := [27, 189, 0, 22, 176, 27, 189, 0, 27, 176, 27, 189, 0, 30, 176, 27, 189, 0, 33, 176, 27, 189, 0, 36]
abbrev dktX1_roomFor_2 : List UInt8 := dkwX1_roomFor_2 ++ dktX1_roomFor_3
def dkwX1_roomFor_1 : List UInt8 := [170, 0, 0, 0, 0, 0, 139, 0, 0, 0, 99, 0, 0, 0, 119, 0, 0, 0, 134, 0, 0, 0, 109, 0, 0, 0, 139, 0, 0, 0, 114, 0, 0, 0, 119, 0, 0, 0, 139, 0, 0, 0, 139, 0, 0, 0, 139, 0, 0, 0, 139, 0, 0, 0, 129, 0, 0, 0, 139, 0, 0, 0, 139, 0, 0, 0, 139, 0, 0, 0, 139, 0, 0, 0, 139, 0, 0, 0, 139, 0, 0, 0, 99, 0, 0, 0, 139, 0, 0, 0, 139, 0, 0, 0, 124, 0, 0, 0, 104]
abbrev dktX1_roomFor_1 : List UInt8 := dkwX1_roomFor_1 ++ dktX1_roomFor_2
def dkwX1_roomFor_0 : List UInt8 := [26]
abbrev dktX1_roomFor_0 : List UInt8 := dkwX1_roomFor_0 ++ dktX1_roomFor_1
theorem dksX1_roomFor_0 : cX1_roomFor.data.toList.drop 0 = dktX1_roomFor_0 := by decide +kernel
theorem dksX1_roomFor_1 : cX1_roomFor.data.toList.drop 1 = dktX1_roomFor_1 := dk_seg dksX1_roomFor_0 1 rfl rfl
theorem dksX1_roomFor_2 : cX1_roomFor.data.toList.drop 100 = dktX1_roomFor_2 := dk_seg dksX1_roomFor_1 99 rfl rfl
theorem dksX1_roomFor_3 : cX1_roomFor.data.toList.drop 124 = dktX1_roomFor_3 := dk_seg dksX1_roomFor_2 24 rfl rfl
theorem dksX1_roomFor_4 : cX1_roomFor.data.toList.drop 147 = dktX1_roomFor_4 := dk_seg dksX1_roomFor_3 23 rfl rfl
theorem dX1_roomFor_0 : decode cX1_roomFor 0 = .ok (.iload_n 0, 1) := dk_26 (dk_at dksX1_roomFor_0 0 rfl rfl)
theorem dX1_roomFor_1 : decode cX1_roomFor 1 = .ok (.tableswitch 139 99 119 #[134, 109, 139, 114, 119, 139, 139, 139, 139, 129, 139, 139, 139, 139, 139, 139, 99, 139, 139, 124, 104], 99) := by decide +kernel
theorem dX1_roomFor_100 : decode cX1_roomFor 100 = .ok (.iload_n 1, 1) := dk_27 (dk_at dksX1_roomFor_2 0 rfl rfl)
theorem dX1_roomFor_101 : decode cX1_roomFor 101 = .ok (.anewarray 22, 3) := dk_189 0 22 (dk_at dksX1_roomFor_2 1 rfl rfl)
theorem dX1_roomFor_104 : decode cX1_roomFor 104 = .ok (.areturn, 1) := dk_176 (dk_at dksX1_roomFor_2 4 rfl rfl)
theorem dX1_roomFor_105 : decode cX1_roomFor 105 = .ok (.iload_n 1, 1) := dk_27 (dk_at dksX1_roomFor_2 5 rfl rfl)
theorem dX1_roomFor_106 : decode cX1_roomFor 106 = .ok (.anewarray 27, 3) := dk_189 0 27 (dk_at dksX1_roomFor_2 6 rfl rfl)
theorem dX1_roomFor_109 : decode cX1_roomFor 109 = .ok (.areturn, 1) := dk_176 (dk_at dksX1_roomFor_2 9 rfl rfl)
theorem dX1_roomFor_110 : decode cX1_roomFor 110 = .ok (.iload_n 1, 1) := dk_27 (dk_at dksX1_roomFor_2 10 rfl rfl)
theorem dX1_roomFor_111 : decode cX1_roomFor 111 = .ok (.anewarray 30, 3) := dk_189 0 30 (dk_at dksX1_roomFor_2 11 rfl rfl)
theorem dX1_roomFor_114 : decode cX1_roomFor 114 = .ok (.areturn, 1) := dk_176 (dk_at dksX1_roomFor_2 14 rfl rfl)
theorem dX1_roomFor_115 : decode cX1_roomFor 115 = .ok (.iload_n 1, 1) := dk_27 (dk_at dksX1_roomFor_2 15 rfl rfl)
theorem dX1_roomFor_116 : decode cX1_roomFor 116 = .ok (.anewarray 33, 3) := dk_189 0 33 (dk_at dksX1_roomFor_2 16 rfl rfl)
theorem dX1_roomFor_119 : decode cX1_roomFor 119 = .ok (.areturn, 1) := dk_176 (dk_at dksX1_roomFor_2 19 rfl rfl)
theorem dX1_roomFor_120 : decode cX1_roomFor 120 = .ok (.iload_n 1, 1) := dk_27 (dk_at dksX1_roomFor_2 20 rfl rfl)
theorem dX1_roomFor_121 : decode cX1_roomFor 121 = .ok (.anewarray 36, 3) := dk_189 0 36 (dk_at dksX1_roomFor_2 21 rfl rfl)
theorem dX1_roomFor_124 : decode cX1_roomFor 124 = .ok (.areturn, 1) := dk_176 (dk_at dksX1_roomFor_3 0 rfl rfl)
theorem dX1_roomFor_125 : decode cX1_roomFor 125 = .ok (.iload_n 1, 1) := dk_27 (dk_at dksX1_roomFor_3 1 rfl rfl)
theorem dX1_roomFor_126 : decode cX1_roomFor 126 = .ok (.anewarray 39, 3) := dk_189 0 39 (dk_at dksX1_roomFor_3 2 rfl rfl)
theorem dX1_roomFor_129 : decode cX1_roomFor 129 = .ok (.areturn, 1) := dk_176 (dk_at dksX1_roomFor_3 5 rfl rfl)
theorem dX1_roomFor_130 : decode cX1_roomFor 130 = .ok (.iload_n 1, 1) := dk_27 (dk_at dksX1_roomFor_3 6 rfl rfl)
theorem dX1_roomFor_131 : decode cX1_roomFor 131 = .ok (.anewarray 42, 3) := dk_189 0 42 (dk_at dksX1_roomFor_3 7 rfl rfl)
theorem dX1_roomFor_134 : decode cX1_roomFor 134 = .ok (.areturn, 1) := dk_176 (dk_at dksX1_roomFor_3 10 rfl rfl)
theorem dX1_roomFor_135 : decode cX1_roomFor 135 = .ok (.iload_n 1, 1) := dk_27 (dk_at dksX1_roomFor_3 11 rfl rfl)
theorem dX1_roomFor_136 : decode cX1_roomFor 136 = .ok (.anewarray 45, 3) := dk_189 0 45 (dk_at dksX1_roomFor_3 12 rfl rfl)
theorem dX1_roomFor_139 : decode cX1_roomFor 139 = .ok (.areturn, 1) := dk_176 (dk_at dksX1_roomFor_3 15 rfl rfl)
theorem dX1_roomFor_140 : decode cX1_roomFor 140 = .ok (.iload_n 0, 1) := dk_26 (dk_at dksX1_roomFor_3 16 rfl rfl)
theorem dX1_roomFor_141 : decode cX1_roomFor 141 = .ok (.bipush 112, 2) := dk_16 112 (dk_at dksX1_roomFor_3 17 rfl rfl)
theorem dX1_roomFor_143 : decode cX1_roomFor 143 = .ok (.if_icmp .ne 10, 3) := dk_160 0 10 (dk_at dksX1_roomFor_3 19 rfl rfl)
theorem dX1_roomFor_146 : decode cX1_roomFor 146 = .ok (.iload_n 1, 1) := dk_27 (dk_at dksX1_roomFor_3 22 rfl rfl)
theorem dX1_roomFor_147 : decode cX1_roomFor 147 = .ok (.anewarray 48, 3) := dk_189 0 48 (dk_at dksX1_roomFor_4 0 rfl rfl)
theorem dX1_roomFor_150 : decode cX1_roomFor 150 = .ok (.goto 4, 3) := dk_167 0 4 (dk_at dksX1_roomFor_4 3 rfl rfl)
theorem dX1_roomFor_153 : decode cX1_roomFor 153 = .ok (.aconst_null, 1) := dk_1 (dk_at dksX1_roomFor_4 6 rfl rfl)
theorem dX1_roomFor_154 : decode cX1_roomFor 154 = .ok (.areturn, 1) := dk_176 (dk_at dksX1_roomFor_4 7 rfl rfl)
abbrev cX1_isStored : ByteArray := prog_1_method_8_code
def yX1_isStored : MethodName := ⟨RX1, "isStored", "([LKioskReel$Line;ILKioskReel$Line;)Z"⟩
def dkwX1_isStored_0 : List UInt8 := [42, 27, 44, 83, 4, 172, 78, 3, 172]
abbrev dktX1_isStored_0 : List UInt8 := dkwX1_isStored_0 ++ []
theorem dksX1_isStored_0 : cX1_isStored.data.toList.drop 0 = dktX1_isStored_0 := by decide +kernel
theorem dX1_isStored_0 : decode cX1_isStored 0 = .ok (.aload_n 0, 1) := dk_42 (dk_at dksX1_isStored_0 0 rfl rfl)
theorem dX1_isStored_1 : decode cX1_isStored 1 = .ok (.iload_n 1, 1) := dk_27 (dk_at dksX1_isStored_0 1 rfl rfl)
theorem dX1_isStored_2 : decode cX1_isStored 2 = .ok (.aload_n 2, 1) := dk_44 (dk_at dksX1_isStored_0 2 rfl rfl)
theorem dX1_isStored_3 : decode cX1_isStored 3 = .ok (.aastore, 1) := dk_83 (dk_at dksX1_isStored_0 3 rfl rfl)
theorem dX1_isStored_4 : decode cX1_isStored 4 = .ok (.iconst 1, 1) := dk_4 (dk_at dksX1_isStored_0 4 rfl rfl)
theorem dX1_isStored_5 : decode cX1_isStored 5 = .ok (.ireturn, 1) := dk_172 (dk_at dksX1_isStored_0 5 rfl rfl)
theorem dX1_isStored_6 : decode cX1_isStored 6 = .ok (.astore_n 3, 1) := dk_78 (dk_at dksX1_isStored_0 6 rfl rfl)
theorem dX1_isStored_7 : decode cX1_isStored 7 = .ok (.iconst 0, 1) := dk_3 (dk_at dksX1_isStored_0 7 rfl rfl)
theorem dX1_isStored_8 : decode cX1_isStored 8 = .ok (.ireturn, 1) := dk_172 (dk_at dksX1_isStored_0 8 rfl rfl)
abbrev cX1_lines : ByteArray := prog_1_method_20_code
def yX1_lines : MethodName := ⟨RX1, "lines", "(IC)I"⟩
def dkwX1_lines_4 : List UInt8 := [167, 255, 212, 21, 5, 172]
abbrev dktX1_lines_4 : List UInt8 := dkwX1_lines_4 ++ []
def dkwX1_lines_3 : List UInt8 := [21, 5, 25, 4, 21, 5, 25, 7, 184, 0, 172, 153, 0, 7, 4, 167, 0, 4, 3, 96, 54, 5]
abbrev dktX1_lines_3 : List UInt8 := dkwX1_lines_3 ++ dktX1_lines_4
def dkwX1_lines_2 : List UInt8 := [58, 6, 25, 6, 185, 0, 115, 1, 0, 153, 0, 40, 25, 6, 185, 0, 121, 1, 0, 192, 0, 179, 58, 7]
abbrev dktX1_lines_2 : List UInt8 := dkwX1_lines_2 ++ dktX1_lines_3
def dkwX1_lines_1 : List UInt8 := [198, 0, 7, 4, 167, 0, 4, 3, 184, 0, 151, 3, 54, 5, 45, 180, 0, 144, 185, 0, 111, 1, 0]
abbrev dktX1_lines_1 : List UInt8 := dkwX1_lines_1 ++ dktX1_lines_2
def dkwX1_lines_0 : List UInt8 := [42, 27, 182, 0, 140, 78, 28, 45, 180, 0, 144, 185, 0, 81, 1, 0, 184, 0, 168, 58, 4, 25, 4]
abbrev dktX1_lines_0 : List UInt8 := dkwX1_lines_0 ++ dktX1_lines_1
theorem dksX1_lines_0 : cX1_lines.data.toList.drop 0 = dktX1_lines_0 := by decide +kernel
theorem dksX1_lines_1 : cX1_lines.data.toList.drop 23 = dktX1_lines_1 := dk_seg dksX1_lines_0 23 rfl rfl
theorem dksX1_lines_2 : cX1_lines.data.toList.drop 46 = dktX1_lines_2 := dk_seg dksX1_lines_1 23 rfl rfl
theorem dksX1_lines_3 : cX1_lines.data.toList.drop 70 = dktX1_lines_3 := dk_seg dksX1_lines_2 24 rfl rfl
theorem dksX1_lines_4 : cX1_lines.data.toList.drop 92 = dktX1_lines_4 := dk_seg dksX1_lines_3 22 rfl rfl
theorem dX1_lines_0 : decode cX1_lines 0 = .ok (.aload_n 0, 1) := dk_42 (dk_at dksX1_lines_0 0 rfl rfl)
theorem dX1_lines_1 : decode cX1_lines 1 = .ok (.iload_n 1, 1) := dk_27 (dk_at dksX1_lines_0 1 rfl rfl)
theorem dX1_lines_2 : decode cX1_lines 2 = .ok (.invokevirtual 140, 3) := dk_182 0 140 (dk_at dksX1_lines_0 2 rfl rfl)
theorem dX1_lines_5 : decode cX1_lines 5 = .ok (.astore_n 3, 1) := dk_78 (dk_at dksX1_lines_0 5 rfl rfl)
theorem dX1_lines_6 : decode cX1_lines 6 = .ok (.iload_n 2, 1) := dk_28 (dk_at dksX1_lines_0 6 rfl rfl)
theorem dX1_lines_7 : decode cX1_lines 7 = .ok (.aload_n 3, 1) := dk_45 (dk_at dksX1_lines_0 7 rfl rfl)
theorem dX1_lines_8 : decode cX1_lines 8 = .ok (.getfield 144, 3) := dk_180 0 144 (dk_at dksX1_lines_0 8 rfl rfl)
theorem dX1_lines_11 : decode cX1_lines 11 = .ok (.invokeinterface 81 1, 5) := by decide +kernel
theorem dX1_lines_16 : decode cX1_lines 16 = .ok (.invokestatic 168, 3) := dk_184 0 168 (dk_at dksX1_lines_0 16 rfl rfl)
theorem dX1_lines_19 : decode cX1_lines 19 = .ok (.astore 4, 2) := dk_58 4 (dk_at dksX1_lines_0 19 rfl rfl)
theorem dX1_lines_21 : decode cX1_lines 21 = .ok (.aload 4, 2) := dk_25 4 (dk_at dksX1_lines_0 21 rfl rfl)
theorem dX1_lines_23 : decode cX1_lines 23 = .ok (.ifnull 7, 3) := dk_198 0 7 (dk_at dksX1_lines_1 0 rfl rfl)
theorem dX1_lines_26 : decode cX1_lines 26 = .ok (.iconst 1, 1) := dk_4 (dk_at dksX1_lines_1 3 rfl rfl)
theorem dX1_lines_27 : decode cX1_lines 27 = .ok (.goto 4, 3) := dk_167 0 4 (dk_at dksX1_lines_1 4 rfl rfl)
theorem dX1_lines_30 : decode cX1_lines 30 = .ok (.iconst 0, 1) := dk_3 (dk_at dksX1_lines_1 7 rfl rfl)
theorem dX1_lines_31 : decode cX1_lines 31 = .ok (.invokestatic 151, 3) := dk_184 0 151 (dk_at dksX1_lines_1 8 rfl rfl)
theorem dX1_lines_34 : decode cX1_lines 34 = .ok (.iconst 0, 1) := dk_3 (dk_at dksX1_lines_1 11 rfl rfl)
theorem dX1_lines_35 : decode cX1_lines 35 = .ok (.istore 5, 2) := dk_54 5 (dk_at dksX1_lines_1 12 rfl rfl)
theorem dX1_lines_37 : decode cX1_lines 37 = .ok (.aload_n 3, 1) := dk_45 (dk_at dksX1_lines_1 14 rfl rfl)
theorem dX1_lines_38 : decode cX1_lines 38 = .ok (.getfield 144, 3) := dk_180 0 144 (dk_at dksX1_lines_1 15 rfl rfl)
theorem dX1_lines_41 : decode cX1_lines 41 = .ok (.invokeinterface 111 1, 5) := by decide +kernel
theorem dX1_lines_46 : decode cX1_lines 46 = .ok (.astore 6, 2) := dk_58 6 (dk_at dksX1_lines_2 0 rfl rfl)
theorem dX1_lines_48 : decode cX1_lines 48 = .ok (.aload 6, 2) := dk_25 6 (dk_at dksX1_lines_2 2 rfl rfl)
theorem dX1_lines_50 : decode cX1_lines 50 = .ok (.invokeinterface 115 1, 5) := by decide +kernel
theorem dX1_lines_55 : decode cX1_lines 55 = .ok (.ifCond .eq 40, 3) := dk_153 0 40 (dk_at dksX1_lines_2 9 rfl rfl)
theorem dX1_lines_58 : decode cX1_lines 58 = .ok (.aload 6, 2) := dk_25 6 (dk_at dksX1_lines_2 12 rfl rfl)
theorem dX1_lines_60 : decode cX1_lines 60 = .ok (.invokeinterface 121 1, 5) := by decide +kernel
theorem dX1_lines_65 : decode cX1_lines 65 = .ok (.checkcast 179, 3) := dk_192 0 179 (dk_at dksX1_lines_2 19 rfl rfl)
theorem dX1_lines_68 : decode cX1_lines 68 = .ok (.astore 7, 2) := dk_58 7 (dk_at dksX1_lines_2 22 rfl rfl)
theorem dX1_lines_70 : decode cX1_lines 70 = .ok (.iload 5, 2) := dk_21 5 (dk_at dksX1_lines_3 0 rfl rfl)
theorem dX1_lines_72 : decode cX1_lines 72 = .ok (.aload 4, 2) := dk_25 4 (dk_at dksX1_lines_3 2 rfl rfl)
theorem dX1_lines_74 : decode cX1_lines 74 = .ok (.iload 5, 2) := dk_21 5 (dk_at dksX1_lines_3 4 rfl rfl)
theorem dX1_lines_76 : decode cX1_lines 76 = .ok (.aload 7, 2) := dk_25 7 (dk_at dksX1_lines_3 6 rfl rfl)
theorem dX1_lines_78 : decode cX1_lines 78 = .ok (.invokestatic 172, 3) := dk_184 0 172 (dk_at dksX1_lines_3 8 rfl rfl)
theorem dX1_lines_81 : decode cX1_lines 81 = .ok (.ifCond .eq 7, 3) := dk_153 0 7 (dk_at dksX1_lines_3 11 rfl rfl)
theorem dX1_lines_84 : decode cX1_lines 84 = .ok (.iconst 1, 1) := dk_4 (dk_at dksX1_lines_3 14 rfl rfl)
theorem dX1_lines_85 : decode cX1_lines 85 = .ok (.goto 4, 3) := dk_167 0 4 (dk_at dksX1_lines_3 15 rfl rfl)
theorem dX1_lines_88 : decode cX1_lines 88 = .ok (.iconst 0, 1) := dk_3 (dk_at dksX1_lines_3 18 rfl rfl)
theorem dX1_lines_89 : decode cX1_lines 89 = .ok (.iadd, 1) := dk_96 (dk_at dksX1_lines_3 19 rfl rfl)
theorem dX1_lines_90 : decode cX1_lines 90 = .ok (.istore 5, 2) := dk_54 5 (dk_at dksX1_lines_3 20 rfl rfl)
theorem dX1_lines_92 : decode cX1_lines 92 = .ok (.goto (-44), 3) := dk_167 255 212 (dk_at dksX1_lines_4 0 rfl rfl)
theorem dX1_lines_95 : decode cX1_lines 95 = .ok (.iload 5, 2) := dk_21 5 (dk_at dksX1_lines_4 3 rfl rfl)
theorem dX1_lines_97 : decode cX1_lines 97 = .ok (.ireturn, 1) := dk_172 (dk_at dksX1_lines_4 5 rfl rfl)
abbrev cX1_kiosk : ByteArray := prog_1_method_21_code
def yX1_kiosk : MethodName := ⟨RX1, "kiosk", "()I"⟩
def dkwX1_kiosk_2 : List UInt8 := [87, 42, 180, 0, 63, 185, 0, 81, 1, 0, 4, 100, 172]
abbrev dktX1_kiosk_2 : List UInt8 := dkwX1_kiosk_2 ++ []
def dkwX1_kiosk_1 : List UInt8 := [180, 0, 63, 187, 0, 95, 89, 42, 180, 0, 63, 185, 0, 81, 1, 0, 183, 0, 185, 185, 0, 75, 2, 0]
abbrev dktX1_kiosk_1 : List UInt8 := dkwX1_kiosk_1 ++ dktX1_kiosk_2
def dkwX1_kiosk_0 : List UInt8 := [42, 180, 0, 63, 185, 0, 81, 1, 0, 16, 6, 162, 0, 7, 4, 167, 0, 4, 3, 184, 0, 136, 42]
abbrev dktX1_kiosk_0 : List UInt8 := dkwX1_kiosk_0 ++ dktX1_kiosk_1
theorem dksX1_kiosk_0 : cX1_kiosk.data.toList.drop 0 = dktX1_kiosk_0 := by decide +kernel
theorem dksX1_kiosk_1 : cX1_kiosk.data.toList.drop 23 = dktX1_kiosk_1 := dk_seg dksX1_kiosk_0 23 rfl rfl
theorem dksX1_kiosk_2 : cX1_kiosk.data.toList.drop 47 = dktX1_kiosk_2 := dk_seg dksX1_kiosk_1 24 rfl rfl
theorem dX1_kiosk_0 : decode cX1_kiosk 0 = .ok (.aload_n 0, 1) := dk_42 (dk_at dksX1_kiosk_0 0 rfl rfl)
theorem dX1_kiosk_1 : decode cX1_kiosk 1 = .ok (.getfield 63, 3) := dk_180 0 63 (dk_at dksX1_kiosk_0 1 rfl rfl)
theorem dX1_kiosk_4 : decode cX1_kiosk 4 = .ok (.invokeinterface 81 1, 5) := by decide +kernel
theorem dX1_kiosk_9 : decode cX1_kiosk 9 = .ok (.bipush 6, 2) := dk_16 6 (dk_at dksX1_kiosk_0 9 rfl rfl)
theorem dX1_kiosk_11 : decode cX1_kiosk 11 = .ok (.if_icmp .ge 7, 3) := dk_162 0 7 (dk_at dksX1_kiosk_0 11 rfl rfl)
theorem dX1_kiosk_14 : decode cX1_kiosk 14 = .ok (.iconst 1, 1) := dk_4 (dk_at dksX1_kiosk_0 14 rfl rfl)
theorem dX1_kiosk_15 : decode cX1_kiosk 15 = .ok (.goto 4, 3) := dk_167 0 4 (dk_at dksX1_kiosk_0 15 rfl rfl)
theorem dX1_kiosk_18 : decode cX1_kiosk 18 = .ok (.iconst 0, 1) := dk_3 (dk_at dksX1_kiosk_0 18 rfl rfl)
theorem dX1_kiosk_19 : decode cX1_kiosk 19 = .ok (.invokestatic 136, 3) := dk_184 0 136 (dk_at dksX1_kiosk_0 19 rfl rfl)
theorem dX1_kiosk_22 : decode cX1_kiosk 22 = .ok (.aload_n 0, 1) := dk_42 (dk_at dksX1_kiosk_0 22 rfl rfl)
theorem dX1_kiosk_23 : decode cX1_kiosk 23 = .ok (.getfield 63, 3) := dk_180 0 63 (dk_at dksX1_kiosk_1 0 rfl rfl)
theorem dX1_kiosk_26 : decode cX1_kiosk 26 = .ok (.new 95, 3) := dk_187 0 95 (dk_at dksX1_kiosk_1 3 rfl rfl)
theorem dX1_kiosk_29 : decode cX1_kiosk 29 = .ok (.dup, 1) := dk_89 (dk_at dksX1_kiosk_1 6 rfl rfl)
theorem dX1_kiosk_30 : decode cX1_kiosk 30 = .ok (.aload_n 0, 1) := dk_42 (dk_at dksX1_kiosk_1 7 rfl rfl)
theorem dX1_kiosk_31 : decode cX1_kiosk 31 = .ok (.getfield 63, 3) := dk_180 0 63 (dk_at dksX1_kiosk_1 8 rfl rfl)
theorem dX1_kiosk_34 : decode cX1_kiosk 34 = .ok (.invokeinterface 81 1, 5) := by decide +kernel
theorem dX1_kiosk_39 : decode cX1_kiosk 39 = .ok (.invokespecial 185, 3) := dk_183 0 185 (dk_at dksX1_kiosk_1 16 rfl rfl)
theorem dX1_kiosk_42 : decode cX1_kiosk 42 = .ok (.invokeinterface 75 2, 5) := by decide +kernel
theorem dX1_kiosk_47 : decode cX1_kiosk 47 = .ok (.pop, 1) := dk_87 (dk_at dksX1_kiosk_2 0 rfl rfl)
theorem dX1_kiosk_48 : decode cX1_kiosk 48 = .ok (.aload_n 0, 1) := dk_42 (dk_at dksX1_kiosk_2 1 rfl rfl)
theorem dX1_kiosk_49 : decode cX1_kiosk 49 = .ok (.getfield 63, 3) := dk_180 0 63 (dk_at dksX1_kiosk_2 2 rfl rfl)
theorem dX1_kiosk_52 : decode cX1_kiosk 52 = .ok (.invokeinterface 81 1, 5) := by decide +kernel
theorem dX1_kiosk_57 : decode cX1_kiosk 57 = .ok (.iconst 1, 1) := dk_4 (dk_at dksX1_kiosk_2 10 rfl rfl)
theorem dX1_kiosk_58 : decode cX1_kiosk 58 = .ok (.isub, 1) := dk_100 (dk_at dksX1_kiosk_2 11 rfl rfl)
theorem dX1_kiosk_59 : decode cX1_kiosk 59 = .ok (.ireturn, 1) := dk_172 (dk_at dksX1_kiosk_2 12 rfl rfl)
abbrev cX1_start : ByteArray := prog_1_method_24_code
def yX1_start : MethodName := ⟨RX1, "start", "(II)I"⟩
def dkwX1_start_3 : List UInt8 := [180, 0, 101, 180, 0, 190, 180, 0, 210, 172]
abbrev dktX1_start_3 : List UInt8 := dkwX1_start_3 ++ []
def dkwX1_start_2 : List UInt8 := [27, 182, 0, 203, 182, 0, 206, 45, 180, 0, 101, 180, 0, 190, 199, 0, 7, 2, 167, 0, 13, 45]
abbrev dktX1_start_2 : List UInt8 := dkwX1_start_2 ++ dktX1_start_3
def dkwX1_start_1 : List UInt8 := [3, 184, 0, 136, 45, 187, 0, 191, 89, 27, 25, 4, 183, 0, 200, 181, 0, 101, 42, 45, 180, 0, 101, 42]
abbrev dktX1_start_1 : List UInt8 := dkwX1_start_1 ++ dktX1_start_2
def dkwX1_start_0 : List UInt8 := [42, 27, 182, 0, 97, 78, 42, 28, 182, 0, 140, 58, 4, 45, 180, 0, 101, 199, 0, 7, 4, 167, 0, 4]
abbrev dktX1_start_0 : List UInt8 := dkwX1_start_0 ++ dktX1_start_1
theorem dksX1_start_0 : cX1_start.data.toList.drop 0 = dktX1_start_0 := by decide +kernel
theorem dksX1_start_1 : cX1_start.data.toList.drop 24 = dktX1_start_1 := dk_seg dksX1_start_0 24 rfl rfl
theorem dksX1_start_2 : cX1_start.data.toList.drop 48 = dktX1_start_2 := dk_seg dksX1_start_1 24 rfl rfl
theorem dksX1_start_3 : cX1_start.data.toList.drop 70 = dktX1_start_3 := dk_seg dksX1_start_2 22 rfl rfl
theorem dX1_start_0 : decode cX1_start 0 = .ok (.aload_n 0, 1) := dk_42 (dk_at dksX1_start_0 0 rfl rfl)
theorem dX1_start_1 : decode cX1_start 1 = .ok (.iload_n 1, 1) := dk_27 (dk_at dksX1_start_0 1 rfl rfl)
theorem dX1_start_2 : decode cX1_start 2 = .ok (.invokevirtual 97, 3) := dk_182 0 97 (dk_at dksX1_start_0 2 rfl rfl)
theorem dX1_start_5 : decode cX1_start 5 = .ok (.astore_n 3, 1) := dk_78 (dk_at dksX1_start_0 5 rfl rfl)
theorem dX1_start_6 : decode cX1_start 6 = .ok (.aload_n 0, 1) := dk_42 (dk_at dksX1_start_0 6 rfl rfl)
theorem dX1_start_7 : decode cX1_start 7 = .ok (.iload_n 2, 1) := dk_28 (dk_at dksX1_start_0 7 rfl rfl)
theorem dX1_start_8 : decode cX1_start 8 = .ok (.invokevirtual 140, 3) := dk_182 0 140 (dk_at dksX1_start_0 8 rfl rfl)
theorem dX1_start_11 : decode cX1_start 11 = .ok (.astore 4, 2) := dk_58 4 (dk_at dksX1_start_0 11 rfl rfl)
theorem dX1_start_13 : decode cX1_start 13 = .ok (.aload_n 3, 1) := dk_45 (dk_at dksX1_start_0 13 rfl rfl)
theorem dX1_start_14 : decode cX1_start 14 = .ok (.getfield 101, 3) := dk_180 0 101 (dk_at dksX1_start_0 14 rfl rfl)
theorem dX1_start_17 : decode cX1_start 17 = .ok (.ifnonnull 7, 3) := dk_199 0 7 (dk_at dksX1_start_0 17 rfl rfl)
theorem dX1_start_20 : decode cX1_start 20 = .ok (.iconst 1, 1) := dk_4 (dk_at dksX1_start_0 20 rfl rfl)
theorem dX1_start_21 : decode cX1_start 21 = .ok (.goto 4, 3) := dk_167 0 4 (dk_at dksX1_start_0 21 rfl rfl)
theorem dX1_start_24 : decode cX1_start 24 = .ok (.iconst 0, 1) := dk_3 (dk_at dksX1_start_1 0 rfl rfl)
theorem dX1_start_25 : decode cX1_start 25 = .ok (.invokestatic 136, 3) := dk_184 0 136 (dk_at dksX1_start_1 1 rfl rfl)
theorem dX1_start_28 : decode cX1_start 28 = .ok (.aload_n 3, 1) := dk_45 (dk_at dksX1_start_1 4 rfl rfl)
theorem dX1_start_29 : decode cX1_start 29 = .ok (.new 191, 3) := dk_187 0 191 (dk_at dksX1_start_1 5 rfl rfl)
theorem dX1_start_32 : decode cX1_start 32 = .ok (.dup, 1) := dk_89 (dk_at dksX1_start_1 8 rfl rfl)
theorem dX1_start_33 : decode cX1_start 33 = .ok (.iload_n 1, 1) := dk_27 (dk_at dksX1_start_1 9 rfl rfl)
theorem dX1_start_34 : decode cX1_start 34 = .ok (.aload 4, 2) := dk_25 4 (dk_at dksX1_start_1 10 rfl rfl)
theorem dX1_start_36 : decode cX1_start 36 = .ok (.invokespecial 200, 3) := dk_183 0 200 (dk_at dksX1_start_1 12 rfl rfl)
theorem dX1_start_39 : decode cX1_start 39 = .ok (.putfield 101, 3) := dk_181 0 101 (dk_at dksX1_start_1 15 rfl rfl)
theorem dX1_start_42 : decode cX1_start 42 = .ok (.aload_n 0, 1) := dk_42 (dk_at dksX1_start_1 18 rfl rfl)
theorem dX1_start_43 : decode cX1_start 43 = .ok (.aload_n 3, 1) := dk_45 (dk_at dksX1_start_1 19 rfl rfl)
theorem dX1_start_44 : decode cX1_start 44 = .ok (.getfield 101, 3) := dk_180 0 101 (dk_at dksX1_start_1 20 rfl rfl)
theorem dX1_start_47 : decode cX1_start 47 = .ok (.aload_n 0, 1) := dk_42 (dk_at dksX1_start_1 23 rfl rfl)
theorem dX1_start_48 : decode cX1_start 48 = .ok (.iload_n 1, 1) := dk_27 (dk_at dksX1_start_2 0 rfl rfl)
theorem dX1_start_49 : decode cX1_start 49 = .ok (.invokevirtual 203, 3) := dk_182 0 203 (dk_at dksX1_start_2 1 rfl rfl)
theorem dX1_start_52 : decode cX1_start 52 = .ok (.invokevirtual 206, 3) := dk_182 0 206 (dk_at dksX1_start_2 4 rfl rfl)
theorem dX1_start_55 : decode cX1_start 55 = .ok (.aload_n 3, 1) := dk_45 (dk_at dksX1_start_2 7 rfl rfl)
theorem dX1_start_56 : decode cX1_start 56 = .ok (.getfield 101, 3) := dk_180 0 101 (dk_at dksX1_start_2 8 rfl rfl)
theorem dX1_start_59 : decode cX1_start 59 = .ok (.getfield 190, 3) := dk_180 0 190 (dk_at dksX1_start_2 11 rfl rfl)
theorem dX1_start_62 : decode cX1_start 62 = .ok (.ifnonnull 7, 3) := dk_199 0 7 (dk_at dksX1_start_2 14 rfl rfl)
theorem dX1_start_65 : decode cX1_start 65 = .ok (.iconst (-1), 1) := dk_2 (dk_at dksX1_start_2 17 rfl rfl)
theorem dX1_start_66 : decode cX1_start 66 = .ok (.goto 13, 3) := dk_167 0 13 (dk_at dksX1_start_2 18 rfl rfl)
theorem dX1_start_69 : decode cX1_start 69 = .ok (.aload_n 3, 1) := dk_45 (dk_at dksX1_start_2 21 rfl rfl)
theorem dX1_start_70 : decode cX1_start 70 = .ok (.getfield 101, 3) := dk_180 0 101 (dk_at dksX1_start_3 0 rfl rfl)
theorem dX1_start_73 : decode cX1_start 73 = .ok (.getfield 190, 3) := dk_180 0 190 (dk_at dksX1_start_3 3 rfl rfl)
theorem dX1_start_76 : decode cX1_start 76 = .ok (.getfield 210, 3) := dk_180 0 210 (dk_at dksX1_start_3 6 rfl rfl)
theorem dX1_start_79 : decode cX1_start 79 = .ok (.ireturn, 1) := dk_172 (dk_at dksX1_start_3 9 rfl rfl)
abbrev cX1_kioskAt : ByteArray := prog_1_method_11_code
def yX1_kioskAt : MethodName := ⟨RX1, "kioskAt", "(I)LKioskReel$Kiosk;"⟩
def dkwX1_kioskAt_1 : List UInt8 := [192, 0, 95, 176]
abbrev dktX1_kioskAt_1 : List UInt8 := dkwX1_kioskAt_1 ++ []
def dkwX1_kioskAt_0 : List UInt8 := [27, 42, 180, 0, 63, 185, 0, 81, 1, 0, 184, 0, 85, 42, 180, 0, 63, 27, 185, 0, 89, 2, 0]
abbrev dktX1_kioskAt_0 : List UInt8 := dkwX1_kioskAt_0 ++ dktX1_kioskAt_1
theorem dksX1_kioskAt_0 : cX1_kioskAt.data.toList.drop 0 = dktX1_kioskAt_0 := by decide +kernel
theorem dksX1_kioskAt_1 : cX1_kioskAt.data.toList.drop 23 = dktX1_kioskAt_1 := dk_seg dksX1_kioskAt_0 23 rfl rfl
theorem dX1_kioskAt_0 : decode cX1_kioskAt 0 = .ok (.iload_n 1, 1) := dk_27 (dk_at dksX1_kioskAt_0 0 rfl rfl)
theorem dX1_kioskAt_1 : decode cX1_kioskAt 1 = .ok (.aload_n 0, 1) := dk_42 (dk_at dksX1_kioskAt_0 1 rfl rfl)
theorem dX1_kioskAt_2 : decode cX1_kioskAt 2 = .ok (.getfield 63, 3) := dk_180 0 63 (dk_at dksX1_kioskAt_0 2 rfl rfl)
theorem dX1_kioskAt_5 : decode cX1_kioskAt 5 = .ok (.invokeinterface 81 1, 5) := by decide +kernel
theorem dX1_kioskAt_10 : decode cX1_kioskAt 10 = .ok (.invokestatic 85, 3) := dk_184 0 85 (dk_at dksX1_kioskAt_0 10 rfl rfl)
theorem dX1_kioskAt_13 : decode cX1_kioskAt 13 = .ok (.aload_n 0, 1) := dk_42 (dk_at dksX1_kioskAt_0 13 rfl rfl)
theorem dX1_kioskAt_14 : decode cX1_kioskAt 14 = .ok (.getfield 63, 3) := dk_180 0 63 (dk_at dksX1_kioskAt_0 14 rfl rfl)
theorem dX1_kioskAt_17 : decode cX1_kioskAt 17 = .ok (.iload_n 1, 1) := dk_27 (dk_at dksX1_kioskAt_0 17 rfl rfl)
theorem dX1_kioskAt_18 : decode cX1_kioskAt 18 = .ok (.invokeinterface 89 2, 5) := by decide +kernel
theorem dX1_kioskAt_23 : decode cX1_kioskAt 23 = .ok (.checkcast 95, 3) := dk_192 0 95 (dk_at dksX1_kioskAt_1 0 rfl rfl)
theorem dX1_kioskAt_26 : decode cX1_kioskAt 26 = .ok (.areturn, 1) := dk_176 (dk_at dksX1_kioskAt_1 3 rfl rfl)
abbrev cX1_nearest : ByteArray := prog_1_method_22_code
def yX1_nearest : MethodName := ⟨RX1, "nearest", "(I)LKioskReel$Kiosk;"⟩
def dkwX1_nearest_4 : List UInt8 := [167, 255, 165, 1, 176]
abbrev dktX1_nearest_4 : List UInt8 := dkwX1_nearest_4 ++ []
def dkwX1_nearest_3 : List UInt8 := [180, 0, 63, 21, 4, 185, 0, 89, 2, 0, 192, 0, 95, 176, 132, 3, 2, 167, 255, 186, 132, 2, 1]
abbrev dktX1_nearest_3 : List UInt8 := dkwX1_nearest_3 ++ dktX1_nearest_4
def dkwX1_nearest_2 : List UInt8 := [153, 0, 38, 42, 180, 0, 63, 21, 4, 185, 0, 89, 2, 0, 192, 0, 95, 180, 0, 186, 154, 0, 18, 42]
abbrev dktX1_nearest_2 : List UInt8 := dkwX1_nearest_2 ++ dktX1_nearest_3
def dkwX1_nearest_1 : List UInt8 := [28, 104, 96, 54, 4, 21, 4, 3, 42, 180, 0, 63, 185, 0, 81, 1, 0, 4, 100, 184, 0, 18]
abbrev dktX1_nearest_1 : List UInt8 := dkwX1_nearest_1 ++ dktX1_nearest_2
def dkwX1_nearest_0 : List UInt8 := [3, 61, 28, 42, 180, 0, 63, 185, 0, 81, 1, 0, 162, 0, 84, 2, 62, 29, 5, 162, 0, 71, 27, 29]
abbrev dktX1_nearest_0 : List UInt8 := dkwX1_nearest_0 ++ dktX1_nearest_1
theorem dksX1_nearest_0 : cX1_nearest.data.toList.drop 0 = dktX1_nearest_0 := by decide +kernel
theorem dksX1_nearest_1 : cX1_nearest.data.toList.drop 24 = dktX1_nearest_1 := dk_seg dksX1_nearest_0 24 rfl rfl
theorem dksX1_nearest_2 : cX1_nearest.data.toList.drop 46 = dktX1_nearest_2 := dk_seg dksX1_nearest_1 22 rfl rfl
theorem dksX1_nearest_3 : cX1_nearest.data.toList.drop 70 = dktX1_nearest_3 := dk_seg dksX1_nearest_2 24 rfl rfl
theorem dksX1_nearest_4 : cX1_nearest.data.toList.drop 93 = dktX1_nearest_4 := dk_seg dksX1_nearest_3 23 rfl rfl
theorem dX1_nearest_0 : decode cX1_nearest 0 = .ok (.iconst 0, 1) := dk_3 (dk_at dksX1_nearest_0 0 rfl rfl)
theorem dX1_nearest_1 : decode cX1_nearest 1 = .ok (.istore_n 2, 1) := dk_61 (dk_at dksX1_nearest_0 1 rfl rfl)
theorem dX1_nearest_2 : decode cX1_nearest 2 = .ok (.iload_n 2, 1) := dk_28 (dk_at dksX1_nearest_0 2 rfl rfl)
theorem dX1_nearest_3 : decode cX1_nearest 3 = .ok (.aload_n 0, 1) := dk_42 (dk_at dksX1_nearest_0 3 rfl rfl)
theorem dX1_nearest_4 : decode cX1_nearest 4 = .ok (.getfield 63, 3) := dk_180 0 63 (dk_at dksX1_nearest_0 4 rfl rfl)
theorem dX1_nearest_7 : decode cX1_nearest 7 = .ok (.invokeinterface 81 1, 5) := by decide +kernel
theorem dX1_nearest_12 : decode cX1_nearest 12 = .ok (.if_icmp .ge 84, 3) := dk_162 0 84 (dk_at dksX1_nearest_0 12 rfl rfl)
theorem dX1_nearest_15 : decode cX1_nearest 15 = .ok (.iconst (-1), 1) := dk_2 (dk_at dksX1_nearest_0 15 rfl rfl)
theorem dX1_nearest_16 : decode cX1_nearest 16 = .ok (.istore_n 3, 1) := dk_62 (dk_at dksX1_nearest_0 16 rfl rfl)
theorem dX1_nearest_17 : decode cX1_nearest 17 = .ok (.iload_n 3, 1) := dk_29 (dk_at dksX1_nearest_0 17 rfl rfl)
theorem dX1_nearest_18 : decode cX1_nearest 18 = .ok (.iconst 2, 1) := dk_5 (dk_at dksX1_nearest_0 18 rfl rfl)
theorem dX1_nearest_19 : decode cX1_nearest 19 = .ok (.if_icmp .ge 71, 3) := dk_162 0 71 (dk_at dksX1_nearest_0 19 rfl rfl)
theorem dX1_nearest_22 : decode cX1_nearest 22 = .ok (.iload_n 1, 1) := dk_27 (dk_at dksX1_nearest_0 22 rfl rfl)
theorem dX1_nearest_23 : decode cX1_nearest 23 = .ok (.iload_n 3, 1) := dk_29 (dk_at dksX1_nearest_0 23 rfl rfl)
theorem dX1_nearest_24 : decode cX1_nearest 24 = .ok (.iload_n 2, 1) := dk_28 (dk_at dksX1_nearest_1 0 rfl rfl)
theorem dX1_nearest_25 : decode cX1_nearest 25 = .ok (.imul, 1) := dk_104 (dk_at dksX1_nearest_1 1 rfl rfl)
theorem dX1_nearest_26 : decode cX1_nearest 26 = .ok (.iadd, 1) := dk_96 (dk_at dksX1_nearest_1 2 rfl rfl)
theorem dX1_nearest_27 : decode cX1_nearest 27 = .ok (.istore 4, 2) := dk_54 4 (dk_at dksX1_nearest_1 3 rfl rfl)
theorem dX1_nearest_29 : decode cX1_nearest 29 = .ok (.iload 4, 2) := dk_21 4 (dk_at dksX1_nearest_1 5 rfl rfl)
theorem dX1_nearest_31 : decode cX1_nearest 31 = .ok (.iconst 0, 1) := dk_3 (dk_at dksX1_nearest_1 7 rfl rfl)
theorem dX1_nearest_32 : decode cX1_nearest 32 = .ok (.aload_n 0, 1) := dk_42 (dk_at dksX1_nearest_1 8 rfl rfl)
theorem dX1_nearest_33 : decode cX1_nearest 33 = .ok (.getfield 63, 3) := dk_180 0 63 (dk_at dksX1_nearest_1 9 rfl rfl)
theorem dX1_nearest_36 : decode cX1_nearest 36 = .ok (.invokeinterface 81 1, 5) := by decide +kernel
theorem dX1_nearest_41 : decode cX1_nearest 41 = .ok (.iconst 1, 1) := dk_4 (dk_at dksX1_nearest_1 17 rfl rfl)
theorem dX1_nearest_42 : decode cX1_nearest 42 = .ok (.isub, 1) := dk_100 (dk_at dksX1_nearest_1 18 rfl rfl)
theorem dX1_nearest_43 : decode cX1_nearest 43 = .ok (.invokestatic 18, 3) := dk_184 0 18 (dk_at dksX1_nearest_1 19 rfl rfl)
theorem dX1_nearest_46 : decode cX1_nearest 46 = .ok (.ifCond .eq 38, 3) := dk_153 0 38 (dk_at dksX1_nearest_2 0 rfl rfl)
theorem dX1_nearest_49 : decode cX1_nearest 49 = .ok (.aload_n 0, 1) := dk_42 (dk_at dksX1_nearest_2 3 rfl rfl)
theorem dX1_nearest_50 : decode cX1_nearest 50 = .ok (.getfield 63, 3) := dk_180 0 63 (dk_at dksX1_nearest_2 4 rfl rfl)
theorem dX1_nearest_53 : decode cX1_nearest 53 = .ok (.iload 4, 2) := dk_21 4 (dk_at dksX1_nearest_2 7 rfl rfl)
theorem dX1_nearest_55 : decode cX1_nearest 55 = .ok (.invokeinterface 89 2, 5) := by decide +kernel
theorem dX1_nearest_60 : decode cX1_nearest 60 = .ok (.checkcast 95, 3) := dk_192 0 95 (dk_at dksX1_nearest_2 14 rfl rfl)
theorem dX1_nearest_63 : decode cX1_nearest 63 = .ok (.getfield 186, 3) := dk_180 0 186 (dk_at dksX1_nearest_2 17 rfl rfl)
theorem dX1_nearest_66 : decode cX1_nearest 66 = .ok (.ifCond .ne 18, 3) := dk_154 0 18 (dk_at dksX1_nearest_2 20 rfl rfl)
theorem dX1_nearest_69 : decode cX1_nearest 69 = .ok (.aload_n 0, 1) := dk_42 (dk_at dksX1_nearest_2 23 rfl rfl)
theorem dX1_nearest_70 : decode cX1_nearest 70 = .ok (.getfield 63, 3) := dk_180 0 63 (dk_at dksX1_nearest_3 0 rfl rfl)
theorem dX1_nearest_73 : decode cX1_nearest 73 = .ok (.iload 4, 2) := dk_21 4 (dk_at dksX1_nearest_3 3 rfl rfl)
theorem dX1_nearest_75 : decode cX1_nearest 75 = .ok (.invokeinterface 89 2, 5) := by decide +kernel
theorem dX1_nearest_80 : decode cX1_nearest 80 = .ok (.checkcast 95, 3) := dk_192 0 95 (dk_at dksX1_nearest_3 10 rfl rfl)
theorem dX1_nearest_83 : decode cX1_nearest 83 = .ok (.areturn, 1) := dk_176 (dk_at dksX1_nearest_3 13 rfl rfl)
theorem dX1_nearest_84 : decode cX1_nearest 84 = .ok (.iinc 3 2, 3) := dk_132 3 2 (dk_at dksX1_nearest_3 14 rfl rfl)
theorem dX1_nearest_87 : decode cX1_nearest 87 = .ok (.goto (-70), 3) := dk_167 255 186 (dk_at dksX1_nearest_3 17 rfl rfl)
theorem dX1_nearest_90 : decode cX1_nearest 90 = .ok (.iinc 2 1, 3) := dk_132 2 1 (dk_at dksX1_nearest_3 20 rfl rfl)
theorem dX1_nearest_93 : decode cX1_nearest 93 = .ok (.goto (-91), 3) := dk_167 255 165 (dk_at dksX1_nearest_4 0 rfl rfl)
theorem dX1_nearest_96 : decode cX1_nearest 96 = .ok (.aconst_null, 1) := dk_1 (dk_at dksX1_nearest_4 3 rfl rfl)
theorem dX1_nearest_97 : decode cX1_nearest 97 = .ok (.areturn, 1) := dk_176 (dk_at dksX1_nearest_4 4 rfl rfl)
abbrev cX1_settle : ByteArray := prog_1_method_23_code
def yX1_settle : MethodName := ⟨RX1, "settle", "(LKioskReel$Player;LKioskReel$Kiosk;)V"⟩
def dkwX1_settle_0 : List UInt8 := [43, 1, 181, 0, 190, 44, 198, 0, 8, 44, 43, 182, 0, 196, 177]
abbrev dktX1_settle_0 : List UInt8 := dkwX1_settle_0 ++ []
theorem dksX1_settle_0 : cX1_settle.data.toList.drop 0 = dktX1_settle_0 := by decide +kernel
theorem dX1_settle_0 : decode cX1_settle 0 = .ok (.aload_n 1, 1) := dk_43 (dk_at dksX1_settle_0 0 rfl rfl)
theorem dX1_settle_1 : decode cX1_settle 1 = .ok (.aconst_null, 1) := dk_1 (dk_at dksX1_settle_0 1 rfl rfl)
theorem dX1_settle_2 : decode cX1_settle 2 = .ok (.putfield 190, 3) := dk_181 0 190 (dk_at dksX1_settle_0 2 rfl rfl)
theorem dX1_settle_5 : decode cX1_settle 5 = .ok (.aload_n 2, 1) := dk_44 (dk_at dksX1_settle_0 5 rfl rfl)
theorem dX1_settle_6 : decode cX1_settle 6 = .ok (.ifnull 8, 3) := dk_198 0 8 (dk_at dksX1_settle_0 6 rfl rfl)
theorem dX1_settle_9 : decode cX1_settle 9 = .ok (.aload_n 2, 1) := dk_44 (dk_at dksX1_settle_0 9 rfl rfl)
theorem dX1_settle_10 : decode cX1_settle 10 = .ok (.aload_n 1, 1) := dk_43 (dk_at dksX1_settle_0 10 rfl rfl)
theorem dX1_settle_11 : decode cX1_settle 11 = .ok (.invokevirtual 196, 3) := dk_182 0 196 (dk_at dksX1_settle_0 11 rfl rfl)
theorem dX1_settle_14 : decode cX1_settle 14 = .ok (.return_, 1) := dk_177 (dk_at dksX1_settle_0 14 rfl rfl)
abbrev cX1_stop : ByteArray := prog_1_method_26_code
def yX1_stop : MethodName := ⟨RX1, "stop", "(I)I"⟩
def dkwX1_stop_4 : List UInt8 := [182, 0, 239, 167, 255, 207, 29, 172]
abbrev dktX1_stop_4 : List UInt8 := dkwX1_stop_4 ++ []
def dkwX1_stop_3 : List UInt8 := [25, 5, 180, 0, 233, 44, 185, 0, 217, 2, 0, 54, 6, 25, 5, 180, 0, 236, 44, 166, 0, 8, 25, 5]
abbrev dktX1_stop_3 : List UInt8 := dkwX1_stop_3 ++ dktX1_stop_4
def dkwX1_stop_2 : List UInt8 := [58, 4, 25, 4, 185, 0, 115, 1, 0, 153, 0, 45, 25, 4, 185, 0, 121, 1, 0, 192, 0, 72, 58, 5]
abbrev dktX1_stop_2 : List UInt8 := dkwX1_stop_2 ++ dktX1_stop_3
def dkwX1_stop_1 : List UInt8 := [1, 181, 0, 101, 42, 44, 186, 0, 226, 0, 0, 182, 0, 229, 62, 42, 180, 0, 66, 185, 0, 111, 1, 0]
abbrev dktX1_stop_1 : List UInt8 := dkwX1_stop_1 ++ dktX1_stop_2
def dkwX1_stop_0 : List UInt8 := [42, 27, 182, 0, 219, 77, 42, 44, 182, 0, 223, 42, 180, 0, 63, 27, 185, 0, 89, 2, 0, 192, 0, 95]
abbrev dktX1_stop_0 : List UInt8 := dkwX1_stop_0 ++ dktX1_stop_1
theorem dksX1_stop_0 : cX1_stop.data.toList.drop 0 = dktX1_stop_0 := by decide +kernel
theorem dksX1_stop_1 : cX1_stop.data.toList.drop 24 = dktX1_stop_1 := dk_seg dksX1_stop_0 24 rfl rfl
theorem dksX1_stop_2 : cX1_stop.data.toList.drop 48 = dktX1_stop_2 := dk_seg dksX1_stop_1 24 rfl rfl
theorem dksX1_stop_3 : cX1_stop.data.toList.drop 72 = dktX1_stop_3 := dk_seg dksX1_stop_2 24 rfl rfl
theorem dksX1_stop_4 : cX1_stop.data.toList.drop 96 = dktX1_stop_4 := dk_seg dksX1_stop_3 24 rfl rfl
theorem dX1_stop_0 : decode cX1_stop 0 = .ok (.aload_n 0, 1) := dk_42 (dk_at dksX1_stop_0 0 rfl rfl)
theorem dX1_stop_1 : decode cX1_stop 1 = .ok (.iload_n 1, 1) := dk_27 (dk_at dksX1_stop_0 1 rfl rfl)
theorem dX1_stop_2 : decode cX1_stop 2 = .ok (.invokevirtual 219, 3) := dk_182 0 219 (dk_at dksX1_stop_0 2 rfl rfl)
theorem dX1_stop_5 : decode cX1_stop 5 = .ok (.astore_n 2, 1) := dk_77 (dk_at dksX1_stop_0 5 rfl rfl)
theorem dX1_stop_6 : decode cX1_stop 6 = .ok (.aload_n 0, 1) := dk_42 (dk_at dksX1_stop_0 6 rfl rfl)
theorem dX1_stop_7 : decode cX1_stop 7 = .ok (.aload_n 2, 1) := dk_44 (dk_at dksX1_stop_0 7 rfl rfl)
theorem dX1_stop_8 : decode cX1_stop 8 = .ok (.invokevirtual 223, 3) := dk_182 0 223 (dk_at dksX1_stop_0 8 rfl rfl)
theorem dX1_stop_11 : decode cX1_stop 11 = .ok (.aload_n 0, 1) := dk_42 (dk_at dksX1_stop_0 11 rfl rfl)
theorem dX1_stop_12 : decode cX1_stop 12 = .ok (.getfield 63, 3) := dk_180 0 63 (dk_at dksX1_stop_0 12 rfl rfl)
theorem dX1_stop_15 : decode cX1_stop 15 = .ok (.iload_n 1, 1) := dk_27 (dk_at dksX1_stop_0 15 rfl rfl)
theorem dX1_stop_16 : decode cX1_stop 16 = .ok (.invokeinterface 89 2, 5) := by decide +kernel
theorem dX1_stop_21 : decode cX1_stop 21 = .ok (.checkcast 95, 3) := dk_192 0 95 (dk_at dksX1_stop_0 21 rfl rfl)
theorem dX1_stop_24 : decode cX1_stop 24 = .ok (.aconst_null, 1) := dk_1 (dk_at dksX1_stop_1 0 rfl rfl)
theorem dX1_stop_25 : decode cX1_stop 25 = .ok (.putfield 101, 3) := dk_181 0 101 (dk_at dksX1_stop_1 1 rfl rfl)
theorem dX1_stop_28 : decode cX1_stop 28 = .ok (.aload_n 0, 1) := dk_42 (dk_at dksX1_stop_1 4 rfl rfl)
theorem dX1_stop_29 : decode cX1_stop 29 = .ok (.aload_n 2, 1) := dk_44 (dk_at dksX1_stop_1 5 rfl rfl)
theorem dX1_stop_30 : decode cX1_stop 30 = .ok (.invokedynamic 226, 5) := by decide +kernel
theorem dX1_stop_35 : decode cX1_stop 35 = .ok (.invokevirtual 229, 3) := dk_182 0 229 (dk_at dksX1_stop_1 11 rfl rfl)
theorem dX1_stop_38 : decode cX1_stop 38 = .ok (.istore_n 3, 1) := dk_62 (dk_at dksX1_stop_1 14 rfl rfl)
theorem dX1_stop_39 : decode cX1_stop 39 = .ok (.aload_n 0, 1) := dk_42 (dk_at dksX1_stop_1 15 rfl rfl)
theorem dX1_stop_40 : decode cX1_stop 40 = .ok (.getfield 66, 3) := dk_180 0 66 (dk_at dksX1_stop_1 16 rfl rfl)
theorem dX1_stop_43 : decode cX1_stop 43 = .ok (.invokeinterface 111 1, 5) := by decide +kernel
theorem dX1_stop_48 : decode cX1_stop 48 = .ok (.astore 4, 2) := dk_58 4 (dk_at dksX1_stop_2 0 rfl rfl)
theorem dX1_stop_50 : decode cX1_stop 50 = .ok (.aload 4, 2) := dk_25 4 (dk_at dksX1_stop_2 2 rfl rfl)
theorem dX1_stop_52 : decode cX1_stop 52 = .ok (.invokeinterface 115 1, 5) := by decide +kernel
theorem dX1_stop_57 : decode cX1_stop 57 = .ok (.ifCond .eq 45, 3) := dk_153 0 45 (dk_at dksX1_stop_2 9 rfl rfl)
theorem dX1_stop_60 : decode cX1_stop 60 = .ok (.aload 4, 2) := dk_25 4 (dk_at dksX1_stop_2 12 rfl rfl)
theorem dX1_stop_62 : decode cX1_stop 62 = .ok (.invokeinterface 121 1, 5) := by decide +kernel
theorem dX1_stop_67 : decode cX1_stop 67 = .ok (.checkcast 72, 3) := dk_192 0 72 (dk_at dksX1_stop_2 19 rfl rfl)
theorem dX1_stop_70 : decode cX1_stop 70 = .ok (.astore 5, 2) := dk_58 5 (dk_at dksX1_stop_2 22 rfl rfl)
theorem dX1_stop_72 : decode cX1_stop 72 = .ok (.aload 5, 2) := dk_25 5 (dk_at dksX1_stop_3 0 rfl rfl)
theorem dX1_stop_74 : decode cX1_stop 74 = .ok (.getfield 233, 3) := dk_180 0 233 (dk_at dksX1_stop_3 2 rfl rfl)
theorem dX1_stop_77 : decode cX1_stop 77 = .ok (.aload_n 2, 1) := dk_44 (dk_at dksX1_stop_3 5 rfl rfl)
theorem dX1_stop_78 : decode cX1_stop 78 = .ok (.invokeinterface 217 2, 5) := by decide +kernel
theorem dX1_stop_83 : decode cX1_stop 83 = .ok (.istore 6, 2) := dk_54 6 (dk_at dksX1_stop_3 11 rfl rfl)
theorem dX1_stop_85 : decode cX1_stop 85 = .ok (.aload 5, 2) := dk_25 5 (dk_at dksX1_stop_3 13 rfl rfl)
theorem dX1_stop_87 : decode cX1_stop 87 = .ok (.getfield 236, 3) := dk_180 0 236 (dk_at dksX1_stop_3 15 rfl rfl)
theorem dX1_stop_90 : decode cX1_stop 90 = .ok (.aload_n 2, 1) := dk_44 (dk_at dksX1_stop_3 18 rfl rfl)
theorem dX1_stop_91 : decode cX1_stop 91 = .ok (.if_acmp .ne 8, 3) := dk_166 0 8 (dk_at dksX1_stop_3 19 rfl rfl)
theorem dX1_stop_94 : decode cX1_stop 94 = .ok (.aload 5, 2) := dk_25 5 (dk_at dksX1_stop_3 22 rfl rfl)
theorem dX1_stop_96 : decode cX1_stop 96 = .ok (.invokevirtual 239, 3) := dk_182 0 239 (dk_at dksX1_stop_4 0 rfl rfl)
theorem dX1_stop_99 : decode cX1_stop 99 = .ok (.goto (-49), 3) := dk_167 255 207 (dk_at dksX1_stop_4 3 rfl rfl)
theorem dX1_stop_102 : decode cX1_stop 102 = .ok (.iload_n 3, 1) := dk_29 (dk_at dksX1_stop_4 6 rfl rfl)
theorem dX1_stop_103 : decode cX1_stop 103 = .ok (.ireturn, 1) := dk_172 (dk_at dksX1_stop_4 7 rfl rfl)
abbrev cX1_playerOf : ByteArray := prog_1_method_12_code
def yX1_playerOf : MethodName := ⟨RX1, "playerOf", "(I)LKioskReel$Player;"⟩
def dkwX1_playerOf_0 : List UInt8 := [42, 27, 182, 0, 97, 180, 0, 101, 77, 44, 198, 0, 7, 4, 167, 0, 4, 3, 184, 0, 105, 44, 176]
abbrev dktX1_playerOf_0 : List UInt8 := dkwX1_playerOf_0 ++ []
theorem dksX1_playerOf_0 : cX1_playerOf.data.toList.drop 0 = dktX1_playerOf_0 := by decide +kernel
theorem dX1_playerOf_0 : decode cX1_playerOf 0 = .ok (.aload_n 0, 1) := dk_42 (dk_at dksX1_playerOf_0 0 rfl rfl)
theorem dX1_playerOf_1 : decode cX1_playerOf 1 = .ok (.iload_n 1, 1) := dk_27 (dk_at dksX1_playerOf_0 1 rfl rfl)
theorem dX1_playerOf_2 : decode cX1_playerOf 2 = .ok (.invokevirtual 97, 3) := dk_182 0 97 (dk_at dksX1_playerOf_0 2 rfl rfl)
theorem dX1_playerOf_5 : decode cX1_playerOf 5 = .ok (.getfield 101, 3) := dk_180 0 101 (dk_at dksX1_playerOf_0 5 rfl rfl)
theorem dX1_playerOf_8 : decode cX1_playerOf 8 = .ok (.astore_n 2, 1) := dk_77 (dk_at dksX1_playerOf_0 8 rfl rfl)
theorem dX1_playerOf_9 : decode cX1_playerOf 9 = .ok (.aload_n 2, 1) := dk_44 (dk_at dksX1_playerOf_0 9 rfl rfl)
theorem dX1_playerOf_10 : decode cX1_playerOf 10 = .ok (.ifnull 7, 3) := dk_198 0 7 (dk_at dksX1_playerOf_0 10 rfl rfl)
theorem dX1_playerOf_13 : decode cX1_playerOf 13 = .ok (.iconst 1, 1) := dk_4 (dk_at dksX1_playerOf_0 13 rfl rfl)
theorem dX1_playerOf_14 : decode cX1_playerOf 14 = .ok (.goto 4, 3) := dk_167 0 4 (dk_at dksX1_playerOf_0 14 rfl rfl)
theorem dX1_playerOf_17 : decode cX1_playerOf 17 = .ok (.iconst 0, 1) := dk_3 (dk_at dksX1_playerOf_0 17 rfl rfl)
theorem dX1_playerOf_18 : decode cX1_playerOf 18 = .ok (.invokestatic 105, 3) := dk_184 0 105 (dk_at dksX1_playerOf_0 18 rfl rfl)
theorem dX1_playerOf_21 : decode cX1_playerOf 21 = .ok (.aload_n 2, 1) := dk_44 (dk_at dksX1_playerOf_0 21 rfl rfl)
theorem dX1_playerOf_22 : decode cX1_playerOf 22 = .ok (.areturn, 1) := dk_176 (dk_at dksX1_playerOf_0 22 rfl rfl)
abbrev cX1_requireElement : ByteArray := prog_1_method_5_code
def yX1_requireElement : MethodName := ⟨RX1, "requireElement", "(Z)V"⟩
def dkwX1_requireElement_0 : List UInt8 := [26, 154, 0, 11, 187, 0, 13, 89, 183, 0, 15, 191, 177]
abbrev dktX1_requireElement_0 : List UInt8 := dkwX1_requireElement_0 ++ []
theorem dksX1_requireElement_0 : cX1_requireElement.data.toList.drop 0 = dktX1_requireElement_0 := by decide +kernel
theorem dX1_requireElement_0 : decode cX1_requireElement 0 = .ok (.iload_n 0, 1) := dk_26 (dk_at dksX1_requireElement_0 0 rfl rfl)
theorem dX1_requireElement_1 : decode cX1_requireElement 1 = .ok (.ifCond .ne 11, 3) := dk_154 0 11 (dk_at dksX1_requireElement_0 1 rfl rfl)
theorem dX1_requireElement_4 : decode cX1_requireElement 4 = .ok (.new 13, 3) := dk_187 0 13 (dk_at dksX1_requireElement_0 4 rfl rfl)
theorem dX1_requireElement_7 : decode cX1_requireElement 7 = .ok (.dup, 1) := dk_89 (dk_at dksX1_requireElement_0 7 rfl rfl)
theorem dX1_requireElement_8 : decode cX1_requireElement 8 = .ok (.invokespecial 15, 3) := dk_183 0 15 (dk_at dksX1_requireElement_0 8 rfl rfl)
theorem dX1_requireElement_11 : decode cX1_requireElement 11 = .ok (.athrow, 1) := dk_191 (dk_at dksX1_requireElement_0 11 rfl rfl)
theorem dX1_requireElement_12 : decode cX1_requireElement 12 = .ok (.return_, 1) := dk_177 (dk_at dksX1_requireElement_0 12 rfl rfl)
abbrev cX1_leave : ByteArray := prog_1_method_25_code
def yX1_leave : MethodName := ⟨RX1, "leave", "(LKioskReel$Player;)V"⟩
def dkwX1_leave_0 : List UInt8 := [43, 180, 0, 190, 198, 0, 17, 43, 180, 0, 190, 180, 0, 214, 43, 185, 0, 217, 2, 0, 61, 177]
abbrev dktX1_leave_0 : List UInt8 := dkwX1_leave_0 ++ []
theorem dksX1_leave_0 : cX1_leave.data.toList.drop 0 = dktX1_leave_0 := by decide +kernel
theorem dX1_leave_0 : decode cX1_leave 0 = .ok (.aload_n 1, 1) := dk_43 (dk_at dksX1_leave_0 0 rfl rfl)
theorem dX1_leave_1 : decode cX1_leave 1 = .ok (.getfield 190, 3) := dk_180 0 190 (dk_at dksX1_leave_0 1 rfl rfl)
theorem dX1_leave_4 : decode cX1_leave 4 = .ok (.ifnull 17, 3) := dk_198 0 17 (dk_at dksX1_leave_0 4 rfl rfl)
theorem dX1_leave_7 : decode cX1_leave 7 = .ok (.aload_n 1, 1) := dk_43 (dk_at dksX1_leave_0 7 rfl rfl)
theorem dX1_leave_8 : decode cX1_leave 8 = .ok (.getfield 190, 3) := dk_180 0 190 (dk_at dksX1_leave_0 8 rfl rfl)
theorem dX1_leave_11 : decode cX1_leave 11 = .ok (.getfield 214, 3) := dk_180 0 214 (dk_at dksX1_leave_0 11 rfl rfl)
theorem dX1_leave_14 : decode cX1_leave 14 = .ok (.aload_n 1, 1) := dk_43 (dk_at dksX1_leave_0 14 rfl rfl)
theorem dX1_leave_15 : decode cX1_leave 15 = .ok (.invokeinterface 217 2, 5) := by decide +kernel
theorem dX1_leave_20 : decode cX1_leave 20 = .ok (.istore_n 2, 1) := dk_61 (dk_at dksX1_leave_0 20 rfl rfl)
theorem dX1_leave_21 : decode cX1_leave 21 = .ok (.return_, 1) := dk_177 (dk_at dksX1_leave_0 21 rfl rfl)
abbrev cX1_lambda_stop_0 : ByteArray := prog_1_method_60_code
def yX1_lambda_stop_0 : MethodName := ⟨RX1, "lambda$stop$0", "(LKioskReel$Player;LKioskReel$Device;)Z"⟩
def dkwX1_lambda_stop_0_0 : List UInt8 := [43, 180, 0, 236, 42, 166, 0, 7, 4, 167, 0, 4, 3, 172]
abbrev dktX1_lambda_stop_0_0 : List UInt8 := dkwX1_lambda_stop_0_0 ++ []
theorem dksX1_lambda_stop_0_0 : cX1_lambda_stop_0.data.toList.drop 0 = dktX1_lambda_stop_0_0 := by decide +kernel
theorem dX1_lambda_stop_0_0 : decode cX1_lambda_stop_0 0 = .ok (.aload_n 1, 1) := dk_43 (dk_at dksX1_lambda_stop_0_0 0 rfl rfl)
theorem dX1_lambda_stop_0_1 : decode cX1_lambda_stop_0 1 = .ok (.getfield 236, 3) := dk_180 0 236 (dk_at dksX1_lambda_stop_0_0 1 rfl rfl)
theorem dX1_lambda_stop_0_4 : decode cX1_lambda_stop_0 4 = .ok (.aload_n 0, 1) := dk_42 (dk_at dksX1_lambda_stop_0_0 4 rfl rfl)
theorem dX1_lambda_stop_0_5 : decode cX1_lambda_stop_0 5 = .ok (.if_acmp .ne 7, 3) := dk_166 0 7 (dk_at dksX1_lambda_stop_0_0 5 rfl rfl)
theorem dX1_lambda_stop_0_8 : decode cX1_lambda_stop_0 8 = .ok (.iconst 1, 1) := dk_4 (dk_at dksX1_lambda_stop_0_0 8 rfl rfl)
theorem dX1_lambda_stop_0_9 : decode cX1_lambda_stop_0 9 = .ok (.goto 4, 3) := dk_167 0 4 (dk_at dksX1_lambda_stop_0_0 9 rfl rfl)
theorem dX1_lambda_stop_0_12 : decode cX1_lambda_stop_0 12 = .ok (.iconst 0, 1) := dk_3 (dk_at dksX1_lambda_stop_0_0 12 rfl rfl)
theorem dX1_lambda_stop_0_13 : decode cX1_lambda_stop_0 13 = .ok (.ireturn, 1) := dk_172 (dk_at dksX1_lambda_stop_0_0 13 rfl rfl)
abbrev cX1_freeze : ByteArray := prog_1_method_27_code
def yX1_freeze : MethodName := ⟨RX1, "freeze", "(I)Z"⟩
def dkwX1_freeze_1 : List UInt8 := [3, 172]
abbrev dktX1_freeze_1 : List UInt8 := dkwX1_freeze_1 ++ []
def dkwX1_freeze_0 : List UInt8 := [42, 27, 182, 0, 97, 77, 44, 180, 0, 242, 62, 44, 4, 181, 0, 242, 29, 154, 0, 7, 4, 167, 0, 4]
abbrev dktX1_freeze_0 : List UInt8 := dkwX1_freeze_0 ++ dktX1_freeze_1
theorem dksX1_freeze_0 : cX1_freeze.data.toList.drop 0 = dktX1_freeze_0 := by decide +kernel
theorem dksX1_freeze_1 : cX1_freeze.data.toList.drop 24 = dktX1_freeze_1 := dk_seg dksX1_freeze_0 24 rfl rfl
theorem dX1_freeze_0 : decode cX1_freeze 0 = .ok (.aload_n 0, 1) := dk_42 (dk_at dksX1_freeze_0 0 rfl rfl)
theorem dX1_freeze_1 : decode cX1_freeze 1 = .ok (.iload_n 1, 1) := dk_27 (dk_at dksX1_freeze_0 1 rfl rfl)
theorem dX1_freeze_2 : decode cX1_freeze 2 = .ok (.invokevirtual 97, 3) := dk_182 0 97 (dk_at dksX1_freeze_0 2 rfl rfl)
theorem dX1_freeze_5 : decode cX1_freeze 5 = .ok (.astore_n 2, 1) := dk_77 (dk_at dksX1_freeze_0 5 rfl rfl)
theorem dX1_freeze_6 : decode cX1_freeze 6 = .ok (.aload_n 2, 1) := dk_44 (dk_at dksX1_freeze_0 6 rfl rfl)
theorem dX1_freeze_7 : decode cX1_freeze 7 = .ok (.getfield 242, 3) := dk_180 0 242 (dk_at dksX1_freeze_0 7 rfl rfl)
theorem dX1_freeze_10 : decode cX1_freeze 10 = .ok (.istore_n 3, 1) := dk_62 (dk_at dksX1_freeze_0 10 rfl rfl)
theorem dX1_freeze_11 : decode cX1_freeze 11 = .ok (.aload_n 2, 1) := dk_44 (dk_at dksX1_freeze_0 11 rfl rfl)
theorem dX1_freeze_12 : decode cX1_freeze 12 = .ok (.iconst 1, 1) := dk_4 (dk_at dksX1_freeze_0 12 rfl rfl)
theorem dX1_freeze_13 : decode cX1_freeze 13 = .ok (.putfield 242, 3) := dk_181 0 242 (dk_at dksX1_freeze_0 13 rfl rfl)
theorem dX1_freeze_16 : decode cX1_freeze 16 = .ok (.iload_n 3, 1) := dk_29 (dk_at dksX1_freeze_0 16 rfl rfl)
theorem dX1_freeze_17 : decode cX1_freeze 17 = .ok (.ifCond .ne 7, 3) := dk_154 0 7 (dk_at dksX1_freeze_0 17 rfl rfl)
theorem dX1_freeze_20 : decode cX1_freeze 20 = .ok (.iconst 1, 1) := dk_4 (dk_at dksX1_freeze_0 20 rfl rfl)
theorem dX1_freeze_21 : decode cX1_freeze 21 = .ok (.goto 4, 3) := dk_167 0 4 (dk_at dksX1_freeze_0 21 rfl rfl)
theorem dX1_freeze_24 : decode cX1_freeze 24 = .ok (.iconst 0, 1) := dk_3 (dk_at dksX1_freeze_1 0 rfl rfl)
theorem dX1_freeze_25 : decode cX1_freeze 25 = .ok (.ireturn, 1) := dk_172 (dk_at dksX1_freeze_1 1 rfl rfl)
abbrev cX1_thaw : ByteArray := prog_1_method_28_code
def yX1_thaw : MethodName := ⟨RX1, "thaw", "(I)I"⟩
def dkwX1_thaw_5 : List UInt8 := [132, 4, 1, 167, 255, 177, 21, 4, 172]
abbrev dktX1_thaw_5 : List UInt8 := dkwX1_thaw_5 ++ []
def dkwX1_thaw_4 : List UInt8 := [167, 0, 4, 3, 54, 8, 21, 8, 153, 0, 18, 42, 25, 7, 182, 0, 223, 44, 25, 7, 182, 0, 196]
abbrev dktX1_thaw_4 : List UInt8 := dkwX1_thaw_4 ++ dktX1_thaw_5
def dkwX1_thaw_3 : List UInt8 := [153, 0, 26, 25, 7, 198, 0, 21, 25, 6, 44, 165, 0, 11, 25, 7, 180, 0, 190, 199, 0, 7, 4]
abbrev dktX1_thaw_3 : List UInt8 := dkwX1_thaw_3 ++ dktX1_thaw_4
def dkwX1_thaw_2 : List UInt8 := [153, 0, 75, 25, 5, 185, 0, 121, 1, 0, 192, 0, 95, 58, 6, 25, 6, 180, 0, 101, 58, 7, 29]
abbrev dktX1_thaw_2 : List UInt8 := dkwX1_thaw_2 ++ dktX1_thaw_3
def dkwX1_thaw_1 : List UInt8 := [181, 0, 245, 3, 54, 4, 42, 180, 0, 63, 185, 0, 111, 1, 0, 58, 5, 25, 5, 185, 0, 115, 1, 0]
abbrev dktX1_thaw_1 : List UInt8 := dkwX1_thaw_1 ++ dktX1_thaw_2
def dkwX1_thaw_0 : List UInt8 := [42, 27, 182, 0, 97, 77, 44, 180, 0, 186, 62, 44, 3, 181, 0, 242, 44, 3, 181, 0, 186, 44, 3]
abbrev dktX1_thaw_0 : List UInt8 := dkwX1_thaw_0 ++ dktX1_thaw_1
theorem dksX1_thaw_0 : cX1_thaw.data.toList.drop 0 = dktX1_thaw_0 := by decide +kernel
theorem dksX1_thaw_1 : cX1_thaw.data.toList.drop 23 = dktX1_thaw_1 := dk_seg dksX1_thaw_0 23 rfl rfl
theorem dksX1_thaw_2 : cX1_thaw.data.toList.drop 47 = dktX1_thaw_2 := dk_seg dksX1_thaw_1 24 rfl rfl
theorem dksX1_thaw_3 : cX1_thaw.data.toList.drop 70 = dktX1_thaw_3 := dk_seg dksX1_thaw_2 23 rfl rfl
theorem dksX1_thaw_4 : cX1_thaw.data.toList.drop 93 = dktX1_thaw_4 := dk_seg dksX1_thaw_3 23 rfl rfl
theorem dksX1_thaw_5 : cX1_thaw.data.toList.drop 116 = dktX1_thaw_5 := dk_seg dksX1_thaw_4 23 rfl rfl
theorem dX1_thaw_0 : decode cX1_thaw 0 = .ok (.aload_n 0, 1) := dk_42 (dk_at dksX1_thaw_0 0 rfl rfl)
theorem dX1_thaw_1 : decode cX1_thaw 1 = .ok (.iload_n 1, 1) := dk_27 (dk_at dksX1_thaw_0 1 rfl rfl)
theorem dX1_thaw_2 : decode cX1_thaw 2 = .ok (.invokevirtual 97, 3) := dk_182 0 97 (dk_at dksX1_thaw_0 2 rfl rfl)
theorem dX1_thaw_5 : decode cX1_thaw 5 = .ok (.astore_n 2, 1) := dk_77 (dk_at dksX1_thaw_0 5 rfl rfl)
theorem dX1_thaw_6 : decode cX1_thaw 6 = .ok (.aload_n 2, 1) := dk_44 (dk_at dksX1_thaw_0 6 rfl rfl)
theorem dX1_thaw_7 : decode cX1_thaw 7 = .ok (.getfield 186, 3) := dk_180 0 186 (dk_at dksX1_thaw_0 7 rfl rfl)
theorem dX1_thaw_10 : decode cX1_thaw 10 = .ok (.istore_n 3, 1) := dk_62 (dk_at dksX1_thaw_0 10 rfl rfl)
theorem dX1_thaw_11 : decode cX1_thaw 11 = .ok (.aload_n 2, 1) := dk_44 (dk_at dksX1_thaw_0 11 rfl rfl)
theorem dX1_thaw_12 : decode cX1_thaw 12 = .ok (.iconst 0, 1) := dk_3 (dk_at dksX1_thaw_0 12 rfl rfl)
theorem dX1_thaw_13 : decode cX1_thaw 13 = .ok (.putfield 242, 3) := dk_181 0 242 (dk_at dksX1_thaw_0 13 rfl rfl)
theorem dX1_thaw_16 : decode cX1_thaw 16 = .ok (.aload_n 2, 1) := dk_44 (dk_at dksX1_thaw_0 16 rfl rfl)
theorem dX1_thaw_17 : decode cX1_thaw 17 = .ok (.iconst 0, 1) := dk_3 (dk_at dksX1_thaw_0 17 rfl rfl)
theorem dX1_thaw_18 : decode cX1_thaw 18 = .ok (.putfield 186, 3) := dk_181 0 186 (dk_at dksX1_thaw_0 18 rfl rfl)
theorem dX1_thaw_21 : decode cX1_thaw 21 = .ok (.aload_n 2, 1) := dk_44 (dk_at dksX1_thaw_0 21 rfl rfl)
theorem dX1_thaw_22 : decode cX1_thaw 22 = .ok (.iconst 0, 1) := dk_3 (dk_at dksX1_thaw_0 22 rfl rfl)
theorem dX1_thaw_23 : decode cX1_thaw 23 = .ok (.putfield 245, 3) := dk_181 0 245 (dk_at dksX1_thaw_1 0 rfl rfl)
theorem dX1_thaw_26 : decode cX1_thaw 26 = .ok (.iconst 0, 1) := dk_3 (dk_at dksX1_thaw_1 3 rfl rfl)
theorem dX1_thaw_27 : decode cX1_thaw 27 = .ok (.istore 4, 2) := dk_54 4 (dk_at dksX1_thaw_1 4 rfl rfl)
theorem dX1_thaw_29 : decode cX1_thaw 29 = .ok (.aload_n 0, 1) := dk_42 (dk_at dksX1_thaw_1 6 rfl rfl)
theorem dX1_thaw_30 : decode cX1_thaw 30 = .ok (.getfield 63, 3) := dk_180 0 63 (dk_at dksX1_thaw_1 7 rfl rfl)
theorem dX1_thaw_33 : decode cX1_thaw 33 = .ok (.invokeinterface 111 1, 5) := by decide +kernel
theorem dX1_thaw_38 : decode cX1_thaw 38 = .ok (.astore 5, 2) := dk_58 5 (dk_at dksX1_thaw_1 15 rfl rfl)
theorem dX1_thaw_40 : decode cX1_thaw 40 = .ok (.aload 5, 2) := dk_25 5 (dk_at dksX1_thaw_1 17 rfl rfl)
theorem dX1_thaw_42 : decode cX1_thaw 42 = .ok (.invokeinterface 115 1, 5) := by decide +kernel
theorem dX1_thaw_47 : decode cX1_thaw 47 = .ok (.ifCond .eq 75, 3) := dk_153 0 75 (dk_at dksX1_thaw_2 0 rfl rfl)
theorem dX1_thaw_50 : decode cX1_thaw 50 = .ok (.aload 5, 2) := dk_25 5 (dk_at dksX1_thaw_2 3 rfl rfl)
theorem dX1_thaw_52 : decode cX1_thaw 52 = .ok (.invokeinterface 121 1, 5) := by decide +kernel
theorem dX1_thaw_57 : decode cX1_thaw 57 = .ok (.checkcast 95, 3) := dk_192 0 95 (dk_at dksX1_thaw_2 10 rfl rfl)
theorem dX1_thaw_60 : decode cX1_thaw 60 = .ok (.astore 6, 2) := dk_58 6 (dk_at dksX1_thaw_2 13 rfl rfl)
theorem dX1_thaw_62 : decode cX1_thaw 62 = .ok (.aload 6, 2) := dk_25 6 (dk_at dksX1_thaw_2 15 rfl rfl)
theorem dX1_thaw_64 : decode cX1_thaw 64 = .ok (.getfield 101, 3) := dk_180 0 101 (dk_at dksX1_thaw_2 17 rfl rfl)
theorem dX1_thaw_67 : decode cX1_thaw 67 = .ok (.astore 7, 2) := dk_58 7 (dk_at dksX1_thaw_2 20 rfl rfl)
theorem dX1_thaw_69 : decode cX1_thaw 69 = .ok (.iload_n 3, 1) := dk_29 (dk_at dksX1_thaw_2 22 rfl rfl)
theorem dX1_thaw_70 : decode cX1_thaw 70 = .ok (.ifCond .eq 26, 3) := dk_153 0 26 (dk_at dksX1_thaw_3 0 rfl rfl)
theorem dX1_thaw_73 : decode cX1_thaw 73 = .ok (.aload 7, 2) := dk_25 7 (dk_at dksX1_thaw_3 3 rfl rfl)
theorem dX1_thaw_75 : decode cX1_thaw 75 = .ok (.ifnull 21, 3) := dk_198 0 21 (dk_at dksX1_thaw_3 5 rfl rfl)
theorem dX1_thaw_78 : decode cX1_thaw 78 = .ok (.aload 6, 2) := dk_25 6 (dk_at dksX1_thaw_3 8 rfl rfl)
theorem dX1_thaw_80 : decode cX1_thaw 80 = .ok (.aload_n 2, 1) := dk_44 (dk_at dksX1_thaw_3 10 rfl rfl)
theorem dX1_thaw_81 : decode cX1_thaw 81 = .ok (.if_acmp .eq 11, 3) := dk_165 0 11 (dk_at dksX1_thaw_3 11 rfl rfl)
theorem dX1_thaw_84 : decode cX1_thaw 84 = .ok (.aload 7, 2) := dk_25 7 (dk_at dksX1_thaw_3 14 rfl rfl)
theorem dX1_thaw_86 : decode cX1_thaw 86 = .ok (.getfield 190, 3) := dk_180 0 190 (dk_at dksX1_thaw_3 16 rfl rfl)
theorem dX1_thaw_89 : decode cX1_thaw 89 = .ok (.ifnonnull 7, 3) := dk_199 0 7 (dk_at dksX1_thaw_3 19 rfl rfl)
theorem dX1_thaw_92 : decode cX1_thaw 92 = .ok (.iconst 1, 1) := dk_4 (dk_at dksX1_thaw_3 22 rfl rfl)
theorem dX1_thaw_93 : decode cX1_thaw 93 = .ok (.goto 4, 3) := dk_167 0 4 (dk_at dksX1_thaw_4 0 rfl rfl)
theorem dX1_thaw_96 : decode cX1_thaw 96 = .ok (.iconst 0, 1) := dk_3 (dk_at dksX1_thaw_4 3 rfl rfl)
theorem dX1_thaw_97 : decode cX1_thaw 97 = .ok (.istore 8, 2) := dk_54 8 (dk_at dksX1_thaw_4 4 rfl rfl)
theorem dX1_thaw_99 : decode cX1_thaw 99 = .ok (.iload 8, 2) := dk_21 8 (dk_at dksX1_thaw_4 6 rfl rfl)
theorem dX1_thaw_101 : decode cX1_thaw 101 = .ok (.ifCond .eq 18, 3) := dk_153 0 18 (dk_at dksX1_thaw_4 8 rfl rfl)
theorem dX1_thaw_104 : decode cX1_thaw 104 = .ok (.aload_n 0, 1) := dk_42 (dk_at dksX1_thaw_4 11 rfl rfl)
theorem dX1_thaw_105 : decode cX1_thaw 105 = .ok (.aload 7, 2) := dk_25 7 (dk_at dksX1_thaw_4 12 rfl rfl)
theorem dX1_thaw_107 : decode cX1_thaw 107 = .ok (.invokevirtual 223, 3) := dk_182 0 223 (dk_at dksX1_thaw_4 14 rfl rfl)
theorem dX1_thaw_110 : decode cX1_thaw 110 = .ok (.aload_n 2, 1) := dk_44 (dk_at dksX1_thaw_4 17 rfl rfl)
theorem dX1_thaw_111 : decode cX1_thaw 111 = .ok (.aload 7, 2) := dk_25 7 (dk_at dksX1_thaw_4 18 rfl rfl)
theorem dX1_thaw_113 : decode cX1_thaw 113 = .ok (.invokevirtual 196, 3) := dk_182 0 196 (dk_at dksX1_thaw_4 20 rfl rfl)
theorem dX1_thaw_116 : decode cX1_thaw 116 = .ok (.iinc 4 1, 3) := dk_132 4 1 (dk_at dksX1_thaw_5 0 rfl rfl)
theorem dX1_thaw_119 : decode cX1_thaw 119 = .ok (.goto (-79), 3) := dk_167 255 177 (dk_at dksX1_thaw_5 3 rfl rfl)
theorem dX1_thaw_122 : decode cX1_thaw 122 = .ok (.iload 4, 2) := dk_21 4 (dk_at dksX1_thaw_5 6 rfl rfl)
theorem dX1_thaw_124 : decode cX1_thaw 124 = .ok (.ireturn, 1) := dk_172 (dk_at dksX1_thaw_5 8 rfl rfl)
abbrev cX1_state : ByteArray := prog_1_method_29_code
def yX1_state : MethodName := ⟨RX1, "state", "(I)C"⟩
def dkwX1_state_1 : List UInt8 := [153, 0, 8, 16, 102, 167, 0, 5, 16, 112, 172]
abbrev dktX1_state_1 : List UInt8 := dkwX1_state_1 ++ []
def dkwX1_state_0 : List UInt8 := [42, 27, 182, 0, 97, 77, 44, 180, 0, 186, 153, 0, 8, 16, 111, 167, 0, 17, 44, 180, 0, 242]
abbrev dktX1_state_0 : List UInt8 := dkwX1_state_0 ++ dktX1_state_1
theorem dksX1_state_0 : cX1_state.data.toList.drop 0 = dktX1_state_0 := by decide +kernel
theorem dksX1_state_1 : cX1_state.data.toList.drop 22 = dktX1_state_1 := dk_seg dksX1_state_0 22 rfl rfl
theorem dX1_state_0 : decode cX1_state 0 = .ok (.aload_n 0, 1) := dk_42 (dk_at dksX1_state_0 0 rfl rfl)
theorem dX1_state_1 : decode cX1_state 1 = .ok (.iload_n 1, 1) := dk_27 (dk_at dksX1_state_0 1 rfl rfl)
theorem dX1_state_2 : decode cX1_state 2 = .ok (.invokevirtual 97, 3) := dk_182 0 97 (dk_at dksX1_state_0 2 rfl rfl)
theorem dX1_state_5 : decode cX1_state 5 = .ok (.astore_n 2, 1) := dk_77 (dk_at dksX1_state_0 5 rfl rfl)
theorem dX1_state_6 : decode cX1_state 6 = .ok (.aload_n 2, 1) := dk_44 (dk_at dksX1_state_0 6 rfl rfl)
theorem dX1_state_7 : decode cX1_state 7 = .ok (.getfield 186, 3) := dk_180 0 186 (dk_at dksX1_state_0 7 rfl rfl)
theorem dX1_state_10 : decode cX1_state 10 = .ok (.ifCond .eq 8, 3) := dk_153 0 8 (dk_at dksX1_state_0 10 rfl rfl)
theorem dX1_state_13 : decode cX1_state 13 = .ok (.bipush 111, 2) := dk_16 111 (dk_at dksX1_state_0 13 rfl rfl)
theorem dX1_state_15 : decode cX1_state 15 = .ok (.goto 17, 3) := dk_167 0 17 (dk_at dksX1_state_0 15 rfl rfl)
theorem dX1_state_18 : decode cX1_state 18 = .ok (.aload_n 2, 1) := dk_44 (dk_at dksX1_state_0 18 rfl rfl)
theorem dX1_state_19 : decode cX1_state 19 = .ok (.getfield 242, 3) := dk_180 0 242 (dk_at dksX1_state_0 19 rfl rfl)
theorem dX1_state_22 : decode cX1_state 22 = .ok (.ifCond .eq 8, 3) := dk_153 0 8 (dk_at dksX1_state_1 0 rfl rfl)
theorem dX1_state_25 : decode cX1_state 25 = .ok (.bipush 102, 2) := dk_16 102 (dk_at dksX1_state_1 3 rfl rfl)
theorem dX1_state_27 : decode cX1_state 27 = .ok (.goto 5, 3) := dk_167 0 5 (dk_at dksX1_state_1 5 rfl rfl)
theorem dX1_state_30 : decode cX1_state 30 = .ok (.bipush 112, 2) := dk_16 112 (dk_at dksX1_state_1 8 rfl rfl)
theorem dX1_state_32 : decode cX1_state 32 = .ok (.ireturn, 1) := dk_172 (dk_at dksX1_state_1 10 rfl rfl)
abbrev cX1_plays : ByteArray := prog_1_method_30_code
def yX1_plays : MethodName := ⟨RX1, "plays", "(I)I"⟩
def dkwX1_plays_1 : List UInt8 := [172]
abbrev dktX1_plays_1 : List UInt8 := dkwX1_plays_1 ++ []
def dkwX1_plays_0 : List UInt8 := [42, 27, 182, 0, 219, 77, 44, 180, 0, 190, 199, 0, 7, 2, 167, 0, 10, 44, 180, 0, 190, 180, 0, 210]
abbrev dktX1_plays_0 : List UInt8 := dkwX1_plays_0 ++ dktX1_plays_1
theorem dksX1_plays_0 : cX1_plays.data.toList.drop 0 = dktX1_plays_0 := by decide +kernel
theorem dksX1_plays_1 : cX1_plays.data.toList.drop 24 = dktX1_plays_1 := dk_seg dksX1_plays_0 24 rfl rfl
theorem dX1_plays_0 : decode cX1_plays 0 = .ok (.aload_n 0, 1) := dk_42 (dk_at dksX1_plays_0 0 rfl rfl)
theorem dX1_plays_1 : decode cX1_plays 1 = .ok (.iload_n 1, 1) := dk_27 (dk_at dksX1_plays_0 1 rfl rfl)
theorem dX1_plays_2 : decode cX1_plays 2 = .ok (.invokevirtual 219, 3) := dk_182 0 219 (dk_at dksX1_plays_0 2 rfl rfl)
theorem dX1_plays_5 : decode cX1_plays 5 = .ok (.astore_n 2, 1) := dk_77 (dk_at dksX1_plays_0 5 rfl rfl)
theorem dX1_plays_6 : decode cX1_plays 6 = .ok (.aload_n 2, 1) := dk_44 (dk_at dksX1_plays_0 6 rfl rfl)
theorem dX1_plays_7 : decode cX1_plays 7 = .ok (.getfield 190, 3) := dk_180 0 190 (dk_at dksX1_plays_0 7 rfl rfl)
theorem dX1_plays_10 : decode cX1_plays 10 = .ok (.ifnonnull 7, 3) := dk_199 0 7 (dk_at dksX1_plays_0 10 rfl rfl)
theorem dX1_plays_13 : decode cX1_plays 13 = .ok (.iconst (-1), 1) := dk_2 (dk_at dksX1_plays_0 13 rfl rfl)
theorem dX1_plays_14 : decode cX1_plays 14 = .ok (.goto 10, 3) := dk_167 0 10 (dk_at dksX1_plays_0 14 rfl rfl)
theorem dX1_plays_17 : decode cX1_plays 17 = .ok (.aload_n 2, 1) := dk_44 (dk_at dksX1_plays_0 17 rfl rfl)
theorem dX1_plays_18 : decode cX1_plays 18 = .ok (.getfield 190, 3) := dk_180 0 190 (dk_at dksX1_plays_0 18 rfl rfl)
theorem dX1_plays_21 : decode cX1_plays 21 = .ok (.getfield 210, 3) := dk_180 0 210 (dk_at dksX1_plays_0 21 rfl rfl)
theorem dX1_plays_24 : decode cX1_plays 24 = .ok (.ireturn, 1) := dk_172 (dk_at dksX1_plays_1 0 rfl rfl)
abbrev cX1_playerAt : ByteArray := prog_1_method_31_code
def yX1_playerAt : MethodName := ⟨RX1, "playerAt", "(II)I"⟩
def dkwX1_playerAt_1 : List UInt8 := [184, 0, 105, 45, 180, 0, 214, 28, 185, 0, 89, 2, 0, 192, 0, 191, 180, 0, 248, 172]
abbrev dktX1_playerAt_1 : List UInt8 := dkwX1_playerAt_1 ++ []
def dkwX1_playerAt_0 : List UInt8 := [42, 27, 182, 0, 97, 78, 28, 3, 45, 180, 0, 214, 185, 0, 81, 1, 0, 4, 100, 184, 0, 18]
abbrev dktX1_playerAt_0 : List UInt8 := dkwX1_playerAt_0 ++ dktX1_playerAt_1
theorem dksX1_playerAt_0 : cX1_playerAt.data.toList.drop 0 = dktX1_playerAt_0 := by decide +kernel
theorem dksX1_playerAt_1 : cX1_playerAt.data.toList.drop 22 = dktX1_playerAt_1 := dk_seg dksX1_playerAt_0 22 rfl rfl
theorem dX1_playerAt_0 : decode cX1_playerAt 0 = .ok (.aload_n 0, 1) := dk_42 (dk_at dksX1_playerAt_0 0 rfl rfl)
theorem dX1_playerAt_1 : decode cX1_playerAt 1 = .ok (.iload_n 1, 1) := dk_27 (dk_at dksX1_playerAt_0 1 rfl rfl)
theorem dX1_playerAt_2 : decode cX1_playerAt 2 = .ok (.invokevirtual 97, 3) := dk_182 0 97 (dk_at dksX1_playerAt_0 2 rfl rfl)
theorem dX1_playerAt_5 : decode cX1_playerAt 5 = .ok (.astore_n 3, 1) := dk_78 (dk_at dksX1_playerAt_0 5 rfl rfl)
theorem dX1_playerAt_6 : decode cX1_playerAt 6 = .ok (.iload_n 2, 1) := dk_28 (dk_at dksX1_playerAt_0 6 rfl rfl)
theorem dX1_playerAt_7 : decode cX1_playerAt 7 = .ok (.iconst 0, 1) := dk_3 (dk_at dksX1_playerAt_0 7 rfl rfl)
theorem dX1_playerAt_8 : decode cX1_playerAt 8 = .ok (.aload_n 3, 1) := dk_45 (dk_at dksX1_playerAt_0 8 rfl rfl)
theorem dX1_playerAt_9 : decode cX1_playerAt 9 = .ok (.getfield 214, 3) := dk_180 0 214 (dk_at dksX1_playerAt_0 9 rfl rfl)
theorem dX1_playerAt_12 : decode cX1_playerAt 12 = .ok (.invokeinterface 81 1, 5) := by decide +kernel
theorem dX1_playerAt_17 : decode cX1_playerAt 17 = .ok (.iconst 1, 1) := dk_4 (dk_at dksX1_playerAt_0 17 rfl rfl)
theorem dX1_playerAt_18 : decode cX1_playerAt 18 = .ok (.isub, 1) := dk_100 (dk_at dksX1_playerAt_0 18 rfl rfl)
theorem dX1_playerAt_19 : decode cX1_playerAt 19 = .ok (.invokestatic 18, 3) := dk_184 0 18 (dk_at dksX1_playerAt_0 19 rfl rfl)
theorem dX1_playerAt_22 : decode cX1_playerAt 22 = .ok (.invokestatic 105, 3) := dk_184 0 105 (dk_at dksX1_playerAt_1 0 rfl rfl)
theorem dX1_playerAt_25 : decode cX1_playerAt 25 = .ok (.aload_n 3, 1) := dk_45 (dk_at dksX1_playerAt_1 3 rfl rfl)
theorem dX1_playerAt_26 : decode cX1_playerAt 26 = .ok (.getfield 214, 3) := dk_180 0 214 (dk_at dksX1_playerAt_1 4 rfl rfl)
theorem dX1_playerAt_29 : decode cX1_playerAt 29 = .ok (.iload_n 2, 1) := dk_28 (dk_at dksX1_playerAt_1 7 rfl rfl)
theorem dX1_playerAt_30 : decode cX1_playerAt 30 = .ok (.invokeinterface 89 2, 5) := by decide +kernel
theorem dX1_playerAt_35 : decode cX1_playerAt 35 = .ok (.checkcast 191, 3) := dk_192 0 191 (dk_at dksX1_playerAt_1 13 rfl rfl)
theorem dX1_playerAt_38 : decode cX1_playerAt 38 = .ok (.getfield 248, 3) := dk_180 0 248 (dk_at dksX1_playerAt_1 16 rfl rfl)
theorem dX1_playerAt_41 : decode cX1_playerAt 41 = .ok (.ireturn, 1) := dk_172 (dk_at dksX1_playerAt_1 19 rfl rfl)
abbrev cX1_next : ByteArray := prog_1_method_32_code
def yX1_next : MethodName := ⟨RX1, "next", "(I)I"⟩
def dkwX1_next_1 : List UInt8 := [180, 1, 2, 96, 172]
abbrev dktX1_next_1 : List UInt8 := dkwX1_next_1 ++ []
def dkwX1_next_0 : List UInt8 := [42, 27, 182, 0, 219, 77, 16, 100, 44, 180, 0, 251, 185, 0, 81, 1, 0, 104, 44, 182, 0, 254]
abbrev dktX1_next_0 : List UInt8 := dkwX1_next_0 ++ dktX1_next_1
theorem dksX1_next_0 : cX1_next.data.toList.drop 0 = dktX1_next_0 := by decide +kernel
theorem dksX1_next_1 : cX1_next.data.toList.drop 22 = dktX1_next_1 := dk_seg dksX1_next_0 22 rfl rfl
theorem dX1_next_0 : decode cX1_next 0 = .ok (.aload_n 0, 1) := dk_42 (dk_at dksX1_next_0 0 rfl rfl)
theorem dX1_next_1 : decode cX1_next 1 = .ok (.iload_n 1, 1) := dk_27 (dk_at dksX1_next_0 1 rfl rfl)
theorem dX1_next_2 : decode cX1_next 2 = .ok (.invokevirtual 219, 3) := dk_182 0 219 (dk_at dksX1_next_0 2 rfl rfl)
theorem dX1_next_5 : decode cX1_next 5 = .ok (.astore_n 2, 1) := dk_77 (dk_at dksX1_next_0 5 rfl rfl)
theorem dX1_next_6 : decode cX1_next 6 = .ok (.bipush 100, 2) := dk_16 100 (dk_at dksX1_next_0 6 rfl rfl)
theorem dX1_next_8 : decode cX1_next 8 = .ok (.aload_n 2, 1) := dk_44 (dk_at dksX1_next_0 8 rfl rfl)
theorem dX1_next_9 : decode cX1_next 9 = .ok (.getfield 251, 3) := dk_180 0 251 (dk_at dksX1_next_0 9 rfl rfl)
theorem dX1_next_12 : decode cX1_next 12 = .ok (.invokeinterface 81 1, 5) := by decide +kernel
theorem dX1_next_17 : decode cX1_next 17 = .ok (.imul, 1) := dk_104 (dk_at dksX1_next_0 17 rfl rfl)
theorem dX1_next_18 : decode cX1_next 18 = .ok (.aload_n 2, 1) := dk_44 (dk_at dksX1_next_0 18 rfl rfl)
theorem dX1_next_19 : decode cX1_next 19 = .ok (.invokevirtual 254, 3) := dk_182 0 254 (dk_at dksX1_next_0 19 rfl rfl)
theorem dX1_next_22 : decode cX1_next 22 = .ok (.getfield 258, 3) := dk_180 1 2 (dk_at dksX1_next_1 0 rfl rfl)
theorem dX1_next_25 : decode cX1_next 25 = .ok (.iadd, 1) := dk_96 (dk_at dksX1_next_1 3 rfl rfl)
theorem dX1_next_26 : decode cX1_next 26 = .ok (.ireturn, 1) := dk_172 (dk_at dksX1_next_1 4 rfl rfl)
abbrev cX1_count : ByteArray := prog_1_method_33_code
def yX1_count : MethodName := ⟨RX1, "count", "(I)I"⟩
def dkwX1_count_0 : List UInt8 := [42, 27, 182, 0, 219, 180, 1, 6, 172]
abbrev dktX1_count_0 : List UInt8 := dkwX1_count_0 ++ []
theorem dksX1_count_0 : cX1_count.data.toList.drop 0 = dktX1_count_0 := by decide +kernel
theorem dX1_count_0 : decode cX1_count 0 = .ok (.aload_n 0, 1) := dk_42 (dk_at dksX1_count_0 0 rfl rfl)
theorem dX1_count_1 : decode cX1_count 1 = .ok (.iload_n 1, 1) := dk_27 (dk_at dksX1_count_0 1 rfl rfl)
theorem dX1_count_2 : decode cX1_count 2 = .ok (.invokevirtual 219, 3) := dk_182 0 219 (dk_at dksX1_count_0 2 rfl rfl)
theorem dX1_count_5 : decode cX1_count 5 = .ok (.getfield 262, 3) := dk_180 1 6 (dk_at dksX1_count_0 5 rfl rfl)
theorem dX1_count_8 : decode cX1_count 8 = .ok (.ireturn, 1) := dk_172 (dk_at dksX1_count_0 8 rfl rfl)
abbrev cX1_waits : ByteArray := prog_1_method_34_code
def yX1_waits : MethodName := ⟨RX1, "waits", "(I)I"⟩
def dkwX1_waits_0 : List UInt8 := [42, 27, 182, 0, 219, 77, 44, 180, 1, 9, 153, 0, 8, 16, 100, 167, 0, 7, 44, 180, 1, 12, 172]
abbrev dktX1_waits_0 : List UInt8 := dkwX1_waits_0 ++ []
theorem dksX1_waits_0 : cX1_waits.data.toList.drop 0 = dktX1_waits_0 := by decide +kernel
theorem dX1_waits_0 : decode cX1_waits 0 = .ok (.aload_n 0, 1) := dk_42 (dk_at dksX1_waits_0 0 rfl rfl)
theorem dX1_waits_1 : decode cX1_waits 1 = .ok (.iload_n 1, 1) := dk_27 (dk_at dksX1_waits_0 1 rfl rfl)
theorem dX1_waits_2 : decode cX1_waits 2 = .ok (.invokevirtual 219, 3) := dk_182 0 219 (dk_at dksX1_waits_0 2 rfl rfl)
theorem dX1_waits_5 : decode cX1_waits 5 = .ok (.astore_n 2, 1) := dk_77 (dk_at dksX1_waits_0 5 rfl rfl)
theorem dX1_waits_6 : decode cX1_waits 6 = .ok (.aload_n 2, 1) := dk_44 (dk_at dksX1_waits_0 6 rfl rfl)
theorem dX1_waits_7 : decode cX1_waits 7 = .ok (.getfield 265, 3) := dk_180 1 9 (dk_at dksX1_waits_0 7 rfl rfl)
theorem dX1_waits_10 : decode cX1_waits 10 = .ok (.ifCond .eq 8, 3) := dk_153 0 8 (dk_at dksX1_waits_0 10 rfl rfl)
theorem dX1_waits_13 : decode cX1_waits 13 = .ok (.bipush 100, 2) := dk_16 100 (dk_at dksX1_waits_0 13 rfl rfl)
theorem dX1_waits_15 : decode cX1_waits 15 = .ok (.goto 7, 3) := dk_167 0 7 (dk_at dksX1_waits_0 15 rfl rfl)
theorem dX1_waits_18 : decode cX1_waits 18 = .ok (.aload_n 2, 1) := dk_44 (dk_at dksX1_waits_0 18 rfl rfl)
theorem dX1_waits_19 : decode cX1_waits 19 = .ok (.getfield 268, 3) := dk_180 1 12 (dk_at dksX1_waits_0 19 rfl rfl)
theorem dX1_waits_22 : decode cX1_waits 22 = .ok (.ireturn, 1) := dk_172 (dk_at dksX1_waits_0 22 rfl rfl)
abbrev cX1_tick : ByteArray := prog_1_method_39_code
def yX1_tick : MethodName := ⟨RX1, "tick", "(I)I"⟩
def dkwX1_tick_5 : List UInt8 := [180, 1, 28, 172]
abbrev dktX1_tick_5 : List UInt8 := dkwX1_tick_5 ++ []
def dkwX1_tick_4 : List UInt8 := [25, 6, 25, 4, 182, 1, 71, 167, 255, 218, 167, 255, 183, 42, 182, 1, 74, 132, 2, 1, 167, 255, 158, 42]
abbrev dktX1_tick_4 : List UInt8 := dkwX1_tick_4 ++ dktX1_tick_5
def dkwX1_tick_3 : List UInt8 := [153, 0, 34, 25, 5, 185, 0, 121, 1, 0, 192, 0, 191, 58, 6, 25, 4, 180, 0, 242, 154, 0, 11, 42]
abbrev dktX1_tick_3 : List UInt8 := dkwX1_tick_3 ++ dktX1_tick_4
def dkwX1_tick_2 : List UInt8 := [192, 0, 95, 58, 4, 25, 4, 180, 0, 214, 185, 0, 111, 1, 0, 58, 5, 25, 5, 185, 0, 115, 1, 0]
abbrev dktX1_tick_2 : List UInt8 := dkwX1_tick_2 ++ dktX1_tick_3
def dkwX1_tick_1 : List UInt8 := [180, 0, 63, 185, 0, 111, 1, 0, 78, 45, 185, 0, 115, 1, 0, 153, 0, 70, 45, 185, 0, 121, 1, 0]
abbrev dktX1_tick_1 : List UInt8 := dkwX1_tick_1 ++ dktX1_tick_2
def dkwX1_tick_0 : List UInt8 := [27, 4, 16, 50, 184, 0, 18, 184, 0, 151, 42, 3, 181, 1, 28, 3, 61, 28, 27, 162, 0, 99, 42]
abbrev dktX1_tick_0 : List UInt8 := dkwX1_tick_0 ++ dktX1_tick_1
theorem dksX1_tick_0 : cX1_tick.data.toList.drop 0 = dktX1_tick_0 := by decide +kernel
theorem dksX1_tick_1 : cX1_tick.data.toList.drop 23 = dktX1_tick_1 := dk_seg dksX1_tick_0 23 rfl rfl
theorem dksX1_tick_2 : cX1_tick.data.toList.drop 47 = dktX1_tick_2 := dk_seg dksX1_tick_1 24 rfl rfl
theorem dksX1_tick_3 : cX1_tick.data.toList.drop 71 = dktX1_tick_3 := dk_seg dksX1_tick_2 24 rfl rfl
theorem dksX1_tick_4 : cX1_tick.data.toList.drop 95 = dktX1_tick_4 := dk_seg dksX1_tick_3 24 rfl rfl
theorem dksX1_tick_5 : cX1_tick.data.toList.drop 119 = dktX1_tick_5 := dk_seg dksX1_tick_4 24 rfl rfl
theorem dX1_tick_0 : decode cX1_tick 0 = .ok (.iload_n 1, 1) := dk_27 (dk_at dksX1_tick_0 0 rfl rfl)
theorem dX1_tick_1 : decode cX1_tick 1 = .ok (.iconst 1, 1) := dk_4 (dk_at dksX1_tick_0 1 rfl rfl)
theorem dX1_tick_2 : decode cX1_tick 2 = .ok (.bipush 50, 2) := dk_16 50 (dk_at dksX1_tick_0 2 rfl rfl)
theorem dX1_tick_4 : decode cX1_tick 4 = .ok (.invokestatic 18, 3) := dk_184 0 18 (dk_at dksX1_tick_0 4 rfl rfl)
theorem dX1_tick_7 : decode cX1_tick 7 = .ok (.invokestatic 151, 3) := dk_184 0 151 (dk_at dksX1_tick_0 7 rfl rfl)
theorem dX1_tick_10 : decode cX1_tick 10 = .ok (.aload_n 0, 1) := dk_42 (dk_at dksX1_tick_0 10 rfl rfl)
theorem dX1_tick_11 : decode cX1_tick 11 = .ok (.iconst 0, 1) := dk_3 (dk_at dksX1_tick_0 11 rfl rfl)
theorem dX1_tick_12 : decode cX1_tick 12 = .ok (.putfield 284, 3) := dk_181 1 28 (dk_at dksX1_tick_0 12 rfl rfl)
theorem dX1_tick_15 : decode cX1_tick 15 = .ok (.iconst 0, 1) := dk_3 (dk_at dksX1_tick_0 15 rfl rfl)
theorem dX1_tick_16 : decode cX1_tick 16 = .ok (.istore_n 2, 1) := dk_61 (dk_at dksX1_tick_0 16 rfl rfl)
theorem dX1_tick_17 : decode cX1_tick 17 = .ok (.iload_n 2, 1) := dk_28 (dk_at dksX1_tick_0 17 rfl rfl)
theorem dX1_tick_18 : decode cX1_tick 18 = .ok (.iload_n 1, 1) := dk_27 (dk_at dksX1_tick_0 18 rfl rfl)
theorem dX1_tick_19 : decode cX1_tick 19 = .ok (.if_icmp .ge 99, 3) := dk_162 0 99 (dk_at dksX1_tick_0 19 rfl rfl)
theorem dX1_tick_22 : decode cX1_tick 22 = .ok (.aload_n 0, 1) := dk_42 (dk_at dksX1_tick_0 22 rfl rfl)
theorem dX1_tick_23 : decode cX1_tick 23 = .ok (.getfield 63, 3) := dk_180 0 63 (dk_at dksX1_tick_1 0 rfl rfl)
theorem dX1_tick_26 : decode cX1_tick 26 = .ok (.invokeinterface 111 1, 5) := by decide +kernel
theorem dX1_tick_31 : decode cX1_tick 31 = .ok (.astore_n 3, 1) := dk_78 (dk_at dksX1_tick_1 8 rfl rfl)
theorem dX1_tick_32 : decode cX1_tick 32 = .ok (.aload_n 3, 1) := dk_45 (dk_at dksX1_tick_1 9 rfl rfl)
theorem dX1_tick_33 : decode cX1_tick 33 = .ok (.invokeinterface 115 1, 5) := by decide +kernel
theorem dX1_tick_38 : decode cX1_tick 38 = .ok (.ifCond .eq 70, 3) := dk_153 0 70 (dk_at dksX1_tick_1 15 rfl rfl)
theorem dX1_tick_41 : decode cX1_tick 41 = .ok (.aload_n 3, 1) := dk_45 (dk_at dksX1_tick_1 18 rfl rfl)
theorem dX1_tick_42 : decode cX1_tick 42 = .ok (.invokeinterface 121 1, 5) := by decide +kernel
theorem dX1_tick_47 : decode cX1_tick 47 = .ok (.checkcast 95, 3) := dk_192 0 95 (dk_at dksX1_tick_2 0 rfl rfl)
theorem dX1_tick_50 : decode cX1_tick 50 = .ok (.astore 4, 2) := dk_58 4 (dk_at dksX1_tick_2 3 rfl rfl)
theorem dX1_tick_52 : decode cX1_tick 52 = .ok (.aload 4, 2) := dk_25 4 (dk_at dksX1_tick_2 5 rfl rfl)
theorem dX1_tick_54 : decode cX1_tick 54 = .ok (.getfield 214, 3) := dk_180 0 214 (dk_at dksX1_tick_2 7 rfl rfl)
theorem dX1_tick_57 : decode cX1_tick 57 = .ok (.invokeinterface 111 1, 5) := by decide +kernel
theorem dX1_tick_62 : decode cX1_tick 62 = .ok (.astore 5, 2) := dk_58 5 (dk_at dksX1_tick_2 15 rfl rfl)
theorem dX1_tick_64 : decode cX1_tick 64 = .ok (.aload 5, 2) := dk_25 5 (dk_at dksX1_tick_2 17 rfl rfl)
theorem dX1_tick_66 : decode cX1_tick 66 = .ok (.invokeinterface 115 1, 5) := by decide +kernel
theorem dX1_tick_71 : decode cX1_tick 71 = .ok (.ifCond .eq 34, 3) := dk_153 0 34 (dk_at dksX1_tick_3 0 rfl rfl)
theorem dX1_tick_74 : decode cX1_tick 74 = .ok (.aload 5, 2) := dk_25 5 (dk_at dksX1_tick_3 3 rfl rfl)
theorem dX1_tick_76 : decode cX1_tick 76 = .ok (.invokeinterface 121 1, 5) := by decide +kernel
theorem dX1_tick_81 : decode cX1_tick 81 = .ok (.checkcast 191, 3) := dk_192 0 191 (dk_at dksX1_tick_3 10 rfl rfl)
theorem dX1_tick_84 : decode cX1_tick 84 = .ok (.astore 6, 2) := dk_58 6 (dk_at dksX1_tick_3 13 rfl rfl)
theorem dX1_tick_86 : decode cX1_tick 86 = .ok (.aload 4, 2) := dk_25 4 (dk_at dksX1_tick_3 15 rfl rfl)
theorem dX1_tick_88 : decode cX1_tick 88 = .ok (.getfield 242, 3) := dk_180 0 242 (dk_at dksX1_tick_3 17 rfl rfl)
theorem dX1_tick_91 : decode cX1_tick 91 = .ok (.ifCond .ne 11, 3) := dk_154 0 11 (dk_at dksX1_tick_3 20 rfl rfl)
theorem dX1_tick_94 : decode cX1_tick 94 = .ok (.aload_n 0, 1) := dk_42 (dk_at dksX1_tick_3 23 rfl rfl)
theorem dX1_tick_95 : decode cX1_tick 95 = .ok (.aload 6, 2) := dk_25 6 (dk_at dksX1_tick_4 0 rfl rfl)
theorem dX1_tick_97 : decode cX1_tick 97 = .ok (.aload 4, 2) := dk_25 4 (dk_at dksX1_tick_4 2 rfl rfl)
theorem dX1_tick_99 : decode cX1_tick 99 = .ok (.invokevirtual 327, 3) := dk_182 1 71 (dk_at dksX1_tick_4 4 rfl rfl)
theorem dX1_tick_102 : decode cX1_tick 102 = .ok (.goto (-38), 3) := dk_167 255 218 (dk_at dksX1_tick_4 7 rfl rfl)
theorem dX1_tick_105 : decode cX1_tick 105 = .ok (.goto (-73), 3) := dk_167 255 183 (dk_at dksX1_tick_4 10 rfl rfl)
theorem dX1_tick_108 : decode cX1_tick 108 = .ok (.aload_n 0, 1) := dk_42 (dk_at dksX1_tick_4 13 rfl rfl)
theorem dX1_tick_109 : decode cX1_tick 109 = .ok (.invokevirtual 330, 3) := dk_182 1 74 (dk_at dksX1_tick_4 14 rfl rfl)
theorem dX1_tick_112 : decode cX1_tick 112 = .ok (.iinc 2 1, 3) := dk_132 2 1 (dk_at dksX1_tick_4 17 rfl rfl)
theorem dX1_tick_115 : decode cX1_tick 115 = .ok (.goto (-98), 3) := dk_167 255 158 (dk_at dksX1_tick_4 20 rfl rfl)
theorem dX1_tick_118 : decode cX1_tick 118 = .ok (.aload_n 0, 1) := dk_42 (dk_at dksX1_tick_4 23 rfl rfl)
theorem dX1_tick_119 : decode cX1_tick 119 = .ok (.getfield 284, 3) := dk_180 1 28 (dk_at dksX1_tick_5 0 rfl rfl)
theorem dX1_tick_122 : decode cX1_tick 122 = .ok (.ireturn, 1) := dk_172 (dk_at dksX1_tick_5 3 rfl rfl)
abbrev cX1_turn : ByteArray := prog_1_method_37_code
def yX1_turn : MethodName := ⟨RX1, "turn", "(LKioskReel$Player;LKioskReel$Kiosk;)V"⟩
def dkwX1_turn_7 : List UInt8 := [4, 100, 50, 42, 43, 44, 182, 1, 61, 62, 132, 4, 1, 167, 255, 114, 177]
abbrev dktX1_turn_7 : List UInt8 := dkwX1_turn_7 ++ []
def dkwX1_turn_6 : List UInt8 := [167, 0, 34, 25, 5, 89, 180, 1, 2, 4, 96, 181, 1, 2, 25, 5, 180, 1, 58, 25, 5, 180, 1, 2]
abbrev dktX1_turn_6 : List UInt8 := dkwX1_turn_6 ++ dktX1_turn_7
def dkwX1_turn_5 : List UInt8 := [180, 0, 251, 3, 187, 1, 3, 89, 25, 5, 180, 1, 47, 183, 1, 51, 185, 1, 54, 3, 0, 87]
abbrev dktX1_turn_5 : List UInt8 := dkwX1_turn_5 ++ dktX1_turn_6
def dkwX1_turn_4 : List UInt8 := [182, 0, 254, 58, 5, 42, 89, 180, 1, 43, 10, 97, 181, 1, 43, 25, 5, 182, 1, 40, 153, 0, 29, 43]
abbrev dktX1_turn_4 : List UInt8 := dkwX1_turn_4 ++ dktX1_turn_5
def dkwX1_turn_3 : List UInt8 := [180, 0, 251, 43, 180, 0, 251, 185, 0, 81, 1, 0, 4, 100, 185, 0, 176, 2, 0, 87, 167, 255, 212, 43]
abbrev dktX1_turn_3 : List UInt8 := dkwX1_turn_3 ++ dktX1_turn_4
def dkwX1_turn_2 : List UInt8 := [180, 0, 251, 185, 0, 81, 1, 0, 4, 164, 0, 37, 43, 182, 0, 254, 182, 1, 40, 153, 0, 27, 43]
abbrev dktX1_turn_2 : List UInt8 := dkwX1_turn_2 ++ dktX1_turn_3
def dkwX1_turn_1 : List UInt8 := [154, 0, 7, 4, 167, 0, 4, 3, 62, 3, 54, 4, 21, 4, 16, 8, 162, 0, 141, 29, 153, 0, 137, 43]
abbrev dktX1_turn_1 : List UInt8 := dkwX1_turn_1 ++ dktX1_turn_2
def dkwX1_turn_0 : List UInt8 := [43, 180, 1, 12, 158, 0, 14, 43, 89, 180, 1, 12, 4, 100, 181, 1, 12, 177, 43, 180, 1, 9]
abbrev dktX1_turn_0 : List UInt8 := dkwX1_turn_0 ++ dktX1_turn_1
theorem dksX1_turn_0 : cX1_turn.data.toList.drop 0 = dktX1_turn_0 := by decide +kernel
theorem dksX1_turn_1 : cX1_turn.data.toList.drop 22 = dktX1_turn_1 := dk_seg dksX1_turn_0 22 rfl rfl
theorem dksX1_turn_2 : cX1_turn.data.toList.drop 46 = dktX1_turn_2 := dk_seg dksX1_turn_1 24 rfl rfl
theorem dksX1_turn_3 : cX1_turn.data.toList.drop 69 = dktX1_turn_3 := dk_seg dksX1_turn_2 23 rfl rfl
theorem dksX1_turn_4 : cX1_turn.data.toList.drop 93 = dktX1_turn_4 := dk_seg dksX1_turn_3 24 rfl rfl
theorem dksX1_turn_5 : cX1_turn.data.toList.drop 117 = dktX1_turn_5 := dk_seg dksX1_turn_4 24 rfl rfl
theorem dksX1_turn_6 : cX1_turn.data.toList.drop 139 = dktX1_turn_6 := dk_seg dksX1_turn_5 22 rfl rfl
theorem dksX1_turn_7 : cX1_turn.data.toList.drop 163 = dktX1_turn_7 := dk_seg dksX1_turn_6 24 rfl rfl
theorem dX1_turn_0 : decode cX1_turn 0 = .ok (.aload_n 1, 1) := dk_43 (dk_at dksX1_turn_0 0 rfl rfl)
theorem dX1_turn_1 : decode cX1_turn 1 = .ok (.getfield 268, 3) := dk_180 1 12 (dk_at dksX1_turn_0 1 rfl rfl)
theorem dX1_turn_4 : decode cX1_turn 4 = .ok (.ifCond .le 14, 3) := dk_158 0 14 (dk_at dksX1_turn_0 4 rfl rfl)
theorem dX1_turn_7 : decode cX1_turn 7 = .ok (.aload_n 1, 1) := dk_43 (dk_at dksX1_turn_0 7 rfl rfl)
theorem dX1_turn_8 : decode cX1_turn 8 = .ok (.dup, 1) := dk_89 (dk_at dksX1_turn_0 8 rfl rfl)
theorem dX1_turn_9 : decode cX1_turn 9 = .ok (.getfield 268, 3) := dk_180 1 12 (dk_at dksX1_turn_0 9 rfl rfl)
theorem dX1_turn_12 : decode cX1_turn 12 = .ok (.iconst 1, 1) := dk_4 (dk_at dksX1_turn_0 12 rfl rfl)
theorem dX1_turn_13 : decode cX1_turn 13 = .ok (.isub, 1) := dk_100 (dk_at dksX1_turn_0 13 rfl rfl)
theorem dX1_turn_14 : decode cX1_turn 14 = .ok (.putfield 268, 3) := dk_181 1 12 (dk_at dksX1_turn_0 14 rfl rfl)
theorem dX1_turn_17 : decode cX1_turn 17 = .ok (.return_, 1) := dk_177 (dk_at dksX1_turn_0 17 rfl rfl)
theorem dX1_turn_18 : decode cX1_turn 18 = .ok (.aload_n 1, 1) := dk_43 (dk_at dksX1_turn_0 18 rfl rfl)
theorem dX1_turn_19 : decode cX1_turn 19 = .ok (.getfield 265, 3) := dk_180 1 9 (dk_at dksX1_turn_0 19 rfl rfl)
theorem dX1_turn_22 : decode cX1_turn 22 = .ok (.ifCond .ne 7, 3) := dk_154 0 7 (dk_at dksX1_turn_1 0 rfl rfl)
theorem dX1_turn_25 : decode cX1_turn 25 = .ok (.iconst 1, 1) := dk_4 (dk_at dksX1_turn_1 3 rfl rfl)
theorem dX1_turn_26 : decode cX1_turn 26 = .ok (.goto 4, 3) := dk_167 0 4 (dk_at dksX1_turn_1 4 rfl rfl)
theorem dX1_turn_29 : decode cX1_turn 29 = .ok (.iconst 0, 1) := dk_3 (dk_at dksX1_turn_1 7 rfl rfl)
theorem dX1_turn_30 : decode cX1_turn 30 = .ok (.istore_n 3, 1) := dk_62 (dk_at dksX1_turn_1 8 rfl rfl)
theorem dX1_turn_31 : decode cX1_turn 31 = .ok (.iconst 0, 1) := dk_3 (dk_at dksX1_turn_1 9 rfl rfl)
theorem dX1_turn_32 : decode cX1_turn 32 = .ok (.istore 4, 2) := dk_54 4 (dk_at dksX1_turn_1 10 rfl rfl)
theorem dX1_turn_34 : decode cX1_turn 34 = .ok (.iload 4, 2) := dk_21 4 (dk_at dksX1_turn_1 12 rfl rfl)
theorem dX1_turn_36 : decode cX1_turn 36 = .ok (.bipush 8, 2) := dk_16 8 (dk_at dksX1_turn_1 14 rfl rfl)
theorem dX1_turn_38 : decode cX1_turn 38 = .ok (.if_icmp .ge 141, 3) := dk_162 0 141 (dk_at dksX1_turn_1 16 rfl rfl)
theorem dX1_turn_41 : decode cX1_turn 41 = .ok (.iload_n 3, 1) := dk_29 (dk_at dksX1_turn_1 19 rfl rfl)
theorem dX1_turn_42 : decode cX1_turn 42 = .ok (.ifCond .eq 137, 3) := dk_153 0 137 (dk_at dksX1_turn_1 20 rfl rfl)
theorem dX1_turn_45 : decode cX1_turn 45 = .ok (.aload_n 1, 1) := dk_43 (dk_at dksX1_turn_1 23 rfl rfl)
theorem dX1_turn_46 : decode cX1_turn 46 = .ok (.getfield 251, 3) := dk_180 0 251 (dk_at dksX1_turn_2 0 rfl rfl)
theorem dX1_turn_49 : decode cX1_turn 49 = .ok (.invokeinterface 81 1, 5) := by decide +kernel
theorem dX1_turn_54 : decode cX1_turn 54 = .ok (.iconst 1, 1) := dk_4 (dk_at dksX1_turn_2 8 rfl rfl)
theorem dX1_turn_55 : decode cX1_turn 55 = .ok (.if_icmp .le 37, 3) := dk_164 0 37 (dk_at dksX1_turn_2 9 rfl rfl)
theorem dX1_turn_58 : decode cX1_turn 58 = .ok (.aload_n 1, 1) := dk_43 (dk_at dksX1_turn_2 12 rfl rfl)
theorem dX1_turn_59 : decode cX1_turn 59 = .ok (.invokevirtual 254, 3) := dk_182 0 254 (dk_at dksX1_turn_2 13 rfl rfl)
theorem dX1_turn_62 : decode cX1_turn 62 = .ok (.invokevirtual 296, 3) := dk_182 1 40 (dk_at dksX1_turn_2 16 rfl rfl)
theorem dX1_turn_65 : decode cX1_turn 65 = .ok (.ifCond .eq 27, 3) := dk_153 0 27 (dk_at dksX1_turn_2 19 rfl rfl)
theorem dX1_turn_68 : decode cX1_turn 68 = .ok (.aload_n 1, 1) := dk_43 (dk_at dksX1_turn_2 22 rfl rfl)
theorem dX1_turn_69 : decode cX1_turn 69 = .ok (.getfield 251, 3) := dk_180 0 251 (dk_at dksX1_turn_3 0 rfl rfl)
theorem dX1_turn_72 : decode cX1_turn 72 = .ok (.aload_n 1, 1) := dk_43 (dk_at dksX1_turn_3 3 rfl rfl)
theorem dX1_turn_73 : decode cX1_turn 73 = .ok (.getfield 251, 3) := dk_180 0 251 (dk_at dksX1_turn_3 4 rfl rfl)
theorem dX1_turn_76 : decode cX1_turn 76 = .ok (.invokeinterface 81 1, 5) := by decide +kernel
theorem dX1_turn_81 : decode cX1_turn 81 = .ok (.iconst 1, 1) := dk_4 (dk_at dksX1_turn_3 12 rfl rfl)
theorem dX1_turn_82 : decode cX1_turn 82 = .ok (.isub, 1) := dk_100 (dk_at dksX1_turn_3 13 rfl rfl)
theorem dX1_turn_83 : decode cX1_turn 83 = .ok (.invokeinterface 176 2, 5) := by decide +kernel
theorem dX1_turn_88 : decode cX1_turn 88 = .ok (.pop, 1) := dk_87 (dk_at dksX1_turn_3 19 rfl rfl)
theorem dX1_turn_89 : decode cX1_turn 89 = .ok (.goto (-44), 3) := dk_167 255 212 (dk_at dksX1_turn_3 20 rfl rfl)
theorem dX1_turn_92 : decode cX1_turn 92 = .ok (.aload_n 1, 1) := dk_43 (dk_at dksX1_turn_3 23 rfl rfl)
theorem dX1_turn_93 : decode cX1_turn 93 = .ok (.invokevirtual 254, 3) := dk_182 0 254 (dk_at dksX1_turn_4 0 rfl rfl)
theorem dX1_turn_96 : decode cX1_turn 96 = .ok (.astore 5, 2) := dk_58 5 (dk_at dksX1_turn_4 3 rfl rfl)
theorem dX1_turn_98 : decode cX1_turn 98 = .ok (.aload_n 0, 1) := dk_42 (dk_at dksX1_turn_4 5 rfl rfl)
theorem dX1_turn_99 : decode cX1_turn 99 = .ok (.dup, 1) := dk_89 (dk_at dksX1_turn_4 6 rfl rfl)
theorem dX1_turn_100 : decode cX1_turn 100 = .ok (.getfield 299, 3) := dk_180 1 43 (dk_at dksX1_turn_4 7 rfl rfl)
theorem dX1_turn_103 : decode cX1_turn 103 = .ok (.lconst 1, 1) := dk_10 (dk_at dksX1_turn_4 10 rfl rfl)
theorem dX1_turn_104 : decode cX1_turn 104 = .ok (.ladd, 1) := dk_97 (dk_at dksX1_turn_4 11 rfl rfl)
theorem dX1_turn_105 : decode cX1_turn 105 = .ok (.putfield 299, 3) := dk_181 1 43 (dk_at dksX1_turn_4 12 rfl rfl)
theorem dX1_turn_108 : decode cX1_turn 108 = .ok (.aload 5, 2) := dk_25 5 (dk_at dksX1_turn_4 15 rfl rfl)
theorem dX1_turn_110 : decode cX1_turn 110 = .ok (.invokevirtual 296, 3) := dk_182 1 40 (dk_at dksX1_turn_4 17 rfl rfl)
theorem dX1_turn_113 : decode cX1_turn 113 = .ok (.ifCond .eq 29, 3) := dk_153 0 29 (dk_at dksX1_turn_4 20 rfl rfl)
theorem dX1_turn_116 : decode cX1_turn 116 = .ok (.aload_n 1, 1) := dk_43 (dk_at dksX1_turn_4 23 rfl rfl)
theorem dX1_turn_117 : decode cX1_turn 117 = .ok (.getfield 251, 3) := dk_180 0 251 (dk_at dksX1_turn_5 0 rfl rfl)
theorem dX1_turn_120 : decode cX1_turn 120 = .ok (.iconst 0, 1) := dk_3 (dk_at dksX1_turn_5 3 rfl rfl)
theorem dX1_turn_121 : decode cX1_turn 121 = .ok (.new 259, 3) := dk_187 1 3 (dk_at dksX1_turn_5 4 rfl rfl)
theorem dX1_turn_124 : decode cX1_turn 124 = .ok (.dup, 1) := dk_89 (dk_at dksX1_turn_5 7 rfl rfl)
theorem dX1_turn_125 : decode cX1_turn 125 = .ok (.aload 5, 2) := dk_25 5 (dk_at dksX1_turn_5 8 rfl rfl)
theorem dX1_turn_127 : decode cX1_turn 127 = .ok (.getfield 303, 3) := dk_180 1 47 (dk_at dksX1_turn_5 10 rfl rfl)
theorem dX1_turn_130 : decode cX1_turn 130 = .ok (.invokespecial 307, 3) := dk_183 1 51 (dk_at dksX1_turn_5 13 rfl rfl)
theorem dX1_turn_133 : decode cX1_turn 133 = .ok (.invokeinterface 310 3, 5) := by decide +kernel
theorem dX1_turn_138 : decode cX1_turn 138 = .ok (.pop, 1) := dk_87 (dk_at dksX1_turn_5 21 rfl rfl)
theorem dX1_turn_139 : decode cX1_turn 139 = .ok (.goto 34, 3) := dk_167 0 34 (dk_at dksX1_turn_6 0 rfl rfl)
theorem dX1_turn_142 : decode cX1_turn 142 = .ok (.aload 5, 2) := dk_25 5 (dk_at dksX1_turn_6 3 rfl rfl)
theorem dX1_turn_144 : decode cX1_turn 144 = .ok (.dup, 1) := dk_89 (dk_at dksX1_turn_6 5 rfl rfl)
theorem dX1_turn_145 : decode cX1_turn 145 = .ok (.getfield 258, 3) := dk_180 1 2 (dk_at dksX1_turn_6 6 rfl rfl)
theorem dX1_turn_148 : decode cX1_turn 148 = .ok (.iconst 1, 1) := dk_4 (dk_at dksX1_turn_6 9 rfl rfl)
theorem dX1_turn_149 : decode cX1_turn 149 = .ok (.iadd, 1) := dk_96 (dk_at dksX1_turn_6 10 rfl rfl)
theorem dX1_turn_150 : decode cX1_turn 150 = .ok (.putfield 258, 3) := dk_181 1 2 (dk_at dksX1_turn_6 11 rfl rfl)
theorem dX1_turn_153 : decode cX1_turn 153 = .ok (.aload 5, 2) := dk_25 5 (dk_at dksX1_turn_6 14 rfl rfl)
theorem dX1_turn_155 : decode cX1_turn 155 = .ok (.getfield 314, 3) := dk_180 1 58 (dk_at dksX1_turn_6 16 rfl rfl)
theorem dX1_turn_158 : decode cX1_turn 158 = .ok (.aload 5, 2) := dk_25 5 (dk_at dksX1_turn_6 19 rfl rfl)
theorem dX1_turn_160 : decode cX1_turn 160 = .ok (.getfield 258, 3) := dk_180 1 2 (dk_at dksX1_turn_6 21 rfl rfl)
theorem dX1_turn_163 : decode cX1_turn 163 = .ok (.iconst 1, 1) := dk_4 (dk_at dksX1_turn_7 0 rfl rfl)
theorem dX1_turn_164 : decode cX1_turn 164 = .ok (.isub, 1) := dk_100 (dk_at dksX1_turn_7 1 rfl rfl)
theorem dX1_turn_165 : decode cX1_turn 165 = .ok (.aaload, 1) := dk_50 (dk_at dksX1_turn_7 2 rfl rfl)
theorem dX1_turn_166 : decode cX1_turn 166 = .ok (.aload_n 0, 1) := dk_42 (dk_at dksX1_turn_7 3 rfl rfl)
theorem dX1_turn_167 : decode cX1_turn 167 = .ok (.aload_n 1, 1) := dk_43 (dk_at dksX1_turn_7 4 rfl rfl)
theorem dX1_turn_168 : decode cX1_turn 168 = .ok (.aload_n 2, 1) := dk_44 (dk_at dksX1_turn_7 5 rfl rfl)
theorem dX1_turn_169 : decode cX1_turn 169 = .ok (.invokevirtual 317, 3) := dk_182 1 61 (dk_at dksX1_turn_7 6 rfl rfl)
theorem dX1_turn_172 : decode cX1_turn 172 = .ok (.istore_n 3, 1) := dk_62 (dk_at dksX1_turn_7 9 rfl rfl)
theorem dX1_turn_173 : decode cX1_turn 173 = .ok (.iinc 4 1, 3) := dk_132 4 1 (dk_at dksX1_turn_7 10 rfl rfl)
theorem dX1_turn_176 : decode cX1_turn 176 = .ok (.goto (-142), 3) := dk_167 255 114 (dk_at dksX1_turn_7 13 rfl rfl)
theorem dX1_turn_179 : decode cX1_turn 179 = .ok (.return_, 1) := dk_177 (dk_at dksX1_turn_7 16 rfl rfl)
abbrev cX1_countVisitors : ByteArray := prog_1_method_14_code
def yX1_countVisitors : MethodName := ⟨RX1, "countVisitors", "(LKioskReel$VisitorTest;)I"⟩
def dkwX1_countVisitors_2 : List UInt8 := [167, 0, 4, 3, 96, 61, 167, 255, 217, 28, 172]
abbrev dktX1_countVisitors_2 : List UInt8 := dkwX1_countVisitors_2 ++ []
def dkwX1_countVisitors_1 : List UInt8 := [185, 0, 121, 1, 0, 192, 0, 109, 58, 4, 28, 43, 25, 4, 185, 0, 125, 2, 0, 153, 0, 7, 4]
abbrev dktX1_countVisitors_1 : List UInt8 := dkwX1_countVisitors_1 ++ dktX1_countVisitors_2
def dkwX1_countVisitors_0 : List UInt8 := [3, 61, 42, 180, 0, 69, 185, 0, 111, 1, 0, 78, 45, 185, 0, 115, 1, 0, 153, 0, 36, 45]
abbrev dktX1_countVisitors_0 : List UInt8 := dkwX1_countVisitors_0 ++ dktX1_countVisitors_1
theorem dksX1_countVisitors_0 : cX1_countVisitors.data.toList.drop 0 = dktX1_countVisitors_0 := by decide +kernel
theorem dksX1_countVisitors_1 : cX1_countVisitors.data.toList.drop 22 = dktX1_countVisitors_1 := dk_seg dksX1_countVisitors_0 22 rfl rfl
theorem dksX1_countVisitors_2 : cX1_countVisitors.data.toList.drop 45 = dktX1_countVisitors_2 := dk_seg dksX1_countVisitors_1 23 rfl rfl
theorem dX1_countVisitors_0 : decode cX1_countVisitors 0 = .ok (.iconst 0, 1) := dk_3 (dk_at dksX1_countVisitors_0 0 rfl rfl)
theorem dX1_countVisitors_1 : decode cX1_countVisitors 1 = .ok (.istore_n 2, 1) := dk_61 (dk_at dksX1_countVisitors_0 1 rfl rfl)
theorem dX1_countVisitors_2 : decode cX1_countVisitors 2 = .ok (.aload_n 0, 1) := dk_42 (dk_at dksX1_countVisitors_0 2 rfl rfl)
theorem dX1_countVisitors_3 : decode cX1_countVisitors 3 = .ok (.getfield 69, 3) := dk_180 0 69 (dk_at dksX1_countVisitors_0 3 rfl rfl)
theorem dX1_countVisitors_6 : decode cX1_countVisitors 6 = .ok (.invokeinterface 111 1, 5) := by decide +kernel
theorem dX1_countVisitors_11 : decode cX1_countVisitors 11 = .ok (.astore_n 3, 1) := dk_78 (dk_at dksX1_countVisitors_0 11 rfl rfl)
theorem dX1_countVisitors_12 : decode cX1_countVisitors 12 = .ok (.aload_n 3, 1) := dk_45 (dk_at dksX1_countVisitors_0 12 rfl rfl)
theorem dX1_countVisitors_13 : decode cX1_countVisitors 13 = .ok (.invokeinterface 115 1, 5) := by decide +kernel
theorem dX1_countVisitors_18 : decode cX1_countVisitors 18 = .ok (.ifCond .eq 36, 3) := dk_153 0 36 (dk_at dksX1_countVisitors_0 18 rfl rfl)
theorem dX1_countVisitors_21 : decode cX1_countVisitors 21 = .ok (.aload_n 3, 1) := dk_45 (dk_at dksX1_countVisitors_0 21 rfl rfl)
theorem dX1_countVisitors_22 : decode cX1_countVisitors 22 = .ok (.invokeinterface 121 1, 5) := by decide +kernel
theorem dX1_countVisitors_27 : decode cX1_countVisitors 27 = .ok (.checkcast 109, 3) := dk_192 0 109 (dk_at dksX1_countVisitors_1 5 rfl rfl)
theorem dX1_countVisitors_30 : decode cX1_countVisitors 30 = .ok (.astore 4, 2) := dk_58 4 (dk_at dksX1_countVisitors_1 8 rfl rfl)
theorem dX1_countVisitors_32 : decode cX1_countVisitors 32 = .ok (.iload_n 2, 1) := dk_28 (dk_at dksX1_countVisitors_1 10 rfl rfl)
theorem dX1_countVisitors_33 : decode cX1_countVisitors 33 = .ok (.aload_n 1, 1) := dk_43 (dk_at dksX1_countVisitors_1 11 rfl rfl)
theorem dX1_countVisitors_34 : decode cX1_countVisitors 34 = .ok (.aload 4, 2) := dk_25 4 (dk_at dksX1_countVisitors_1 12 rfl rfl)
theorem dX1_countVisitors_36 : decode cX1_countVisitors 36 = .ok (.invokeinterface 125 2, 5) := by decide +kernel
theorem dX1_countVisitors_41 : decode cX1_countVisitors 41 = .ok (.ifCond .eq 7, 3) := dk_153 0 7 (dk_at dksX1_countVisitors_1 19 rfl rfl)
theorem dX1_countVisitors_44 : decode cX1_countVisitors 44 = .ok (.iconst 1, 1) := dk_4 (dk_at dksX1_countVisitors_1 22 rfl rfl)
theorem dX1_countVisitors_45 : decode cX1_countVisitors 45 = .ok (.goto 4, 3) := dk_167 0 4 (dk_at dksX1_countVisitors_2 0 rfl rfl)
theorem dX1_countVisitors_48 : decode cX1_countVisitors 48 = .ok (.iconst 0, 1) := dk_3 (dk_at dksX1_countVisitors_2 3 rfl rfl)
theorem dX1_countVisitors_49 : decode cX1_countVisitors 49 = .ok (.iadd, 1) := dk_96 (dk_at dksX1_countVisitors_2 4 rfl rfl)
theorem dX1_countVisitors_50 : decode cX1_countVisitors 50 = .ok (.istore_n 2, 1) := dk_61 (dk_at dksX1_countVisitors_2 5 rfl rfl)
theorem dX1_countVisitors_51 : decode cX1_countVisitors 51 = .ok (.goto (-39), 3) := dk_167 255 217 (dk_at dksX1_countVisitors_2 6 rfl rfl)
theorem dX1_countVisitors_54 : decode cX1_countVisitors 54 = .ok (.iload_n 2, 1) := dk_28 (dk_at dksX1_countVisitors_2 9 rfl rfl)
theorem dX1_countVisitors_55 : decode cX1_countVisitors 55 = .ok (.ireturn, 1) := dk_172 (dk_at dksX1_countVisitors_2 10 rfl rfl)
abbrev cX1_show : ByteArray := prog_1_method_35_code
def yX1_show : MethodName := ⟨RX1, "show", "(LKioskReel$Kiosk;I)Z"⟩
def dkwX1_show_4 : List UInt8 := [182, 1, 32, 153, 0, 9, 25, 6, 28, 182, 1, 36, 167, 255, 210, 4, 172]
abbrev dktX1_show_4 : List UInt8 := dkwX1_show_4 ++ []
def dkwX1_show_3 : List UInt8 := [25, 5, 185, 0, 121, 1, 0, 192, 0, 109, 58, 6, 25, 6, 180, 1, 31, 43, 166, 0, 18, 25, 6, 28]
abbrev dktX1_show_3 : List UInt8 := dkwX1_show_3 ++ dktX1_show_4
def dkwX1_show_2 : List UInt8 := [181, 1, 28, 42, 180, 0, 69, 185, 0, 111, 1, 0, 58, 5, 25, 5, 185, 0, 115, 1, 0, 153, 0, 42]
abbrev dktX1_show_2 : List UInt8 := dkwX1_show_2 ++ dktX1_show_3
def dkwX1_show_1 : List UInt8 := [29, 158, 0, 10, 21, 4, 154, 0, 5, 3, 172, 43, 28, 181, 1, 25, 42, 89, 180, 1, 28, 4, 96]
abbrev dktX1_show_1 : List UInt8 := dkwX1_show_1 ++ dktX1_show_2
def dkwX1_show_0 : List UInt8 := [42, 43, 186, 1, 15, 0, 0, 182, 1, 18, 62, 42, 43, 28, 186, 1, 22, 0, 0, 182, 1, 18, 54, 4]
abbrev dktX1_show_0 : List UInt8 := dkwX1_show_0 ++ dktX1_show_1
theorem dksX1_show_0 : cX1_show.data.toList.drop 0 = dktX1_show_0 := by decide +kernel
theorem dksX1_show_1 : cX1_show.data.toList.drop 24 = dktX1_show_1 := dk_seg dksX1_show_0 24 rfl rfl
theorem dksX1_show_2 : cX1_show.data.toList.drop 47 = dktX1_show_2 := dk_seg dksX1_show_1 23 rfl rfl
theorem dksX1_show_3 : cX1_show.data.toList.drop 71 = dktX1_show_3 := dk_seg dksX1_show_2 24 rfl rfl
theorem dksX1_show_4 : cX1_show.data.toList.drop 95 = dktX1_show_4 := dk_seg dksX1_show_3 24 rfl rfl
theorem dX1_show_0 : decode cX1_show 0 = .ok (.aload_n 0, 1) := dk_42 (dk_at dksX1_show_0 0 rfl rfl)
theorem dX1_show_1 : decode cX1_show 1 = .ok (.aload_n 1, 1) := dk_43 (dk_at dksX1_show_0 1 rfl rfl)
theorem dX1_show_2 : decode cX1_show 2 = .ok (.invokedynamic 271, 5) := by decide +kernel
theorem dX1_show_7 : decode cX1_show 7 = .ok (.invokevirtual 274, 3) := dk_182 1 18 (dk_at dksX1_show_0 7 rfl rfl)
theorem dX1_show_10 : decode cX1_show 10 = .ok (.istore_n 3, 1) := dk_62 (dk_at dksX1_show_0 10 rfl rfl)
theorem dX1_show_11 : decode cX1_show 11 = .ok (.aload_n 0, 1) := dk_42 (dk_at dksX1_show_0 11 rfl rfl)
theorem dX1_show_12 : decode cX1_show 12 = .ok (.aload_n 1, 1) := dk_43 (dk_at dksX1_show_0 12 rfl rfl)
theorem dX1_show_13 : decode cX1_show 13 = .ok (.iload_n 2, 1) := dk_28 (dk_at dksX1_show_0 13 rfl rfl)
theorem dX1_show_14 : decode cX1_show 14 = .ok (.invokedynamic 278, 5) := by decide +kernel
theorem dX1_show_19 : decode cX1_show 19 = .ok (.invokevirtual 274, 3) := dk_182 1 18 (dk_at dksX1_show_0 19 rfl rfl)
theorem dX1_show_22 : decode cX1_show 22 = .ok (.istore 4, 2) := dk_54 4 (dk_at dksX1_show_0 22 rfl rfl)
theorem dX1_show_24 : decode cX1_show 24 = .ok (.iload_n 3, 1) := dk_29 (dk_at dksX1_show_1 0 rfl rfl)
theorem dX1_show_25 : decode cX1_show 25 = .ok (.ifCond .le 10, 3) := dk_158 0 10 (dk_at dksX1_show_1 1 rfl rfl)
theorem dX1_show_28 : decode cX1_show 28 = .ok (.iload 4, 2) := dk_21 4 (dk_at dksX1_show_1 4 rfl rfl)
theorem dX1_show_30 : decode cX1_show 30 = .ok (.ifCond .ne 5, 3) := dk_154 0 5 (dk_at dksX1_show_1 6 rfl rfl)
theorem dX1_show_33 : decode cX1_show 33 = .ok (.iconst 0, 1) := dk_3 (dk_at dksX1_show_1 9 rfl rfl)
theorem dX1_show_34 : decode cX1_show 34 = .ok (.ireturn, 1) := dk_172 (dk_at dksX1_show_1 10 rfl rfl)
theorem dX1_show_35 : decode cX1_show 35 = .ok (.aload_n 1, 1) := dk_43 (dk_at dksX1_show_1 11 rfl rfl)
theorem dX1_show_36 : decode cX1_show 36 = .ok (.iload_n 2, 1) := dk_28 (dk_at dksX1_show_1 12 rfl rfl)
theorem dX1_show_37 : decode cX1_show 37 = .ok (.putfield 281, 3) := dk_181 1 25 (dk_at dksX1_show_1 13 rfl rfl)
theorem dX1_show_40 : decode cX1_show 40 = .ok (.aload_n 0, 1) := dk_42 (dk_at dksX1_show_1 16 rfl rfl)
theorem dX1_show_41 : decode cX1_show 41 = .ok (.dup, 1) := dk_89 (dk_at dksX1_show_1 17 rfl rfl)
theorem dX1_show_42 : decode cX1_show 42 = .ok (.getfield 284, 3) := dk_180 1 28 (dk_at dksX1_show_1 18 rfl rfl)
theorem dX1_show_45 : decode cX1_show 45 = .ok (.iconst 1, 1) := dk_4 (dk_at dksX1_show_1 21 rfl rfl)
theorem dX1_show_46 : decode cX1_show 46 = .ok (.iadd, 1) := dk_96 (dk_at dksX1_show_1 22 rfl rfl)
theorem dX1_show_47 : decode cX1_show 47 = .ok (.putfield 284, 3) := dk_181 1 28 (dk_at dksX1_show_2 0 rfl rfl)
theorem dX1_show_50 : decode cX1_show 50 = .ok (.aload_n 0, 1) := dk_42 (dk_at dksX1_show_2 3 rfl rfl)
theorem dX1_show_51 : decode cX1_show 51 = .ok (.getfield 69, 3) := dk_180 0 69 (dk_at dksX1_show_2 4 rfl rfl)
theorem dX1_show_54 : decode cX1_show 54 = .ok (.invokeinterface 111 1, 5) := by decide +kernel
theorem dX1_show_59 : decode cX1_show 59 = .ok (.astore 5, 2) := dk_58 5 (dk_at dksX1_show_2 12 rfl rfl)
theorem dX1_show_61 : decode cX1_show 61 = .ok (.aload 5, 2) := dk_25 5 (dk_at dksX1_show_2 14 rfl rfl)
theorem dX1_show_63 : decode cX1_show 63 = .ok (.invokeinterface 115 1, 5) := by decide +kernel
theorem dX1_show_68 : decode cX1_show 68 = .ok (.ifCond .eq 42, 3) := dk_153 0 42 (dk_at dksX1_show_2 21 rfl rfl)
theorem dX1_show_71 : decode cX1_show 71 = .ok (.aload 5, 2) := dk_25 5 (dk_at dksX1_show_3 0 rfl rfl)
theorem dX1_show_73 : decode cX1_show 73 = .ok (.invokeinterface 121 1, 5) := by decide +kernel
theorem dX1_show_78 : decode cX1_show 78 = .ok (.checkcast 109, 3) := dk_192 0 109 (dk_at dksX1_show_3 7 rfl rfl)
theorem dX1_show_81 : decode cX1_show 81 = .ok (.astore 6, 2) := dk_58 6 (dk_at dksX1_show_3 10 rfl rfl)
theorem dX1_show_83 : decode cX1_show 83 = .ok (.aload 6, 2) := dk_25 6 (dk_at dksX1_show_3 12 rfl rfl)
theorem dX1_show_85 : decode cX1_show 85 = .ok (.getfield 287, 3) := dk_180 1 31 (dk_at dksX1_show_3 14 rfl rfl)
theorem dX1_show_88 : decode cX1_show 88 = .ok (.aload_n 1, 1) := dk_43 (dk_at dksX1_show_3 17 rfl rfl)
theorem dX1_show_89 : decode cX1_show 89 = .ok (.if_acmp .ne 18, 3) := dk_166 0 18 (dk_at dksX1_show_3 18 rfl rfl)
theorem dX1_show_92 : decode cX1_show 92 = .ok (.aload 6, 2) := dk_25 6 (dk_at dksX1_show_3 21 rfl rfl)
theorem dX1_show_94 : decode cX1_show 94 = .ok (.iload_n 2, 1) := dk_28 (dk_at dksX1_show_3 23 rfl rfl)
theorem dX1_show_95 : decode cX1_show 95 = .ok (.invokevirtual 288, 3) := dk_182 1 32 (dk_at dksX1_show_4 0 rfl rfl)
theorem dX1_show_98 : decode cX1_show 98 = .ok (.ifCond .eq 9, 3) := dk_153 0 9 (dk_at dksX1_show_4 3 rfl rfl)
theorem dX1_show_101 : decode cX1_show 101 = .ok (.aload 6, 2) := dk_25 6 (dk_at dksX1_show_4 6 rfl rfl)
theorem dX1_show_103 : decode cX1_show 103 = .ok (.iload_n 2, 1) := dk_28 (dk_at dksX1_show_4 8 rfl rfl)
theorem dX1_show_104 : decode cX1_show 104 = .ok (.invokevirtual 292, 3) := dk_182 1 36 (dk_at dksX1_show_4 9 rfl rfl)
theorem dX1_show_107 : decode cX1_show 107 = .ok (.goto (-46), 3) := dk_167 255 210 (dk_at dksX1_show_4 12 rfl rfl)
theorem dX1_show_110 : decode cX1_show 110 = .ok (.iconst 1, 1) := dk_4 (dk_at dksX1_show_4 15 rfl rfl)
theorem dX1_show_111 : decode cX1_show 111 = .ok (.ireturn, 1) := dk_172 (dk_at dksX1_show_4 16 rfl rfl)
abbrev cX1_lambda_show_1 : ByteArray := prog_1_method_59_code
def yX1_lambda_show_1 : MethodName := ⟨RX1, "lambda$show$1", "(LKioskReel$Kiosk;LKioskReel$Visitor;)Z"⟩
def dkwX1_lambda_show_1_0 : List UInt8 := [43, 180, 1, 31, 42, 166, 0, 7, 4, 167, 0, 4, 3, 172]
abbrev dktX1_lambda_show_1_0 : List UInt8 := dkwX1_lambda_show_1_0 ++ []
theorem dksX1_lambda_show_1_0 : cX1_lambda_show_1.data.toList.drop 0 = dktX1_lambda_show_1_0 := by decide +kernel
theorem dX1_lambda_show_1_0 : decode cX1_lambda_show_1 0 = .ok (.aload_n 1, 1) := dk_43 (dk_at dksX1_lambda_show_1_0 0 rfl rfl)
theorem dX1_lambda_show_1_1 : decode cX1_lambda_show_1 1 = .ok (.getfield 287, 3) := dk_180 1 31 (dk_at dksX1_lambda_show_1_0 1 rfl rfl)
theorem dX1_lambda_show_1_4 : decode cX1_lambda_show_1 4 = .ok (.aload_n 0, 1) := dk_42 (dk_at dksX1_lambda_show_1_0 4 rfl rfl)
theorem dX1_lambda_show_1_5 : decode cX1_lambda_show_1 5 = .ok (.if_acmp .ne 7, 3) := dk_166 0 7 (dk_at dksX1_lambda_show_1_0 5 rfl rfl)
theorem dX1_lambda_show_1_8 : decode cX1_lambda_show_1 8 = .ok (.iconst 1, 1) := dk_4 (dk_at dksX1_lambda_show_1_0 8 rfl rfl)
theorem dX1_lambda_show_1_9 : decode cX1_lambda_show_1 9 = .ok (.goto 4, 3) := dk_167 0 4 (dk_at dksX1_lambda_show_1_0 9 rfl rfl)
theorem dX1_lambda_show_1_12 : decode cX1_lambda_show_1 12 = .ok (.iconst 0, 1) := dk_3 (dk_at dksX1_lambda_show_1_0 12 rfl rfl)
theorem dX1_lambda_show_1_13 : decode cX1_lambda_show_1 13 = .ok (.ireturn, 1) := dk_172 (dk_at dksX1_lambda_show_1_0 13 rfl rfl)
abbrev cX1_lambda_show_2 : ByteArray := prog_1_method_58_code
def yX1_lambda_show_2 : MethodName := ⟨RX1, "lambda$show$2", "(LKioskReel$Kiosk;ILKioskReel$Visitor;)Z"⟩
def dkwX1_lambda_show_2_0 : List UInt8 := [44, 180, 1, 31, 42, 166, 0, 15, 44, 27, 182, 1, 32, 153, 0, 7, 4, 167, 0, 4, 3, 172]
abbrev dktX1_lambda_show_2_0 : List UInt8 := dkwX1_lambda_show_2_0 ++ []
theorem dksX1_lambda_show_2_0 : cX1_lambda_show_2.data.toList.drop 0 = dktX1_lambda_show_2_0 := by decide +kernel
theorem dX1_lambda_show_2_0 : decode cX1_lambda_show_2 0 = .ok (.aload_n 2, 1) := dk_44 (dk_at dksX1_lambda_show_2_0 0 rfl rfl)
theorem dX1_lambda_show_2_1 : decode cX1_lambda_show_2 1 = .ok (.getfield 287, 3) := dk_180 1 31 (dk_at dksX1_lambda_show_2_0 1 rfl rfl)
theorem dX1_lambda_show_2_4 : decode cX1_lambda_show_2 4 = .ok (.aload_n 0, 1) := dk_42 (dk_at dksX1_lambda_show_2_0 4 rfl rfl)
theorem dX1_lambda_show_2_5 : decode cX1_lambda_show_2 5 = .ok (.if_acmp .ne 15, 3) := dk_166 0 15 (dk_at dksX1_lambda_show_2_0 5 rfl rfl)
theorem dX1_lambda_show_2_8 : decode cX1_lambda_show_2 8 = .ok (.aload_n 2, 1) := dk_44 (dk_at dksX1_lambda_show_2_0 8 rfl rfl)
theorem dX1_lambda_show_2_9 : decode cX1_lambda_show_2 9 = .ok (.iload_n 1, 1) := dk_27 (dk_at dksX1_lambda_show_2_0 9 rfl rfl)
theorem dX1_lambda_show_2_10 : decode cX1_lambda_show_2 10 = .ok (.invokevirtual 288, 3) := dk_182 1 32 (dk_at dksX1_lambda_show_2_0 10 rfl rfl)
theorem dX1_lambda_show_2_13 : decode cX1_lambda_show_2 13 = .ok (.ifCond .eq 7, 3) := dk_153 0 7 (dk_at dksX1_lambda_show_2_0 13 rfl rfl)
theorem dX1_lambda_show_2_16 : decode cX1_lambda_show_2 16 = .ok (.iconst 1, 1) := dk_4 (dk_at dksX1_lambda_show_2_0 16 rfl rfl)
theorem dX1_lambda_show_2_17 : decode cX1_lambda_show_2 17 = .ok (.goto 4, 3) := dk_167 0 4 (dk_at dksX1_lambda_show_2_0 17 rfl rfl)
theorem dX1_lambda_show_2_20 : decode cX1_lambda_show_2 20 = .ok (.iconst 0, 1) := dk_3 (dk_at dksX1_lambda_show_2_0 20 rfl rfl)
theorem dX1_lambda_show_2_21 : decode cX1_lambda_show_2 21 = .ok (.ireturn, 1) := dk_172 (dk_at dksX1_lambda_show_2_0 21 rfl rfl)
abbrev cX1_take : ByteArray := prog_1_method_36_code
def yX1_take : MethodName := ⟨RX1, "take", "(LKioskReel$Player;LKioskReel$Device;)V"⟩
def dkwX1_take_2 : List UInt8 := [44, 180, 0, 233, 43, 185, 0, 75, 2, 0, 87, 43, 4, 181, 1, 9, 177]
abbrev dktX1_take_2 : List UInt8 := dkwX1_take_2 ++ []
def dkwX1_take_1 : List UInt8 := [43, 165, 0, 7, 29, 153, 0, 4, 177, 44, 180, 0, 236, 199, 0, 11, 44, 43, 181, 0, 236, 167, 0, 19]
abbrev dktX1_take_1 : List UInt8 := dkwX1_take_1 ++ dktX1_take_2
def dkwX1_take_0 : List UInt8 := [42, 43, 186, 1, 39, 0, 0, 182, 0, 229, 6, 160, 0, 7, 4, 167, 0, 4, 3, 62, 44, 180, 0, 236]
abbrev dktX1_take_0 : List UInt8 := dkwX1_take_0 ++ dktX1_take_1
theorem dksX1_take_0 : cX1_take.data.toList.drop 0 = dktX1_take_0 := by decide +kernel
theorem dksX1_take_1 : cX1_take.data.toList.drop 24 = dktX1_take_1 := dk_seg dksX1_take_0 24 rfl rfl
theorem dksX1_take_2 : cX1_take.data.toList.drop 48 = dktX1_take_2 := dk_seg dksX1_take_1 24 rfl rfl
theorem dX1_take_0 : decode cX1_take 0 = .ok (.aload_n 0, 1) := dk_42 (dk_at dksX1_take_0 0 rfl rfl)
theorem dX1_take_1 : decode cX1_take 1 = .ok (.aload_n 1, 1) := dk_43 (dk_at dksX1_take_0 1 rfl rfl)
theorem dX1_take_2 : decode cX1_take 2 = .ok (.invokedynamic 295, 5) := by decide +kernel
theorem dX1_take_7 : decode cX1_take 7 = .ok (.invokevirtual 229, 3) := dk_182 0 229 (dk_at dksX1_take_0 7 rfl rfl)
theorem dX1_take_10 : decode cX1_take 10 = .ok (.iconst 3, 1) := dk_6 (dk_at dksX1_take_0 10 rfl rfl)
theorem dX1_take_11 : decode cX1_take 11 = .ok (.if_icmp .ne 7, 3) := dk_160 0 7 (dk_at dksX1_take_0 11 rfl rfl)
theorem dX1_take_14 : decode cX1_take 14 = .ok (.iconst 1, 1) := dk_4 (dk_at dksX1_take_0 14 rfl rfl)
theorem dX1_take_15 : decode cX1_take 15 = .ok (.goto 4, 3) := dk_167 0 4 (dk_at dksX1_take_0 15 rfl rfl)
theorem dX1_take_18 : decode cX1_take 18 = .ok (.iconst 0, 1) := dk_3 (dk_at dksX1_take_0 18 rfl rfl)
theorem dX1_take_19 : decode cX1_take 19 = .ok (.istore_n 3, 1) := dk_62 (dk_at dksX1_take_0 19 rfl rfl)
theorem dX1_take_20 : decode cX1_take 20 = .ok (.aload_n 2, 1) := dk_44 (dk_at dksX1_take_0 20 rfl rfl)
theorem dX1_take_21 : decode cX1_take 21 = .ok (.getfield 236, 3) := dk_180 0 236 (dk_at dksX1_take_0 21 rfl rfl)
theorem dX1_take_24 : decode cX1_take 24 = .ok (.aload_n 1, 1) := dk_43 (dk_at dksX1_take_1 0 rfl rfl)
theorem dX1_take_25 : decode cX1_take 25 = .ok (.if_acmp .eq 7, 3) := dk_165 0 7 (dk_at dksX1_take_1 1 rfl rfl)
theorem dX1_take_28 : decode cX1_take 28 = .ok (.iload_n 3, 1) := dk_29 (dk_at dksX1_take_1 4 rfl rfl)
theorem dX1_take_29 : decode cX1_take 29 = .ok (.ifCond .eq 4, 3) := dk_153 0 4 (dk_at dksX1_take_1 5 rfl rfl)
theorem dX1_take_32 : decode cX1_take 32 = .ok (.return_, 1) := dk_177 (dk_at dksX1_take_1 8 rfl rfl)
theorem dX1_take_33 : decode cX1_take 33 = .ok (.aload_n 2, 1) := dk_44 (dk_at dksX1_take_1 9 rfl rfl)
theorem dX1_take_34 : decode cX1_take 34 = .ok (.getfield 236, 3) := dk_180 0 236 (dk_at dksX1_take_1 10 rfl rfl)
theorem dX1_take_37 : decode cX1_take 37 = .ok (.ifnonnull 11, 3) := dk_199 0 11 (dk_at dksX1_take_1 13 rfl rfl)
theorem dX1_take_40 : decode cX1_take 40 = .ok (.aload_n 2, 1) := dk_44 (dk_at dksX1_take_1 16 rfl rfl)
theorem dX1_take_41 : decode cX1_take 41 = .ok (.aload_n 1, 1) := dk_43 (dk_at dksX1_take_1 17 rfl rfl)
theorem dX1_take_42 : decode cX1_take 42 = .ok (.putfield 236, 3) := dk_181 0 236 (dk_at dksX1_take_1 18 rfl rfl)
theorem dX1_take_45 : decode cX1_take 45 = .ok (.goto 19, 3) := dk_167 0 19 (dk_at dksX1_take_1 21 rfl rfl)
theorem dX1_take_48 : decode cX1_take 48 = .ok (.aload_n 2, 1) := dk_44 (dk_at dksX1_take_2 0 rfl rfl)
theorem dX1_take_49 : decode cX1_take 49 = .ok (.getfield 233, 3) := dk_180 0 233 (dk_at dksX1_take_2 1 rfl rfl)
theorem dX1_take_52 : decode cX1_take 52 = .ok (.aload_n 1, 1) := dk_43 (dk_at dksX1_take_2 4 rfl rfl)
theorem dX1_take_53 : decode cX1_take 53 = .ok (.invokeinterface 75 2, 5) := by decide +kernel
theorem dX1_take_58 : decode cX1_take 58 = .ok (.pop, 1) := dk_87 (dk_at dksX1_take_2 10 rfl rfl)
theorem dX1_take_59 : decode cX1_take 59 = .ok (.aload_n 1, 1) := dk_43 (dk_at dksX1_take_2 11 rfl rfl)
theorem dX1_take_60 : decode cX1_take 60 = .ok (.iconst 1, 1) := dk_4 (dk_at dksX1_take_2 12 rfl rfl)
theorem dX1_take_61 : decode cX1_take 61 = .ok (.putfield 265, 3) := dk_181 1 9 (dk_at dksX1_take_2 13 rfl rfl)
theorem dX1_take_64 : decode cX1_take 64 = .ok (.return_, 1) := dk_177 (dk_at dksX1_take_2 16 rfl rfl)
abbrev cX1_lambda_take_3 : ByteArray := prog_1_method_57_code
def yX1_lambda_take_3 : MethodName := ⟨RX1, "lambda$take$3", "(LKioskReel$Player;LKioskReel$Device;)Z"⟩
def dkwX1_lambda_take_3_0 : List UInt8 := [43, 180, 0, 236, 42, 166, 0, 7, 4, 167, 0, 4, 3, 172]
abbrev dktX1_lambda_take_3_0 : List UInt8 := dkwX1_lambda_take_3_0 ++ []
theorem dksX1_lambda_take_3_0 : cX1_lambda_take_3.data.toList.drop 0 = dktX1_lambda_take_3_0 := by decide +kernel
theorem dX1_lambda_take_3_0 : decode cX1_lambda_take_3 0 = .ok (.aload_n 1, 1) := dk_43 (dk_at dksX1_lambda_take_3_0 0 rfl rfl)
theorem dX1_lambda_take_3_1 : decode cX1_lambda_take_3 1 = .ok (.getfield 236, 3) := dk_180 0 236 (dk_at dksX1_lambda_take_3_0 1 rfl rfl)
theorem dX1_lambda_take_3_4 : decode cX1_lambda_take_3 4 = .ok (.aload_n 0, 1) := dk_42 (dk_at dksX1_lambda_take_3_0 4 rfl rfl)
theorem dX1_lambda_take_3_5 : decode cX1_lambda_take_3 5 = .ok (.if_acmp .ne 7, 3) := dk_166 0 7 (dk_at dksX1_lambda_take_3_0 5 rfl rfl)
theorem dX1_lambda_take_3_8 : decode cX1_lambda_take_3 8 = .ok (.iconst 1, 1) := dk_4 (dk_at dksX1_lambda_take_3_0 8 rfl rfl)
theorem dX1_lambda_take_3_9 : decode cX1_lambda_take_3 9 = .ok (.goto 4, 3) := dk_167 0 4 (dk_at dksX1_lambda_take_3_0 9 rfl rfl)
theorem dX1_lambda_take_3_12 : decode cX1_lambda_take_3 12 = .ok (.iconst 0, 1) := dk_3 (dk_at dksX1_lambda_take_3_0 12 rfl rfl)
theorem dX1_lambda_take_3_13 : decode cX1_lambda_take_3 13 = .ok (.ireturn, 1) := dk_172 (dk_at dksX1_lambda_take_3_0 13 rfl rfl)
abbrev cX1_watch : ByteArray := prog_1_method_38_code
def yX1_watch : MethodName := ⟨RX1, "watch", "()V"⟩
def dkwX1_watch_6 : List UInt8 := [182, 0, 206, 167, 255, 220, 167, 255, 128, 177]
abbrev dktX1_watch_6 : List UInt8 := dkwX1_watch_6 ++ []
def dkwX1_watch_5 : List UInt8 := [25, 4, 185, 0, 121, 1, 0, 192, 0, 191, 58, 5, 42, 25, 5, 42, 44, 180, 0, 210, 182, 0, 203]
abbrev dktX1_watch_5 : List UInt8 := dkwX1_watch_5 ++ dktX1_watch_6
def dkwX1_watch_4 : List UInt8 := [185, 1, 68, 1, 0, 45, 185, 0, 111, 1, 0, 58, 4, 25, 4, 185, 0, 115, 1, 0, 153, 0, 32]
abbrev dktX1_watch_4 : List UInt8 := dkwX1_watch_4 ++ dktX1_watch_5
def dkwX1_watch_3 : List UInt8 := [4, 181, 0, 186, 187, 0, 56, 89, 44, 180, 0, 214, 183, 1, 65, 78, 44, 180, 0, 214]
abbrev dktX1_watch_3 : List UInt8 := dkwX1_watch_3 ++ dktX1_watch_4
def dkwX1_watch_2 : List UInt8 := [167, 0, 4, 3, 96, 181, 0, 245, 44, 180, 0, 245, 8, 161, 0, 83, 44, 180, 0, 186, 154, 0, 76, 44]
abbrev dktX1_watch_2 : List UInt8 := dkwX1_watch_2 ++ dktX1_watch_3
def dkwX1_watch_1 : List UInt8 := [185, 0, 121, 1, 0, 192, 0, 95, 77, 44, 89, 180, 0, 245, 44, 180, 0, 242, 153, 0, 7, 4]
abbrev dktX1_watch_1 : List UInt8 := dkwX1_watch_1 ++ dktX1_watch_2
def dkwX1_watch_0 : List UInt8 := [42, 180, 0, 63, 185, 0, 111, 1, 0, 76, 43, 185, 0, 115, 1, 0, 153, 0, 125, 43]
abbrev dktX1_watch_0 : List UInt8 := dkwX1_watch_0 ++ dktX1_watch_1
theorem dksX1_watch_0 : cX1_watch.data.toList.drop 0 = dktX1_watch_0 := by decide +kernel
theorem dksX1_watch_1 : cX1_watch.data.toList.drop 20 = dktX1_watch_1 := dk_seg dksX1_watch_0 20 rfl rfl
theorem dksX1_watch_2 : cX1_watch.data.toList.drop 42 = dktX1_watch_2 := dk_seg dksX1_watch_1 22 rfl rfl
theorem dksX1_watch_3 : cX1_watch.data.toList.drop 66 = dktX1_watch_3 := dk_seg dksX1_watch_2 24 rfl rfl
theorem dksX1_watch_4 : cX1_watch.data.toList.drop 86 = dktX1_watch_4 := dk_seg dksX1_watch_3 20 rfl rfl
theorem dksX1_watch_5 : cX1_watch.data.toList.drop 109 = dktX1_watch_5 := dk_seg dksX1_watch_4 23 rfl rfl
theorem dksX1_watch_6 : cX1_watch.data.toList.drop 132 = dktX1_watch_6 := dk_seg dksX1_watch_5 23 rfl rfl
theorem dX1_watch_0 : decode cX1_watch 0 = .ok (.aload_n 0, 1) := dk_42 (dk_at dksX1_watch_0 0 rfl rfl)
theorem dX1_watch_1 : decode cX1_watch 1 = .ok (.getfield 63, 3) := dk_180 0 63 (dk_at dksX1_watch_0 1 rfl rfl)
theorem dX1_watch_4 : decode cX1_watch 4 = .ok (.invokeinterface 111 1, 5) := by decide +kernel
theorem dX1_watch_9 : decode cX1_watch 9 = .ok (.astore_n 1, 1) := dk_76 (dk_at dksX1_watch_0 9 rfl rfl)
theorem dX1_watch_10 : decode cX1_watch 10 = .ok (.aload_n 1, 1) := dk_43 (dk_at dksX1_watch_0 10 rfl rfl)
theorem dX1_watch_11 : decode cX1_watch 11 = .ok (.invokeinterface 115 1, 5) := by decide +kernel
theorem dX1_watch_16 : decode cX1_watch 16 = .ok (.ifCond .eq 125, 3) := dk_153 0 125 (dk_at dksX1_watch_0 16 rfl rfl)
theorem dX1_watch_19 : decode cX1_watch 19 = .ok (.aload_n 1, 1) := dk_43 (dk_at dksX1_watch_0 19 rfl rfl)
theorem dX1_watch_20 : decode cX1_watch 20 = .ok (.invokeinterface 121 1, 5) := by decide +kernel
theorem dX1_watch_25 : decode cX1_watch 25 = .ok (.checkcast 95, 3) := dk_192 0 95 (dk_at dksX1_watch_1 5 rfl rfl)
theorem dX1_watch_28 : decode cX1_watch 28 = .ok (.astore_n 2, 1) := dk_77 (dk_at dksX1_watch_1 8 rfl rfl)
theorem dX1_watch_29 : decode cX1_watch 29 = .ok (.aload_n 2, 1) := dk_44 (dk_at dksX1_watch_1 9 rfl rfl)
theorem dX1_watch_30 : decode cX1_watch 30 = .ok (.dup, 1) := dk_89 (dk_at dksX1_watch_1 10 rfl rfl)
theorem dX1_watch_31 : decode cX1_watch 31 = .ok (.getfield 245, 3) := dk_180 0 245 (dk_at dksX1_watch_1 11 rfl rfl)
theorem dX1_watch_34 : decode cX1_watch 34 = .ok (.aload_n 2, 1) := dk_44 (dk_at dksX1_watch_1 14 rfl rfl)
theorem dX1_watch_35 : decode cX1_watch 35 = .ok (.getfield 242, 3) := dk_180 0 242 (dk_at dksX1_watch_1 15 rfl rfl)
theorem dX1_watch_38 : decode cX1_watch 38 = .ok (.ifCond .eq 7, 3) := dk_153 0 7 (dk_at dksX1_watch_1 18 rfl rfl)
theorem dX1_watch_41 : decode cX1_watch 41 = .ok (.iconst 1, 1) := dk_4 (dk_at dksX1_watch_1 21 rfl rfl)
theorem dX1_watch_42 : decode cX1_watch 42 = .ok (.goto 4, 3) := dk_167 0 4 (dk_at dksX1_watch_2 0 rfl rfl)
theorem dX1_watch_45 : decode cX1_watch 45 = .ok (.iconst 0, 1) := dk_3 (dk_at dksX1_watch_2 3 rfl rfl)
theorem dX1_watch_46 : decode cX1_watch 46 = .ok (.iadd, 1) := dk_96 (dk_at dksX1_watch_2 4 rfl rfl)
theorem dX1_watch_47 : decode cX1_watch 47 = .ok (.putfield 245, 3) := dk_181 0 245 (dk_at dksX1_watch_2 5 rfl rfl)
theorem dX1_watch_50 : decode cX1_watch 50 = .ok (.aload_n 2, 1) := dk_44 (dk_at dksX1_watch_2 8 rfl rfl)
theorem dX1_watch_51 : decode cX1_watch 51 = .ok (.getfield 245, 3) := dk_180 0 245 (dk_at dksX1_watch_2 9 rfl rfl)
theorem dX1_watch_54 : decode cX1_watch 54 = .ok (.iconst 5, 1) := dk_8 (dk_at dksX1_watch_2 12 rfl rfl)
theorem dX1_watch_55 : decode cX1_watch 55 = .ok (.if_icmp .lt 83, 3) := dk_161 0 83 (dk_at dksX1_watch_2 13 rfl rfl)
theorem dX1_watch_58 : decode cX1_watch 58 = .ok (.aload_n 2, 1) := dk_44 (dk_at dksX1_watch_2 16 rfl rfl)
theorem dX1_watch_59 : decode cX1_watch 59 = .ok (.getfield 186, 3) := dk_180 0 186 (dk_at dksX1_watch_2 17 rfl rfl)
theorem dX1_watch_62 : decode cX1_watch 62 = .ok (.ifCond .ne 76, 3) := dk_154 0 76 (dk_at dksX1_watch_2 20 rfl rfl)
theorem dX1_watch_65 : decode cX1_watch 65 = .ok (.aload_n 2, 1) := dk_44 (dk_at dksX1_watch_2 23 rfl rfl)
theorem dX1_watch_66 : decode cX1_watch 66 = .ok (.iconst 1, 1) := dk_4 (dk_at dksX1_watch_3 0 rfl rfl)
theorem dX1_watch_67 : decode cX1_watch 67 = .ok (.putfield 186, 3) := dk_181 0 186 (dk_at dksX1_watch_3 1 rfl rfl)
theorem dX1_watch_70 : decode cX1_watch 70 = .ok (.new 56, 3) := dk_187 0 56 (dk_at dksX1_watch_3 4 rfl rfl)
theorem dX1_watch_73 : decode cX1_watch 73 = .ok (.dup, 1) := dk_89 (dk_at dksX1_watch_3 7 rfl rfl)
theorem dX1_watch_74 : decode cX1_watch 74 = .ok (.aload_n 2, 1) := dk_44 (dk_at dksX1_watch_3 8 rfl rfl)
theorem dX1_watch_75 : decode cX1_watch 75 = .ok (.getfield 214, 3) := dk_180 0 214 (dk_at dksX1_watch_3 9 rfl rfl)
theorem dX1_watch_78 : decode cX1_watch 78 = .ok (.invokespecial 321, 3) := dk_183 1 65 (dk_at dksX1_watch_3 12 rfl rfl)
theorem dX1_watch_81 : decode cX1_watch 81 = .ok (.astore_n 3, 1) := dk_78 (dk_at dksX1_watch_3 15 rfl rfl)
theorem dX1_watch_82 : decode cX1_watch 82 = .ok (.aload_n 2, 1) := dk_44 (dk_at dksX1_watch_3 16 rfl rfl)
theorem dX1_watch_83 : decode cX1_watch 83 = .ok (.getfield 214, 3) := dk_180 0 214 (dk_at dksX1_watch_3 17 rfl rfl)
theorem dX1_watch_86 : decode cX1_watch 86 = .ok (.invokeinterface 324 1, 5) := by decide +kernel
theorem dX1_watch_91 : decode cX1_watch 91 = .ok (.aload_n 3, 1) := dk_45 (dk_at dksX1_watch_4 5 rfl rfl)
theorem dX1_watch_92 : decode cX1_watch 92 = .ok (.invokeinterface 111 1, 5) := by decide +kernel
theorem dX1_watch_97 : decode cX1_watch 97 = .ok (.astore 4, 2) := dk_58 4 (dk_at dksX1_watch_4 11 rfl rfl)
theorem dX1_watch_99 : decode cX1_watch 99 = .ok (.aload 4, 2) := dk_25 4 (dk_at dksX1_watch_4 13 rfl rfl)
theorem dX1_watch_101 : decode cX1_watch 101 = .ok (.invokeinterface 115 1, 5) := by decide +kernel
theorem dX1_watch_106 : decode cX1_watch 106 = .ok (.ifCond .eq 32, 3) := dk_153 0 32 (dk_at dksX1_watch_4 20 rfl rfl)
theorem dX1_watch_109 : decode cX1_watch 109 = .ok (.aload 4, 2) := dk_25 4 (dk_at dksX1_watch_5 0 rfl rfl)
theorem dX1_watch_111 : decode cX1_watch 111 = .ok (.invokeinterface 121 1, 5) := by decide +kernel
theorem dX1_watch_116 : decode cX1_watch 116 = .ok (.checkcast 191, 3) := dk_192 0 191 (dk_at dksX1_watch_5 7 rfl rfl)
theorem dX1_watch_119 : decode cX1_watch 119 = .ok (.astore 5, 2) := dk_58 5 (dk_at dksX1_watch_5 10 rfl rfl)
theorem dX1_watch_121 : decode cX1_watch 121 = .ok (.aload_n 0, 1) := dk_42 (dk_at dksX1_watch_5 12 rfl rfl)
theorem dX1_watch_122 : decode cX1_watch 122 = .ok (.aload 5, 2) := dk_25 5 (dk_at dksX1_watch_5 13 rfl rfl)
theorem dX1_watch_124 : decode cX1_watch 124 = .ok (.aload_n 0, 1) := dk_42 (dk_at dksX1_watch_5 15 rfl rfl)
theorem dX1_watch_125 : decode cX1_watch 125 = .ok (.aload_n 2, 1) := dk_44 (dk_at dksX1_watch_5 16 rfl rfl)
theorem dX1_watch_126 : decode cX1_watch 126 = .ok (.getfield 210, 3) := dk_180 0 210 (dk_at dksX1_watch_5 17 rfl rfl)
theorem dX1_watch_129 : decode cX1_watch 129 = .ok (.invokevirtual 203, 3) := dk_182 0 203 (dk_at dksX1_watch_5 20 rfl rfl)
theorem dX1_watch_132 : decode cX1_watch 132 = .ok (.invokevirtual 206, 3) := dk_182 0 206 (dk_at dksX1_watch_6 0 rfl rfl)
theorem dX1_watch_135 : decode cX1_watch 135 = .ok (.goto (-36), 3) := dk_167 255 220 (dk_at dksX1_watch_6 3 rfl rfl)
theorem dX1_watch_138 : decode cX1_watch 138 = .ok (.goto (-128), 3) := dk_167 255 128 (dk_at dksX1_watch_6 6 rfl rfl)
theorem dX1_watch_141 : decode cX1_watch 141 = .ok (.return_, 1) := dk_177 (dk_at dksX1_watch_6 9 rfl rfl)
abbrev cX1_slide : ByteArray := prog_1_method_40_code
def yX1_slide : MethodName := ⟨RX1, "slide", "(I)I"⟩
def dkwX1_slide_1 : List UInt8 := [180, 1, 25, 172]
abbrev dktX1_slide_1 : List UInt8 := dkwX1_slide_1 ++ []
def dkwX1_slide_0 : List UInt8 := [42, 27, 182, 0, 97, 77, 44, 180, 1, 25, 2, 159, 0, 7, 4, 167, 0, 4, 3, 184, 0, 105, 44]
abbrev dktX1_slide_0 : List UInt8 := dkwX1_slide_0 ++ dktX1_slide_1
theorem dksX1_slide_0 : cX1_slide.data.toList.drop 0 = dktX1_slide_0 := by decide +kernel
theorem dksX1_slide_1 : cX1_slide.data.toList.drop 23 = dktX1_slide_1 := dk_seg dksX1_slide_0 23 rfl rfl
theorem dX1_slide_0 : decode cX1_slide 0 = .ok (.aload_n 0, 1) := dk_42 (dk_at dksX1_slide_0 0 rfl rfl)
theorem dX1_slide_1 : decode cX1_slide 1 = .ok (.iload_n 1, 1) := dk_27 (dk_at dksX1_slide_0 1 rfl rfl)
theorem dX1_slide_2 : decode cX1_slide 2 = .ok (.invokevirtual 97, 3) := dk_182 0 97 (dk_at dksX1_slide_0 2 rfl rfl)
theorem dX1_slide_5 : decode cX1_slide 5 = .ok (.astore_n 2, 1) := dk_77 (dk_at dksX1_slide_0 5 rfl rfl)
theorem dX1_slide_6 : decode cX1_slide 6 = .ok (.aload_n 2, 1) := dk_44 (dk_at dksX1_slide_0 6 rfl rfl)
theorem dX1_slide_7 : decode cX1_slide 7 = .ok (.getfield 281, 3) := dk_180 1 25 (dk_at dksX1_slide_0 7 rfl rfl)
theorem dX1_slide_10 : decode cX1_slide 10 = .ok (.iconst (-1), 1) := dk_2 (dk_at dksX1_slide_0 10 rfl rfl)
theorem dX1_slide_11 : decode cX1_slide 11 = .ok (.if_icmp .eq 7, 3) := dk_159 0 7 (dk_at dksX1_slide_0 11 rfl rfl)
theorem dX1_slide_14 : decode cX1_slide 14 = .ok (.iconst 1, 1) := dk_4 (dk_at dksX1_slide_0 14 rfl rfl)
theorem dX1_slide_15 : decode cX1_slide 15 = .ok (.goto 4, 3) := dk_167 0 4 (dk_at dksX1_slide_0 15 rfl rfl)
theorem dX1_slide_18 : decode cX1_slide 18 = .ok (.iconst 0, 1) := dk_3 (dk_at dksX1_slide_0 18 rfl rfl)
theorem dX1_slide_19 : decode cX1_slide 19 = .ok (.invokestatic 105, 3) := dk_184 0 105 (dk_at dksX1_slide_0 19 rfl rfl)
theorem dX1_slide_22 : decode cX1_slide 22 = .ok (.aload_n 2, 1) := dk_44 (dk_at dksX1_slide_0 22 rfl rfl)
theorem dX1_slide_23 : decode cX1_slide 23 = .ok (.getfield 281, 3) := dk_180 1 25 (dk_at dksX1_slide_1 0 rfl rfl)
theorem dX1_slide_26 : decode cX1_slide 26 = .ok (.ireturn, 1) := dk_172 (dk_at dksX1_slide_1 3 rfl rfl)
abbrev cX1_holder : ByteArray := prog_1_method_42_code
def yX1_holder : MethodName := ⟨RX1, "holder", "(I)I"⟩
def dkwX1_holder_1 : List UInt8 := [180, 0, 236, 180, 0, 248, 172]
abbrev dktX1_holder_1 : List UInt8 := dkwX1_holder_1 ++ []
def dkwX1_holder_0 : List UInt8 := [42, 27, 182, 1, 77, 77, 44, 180, 0, 236, 198, 0, 7, 4, 167, 0, 4, 3, 184, 0, 105, 44]
abbrev dktX1_holder_0 : List UInt8 := dkwX1_holder_0 ++ dktX1_holder_1
theorem dksX1_holder_0 : cX1_holder.data.toList.drop 0 = dktX1_holder_0 := by decide +kernel
theorem dksX1_holder_1 : cX1_holder.data.toList.drop 22 = dktX1_holder_1 := dk_seg dksX1_holder_0 22 rfl rfl
theorem dX1_holder_0 : decode cX1_holder 0 = .ok (.aload_n 0, 1) := dk_42 (dk_at dksX1_holder_0 0 rfl rfl)
theorem dX1_holder_1 : decode cX1_holder 1 = .ok (.iload_n 1, 1) := dk_27 (dk_at dksX1_holder_0 1 rfl rfl)
theorem dX1_holder_2 : decode cX1_holder 2 = .ok (.invokevirtual 333, 3) := dk_182 1 77 (dk_at dksX1_holder_0 2 rfl rfl)
theorem dX1_holder_5 : decode cX1_holder 5 = .ok (.astore_n 2, 1) := dk_77 (dk_at dksX1_holder_0 5 rfl rfl)
theorem dX1_holder_6 : decode cX1_holder 6 = .ok (.aload_n 2, 1) := dk_44 (dk_at dksX1_holder_0 6 rfl rfl)
theorem dX1_holder_7 : decode cX1_holder 7 = .ok (.getfield 236, 3) := dk_180 0 236 (dk_at dksX1_holder_0 7 rfl rfl)
theorem dX1_holder_10 : decode cX1_holder 10 = .ok (.ifnull 7, 3) := dk_198 0 7 (dk_at dksX1_holder_0 10 rfl rfl)
theorem dX1_holder_13 : decode cX1_holder 13 = .ok (.iconst 1, 1) := dk_4 (dk_at dksX1_holder_0 13 rfl rfl)
theorem dX1_holder_14 : decode cX1_holder 14 = .ok (.goto 4, 3) := dk_167 0 4 (dk_at dksX1_holder_0 14 rfl rfl)
theorem dX1_holder_17 : decode cX1_holder 17 = .ok (.iconst 0, 1) := dk_3 (dk_at dksX1_holder_0 17 rfl rfl)
theorem dX1_holder_18 : decode cX1_holder 18 = .ok (.invokestatic 105, 3) := dk_184 0 105 (dk_at dksX1_holder_0 18 rfl rfl)
theorem dX1_holder_21 : decode cX1_holder 21 = .ok (.aload_n 2, 1) := dk_44 (dk_at dksX1_holder_0 21 rfl rfl)
theorem dX1_holder_22 : decode cX1_holder 22 = .ok (.getfield 236, 3) := dk_180 0 236 (dk_at dksX1_holder_1 0 rfl rfl)
theorem dX1_holder_25 : decode cX1_holder 25 = .ok (.getfield 248, 3) := dk_180 0 248 (dk_at dksX1_holder_1 3 rfl rfl)
theorem dX1_holder_28 : decode cX1_holder 28 = .ok (.ireturn, 1) := dk_172 (dk_at dksX1_holder_1 6 rfl rfl)
abbrev cX1_deviceAt : ByteArray := prog_1_method_41_code
def yX1_deviceAt : MethodName := ⟨RX1, "deviceAt", "(I)LKioskReel$Device;"⟩
def dkwX1_deviceAt_0 : List UInt8 := [27, 16, 6, 184, 0, 85, 42, 180, 0, 66, 27, 185, 0, 89, 2, 0, 192, 0, 72, 176]
abbrev dktX1_deviceAt_0 : List UInt8 := dkwX1_deviceAt_0 ++ []
theorem dksX1_deviceAt_0 : cX1_deviceAt.data.toList.drop 0 = dktX1_deviceAt_0 := by decide +kernel
theorem dX1_deviceAt_0 : decode cX1_deviceAt 0 = .ok (.iload_n 1, 1) := dk_27 (dk_at dksX1_deviceAt_0 0 rfl rfl)
theorem dX1_deviceAt_1 : decode cX1_deviceAt 1 = .ok (.bipush 6, 2) := dk_16 6 (dk_at dksX1_deviceAt_0 1 rfl rfl)
theorem dX1_deviceAt_3 : decode cX1_deviceAt 3 = .ok (.invokestatic 85, 3) := dk_184 0 85 (dk_at dksX1_deviceAt_0 3 rfl rfl)
theorem dX1_deviceAt_6 : decode cX1_deviceAt 6 = .ok (.aload_n 0, 1) := dk_42 (dk_at dksX1_deviceAt_0 6 rfl rfl)
theorem dX1_deviceAt_7 : decode cX1_deviceAt 7 = .ok (.getfield 66, 3) := dk_180 0 66 (dk_at dksX1_deviceAt_0 7 rfl rfl)
theorem dX1_deviceAt_10 : decode cX1_deviceAt 10 = .ok (.iload_n 1, 1) := dk_27 (dk_at dksX1_deviceAt_0 10 rfl rfl)
theorem dX1_deviceAt_11 : decode cX1_deviceAt 11 = .ok (.invokeinterface 89 2, 5) := by decide +kernel
theorem dX1_deviceAt_16 : decode cX1_deviceAt 16 = .ok (.checkcast 72, 3) := dk_192 0 72 (dk_at dksX1_deviceAt_0 16 rfl rfl)
theorem dX1_deviceAt_19 : decode cX1_deviceAt 19 = .ok (.areturn, 1) := dk_176 (dk_at dksX1_deviceAt_0 19 rfl rfl)
abbrev cX1_queued : ByteArray := prog_1_method_43_code
def yX1_queued : MethodName := ⟨RX1, "queued", "(II)I"⟩
def dkwX1_queued_1 : List UInt8 := [184, 0, 105, 45, 180, 0, 233, 28, 185, 0, 89, 2, 0, 192, 0, 191, 180, 0, 248, 172]
abbrev dktX1_queued_1 : List UInt8 := dkwX1_queued_1 ++ []
def dkwX1_queued_0 : List UInt8 := [42, 27, 182, 1, 77, 78, 28, 3, 45, 180, 0, 233, 185, 0, 81, 1, 0, 4, 100, 184, 0, 18]
abbrev dktX1_queued_0 : List UInt8 := dkwX1_queued_0 ++ dktX1_queued_1
theorem dksX1_queued_0 : cX1_queued.data.toList.drop 0 = dktX1_queued_0 := by decide +kernel
theorem dksX1_queued_1 : cX1_queued.data.toList.drop 22 = dktX1_queued_1 := dk_seg dksX1_queued_0 22 rfl rfl
theorem dX1_queued_0 : decode cX1_queued 0 = .ok (.aload_n 0, 1) := dk_42 (dk_at dksX1_queued_0 0 rfl rfl)
theorem dX1_queued_1 : decode cX1_queued 1 = .ok (.iload_n 1, 1) := dk_27 (dk_at dksX1_queued_0 1 rfl rfl)
theorem dX1_queued_2 : decode cX1_queued 2 = .ok (.invokevirtual 333, 3) := dk_182 1 77 (dk_at dksX1_queued_0 2 rfl rfl)
theorem dX1_queued_5 : decode cX1_queued 5 = .ok (.astore_n 3, 1) := dk_78 (dk_at dksX1_queued_0 5 rfl rfl)
theorem dX1_queued_6 : decode cX1_queued 6 = .ok (.iload_n 2, 1) := dk_28 (dk_at dksX1_queued_0 6 rfl rfl)
theorem dX1_queued_7 : decode cX1_queued 7 = .ok (.iconst 0, 1) := dk_3 (dk_at dksX1_queued_0 7 rfl rfl)
theorem dX1_queued_8 : decode cX1_queued 8 = .ok (.aload_n 3, 1) := dk_45 (dk_at dksX1_queued_0 8 rfl rfl)
theorem dX1_queued_9 : decode cX1_queued 9 = .ok (.getfield 233, 3) := dk_180 0 233 (dk_at dksX1_queued_0 9 rfl rfl)
theorem dX1_queued_12 : decode cX1_queued 12 = .ok (.invokeinterface 81 1, 5) := by decide +kernel
theorem dX1_queued_17 : decode cX1_queued 17 = .ok (.iconst 1, 1) := dk_4 (dk_at dksX1_queued_0 17 rfl rfl)
theorem dX1_queued_18 : decode cX1_queued 18 = .ok (.isub, 1) := dk_100 (dk_at dksX1_queued_0 18 rfl rfl)
theorem dX1_queued_19 : decode cX1_queued 19 = .ok (.invokestatic 18, 3) := dk_184 0 18 (dk_at dksX1_queued_0 19 rfl rfl)
theorem dX1_queued_22 : decode cX1_queued 22 = .ok (.invokestatic 105, 3) := dk_184 0 105 (dk_at dksX1_queued_1 0 rfl rfl)
theorem dX1_queued_25 : decode cX1_queued 25 = .ok (.aload_n 3, 1) := dk_45 (dk_at dksX1_queued_1 3 rfl rfl)
theorem dX1_queued_26 : decode cX1_queued 26 = .ok (.getfield 233, 3) := dk_180 0 233 (dk_at dksX1_queued_1 4 rfl rfl)
theorem dX1_queued_29 : decode cX1_queued 29 = .ok (.iload_n 2, 1) := dk_28 (dk_at dksX1_queued_1 7 rfl rfl)
theorem dX1_queued_30 : decode cX1_queued 30 = .ok (.invokeinterface 89 2, 5) := by decide +kernel
theorem dX1_queued_35 : decode cX1_queued 35 = .ok (.checkcast 191, 3) := dk_192 0 191 (dk_at dksX1_queued_1 13 rfl rfl)
theorem dX1_queued_38 : decode cX1_queued 38 = .ok (.getfield 248, 3) := dk_180 0 248 (dk_at dksX1_queued_1 16 rfl rfl)
theorem dX1_queued_41 : decode cX1_queued 41 = .ok (.ireturn, 1) := dk_172 (dk_at dksX1_queued_1 19 rfl rfl)
abbrev cX1_visitor : ByteArray := prog_1_method_44_code
def yX1_visitor : MethodName := ⟨RX1, "visitor", "()I"⟩
def dkwX1_visitor_2 : List UInt8 := [185, 0, 81, 1, 0, 4, 100, 172]
abbrev dktX1_visitor_2 : List UInt8 := dkwX1_visitor_2 ++ []
def dkwX1_visitor_1 : List UInt8 := [180, 0, 69, 187, 0, 109, 89, 183, 1, 81, 185, 0, 75, 2, 0, 87, 42, 180, 0, 69]
abbrev dktX1_visitor_1 : List UInt8 := dkwX1_visitor_1 ++ dktX1_visitor_2
def dkwX1_visitor_0 : List UInt8 := [42, 180, 0, 69, 185, 0, 81, 1, 0, 16, 10, 162, 0, 7, 4, 167, 0, 4, 3, 184, 0, 136, 42]
abbrev dktX1_visitor_0 : List UInt8 := dkwX1_visitor_0 ++ dktX1_visitor_1
theorem dksX1_visitor_0 : cX1_visitor.data.toList.drop 0 = dktX1_visitor_0 := by decide +kernel
theorem dksX1_visitor_1 : cX1_visitor.data.toList.drop 23 = dktX1_visitor_1 := dk_seg dksX1_visitor_0 23 rfl rfl
theorem dksX1_visitor_2 : cX1_visitor.data.toList.drop 43 = dktX1_visitor_2 := dk_seg dksX1_visitor_1 20 rfl rfl
theorem dX1_visitor_0 : decode cX1_visitor 0 = .ok (.aload_n 0, 1) := dk_42 (dk_at dksX1_visitor_0 0 rfl rfl)
theorem dX1_visitor_1 : decode cX1_visitor 1 = .ok (.getfield 69, 3) := dk_180 0 69 (dk_at dksX1_visitor_0 1 rfl rfl)
theorem dX1_visitor_4 : decode cX1_visitor 4 = .ok (.invokeinterface 81 1, 5) := by decide +kernel
theorem dX1_visitor_9 : decode cX1_visitor 9 = .ok (.bipush 10, 2) := dk_16 10 (dk_at dksX1_visitor_0 9 rfl rfl)
theorem dX1_visitor_11 : decode cX1_visitor 11 = .ok (.if_icmp .ge 7, 3) := dk_162 0 7 (dk_at dksX1_visitor_0 11 rfl rfl)
theorem dX1_visitor_14 : decode cX1_visitor 14 = .ok (.iconst 1, 1) := dk_4 (dk_at dksX1_visitor_0 14 rfl rfl)
theorem dX1_visitor_15 : decode cX1_visitor 15 = .ok (.goto 4, 3) := dk_167 0 4 (dk_at dksX1_visitor_0 15 rfl rfl)
theorem dX1_visitor_18 : decode cX1_visitor 18 = .ok (.iconst 0, 1) := dk_3 (dk_at dksX1_visitor_0 18 rfl rfl)
theorem dX1_visitor_19 : decode cX1_visitor 19 = .ok (.invokestatic 136, 3) := dk_184 0 136 (dk_at dksX1_visitor_0 19 rfl rfl)
theorem dX1_visitor_22 : decode cX1_visitor 22 = .ok (.aload_n 0, 1) := dk_42 (dk_at dksX1_visitor_0 22 rfl rfl)
theorem dX1_visitor_23 : decode cX1_visitor 23 = .ok (.getfield 69, 3) := dk_180 0 69 (dk_at dksX1_visitor_1 0 rfl rfl)
theorem dX1_visitor_26 : decode cX1_visitor 26 = .ok (.new 109, 3) := dk_187 0 109 (dk_at dksX1_visitor_1 3 rfl rfl)
theorem dX1_visitor_29 : decode cX1_visitor 29 = .ok (.dup, 1) := dk_89 (dk_at dksX1_visitor_1 6 rfl rfl)
theorem dX1_visitor_30 : decode cX1_visitor 30 = .ok (.invokespecial 337, 3) := dk_183 1 81 (dk_at dksX1_visitor_1 7 rfl rfl)
theorem dX1_visitor_33 : decode cX1_visitor 33 = .ok (.invokeinterface 75 2, 5) := by decide +kernel
theorem dX1_visitor_38 : decode cX1_visitor 38 = .ok (.pop, 1) := dk_87 (dk_at dksX1_visitor_1 15 rfl rfl)
theorem dX1_visitor_39 : decode cX1_visitor 39 = .ok (.aload_n 0, 1) := dk_42 (dk_at dksX1_visitor_1 16 rfl rfl)
theorem dX1_visitor_40 : decode cX1_visitor 40 = .ok (.getfield 69, 3) := dk_180 0 69 (dk_at dksX1_visitor_1 17 rfl rfl)
theorem dX1_visitor_43 : decode cX1_visitor 43 = .ok (.invokeinterface 81 1, 5) := by decide +kernel
theorem dX1_visitor_48 : decode cX1_visitor 48 = .ok (.iconst 1, 1) := dk_4 (dk_at dksX1_visitor_2 5 rfl rfl)
theorem dX1_visitor_49 : decode cX1_visitor 49 = .ok (.isub, 1) := dk_100 (dk_at dksX1_visitor_2 6 rfl rfl)
theorem dX1_visitor_50 : decode cX1_visitor 50 = .ok (.ireturn, 1) := dk_172 (dk_at dksX1_visitor_2 7 rfl rfl)
abbrev cX1_go : ByteArray := prog_1_method_45_code
def yX1_go : MethodName := ⟨RX1, "go", "(II)I"⟩
def dkwX1_go_3 : List UInt8 := [21, 4, 172]
abbrev dktX1_go_3 : List UInt8 := dkwX1_go_3 ++ []
def dkwX1_go_2 : List UInt8 := [160, 0, 7, 1, 167, 0, 16, 42, 180, 0, 63, 28, 185, 0, 89, 2, 0, 192, 0, 95, 181, 1, 31]
abbrev dktX1_go_2 : List UInt8 := dkwX1_go_2 ++ dktX1_go_3
def dkwX1_go_1 : List UInt8 := [180, 1, 31, 199, 0, 7, 2, 167, 0, 10, 45, 180, 1, 31, 180, 0, 210, 54, 4, 45, 28, 2]
abbrev dktX1_go_1 : List UInt8 := dkwX1_go_1 ++ dktX1_go_2
def dkwX1_go_0 : List UInt8 := [42, 27, 182, 1, 82, 78, 28, 4, 96, 42, 180, 0, 63, 185, 0, 81, 1, 0, 4, 96, 184, 0, 85, 45]
abbrev dktX1_go_0 : List UInt8 := dkwX1_go_0 ++ dktX1_go_1
theorem dksX1_go_0 : cX1_go.data.toList.drop 0 = dktX1_go_0 := by decide +kernel
theorem dksX1_go_1 : cX1_go.data.toList.drop 24 = dktX1_go_1 := dk_seg dksX1_go_0 24 rfl rfl
theorem dksX1_go_2 : cX1_go.data.toList.drop 46 = dktX1_go_2 := dk_seg dksX1_go_1 22 rfl rfl
theorem dksX1_go_3 : cX1_go.data.toList.drop 69 = dktX1_go_3 := dk_seg dksX1_go_2 23 rfl rfl
theorem dX1_go_0 : decode cX1_go 0 = .ok (.aload_n 0, 1) := dk_42 (dk_at dksX1_go_0 0 rfl rfl)
theorem dX1_go_1 : decode cX1_go 1 = .ok (.iload_n 1, 1) := dk_27 (dk_at dksX1_go_0 1 rfl rfl)
theorem dX1_go_2 : decode cX1_go 2 = .ok (.invokevirtual 338, 3) := dk_182 1 82 (dk_at dksX1_go_0 2 rfl rfl)
theorem dX1_go_5 : decode cX1_go 5 = .ok (.astore_n 3, 1) := dk_78 (dk_at dksX1_go_0 5 rfl rfl)
theorem dX1_go_6 : decode cX1_go 6 = .ok (.iload_n 2, 1) := dk_28 (dk_at dksX1_go_0 6 rfl rfl)
theorem dX1_go_7 : decode cX1_go 7 = .ok (.iconst 1, 1) := dk_4 (dk_at dksX1_go_0 7 rfl rfl)
theorem dX1_go_8 : decode cX1_go 8 = .ok (.iadd, 1) := dk_96 (dk_at dksX1_go_0 8 rfl rfl)
theorem dX1_go_9 : decode cX1_go 9 = .ok (.aload_n 0, 1) := dk_42 (dk_at dksX1_go_0 9 rfl rfl)
theorem dX1_go_10 : decode cX1_go 10 = .ok (.getfield 63, 3) := dk_180 0 63 (dk_at dksX1_go_0 10 rfl rfl)
theorem dX1_go_13 : decode cX1_go 13 = .ok (.invokeinterface 81 1, 5) := by decide +kernel
theorem dX1_go_18 : decode cX1_go 18 = .ok (.iconst 1, 1) := dk_4 (dk_at dksX1_go_0 18 rfl rfl)
theorem dX1_go_19 : decode cX1_go 19 = .ok (.iadd, 1) := dk_96 (dk_at dksX1_go_0 19 rfl rfl)
theorem dX1_go_20 : decode cX1_go 20 = .ok (.invokestatic 85, 3) := dk_184 0 85 (dk_at dksX1_go_0 20 rfl rfl)
theorem dX1_go_23 : decode cX1_go 23 = .ok (.aload_n 3, 1) := dk_45 (dk_at dksX1_go_0 23 rfl rfl)
theorem dX1_go_24 : decode cX1_go 24 = .ok (.getfield 287, 3) := dk_180 1 31 (dk_at dksX1_go_1 0 rfl rfl)
theorem dX1_go_27 : decode cX1_go 27 = .ok (.ifnonnull 7, 3) := dk_199 0 7 (dk_at dksX1_go_1 3 rfl rfl)
theorem dX1_go_30 : decode cX1_go 30 = .ok (.iconst (-1), 1) := dk_2 (dk_at dksX1_go_1 6 rfl rfl)
theorem dX1_go_31 : decode cX1_go 31 = .ok (.goto 10, 3) := dk_167 0 10 (dk_at dksX1_go_1 7 rfl rfl)
theorem dX1_go_34 : decode cX1_go 34 = .ok (.aload_n 3, 1) := dk_45 (dk_at dksX1_go_1 10 rfl rfl)
theorem dX1_go_35 : decode cX1_go 35 = .ok (.getfield 287, 3) := dk_180 1 31 (dk_at dksX1_go_1 11 rfl rfl)
theorem dX1_go_38 : decode cX1_go 38 = .ok (.getfield 210, 3) := dk_180 0 210 (dk_at dksX1_go_1 14 rfl rfl)
theorem dX1_go_41 : decode cX1_go 41 = .ok (.istore 4, 2) := dk_54 4 (dk_at dksX1_go_1 17 rfl rfl)
theorem dX1_go_43 : decode cX1_go 43 = .ok (.aload_n 3, 1) := dk_45 (dk_at dksX1_go_1 19 rfl rfl)
theorem dX1_go_44 : decode cX1_go 44 = .ok (.iload_n 2, 1) := dk_28 (dk_at dksX1_go_1 20 rfl rfl)
theorem dX1_go_45 : decode cX1_go 45 = .ok (.iconst (-1), 1) := dk_2 (dk_at dksX1_go_1 21 rfl rfl)
theorem dX1_go_46 : decode cX1_go 46 = .ok (.if_icmp .ne 7, 3) := dk_160 0 7 (dk_at dksX1_go_2 0 rfl rfl)
theorem dX1_go_49 : decode cX1_go 49 = .ok (.aconst_null, 1) := dk_1 (dk_at dksX1_go_2 3 rfl rfl)
theorem dX1_go_50 : decode cX1_go 50 = .ok (.goto 16, 3) := dk_167 0 16 (dk_at dksX1_go_2 4 rfl rfl)
theorem dX1_go_53 : decode cX1_go 53 = .ok (.aload_n 0, 1) := dk_42 (dk_at dksX1_go_2 7 rfl rfl)
theorem dX1_go_54 : decode cX1_go 54 = .ok (.getfield 63, 3) := dk_180 0 63 (dk_at dksX1_go_2 8 rfl rfl)
theorem dX1_go_57 : decode cX1_go 57 = .ok (.iload_n 2, 1) := dk_28 (dk_at dksX1_go_2 11 rfl rfl)
theorem dX1_go_58 : decode cX1_go 58 = .ok (.invokeinterface 89 2, 5) := by decide +kernel
theorem dX1_go_63 : decode cX1_go 63 = .ok (.checkcast 95, 3) := dk_192 0 95 (dk_at dksX1_go_2 17 rfl rfl)
theorem dX1_go_66 : decode cX1_go 66 = .ok (.putfield 287, 3) := dk_181 1 31 (dk_at dksX1_go_2 20 rfl rfl)
theorem dX1_go_69 : decode cX1_go 69 = .ok (.iload 4, 2) := dk_21 4 (dk_at dksX1_go_3 0 rfl rfl)
theorem dX1_go_71 : decode cX1_go 71 = .ok (.ireturn, 1) := dk_172 (dk_at dksX1_go_3 2 rfl rfl)
abbrev cX1_visitorAt : ByteArray := prog_1_method_13_code
def yX1_visitorAt : MethodName := ⟨RX1, "visitorAt", "(I)LKioskReel$Visitor;"⟩
def dkwX1_visitorAt_1 : List UInt8 := [192, 0, 109, 176]
abbrev dktX1_visitorAt_1 : List UInt8 := dkwX1_visitorAt_1 ++ []
def dkwX1_visitorAt_0 : List UInt8 := [27, 42, 180, 0, 69, 185, 0, 81, 1, 0, 184, 0, 85, 42, 180, 0, 69, 27, 185, 0, 89, 2, 0]
abbrev dktX1_visitorAt_0 : List UInt8 := dkwX1_visitorAt_0 ++ dktX1_visitorAt_1
theorem dksX1_visitorAt_0 : cX1_visitorAt.data.toList.drop 0 = dktX1_visitorAt_0 := by decide +kernel
theorem dksX1_visitorAt_1 : cX1_visitorAt.data.toList.drop 23 = dktX1_visitorAt_1 := dk_seg dksX1_visitorAt_0 23 rfl rfl
theorem dX1_visitorAt_0 : decode cX1_visitorAt 0 = .ok (.iload_n 1, 1) := dk_27 (dk_at dksX1_visitorAt_0 0 rfl rfl)
theorem dX1_visitorAt_1 : decode cX1_visitorAt 1 = .ok (.aload_n 0, 1) := dk_42 (dk_at dksX1_visitorAt_0 1 rfl rfl)
theorem dX1_visitorAt_2 : decode cX1_visitorAt 2 = .ok (.getfield 69, 3) := dk_180 0 69 (dk_at dksX1_visitorAt_0 2 rfl rfl)
theorem dX1_visitorAt_5 : decode cX1_visitorAt 5 = .ok (.invokeinterface 81 1, 5) := by decide +kernel
theorem dX1_visitorAt_10 : decode cX1_visitorAt 10 = .ok (.invokestatic 85, 3) := dk_184 0 85 (dk_at dksX1_visitorAt_0 10 rfl rfl)
theorem dX1_visitorAt_13 : decode cX1_visitorAt 13 = .ok (.aload_n 0, 1) := dk_42 (dk_at dksX1_visitorAt_0 13 rfl rfl)
theorem dX1_visitorAt_14 : decode cX1_visitorAt 14 = .ok (.getfield 69, 3) := dk_180 0 69 (dk_at dksX1_visitorAt_0 14 rfl rfl)
theorem dX1_visitorAt_17 : decode cX1_visitorAt 17 = .ok (.iload_n 1, 1) := dk_27 (dk_at dksX1_visitorAt_0 17 rfl rfl)
theorem dX1_visitorAt_18 : decode cX1_visitorAt 18 = .ok (.invokeinterface 89 2, 5) := by decide +kernel
theorem dX1_visitorAt_23 : decode cX1_visitorAt 23 = .ok (.checkcast 109, 3) := dk_192 0 109 (dk_at dksX1_visitorAt_1 0 rfl rfl)
theorem dX1_visitorAt_26 : decode cX1_visitorAt 26 = .ok (.areturn, 1) := dk_176 (dk_at dksX1_visitorAt_1 3 rfl rfl)
abbrev cX1_ask : ByteArray := prog_1_method_46_code
def yX1_ask : MethodName := ⟨RX1, "ask", "(II)Z"⟩
def dkwX1_ask_1 : List UInt8 := [180, 1, 90, 28, 92, 46, 4, 96, 79, 45, 180, 1, 94, 28, 46, 158, 0, 7, 4, 167, 0, 4, 3, 172]
abbrev dktX1_ask_1 : List UInt8 := dkwX1_ask_1 ++ []
def dkwX1_ask_0 : List UInt8 := [42, 27, 182, 1, 82, 78, 28, 3, 16, 99, 184, 0, 18, 184, 0, 151, 45, 180, 1, 86, 28, 4, 84, 45]
abbrev dktX1_ask_0 : List UInt8 := dkwX1_ask_0 ++ dktX1_ask_1
theorem dksX1_ask_0 : cX1_ask.data.toList.drop 0 = dktX1_ask_0 := by decide +kernel
theorem dksX1_ask_1 : cX1_ask.data.toList.drop 24 = dktX1_ask_1 := dk_seg dksX1_ask_0 24 rfl rfl
theorem dX1_ask_0 : decode cX1_ask 0 = .ok (.aload_n 0, 1) := dk_42 (dk_at dksX1_ask_0 0 rfl rfl)
theorem dX1_ask_1 : decode cX1_ask 1 = .ok (.iload_n 1, 1) := dk_27 (dk_at dksX1_ask_0 1 rfl rfl)
theorem dX1_ask_2 : decode cX1_ask 2 = .ok (.invokevirtual 338, 3) := dk_182 1 82 (dk_at dksX1_ask_0 2 rfl rfl)
theorem dX1_ask_5 : decode cX1_ask 5 = .ok (.astore_n 3, 1) := dk_78 (dk_at dksX1_ask_0 5 rfl rfl)
theorem dX1_ask_6 : decode cX1_ask 6 = .ok (.iload_n 2, 1) := dk_28 (dk_at dksX1_ask_0 6 rfl rfl)
theorem dX1_ask_7 : decode cX1_ask 7 = .ok (.iconst 0, 1) := dk_3 (dk_at dksX1_ask_0 7 rfl rfl)
theorem dX1_ask_8 : decode cX1_ask 8 = .ok (.bipush 99, 2) := dk_16 99 (dk_at dksX1_ask_0 8 rfl rfl)
theorem dX1_ask_10 : decode cX1_ask 10 = .ok (.invokestatic 18, 3) := dk_184 0 18 (dk_at dksX1_ask_0 10 rfl rfl)
theorem dX1_ask_13 : decode cX1_ask 13 = .ok (.invokestatic 151, 3) := dk_184 0 151 (dk_at dksX1_ask_0 13 rfl rfl)
theorem dX1_ask_16 : decode cX1_ask 16 = .ok (.aload_n 3, 1) := dk_45 (dk_at dksX1_ask_0 16 rfl rfl)
theorem dX1_ask_17 : decode cX1_ask 17 = .ok (.getfield 342, 3) := dk_180 1 86 (dk_at dksX1_ask_0 17 rfl rfl)
theorem dX1_ask_20 : decode cX1_ask 20 = .ok (.iload_n 2, 1) := dk_28 (dk_at dksX1_ask_0 20 rfl rfl)
theorem dX1_ask_21 : decode cX1_ask 21 = .ok (.iconst 1, 1) := dk_4 (dk_at dksX1_ask_0 21 rfl rfl)
theorem dX1_ask_22 : decode cX1_ask 22 = .ok (.bastore, 1) := dk_84 (dk_at dksX1_ask_0 22 rfl rfl)
theorem dX1_ask_23 : decode cX1_ask 23 = .ok (.aload_n 3, 1) := dk_45 (dk_at dksX1_ask_0 23 rfl rfl)
theorem dX1_ask_24 : decode cX1_ask 24 = .ok (.getfield 346, 3) := dk_180 1 90 (dk_at dksX1_ask_1 0 rfl rfl)
theorem dX1_ask_27 : decode cX1_ask 27 = .ok (.iload_n 2, 1) := dk_28 (dk_at dksX1_ask_1 3 rfl rfl)
theorem dX1_ask_28 : decode cX1_ask 28 = .ok (.dup2, 1) := dk_92 (dk_at dksX1_ask_1 4 rfl rfl)
theorem dX1_ask_29 : decode cX1_ask 29 = .ok (.iaload, 1) := dk_46 (dk_at dksX1_ask_1 5 rfl rfl)
theorem dX1_ask_30 : decode cX1_ask 30 = .ok (.iconst 1, 1) := dk_4 (dk_at dksX1_ask_1 6 rfl rfl)
theorem dX1_ask_31 : decode cX1_ask 31 = .ok (.iadd, 1) := dk_96 (dk_at dksX1_ask_1 7 rfl rfl)
theorem dX1_ask_32 : decode cX1_ask 32 = .ok (.iastore, 1) := dk_79 (dk_at dksX1_ask_1 8 rfl rfl)
theorem dX1_ask_33 : decode cX1_ask 33 = .ok (.aload_n 3, 1) := dk_45 (dk_at dksX1_ask_1 9 rfl rfl)
theorem dX1_ask_34 : decode cX1_ask 34 = .ok (.getfield 350, 3) := dk_180 1 94 (dk_at dksX1_ask_1 10 rfl rfl)
theorem dX1_ask_37 : decode cX1_ask 37 = .ok (.iload_n 2, 1) := dk_28 (dk_at dksX1_ask_1 13 rfl rfl)
theorem dX1_ask_38 : decode cX1_ask 38 = .ok (.iaload, 1) := dk_46 (dk_at dksX1_ask_1 14 rfl rfl)
theorem dX1_ask_39 : decode cX1_ask 39 = .ok (.ifCond .le 7, 3) := dk_158 0 7 (dk_at dksX1_ask_1 15 rfl rfl)
theorem dX1_ask_42 : decode cX1_ask 42 = .ok (.iconst 1, 1) := dk_4 (dk_at dksX1_ask_1 18 rfl rfl)
theorem dX1_ask_43 : decode cX1_ask 43 = .ok (.goto 4, 3) := dk_167 0 4 (dk_at dksX1_ask_1 19 rfl rfl)
theorem dX1_ask_46 : decode cX1_ask 46 = .ok (.iconst 0, 1) := dk_3 (dk_at dksX1_ask_1 22 rfl rfl)
theorem dX1_ask_47 : decode cX1_ask 47 = .ok (.ireturn, 1) := dk_172 (dk_at dksX1_ask_1 23 rfl rfl)
abbrev cX1_saw : ByteArray := prog_1_method_47_code
def yX1_saw : MethodName := ⟨RX1, "saw", "(II)I"⟩
def dkwX1_saw_0 : List UInt8 := [42, 27, 182, 1, 82, 78, 28, 3, 16, 99, 184, 0, 18, 184, 0, 151, 45, 180, 1, 94, 28, 46, 172]
abbrev dktX1_saw_0 : List UInt8 := dkwX1_saw_0 ++ []
theorem dksX1_saw_0 : cX1_saw.data.toList.drop 0 = dktX1_saw_0 := by decide +kernel
theorem dX1_saw_0 : decode cX1_saw 0 = .ok (.aload_n 0, 1) := dk_42 (dk_at dksX1_saw_0 0 rfl rfl)
theorem dX1_saw_1 : decode cX1_saw 1 = .ok (.iload_n 1, 1) := dk_27 (dk_at dksX1_saw_0 1 rfl rfl)
theorem dX1_saw_2 : decode cX1_saw 2 = .ok (.invokevirtual 338, 3) := dk_182 1 82 (dk_at dksX1_saw_0 2 rfl rfl)
theorem dX1_saw_5 : decode cX1_saw 5 = .ok (.astore_n 3, 1) := dk_78 (dk_at dksX1_saw_0 5 rfl rfl)
theorem dX1_saw_6 : decode cX1_saw 6 = .ok (.iload_n 2, 1) := dk_28 (dk_at dksX1_saw_0 6 rfl rfl)
theorem dX1_saw_7 : decode cX1_saw 7 = .ok (.iconst 0, 1) := dk_3 (dk_at dksX1_saw_0 7 rfl rfl)
theorem dX1_saw_8 : decode cX1_saw 8 = .ok (.bipush 99, 2) := dk_16 99 (dk_at dksX1_saw_0 8 rfl rfl)
theorem dX1_saw_10 : decode cX1_saw 10 = .ok (.invokestatic 18, 3) := dk_184 0 18 (dk_at dksX1_saw_0 10 rfl rfl)
theorem dX1_saw_13 : decode cX1_saw 13 = .ok (.invokestatic 151, 3) := dk_184 0 151 (dk_at dksX1_saw_0 13 rfl rfl)
theorem dX1_saw_16 : decode cX1_saw 16 = .ok (.aload_n 3, 1) := dk_45 (dk_at dksX1_saw_0 16 rfl rfl)
theorem dX1_saw_17 : decode cX1_saw 17 = .ok (.getfield 350, 3) := dk_180 1 94 (dk_at dksX1_saw_0 17 rfl rfl)
theorem dX1_saw_20 : decode cX1_saw 20 = .ok (.iload_n 2, 1) := dk_28 (dk_at dksX1_saw_0 20 rfl rfl)
theorem dX1_saw_21 : decode cX1_saw 21 = .ok (.iaload, 1) := dk_46 (dk_at dksX1_saw_0 21 rfl rfl)
theorem dX1_saw_22 : decode cX1_saw 22 = .ok (.ireturn, 1) := dk_172 (dk_at dksX1_saw_0 22 rfl rfl)
abbrev cX1_meanSeen : ByteArray := prog_1_method_51_code
def yX1_meanSeen : MethodName := ⟨RX1, "meanSeen", "()D"⟩
def dkwX1_meanSeen_4 : List UInt8 := [27, 135, 42, 180, 0, 69, 185, 0, 81, 1, 0, 135, 111, 175]
abbrev dktX1_meanSeen_4 : List UInt8 := dkwX1_meanSeen_4 ++ []
def dkwX1_meanSeen_3 : List UInt8 := [162, 0, 21, 25, 4, 21, 6, 46, 54, 7, 27, 21, 7, 96, 60, 132, 6, 1, 167, 255, 234, 167, 255, 198]
abbrev dktX1_meanSeen_3 : List UInt8 := dkwX1_meanSeen_3 ++ dktX1_meanSeen_4
def dkwX1_meanSeen_2 : List UInt8 := [192, 0, 109, 78, 45, 180, 1, 94, 58, 4, 25, 4, 190, 54, 5, 3, 54, 6, 21, 6, 21, 5]
abbrev dktX1_meanSeen_2 : List UInt8 := dkwX1_meanSeen_2 ++ dktX1_meanSeen_3
def dkwX1_meanSeen_1 : List UInt8 := [180, 0, 69, 185, 0, 111, 1, 0, 77, 44, 185, 0, 115, 1, 0, 153, 0, 55, 44, 185, 0, 121, 1, 0]
abbrev dktX1_meanSeen_1 : List UInt8 := dkwX1_meanSeen_1 ++ dktX1_meanSeen_2
def dkwX1_meanSeen_0 : List UInt8 := [42, 180, 0, 69, 185, 1, 111, 1, 0, 153, 0, 11, 187, 1, 114, 89, 183, 1, 116, 191, 3, 60, 42]
abbrev dktX1_meanSeen_0 : List UInt8 := dkwX1_meanSeen_0 ++ dktX1_meanSeen_1
theorem dksX1_meanSeen_0 : cX1_meanSeen.data.toList.drop 0 = dktX1_meanSeen_0 := by decide +kernel
theorem dksX1_meanSeen_1 : cX1_meanSeen.data.toList.drop 23 = dktX1_meanSeen_1 := dk_seg dksX1_meanSeen_0 23 rfl rfl
theorem dksX1_meanSeen_2 : cX1_meanSeen.data.toList.drop 47 = dktX1_meanSeen_2 := dk_seg dksX1_meanSeen_1 24 rfl rfl
theorem dksX1_meanSeen_3 : cX1_meanSeen.data.toList.drop 69 = dktX1_meanSeen_3 := dk_seg dksX1_meanSeen_2 22 rfl rfl
theorem dksX1_meanSeen_4 : cX1_meanSeen.data.toList.drop 93 = dktX1_meanSeen_4 := dk_seg dksX1_meanSeen_3 24 rfl rfl
theorem dX1_meanSeen_0 : decode cX1_meanSeen 0 = .ok (.aload_n 0, 1) := dk_42 (dk_at dksX1_meanSeen_0 0 rfl rfl)
theorem dX1_meanSeen_1 : decode cX1_meanSeen 1 = .ok (.getfield 69, 3) := dk_180 0 69 (dk_at dksX1_meanSeen_0 1 rfl rfl)
theorem dX1_meanSeen_4 : decode cX1_meanSeen 4 = .ok (.invokeinterface 367 1, 5) := by decide +kernel
theorem dX1_meanSeen_9 : decode cX1_meanSeen 9 = .ok (.ifCond .eq 11, 3) := dk_153 0 11 (dk_at dksX1_meanSeen_0 9 rfl rfl)
theorem dX1_meanSeen_12 : decode cX1_meanSeen 12 = .ok (.new 370, 3) := dk_187 1 114 (dk_at dksX1_meanSeen_0 12 rfl rfl)
theorem dX1_meanSeen_15 : decode cX1_meanSeen 15 = .ok (.dup, 1) := dk_89 (dk_at dksX1_meanSeen_0 15 rfl rfl)
theorem dX1_meanSeen_16 : decode cX1_meanSeen 16 = .ok (.invokespecial 372, 3) := dk_183 1 116 (dk_at dksX1_meanSeen_0 16 rfl rfl)
theorem dX1_meanSeen_19 : decode cX1_meanSeen 19 = .ok (.athrow, 1) := dk_191 (dk_at dksX1_meanSeen_0 19 rfl rfl)
theorem dX1_meanSeen_20 : decode cX1_meanSeen 20 = .ok (.iconst 0, 1) := dk_3 (dk_at dksX1_meanSeen_0 20 rfl rfl)
theorem dX1_meanSeen_21 : decode cX1_meanSeen 21 = .ok (.istore_n 1, 1) := dk_60 (dk_at dksX1_meanSeen_0 21 rfl rfl)
theorem dX1_meanSeen_22 : decode cX1_meanSeen 22 = .ok (.aload_n 0, 1) := dk_42 (dk_at dksX1_meanSeen_0 22 rfl rfl)
theorem dX1_meanSeen_23 : decode cX1_meanSeen 23 = .ok (.getfield 69, 3) := dk_180 0 69 (dk_at dksX1_meanSeen_1 0 rfl rfl)
theorem dX1_meanSeen_26 : decode cX1_meanSeen 26 = .ok (.invokeinterface 111 1, 5) := by decide +kernel
theorem dX1_meanSeen_31 : decode cX1_meanSeen 31 = .ok (.astore_n 2, 1) := dk_77 (dk_at dksX1_meanSeen_1 8 rfl rfl)
theorem dX1_meanSeen_32 : decode cX1_meanSeen 32 = .ok (.aload_n 2, 1) := dk_44 (dk_at dksX1_meanSeen_1 9 rfl rfl)
theorem dX1_meanSeen_33 : decode cX1_meanSeen 33 = .ok (.invokeinterface 115 1, 5) := by decide +kernel
theorem dX1_meanSeen_38 : decode cX1_meanSeen 38 = .ok (.ifCond .eq 55, 3) := dk_153 0 55 (dk_at dksX1_meanSeen_1 15 rfl rfl)
theorem dX1_meanSeen_41 : decode cX1_meanSeen 41 = .ok (.aload_n 2, 1) := dk_44 (dk_at dksX1_meanSeen_1 18 rfl rfl)
theorem dX1_meanSeen_42 : decode cX1_meanSeen 42 = .ok (.invokeinterface 121 1, 5) := by decide +kernel
theorem dX1_meanSeen_47 : decode cX1_meanSeen 47 = .ok (.checkcast 109, 3) := dk_192 0 109 (dk_at dksX1_meanSeen_2 0 rfl rfl)
theorem dX1_meanSeen_50 : decode cX1_meanSeen 50 = .ok (.astore_n 3, 1) := dk_78 (dk_at dksX1_meanSeen_2 3 rfl rfl)
theorem dX1_meanSeen_51 : decode cX1_meanSeen 51 = .ok (.aload_n 3, 1) := dk_45 (dk_at dksX1_meanSeen_2 4 rfl rfl)
theorem dX1_meanSeen_52 : decode cX1_meanSeen 52 = .ok (.getfield 350, 3) := dk_180 1 94 (dk_at dksX1_meanSeen_2 5 rfl rfl)
theorem dX1_meanSeen_55 : decode cX1_meanSeen 55 = .ok (.astore 4, 2) := dk_58 4 (dk_at dksX1_meanSeen_2 8 rfl rfl)
theorem dX1_meanSeen_57 : decode cX1_meanSeen 57 = .ok (.aload 4, 2) := dk_25 4 (dk_at dksX1_meanSeen_2 10 rfl rfl)
theorem dX1_meanSeen_59 : decode cX1_meanSeen 59 = .ok (.arraylength, 1) := dk_190 (dk_at dksX1_meanSeen_2 12 rfl rfl)
theorem dX1_meanSeen_60 : decode cX1_meanSeen 60 = .ok (.istore 5, 2) := dk_54 5 (dk_at dksX1_meanSeen_2 13 rfl rfl)
theorem dX1_meanSeen_62 : decode cX1_meanSeen 62 = .ok (.iconst 0, 1) := dk_3 (dk_at dksX1_meanSeen_2 15 rfl rfl)
theorem dX1_meanSeen_63 : decode cX1_meanSeen 63 = .ok (.istore 6, 2) := dk_54 6 (dk_at dksX1_meanSeen_2 16 rfl rfl)
theorem dX1_meanSeen_65 : decode cX1_meanSeen 65 = .ok (.iload 6, 2) := dk_21 6 (dk_at dksX1_meanSeen_2 18 rfl rfl)
theorem dX1_meanSeen_67 : decode cX1_meanSeen 67 = .ok (.iload 5, 2) := dk_21 5 (dk_at dksX1_meanSeen_2 20 rfl rfl)
theorem dX1_meanSeen_69 : decode cX1_meanSeen 69 = .ok (.if_icmp .ge 21, 3) := dk_162 0 21 (dk_at dksX1_meanSeen_3 0 rfl rfl)
theorem dX1_meanSeen_72 : decode cX1_meanSeen 72 = .ok (.aload 4, 2) := dk_25 4 (dk_at dksX1_meanSeen_3 3 rfl rfl)
theorem dX1_meanSeen_74 : decode cX1_meanSeen 74 = .ok (.iload 6, 2) := dk_21 6 (dk_at dksX1_meanSeen_3 5 rfl rfl)
theorem dX1_meanSeen_76 : decode cX1_meanSeen 76 = .ok (.iaload, 1) := dk_46 (dk_at dksX1_meanSeen_3 7 rfl rfl)
theorem dX1_meanSeen_77 : decode cX1_meanSeen 77 = .ok (.istore 7, 2) := dk_54 7 (dk_at dksX1_meanSeen_3 8 rfl rfl)
theorem dX1_meanSeen_79 : decode cX1_meanSeen 79 = .ok (.iload_n 1, 1) := dk_27 (dk_at dksX1_meanSeen_3 10 rfl rfl)
theorem dX1_meanSeen_80 : decode cX1_meanSeen 80 = .ok (.iload 7, 2) := dk_21 7 (dk_at dksX1_meanSeen_3 11 rfl rfl)
theorem dX1_meanSeen_82 : decode cX1_meanSeen 82 = .ok (.iadd, 1) := dk_96 (dk_at dksX1_meanSeen_3 13 rfl rfl)
theorem dX1_meanSeen_83 : decode cX1_meanSeen 83 = .ok (.istore_n 1, 1) := dk_60 (dk_at dksX1_meanSeen_3 14 rfl rfl)
theorem dX1_meanSeen_84 : decode cX1_meanSeen 84 = .ok (.iinc 6 1, 3) := dk_132 6 1 (dk_at dksX1_meanSeen_3 15 rfl rfl)
theorem dX1_meanSeen_87 : decode cX1_meanSeen 87 = .ok (.goto (-22), 3) := dk_167 255 234 (dk_at dksX1_meanSeen_3 18 rfl rfl)
theorem dX1_meanSeen_90 : decode cX1_meanSeen 90 = .ok (.goto (-58), 3) := dk_167 255 198 (dk_at dksX1_meanSeen_3 21 rfl rfl)
theorem dX1_meanSeen_93 : decode cX1_meanSeen 93 = .ok (.iload_n 1, 1) := dk_27 (dk_at dksX1_meanSeen_4 0 rfl rfl)
theorem dX1_meanSeen_94 : decode cX1_meanSeen 94 = .ok (.i2d, 1) := dk_135 (dk_at dksX1_meanSeen_4 1 rfl rfl)
theorem dX1_meanSeen_95 : decode cX1_meanSeen 95 = .ok (.aload_n 0, 1) := dk_42 (dk_at dksX1_meanSeen_4 2 rfl rfl)
theorem dX1_meanSeen_96 : decode cX1_meanSeen 96 = .ok (.getfield 69, 3) := dk_180 0 69 (dk_at dksX1_meanSeen_4 3 rfl rfl)
theorem dX1_meanSeen_99 : decode cX1_meanSeen 99 = .ok (.invokeinterface 81 1, 5) := by decide +kernel
theorem dX1_meanSeen_104 : decode cX1_meanSeen 104 = .ok (.i2d, 1) := dk_135 (dk_at dksX1_meanSeen_4 11 rfl rfl)
theorem dX1_meanSeen_105 : decode cX1_meanSeen 105 = .ok (.ddiv, 1) := dk_111 (dk_at dksX1_meanSeen_4 12 rfl rfl)
theorem dX1_meanSeen_106 : decode cX1_meanSeen 106 = .ok (.dreturn, 1) := dk_175 (dk_at dksX1_meanSeen_4 13 rfl rfl)
theorem q43 : (Jvm.Cond.initialized "KioskReel") ∈ lw_all := lw_g (lw_at lw_m1 1 rfl) rfl
theorem q90 : (Jvm.Cond.instantiable "KioskReel" (6 : Nat)) ∈ lw_all := lw_g (lw_at lw_m1 48 rfl) rfl
theorem q92 : (Jvm.Cond.instanceMethod ({ cls := "KioskReel", name := "<init>", desc := "()V" } : Jvm.MethodName)) ∈ lw_all := lw_g (lw_at lw_m1 50 rfl) rfl
theorem q93 : (Jvm.Cond.code ({ cls := "KioskReel", name := "<init>", desc := "()V" } : Jvm.MethodName) prog_1_method_9_code (2 : Nat) (Option.none : Option Jvm.ClassFile.FieldType)) ∈ lw_all := lw_g (lw_at lw_m1 51 rfl) rfl
theorem q94 : (Jvm.Cond.methodLink "KioskReel" (53 : Nat) ({ cls := "java/lang/Object", name := "<init>", desc := "()V" } : Jvm.MethodName)) ∈ lw_all := lw_g (lw_at lw_m1 52 rfl) rfl
theorem q97 : (Jvm.Cond.classLink "KioskReel" (56 : Nat) "java/util/ArrayList") ∈ lw_all := lw_g (lw_at lw_m1 55 rfl) rfl
theorem q99 : (Jvm.Cond.methodLink "KioskReel" (58 : Nat) ({ cls := "java/util/ArrayList", name := "<init>", desc := "()V" } : Jvm.MethodName)) ∈ lw_all := lw_g (lw_at lw_m1 57 rfl) rfl
theorem q126 : (Jvm.Cond.classLink "KioskReel" (72 : Nat) "KioskReel$Device") ∈ lw_all := lw_g (lw_at lw_m1 84 rfl) rfl
theorem q128 : (Jvm.Cond.methodLinkNest "KioskReel" (74 : Nat) ({ cls := "KioskReel$Device", name := "<init>", desc := "()V" } : Jvm.MethodName) "KioskReel") ∈ lw_tbl := lw_at lw_m1 86 rfl
theorem q135 : (Jvm.Cond.fieldLinkNest "KioskReel" (233 : Nat) "KioskReel$Device" "queue" "Ljava/util/List;" "KioskReel") ∈ lw_tbl := lw_at lw_m1 93 rfl
theorem q138 : (Jvm.Cond.fieldLinkNest "KioskReel" (236 : Nat) "KioskReel$Device" "holder" "LKioskReel$Player;" "KioskReel") ∈ lw_tbl := lw_at lw_m1 96 rfl
theorem q144 : (Jvm.Cond.interfaceEntry "KioskReel" (75 : Nat)) ∈ lw_tbl := lw_at lw_m1 102 rfl
theorem q145 : (Jvm.Cond.methodLink "KioskReel" (75 : Nat) ({ cls := "java/util/List", name := "add", desc := "(Ljava/lang/Object;)Z" } : Jvm.MethodName)) ∈ lw_all := lw_g (lw_at lw_m1 103 rfl) rfl
theorem q182 : (Jvm.Cond.selects "KioskReel" ({ cls := "java/lang/Object", name := "getClass", desc := "()Ljava/lang/Class;" } : Jvm.MethodName) ({ cls := "java/lang/Object", name := "getClass", desc := "()Ljava/lang/Class;" } : Jvm.MethodName)) ∈ lw_all := lw_g (lw_at lw_m1 140 rfl) rfl
theorem q226 : (Jvm.Cond.fieldLink "KioskReel" (59 : Nat) "KioskReel" "lists" "Ljava/util/List;") ∈ lw_all := lw_g (lw_at lw_m1 184 rfl) rfl
theorem q227 : (Jvm.Cond.fieldLink "KioskReel" (63 : Nat) "KioskReel" "kiosks" "Ljava/util/List;") ∈ lw_all := lw_g (lw_at lw_m1 185 rfl) rfl
theorem q230 : (Jvm.Cond.fieldLink "KioskReel" (66 : Nat) "KioskReel" "devices" "Ljava/util/List;") ∈ lw_all := lw_g (lw_at lw_m1 188 rfl) rfl
theorem q231 : (Jvm.Cond.fieldLink "KioskReel" (69 : Nat) "KioskReel" "visitors" "Ljava/util/List;") ∈ lw_all := lw_g (lw_at lw_m1 189 rfl) rfl
theorem q232 : (Jvm.Cond.fieldLink "KioskReel" (284 : Nat) "KioskReel" "shown" "I") ∈ lw_all := lw_g (lw_at lw_m1 190 rfl) rfl
theorem q233 : (Jvm.Cond.fieldLink "KioskReel" (299 : Nat) "KioskReel" "done" "J") ∈ lw_all := lw_g (lw_at lw_m1 191 rfl) rfl
theorem q234 : (Jvm.Cond.laysFinal "KioskReel" "KioskReel" "lists" "Ljava/util/List;") ∈ lw_all := lw_g (lw_at lw_m1 192 rfl) rfl
theorem q235 : (Jvm.Cond.soleField "KioskReel" "lists") ∈ lw_all := lw_g (lw_at lw_m1 193 rfl) rfl
theorem q236 : (Jvm.Cond.laysFinal "KioskReel" "KioskReel" "kiosks" "Ljava/util/List;") ∈ lw_all := lw_g (lw_at lw_m1 194 rfl) rfl
theorem q237 : (Jvm.Cond.soleField "KioskReel" "kiosks") ∈ lw_all := lw_g (lw_at lw_m1 195 rfl) rfl
theorem q238 : (Jvm.Cond.laysFinal "KioskReel" "KioskReel" "devices" "Ljava/util/List;") ∈ lw_all := lw_g (lw_at lw_m1 196 rfl) rfl
theorem q239 : (Jvm.Cond.soleField "KioskReel" "devices") ∈ lw_all := lw_g (lw_at lw_m1 197 rfl) rfl
theorem q240 : (Jvm.Cond.laysFinal "KioskReel" "KioskReel" "visitors" "Ljava/util/List;") ∈ lw_all := lw_g (lw_at lw_m1 198 rfl) rfl
theorem q241 : (Jvm.Cond.soleField "KioskReel" "visitors") ∈ lw_all := lw_g (lw_at lw_m1 199 rfl) rfl
theorem q242 : (Jvm.Cond.lays "KioskReel" "KioskReel" "shown" "I") ∈ lw_all := lw_g (lw_at lw_m1 200 rfl) rfl
theorem q243 : (Jvm.Cond.soleField "KioskReel" "shown") ∈ lw_all := lw_g (lw_at lw_m1 201 rfl) rfl
theorem q244 : (Jvm.Cond.lays "KioskReel" "KioskReel" "done" "J") ∈ lw_all := lw_g (lw_at lw_m1 202 rfl) rfl
theorem q245 : (Jvm.Cond.soleField "KioskReel" "done") ∈ lw_all := lw_g (lw_at lw_m1 203 rfl) rfl
theorem q246 : (Jvm.Cond.superclass "KioskReel" "java/lang/Object") ∈ lw_all := lw_g (lw_at lw_m1 204 rfl) rfl
theorem q248 : (Jvm.Cond.instanceMethod ({ cls := "KioskReel", name := "done", desc := "()J" } : Jvm.MethodName)) ∈ lw_all := lw_g (lw_at lw_m1 206 rfl) rfl
theorem q249 : (Jvm.Cond.selects "KioskReel" ({ cls := "KioskReel", name := "done", desc := "()J" } : Jvm.MethodName) ({ cls := "KioskReel", name := "done", desc := "()J" } : Jvm.MethodName)) ∈ lw_all := lw_g (lw_at lw_m1 207 rfl) rfl
theorem q250 : (Jvm.Cond.code ({ cls := "KioskReel", name := "done", desc := "()J" } : Jvm.MethodName) prog_1_method_48_code (1 : Nat) (Option.some Jvm.ClassFile.FieldType.long)) ∈ lw_all := lw_g (lw_at lw_m1 208 rfl) rfl
theorem q252 : (Jvm.Cond.instanceMethod ({ cls := "KioskReel", name := "heldShare", desc := "()F" } : Jvm.MethodName)) ∈ lw_all := lw_g (lw_at lw_m1 210 rfl) rfl
theorem q253 : (Jvm.Cond.selects "KioskReel" ({ cls := "KioskReel", name := "heldShare", desc := "()F" } : Jvm.MethodName) ({ cls := "KioskReel", name := "heldShare", desc := "()F" } : Jvm.MethodName)) ∈ lw_all := lw_g (lw_at lw_m1 211 rfl) rfl
theorem q254 : (Jvm.Cond.code ({ cls := "KioskReel", name := "heldShare", desc := "()F" } : Jvm.MethodName) prog_1_method_49_code (1 : Nat) (Option.some Jvm.ClassFile.FieldType.float)) ∈ lw_all := lw_g (lw_at lw_m1 212 rfl) rfl
theorem q255 : (Jvm.Cond.static ({ cls := "KioskReel", name := "lambda$heldShare$4", desc := "(LKioskReel$Device;)Z" } : Jvm.MethodName)) ∈ lw_all := lw_g (lw_at lw_m1 213 rfl) rfl
theorem q256 : (Jvm.Cond.code ({ cls := "KioskReel", name := "lambda$heldShare$4", desc := "(LKioskReel$Device;)Z" } : Jvm.MethodName) prog_1_method_56_code (1 : Nat) (Option.some Jvm.ClassFile.FieldType.boolean)) ∈ lw_all := lw_g (lw_at lw_m1 214 rfl) rfl
theorem q257 : (Jvm.Cond.methodLink "KioskReel" (229 : Nat) ({ cls := "KioskReel", name := "countDevices", desc := "(LKioskReel$DeviceTest;)I" } : Jvm.MethodName)) ∈ lw_all := lw_g (lw_at lw_m1 215 rfl) rfl
theorem q258 : (Jvm.Cond.privateMethod ({ cls := "KioskReel", name := "countDevices", desc := "(LKioskReel$DeviceTest;)I" } : Jvm.MethodName)) ∈ lw_tbl := lw_at lw_m1 216 rfl
theorem q259 : (Jvm.Cond.instanceMethod ({ cls := "KioskReel", name := "countDevices", desc := "(LKioskReel$DeviceTest;)I" } : Jvm.MethodName)) ∈ lw_all := lw_g (lw_at lw_m1 217 rfl) rfl
theorem q260 : (Jvm.Cond.code ({ cls := "KioskReel", name := "countDevices", desc := "(LKioskReel$DeviceTest;)I" } : Jvm.MethodName) prog_1_method_15_code (5 : Nat) (Option.some Jvm.ClassFile.FieldType.int)) ∈ lw_all := lw_g (lw_at lw_m1 218 rfl) rfl
theorem q261 : (Jvm.Cond.interfaceEntry "KioskReel" (111 : Nat)) ∈ lw_tbl := lw_at lw_m1 219 rfl
theorem q262 : (Jvm.Cond.methodLink "KioskReel" (111 : Nat) ({ cls := "java/util/List", name := "iterator", desc := "()Ljava/util/Iterator;" } : Jvm.MethodName)) ∈ lw_all := lw_g (lw_at lw_m1 220 rfl) rfl
theorem q289 : (Jvm.Cond.interfaceEntry "KioskReel" (115 : Nat)) ∈ lw_tbl := lw_at lw_m2 7 rfl
theorem q290 : (Jvm.Cond.methodLink "KioskReel" (115 : Nat) ({ cls := "java/util/Iterator", name := "hasNext", desc := "()Z" } : Jvm.MethodName)) ∈ lw_all := lw_g (lw_at lw_m2 8 rfl) rfl
theorem q299 : (Jvm.Cond.interfaceEntry "KioskReel" (121 : Nat)) ∈ lw_tbl := lw_at lw_m2 17 rfl
theorem q300 : (Jvm.Cond.methodLink "KioskReel" (121 : Nat) ({ cls := "java/util/Iterator", name := "next", desc := "()Ljava/lang/Object;" } : Jvm.MethodName)) ∈ lw_all := lw_g (lw_at lw_m2 18 rfl) rfl
theorem q380 : (Jvm.Cond.interfaceEntry "KioskReel" (131 : Nat)) ∈ lw_tbl := lw_at lw_m2 98 rfl
theorem q381 : (Jvm.Cond.methodLink "KioskReel" (131 : Nat) ({ cls := "KioskReel$DeviceTest", name := "holds", desc := "(LKioskReel$Device;)Z" } : Jvm.MethodName)) ∈ lw_all := lw_g (lw_at lw_m2 99 rfl) rfl
theorem q384 : (Jvm.Cond.constantFloat "KioskReel" (356 : Nat) (1086324736 : UInt32)) ∈ lw_all := lw_g (lw_at lw_m2 102 rfl) rfl
theorem q386 : (Jvm.Cond.instanceMethod ({ cls := "KioskReel", name := "heldBits", desc := "()I" } : Jvm.MethodName)) ∈ lw_all := lw_g (lw_at lw_m2 104 rfl) rfl
theorem q387 : (Jvm.Cond.selects "KioskReel" ({ cls := "KioskReel", name := "heldBits", desc := "()I" } : Jvm.MethodName) ({ cls := "KioskReel", name := "heldBits", desc := "()I" } : Jvm.MethodName)) ∈ lw_all := lw_g (lw_at lw_m2 105 rfl) rfl
theorem q388 : (Jvm.Cond.code ({ cls := "KioskReel", name := "heldBits", desc := "()I" } : Jvm.MethodName) prog_1_method_50_code (1 : Nat) (Option.some Jvm.ClassFile.FieldType.int)) ∈ lw_all := lw_g (lw_at lw_m2 106 rfl) rfl
theorem q389 : (Jvm.Cond.methodLink "KioskReel" (357 : Nat) ({ cls := "KioskReel", name := "heldShare", desc := "()F" } : Jvm.MethodName)) ∈ lw_all := lw_g (lw_at lw_m2 107 rfl) rfl
theorem q390 : (Jvm.Cond.methodLink "KioskReel" (361 : Nat) ({ cls := "java/lang/Float", name := "floatToIntBits", desc := "(F)I" } : Jvm.MethodName)) ∈ lw_all := lw_g (lw_at lw_m2 108 rfl) rfl
theorem q401 : (Jvm.Cond.instanceMethod ({ cls := "KioskReel", name := "isSound", desc := "()Z" } : Jvm.MethodName)) ∈ lw_all := lw_g (lw_at lw_m2 119 rfl) rfl
theorem q402 : (Jvm.Cond.selects "KioskReel" ({ cls := "KioskReel", name := "isSound", desc := "()Z" } : Jvm.MethodName) ({ cls := "KioskReel", name := "isSound", desc := "()Z" } : Jvm.MethodName)) ∈ lw_all := lw_g (lw_at lw_m2 120 rfl) rfl
theorem q403 : (Jvm.Cond.code ({ cls := "KioskReel", name := "isSound", desc := "()Z" } : Jvm.MethodName) prog_1_method_53_code (5 : Nat) (Option.some Jvm.ClassFile.FieldType.boolean)) ∈ lw_all := lw_g (lw_at lw_m2 121 rfl) rfl
theorem q404 : (Jvm.Cond.classLink "KioskReel" (95 : Nat) "KioskReel$Kiosk") ∈ lw_all := lw_g (lw_at lw_m2 122 rfl) rfl
theorem q405 : (Jvm.Cond.methodLink "KioskReel" (375 : Nat) ({ cls := "KioskReel", name := "isSoundPlayer", desc := "(LKioskReel$Player;)Z" } : Jvm.MethodName)) ∈ lw_all := lw_g (lw_at lw_m2 123 rfl) rfl
theorem q406 : (Jvm.Cond.privateMethod ({ cls := "KioskReel", name := "isSoundPlayer", desc := "(LKioskReel$Player;)Z" } : Jvm.MethodName)) ∈ lw_tbl := lw_at lw_m2 124 rfl
theorem q407 : (Jvm.Cond.instanceMethod ({ cls := "KioskReel", name := "isSoundPlayer", desc := "(LKioskReel$Player;)Z" } : Jvm.MethodName)) ∈ lw_all := lw_g (lw_at lw_m2 125 rfl) rfl
theorem q408 : (Jvm.Cond.code ({ cls := "KioskReel", name := "isSoundPlayer", desc := "(LKioskReel$Player;)Z" } : Jvm.MethodName) prog_1_method_52_code (4 : Nat) (Option.some Jvm.ClassFile.FieldType.boolean)) ∈ lw_all := lw_g (lw_at lw_m2 126 rfl) rfl
theorem q409 : (Jvm.Cond.static ({ cls := "KioskReel", name := "lambda$isSoundPlayer$5", desc := "(LKioskReel$Player;LKioskReel$Device;)Z" } : Jvm.MethodName)) ∈ lw_all := lw_g (lw_at lw_m2 127 rfl) rfl
theorem q410 : (Jvm.Cond.code ({ cls := "KioskReel", name := "lambda$isSoundPlayer$5", desc := "(LKioskReel$Player;LKioskReel$Device;)Z" } : Jvm.MethodName) prog_1_method_55_code (2 : Nat) (Option.some Jvm.ClassFile.FieldType.boolean)) ∈ lw_all := lw_g (lw_at lw_m2 128 rfl) rfl
theorem q411 : (Jvm.Cond.interfaceEntry "KioskReel" (379 : Nat)) ∈ lw_tbl := lw_at lw_m2 129 rfl
theorem q412 : (Jvm.Cond.methodLink "KioskReel" (379 : Nat) ({ cls := "java/util/List", name := "contains", desc := "(Ljava/lang/Object;)Z" } : Jvm.MethodName)) ∈ lw_all := lw_g (lw_at lw_m2 130 rfl) rfl
theorem q432 : (Jvm.Cond.selects "KioskReel" ({ cls := "java/lang/Object", name := "equals", desc := "(Ljava/lang/Object;)Z" } : Jvm.MethodName) ({ cls := "java/lang/Object", name := "equals", desc := "(Ljava/lang/Object;)Z" } : Jvm.MethodName)) ∈ lw_all := lw_g (lw_at lw_m2 150 rfl) rfl
theorem q466 : (Jvm.Cond.static ({ cls := "KioskReel", name := "lambda$isSoundPlayer$6", desc := "(LKioskReel$Player;LKioskReel$Device;)Z" } : Jvm.MethodName)) ∈ lw_all := lw_g (lw_at lw_m2 184 rfl) rfl
theorem q467 : (Jvm.Cond.code ({ cls := "KioskReel", name := "lambda$isSoundPlayer$6", desc := "(LKioskReel$Player;LKioskReel$Device;)Z" } : Jvm.MethodName) prog_1_method_54_code (2 : Nat) (Option.some Jvm.ClassFile.FieldType.boolean)) ∈ lw_all := lw_g (lw_at lw_m2 185 rfl) rfl
theorem q468 : (Jvm.Cond.classLink "KioskReel" (109 : Nat) "KioskReel$Visitor") ∈ lw_all := lw_g (lw_at lw_m2 186 rfl) rfl
theorem q474 : (Jvm.Cond.instanceMethod ({ cls := "KioskReel", name := "list", desc := "()I" } : Jvm.MethodName)) ∈ lw_all := lw_g (lw_at lw_m2 192 rfl) rfl
theorem q475 : (Jvm.Cond.selects "KioskReel" ({ cls := "KioskReel", name := "list", desc := "()I" } : Jvm.MethodName) ({ cls := "KioskReel", name := "list", desc := "()I" } : Jvm.MethodName)) ∈ lw_all := lw_g (lw_at lw_m2 193 rfl) rfl
theorem q476 : (Jvm.Cond.code ({ cls := "KioskReel", name := "list", desc := "()I" } : Jvm.MethodName) prog_1_method_16_code (1 : Nat) (Option.some Jvm.ClassFile.FieldType.int)) ∈ lw_all := lw_g (lw_at lw_m2 194 rfl) rfl
theorem q477 : (Jvm.Cond.interfaceEntry "KioskReel" (81 : Nat)) ∈ lw_tbl := lw_at lw_m2 195 rfl
theorem q478 : (Jvm.Cond.methodLink "KioskReel" (81 : Nat) ({ cls := "java/util/List", name := "size", desc := "()I" } : Jvm.MethodName)) ∈ lw_all := lw_g (lw_at lw_m2 196 rfl) rfl
theorem q486 : (Jvm.Cond.methodLink "KioskReel" (136 : Nat) ({ cls := "KioskReel", name := "requireState", desc := "(Z)V" } : Jvm.MethodName)) ∈ lw_all := lw_g (lw_at lw_m2 204 rfl) rfl
theorem q487 : (Jvm.Cond.static ({ cls := "KioskReel", name := "requireState", desc := "(Z)V" } : Jvm.MethodName)) ∈ lw_all := lw_g (lw_at lw_m2 205 rfl) rfl
theorem q488 : (Jvm.Cond.code ({ cls := "KioskReel", name := "requireState", desc := "(Z)V" } : Jvm.MethodName) prog_1_method_4_code (1 : Nat) (Option.none : Option Jvm.ClassFile.FieldType)) ∈ lw_all := lw_g (lw_at lw_m2 206 rfl) rfl
theorem q489 : (Jvm.Cond.classLink "KioskReel" (10 : Nat) "java/lang/IllegalStateException") ∈ lw_all := lw_g (lw_at lw_m2 207 rfl) rfl
theorem q498 : (Jvm.Cond.methodLink "KioskReel" (12 : Nat) ({ cls := "java/lang/IllegalStateException", name := "<init>", desc := "()V" } : Jvm.MethodName)) ∈ lw_all := lw_g (lw_at lw_m2 216 rfl) rfl
theorem q504 : (Jvm.Cond.classLink "KioskReel" (93 : Nat) "KioskReel$Playlist") ∈ lw_all := lw_g (lw_at lw_m2 222 rfl) rfl
theorem q506 : (Jvm.Cond.methodLinkNest "KioskReel" (139 : Nat) ({ cls := "KioskReel$Playlist", name := "<init>", desc := "()V" } : Jvm.MethodName) "KioskReel") ∈ lw_tbl := lw_at lw_m2 224 rfl
theorem q515 : (Jvm.Cond.fieldLinkNest "KioskReel" (144 : Nat) "KioskReel$Playlist" "lines" "Ljava/util/List;" "KioskReel") ∈ lw_tbl := lw_at lw_m2 233 rfl
theorem q561 : (Jvm.Cond.instanceMethod ({ cls := "KioskReel", name := "line", desc := "(IICI)I" } : Jvm.MethodName)) ∈ lw_all := lw_g (lw_at lw_m3 39 rfl) rfl
theorem q562 : (Jvm.Cond.selects "KioskReel" ({ cls := "KioskReel", name := "line", desc := "(IICI)I" } : Jvm.MethodName) ({ cls := "KioskReel", name := "line", desc := "(IICI)I" } : Jvm.MethodName)) ∈ lw_all := lw_g (lw_at lw_m3 40 rfl) rfl
theorem q563 : (Jvm.Cond.code ({ cls := "KioskReel", name := "line", desc := "(IICI)I" } : Jvm.MethodName) prog_1_method_17_code (7 : Nat) (Option.some Jvm.ClassFile.FieldType.int)) ∈ lw_all := lw_g (lw_at lw_m3 41 rfl) rfl
theorem q564 : (Jvm.Cond.methodLink "KioskReel" (140 : Nat) ({ cls := "KioskReel", name := "listAt", desc := "(I)LKioskReel$Playlist;" } : Jvm.MethodName)) ∈ lw_all := lw_g (lw_at lw_m3 42 rfl) rfl
theorem q565 : (Jvm.Cond.privateMethod ({ cls := "KioskReel", name := "listAt", desc := "(I)LKioskReel$Playlist;" } : Jvm.MethodName)) ∈ lw_tbl := lw_at lw_m3 43 rfl
theorem q566 : (Jvm.Cond.instanceMethod ({ cls := "KioskReel", name := "listAt", desc := "(I)LKioskReel$Playlist;" } : Jvm.MethodName)) ∈ lw_all := lw_g (lw_at lw_m3 44 rfl) rfl
theorem q567 : (Jvm.Cond.code ({ cls := "KioskReel", name := "listAt", desc := "(I)LKioskReel$Playlist;" } : Jvm.MethodName) prog_1_method_10_code (2 : Nat) (Option.some (Jvm.ClassFile.FieldType.object "KioskReel$Playlist"))) ∈ lw_all := lw_g (lw_at lw_m3 45 rfl) rfl
theorem q568 : (Jvm.Cond.methodLink "KioskReel" (85 : Nat) ({ cls := "KioskReel", name := "requireIndex", desc := "(II)V" } : Jvm.MethodName)) ∈ lw_all := lw_g (lw_at lw_m3 46 rfl) rfl
theorem q569 : (Jvm.Cond.static ({ cls := "KioskReel", name := "requireIndex", desc := "(II)V" } : Jvm.MethodName)) ∈ lw_all := lw_g (lw_at lw_m3 47 rfl) rfl
theorem q570 : (Jvm.Cond.code ({ cls := "KioskReel", name := "requireIndex", desc := "(II)V" } : Jvm.MethodName) prog_1_method_2_code (2 : Nat) (Option.none : Option Jvm.ClassFile.FieldType)) ∈ lw_all := lw_g (lw_at lw_m3 48 rfl) rfl
theorem q571 : (Jvm.Cond.classLink "KioskReel" (1 : Nat) "java/lang/IndexOutOfBoundsException") ∈ lw_all := lw_g (lw_at lw_m3 49 rfl) rfl
theorem q580 : (Jvm.Cond.methodLink "KioskReel" (3 : Nat) ({ cls := "java/lang/IndexOutOfBoundsException", name := "<init>", desc := "()V" } : Jvm.MethodName)) ∈ lw_all := lw_g (lw_at lw_m3 58 rfl) rfl
theorem q586 : (Jvm.Cond.interfaceEntry "KioskReel" (89 : Nat)) ∈ lw_tbl := lw_at lw_m3 64 rfl
theorem q587 : (Jvm.Cond.methodLink "KioskReel" (89 : Nat) ({ cls := "java/util/List", name := "get", desc := "(I)Ljava/lang/Object;" } : Jvm.MethodName)) ∈ lw_all := lw_g (lw_at lw_m3 65 rfl) rfl
theorem q605 : (Jvm.Cond.methodLink "KioskReel" (147 : Nat) ({ cls := "KioskReel", name := "lineOf", desc := "(CI)LKioskReel$Line;" } : Jvm.MethodName)) ∈ lw_all := lw_g (lw_at lw_m3 83 rfl) rfl
theorem q606 : (Jvm.Cond.static ({ cls := "KioskReel", name := "lineOf", desc := "(CI)LKioskReel$Line;" } : Jvm.MethodName)) ∈ lw_all := lw_g (lw_at lw_m3 84 rfl) rfl
theorem q607 : (Jvm.Cond.code ({ cls := "KioskReel", name := "lineOf", desc := "(CI)LKioskReel$Line;" } : Jvm.MethodName) prog_1_method_6_code (2 : Nat) (Option.some (Jvm.ClassFile.FieldType.object "KioskReel$Line"))) ∈ lw_all := lw_g (lw_at lw_m3 85 rfl) rfl
theorem q608 : (Jvm.Cond.methodLink "KioskReel" (18 : Nat) ({ cls := "KioskReel", name := "isIn", desc := "(III)Z" } : Jvm.MethodName)) ∈ lw_all := lw_g (lw_at lw_m3 86 rfl) rfl
theorem q609 : (Jvm.Cond.static ({ cls := "KioskReel", name := "isIn", desc := "(III)Z" } : Jvm.MethodName)) ∈ lw_all := lw_g (lw_at lw_m3 87 rfl) rfl
theorem q610 : (Jvm.Cond.code ({ cls := "KioskReel", name := "isIn", desc := "(III)Z" } : Jvm.MethodName) prog_1_method_1_code (3 : Nat) (Option.some Jvm.ClassFile.FieldType.boolean)) ∈ lw_all := lw_g (lw_at lw_m3 88 rfl) rfl
theorem q611 : (Jvm.Cond.classLink "KioskReel" (22 : Nat) "KioskReel$Show") ∈ lw_all := lw_g (lw_at lw_m3 89 rfl) rfl
theorem q613 : (Jvm.Cond.methodLink "KioskReel" (24 : Nat) ({ cls := "KioskReel$Show", name := "<init>", desc := "(I)V" } : Jvm.MethodName)) ∈ lw_all := lw_g (lw_at lw_m3 91 rfl) rfl
theorem q633 : (Jvm.Cond.classLink "KioskReel" (27 : Nat) "KioskReel$Pause") ∈ lw_all := lw_g (lw_at lw_m3 111 rfl) rfl
theorem q635 : (Jvm.Cond.methodLink "KioskReel" (29 : Nat) ({ cls := "KioskReel$Pause", name := "<init>", desc := "(I)V" } : Jvm.MethodName)) ∈ lw_all := lw_g (lw_at lw_m3 113 rfl) rfl
theorem q641 : (Jvm.Cond.classLink "KioskReel" (30 : Nat) "KioskReel$Take") ∈ lw_all := lw_g (lw_at lw_m3 119 rfl) rfl
theorem q643 : (Jvm.Cond.methodLink "KioskReel" (32 : Nat) ({ cls := "KioskReel$Take", name := "<init>", desc := "(I)V" } : Jvm.MethodName)) ∈ lw_all := lw_g (lw_at lw_m3 121 rfl) rfl
theorem q649 : (Jvm.Cond.classLink "KioskReel" (33 : Nat) "KioskReel$Free") ∈ lw_all := lw_g (lw_at lw_m3 127 rfl) rfl
theorem q651 : (Jvm.Cond.methodLink "KioskReel" (35 : Nat) ({ cls := "KioskReel$Free", name := "<init>", desc := "(I)V" } : Jvm.MethodName)) ∈ lw_all := lw_g (lw_at lw_m3 129 rfl) rfl
theorem q657 : (Jvm.Cond.classLink "KioskReel" (36 : Nat) "KioskReel$GoTo") ∈ lw_all := lw_g (lw_at lw_m3 135 rfl) rfl
theorem q659 : (Jvm.Cond.methodLink "KioskReel" (38 : Nat) ({ cls := "KioskReel$GoTo", name := "<init>", desc := "(I)V" } : Jvm.MethodName)) ∈ lw_all := lw_g (lw_at lw_m3 137 rfl) rfl
theorem q665 : (Jvm.Cond.classLink "KioskReel" (39 : Nat) "KioskReel$IfAlone") ∈ lw_all := lw_g (lw_at lw_m3 143 rfl) rfl
theorem q667 : (Jvm.Cond.methodLink "KioskReel" (41 : Nat) ({ cls := "KioskReel$IfAlone", name := "<init>", desc := "(I)V" } : Jvm.MethodName)) ∈ lw_all := lw_g (lw_at lw_m3 145 rfl) rfl
theorem q673 : (Jvm.Cond.classLink "KioskReel" (42 : Nat) "KioskReel$Loop") ∈ lw_all := lw_g (lw_at lw_m3 151 rfl) rfl
theorem q675 : (Jvm.Cond.methodLink "KioskReel" (44 : Nat) ({ cls := "KioskReel$Loop", name := "<init>", desc := "(I)V" } : Jvm.MethodName)) ∈ lw_all := lw_g (lw_at lw_m3 153 rfl) rfl
theorem q681 : (Jvm.Cond.classLink "KioskReel" (45 : Nat) "KioskReel$SetCount") ∈ lw_all := lw_g (lw_at lw_m3 159 rfl) rfl
theorem q683 : (Jvm.Cond.methodLink "KioskReel" (47 : Nat) ({ cls := "KioskReel$SetCount", name := "<init>", desc := "(I)V" } : Jvm.MethodName)) ∈ lw_all := lw_g (lw_at lw_m3 161 rfl) rfl
theorem q689 : (Jvm.Cond.classLink "KioskReel" (48 : Nat) "KioskReel$PlayList") ∈ lw_all := lw_g (lw_at lw_m3 167 rfl) rfl
theorem q691 : (Jvm.Cond.methodLink "KioskReel" (50 : Nat) ({ cls := "KioskReel$PlayList", name := "<init>", desc := "(I)V" } : Jvm.MethodName)) ∈ lw_all := lw_g (lw_at lw_m3 169 rfl) rfl
theorem q697 : (Jvm.Cond.methodLink "KioskReel" (151 : Nat) ({ cls := "KioskReel", name := "requireValid", desc := "(Z)V" } : Jvm.MethodName)) ∈ lw_all := lw_g (lw_at lw_m3 175 rfl) rfl
theorem q698 : (Jvm.Cond.static ({ cls := "KioskReel", name := "requireValid", desc := "(Z)V" } : Jvm.MethodName)) ∈ lw_all := lw_g (lw_at lw_m3 176 rfl) rfl
theorem q699 : (Jvm.Cond.code ({ cls := "KioskReel", name := "requireValid", desc := "(Z)V" } : Jvm.MethodName) prog_1_method_3_code (1 : Nat) (Option.none : Option Jvm.ClassFile.FieldType)) ∈ lw_all := lw_g (lw_at lw_m3 177 rfl) rfl
theorem q700 : (Jvm.Cond.classLink "KioskReel" (7 : Nat) "java/lang/IllegalArgumentException") ∈ lw_all := lw_g (lw_at lw_m3 178 rfl) rfl
theorem q709 : (Jvm.Cond.methodLink "KioskReel" (9 : Nat) ({ cls := "java/lang/IllegalArgumentException", name := "<init>", desc := "()V" } : Jvm.MethodName)) ∈ lw_all := lw_g (lw_at lw_m3 187 rfl) rfl
theorem q715 : (Jvm.Cond.interfaceEntry "KioskReel" (154 : Nat)) ∈ lw_tbl := lw_at lw_m3 193 rfl
theorem q716 : (Jvm.Cond.methodLink "KioskReel" (154 : Nat) ({ cls := "java/util/List", name := "add", desc := "(ILjava/lang/Object;)V" } : Jvm.MethodName)) ∈ lw_all := lw_g (lw_at lw_m3 194 rfl) rfl
theorem q962 : (Jvm.Cond.methodLink "KioskReel" (157 : Nat) ({ cls := "KioskReel$Playlist", name := "change", desc := "()V" } : Jvm.MethodName)) ∈ lw_all := lw_g (lw_at lw_m4 200 rfl) rfl
theorem q974 : (Jvm.Cond.instanceMethod ({ cls := "KioskReel", name := "cut", desc := "(II)C" } : Jvm.MethodName)) ∈ lw_all := lw_g (lw_at lw_m4 212 rfl) rfl
theorem q975 : (Jvm.Cond.selects "KioskReel" ({ cls := "KioskReel", name := "cut", desc := "(II)C" } : Jvm.MethodName) ({ cls := "KioskReel", name := "cut", desc := "(II)C" } : Jvm.MethodName)) ∈ lw_all := lw_g (lw_at lw_m4 213 rfl) rfl
theorem q976 : (Jvm.Cond.code ({ cls := "KioskReel", name := "cut", desc := "(II)C" } : Jvm.MethodName) prog_1_method_19_code (5 : Nat) (Option.some Jvm.ClassFile.FieldType.char)) ∈ lw_all := lw_g (lw_at lw_m4 214 rfl) rfl
theorem q977 : (Jvm.Cond.interfaceEntry "KioskReel" (176 : Nat)) ∈ lw_tbl := lw_at lw_m4 215 rfl
theorem q978 : (Jvm.Cond.methodLink "KioskReel" (176 : Nat) ({ cls := "java/util/List", name := "remove", desc := "(I)Ljava/lang/Object;" } : Jvm.MethodName)) ∈ lw_all := lw_g (lw_at lw_m4 216 rfl) rfl
theorem q990 : (Jvm.Cond.classLink "KioskReel" (179 : Nat) "KioskReel$Line") ∈ lw_all := lw_g (lw_at lw_m4 228 rfl) rfl
theorem q991 : (Jvm.Cond.methodLink "KioskReel" (181 : Nat) ({ cls := "KioskReel", name := "kindOf", desc := "(LKioskReel$Line;)C" } : Jvm.MethodName)) ∈ lw_all := lw_g (lw_at lw_m4 229 rfl) rfl
theorem q992 : (Jvm.Cond.static ({ cls := "KioskReel", name := "kindOf", desc := "(LKioskReel$Line;)C" } : Jvm.MethodName)) ∈ lw_all := lw_g (lw_at lw_m4 230 rfl) rfl
theorem q993 : (Jvm.Cond.code ({ cls := "KioskReel", name := "kindOf", desc := "(LKioskReel$Line;)C" } : Jvm.MethodName) prog_1_method_18_code (6 : Nat) (Option.some Jvm.ClassFile.FieldType.char)) ∈ lw_all := lw_g (lw_at lw_m4 231 rfl) rfl
theorem q994 : (Jvm.Cond.stringRef "KioskReel" (160 : Nat) "swdfgvlcp") ∈ lw_tbl := lw_at lw_m4 232 rfl
theorem q995 : (Jvm.Cond.methodLink "KioskReel" (162 : Nat) ({ cls := "java/lang/String", name := "toCharArray", desc := "()[C" } : Jvm.MethodName)) ∈ lw_all := lw_g (lw_at lw_m4 233 rfl) rfl
theorem q1015 : (Jvm.Cond.methodLink "KioskReel" (168 : Nat) ({ cls := "KioskReel", name := "roomFor", desc := "(CI)[LKioskReel$Line;" } : Jvm.MethodName)) ∈ lw_all := lw_g (lw_at lw_m5 13 rfl) rfl
theorem q1016 : (Jvm.Cond.static ({ cls := "KioskReel", name := "roomFor", desc := "(CI)[LKioskReel$Line;" } : Jvm.MethodName)) ∈ lw_all := lw_g (lw_at lw_m5 14 rfl) rfl
theorem q1017 : (Jvm.Cond.code ({ cls := "KioskReel", name := "roomFor", desc := "(CI)[LKioskReel$Line;" } : Jvm.MethodName) prog_1_method_7_code (2 : Nat) (Option.some (Jvm.ClassFile.FieldType.array (Jvm.ClassFile.FieldType.object "KioskReel$Line")))) ∈ lw_all := lw_g (lw_at lw_m5 15 rfl) rfl
theorem q1027 : (Jvm.Cond.methodLink "KioskReel" (172 : Nat) ({ cls := "KioskReel", name := "isStored", desc := "([LKioskReel$Line;ILKioskReel$Line;)Z" } : Jvm.MethodName)) ∈ lw_all := lw_g (lw_at lw_m5 25 rfl) rfl
theorem q1028 : (Jvm.Cond.static ({ cls := "KioskReel", name := "isStored", desc := "([LKioskReel$Line;ILKioskReel$Line;)Z" } : Jvm.MethodName)) ∈ lw_all := lw_g (lw_at lw_m5 26 rfl) rfl
theorem q1029 : (Jvm.Cond.codeWith ({ cls := "KioskReel", name := "isStored", desc := "([LKioskReel$Line;ILKioskReel$Line;)Z" } : Jvm.MethodName) prog_1_method_8_code (4 : Nat) (Option.some Jvm.ClassFile.FieldType.boolean) [((0 : Nat), (5 : Nat), (6 : Nat), (51 : Nat))]) ∈ lw_all := lw_g (lw_at lw_m5 27 rfl) rfl
theorem q1030 : (Jvm.Cond.classLink "KioskReel" (51 : Nat) "java/lang/ArrayStoreException") ∈ lw_all := lw_g (lw_at lw_m5 28 rfl) rfl
theorem q1049 : (Jvm.Cond.instanceMethod ({ cls := "KioskReel", name := "lines", desc := "(IC)I" } : Jvm.MethodName)) ∈ lw_all := lw_g (lw_at lw_m5 47 rfl) rfl
theorem q1050 : (Jvm.Cond.selects "KioskReel" ({ cls := "KioskReel", name := "lines", desc := "(IC)I" } : Jvm.MethodName) ({ cls := "KioskReel", name := "lines", desc := "(IC)I" } : Jvm.MethodName)) ∈ lw_all := lw_g (lw_at lw_m5 48 rfl) rfl
theorem q1051 : (Jvm.Cond.code ({ cls := "KioskReel", name := "lines", desc := "(IC)I" } : Jvm.MethodName) prog_1_method_20_code (8 : Nat) (Option.some Jvm.ClassFile.FieldType.int)) ∈ lw_all := lw_g (lw_at lw_m5 49 rfl) rfl
theorem q1056 : (Jvm.Cond.instanceMethod ({ cls := "KioskReel", name := "kiosk", desc := "()I" } : Jvm.MethodName)) ∈ lw_all := lw_g (lw_at lw_m5 54 rfl) rfl
theorem q1057 : (Jvm.Cond.selects "KioskReel" ({ cls := "KioskReel", name := "kiosk", desc := "()I" } : Jvm.MethodName) ({ cls := "KioskReel", name := "kiosk", desc := "()I" } : Jvm.MethodName)) ∈ lw_all := lw_g (lw_at lw_m5 55 rfl) rfl
theorem q1058 : (Jvm.Cond.code ({ cls := "KioskReel", name := "kiosk", desc := "()I" } : Jvm.MethodName) prog_1_method_21_code (1 : Nat) (Option.some Jvm.ClassFile.FieldType.int)) ∈ lw_all := lw_g (lw_at lw_m5 56 rfl) rfl
theorem q1060 : (Jvm.Cond.methodLink "KioskReel" (185 : Nat) ({ cls := "KioskReel$Kiosk", name := "<init>", desc := "(I)V" } : Jvm.MethodName)) ∈ lw_all := lw_g (lw_at lw_m5 58 rfl) rfl
theorem q1067 : (Jvm.Cond.fieldLinkNest "KioskReel" (210 : Nat) "KioskReel$Kiosk" "number" "I" "KioskReel") ∈ lw_tbl := lw_at lw_m5 65 rfl
theorem q1069 : (Jvm.Cond.fieldLinkNest "KioskReel" (214 : Nat) "KioskReel$Kiosk" "players" "Ljava/util/List;" "KioskReel") ∈ lw_tbl := lw_at lw_m5 67 rfl
theorem q1071 : (Jvm.Cond.fieldLinkNest "KioskReel" (101 : Nat) "KioskReel$Kiosk" "own" "LKioskReel$Player;" "KioskReel") ∈ lw_tbl := lw_at lw_m5 69 rfl
theorem q1072 : (Jvm.Cond.fieldLinkNest "KioskReel" (242 : Nat) "KioskReel$Kiosk" "isFrozen" "Z" "KioskReel") ∈ lw_tbl := lw_at lw_m5 70 rfl
theorem q1073 : (Jvm.Cond.fieldLinkNest "KioskReel" (186 : Nat) "KioskReel$Kiosk" "isOut" "Z" "KioskReel") ∈ lw_tbl := lw_at lw_m5 71 rfl
theorem q1074 : (Jvm.Cond.fieldLinkNest "KioskReel" (245 : Nat) "KioskReel$Kiosk" "frozen" "I" "KioskReel") ∈ lw_tbl := lw_at lw_m5 72 rfl
theorem q1076 : (Jvm.Cond.fieldLinkNest "KioskReel" (281 : Nat) "KioskReel$Kiosk" "slide" "I" "KioskReel") ∈ lw_tbl := lw_at lw_m5 74 rfl
theorem q1096 : (Jvm.Cond.instanceMethod ({ cls := "KioskReel", name := "start", desc := "(II)I" } : Jvm.MethodName)) ∈ lw_all := lw_g (lw_at lw_m5 94 rfl) rfl
theorem q1097 : (Jvm.Cond.selects "KioskReel" ({ cls := "KioskReel", name := "start", desc := "(II)I" } : Jvm.MethodName) ({ cls := "KioskReel", name := "start", desc := "(II)I" } : Jvm.MethodName)) ∈ lw_all := lw_g (lw_at lw_m5 95 rfl) rfl
theorem q1098 : (Jvm.Cond.code ({ cls := "KioskReel", name := "start", desc := "(II)I" } : Jvm.MethodName) prog_1_method_24_code (5 : Nat) (Option.some Jvm.ClassFile.FieldType.int)) ∈ lw_all := lw_g (lw_at lw_m5 96 rfl) rfl
theorem q1099 : (Jvm.Cond.methodLink "KioskReel" (97 : Nat) ({ cls := "KioskReel", name := "kioskAt", desc := "(I)LKioskReel$Kiosk;" } : Jvm.MethodName)) ∈ lw_all := lw_g (lw_at lw_m5 97 rfl) rfl
theorem q1100 : (Jvm.Cond.privateMethod ({ cls := "KioskReel", name := "kioskAt", desc := "(I)LKioskReel$Kiosk;" } : Jvm.MethodName)) ∈ lw_tbl := lw_at lw_m5 98 rfl
theorem q1101 : (Jvm.Cond.instanceMethod ({ cls := "KioskReel", name := "kioskAt", desc := "(I)LKioskReel$Kiosk;" } : Jvm.MethodName)) ∈ lw_all := lw_g (lw_at lw_m5 99 rfl) rfl
theorem q1102 : (Jvm.Cond.code ({ cls := "KioskReel", name := "kioskAt", desc := "(I)LKioskReel$Kiosk;" } : Jvm.MethodName) prog_1_method_11_code (2 : Nat) (Option.some (Jvm.ClassFile.FieldType.object "KioskReel$Kiosk"))) ∈ lw_all := lw_g (lw_at lw_m5 100 rfl) rfl
theorem q1103 : (Jvm.Cond.classLink "KioskReel" (191 : Nat) "KioskReel$Player") ∈ lw_all := lw_g (lw_at lw_m5 101 rfl) rfl
theorem q1105 : (Jvm.Cond.methodLink "KioskReel" (200 : Nat) ({ cls := "KioskReel$Player", name := "<init>", desc := "(ILKioskReel$Playlist;)V" } : Jvm.MethodName)) ∈ lw_all := lw_g (lw_at lw_m5 103 rfl) rfl
theorem q1120 : (Jvm.Cond.fieldLinkNest "KioskReel" (303 : Nat) "KioskReel$Frame" "list" "LKioskReel$Playlist;" "KioskReel") ∈ lw_tbl := lw_at lw_m5 118 rfl
theorem q1122 : (Jvm.Cond.fieldLinkNest "KioskReel" (314 : Nat) "KioskReel$Frame" "lines" "[LKioskReel$Line;" "KioskReel") ∈ lw_tbl := lw_at lw_m5 120 rfl
theorem q1127 : (Jvm.Cond.fieldLinkNest "KioskReel" (258 : Nat) "KioskReel$Frame" "next" "I" "KioskReel") ∈ lw_tbl := lw_at lw_m5 125 rfl
theorem q1138 : (Jvm.Cond.fieldLinkNest "KioskReel" (248 : Nat) "KioskReel$Player" "home" "I" "KioskReel") ∈ lw_tbl := lw_at lw_m5 136 rfl
theorem q1141 : (Jvm.Cond.fieldLinkNest "KioskReel" (251 : Nat) "KioskReel$Player" "pile" "Ljava/util/List;" "KioskReel") ∈ lw_tbl := lw_at lw_m5 139 rfl
theorem q1143 : (Jvm.Cond.fieldLinkNest "KioskReel" (190 : Nat) "KioskReel$Player" "at" "LKioskReel$Kiosk;" "KioskReel") ∈ lw_tbl := lw_at lw_m5 141 rfl
theorem q1146 : (Jvm.Cond.fieldLinkNest "KioskReel" (262 : Nat) "KioskReel$Player" "count" "I" "KioskReel") ∈ lw_tbl := lw_at lw_m5 144 rfl
theorem q1148 : (Jvm.Cond.fieldLinkNest "KioskReel" (268 : Nat) "KioskReel$Player" "wait" "I" "KioskReel") ∈ lw_tbl := lw_at lw_m5 146 rfl
theorem q1151 : (Jvm.Cond.fieldLinkNest "KioskReel" (265 : Nat) "KioskReel$Player" "isQueued" "Z" "KioskReel") ∈ lw_tbl := lw_at lw_m5 149 rfl
theorem q1165 : (Jvm.Cond.methodLink "KioskReel" (203 : Nat) ({ cls := "KioskReel", name := "nearest", desc := "(I)LKioskReel$Kiosk;" } : Jvm.MethodName)) ∈ lw_all := lw_g (lw_at lw_m5 163 rfl) rfl
theorem q1166 : (Jvm.Cond.privateMethod ({ cls := "KioskReel", name := "nearest", desc := "(I)LKioskReel$Kiosk;" } : Jvm.MethodName)) ∈ lw_tbl := lw_at lw_m5 164 rfl
theorem q1167 : (Jvm.Cond.instanceMethod ({ cls := "KioskReel", name := "nearest", desc := "(I)LKioskReel$Kiosk;" } : Jvm.MethodName)) ∈ lw_all := lw_g (lw_at lw_m5 165 rfl) rfl
theorem q1168 : (Jvm.Cond.code ({ cls := "KioskReel", name := "nearest", desc := "(I)LKioskReel$Kiosk;" } : Jvm.MethodName) prog_1_method_22_code (5 : Nat) (Option.some (Jvm.ClassFile.FieldType.object "KioskReel$Kiosk"))) ∈ lw_all := lw_g (lw_at lw_m5 166 rfl) rfl
theorem q1169 : (Jvm.Cond.methodLink "KioskReel" (206 : Nat) ({ cls := "KioskReel", name := "settle", desc := "(LKioskReel$Player;LKioskReel$Kiosk;)V" } : Jvm.MethodName)) ∈ lw_all := lw_g (lw_at lw_m5 167 rfl) rfl
theorem q1170 : (Jvm.Cond.privateMethod ({ cls := "KioskReel", name := "settle", desc := "(LKioskReel$Player;LKioskReel$Kiosk;)V" } : Jvm.MethodName)) ∈ lw_tbl := lw_at lw_m5 168 rfl
theorem q1171 : (Jvm.Cond.instanceMethod ({ cls := "KioskReel", name := "settle", desc := "(LKioskReel$Player;LKioskReel$Kiosk;)V" } : Jvm.MethodName)) ∈ lw_all := lw_g (lw_at lw_m5 169 rfl) rfl
theorem q1172 : (Jvm.Cond.code ({ cls := "KioskReel", name := "settle", desc := "(LKioskReel$Player;LKioskReel$Kiosk;)V" } : Jvm.MethodName) prog_1_method_23_code (3 : Nat) (Option.none : Option Jvm.ClassFile.FieldType)) ∈ lw_all := lw_g (lw_at lw_m5 170 rfl) rfl
theorem q1173 : (Jvm.Cond.methodLink "KioskReel" (196 : Nat) ({ cls := "KioskReel$Kiosk", name := "welcome", desc := "(LKioskReel$Player;)V" } : Jvm.MethodName)) ∈ lw_all := lw_g (lw_at lw_m5 171 rfl) rfl
theorem q1186 : (Jvm.Cond.instanceMethod ({ cls := "KioskReel", name := "stop", desc := "(I)I" } : Jvm.MethodName)) ∈ lw_all := lw_g (lw_at lw_m5 184 rfl) rfl
theorem q1187 : (Jvm.Cond.selects "KioskReel" ({ cls := "KioskReel", name := "stop", desc := "(I)I" } : Jvm.MethodName) ({ cls := "KioskReel", name := "stop", desc := "(I)I" } : Jvm.MethodName)) ∈ lw_all := lw_g (lw_at lw_m5 185 rfl) rfl
theorem q1188 : (Jvm.Cond.code ({ cls := "KioskReel", name := "stop", desc := "(I)I" } : Jvm.MethodName) prog_1_method_26_code (7 : Nat) (Option.some Jvm.ClassFile.FieldType.int)) ∈ lw_all := lw_g (lw_at lw_m5 186 rfl) rfl
theorem q1189 : (Jvm.Cond.methodLink "KioskReel" (219 : Nat) ({ cls := "KioskReel", name := "playerOf", desc := "(I)LKioskReel$Player;" } : Jvm.MethodName)) ∈ lw_all := lw_g (lw_at lw_m5 187 rfl) rfl
theorem q1190 : (Jvm.Cond.privateMethod ({ cls := "KioskReel", name := "playerOf", desc := "(I)LKioskReel$Player;" } : Jvm.MethodName)) ∈ lw_tbl := lw_at lw_m5 188 rfl
theorem q1191 : (Jvm.Cond.instanceMethod ({ cls := "KioskReel", name := "playerOf", desc := "(I)LKioskReel$Player;" } : Jvm.MethodName)) ∈ lw_all := lw_g (lw_at lw_m5 189 rfl) rfl
theorem q1192 : (Jvm.Cond.code ({ cls := "KioskReel", name := "playerOf", desc := "(I)LKioskReel$Player;" } : Jvm.MethodName) prog_1_method_12_code (3 : Nat) (Option.some (Jvm.ClassFile.FieldType.object "KioskReel$Player"))) ∈ lw_all := lw_g (lw_at lw_m5 190 rfl) rfl
theorem q1193 : (Jvm.Cond.methodLink "KioskReel" (105 : Nat) ({ cls := "KioskReel", name := "requireElement", desc := "(Z)V" } : Jvm.MethodName)) ∈ lw_all := lw_g (lw_at lw_m5 191 rfl) rfl
theorem q1194 : (Jvm.Cond.static ({ cls := "KioskReel", name := "requireElement", desc := "(Z)V" } : Jvm.MethodName)) ∈ lw_all := lw_g (lw_at lw_m5 192 rfl) rfl
theorem q1195 : (Jvm.Cond.code ({ cls := "KioskReel", name := "requireElement", desc := "(Z)V" } : Jvm.MethodName) prog_1_method_5_code (1 : Nat) (Option.none : Option Jvm.ClassFile.FieldType)) ∈ lw_all := lw_g (lw_at lw_m5 193 rfl) rfl
theorem q1196 : (Jvm.Cond.classLink "KioskReel" (13 : Nat) "java/util/NoSuchElementException") ∈ lw_all := lw_g (lw_at lw_m5 194 rfl) rfl
theorem q1197 : (Jvm.Cond.methodLink "KioskReel" (15 : Nat) ({ cls := "java/util/NoSuchElementException", name := "<init>", desc := "()V" } : Jvm.MethodName)) ∈ lw_all := lw_g (lw_at lw_m5 195 rfl) rfl
theorem q1198 : (Jvm.Cond.methodLink "KioskReel" (223 : Nat) ({ cls := "KioskReel", name := "leave", desc := "(LKioskReel$Player;)V" } : Jvm.MethodName)) ∈ lw_all := lw_g (lw_at lw_m5 196 rfl) rfl
theorem q1199 : (Jvm.Cond.privateMethod ({ cls := "KioskReel", name := "leave", desc := "(LKioskReel$Player;)V" } : Jvm.MethodName)) ∈ lw_tbl := lw_at lw_m5 197 rfl
theorem q1200 : (Jvm.Cond.instanceMethod ({ cls := "KioskReel", name := "leave", desc := "(LKioskReel$Player;)V" } : Jvm.MethodName)) ∈ lw_all := lw_g (lw_at lw_m5 198 rfl) rfl
theorem q1201 : (Jvm.Cond.code ({ cls := "KioskReel", name := "leave", desc := "(LKioskReel$Player;)V" } : Jvm.MethodName) prog_1_method_25_code (3 : Nat) (Option.none : Option Jvm.ClassFile.FieldType)) ∈ lw_all := lw_g (lw_at lw_m5 199 rfl) rfl
theorem q1202 : (Jvm.Cond.interfaceEntry "KioskReel" (217 : Nat)) ∈ lw_tbl := lw_at lw_m5 200 rfl
theorem q1203 : (Jvm.Cond.methodLink "KioskReel" (217 : Nat) ({ cls := "java/util/List", name := "remove", desc := "(Ljava/lang/Object;)Z" } : Jvm.MethodName)) ∈ lw_all := lw_g (lw_at lw_m5 201 rfl) rfl
theorem q1211 : (Jvm.Cond.static ({ cls := "KioskReel", name := "lambda$stop$0", desc := "(LKioskReel$Player;LKioskReel$Device;)Z" } : Jvm.MethodName)) ∈ lw_all := lw_g (lw_at lw_m5 209 rfl) rfl
theorem q1212 : (Jvm.Cond.code ({ cls := "KioskReel", name := "lambda$stop$0", desc := "(LKioskReel$Player;LKioskReel$Device;)Z" } : Jvm.MethodName) prog_1_method_60_code (2 : Nat) (Option.some Jvm.ClassFile.FieldType.boolean)) ∈ lw_all := lw_g (lw_at lw_m5 210 rfl) rfl
theorem q1213 : (Jvm.Cond.methodLink "KioskReel" (239 : Nat) ({ cls := "KioskReel$Device", name := "free", desc := "()V" } : Jvm.MethodName)) ∈ lw_all := lw_g (lw_at lw_m5 211 rfl) rfl
theorem q1233 : (Jvm.Cond.instanceMethod ({ cls := "KioskReel", name := "freeze", desc := "(I)Z" } : Jvm.MethodName)) ∈ lw_all := lw_g (lw_at lw_m5 231 rfl) rfl
theorem q1234 : (Jvm.Cond.selects "KioskReel" ({ cls := "KioskReel", name := "freeze", desc := "(I)Z" } : Jvm.MethodName) ({ cls := "KioskReel", name := "freeze", desc := "(I)Z" } : Jvm.MethodName)) ∈ lw_all := lw_g (lw_at lw_m5 232 rfl) rfl
theorem q1235 : (Jvm.Cond.code ({ cls := "KioskReel", name := "freeze", desc := "(I)Z" } : Jvm.MethodName) prog_1_method_27_code (4 : Nat) (Option.some Jvm.ClassFile.FieldType.boolean)) ∈ lw_all := lw_g (lw_at lw_m5 233 rfl) rfl
theorem q1240 : (Jvm.Cond.instanceMethod ({ cls := "KioskReel", name := "thaw", desc := "(I)I" } : Jvm.MethodName)) ∈ lw_all := lw_g (lw_at lw_m5 238 rfl) rfl
theorem q1241 : (Jvm.Cond.selects "KioskReel" ({ cls := "KioskReel", name := "thaw", desc := "(I)I" } : Jvm.MethodName) ({ cls := "KioskReel", name := "thaw", desc := "(I)I" } : Jvm.MethodName)) ∈ lw_all := lw_g (lw_at lw_m5 239 rfl) rfl
theorem q1242 : (Jvm.Cond.code ({ cls := "KioskReel", name := "thaw", desc := "(I)I" } : Jvm.MethodName) prog_1_method_28_code (9 : Nat) (Option.some Jvm.ClassFile.FieldType.int)) ∈ lw_all := lw_g (lw_at lw_m6 0 rfl) rfl
theorem q1247 : (Jvm.Cond.instanceMethod ({ cls := "KioskReel", name := "state", desc := "(I)C" } : Jvm.MethodName)) ∈ lw_all := lw_g (lw_at lw_m6 5 rfl) rfl
theorem q1248 : (Jvm.Cond.selects "KioskReel" ({ cls := "KioskReel", name := "state", desc := "(I)C" } : Jvm.MethodName) ({ cls := "KioskReel", name := "state", desc := "(I)C" } : Jvm.MethodName)) ∈ lw_all := lw_g (lw_at lw_m6 6 rfl) rfl
theorem q1249 : (Jvm.Cond.code ({ cls := "KioskReel", name := "state", desc := "(I)C" } : Jvm.MethodName) prog_1_method_29_code (3 : Nat) (Option.some Jvm.ClassFile.FieldType.char)) ∈ lw_all := lw_g (lw_at lw_m6 7 rfl) rfl
theorem q1254 : (Jvm.Cond.instanceMethod ({ cls := "KioskReel", name := "plays", desc := "(I)I" } : Jvm.MethodName)) ∈ lw_all := lw_g (lw_at lw_m6 12 rfl) rfl
theorem q1255 : (Jvm.Cond.selects "KioskReel" ({ cls := "KioskReel", name := "plays", desc := "(I)I" } : Jvm.MethodName) ({ cls := "KioskReel", name := "plays", desc := "(I)I" } : Jvm.MethodName)) ∈ lw_all := lw_g (lw_at lw_m6 13 rfl) rfl
theorem q1256 : (Jvm.Cond.code ({ cls := "KioskReel", name := "plays", desc := "(I)I" } : Jvm.MethodName) prog_1_method_30_code (3 : Nat) (Option.some Jvm.ClassFile.FieldType.int)) ∈ lw_all := lw_g (lw_at lw_m6 14 rfl) rfl
theorem q1261 : (Jvm.Cond.instanceMethod ({ cls := "KioskReel", name := "playerAt", desc := "(II)I" } : Jvm.MethodName)) ∈ lw_all := lw_g (lw_at lw_m6 19 rfl) rfl
theorem q1262 : (Jvm.Cond.selects "KioskReel" ({ cls := "KioskReel", name := "playerAt", desc := "(II)I" } : Jvm.MethodName) ({ cls := "KioskReel", name := "playerAt", desc := "(II)I" } : Jvm.MethodName)) ∈ lw_all := lw_g (lw_at lw_m6 20 rfl) rfl
theorem q1263 : (Jvm.Cond.code ({ cls := "KioskReel", name := "playerAt", desc := "(II)I" } : Jvm.MethodName) prog_1_method_31_code (4 : Nat) (Option.some Jvm.ClassFile.FieldType.int)) ∈ lw_all := lw_g (lw_at lw_m6 21 rfl) rfl
theorem q1268 : (Jvm.Cond.instanceMethod ({ cls := "KioskReel", name := "next", desc := "(I)I" } : Jvm.MethodName)) ∈ lw_all := lw_g (lw_at lw_m6 26 rfl) rfl
theorem q1269 : (Jvm.Cond.selects "KioskReel" ({ cls := "KioskReel", name := "next", desc := "(I)I" } : Jvm.MethodName) ({ cls := "KioskReel", name := "next", desc := "(I)I" } : Jvm.MethodName)) ∈ lw_all := lw_g (lw_at lw_m6 27 rfl) rfl
theorem q1270 : (Jvm.Cond.code ({ cls := "KioskReel", name := "next", desc := "(I)I" } : Jvm.MethodName) prog_1_method_32_code (3 : Nat) (Option.some Jvm.ClassFile.FieldType.int)) ∈ lw_all := lw_g (lw_at lw_m6 28 rfl) rfl
theorem q1271 : (Jvm.Cond.methodLink "KioskReel" (254 : Nat) ({ cls := "KioskReel$Player", name := "top", desc := "()LKioskReel$Frame;" } : Jvm.MethodName)) ∈ lw_all := lw_g (lw_at lw_m6 29 rfl) rfl
theorem q1283 : (Jvm.Cond.instanceMethod ({ cls := "KioskReel", name := "count", desc := "(I)I" } : Jvm.MethodName)) ∈ lw_all := lw_g (lw_at lw_m6 41 rfl) rfl
theorem q1284 : (Jvm.Cond.selects "KioskReel" ({ cls := "KioskReel", name := "count", desc := "(I)I" } : Jvm.MethodName) ({ cls := "KioskReel", name := "count", desc := "(I)I" } : Jvm.MethodName)) ∈ lw_all := lw_g (lw_at lw_m6 42 rfl) rfl
theorem q1285 : (Jvm.Cond.code ({ cls := "KioskReel", name := "count", desc := "(I)I" } : Jvm.MethodName) prog_1_method_33_code (2 : Nat) (Option.some Jvm.ClassFile.FieldType.int)) ∈ lw_all := lw_g (lw_at lw_m6 43 rfl) rfl
theorem q1290 : (Jvm.Cond.instanceMethod ({ cls := "KioskReel", name := "waits", desc := "(I)I" } : Jvm.MethodName)) ∈ lw_all := lw_g (lw_at lw_m6 48 rfl) rfl
theorem q1291 : (Jvm.Cond.selects "KioskReel" ({ cls := "KioskReel", name := "waits", desc := "(I)I" } : Jvm.MethodName) ({ cls := "KioskReel", name := "waits", desc := "(I)I" } : Jvm.MethodName)) ∈ lw_all := lw_g (lw_at lw_m6 49 rfl) rfl
theorem q1292 : (Jvm.Cond.code ({ cls := "KioskReel", name := "waits", desc := "(I)I" } : Jvm.MethodName) prog_1_method_34_code (3 : Nat) (Option.some Jvm.ClassFile.FieldType.int)) ∈ lw_all := lw_g (lw_at lw_m6 50 rfl) rfl
theorem q1297 : (Jvm.Cond.instanceMethod ({ cls := "KioskReel", name := "tick", desc := "(I)I" } : Jvm.MethodName)) ∈ lw_all := lw_g (lw_at lw_m6 55 rfl) rfl
theorem q1298 : (Jvm.Cond.selects "KioskReel" ({ cls := "KioskReel", name := "tick", desc := "(I)I" } : Jvm.MethodName) ({ cls := "KioskReel", name := "tick", desc := "(I)I" } : Jvm.MethodName)) ∈ lw_all := lw_g (lw_at lw_m6 56 rfl) rfl
theorem q1299 : (Jvm.Cond.code ({ cls := "KioskReel", name := "tick", desc := "(I)I" } : Jvm.MethodName) prog_1_method_39_code (7 : Nat) (Option.some Jvm.ClassFile.FieldType.int)) ∈ lw_all := lw_g (lw_at lw_m6 57 rfl) rfl
theorem q1300 : (Jvm.Cond.methodLink "KioskReel" (327 : Nat) ({ cls := "KioskReel", name := "turn", desc := "(LKioskReel$Player;LKioskReel$Kiosk;)V" } : Jvm.MethodName)) ∈ lw_all := lw_g (lw_at lw_m6 58 rfl) rfl
theorem q1301 : (Jvm.Cond.privateMethod ({ cls := "KioskReel", name := "turn", desc := "(LKioskReel$Player;LKioskReel$Kiosk;)V" } : Jvm.MethodName)) ∈ lw_tbl := lw_at lw_m6 59 rfl
theorem q1302 : (Jvm.Cond.instanceMethod ({ cls := "KioskReel", name := "turn", desc := "(LKioskReel$Player;LKioskReel$Kiosk;)V" } : Jvm.MethodName)) ∈ lw_all := lw_g (lw_at lw_m6 60 rfl) rfl
theorem q1303 : (Jvm.Cond.code ({ cls := "KioskReel", name := "turn", desc := "(LKioskReel$Player;LKioskReel$Kiosk;)V" } : Jvm.MethodName) prog_1_method_37_code (6 : Nat) (Option.none : Option Jvm.ClassFile.FieldType)) ∈ lw_all := lw_g (lw_at lw_m6 61 rfl) rfl
theorem q1304 : (Jvm.Cond.methodLink "KioskReel" (296 : Nat) ({ cls := "KioskReel$Frame", name := "isOver", desc := "()Z" } : Jvm.MethodName)) ∈ lw_all := lw_g (lw_at lw_m6 62 rfl) rfl
theorem q1308 : (Jvm.Cond.classLink "KioskReel" (259 : Nat) "KioskReel$Frame") ∈ lw_all := lw_g (lw_at lw_m6 66 rfl) rfl
theorem q1309 : (Jvm.Cond.methodLink "KioskReel" (307 : Nat) ({ cls := "KioskReel$Frame", name := "<init>", desc := "(LKioskReel$Playlist;)V" } : Jvm.MethodName)) ∈ lw_all := lw_g (lw_at lw_m6 67 rfl) rfl
theorem q1310 : (Jvm.Cond.interfaceEntry "KioskReel" (310 : Nat)) ∈ lw_tbl := lw_at lw_m6 68 rfl
theorem q1311 : (Jvm.Cond.methodLink "KioskReel" (310 : Nat) ({ cls := "java/util/List", name := "set", desc := "(ILjava/lang/Object;)Ljava/lang/Object;" } : Jvm.MethodName)) ∈ lw_all := lw_g (lw_at lw_m6 69 rfl) rfl
theorem q1319 : (Jvm.Cond.methodLink "KioskReel" (317 : Nat) ({ cls := "KioskReel$Line", name := "act", desc := "(LKioskReel;LKioskReel$Player;LKioskReel$Kiosk;)Z" } : Jvm.MethodName)) ∈ lw_all := lw_g (lw_at lw_m6 77 rfl) rfl
theorem q1339 : (Jvm.Cond.privateMethod ({ cls := "KioskReel", name := "countVisitors", desc := "(LKioskReel$VisitorTest;)I" } : Jvm.MethodName)) ∈ lw_tbl := lw_at lw_m6 97 rfl
theorem q1340 : (Jvm.Cond.instanceMethod ({ cls := "KioskReel", name := "countVisitors", desc := "(LKioskReel$VisitorTest;)I" } : Jvm.MethodName)) ∈ lw_all := lw_g (lw_at lw_m6 98 rfl) rfl
theorem q1341 : (Jvm.Cond.code ({ cls := "KioskReel", name := "countVisitors", desc := "(LKioskReel$VisitorTest;)I" } : Jvm.MethodName) prog_1_method_14_code (5 : Nat) (Option.some Jvm.ClassFile.FieldType.int)) ∈ lw_all := lw_g (lw_at lw_m6 99 rfl) rfl
theorem q1342 : (Jvm.Cond.interfaceEntry "KioskReel" (125 : Nat)) ∈ lw_tbl := lw_at lw_m6 100 rfl
theorem q1343 : (Jvm.Cond.methodLink "KioskReel" (125 : Nat) ({ cls := "KioskReel$VisitorTest", name := "holds", desc := "(LKioskReel$Visitor;)Z" } : Jvm.MethodName)) ∈ lw_all := lw_g (lw_at lw_m6 101 rfl) rfl
theorem q1373 : (Jvm.Cond.privateMethod ({ cls := "KioskReel", name := "show", desc := "(LKioskReel$Kiosk;I)Z" } : Jvm.MethodName)) ∈ lw_tbl := lw_at lw_m6 131 rfl
theorem q1374 : (Jvm.Cond.instanceMethod ({ cls := "KioskReel", name := "show", desc := "(LKioskReel$Kiosk;I)Z" } : Jvm.MethodName)) ∈ lw_all := lw_g (lw_at lw_m6 132 rfl) rfl
theorem q1375 : (Jvm.Cond.code ({ cls := "KioskReel", name := "show", desc := "(LKioskReel$Kiosk;I)Z" } : Jvm.MethodName) prog_1_method_35_code (7 : Nat) (Option.some Jvm.ClassFile.FieldType.boolean)) ∈ lw_all := lw_g (lw_at lw_m6 133 rfl) rfl
theorem q1376 : (Jvm.Cond.static ({ cls := "KioskReel", name := "lambda$show$1", desc := "(LKioskReel$Kiosk;LKioskReel$Visitor;)Z" } : Jvm.MethodName)) ∈ lw_all := lw_g (lw_at lw_m6 134 rfl) rfl
theorem q1377 : (Jvm.Cond.code ({ cls := "KioskReel", name := "lambda$show$1", desc := "(LKioskReel$Kiosk;LKioskReel$Visitor;)Z" } : Jvm.MethodName) prog_1_method_59_code (2 : Nat) (Option.some Jvm.ClassFile.FieldType.boolean)) ∈ lw_all := lw_g (lw_at lw_m6 135 rfl) rfl
theorem q1378 : (Jvm.Cond.methodLink "KioskReel" (274 : Nat) ({ cls := "KioskReel", name := "countVisitors", desc := "(LKioskReel$VisitorTest;)I" } : Jvm.MethodName)) ∈ lw_all := lw_g (lw_at lw_m6 136 rfl) rfl
theorem q1379 : (Jvm.Cond.static ({ cls := "KioskReel", name := "lambda$show$2", desc := "(LKioskReel$Kiosk;ILKioskReel$Visitor;)Z" } : Jvm.MethodName)) ∈ lw_all := lw_g (lw_at lw_m6 137 rfl) rfl
theorem q1380 : (Jvm.Cond.code ({ cls := "KioskReel", name := "lambda$show$2", desc := "(LKioskReel$Kiosk;ILKioskReel$Visitor;)Z" } : Jvm.MethodName) prog_1_method_58_code (3 : Nat) (Option.some Jvm.ClassFile.FieldType.boolean)) ∈ lw_all := lw_g (lw_at lw_m6 138 rfl) rfl
theorem q1381 : (Jvm.Cond.methodLink "KioskReel" (288 : Nat) ({ cls := "KioskReel$Visitor", name := "wouldSee", desc := "(I)Z" } : Jvm.MethodName)) ∈ lw_all := lw_g (lw_at lw_m6 139 rfl) rfl
theorem q1385 : (Jvm.Cond.methodLink "KioskReel" (292 : Nat) ({ cls := "KioskReel$Visitor", name := "see", desc := "(I)V" } : Jvm.MethodName)) ∈ lw_all := lw_g (lw_at lw_m6 143 rfl) rfl
theorem q1396 : (Jvm.Cond.privateMethod ({ cls := "KioskReel", name := "take", desc := "(LKioskReel$Player;LKioskReel$Device;)V" } : Jvm.MethodName)) ∈ lw_tbl := lw_at lw_m6 154 rfl
theorem q1397 : (Jvm.Cond.instanceMethod ({ cls := "KioskReel", name := "take", desc := "(LKioskReel$Player;LKioskReel$Device;)V" } : Jvm.MethodName)) ∈ lw_all := lw_g (lw_at lw_m6 155 rfl) rfl
theorem q1398 : (Jvm.Cond.code ({ cls := "KioskReel", name := "take", desc := "(LKioskReel$Player;LKioskReel$Device;)V" } : Jvm.MethodName) prog_1_method_36_code (4 : Nat) (Option.none : Option Jvm.ClassFile.FieldType)) ∈ lw_all := lw_g (lw_at lw_m6 156 rfl) rfl
theorem q1399 : (Jvm.Cond.static ({ cls := "KioskReel", name := "lambda$take$3", desc := "(LKioskReel$Player;LKioskReel$Device;)Z" } : Jvm.MethodName)) ∈ lw_all := lw_g (lw_at lw_m6 157 rfl) rfl
theorem q1400 : (Jvm.Cond.code ({ cls := "KioskReel", name := "lambda$take$3", desc := "(LKioskReel$Player;LKioskReel$Device;)Z" } : Jvm.MethodName) prog_1_method_57_code (2 : Nat) (Option.some Jvm.ClassFile.FieldType.boolean)) ∈ lw_all := lw_g (lw_at lw_m6 158 rfl) rfl
theorem q1401 : (Jvm.Cond.methodLink "KioskReel" (330 : Nat) ({ cls := "KioskReel", name := "watch", desc := "()V" } : Jvm.MethodName)) ∈ lw_all := lw_g (lw_at lw_m6 159 rfl) rfl
theorem q1402 : (Jvm.Cond.privateMethod ({ cls := "KioskReel", name := "watch", desc := "()V" } : Jvm.MethodName)) ∈ lw_tbl := lw_at lw_m6 160 rfl
theorem q1403 : (Jvm.Cond.instanceMethod ({ cls := "KioskReel", name := "watch", desc := "()V" } : Jvm.MethodName)) ∈ lw_all := lw_g (lw_at lw_m6 161 rfl) rfl
theorem q1404 : (Jvm.Cond.code ({ cls := "KioskReel", name := "watch", desc := "()V" } : Jvm.MethodName) prog_1_method_38_code (6 : Nat) (Option.none : Option Jvm.ClassFile.FieldType)) ∈ lw_all := lw_g (lw_at lw_m6 162 rfl) rfl
theorem q1405 : (Jvm.Cond.methodLink "KioskReel" (321 : Nat) ({ cls := "java/util/ArrayList", name := "<init>", desc := "(Ljava/util/Collection;)V" } : Jvm.MethodName)) ∈ lw_all := lw_g (lw_at lw_m6 163 rfl) rfl
theorem q1429 : (Jvm.Cond.interfaceEntry "KioskReel" (324 : Nat)) ∈ lw_tbl := lw_at lw_m6 187 rfl
theorem q1430 : (Jvm.Cond.methodLink "KioskReel" (324 : Nat) ({ cls := "java/util/List", name := "clear", desc := "()V" } : Jvm.MethodName)) ∈ lw_all := lw_g (lw_at lw_m6 188 rfl) rfl
theorem q1442 : (Jvm.Cond.instanceMethod ({ cls := "KioskReel", name := "slide", desc := "(I)I" } : Jvm.MethodName)) ∈ lw_all := lw_g (lw_at lw_m6 200 rfl) rfl
theorem q1443 : (Jvm.Cond.selects "KioskReel" ({ cls := "KioskReel", name := "slide", desc := "(I)I" } : Jvm.MethodName) ({ cls := "KioskReel", name := "slide", desc := "(I)I" } : Jvm.MethodName)) ∈ lw_all := lw_g (lw_at lw_m6 201 rfl) rfl
theorem q1444 : (Jvm.Cond.code ({ cls := "KioskReel", name := "slide", desc := "(I)I" } : Jvm.MethodName) prog_1_method_40_code (3 : Nat) (Option.some Jvm.ClassFile.FieldType.int)) ∈ lw_all := lw_g (lw_at lw_m6 202 rfl) rfl
theorem q1449 : (Jvm.Cond.instanceMethod ({ cls := "KioskReel", name := "holder", desc := "(I)I" } : Jvm.MethodName)) ∈ lw_all := lw_g (lw_at lw_m6 207 rfl) rfl
theorem q1450 : (Jvm.Cond.selects "KioskReel" ({ cls := "KioskReel", name := "holder", desc := "(I)I" } : Jvm.MethodName) ({ cls := "KioskReel", name := "holder", desc := "(I)I" } : Jvm.MethodName)) ∈ lw_all := lw_g (lw_at lw_m6 208 rfl) rfl
theorem q1451 : (Jvm.Cond.code ({ cls := "KioskReel", name := "holder", desc := "(I)I" } : Jvm.MethodName) prog_1_method_42_code (3 : Nat) (Option.some Jvm.ClassFile.FieldType.int)) ∈ lw_all := lw_g (lw_at lw_m6 209 rfl) rfl
theorem q1452 : (Jvm.Cond.methodLink "KioskReel" (333 : Nat) ({ cls := "KioskReel", name := "deviceAt", desc := "(I)LKioskReel$Device;" } : Jvm.MethodName)) ∈ lw_all := lw_g (lw_at lw_m6 210 rfl) rfl
theorem q1453 : (Jvm.Cond.privateMethod ({ cls := "KioskReel", name := "deviceAt", desc := "(I)LKioskReel$Device;" } : Jvm.MethodName)) ∈ lw_tbl := lw_at lw_m6 211 rfl
theorem q1454 : (Jvm.Cond.instanceMethod ({ cls := "KioskReel", name := "deviceAt", desc := "(I)LKioskReel$Device;" } : Jvm.MethodName)) ∈ lw_all := lw_g (lw_at lw_m6 212 rfl) rfl
theorem q1455 : (Jvm.Cond.code ({ cls := "KioskReel", name := "deviceAt", desc := "(I)LKioskReel$Device;" } : Jvm.MethodName) prog_1_method_41_code (2 : Nat) (Option.some (Jvm.ClassFile.FieldType.object "KioskReel$Device"))) ∈ lw_all := lw_g (lw_at lw_m6 213 rfl) rfl
theorem q1460 : (Jvm.Cond.instanceMethod ({ cls := "KioskReel", name := "queued", desc := "(II)I" } : Jvm.MethodName)) ∈ lw_all := lw_g (lw_at lw_m6 218 rfl) rfl
theorem q1461 : (Jvm.Cond.selects "KioskReel" ({ cls := "KioskReel", name := "queued", desc := "(II)I" } : Jvm.MethodName) ({ cls := "KioskReel", name := "queued", desc := "(II)I" } : Jvm.MethodName)) ∈ lw_all := lw_g (lw_at lw_m6 219 rfl) rfl
theorem q1462 : (Jvm.Cond.code ({ cls := "KioskReel", name := "queued", desc := "(II)I" } : Jvm.MethodName) prog_1_method_43_code (4 : Nat) (Option.some Jvm.ClassFile.FieldType.int)) ∈ lw_all := lw_g (lw_at lw_m6 220 rfl) rfl
theorem q1467 : (Jvm.Cond.instanceMethod ({ cls := "KioskReel", name := "visitor", desc := "()I" } : Jvm.MethodName)) ∈ lw_all := lw_g (lw_at lw_m6 225 rfl) rfl
theorem q1468 : (Jvm.Cond.selects "KioskReel" ({ cls := "KioskReel", name := "visitor", desc := "()I" } : Jvm.MethodName) ({ cls := "KioskReel", name := "visitor", desc := "()I" } : Jvm.MethodName)) ∈ lw_all := lw_g (lw_at lw_m6 226 rfl) rfl
theorem q1469 : (Jvm.Cond.code ({ cls := "KioskReel", name := "visitor", desc := "()I" } : Jvm.MethodName) prog_1_method_44_code (1 : Nat) (Option.some Jvm.ClassFile.FieldType.int)) ∈ lw_all := lw_g (lw_at lw_m6 227 rfl) rfl
theorem q1471 : (Jvm.Cond.methodLinkNest "KioskReel" (337 : Nat) ({ cls := "KioskReel$Visitor", name := "<init>", desc := "()V" } : Jvm.MethodName) "KioskReel") ∈ lw_tbl := lw_at lw_m6 229 rfl
theorem q1476 : (Jvm.Cond.fieldLinkNest "KioskReel" (350 : Nat) "KioskReel$Visitor" "saw" "[I" "KioskReel") ∈ lw_tbl := lw_at lw_m6 234 rfl
theorem q1478 : (Jvm.Cond.fieldLinkNest "KioskReel" (346 : Nat) "KioskReel$Visitor" "asks" "[I" "KioskReel") ∈ lw_tbl := lw_at lw_m6 236 rfl
theorem q1480 : (Jvm.Cond.fieldLinkNest "KioskReel" (342 : Nat) "KioskReel$Visitor" "asked" "[Z" "KioskReel") ∈ lw_tbl := lw_at lw_m6 238 rfl
theorem q1482 : (Jvm.Cond.fieldLinkNest "KioskReel" (287 : Nat) "KioskReel$Visitor" "at" "LKioskReel$Kiosk;" "KioskReel") ∈ lw_tbl := lw_at lw_m7 0 rfl
theorem q1498 : (Jvm.Cond.instanceMethod ({ cls := "KioskReel", name := "go", desc := "(II)I" } : Jvm.MethodName)) ∈ lw_all := lw_g (lw_at lw_m7 16 rfl) rfl
theorem q1499 : (Jvm.Cond.selects "KioskReel" ({ cls := "KioskReel", name := "go", desc := "(II)I" } : Jvm.MethodName) ({ cls := "KioskReel", name := "go", desc := "(II)I" } : Jvm.MethodName)) ∈ lw_all := lw_g (lw_at lw_m7 17 rfl) rfl
theorem q1500 : (Jvm.Cond.code ({ cls := "KioskReel", name := "go", desc := "(II)I" } : Jvm.MethodName) prog_1_method_45_code (5 : Nat) (Option.some Jvm.ClassFile.FieldType.int)) ∈ lw_all := lw_g (lw_at lw_m7 18 rfl) rfl
theorem q1501 : (Jvm.Cond.methodLink "KioskReel" (338 : Nat) ({ cls := "KioskReel", name := "visitorAt", desc := "(I)LKioskReel$Visitor;" } : Jvm.MethodName)) ∈ lw_all := lw_g (lw_at lw_m7 19 rfl) rfl
theorem q1502 : (Jvm.Cond.privateMethod ({ cls := "KioskReel", name := "visitorAt", desc := "(I)LKioskReel$Visitor;" } : Jvm.MethodName)) ∈ lw_tbl := lw_at lw_m7 20 rfl
theorem q1503 : (Jvm.Cond.instanceMethod ({ cls := "KioskReel", name := "visitorAt", desc := "(I)LKioskReel$Visitor;" } : Jvm.MethodName)) ∈ lw_all := lw_g (lw_at lw_m7 21 rfl) rfl
theorem q1504 : (Jvm.Cond.code ({ cls := "KioskReel", name := "visitorAt", desc := "(I)LKioskReel$Visitor;" } : Jvm.MethodName) prog_1_method_13_code (2 : Nat) (Option.some (Jvm.ClassFile.FieldType.object "KioskReel$Visitor"))) ∈ lw_all := lw_g (lw_at lw_m7 22 rfl) rfl
theorem q1509 : (Jvm.Cond.instanceMethod ({ cls := "KioskReel", name := "ask", desc := "(II)Z" } : Jvm.MethodName)) ∈ lw_all := lw_g (lw_at lw_m7 27 rfl) rfl
theorem q1510 : (Jvm.Cond.selects "KioskReel" ({ cls := "KioskReel", name := "ask", desc := "(II)Z" } : Jvm.MethodName) ({ cls := "KioskReel", name := "ask", desc := "(II)Z" } : Jvm.MethodName)) ∈ lw_all := lw_g (lw_at lw_m7 28 rfl) rfl
theorem q1511 : (Jvm.Cond.code ({ cls := "KioskReel", name := "ask", desc := "(II)Z" } : Jvm.MethodName) prog_1_method_46_code (4 : Nat) (Option.some Jvm.ClassFile.FieldType.boolean)) ∈ lw_all := lw_g (lw_at lw_m7 29 rfl) rfl
theorem q1516 : (Jvm.Cond.instanceMethod ({ cls := "KioskReel", name := "saw", desc := "(II)I" } : Jvm.MethodName)) ∈ lw_all := lw_g (lw_at lw_m7 34 rfl) rfl
theorem q1517 : (Jvm.Cond.selects "KioskReel" ({ cls := "KioskReel", name := "saw", desc := "(II)I" } : Jvm.MethodName) ({ cls := "KioskReel", name := "saw", desc := "(II)I" } : Jvm.MethodName)) ∈ lw_all := lw_g (lw_at lw_m7 35 rfl) rfl
theorem q1518 : (Jvm.Cond.code ({ cls := "KioskReel", name := "saw", desc := "(II)I" } : Jvm.MethodName) prog_1_method_47_code (4 : Nat) (Option.some Jvm.ClassFile.FieldType.int)) ∈ lw_all := lw_g (lw_at lw_m7 36 rfl) rfl
theorem q1537 : (Jvm.Cond.instanceMethod ({ cls := "KioskReel", name := "meanSeen", desc := "()D" } : Jvm.MethodName)) ∈ lw_all := lw_g (lw_at lw_m7 55 rfl) rfl
theorem q1538 : (Jvm.Cond.selects "KioskReel" ({ cls := "KioskReel", name := "meanSeen", desc := "()D" } : Jvm.MethodName) ({ cls := "KioskReel", name := "meanSeen", desc := "()D" } : Jvm.MethodName)) ∈ lw_all := lw_g (lw_at lw_m7 56 rfl) rfl
theorem q1539 : (Jvm.Cond.code ({ cls := "KioskReel", name := "meanSeen", desc := "()D" } : Jvm.MethodName) prog_1_method_51_code (8 : Nat) (Option.some Jvm.ClassFile.FieldType.double)) ∈ lw_all := lw_g (lw_at lw_m7 57 rfl) rfl
theorem q1540 : (Jvm.Cond.interfaceEntry "KioskReel" (367 : Nat)) ∈ lw_tbl := lw_at lw_m7 58 rfl
theorem q1541 : (Jvm.Cond.methodLink "KioskReel" (367 : Nat) ({ cls := "java/util/List", name := "isEmpty", desc := "()Z" } : Jvm.MethodName)) ∈ lw_all := lw_g (lw_at lw_m7 59 rfl) rfl
theorem q1542 : (Jvm.Cond.classLink "KioskReel" (370 : Nat) "java/lang/ArithmeticException") ∈ lw_all := lw_g (lw_at lw_m7 60 rfl) rfl
theorem q1543 : (Jvm.Cond.methodLink "KioskReel" (372 : Nat) ({ cls := "java/lang/ArithmeticException", name := "<init>", desc := "()V" } : Jvm.MethodName)) ∈ lw_all := lw_g (lw_at lw_m7 61 rfl) rfl
theorem q1896 : (Jvm.Cond.castable "KioskReel" "java/lang/Object") ∈ lw_tbl := lw_at lw_m8 174 rfl
theorem in_X1 : ∀ w ∈ wsX10, w ∈ lw_all := lw_in wsX10 [234, 236, 238, 240, 242, 244] (by decide +kernel) (by decide +kernel)
