/-! KnowDisk$Sector -/
set_option maxRecDepth 100000
def RX4 : String := "KnowDisk$Sector"
def TX4 : u_T := fun k => match k with
  | _ => ("KnowDisk$Sector", "bytes", "[B", true)
def tyX4 : Nat → FieldType := fun k => match k with
  | _ => .array .byte
abbrev wsX40 : List Cond := u_ws RX4 TX4 1
theorem nmX4 : ∀ a, a < 1 → ∀ b, b < 1 → a ≠ b → (TX4 a).2.1 ≠ (TX4 b).2.1 := by decide +kernel
theorem tyX4_ok : ∀ k, k < 1 → parseFieldDescriptor (TX4 k).2.2.1 = some (tyX4 k) := by decide +kernel
abbrev cX4_init : ByteArray := prog_2_method_1_code
def yX4_init : MethodName := ⟨RX4, "<init>", "()V"⟩
def dkwX4_init_0 : List UInt8 := [42, 183, 0, 3, 42, 16, 32, 188, 8, 181, 0, 9, 177]
abbrev dktX4_init_0 : List UInt8 := dkwX4_init_0 ++ []
theorem dksX4_init_0 : cX4_init.data.toList.drop 0 = dktX4_init_0 := by decide +kernel
theorem dX4_init_0 : decode cX4_init 0 = .ok (.aload_n 0, 1) := dk_42 (dk_at dksX4_init_0 0 rfl rfl)
theorem dX4_init_1 : decode cX4_init 1 = .ok (.invokespecial 3, 3) := dk_183 0 3 (dk_at dksX4_init_0 1 rfl rfl)
theorem dX4_init_4 : decode cX4_init 4 = .ok (.aload_n 0, 1) := dk_42 (dk_at dksX4_init_0 4 rfl rfl)
theorem dX4_init_5 : decode cX4_init 5 = .ok (.bipush 32, 2) := dk_16 32 (dk_at dksX4_init_0 5 rfl rfl)
theorem dX4_init_7 : decode cX4_init 7 = .ok (.newarray .byte, 2) := dk_188_8 (dk_at dksX4_init_0 7 rfl rfl)
theorem dX4_init_9 : decode cX4_init 9 = .ok (.putfield 9, 3) := dk_181 0 9 (dk_at dksX4_init_0 9 rfl rfl)
theorem dX4_init_12 : decode cX4_init 12 = .ok (.return_, 1) := dk_177 (dk_at dksX4_init_0 12 rfl rfl)
abbrev cX4_kind : ByteArray := prog_2_method_9_code
def yX4_kind : MethodName := ⟨RX4, "kind", "()I"⟩
def dkwX4_kind_0 : List UInt8 := [42, 180, 0, 9, 7, 51, 172]
abbrev dktX4_kind_0 : List UInt8 := dkwX4_kind_0 ++ []
theorem dksX4_kind_0 : cX4_kind.data.toList.drop 0 = dktX4_kind_0 := by decide +kernel
theorem dX4_kind_0 : decode cX4_kind 0 = .ok (.aload_n 0, 1) := dk_42 (dk_at dksX4_kind_0 0 rfl rfl)
theorem dX4_kind_1 : decode cX4_kind 1 = .ok (.getfield 9, 3) := dk_180 0 9 (dk_at dksX4_kind_0 1 rfl rfl)
theorem dX4_kind_4 : decode cX4_kind 4 = .ok (.iconst 4, 1) := dk_7 (dk_at dksX4_kind_0 4 rfl rfl)
theorem dX4_kind_5 : decode cX4_kind 5 = .ok (.baload, 1) := dk_51 (dk_at dksX4_kind_0 5 rfl rfl)
theorem dX4_kind_6 : decode cX4_kind 6 = .ok (.ireturn, 1) := dk_172 (dk_at dksX4_kind_0 6 rfl rfl)
abbrev cX4_value : ByteArray := prog_2_method_12_code
def yX4_value : MethodName := ⟨RX4, "value", "()J"⟩
def dkwX4_value_0 : List UInt8 := [42, 16, 8, 182, 0, 36, 173]
abbrev dktX4_value_0 : List UInt8 := dkwX4_value_0 ++ []
theorem dksX4_value_0 : cX4_value.data.toList.drop 0 = dktX4_value_0 := by decide +kernel
theorem dX4_value_0 : decode cX4_value 0 = .ok (.aload_n 0, 1) := dk_42 (dk_at dksX4_value_0 0 rfl rfl)
theorem dX4_value_1 : decode cX4_value 1 = .ok (.bipush 8, 2) := dk_16 8 (dk_at dksX4_value_0 1 rfl rfl)
theorem dX4_value_3 : decode cX4_value 3 = .ok (.invokevirtual 36, 3) := dk_182 0 36 (dk_at dksX4_value_0 3 rfl rfl)
theorem dX4_value_6 : decode cX4_value 6 = .ok (.lreturn, 1) := dk_173 (dk_at dksX4_value_0 6 rfl rfl)
abbrev cX4_wide : ByteArray := prog_2_method_3_code
def yX4_wide : MethodName := ⟨RX4, "wide", "(I)J"⟩
def dkwX4_wide_0 : List UInt8 := [42, 27, 182, 0, 15, 133, 16, 32, 121, 42, 27, 7, 96, 182, 0, 15, 133, 20, 0, 19, 127, 129, 173]
abbrev dktX4_wide_0 : List UInt8 := dkwX4_wide_0 ++ []
theorem dksX4_wide_0 : cX4_wide.data.toList.drop 0 = dktX4_wide_0 := by decide +kernel
theorem dX4_wide_0 : decode cX4_wide 0 = .ok (.aload_n 0, 1) := dk_42 (dk_at dksX4_wide_0 0 rfl rfl)
theorem dX4_wide_1 : decode cX4_wide 1 = .ok (.iload_n 1, 1) := dk_27 (dk_at dksX4_wide_0 1 rfl rfl)
theorem dX4_wide_2 : decode cX4_wide 2 = .ok (.invokevirtual 15, 3) := dk_182 0 15 (dk_at dksX4_wide_0 2 rfl rfl)
theorem dX4_wide_5 : decode cX4_wide 5 = .ok (.i2l, 1) := dk_133 (dk_at dksX4_wide_0 5 rfl rfl)
theorem dX4_wide_6 : decode cX4_wide 6 = .ok (.bipush 32, 2) := dk_16 32 (dk_at dksX4_wide_0 6 rfl rfl)
theorem dX4_wide_8 : decode cX4_wide 8 = .ok (.lshl, 1) := dk_121 (dk_at dksX4_wide_0 8 rfl rfl)
theorem dX4_wide_9 : decode cX4_wide 9 = .ok (.aload_n 0, 1) := dk_42 (dk_at dksX4_wide_0 9 rfl rfl)
theorem dX4_wide_10 : decode cX4_wide 10 = .ok (.iload_n 1, 1) := dk_27 (dk_at dksX4_wide_0 10 rfl rfl)
theorem dX4_wide_11 : decode cX4_wide 11 = .ok (.iconst 4, 1) := dk_7 (dk_at dksX4_wide_0 11 rfl rfl)
theorem dX4_wide_12 : decode cX4_wide 12 = .ok (.iadd, 1) := dk_96 (dk_at dksX4_wide_0 12 rfl rfl)
theorem dX4_wide_13 : decode cX4_wide 13 = .ok (.invokevirtual 15, 3) := dk_182 0 15 (dk_at dksX4_wide_0 13 rfl rfl)
theorem dX4_wide_16 : decode cX4_wide 16 = .ok (.i2l, 1) := dk_133 (dk_at dksX4_wide_0 16 rfl rfl)
theorem dX4_wide_17 : decode cX4_wide 17 = .ok (.ldc2_w 19, 3) := dk_20 0 19 (dk_at dksX4_wide_0 17 rfl rfl)
theorem dX4_wide_20 : decode cX4_wide 20 = .ok (.land, 1) := dk_127 (dk_at dksX4_wide_0 20 rfl rfl)
theorem dX4_wide_21 : decode cX4_wide 21 = .ok (.lor, 1) := dk_129 (dk_at dksX4_wide_0 21 rfl rfl)
theorem dX4_wide_22 : decode cX4_wide 22 = .ok (.lreturn, 1) := dk_173 (dk_at dksX4_wide_0 22 rfl rfl)
abbrev cX4_number : ByteArray := prog_2_method_2_code
def yX4_number : MethodName := ⟨RX4, "number", "(I)I"⟩
def dkwX4_number_2 : List UInt8 := [180, 0, 9, 27, 6, 96, 51, 17, 0, 255, 126, 128, 172]
abbrev dktX4_number_2 : List UInt8 := dkwX4_number_2 ++ []
def dkwX4_number_1 : List UInt8 := [126, 16, 16, 120, 128, 42, 180, 0, 9, 27, 5, 96, 51, 17, 0, 255, 126, 16, 8, 120, 128, 42]
abbrev dktX4_number_1 : List UInt8 := dkwX4_number_1 ++ dktX4_number_2
def dkwX4_number_0 : List UInt8 := [42, 180, 0, 9, 27, 51, 17, 0, 255, 126, 16, 24, 120, 42, 180, 0, 9, 27, 4, 96, 51, 17, 0, 255]
abbrev dktX4_number_0 : List UInt8 := dkwX4_number_0 ++ dktX4_number_1
theorem dksX4_number_0 : cX4_number.data.toList.drop 0 = dktX4_number_0 := by decide +kernel
theorem dksX4_number_1 : cX4_number.data.toList.drop 24 = dktX4_number_1 := dk_seg dksX4_number_0 24 rfl rfl
theorem dksX4_number_2 : cX4_number.data.toList.drop 46 = dktX4_number_2 := dk_seg dksX4_number_1 22 rfl rfl
theorem dX4_number_0 : decode cX4_number 0 = .ok (.aload_n 0, 1) := dk_42 (dk_at dksX4_number_0 0 rfl rfl)
theorem dX4_number_1 : decode cX4_number 1 = .ok (.getfield 9, 3) := dk_180 0 9 (dk_at dksX4_number_0 1 rfl rfl)
theorem dX4_number_4 : decode cX4_number 4 = .ok (.iload_n 1, 1) := dk_27 (dk_at dksX4_number_0 4 rfl rfl)
theorem dX4_number_5 : decode cX4_number 5 = .ok (.baload, 1) := dk_51 (dk_at dksX4_number_0 5 rfl rfl)
theorem dX4_number_6 : decode cX4_number 6 = .ok (.sipush 255, 3) := dk_17 0 255 (dk_at dksX4_number_0 6 rfl rfl)
theorem dX4_number_9 : decode cX4_number 9 = .ok (.iand, 1) := dk_126 (dk_at dksX4_number_0 9 rfl rfl)
theorem dX4_number_10 : decode cX4_number 10 = .ok (.bipush 24, 2) := dk_16 24 (dk_at dksX4_number_0 10 rfl rfl)
theorem dX4_number_12 : decode cX4_number 12 = .ok (.ishl, 1) := dk_120 (dk_at dksX4_number_0 12 rfl rfl)
theorem dX4_number_13 : decode cX4_number 13 = .ok (.aload_n 0, 1) := dk_42 (dk_at dksX4_number_0 13 rfl rfl)
theorem dX4_number_14 : decode cX4_number 14 = .ok (.getfield 9, 3) := dk_180 0 9 (dk_at dksX4_number_0 14 rfl rfl)
theorem dX4_number_17 : decode cX4_number 17 = .ok (.iload_n 1, 1) := dk_27 (dk_at dksX4_number_0 17 rfl rfl)
theorem dX4_number_18 : decode cX4_number 18 = .ok (.iconst 1, 1) := dk_4 (dk_at dksX4_number_0 18 rfl rfl)
theorem dX4_number_19 : decode cX4_number 19 = .ok (.iadd, 1) := dk_96 (dk_at dksX4_number_0 19 rfl rfl)
theorem dX4_number_20 : decode cX4_number 20 = .ok (.baload, 1) := dk_51 (dk_at dksX4_number_0 20 rfl rfl)
theorem dX4_number_21 : decode cX4_number 21 = .ok (.sipush 255, 3) := dk_17 0 255 (dk_at dksX4_number_0 21 rfl rfl)
theorem dX4_number_24 : decode cX4_number 24 = .ok (.iand, 1) := dk_126 (dk_at dksX4_number_1 0 rfl rfl)
theorem dX4_number_25 : decode cX4_number 25 = .ok (.bipush 16, 2) := dk_16 16 (dk_at dksX4_number_1 1 rfl rfl)
theorem dX4_number_27 : decode cX4_number 27 = .ok (.ishl, 1) := dk_120 (dk_at dksX4_number_1 3 rfl rfl)
theorem dX4_number_28 : decode cX4_number 28 = .ok (.ior, 1) := dk_128 (dk_at dksX4_number_1 4 rfl rfl)
theorem dX4_number_29 : decode cX4_number 29 = .ok (.aload_n 0, 1) := dk_42 (dk_at dksX4_number_1 5 rfl rfl)
theorem dX4_number_30 : decode cX4_number 30 = .ok (.getfield 9, 3) := dk_180 0 9 (dk_at dksX4_number_1 6 rfl rfl)
theorem dX4_number_33 : decode cX4_number 33 = .ok (.iload_n 1, 1) := dk_27 (dk_at dksX4_number_1 9 rfl rfl)
theorem dX4_number_34 : decode cX4_number 34 = .ok (.iconst 2, 1) := dk_5 (dk_at dksX4_number_1 10 rfl rfl)
theorem dX4_number_35 : decode cX4_number 35 = .ok (.iadd, 1) := dk_96 (dk_at dksX4_number_1 11 rfl rfl)
theorem dX4_number_36 : decode cX4_number 36 = .ok (.baload, 1) := dk_51 (dk_at dksX4_number_1 12 rfl rfl)
theorem dX4_number_37 : decode cX4_number 37 = .ok (.sipush 255, 3) := dk_17 0 255 (dk_at dksX4_number_1 13 rfl rfl)
theorem dX4_number_40 : decode cX4_number 40 = .ok (.iand, 1) := dk_126 (dk_at dksX4_number_1 16 rfl rfl)
theorem dX4_number_41 : decode cX4_number 41 = .ok (.bipush 8, 2) := dk_16 8 (dk_at dksX4_number_1 17 rfl rfl)
theorem dX4_number_43 : decode cX4_number 43 = .ok (.ishl, 1) := dk_120 (dk_at dksX4_number_1 19 rfl rfl)
theorem dX4_number_44 : decode cX4_number 44 = .ok (.ior, 1) := dk_128 (dk_at dksX4_number_1 20 rfl rfl)
theorem dX4_number_45 : decode cX4_number 45 = .ok (.aload_n 0, 1) := dk_42 (dk_at dksX4_number_1 21 rfl rfl)
theorem dX4_number_46 : decode cX4_number 46 = .ok (.getfield 9, 3) := dk_180 0 9 (dk_at dksX4_number_2 0 rfl rfl)
theorem dX4_number_49 : decode cX4_number 49 = .ok (.iload_n 1, 1) := dk_27 (dk_at dksX4_number_2 3 rfl rfl)
theorem dX4_number_50 : decode cX4_number 50 = .ok (.iconst 3, 1) := dk_6 (dk_at dksX4_number_2 4 rfl rfl)
theorem dX4_number_51 : decode cX4_number 51 = .ok (.iadd, 1) := dk_96 (dk_at dksX4_number_2 5 rfl rfl)
theorem dX4_number_52 : decode cX4_number 52 = .ok (.baload, 1) := dk_51 (dk_at dksX4_number_2 6 rfl rfl)
theorem dX4_number_53 : decode cX4_number 53 = .ok (.sipush 255, 3) := dk_17 0 255 (dk_at dksX4_number_2 7 rfl rfl)
theorem dX4_number_56 : decode cX4_number 56 = .ok (.iand, 1) := dk_126 (dk_at dksX4_number_2 10 rfl rfl)
theorem dX4_number_57 : decode cX4_number 57 = .ok (.ior, 1) := dk_128 (dk_at dksX4_number_2 11 rfl rfl)
theorem dX4_number_58 : decode cX4_number 58 = .ok (.ireturn, 1) := dk_172 (dk_at dksX4_number_2 12 rfl rfl)
abbrev cX4_of : ByteArray := prog_2_method_13_code
def yX4_of : MethodName := ⟨RX4, "of", "(IIIJI)LKnowDisk$Sector;"⟩
def dkwX4_of_2 : List UInt8 := [16, 16, 21, 5, 182, 0, 21, 25, 6, 176]
abbrev dktX4_of_2 : List UInt8 := dkwX4_of_2 ++ []
def dkwX4_of_1 : List UInt8 := [27, 145, 84, 25, 6, 180, 0, 9, 16, 6, 28, 145, 84, 25, 6, 16, 8, 33, 182, 0, 41, 25, 6]
abbrev dktX4_of_1 : List UInt8 := dkwX4_of_1 ++ dktX4_of_2
def dkwX4_of_0 : List UInt8 := [187, 0, 10, 89, 183, 0, 40, 58, 6, 25, 6, 180, 0, 9, 7, 26, 145, 84, 25, 6, 180, 0, 9, 8]
abbrev dktX4_of_0 : List UInt8 := dkwX4_of_0 ++ dktX4_of_1
theorem dksX4_of_0 : cX4_of.data.toList.drop 0 = dktX4_of_0 := by decide +kernel
theorem dksX4_of_1 : cX4_of.data.toList.drop 24 = dktX4_of_1 := dk_seg dksX4_of_0 24 rfl rfl
theorem dksX4_of_2 : cX4_of.data.toList.drop 47 = dktX4_of_2 := dk_seg dksX4_of_1 23 rfl rfl
theorem dX4_of_0 : decode cX4_of 0 = .ok (.new 10, 3) := dk_187 0 10 (dk_at dksX4_of_0 0 rfl rfl)
theorem dX4_of_3 : decode cX4_of 3 = .ok (.dup, 1) := dk_89 (dk_at dksX4_of_0 3 rfl rfl)
theorem dX4_of_4 : decode cX4_of 4 = .ok (.invokespecial 40, 3) := dk_183 0 40 (dk_at dksX4_of_0 4 rfl rfl)
theorem dX4_of_7 : decode cX4_of 7 = .ok (.astore 6, 2) := dk_58 6 (dk_at dksX4_of_0 7 rfl rfl)
theorem dX4_of_9 : decode cX4_of 9 = .ok (.aload 6, 2) := dk_25 6 (dk_at dksX4_of_0 9 rfl rfl)
theorem dX4_of_11 : decode cX4_of 11 = .ok (.getfield 9, 3) := dk_180 0 9 (dk_at dksX4_of_0 11 rfl rfl)
theorem dX4_of_14 : decode cX4_of 14 = .ok (.iconst 4, 1) := dk_7 (dk_at dksX4_of_0 14 rfl rfl)
theorem dX4_of_15 : decode cX4_of 15 = .ok (.iload_n 0, 1) := dk_26 (dk_at dksX4_of_0 15 rfl rfl)
theorem dX4_of_16 : decode cX4_of 16 = .ok (.i2b, 1) := dk_145 (dk_at dksX4_of_0 16 rfl rfl)
theorem dX4_of_17 : decode cX4_of 17 = .ok (.bastore, 1) := dk_84 (dk_at dksX4_of_0 17 rfl rfl)
theorem dX4_of_18 : decode cX4_of 18 = .ok (.aload 6, 2) := dk_25 6 (dk_at dksX4_of_0 18 rfl rfl)
theorem dX4_of_20 : decode cX4_of 20 = .ok (.getfield 9, 3) := dk_180 0 9 (dk_at dksX4_of_0 20 rfl rfl)
theorem dX4_of_23 : decode cX4_of 23 = .ok (.iconst 5, 1) := dk_8 (dk_at dksX4_of_0 23 rfl rfl)
theorem dX4_of_24 : decode cX4_of 24 = .ok (.iload_n 1, 1) := dk_27 (dk_at dksX4_of_1 0 rfl rfl)
theorem dX4_of_25 : decode cX4_of 25 = .ok (.i2b, 1) := dk_145 (dk_at dksX4_of_1 1 rfl rfl)
theorem dX4_of_26 : decode cX4_of 26 = .ok (.bastore, 1) := dk_84 (dk_at dksX4_of_1 2 rfl rfl)
theorem dX4_of_27 : decode cX4_of 27 = .ok (.aload 6, 2) := dk_25 6 (dk_at dksX4_of_1 3 rfl rfl)
theorem dX4_of_29 : decode cX4_of 29 = .ok (.getfield 9, 3) := dk_180 0 9 (dk_at dksX4_of_1 5 rfl rfl)
theorem dX4_of_32 : decode cX4_of 32 = .ok (.bipush 6, 2) := dk_16 6 (dk_at dksX4_of_1 8 rfl rfl)
theorem dX4_of_34 : decode cX4_of 34 = .ok (.iload_n 2, 1) := dk_28 (dk_at dksX4_of_1 10 rfl rfl)
theorem dX4_of_35 : decode cX4_of 35 = .ok (.i2b, 1) := dk_145 (dk_at dksX4_of_1 11 rfl rfl)
theorem dX4_of_36 : decode cX4_of 36 = .ok (.bastore, 1) := dk_84 (dk_at dksX4_of_1 12 rfl rfl)
theorem dX4_of_37 : decode cX4_of 37 = .ok (.aload 6, 2) := dk_25 6 (dk_at dksX4_of_1 13 rfl rfl)
theorem dX4_of_39 : decode cX4_of 39 = .ok (.bipush 8, 2) := dk_16 8 (dk_at dksX4_of_1 15 rfl rfl)
theorem dX4_of_41 : decode cX4_of 41 = .ok (.lload_n 3, 1) := dk_33 (dk_at dksX4_of_1 17 rfl rfl)
theorem dX4_of_42 : decode cX4_of 42 = .ok (.invokevirtual 41, 3) := dk_182 0 41 (dk_at dksX4_of_1 18 rfl rfl)
theorem dX4_of_45 : decode cX4_of 45 = .ok (.aload 6, 2) := dk_25 6 (dk_at dksX4_of_1 21 rfl rfl)
theorem dX4_of_47 : decode cX4_of 47 = .ok (.bipush 16, 2) := dk_16 16 (dk_at dksX4_of_2 0 rfl rfl)
theorem dX4_of_49 : decode cX4_of 49 = .ok (.iload 5, 2) := dk_21 5 (dk_at dksX4_of_2 2 rfl rfl)
theorem dX4_of_51 : decode cX4_of 51 = .ok (.invokevirtual 21, 3) := dk_182 0 21 (dk_at dksX4_of_2 4 rfl rfl)
theorem dX4_of_54 : decode cX4_of 54 = .ok (.aload 6, 2) := dk_25 6 (dk_at dksX4_of_2 7 rfl rfl)
theorem dX4_of_56 : decode cX4_of 56 = .ok (.areturn, 1) := dk_176 (dk_at dksX4_of_2 9 rfl rfl)
abbrev cX4_setWide : ByteArray := prog_2_method_5_code
def yX4_setWide : MethodName := ⟨RX4, "setWide", "(IJ)V"⟩
def dkwX4_setWide_0 : List UInt8 := [42, 27, 32, 16, 32, 123, 136, 182, 0, 21, 42, 27, 7, 96, 32, 136, 182, 0, 21, 177]
abbrev dktX4_setWide_0 : List UInt8 := dkwX4_setWide_0 ++ []
theorem dksX4_setWide_0 : cX4_setWide.data.toList.drop 0 = dktX4_setWide_0 := by decide +kernel
theorem dX4_setWide_0 : decode cX4_setWide 0 = .ok (.aload_n 0, 1) := dk_42 (dk_at dksX4_setWide_0 0 rfl rfl)
theorem dX4_setWide_1 : decode cX4_setWide 1 = .ok (.iload_n 1, 1) := dk_27 (dk_at dksX4_setWide_0 1 rfl rfl)
theorem dX4_setWide_2 : decode cX4_setWide 2 = .ok (.lload_n 2, 1) := dk_32 (dk_at dksX4_setWide_0 2 rfl rfl)
theorem dX4_setWide_3 : decode cX4_setWide 3 = .ok (.bipush 32, 2) := dk_16 32 (dk_at dksX4_setWide_0 3 rfl rfl)
theorem dX4_setWide_5 : decode cX4_setWide 5 = .ok (.lshr, 1) := dk_123 (dk_at dksX4_setWide_0 5 rfl rfl)
theorem dX4_setWide_6 : decode cX4_setWide 6 = .ok (.l2i, 1) := dk_136 (dk_at dksX4_setWide_0 6 rfl rfl)
theorem dX4_setWide_7 : decode cX4_setWide 7 = .ok (.invokevirtual 21, 3) := dk_182 0 21 (dk_at dksX4_setWide_0 7 rfl rfl)
theorem dX4_setWide_10 : decode cX4_setWide 10 = .ok (.aload_n 0, 1) := dk_42 (dk_at dksX4_setWide_0 10 rfl rfl)
theorem dX4_setWide_11 : decode cX4_setWide 11 = .ok (.iload_n 1, 1) := dk_27 (dk_at dksX4_setWide_0 11 rfl rfl)
theorem dX4_setWide_12 : decode cX4_setWide 12 = .ok (.iconst 4, 1) := dk_7 (dk_at dksX4_setWide_0 12 rfl rfl)
theorem dX4_setWide_13 : decode cX4_setWide 13 = .ok (.iadd, 1) := dk_96 (dk_at dksX4_setWide_0 13 rfl rfl)
theorem dX4_setWide_14 : decode cX4_setWide 14 = .ok (.lload_n 2, 1) := dk_32 (dk_at dksX4_setWide_0 14 rfl rfl)
theorem dX4_setWide_15 : decode cX4_setWide 15 = .ok (.l2i, 1) := dk_136 (dk_at dksX4_setWide_0 15 rfl rfl)
theorem dX4_setWide_16 : decode cX4_setWide 16 = .ok (.invokevirtual 21, 3) := dk_182 0 21 (dk_at dksX4_setWide_0 16 rfl rfl)
theorem dX4_setWide_19 : decode cX4_setWide 19 = .ok (.return_, 1) := dk_177 (dk_at dksX4_setWide_0 19 rfl rfl)
abbrev cX4_set : ByteArray := prog_2_method_4_code
def yX4_set : MethodName := ⟨RX4, "set", "(II)V"⟩
def dkwX4_set_1 : List UInt8 := [84, 132, 3, 1, 167, 255, 230, 177]
abbrev dktX4_set_1 : List UInt8 := dkwX4_set_1 ++ []
def dkwX4_set_0 : List UInt8 := [3, 62, 29, 7, 162, 0, 27, 42, 180, 0, 9, 27, 29, 96, 28, 16, 24, 16, 8, 29, 104, 100, 122, 145]
abbrev dktX4_set_0 : List UInt8 := dkwX4_set_0 ++ dktX4_set_1
theorem dksX4_set_0 : cX4_set.data.toList.drop 0 = dktX4_set_0 := by decide +kernel
theorem dksX4_set_1 : cX4_set.data.toList.drop 24 = dktX4_set_1 := dk_seg dksX4_set_0 24 rfl rfl
theorem dX4_set_0 : decode cX4_set 0 = .ok (.iconst 0, 1) := dk_3 (dk_at dksX4_set_0 0 rfl rfl)
theorem dX4_set_1 : decode cX4_set 1 = .ok (.istore_n 3, 1) := dk_62 (dk_at dksX4_set_0 1 rfl rfl)
theorem dX4_set_2 : decode cX4_set 2 = .ok (.iload_n 3, 1) := dk_29 (dk_at dksX4_set_0 2 rfl rfl)
theorem dX4_set_3 : decode cX4_set 3 = .ok (.iconst 4, 1) := dk_7 (dk_at dksX4_set_0 3 rfl rfl)
theorem dX4_set_4 : decode cX4_set 4 = .ok (.if_icmp .ge 27, 3) := dk_162 0 27 (dk_at dksX4_set_0 4 rfl rfl)
theorem dX4_set_7 : decode cX4_set 7 = .ok (.aload_n 0, 1) := dk_42 (dk_at dksX4_set_0 7 rfl rfl)
theorem dX4_set_8 : decode cX4_set 8 = .ok (.getfield 9, 3) := dk_180 0 9 (dk_at dksX4_set_0 8 rfl rfl)
theorem dX4_set_11 : decode cX4_set 11 = .ok (.iload_n 1, 1) := dk_27 (dk_at dksX4_set_0 11 rfl rfl)
theorem dX4_set_12 : decode cX4_set 12 = .ok (.iload_n 3, 1) := dk_29 (dk_at dksX4_set_0 12 rfl rfl)
theorem dX4_set_13 : decode cX4_set 13 = .ok (.iadd, 1) := dk_96 (dk_at dksX4_set_0 13 rfl rfl)
theorem dX4_set_14 : decode cX4_set 14 = .ok (.iload_n 2, 1) := dk_28 (dk_at dksX4_set_0 14 rfl rfl)
theorem dX4_set_15 : decode cX4_set 15 = .ok (.bipush 24, 2) := dk_16 24 (dk_at dksX4_set_0 15 rfl rfl)
theorem dX4_set_17 : decode cX4_set 17 = .ok (.bipush 8, 2) := dk_16 8 (dk_at dksX4_set_0 17 rfl rfl)
theorem dX4_set_19 : decode cX4_set 19 = .ok (.iload_n 3, 1) := dk_29 (dk_at dksX4_set_0 19 rfl rfl)
theorem dX4_set_20 : decode cX4_set 20 = .ok (.imul, 1) := dk_104 (dk_at dksX4_set_0 20 rfl rfl)
theorem dX4_set_21 : decode cX4_set 21 = .ok (.isub, 1) := dk_100 (dk_at dksX4_set_0 21 rfl rfl)
theorem dX4_set_22 : decode cX4_set 22 = .ok (.ishr, 1) := dk_122 (dk_at dksX4_set_0 22 rfl rfl)
theorem dX4_set_23 : decode cX4_set 23 = .ok (.i2b, 1) := dk_145 (dk_at dksX4_set_0 23 rfl rfl)
theorem dX4_set_24 : decode cX4_set 24 = .ok (.bastore, 1) := dk_84 (dk_at dksX4_set_1 0 rfl rfl)
theorem dX4_set_25 : decode cX4_set 25 = .ok (.iinc 3 1, 3) := dk_132 3 1 (dk_at dksX4_set_1 1 rfl rfl)
theorem dX4_set_28 : decode cX4_set 28 = .ok (.goto (-26), 3) := dk_167 255 230 (dk_at dksX4_set_1 4 rfl rfl)
theorem dX4_set_31 : decode cX4_set 31 = .ok (.return_, 1) := dk_177 (dk_at dksX4_set_1 7 rfl rfl)
abbrev cX4_source : ByteArray := prog_2_method_11_code
def yX4_source : MethodName := ⟨RX4, "source", "()I"⟩
def dkwX4_source_0 : List UInt8 := [42, 180, 0, 9, 16, 6, 51, 17, 0, 255, 126, 172]
abbrev dktX4_source_0 : List UInt8 := dkwX4_source_0 ++ []
theorem dksX4_source_0 : cX4_source.data.toList.drop 0 = dktX4_source_0 := by decide +kernel
theorem dX4_source_0 : decode cX4_source 0 = .ok (.aload_n 0, 1) := dk_42 (dk_at dksX4_source_0 0 rfl rfl)
theorem dX4_source_1 : decode cX4_source 1 = .ok (.getfield 9, 3) := dk_180 0 9 (dk_at dksX4_source_0 1 rfl rfl)
theorem dX4_source_4 : decode cX4_source 4 = .ok (.bipush 6, 2) := dk_16 6 (dk_at dksX4_source_0 4 rfl rfl)
theorem dX4_source_6 : decode cX4_source 6 = .ok (.baload, 1) := dk_51 (dk_at dksX4_source_0 6 rfl rfl)
theorem dX4_source_7 : decode cX4_source 7 = .ok (.sipush 255, 3) := dk_17 0 255 (dk_at dksX4_source_0 7 rfl rfl)
theorem dX4_source_10 : decode cX4_source 10 = .ok (.iand, 1) := dk_126 (dk_at dksX4_source_0 10 rfl rfl)
theorem dX4_source_11 : decode cX4_source 11 = .ok (.ireturn, 1) := dk_172 (dk_at dksX4_source_0 11 rfl rfl)
abbrev cX4_isRight : ByteArray := prog_2_method_8_code
def yX4_isRight : MethodName := ⟨RX4, "isRight", "()Z"⟩
def dkwX4_isRight_0 : List UInt8 := [42, 3, 182, 0, 15, 42, 182, 0, 32, 160, 0, 7, 4, 167, 0, 4, 3, 172]
abbrev dktX4_isRight_0 : List UInt8 := dkwX4_isRight_0 ++ []
theorem dksX4_isRight_0 : cX4_isRight.data.toList.drop 0 = dktX4_isRight_0 := by decide +kernel
theorem dX4_isRight_0 : decode cX4_isRight 0 = .ok (.aload_n 0, 1) := dk_42 (dk_at dksX4_isRight_0 0 rfl rfl)
theorem dX4_isRight_1 : decode cX4_isRight 1 = .ok (.iconst 0, 1) := dk_3 (dk_at dksX4_isRight_0 1 rfl rfl)
theorem dX4_isRight_2 : decode cX4_isRight 2 = .ok (.invokevirtual 15, 3) := dk_182 0 15 (dk_at dksX4_isRight_0 2 rfl rfl)
theorem dX4_isRight_5 : decode cX4_isRight 5 = .ok (.aload_n 0, 1) := dk_42 (dk_at dksX4_isRight_0 5 rfl rfl)
theorem dX4_isRight_6 : decode cX4_isRight 6 = .ok (.invokevirtual 32, 3) := dk_182 0 32 (dk_at dksX4_isRight_0 6 rfl rfl)
theorem dX4_isRight_9 : decode cX4_isRight 9 = .ok (.if_icmp .ne 7, 3) := dk_160 0 7 (dk_at dksX4_isRight_0 9 rfl rfl)
theorem dX4_isRight_12 : decode cX4_isRight 12 = .ok (.iconst 1, 1) := dk_4 (dk_at dksX4_isRight_0 12 rfl rfl)
theorem dX4_isRight_13 : decode cX4_isRight 13 = .ok (.goto 4, 3) := dk_167 0 4 (dk_at dksX4_isRight_0 13 rfl rfl)
theorem dX4_isRight_16 : decode cX4_isRight 16 = .ok (.iconst 0, 1) := dk_3 (dk_at dksX4_isRight_0 16 rfl rfl)
theorem dX4_isRight_17 : decode cX4_isRight 17 = .ok (.ireturn, 1) := dk_172 (dk_at dksX4_isRight_0 17 rfl rfl)
abbrev cX4_sum : ByteArray := prog_2_method_6_code
def yX4_sum : MethodName := ⟨RX4, "sum", "()I"⟩
def dkwX4_sum_1 : List UInt8 := [184, 0, 25, 18, 31, 104, 60, 132, 2, 1, 167, 255, 226, 27, 172]
abbrev dktX4_sum_1 : List UInt8 := dkwX4_sum_1 ++ []
def dkwX4_sum_0 : List UInt8 := [3, 60, 7, 61, 28, 16, 32, 162, 0, 30, 27, 42, 180, 0, 9, 28, 51, 17, 0, 255, 126, 130, 16, 11]
abbrev dktX4_sum_0 : List UInt8 := dkwX4_sum_0 ++ dktX4_sum_1
theorem dksX4_sum_0 : cX4_sum.data.toList.drop 0 = dktX4_sum_0 := by decide +kernel
theorem dksX4_sum_1 : cX4_sum.data.toList.drop 24 = dktX4_sum_1 := dk_seg dksX4_sum_0 24 rfl rfl
theorem dX4_sum_0 : decode cX4_sum 0 = .ok (.iconst 0, 1) := dk_3 (dk_at dksX4_sum_0 0 rfl rfl)
theorem dX4_sum_1 : decode cX4_sum 1 = .ok (.istore_n 1, 1) := dk_60 (dk_at dksX4_sum_0 1 rfl rfl)
theorem dX4_sum_2 : decode cX4_sum 2 = .ok (.iconst 4, 1) := dk_7 (dk_at dksX4_sum_0 2 rfl rfl)
theorem dX4_sum_3 : decode cX4_sum 3 = .ok (.istore_n 2, 1) := dk_61 (dk_at dksX4_sum_0 3 rfl rfl)
theorem dX4_sum_4 : decode cX4_sum 4 = .ok (.iload_n 2, 1) := dk_28 (dk_at dksX4_sum_0 4 rfl rfl)
theorem dX4_sum_5 : decode cX4_sum 5 = .ok (.bipush 32, 2) := dk_16 32 (dk_at dksX4_sum_0 5 rfl rfl)
theorem dX4_sum_7 : decode cX4_sum 7 = .ok (.if_icmp .ge 30, 3) := dk_162 0 30 (dk_at dksX4_sum_0 7 rfl rfl)
theorem dX4_sum_10 : decode cX4_sum 10 = .ok (.iload_n 1, 1) := dk_27 (dk_at dksX4_sum_0 10 rfl rfl)
theorem dX4_sum_11 : decode cX4_sum 11 = .ok (.aload_n 0, 1) := dk_42 (dk_at dksX4_sum_0 11 rfl rfl)
theorem dX4_sum_12 : decode cX4_sum 12 = .ok (.getfield 9, 3) := dk_180 0 9 (dk_at dksX4_sum_0 12 rfl rfl)
theorem dX4_sum_15 : decode cX4_sum 15 = .ok (.iload_n 2, 1) := dk_28 (dk_at dksX4_sum_0 15 rfl rfl)
theorem dX4_sum_16 : decode cX4_sum 16 = .ok (.baload, 1) := dk_51 (dk_at dksX4_sum_0 16 rfl rfl)
theorem dX4_sum_17 : decode cX4_sum 17 = .ok (.sipush 255, 3) := dk_17 0 255 (dk_at dksX4_sum_0 17 rfl rfl)
theorem dX4_sum_20 : decode cX4_sum 20 = .ok (.iand, 1) := dk_126 (dk_at dksX4_sum_0 20 rfl rfl)
theorem dX4_sum_21 : decode cX4_sum 21 = .ok (.ixor, 1) := dk_130 (dk_at dksX4_sum_0 21 rfl rfl)
theorem dX4_sum_22 : decode cX4_sum 22 = .ok (.bipush 11, 2) := dk_16 11 (dk_at dksX4_sum_0 22 rfl rfl)
theorem dX4_sum_24 : decode cX4_sum 24 = .ok (.invokestatic 25, 3) := dk_184 0 25 (dk_at dksX4_sum_1 0 rfl rfl)
theorem dX4_sum_27 : decode cX4_sum 27 = .ok (.ldc 31, 2) := dk_18 31 (dk_at dksX4_sum_1 3 rfl rfl)
theorem dX4_sum_29 : decode cX4_sum 29 = .ok (.imul, 1) := dk_104 (dk_at dksX4_sum_1 5 rfl rfl)
theorem dX4_sum_30 : decode cX4_sum 30 = .ok (.istore_n 1, 1) := dk_60 (dk_at dksX4_sum_1 6 rfl rfl)
theorem dX4_sum_31 : decode cX4_sum 31 = .ok (.iinc 2 1, 3) := dk_132 2 1 (dk_at dksX4_sum_1 7 rfl rfl)
theorem dX4_sum_34 : decode cX4_sum 34 = .ok (.goto (-30), 3) := dk_167 255 226 (dk_at dksX4_sum_1 10 rfl rfl)
theorem dX4_sum_37 : decode cX4_sum 37 = .ok (.iload_n 1, 1) := dk_27 (dk_at dksX4_sum_1 13 rfl rfl)
theorem dX4_sum_38 : decode cX4_sum 38 = .ok (.ireturn, 1) := dk_172 (dk_at dksX4_sum_1 14 rfl rfl)
abbrev cX4_close : ByteArray := prog_2_method_7_code
def yX4_close : MethodName := ⟨RX4, "close", "()V"⟩
def dkwX4_close_0 : List UInt8 := [42, 3, 42, 182, 0, 32, 182, 0, 21, 177]
abbrev dktX4_close_0 : List UInt8 := dkwX4_close_0 ++ []
theorem dksX4_close_0 : cX4_close.data.toList.drop 0 = dktX4_close_0 := by decide +kernel
theorem dX4_close_0 : decode cX4_close 0 = .ok (.aload_n 0, 1) := dk_42 (dk_at dksX4_close_0 0 rfl rfl)
theorem dX4_close_1 : decode cX4_close 1 = .ok (.iconst 0, 1) := dk_3 (dk_at dksX4_close_0 1 rfl rfl)
theorem dX4_close_2 : decode cX4_close 2 = .ok (.aload_n 0, 1) := dk_42 (dk_at dksX4_close_0 2 rfl rfl)
theorem dX4_close_3 : decode cX4_close 3 = .ok (.invokevirtual 32, 3) := dk_182 0 32 (dk_at dksX4_close_0 3 rfl rfl)
theorem dX4_close_6 : decode cX4_close 6 = .ok (.invokevirtual 21, 3) := dk_182 0 21 (dk_at dksX4_close_0 6 rfl rfl)
theorem dX4_close_9 : decode cX4_close 9 = .ok (.return_, 1) := dk_177 (dk_at dksX4_close_0 9 rfl rfl)
abbrev cX4_page : ByteArray := prog_2_method_10_code
def yX4_page : MethodName := ⟨RX4, "page", "()I"⟩
def dkwX4_page_0 : List UInt8 := [42, 180, 0, 9, 8, 51, 17, 0, 255, 126, 172]
abbrev dktX4_page_0 : List UInt8 := dkwX4_page_0 ++ []
theorem dksX4_page_0 : cX4_page.data.toList.drop 0 = dktX4_page_0 := by decide +kernel
theorem dX4_page_0 : decode cX4_page 0 = .ok (.aload_n 0, 1) := dk_42 (dk_at dksX4_page_0 0 rfl rfl)
theorem dX4_page_1 : decode cX4_page 1 = .ok (.getfield 9, 3) := dk_180 0 9 (dk_at dksX4_page_0 1 rfl rfl)
theorem dX4_page_4 : decode cX4_page 4 = .ok (.iconst 5, 1) := dk_8 (dk_at dksX4_page_0 4 rfl rfl)
theorem dX4_page_5 : decode cX4_page 5 = .ok (.baload, 1) := dk_51 (dk_at dksX4_page_0 5 rfl rfl)
theorem dX4_page_6 : decode cX4_page 6 = .ok (.sipush 255, 3) := dk_17 0 255 (dk_at dksX4_page_0 6 rfl rfl)
theorem dX4_page_9 : decode cX4_page 9 = .ok (.iand, 1) := dk_126 (dk_at dksX4_page_0 9 rfl rfl)
theorem dX4_page_10 : decode cX4_page 10 = .ok (.ireturn, 1) := dk_172 (dk_at dksX4_page_0 10 rfl rfl)
theorem q55 : (Jvm.Cond.initialized "KnowDisk$Sector") ∈ lw_all := lw_g (lw_at lw_m1 13 rfl) rfl
theorem q189 : (Jvm.Cond.selects "KnowDisk$Sector" ({ cls := "java/lang/Object", name := "getClass", desc := "()Ljava/lang/Class;" } : Jvm.MethodName) ({ cls := "java/lang/Object", name := "getClass", desc := "()Ljava/lang/Class;" } : Jvm.MethodName)) ∈ lw_all := lw_g (lw_at lw_m1 147 rfl) rfl
theorem q343 : (Jvm.Cond.instantiable "KnowDisk$Sector" (1 : Nat)) ∈ lw_all := lw_g (lw_at lw_m2 61 rfl) rfl
theorem q345 : (Jvm.Cond.instanceMethod ({ cls := "KnowDisk$Sector", name := "<init>", desc := "()V" } : Jvm.MethodName)) ∈ lw_all := lw_g (lw_at lw_m2 63 rfl) rfl
theorem q346 : (Jvm.Cond.code ({ cls := "KnowDisk$Sector", name := "<init>", desc := "()V" } : Jvm.MethodName) prog_2_method_1_code (1 : Nat) (Option.none : Option Jvm.ClassFile.FieldType)) ∈ lw_all := lw_g (lw_at lw_m2 64 rfl) rfl
theorem q347 : (Jvm.Cond.methodLink "KnowDisk$Sector" (3 : Nat) ({ cls := "java/lang/Object", name := "<init>", desc := "()V" } : Jvm.MethodName)) ∈ lw_all := lw_g (lw_at lw_m2 65 rfl) rfl
theorem q348 : (Jvm.Cond.fieldLink "KnowDisk$Sector" (9 : Nat) "KnowDisk$Sector" "bytes" "[B") ∈ lw_all := lw_g (lw_at lw_m2 66 rfl) rfl
theorem q350 : (Jvm.Cond.laysFinal "KnowDisk$Sector" "KnowDisk$Sector" "bytes" "[B") ∈ lw_all := lw_g (lw_at lw_m2 68 rfl) rfl
theorem q351 : (Jvm.Cond.soleField "KnowDisk$Sector" "bytes") ∈ lw_all := lw_g (lw_at lw_m2 69 rfl) rfl
theorem q352 : (Jvm.Cond.superclass "KnowDisk$Sector" "java/lang/Object") ∈ lw_all := lw_g (lw_at lw_m2 70 rfl) rfl
theorem q355 : (Jvm.Cond.instanceMethod ({ cls := "KnowDisk$Sector", name := "kind", desc := "()I" } : Jvm.MethodName)) ∈ lw_all := lw_g (lw_at lw_m2 73 rfl) rfl
theorem q356 : (Jvm.Cond.selects "KnowDisk$Sector" ({ cls := "KnowDisk$Sector", name := "kind", desc := "()I" } : Jvm.MethodName) ({ cls := "KnowDisk$Sector", name := "kind", desc := "()I" } : Jvm.MethodName)) ∈ lw_all := lw_g (lw_at lw_m2 74 rfl) rfl
theorem q357 : (Jvm.Cond.code ({ cls := "KnowDisk$Sector", name := "kind", desc := "()I" } : Jvm.MethodName) prog_2_method_9_code (1 : Nat) (Option.some Jvm.ClassFile.FieldType.int)) ∈ lw_all := lw_g (lw_at lw_m2 75 rfl) rfl
theorem q363 : (Jvm.Cond.instanceMethod ({ cls := "KnowDisk$Sector", name := "value", desc := "()J" } : Jvm.MethodName)) ∈ lw_all := lw_g (lw_at lw_m2 81 rfl) rfl
theorem q364 : (Jvm.Cond.selects "KnowDisk$Sector" ({ cls := "KnowDisk$Sector", name := "value", desc := "()J" } : Jvm.MethodName) ({ cls := "KnowDisk$Sector", name := "value", desc := "()J" } : Jvm.MethodName)) ∈ lw_all := lw_g (lw_at lw_m2 82 rfl) rfl
theorem q365 : (Jvm.Cond.code ({ cls := "KnowDisk$Sector", name := "value", desc := "()J" } : Jvm.MethodName) prog_2_method_12_code (1 : Nat) (Option.some Jvm.ClassFile.FieldType.long)) ∈ lw_all := lw_g (lw_at lw_m2 83 rfl) rfl
theorem q366 : (Jvm.Cond.methodLink "KnowDisk$Sector" (36 : Nat) ({ cls := "KnowDisk$Sector", name := "wide", desc := "(I)J" } : Jvm.MethodName)) ∈ lw_all := lw_g (lw_at lw_m2 84 rfl) rfl
theorem q367 : (Jvm.Cond.privateMethod ({ cls := "KnowDisk$Sector", name := "wide", desc := "(I)J" } : Jvm.MethodName)) ∈ lw_tbl := lw_at lw_m2 85 rfl
theorem q368 : (Jvm.Cond.instanceMethod ({ cls := "KnowDisk$Sector", name := "wide", desc := "(I)J" } : Jvm.MethodName)) ∈ lw_all := lw_g (lw_at lw_m2 86 rfl) rfl
theorem q369 : (Jvm.Cond.code ({ cls := "KnowDisk$Sector", name := "wide", desc := "(I)J" } : Jvm.MethodName) prog_2_method_3_code (2 : Nat) (Option.some Jvm.ClassFile.FieldType.long)) ∈ lw_all := lw_g (lw_at lw_m2 87 rfl) rfl
theorem q370 : (Jvm.Cond.methodLink "KnowDisk$Sector" (15 : Nat) ({ cls := "KnowDisk$Sector", name := "number", desc := "(I)I" } : Jvm.MethodName)) ∈ lw_all := lw_g (lw_at lw_m2 88 rfl) rfl
theorem q371 : (Jvm.Cond.privateMethod ({ cls := "KnowDisk$Sector", name := "number", desc := "(I)I" } : Jvm.MethodName)) ∈ lw_tbl := lw_at lw_m2 89 rfl
theorem q372 : (Jvm.Cond.instanceMethod ({ cls := "KnowDisk$Sector", name := "number", desc := "(I)I" } : Jvm.MethodName)) ∈ lw_all := lw_g (lw_at lw_m2 90 rfl) rfl
theorem q373 : (Jvm.Cond.code ({ cls := "KnowDisk$Sector", name := "number", desc := "(I)I" } : Jvm.MethodName) prog_2_method_2_code (2 : Nat) (Option.some Jvm.ClassFile.FieldType.int)) ∈ lw_all := lw_g (lw_at lw_m2 91 rfl) rfl
theorem q374 : (Jvm.Cond.constantLong "KnowDisk$Sector" (19 : Nat) (4294967295 : Int64)) ∈ lw_all := lw_g (lw_at lw_m2 92 rfl) rfl
theorem q426 : (Jvm.Cond.static ({ cls := "KnowDisk$Sector", name := "of", desc := "(IIIJI)LKnowDisk$Sector;" } : Jvm.MethodName)) ∈ lw_all := lw_g (lw_at lw_m2 144 rfl) rfl
theorem q427 : (Jvm.Cond.code ({ cls := "KnowDisk$Sector", name := "of", desc := "(IIIJI)LKnowDisk$Sector;" } : Jvm.MethodName) prog_2_method_13_code (7 : Nat) (Option.some (Jvm.ClassFile.FieldType.object "KnowDisk$Sector"))) ∈ lw_all := lw_g (lw_at lw_m2 145 rfl) rfl
theorem q428 : (Jvm.Cond.classLink "KnowDisk$Sector" (10 : Nat) "KnowDisk$Sector") ∈ lw_all := lw_g (lw_at lw_m2 146 rfl) rfl
theorem q429 : (Jvm.Cond.methodLink "KnowDisk$Sector" (40 : Nat) ({ cls := "KnowDisk$Sector", name := "<init>", desc := "()V" } : Jvm.MethodName)) ∈ lw_all := lw_g (lw_at lw_m2 147 rfl) rfl
theorem q430 : (Jvm.Cond.methodLink "KnowDisk$Sector" (41 : Nat) ({ cls := "KnowDisk$Sector", name := "setWide", desc := "(IJ)V" } : Jvm.MethodName)) ∈ lw_all := lw_g (lw_at lw_m2 148 rfl) rfl
theorem q431 : (Jvm.Cond.privateMethod ({ cls := "KnowDisk$Sector", name := "setWide", desc := "(IJ)V" } : Jvm.MethodName)) ∈ lw_tbl := lw_at lw_m2 149 rfl
theorem q432 : (Jvm.Cond.instanceMethod ({ cls := "KnowDisk$Sector", name := "setWide", desc := "(IJ)V" } : Jvm.MethodName)) ∈ lw_all := lw_g (lw_at lw_m2 150 rfl) rfl
theorem q433 : (Jvm.Cond.code ({ cls := "KnowDisk$Sector", name := "setWide", desc := "(IJ)V" } : Jvm.MethodName) prog_2_method_5_code (4 : Nat) (Option.none : Option Jvm.ClassFile.FieldType)) ∈ lw_all := lw_g (lw_at lw_m2 151 rfl) rfl
theorem q434 : (Jvm.Cond.methodLink "KnowDisk$Sector" (21 : Nat) ({ cls := "KnowDisk$Sector", name := "set", desc := "(II)V" } : Jvm.MethodName)) ∈ lw_all := lw_g (lw_at lw_m2 152 rfl) rfl
theorem q435 : (Jvm.Cond.privateMethod ({ cls := "KnowDisk$Sector", name := "set", desc := "(II)V" } : Jvm.MethodName)) ∈ lw_tbl := lw_at lw_m2 153 rfl
theorem q436 : (Jvm.Cond.instanceMethod ({ cls := "KnowDisk$Sector", name := "set", desc := "(II)V" } : Jvm.MethodName)) ∈ lw_all := lw_g (lw_at lw_m2 154 rfl) rfl
theorem q437 : (Jvm.Cond.code ({ cls := "KnowDisk$Sector", name := "set", desc := "(II)V" } : Jvm.MethodName) prog_2_method_4_code (4 : Nat) (Option.none : Option Jvm.ClassFile.FieldType)) ∈ lw_all := lw_g (lw_at lw_m2 155 rfl) rfl
theorem q443 : (Jvm.Cond.instanceMethod ({ cls := "KnowDisk$Sector", name := "source", desc := "()I" } : Jvm.MethodName)) ∈ lw_all := lw_g (lw_at lw_m2 161 rfl) rfl
theorem q444 : (Jvm.Cond.selects "KnowDisk$Sector" ({ cls := "KnowDisk$Sector", name := "source", desc := "()I" } : Jvm.MethodName) ({ cls := "KnowDisk$Sector", name := "source", desc := "()I" } : Jvm.MethodName)) ∈ lw_all := lw_g (lw_at lw_m2 162 rfl) rfl
theorem q445 : (Jvm.Cond.code ({ cls := "KnowDisk$Sector", name := "source", desc := "()I" } : Jvm.MethodName) prog_2_method_11_code (1 : Nat) (Option.some Jvm.ClassFile.FieldType.int)) ∈ lw_all := lw_g (lw_at lw_m2 163 rfl) rfl
theorem q447 : (Jvm.Cond.instanceMethod ({ cls := "KnowDisk$Sector", name := "isRight", desc := "()Z" } : Jvm.MethodName)) ∈ lw_all := lw_g (lw_at lw_m2 165 rfl) rfl
theorem q448 : (Jvm.Cond.selects "KnowDisk$Sector" ({ cls := "KnowDisk$Sector", name := "isRight", desc := "()Z" } : Jvm.MethodName) ({ cls := "KnowDisk$Sector", name := "isRight", desc := "()Z" } : Jvm.MethodName)) ∈ lw_all := lw_g (lw_at lw_m2 166 rfl) rfl
theorem q449 : (Jvm.Cond.code ({ cls := "KnowDisk$Sector", name := "isRight", desc := "()Z" } : Jvm.MethodName) prog_2_method_8_code (1 : Nat) (Option.some Jvm.ClassFile.FieldType.boolean)) ∈ lw_all := lw_g (lw_at lw_m2 167 rfl) rfl
theorem q450 : (Jvm.Cond.methodLink "KnowDisk$Sector" (32 : Nat) ({ cls := "KnowDisk$Sector", name := "sum", desc := "()I" } : Jvm.MethodName)) ∈ lw_all := lw_g (lw_at lw_m2 168 rfl) rfl
theorem q451 : (Jvm.Cond.privateMethod ({ cls := "KnowDisk$Sector", name := "sum", desc := "()I" } : Jvm.MethodName)) ∈ lw_tbl := lw_at lw_m2 169 rfl
theorem q452 : (Jvm.Cond.instanceMethod ({ cls := "KnowDisk$Sector", name := "sum", desc := "()I" } : Jvm.MethodName)) ∈ lw_all := lw_g (lw_at lw_m2 170 rfl) rfl
theorem q453 : (Jvm.Cond.code ({ cls := "KnowDisk$Sector", name := "sum", desc := "()I" } : Jvm.MethodName) prog_2_method_6_code (3 : Nat) (Option.some Jvm.ClassFile.FieldType.int)) ∈ lw_all := lw_g (lw_at lw_m2 171 rfl) rfl
theorem q454 : (Jvm.Cond.methodLink "KnowDisk$Sector" (25 : Nat) ({ cls := "java/lang/Integer", name := "rotateLeft", desc := "(II)I" } : Jvm.MethodName)) ∈ lw_all := lw_g (lw_at lw_m2 172 rfl) rfl
theorem q457 : (Jvm.Cond.constant "KnowDisk$Sector" (31 : Nat) (-2048144777 : Int32)) ∈ lw_all := lw_g (lw_at lw_m2 175 rfl) rfl
theorem q484 : (Jvm.Cond.instanceMethod ({ cls := "KnowDisk$Sector", name := "close", desc := "()V" } : Jvm.MethodName)) ∈ lw_all := lw_g (lw_at lw_m2 202 rfl) rfl
theorem q485 : (Jvm.Cond.selects "KnowDisk$Sector" ({ cls := "KnowDisk$Sector", name := "close", desc := "()V" } : Jvm.MethodName) ({ cls := "KnowDisk$Sector", name := "close", desc := "()V" } : Jvm.MethodName)) ∈ lw_all := lw_g (lw_at lw_m2 203 rfl) rfl
theorem q486 : (Jvm.Cond.code ({ cls := "KnowDisk$Sector", name := "close", desc := "()V" } : Jvm.MethodName) prog_2_method_7_code (1 : Nat) (Option.none : Option Jvm.ClassFile.FieldType)) ∈ lw_all := lw_g (lw_at lw_m2 204 rfl) rfl
theorem q547 : (Jvm.Cond.instanceMethod ({ cls := "KnowDisk$Sector", name := "page", desc := "()I" } : Jvm.MethodName)) ∈ lw_all := lw_g (lw_at lw_m3 25 rfl) rfl
theorem q548 : (Jvm.Cond.selects "KnowDisk$Sector" ({ cls := "KnowDisk$Sector", name := "page", desc := "()I" } : Jvm.MethodName) ({ cls := "KnowDisk$Sector", name := "page", desc := "()I" } : Jvm.MethodName)) ∈ lw_all := lw_g (lw_at lw_m3 26 rfl) rfl
theorem q549 : (Jvm.Cond.code ({ cls := "KnowDisk$Sector", name := "page", desc := "()I" } : Jvm.MethodName) prog_2_method_10_code (1 : Nat) (Option.some Jvm.ClassFile.FieldType.int)) ∈ lw_all := lw_g (lw_at lw_m3 27 rfl) rfl
theorem q947 : (Jvm.Cond.castable "KnowDisk$Sector" "java/lang/Object") ∈ lw_tbl := lw_at lw_m4 185 rfl
theorem in_X4 : ∀ w ∈ wsX40, w ∈ lw_all := lw_in wsX40 [350] (by decide +kernel) (by decide +kernel)
/-! KnowDisk$State -/
set_option maxRecDepth 100000
def RX2 : String := "KnowDisk$State"
def TX2 : u_T := fun k => match k with
  | 0 => ("KnowDisk$State", "number", "I", true)
  | _ => ("KnowDisk$State", "sectors", "J", true)
def tyX2 : Nat → FieldType := fun k => match k with
  | 0 => .int
  | _ => .long
abbrev wsX20 : List Cond := u_ws RX2 TX2 2
theorem nmX2 : ∀ a, a < 2 → ∀ b, b < 2 → a ≠ b → (TX2 a).2.1 ≠ (TX2 b).2.1 := by decide +kernel
theorem tyX2_ok : ∀ k, k < 2 → parseFieldDescriptor (TX2 k).2.2.1 = some (tyX2 k) := by decide +kernel
abbrev cX2_init : ByteArray := prog_3_method_1_code
def yX2_init : MethodName := ⟨RX2, "<init>", "(IJ)V"⟩
def dkwX2_init_0 : List UInt8 := [42, 183, 0, 1, 42, 27, 181, 0, 7, 42, 32, 181, 0, 13, 177]
abbrev dktX2_init_0 : List UInt8 := dkwX2_init_0 ++ []
theorem dksX2_init_0 : cX2_init.data.toList.drop 0 = dktX2_init_0 := by decide +kernel
theorem dX2_init_0 : decode cX2_init 0 = .ok (.aload_n 0, 1) := dk_42 (dk_at dksX2_init_0 0 rfl rfl)
theorem dX2_init_1 : decode cX2_init 1 = .ok (.invokespecial 1, 3) := dk_183 0 1 (dk_at dksX2_init_0 1 rfl rfl)
theorem dX2_init_4 : decode cX2_init 4 = .ok (.aload_n 0, 1) := dk_42 (dk_at dksX2_init_0 4 rfl rfl)
theorem dX2_init_5 : decode cX2_init 5 = .ok (.iload_n 1, 1) := dk_27 (dk_at dksX2_init_0 5 rfl rfl)
theorem dX2_init_6 : decode cX2_init 6 = .ok (.putfield 7, 3) := dk_181 0 7 (dk_at dksX2_init_0 6 rfl rfl)
theorem dX2_init_9 : decode cX2_init 9 = .ok (.aload_n 0, 1) := dk_42 (dk_at dksX2_init_0 9 rfl rfl)
theorem dX2_init_10 : decode cX2_init 10 = .ok (.lload_n 2, 1) := dk_32 (dk_at dksX2_init_0 10 rfl rfl)
theorem dX2_init_11 : decode cX2_init 11 = .ok (.putfield 13, 3) := dk_181 0 13 (dk_at dksX2_init_0 11 rfl rfl)
theorem dX2_init_14 : decode cX2_init 14 = .ok (.return_, 1) := dk_177 (dk_at dksX2_init_0 14 rfl rfl)
abbrev cX2_sectors : ByteArray := prog_3_method_6_code
def yX2_sectors : MethodName := ⟨RX2, "sectors", "()J"⟩
theorem dX2_sectors_0 : decode cX2_sectors 0 = .ok (.aload_n 0, 1) := by decide +kernel
theorem dX2_sectors_1 : decode cX2_sectors 1 = .ok (.getfield 13, 3) := by decide +kernel
theorem dX2_sectors_4 : decode cX2_sectors 4 = .ok (.lreturn, 1) := by decide +kernel
abbrev cX2_number : ByteArray := prog_3_method_5_code
def yX2_number : MethodName := ⟨RX2, "number", "()I"⟩
theorem dX2_number_0 : decode cX2_number 0 = .ok (.aload_n 0, 1) := by decide +kernel
theorem dX2_number_1 : decode cX2_number 1 = .ok (.getfield 7, 3) := by decide +kernel
theorem dX2_number_4 : decode cX2_number 4 = .ok (.ireturn, 1) := by decide +kernel
theorem q50 : (Jvm.Cond.initialized "KnowDisk$State") ∈ lw_all := lw_g (lw_at lw_m1 8 rfl) rfl
theorem q134 : (Jvm.Cond.instantiable "KnowDisk$State" (2 : Nat)) ∈ lw_all := lw_g (lw_at lw_m1 92 rfl) rfl
theorem q136 : (Jvm.Cond.instanceMethod ({ cls := "KnowDisk$State", name := "<init>", desc := "(IJ)V" } : Jvm.MethodName)) ∈ lw_all := lw_g (lw_at lw_m1 94 rfl) rfl
theorem q137 : (Jvm.Cond.code ({ cls := "KnowDisk$State", name := "<init>", desc := "(IJ)V" } : Jvm.MethodName) prog_3_method_1_code (4 : Nat) (Option.none : Option Jvm.ClassFile.FieldType)) ∈ lw_all := lw_g (lw_at lw_m1 95 rfl) rfl
theorem q138 : (Jvm.Cond.methodLink "KnowDisk$State" (1 : Nat) ({ cls := "java/lang/Record", name := "<init>", desc := "()V" } : Jvm.MethodName)) ∈ lw_all := lw_g (lw_at lw_m1 96 rfl) rfl
theorem q142 : (Jvm.Cond.fieldLink "KnowDisk$State" (7 : Nat) "KnowDisk$State" "number" "I") ∈ lw_all := lw_g (lw_at lw_m1 100 rfl) rfl
theorem q143 : (Jvm.Cond.fieldLink "KnowDisk$State" (13 : Nat) "KnowDisk$State" "sectors" "J") ∈ lw_all := lw_g (lw_at lw_m1 101 rfl) rfl
theorem q144 : (Jvm.Cond.laysFinal "KnowDisk$State" "KnowDisk$State" "number" "I") ∈ lw_all := lw_g (lw_at lw_m1 102 rfl) rfl
theorem q145 : (Jvm.Cond.soleField "KnowDisk$State" "number") ∈ lw_all := lw_g (lw_at lw_m1 103 rfl) rfl
theorem q146 : (Jvm.Cond.laysFinal "KnowDisk$State" "KnowDisk$State" "sectors" "J") ∈ lw_all := lw_g (lw_at lw_m1 104 rfl) rfl
theorem q147 : (Jvm.Cond.soleField "KnowDisk$State" "sectors") ∈ lw_all := lw_g (lw_at lw_m1 105 rfl) rfl
theorem q148 : (Jvm.Cond.superclass "KnowDisk$State" "java/lang/Record") ∈ lw_all := lw_g (lw_at lw_m1 106 rfl) rfl
theorem q190 : (Jvm.Cond.selects "KnowDisk$State" ({ cls := "java/lang/Object", name := "getClass", desc := "()Ljava/lang/Class;" } : Jvm.MethodName) ({ cls := "java/lang/Object", name := "getClass", desc := "()Ljava/lang/Class;" } : Jvm.MethodName)) ∈ lw_all := lw_g (lw_at lw_m1 148 rfl) rfl
theorem q399 : (Jvm.Cond.instanceMethod ({ cls := "KnowDisk$State", name := "sectors", desc := "()J" } : Jvm.MethodName)) ∈ lw_all := lw_g (lw_at lw_m2 117 rfl) rfl
theorem q400 : (Jvm.Cond.selects "KnowDisk$State" ({ cls := "KnowDisk$State", name := "sectors", desc := "()J" } : Jvm.MethodName) ({ cls := "KnowDisk$State", name := "sectors", desc := "()J" } : Jvm.MethodName)) ∈ lw_all := lw_g (lw_at lw_m2 118 rfl) rfl
theorem q401 : (Jvm.Cond.code ({ cls := "KnowDisk$State", name := "sectors", desc := "()J" } : Jvm.MethodName) prog_3_method_6_code (1 : Nat) (Option.some Jvm.ClassFile.FieldType.long)) ∈ lw_all := lw_g (lw_at lw_m2 119 rfl) rfl
theorem q477 : (Jvm.Cond.instanceMethod ({ cls := "KnowDisk$State", name := "number", desc := "()I" } : Jvm.MethodName)) ∈ lw_all := lw_g (lw_at lw_m2 195 rfl) rfl
theorem q478 : (Jvm.Cond.selects "KnowDisk$State" ({ cls := "KnowDisk$State", name := "number", desc := "()I" } : Jvm.MethodName) ({ cls := "KnowDisk$State", name := "number", desc := "()I" } : Jvm.MethodName)) ∈ lw_all := lw_g (lw_at lw_m2 196 rfl) rfl
theorem q479 : (Jvm.Cond.code ({ cls := "KnowDisk$State", name := "number", desc := "()I" } : Jvm.MethodName) prog_3_method_5_code (1 : Nat) (Option.some Jvm.ClassFile.FieldType.int)) ∈ lw_all := lw_g (lw_at lw_m2 197 rfl) rfl
theorem q951 : (Jvm.Cond.castable "KnowDisk$State" "java/lang/Object") ∈ lw_tbl := lw_at lw_m4 189 rfl
theorem in_X2 : ∀ w ∈ wsX20, w ∈ lw_all := lw_in wsX20 [144, 146] (by decide +kernel) (by decide +kernel)
/-! KnowDisk$Write -/
set_option maxRecDepth 100000
def RX5 : String := "KnowDisk$Write"
def TX5 : u_T := fun k => match k with
  | 0 => ("KnowDisk$Write", "to", "I", true)
  | _ => ("KnowDisk$Write", "sector", "LKnowDisk$Sector;", true)
def tyX5 : Nat → FieldType := fun k => match k with
  | 0 => .int
  | _ => .object "KnowDisk$Sector"
abbrev wsX50 : List Cond := u_ws RX5 TX5 2
theorem nmX5 : ∀ a, a < 2 → ∀ b, b < 2 → a ≠ b → (TX5 a).2.1 ≠ (TX5 b).2.1 := by decide +kernel
theorem tyX5_ok : ∀ k, k < 2 → parseFieldDescriptor (TX5 k).2.2.1 = some (tyX5 k) := by decide +kernel
abbrev cX5_to : ByteArray := prog_4_method_5_code
def yX5_to : MethodName := ⟨RX5, "to", "()I"⟩
theorem dX5_to_0 : decode cX5_to 0 = .ok (.aload_n 0, 1) := by decide +kernel
theorem dX5_to_1 : decode cX5_to 1 = .ok (.getfield 7, 3) := by decide +kernel
theorem dX5_to_4 : decode cX5_to 4 = .ok (.ireturn, 1) := by decide +kernel
abbrev cX5_sector : ByteArray := prog_4_method_6_code
def yX5_sector : MethodName := ⟨RX5, "sector", "()LKnowDisk$Sector;"⟩
theorem dX5_sector_0 : decode cX5_sector 0 = .ok (.aload_n 0, 1) := by decide +kernel
theorem dX5_sector_1 : decode cX5_sector 1 = .ok (.getfield 13, 3) := by decide +kernel
theorem dX5_sector_4 : decode cX5_sector 4 = .ok (.areturn, 1) := by decide +kernel
abbrev cX5_init : ByteArray := prog_4_method_1_code
def yX5_init : MethodName := ⟨RX5, "<init>", "(ILKnowDisk$Sector;)V"⟩
def dkwX5_init_0 : List UInt8 := [42, 183, 0, 1, 42, 27, 181, 0, 7, 42, 44, 181, 0, 13, 177]
abbrev dktX5_init_0 : List UInt8 := dkwX5_init_0 ++ []
theorem dksX5_init_0 : cX5_init.data.toList.drop 0 = dktX5_init_0 := by decide +kernel
theorem dX5_init_0 : decode cX5_init 0 = .ok (.aload_n 0, 1) := dk_42 (dk_at dksX5_init_0 0 rfl rfl)
theorem dX5_init_1 : decode cX5_init 1 = .ok (.invokespecial 1, 3) := dk_183 0 1 (dk_at dksX5_init_0 1 rfl rfl)
theorem dX5_init_4 : decode cX5_init 4 = .ok (.aload_n 0, 1) := dk_42 (dk_at dksX5_init_0 4 rfl rfl)
theorem dX5_init_5 : decode cX5_init 5 = .ok (.iload_n 1, 1) := dk_27 (dk_at dksX5_init_0 5 rfl rfl)
theorem dX5_init_6 : decode cX5_init 6 = .ok (.putfield 7, 3) := dk_181 0 7 (dk_at dksX5_init_0 6 rfl rfl)
theorem dX5_init_9 : decode cX5_init 9 = .ok (.aload_n 0, 1) := dk_42 (dk_at dksX5_init_0 9 rfl rfl)
theorem dX5_init_10 : decode cX5_init 10 = .ok (.aload_n 2, 1) := dk_44 (dk_at dksX5_init_0 10 rfl rfl)
theorem dX5_init_11 : decode cX5_init 11 = .ok (.putfield 13, 3) := dk_181 0 13 (dk_at dksX5_init_0 11 rfl rfl)
theorem dX5_init_14 : decode cX5_init 14 = .ok (.return_, 1) := dk_177 (dk_at dksX5_init_0 14 rfl rfl)
theorem q60 : (Jvm.Cond.initialized "KnowDisk$Write") ∈ lw_all := lw_g (lw_at lw_m1 18 rfl) rfl
theorem q191 : (Jvm.Cond.selects "KnowDisk$Write" ({ cls := "java/lang/Object", name := "getClass", desc := "()Ljava/lang/Class;" } : Jvm.MethodName) ({ cls := "java/lang/Object", name := "getClass", desc := "()Ljava/lang/Class;" } : Jvm.MethodName)) ∈ lw_all := lw_g (lw_at lw_m1 149 rfl) rfl
theorem q332 : (Jvm.Cond.instanceMethod ({ cls := "KnowDisk$Write", name := "to", desc := "()I" } : Jvm.MethodName)) ∈ lw_all := lw_g (lw_at lw_m2 50 rfl) rfl
theorem q333 : (Jvm.Cond.selects "KnowDisk$Write" ({ cls := "KnowDisk$Write", name := "to", desc := "()I" } : Jvm.MethodName) ({ cls := "KnowDisk$Write", name := "to", desc := "()I" } : Jvm.MethodName)) ∈ lw_all := lw_g (lw_at lw_m2 51 rfl) rfl
theorem q334 : (Jvm.Cond.code ({ cls := "KnowDisk$Write", name := "to", desc := "()I" } : Jvm.MethodName) prog_4_method_5_code (1 : Nat) (Option.some Jvm.ClassFile.FieldType.int)) ∈ lw_all := lw_g (lw_at lw_m2 52 rfl) rfl
theorem q336 : (Jvm.Cond.instanceMethod ({ cls := "KnowDisk$Write", name := "sector", desc := "()LKnowDisk$Sector;" } : Jvm.MethodName)) ∈ lw_all := lw_g (lw_at lw_m2 54 rfl) rfl
theorem q337 : (Jvm.Cond.selects "KnowDisk$Write" ({ cls := "KnowDisk$Write", name := "sector", desc := "()LKnowDisk$Sector;" } : Jvm.MethodName) ({ cls := "KnowDisk$Write", name := "sector", desc := "()LKnowDisk$Sector;" } : Jvm.MethodName)) ∈ lw_all := lw_g (lw_at lw_m2 55 rfl) rfl
theorem q338 : (Jvm.Cond.code ({ cls := "KnowDisk$Write", name := "sector", desc := "()LKnowDisk$Sector;" } : Jvm.MethodName) prog_4_method_6_code (1 : Nat) (Option.some (Jvm.ClassFile.FieldType.object "KnowDisk$Sector"))) ∈ lw_all := lw_g (lw_at lw_m2 56 rfl) rfl
theorem q487 : (Jvm.Cond.instantiable "KnowDisk$Write" (2 : Nat)) ∈ lw_all := lw_g (lw_at lw_m2 205 rfl) rfl
theorem q489 : (Jvm.Cond.instanceMethod ({ cls := "KnowDisk$Write", name := "<init>", desc := "(ILKnowDisk$Sector;)V" } : Jvm.MethodName)) ∈ lw_all := lw_g (lw_at lw_m2 207 rfl) rfl
theorem q490 : (Jvm.Cond.code ({ cls := "KnowDisk$Write", name := "<init>", desc := "(ILKnowDisk$Sector;)V" } : Jvm.MethodName) prog_4_method_1_code (3 : Nat) (Option.none : Option Jvm.ClassFile.FieldType)) ∈ lw_all := lw_g (lw_at lw_m2 208 rfl) rfl
theorem q491 : (Jvm.Cond.methodLink "KnowDisk$Write" (1 : Nat) ({ cls := "java/lang/Record", name := "<init>", desc := "()V" } : Jvm.MethodName)) ∈ lw_all := lw_g (lw_at lw_m2 209 rfl) rfl
theorem q492 : (Jvm.Cond.fieldLink "KnowDisk$Write" (7 : Nat) "KnowDisk$Write" "to" "I") ∈ lw_all := lw_g (lw_at lw_m2 210 rfl) rfl
theorem q493 : (Jvm.Cond.fieldLink "KnowDisk$Write" (13 : Nat) "KnowDisk$Write" "sector" "LKnowDisk$Sector;") ∈ lw_all := lw_g (lw_at lw_m2 211 rfl) rfl
theorem q494 : (Jvm.Cond.laysFinal "KnowDisk$Write" "KnowDisk$Write" "to" "I") ∈ lw_all := lw_g (lw_at lw_m2 212 rfl) rfl
theorem q495 : (Jvm.Cond.soleField "KnowDisk$Write" "to") ∈ lw_all := lw_g (lw_at lw_m2 213 rfl) rfl
theorem q496 : (Jvm.Cond.laysFinal "KnowDisk$Write" "KnowDisk$Write" "sector" "LKnowDisk$Sector;") ∈ lw_all := lw_g (lw_at lw_m2 214 rfl) rfl
theorem q497 : (Jvm.Cond.soleField "KnowDisk$Write" "sector") ∈ lw_all := lw_g (lw_at lw_m2 215 rfl) rfl
theorem q498 : (Jvm.Cond.superclass "KnowDisk$Write" "java/lang/Record") ∈ lw_all := lw_g (lw_at lw_m2 216 rfl) rfl
theorem q955 : (Jvm.Cond.castable "KnowDisk$Write" "java/lang/Object") ∈ lw_tbl := lw_at lw_m4 193 rfl
theorem in_X5 : ∀ w ∈ wsX50, w ∈ lw_all := lw_in wsX50 [494, 496] (by decide +kernel) (by decide +kernel)
/-! KnowDisk -/
set_option maxRecDepth 100000
def RX1 : String := "KnowDisk"
def TX1 : u_T := fun k => match k with
  | 0 => ("KnowDisk", "disk", "[B", true)
  | 1 => ("KnowDisk", "count", "I", true)
  | 2 => ("KnowDisk", "runs", "Z", false)
  | 3 => ("KnowDisk", "isFull", "Z", false)
  | 4 => ("KnowDisk", "places", "[I", true)
  | 5 => ("KnowDisk", "laid", "[LKnowDisk$Sector;", true)
  | 6 => ("KnowDisk", "changed", "Z", false)
  | 7 => ("KnowDisk", "waiting", "Ljava/util/ArrayDeque;", true)
  | 8 => ("KnowDisk", "states", "Ljava/util/ArrayDeque;", true)
  | _ => ("KnowDisk", "kept", "Ljava/util/ArrayList;", true)
def tyX1 : Nat → FieldType := fun k => match k with
  | 0 => .array .byte
  | 1 => .int
  | 2 => .boolean
  | 3 => .boolean
  | 4 => .array .int
  | 5 => .array (.object "KnowDisk$Sector")
  | 6 => .boolean
  | 7 => .object "java/util/ArrayDeque"
  | 8 => .object "java/util/ArrayDeque"
  | _ => .object "java/util/ArrayList"
abbrev wsX10 : List Cond := u_ws RX1 TX1 10
theorem nmX1 : ∀ a, a < 10 → ∀ b, b < 10 → a ≠ b → (TX1 a).2.1 ≠ (TX1 b).2.1 := by decide +kernel
theorem tyX1_ok : ∀ k, k < 10 → parseFieldDescriptor (TX1 k).2.2.1 = some (tyX1 k) := by decide +kernel
abbrev cX1_init : ByteArray := prog_1_method_1_code
def yX1_init : MethodName := ⟨RX1, "<init>", "(I)V"⟩
def dkwX1_init_4 : List UInt8 := [183, 0, 56, 182, 0, 59, 177]
abbrev dktX1_init_4 : List UInt8 := dkwX1_init_4 ++ []
def dkwX1_init_3 : List UInt8 := [181, 0, 46, 42, 16, 32, 42, 180, 0, 46, 104, 188, 8, 181, 0, 50, 42, 187, 0, 54, 89, 3, 9]
abbrev dktX1_init_3 : List UInt8 := dkwX1_init_3 ++ dktX1_init_4
def dkwX1_init_2 : List UInt8 := [181, 0, 30, 42, 187, 0, 33, 89, 183, 0, 35, 181, 0, 36, 42, 16, 8, 27, 16, 57, 184, 0, 40, 96]
abbrev dktX1_init_2 : List UInt8 := dkwX1_init_2 ++ dktX1_init_3
def dkwX1_init_1 : List UInt8 := [181, 0, 19, 42, 187, 0, 23, 89, 183, 0, 25, 181, 0, 26, 42, 187, 0, 23, 89, 183, 0, 25]
abbrev dktX1_init_1 : List UInt8 := dkwX1_init_1 ++ dktX1_init_2
def dkwX1_init_0 : List UInt8 := [42, 183, 0, 1, 42, 4, 181, 0, 7, 42, 16, 30, 188, 10, 181, 0, 13, 42, 16, 64, 189, 0, 17]
abbrev dktX1_init_0 : List UInt8 := dkwX1_init_0 ++ dktX1_init_1
theorem dksX1_init_0 : cX1_init.data.toList.drop 0 = dktX1_init_0 := by decide +kernel
theorem dksX1_init_1 : cX1_init.data.toList.drop 23 = dktX1_init_1 := dk_seg dksX1_init_0 23 rfl rfl
theorem dksX1_init_2 : cX1_init.data.toList.drop 45 = dktX1_init_2 := dk_seg dksX1_init_1 22 rfl rfl
theorem dksX1_init_3 : cX1_init.data.toList.drop 69 = dktX1_init_3 := dk_seg dksX1_init_2 24 rfl rfl
theorem dksX1_init_4 : cX1_init.data.toList.drop 92 = dktX1_init_4 := dk_seg dksX1_init_3 23 rfl rfl
theorem dX1_init_0 : decode cX1_init 0 = .ok (.aload_n 0, 1) := dk_42 (dk_at dksX1_init_0 0 rfl rfl)
theorem dX1_init_1 : decode cX1_init 1 = .ok (.invokespecial 1, 3) := dk_183 0 1 (dk_at dksX1_init_0 1 rfl rfl)
theorem dX1_init_4 : decode cX1_init 4 = .ok (.aload_n 0, 1) := dk_42 (dk_at dksX1_init_0 4 rfl rfl)
theorem dX1_init_5 : decode cX1_init 5 = .ok (.iconst 1, 1) := dk_4 (dk_at dksX1_init_0 5 rfl rfl)
theorem dX1_init_6 : decode cX1_init 6 = .ok (.putfield 7, 3) := dk_181 0 7 (dk_at dksX1_init_0 6 rfl rfl)
theorem dX1_init_9 : decode cX1_init 9 = .ok (.aload_n 0, 1) := dk_42 (dk_at dksX1_init_0 9 rfl rfl)
theorem dX1_init_10 : decode cX1_init 10 = .ok (.bipush 30, 2) := dk_16 30 (dk_at dksX1_init_0 10 rfl rfl)
theorem dX1_init_12 : decode cX1_init 12 = .ok (.newarray .int, 2) := dk_188_10 (dk_at dksX1_init_0 12 rfl rfl)
theorem dX1_init_14 : decode cX1_init 14 = .ok (.putfield 13, 3) := dk_181 0 13 (dk_at dksX1_init_0 14 rfl rfl)
theorem dX1_init_17 : decode cX1_init 17 = .ok (.aload_n 0, 1) := dk_42 (dk_at dksX1_init_0 17 rfl rfl)
theorem dX1_init_18 : decode cX1_init 18 = .ok (.bipush 64, 2) := dk_16 64 (dk_at dksX1_init_0 18 rfl rfl)
theorem dX1_init_20 : decode cX1_init 20 = .ok (.anewarray 17, 3) := dk_189 0 17 (dk_at dksX1_init_0 20 rfl rfl)
theorem dX1_init_23 : decode cX1_init 23 = .ok (.putfield 19, 3) := dk_181 0 19 (dk_at dksX1_init_1 0 rfl rfl)
theorem dX1_init_26 : decode cX1_init 26 = .ok (.aload_n 0, 1) := dk_42 (dk_at dksX1_init_1 3 rfl rfl)
theorem dX1_init_27 : decode cX1_init 27 = .ok (.new 23, 3) := dk_187 0 23 (dk_at dksX1_init_1 4 rfl rfl)
theorem dX1_init_30 : decode cX1_init 30 = .ok (.dup, 1) := dk_89 (dk_at dksX1_init_1 7 rfl rfl)
theorem dX1_init_31 : decode cX1_init 31 = .ok (.invokespecial 25, 3) := dk_183 0 25 (dk_at dksX1_init_1 8 rfl rfl)
theorem dX1_init_34 : decode cX1_init 34 = .ok (.putfield 26, 3) := dk_181 0 26 (dk_at dksX1_init_1 11 rfl rfl)
theorem dX1_init_37 : decode cX1_init 37 = .ok (.aload_n 0, 1) := dk_42 (dk_at dksX1_init_1 14 rfl rfl)
theorem dX1_init_38 : decode cX1_init 38 = .ok (.new 23, 3) := dk_187 0 23 (dk_at dksX1_init_1 15 rfl rfl)
theorem dX1_init_41 : decode cX1_init 41 = .ok (.dup, 1) := dk_89 (dk_at dksX1_init_1 18 rfl rfl)
theorem dX1_init_42 : decode cX1_init 42 = .ok (.invokespecial 25, 3) := dk_183 0 25 (dk_at dksX1_init_1 19 rfl rfl)
theorem dX1_init_45 : decode cX1_init 45 = .ok (.putfield 30, 3) := dk_181 0 30 (dk_at dksX1_init_2 0 rfl rfl)
theorem dX1_init_48 : decode cX1_init 48 = .ok (.aload_n 0, 1) := dk_42 (dk_at dksX1_init_2 3 rfl rfl)
theorem dX1_init_49 : decode cX1_init 49 = .ok (.new 33, 3) := dk_187 0 33 (dk_at dksX1_init_2 4 rfl rfl)
theorem dX1_init_52 : decode cX1_init 52 = .ok (.dup, 1) := dk_89 (dk_at dksX1_init_2 7 rfl rfl)
theorem dX1_init_53 : decode cX1_init 53 = .ok (.invokespecial 35, 3) := dk_183 0 35 (dk_at dksX1_init_2 8 rfl rfl)
theorem dX1_init_56 : decode cX1_init 56 = .ok (.putfield 36, 3) := dk_181 0 36 (dk_at dksX1_init_2 11 rfl rfl)
theorem dX1_init_59 : decode cX1_init 59 = .ok (.aload_n 0, 1) := dk_42 (dk_at dksX1_init_2 14 rfl rfl)
theorem dX1_init_60 : decode cX1_init 60 = .ok (.bipush 8, 2) := dk_16 8 (dk_at dksX1_init_2 15 rfl rfl)
theorem dX1_init_62 : decode cX1_init 62 = .ok (.iload_n 1, 1) := dk_27 (dk_at dksX1_init_2 17 rfl rfl)
theorem dX1_init_63 : decode cX1_init 63 = .ok (.bipush 57, 2) := dk_16 57 (dk_at dksX1_init_2 18 rfl rfl)
theorem dX1_init_65 : decode cX1_init 65 = .ok (.invokestatic 40, 3) := dk_184 0 40 (dk_at dksX1_init_2 20 rfl rfl)
theorem dX1_init_68 : decode cX1_init 68 = .ok (.iadd, 1) := dk_96 (dk_at dksX1_init_2 23 rfl rfl)
theorem dX1_init_69 : decode cX1_init 69 = .ok (.putfield 46, 3) := dk_181 0 46 (dk_at dksX1_init_3 0 rfl rfl)
theorem dX1_init_72 : decode cX1_init 72 = .ok (.aload_n 0, 1) := dk_42 (dk_at dksX1_init_3 3 rfl rfl)
theorem dX1_init_73 : decode cX1_init 73 = .ok (.bipush 32, 2) := dk_16 32 (dk_at dksX1_init_3 4 rfl rfl)
theorem dX1_init_75 : decode cX1_init 75 = .ok (.aload_n 0, 1) := dk_42 (dk_at dksX1_init_3 6 rfl rfl)
theorem dX1_init_76 : decode cX1_init 76 = .ok (.getfield 46, 3) := dk_180 0 46 (dk_at dksX1_init_3 7 rfl rfl)
theorem dX1_init_79 : decode cX1_init 79 = .ok (.imul, 1) := dk_104 (dk_at dksX1_init_3 10 rfl rfl)
theorem dX1_init_80 : decode cX1_init 80 = .ok (.newarray .byte, 2) := dk_188_8 (dk_at dksX1_init_3 11 rfl rfl)
theorem dX1_init_82 : decode cX1_init 82 = .ok (.putfield 50, 3) := dk_181 0 50 (dk_at dksX1_init_3 13 rfl rfl)
theorem dX1_init_85 : decode cX1_init 85 = .ok (.aload_n 0, 1) := dk_42 (dk_at dksX1_init_3 16 rfl rfl)
theorem dX1_init_86 : decode cX1_init 86 = .ok (.new 54, 3) := dk_187 0 54 (dk_at dksX1_init_3 17 rfl rfl)
theorem dX1_init_89 : decode cX1_init 89 = .ok (.dup, 1) := dk_89 (dk_at dksX1_init_3 20 rfl rfl)
theorem dX1_init_90 : decode cX1_init 90 = .ok (.iconst 0, 1) := dk_3 (dk_at dksX1_init_3 21 rfl rfl)
theorem dX1_init_91 : decode cX1_init 91 = .ok (.lconst 0, 1) := dk_9 (dk_at dksX1_init_3 22 rfl rfl)
theorem dX1_init_92 : decode cX1_init 92 = .ok (.invokespecial 56, 3) := dk_183 0 56 (dk_at dksX1_init_4 0 rfl rfl)
theorem dX1_init_95 : decode cX1_init 95 = .ok (.invokevirtual 59, 3) := dk_182 0 59 (dk_at dksX1_init_4 3 rfl rfl)
theorem dX1_init_98 : decode cX1_init 98 = .ok (.return_, 1) := dk_177 (dk_at dksX1_init_4 6 rfl rfl)
abbrev cX1_begin : ByteArray := prog_1_method_2_code
def yX1_begin : MethodName := ⟨RX1, "begin", "(LKnowDisk$State;)V"⟩
def dkwX1_begin_3 : List UInt8 := [42, 3, 181, 0, 71, 177]
abbrev dktX1_begin_3 : List UInt8 := dkwX1_begin_3 ++ []
def dkwX1_begin_2 : List UInt8 := [167, 255, 240, 3, 61, 28, 16, 64, 162, 0, 16, 42, 180, 0, 19, 28, 1, 83, 132, 2, 1, 167, 255, 240]
abbrev dktX1_begin_2 : List UInt8 := dkwX1_begin_2 ++ dktX1_begin_3
def dkwX1_begin_1 : List UInt8 := [180, 0, 26, 182, 0, 63, 3, 61, 28, 16, 30, 162, 0, 16, 42, 180, 0, 13, 28, 2, 79, 132, 2, 1]
abbrev dktX1_begin_1 : List UInt8 := dkwX1_begin_1 ++ dktX1_begin_2
def dkwX1_begin_0 : List UInt8 := [42, 180, 0, 30, 182, 0, 63, 42, 180, 0, 30, 43, 182, 0, 66, 87, 42, 180, 0, 36, 182, 0, 70, 42]
abbrev dktX1_begin_0 : List UInt8 := dkwX1_begin_0 ++ dktX1_begin_1
theorem dksX1_begin_0 : cX1_begin.data.toList.drop 0 = dktX1_begin_0 := by decide +kernel
theorem dksX1_begin_1 : cX1_begin.data.toList.drop 24 = dktX1_begin_1 := dk_seg dksX1_begin_0 24 rfl rfl
theorem dksX1_begin_2 : cX1_begin.data.toList.drop 48 = dktX1_begin_2 := dk_seg dksX1_begin_1 24 rfl rfl
theorem dksX1_begin_3 : cX1_begin.data.toList.drop 72 = dktX1_begin_3 := dk_seg dksX1_begin_2 24 rfl rfl
theorem dX1_begin_0 : decode cX1_begin 0 = .ok (.aload_n 0, 1) := dk_42 (dk_at dksX1_begin_0 0 rfl rfl)
theorem dX1_begin_1 : decode cX1_begin 1 = .ok (.getfield 30, 3) := dk_180 0 30 (dk_at dksX1_begin_0 1 rfl rfl)
theorem dX1_begin_4 : decode cX1_begin 4 = .ok (.invokevirtual 63, 3) := dk_182 0 63 (dk_at dksX1_begin_0 4 rfl rfl)
theorem dX1_begin_7 : decode cX1_begin 7 = .ok (.aload_n 0, 1) := dk_42 (dk_at dksX1_begin_0 7 rfl rfl)
theorem dX1_begin_8 : decode cX1_begin 8 = .ok (.getfield 30, 3) := dk_180 0 30 (dk_at dksX1_begin_0 8 rfl rfl)
theorem dX1_begin_11 : decode cX1_begin 11 = .ok (.aload_n 1, 1) := dk_43 (dk_at dksX1_begin_0 11 rfl rfl)
theorem dX1_begin_12 : decode cX1_begin 12 = .ok (.invokevirtual 66, 3) := dk_182 0 66 (dk_at dksX1_begin_0 12 rfl rfl)
theorem dX1_begin_15 : decode cX1_begin 15 = .ok (.pop, 1) := dk_87 (dk_at dksX1_begin_0 15 rfl rfl)
theorem dX1_begin_16 : decode cX1_begin 16 = .ok (.aload_n 0, 1) := dk_42 (dk_at dksX1_begin_0 16 rfl rfl)
theorem dX1_begin_17 : decode cX1_begin 17 = .ok (.getfield 36, 3) := dk_180 0 36 (dk_at dksX1_begin_0 17 rfl rfl)
theorem dX1_begin_20 : decode cX1_begin 20 = .ok (.invokevirtual 70, 3) := dk_182 0 70 (dk_at dksX1_begin_0 20 rfl rfl)
theorem dX1_begin_23 : decode cX1_begin 23 = .ok (.aload_n 0, 1) := dk_42 (dk_at dksX1_begin_0 23 rfl rfl)
theorem dX1_begin_24 : decode cX1_begin 24 = .ok (.getfield 26, 3) := dk_180 0 26 (dk_at dksX1_begin_1 0 rfl rfl)
theorem dX1_begin_27 : decode cX1_begin 27 = .ok (.invokevirtual 63, 3) := dk_182 0 63 (dk_at dksX1_begin_1 3 rfl rfl)
theorem dX1_begin_30 : decode cX1_begin 30 = .ok (.iconst 0, 1) := dk_3 (dk_at dksX1_begin_1 6 rfl rfl)
theorem dX1_begin_31 : decode cX1_begin 31 = .ok (.istore_n 2, 1) := dk_61 (dk_at dksX1_begin_1 7 rfl rfl)
theorem dX1_begin_32 : decode cX1_begin 32 = .ok (.iload_n 2, 1) := dk_28 (dk_at dksX1_begin_1 8 rfl rfl)
theorem dX1_begin_33 : decode cX1_begin 33 = .ok (.bipush 30, 2) := dk_16 30 (dk_at dksX1_begin_1 9 rfl rfl)
theorem dX1_begin_35 : decode cX1_begin 35 = .ok (.if_icmp .ge 16, 3) := dk_162 0 16 (dk_at dksX1_begin_1 11 rfl rfl)
theorem dX1_begin_38 : decode cX1_begin 38 = .ok (.aload_n 0, 1) := dk_42 (dk_at dksX1_begin_1 14 rfl rfl)
theorem dX1_begin_39 : decode cX1_begin 39 = .ok (.getfield 13, 3) := dk_180 0 13 (dk_at dksX1_begin_1 15 rfl rfl)
theorem dX1_begin_42 : decode cX1_begin 42 = .ok (.iload_n 2, 1) := dk_28 (dk_at dksX1_begin_1 18 rfl rfl)
theorem dX1_begin_43 : decode cX1_begin 43 = .ok (.iconst (-1), 1) := dk_2 (dk_at dksX1_begin_1 19 rfl rfl)
theorem dX1_begin_44 : decode cX1_begin 44 = .ok (.iastore, 1) := dk_79 (dk_at dksX1_begin_1 20 rfl rfl)
theorem dX1_begin_45 : decode cX1_begin 45 = .ok (.iinc 2 1, 3) := dk_132 2 1 (dk_at dksX1_begin_1 21 rfl rfl)
theorem dX1_begin_48 : decode cX1_begin 48 = .ok (.goto (-16), 3) := dk_167 255 240 (dk_at dksX1_begin_2 0 rfl rfl)
theorem dX1_begin_51 : decode cX1_begin 51 = .ok (.iconst 0, 1) := dk_3 (dk_at dksX1_begin_2 3 rfl rfl)
theorem dX1_begin_52 : decode cX1_begin 52 = .ok (.istore_n 2, 1) := dk_61 (dk_at dksX1_begin_2 4 rfl rfl)
theorem dX1_begin_53 : decode cX1_begin 53 = .ok (.iload_n 2, 1) := dk_28 (dk_at dksX1_begin_2 5 rfl rfl)
theorem dX1_begin_54 : decode cX1_begin 54 = .ok (.bipush 64, 2) := dk_16 64 (dk_at dksX1_begin_2 6 rfl rfl)
theorem dX1_begin_56 : decode cX1_begin 56 = .ok (.if_icmp .ge 16, 3) := dk_162 0 16 (dk_at dksX1_begin_2 8 rfl rfl)
theorem dX1_begin_59 : decode cX1_begin 59 = .ok (.aload_n 0, 1) := dk_42 (dk_at dksX1_begin_2 11 rfl rfl)
theorem dX1_begin_60 : decode cX1_begin 60 = .ok (.getfield 19, 3) := dk_180 0 19 (dk_at dksX1_begin_2 12 rfl rfl)
theorem dX1_begin_63 : decode cX1_begin 63 = .ok (.iload_n 2, 1) := dk_28 (dk_at dksX1_begin_2 15 rfl rfl)
theorem dX1_begin_64 : decode cX1_begin 64 = .ok (.aconst_null, 1) := dk_1 (dk_at dksX1_begin_2 16 rfl rfl)
theorem dX1_begin_65 : decode cX1_begin 65 = .ok (.aastore, 1) := dk_83 (dk_at dksX1_begin_2 17 rfl rfl)
theorem dX1_begin_66 : decode cX1_begin 66 = .ok (.iinc 2 1, 3) := dk_132 2 1 (dk_at dksX1_begin_2 18 rfl rfl)
theorem dX1_begin_69 : decode cX1_begin 69 = .ok (.goto (-16), 3) := dk_167 255 240 (dk_at dksX1_begin_2 21 rfl rfl)
theorem dX1_begin_72 : decode cX1_begin 72 = .ok (.aload_n 0, 1) := dk_42 (dk_at dksX1_begin_3 0 rfl rfl)
theorem dX1_begin_73 : decode cX1_begin 73 = .ok (.iconst 0, 1) := dk_3 (dk_at dksX1_begin_3 1 rfl rfl)
theorem dX1_begin_74 : decode cX1_begin 74 = .ok (.putfield 71, 3) := dk_181 0 71 (dk_at dksX1_begin_3 2 rfl rfl)
theorem dX1_begin_77 : decode cX1_begin 77 = .ok (.return_, 1) := dk_177 (dk_at dksX1_begin_3 5 rfl rfl)
abbrev cX1_page : ByteArray := prog_1_method_14_code
def yX1_page : MethodName := ⟨RX1, "page", "(IIJ)I"⟩
def dkwX1_page_6 : List UInt8 := [46, 1, 83, 42, 180, 0, 13, 28, 2, 79, 42, 4, 181, 0, 71, 28, 172]
abbrev dktX1_page_6 : List UInt8 := dkwX1_page_6 ++ []
def dkwX1_page_5 : List UInt8 := [182, 0, 153, 167, 0, 4, 28, 17, 0, 255, 33, 182, 0, 163, 172, 42, 180, 0, 19, 42, 180, 0, 13, 28]
abbrev dktX1_page_5 : List UInt8 := dkwX1_page_5 ++ dktX1_page_6
def dkwX1_page_4 : List UInt8 := [182, 0, 156, 184, 0, 159, 182, 0, 163, 172, 27, 158, 0, 26, 42, 27, 21, 5, 153, 0, 10, 42]
abbrev dktX1_page_4 : List UInt8 := dkwX1_page_4 ++ dktX1_page_5
def dkwX1_page_3 : List UInt8 := [160, 0, 5, 2, 172, 27, 6, 160, 0, 25, 42, 6, 42, 182, 0, 153, 28, 42, 28, 182, 0, 147]
abbrev dktX1_page_3 : List UInt8 := dkwX1_page_3 ++ dktX1_page_4
def dkwX1_page_2 : List UInt8 := [42, 28, 182, 0, 143, 153, 0, 20, 27, 6, 160, 0, 17, 42, 28, 182, 0, 147, 182, 0, 150, 6]
abbrev dktX1_page_2 : List UInt8 := dkwX1_page_2 ++ dktX1_page_3
def dkwX1_page_1 : List UInt8 := [160, 0, 16, 27, 158, 0, 12, 27, 6, 162, 0, 7, 4, 167, 0, 4, 3, 54, 5, 21, 5, 154, 0, 11]
abbrev dktX1_page_1 : List UInt8 := dkwX1_page_1 ++ dktX1_page_2
def dkwX1_page_0 : List UInt8 := [42, 180, 0, 7, 154, 0, 6, 16, 253, 172, 27, 155, 0, 8, 27, 6, 164, 0, 6, 16, 254, 172, 28, 2]
abbrev dktX1_page_0 : List UInt8 := dkwX1_page_0 ++ dktX1_page_1
theorem dksX1_page_0 : cX1_page.data.toList.drop 0 = dktX1_page_0 := by decide +kernel
theorem dksX1_page_1 : cX1_page.data.toList.drop 24 = dktX1_page_1 := dk_seg dksX1_page_0 24 rfl rfl
theorem dksX1_page_2 : cX1_page.data.toList.drop 48 = dktX1_page_2 := dk_seg dksX1_page_1 24 rfl rfl
theorem dksX1_page_3 : cX1_page.data.toList.drop 70 = dktX1_page_3 := dk_seg dksX1_page_2 22 rfl rfl
theorem dksX1_page_4 : cX1_page.data.toList.drop 92 = dktX1_page_4 := dk_seg dksX1_page_3 22 rfl rfl
theorem dksX1_page_5 : cX1_page.data.toList.drop 114 = dktX1_page_5 := dk_seg dksX1_page_4 22 rfl rfl
theorem dksX1_page_6 : cX1_page.data.toList.drop 138 = dktX1_page_6 := dk_seg dksX1_page_5 24 rfl rfl
theorem dX1_page_0 : decode cX1_page 0 = .ok (.aload_n 0, 1) := dk_42 (dk_at dksX1_page_0 0 rfl rfl)
theorem dX1_page_1 : decode cX1_page 1 = .ok (.getfield 7, 3) := dk_180 0 7 (dk_at dksX1_page_0 1 rfl rfl)
theorem dX1_page_4 : decode cX1_page 4 = .ok (.ifCond .ne 6, 3) := dk_154 0 6 (dk_at dksX1_page_0 4 rfl rfl)
theorem dX1_page_7 : decode cX1_page 7 = .ok (.bipush (-3), 2) := dk_16 253 (dk_at dksX1_page_0 7 rfl rfl)
theorem dX1_page_9 : decode cX1_page 9 = .ok (.ireturn, 1) := dk_172 (dk_at dksX1_page_0 9 rfl rfl)
theorem dX1_page_10 : decode cX1_page 10 = .ok (.iload_n 1, 1) := dk_27 (dk_at dksX1_page_0 10 rfl rfl)
theorem dX1_page_11 : decode cX1_page 11 = .ok (.ifCond .lt 8, 3) := dk_155 0 8 (dk_at dksX1_page_0 11 rfl rfl)
theorem dX1_page_14 : decode cX1_page 14 = .ok (.iload_n 1, 1) := dk_27 (dk_at dksX1_page_0 14 rfl rfl)
theorem dX1_page_15 : decode cX1_page 15 = .ok (.iconst 3, 1) := dk_6 (dk_at dksX1_page_0 15 rfl rfl)
theorem dX1_page_16 : decode cX1_page 16 = .ok (.if_icmp .le 6, 3) := dk_164 0 6 (dk_at dksX1_page_0 16 rfl rfl)
theorem dX1_page_19 : decode cX1_page 19 = .ok (.bipush (-2), 2) := dk_16 254 (dk_at dksX1_page_0 19 rfl rfl)
theorem dX1_page_21 : decode cX1_page 21 = .ok (.ireturn, 1) := dk_172 (dk_at dksX1_page_0 21 rfl rfl)
theorem dX1_page_22 : decode cX1_page 22 = .ok (.iload_n 2, 1) := dk_28 (dk_at dksX1_page_0 22 rfl rfl)
theorem dX1_page_23 : decode cX1_page 23 = .ok (.iconst (-1), 1) := dk_2 (dk_at dksX1_page_0 23 rfl rfl)
theorem dX1_page_24 : decode cX1_page 24 = .ok (.if_icmp .ne 16, 3) := dk_160 0 16 (dk_at dksX1_page_1 0 rfl rfl)
theorem dX1_page_27 : decode cX1_page 27 = .ok (.iload_n 1, 1) := dk_27 (dk_at dksX1_page_1 3 rfl rfl)
theorem dX1_page_28 : decode cX1_page 28 = .ok (.ifCond .le 12, 3) := dk_158 0 12 (dk_at dksX1_page_1 4 rfl rfl)
theorem dX1_page_31 : decode cX1_page 31 = .ok (.iload_n 1, 1) := dk_27 (dk_at dksX1_page_1 7 rfl rfl)
theorem dX1_page_32 : decode cX1_page 32 = .ok (.iconst 3, 1) := dk_6 (dk_at dksX1_page_1 8 rfl rfl)
theorem dX1_page_33 : decode cX1_page 33 = .ok (.if_icmp .ge 7, 3) := dk_162 0 7 (dk_at dksX1_page_1 9 rfl rfl)
theorem dX1_page_36 : decode cX1_page 36 = .ok (.iconst 1, 1) := dk_4 (dk_at dksX1_page_1 12 rfl rfl)
theorem dX1_page_37 : decode cX1_page 37 = .ok (.goto 4, 3) := dk_167 0 4 (dk_at dksX1_page_1 13 rfl rfl)
theorem dX1_page_40 : decode cX1_page 40 = .ok (.iconst 0, 1) := dk_3 (dk_at dksX1_page_1 16 rfl rfl)
theorem dX1_page_41 : decode cX1_page 41 = .ok (.istore 5, 2) := dk_54 5 (dk_at dksX1_page_1 17 rfl rfl)
theorem dX1_page_43 : decode cX1_page 43 = .ok (.iload 5, 2) := dk_21 5 (dk_at dksX1_page_1 19 rfl rfl)
theorem dX1_page_45 : decode cX1_page 45 = .ok (.ifCond .ne 11, 3) := dk_154 0 11 (dk_at dksX1_page_1 21 rfl rfl)
theorem dX1_page_48 : decode cX1_page 48 = .ok (.aload_n 0, 1) := dk_42 (dk_at dksX1_page_2 0 rfl rfl)
theorem dX1_page_49 : decode cX1_page 49 = .ok (.iload_n 2, 1) := dk_28 (dk_at dksX1_page_2 1 rfl rfl)
theorem dX1_page_50 : decode cX1_page 50 = .ok (.invokevirtual 143, 3) := dk_182 0 143 (dk_at dksX1_page_2 2 rfl rfl)
theorem dX1_page_53 : decode cX1_page 53 = .ok (.ifCond .eq 20, 3) := dk_153 0 20 (dk_at dksX1_page_2 5 rfl rfl)
theorem dX1_page_56 : decode cX1_page 56 = .ok (.iload_n 1, 1) := dk_27 (dk_at dksX1_page_2 8 rfl rfl)
theorem dX1_page_57 : decode cX1_page 57 = .ok (.iconst 3, 1) := dk_6 (dk_at dksX1_page_2 9 rfl rfl)
theorem dX1_page_58 : decode cX1_page 58 = .ok (.if_icmp .ne 17, 3) := dk_160 0 17 (dk_at dksX1_page_2 10 rfl rfl)
theorem dX1_page_61 : decode cX1_page 61 = .ok (.aload_n 0, 1) := dk_42 (dk_at dksX1_page_2 13 rfl rfl)
theorem dX1_page_62 : decode cX1_page 62 = .ok (.iload_n 2, 1) := dk_28 (dk_at dksX1_page_2 14 rfl rfl)
theorem dX1_page_63 : decode cX1_page 63 = .ok (.invokevirtual 147, 3) := dk_182 0 147 (dk_at dksX1_page_2 15 rfl rfl)
theorem dX1_page_66 : decode cX1_page 66 = .ok (.invokevirtual 150, 3) := dk_182 0 150 (dk_at dksX1_page_2 18 rfl rfl)
theorem dX1_page_69 : decode cX1_page 69 = .ok (.iconst 3, 1) := dk_6 (dk_at dksX1_page_2 21 rfl rfl)
theorem dX1_page_70 : decode cX1_page 70 = .ok (.if_icmp .ne 5, 3) := dk_160 0 5 (dk_at dksX1_page_3 0 rfl rfl)
theorem dX1_page_73 : decode cX1_page 73 = .ok (.iconst (-1), 1) := dk_2 (dk_at dksX1_page_3 3 rfl rfl)
theorem dX1_page_74 : decode cX1_page 74 = .ok (.ireturn, 1) := dk_172 (dk_at dksX1_page_3 4 rfl rfl)
theorem dX1_page_75 : decode cX1_page 75 = .ok (.iload_n 1, 1) := dk_27 (dk_at dksX1_page_3 5 rfl rfl)
theorem dX1_page_76 : decode cX1_page 76 = .ok (.iconst 3, 1) := dk_6 (dk_at dksX1_page_3 6 rfl rfl)
theorem dX1_page_77 : decode cX1_page 77 = .ok (.if_icmp .ne 25, 3) := dk_160 0 25 (dk_at dksX1_page_3 7 rfl rfl)
theorem dX1_page_80 : decode cX1_page 80 = .ok (.aload_n 0, 1) := dk_42 (dk_at dksX1_page_3 10 rfl rfl)
theorem dX1_page_81 : decode cX1_page 81 = .ok (.iconst 3, 1) := dk_6 (dk_at dksX1_page_3 11 rfl rfl)
theorem dX1_page_82 : decode cX1_page 82 = .ok (.aload_n 0, 1) := dk_42 (dk_at dksX1_page_3 12 rfl rfl)
theorem dX1_page_83 : decode cX1_page 83 = .ok (.invokevirtual 153, 3) := dk_182 0 153 (dk_at dksX1_page_3 13 rfl rfl)
theorem dX1_page_86 : decode cX1_page 86 = .ok (.iload_n 2, 1) := dk_28 (dk_at dksX1_page_3 16 rfl rfl)
theorem dX1_page_87 : decode cX1_page 87 = .ok (.aload_n 0, 1) := dk_42 (dk_at dksX1_page_3 17 rfl rfl)
theorem dX1_page_88 : decode cX1_page 88 = .ok (.iload_n 2, 1) := dk_28 (dk_at dksX1_page_3 18 rfl rfl)
theorem dX1_page_89 : decode cX1_page 89 = .ok (.invokevirtual 147, 3) := dk_182 0 147 (dk_at dksX1_page_3 19 rfl rfl)
theorem dX1_page_92 : decode cX1_page 92 = .ok (.invokevirtual 156, 3) := dk_182 0 156 (dk_at dksX1_page_4 0 rfl rfl)
theorem dX1_page_95 : decode cX1_page 95 = .ok (.invokestatic 159, 3) := dk_184 0 159 (dk_at dksX1_page_4 3 rfl rfl)
theorem dX1_page_98 : decode cX1_page 98 = .ok (.invokevirtual 163, 3) := dk_182 0 163 (dk_at dksX1_page_4 6 rfl rfl)
theorem dX1_page_101 : decode cX1_page 101 = .ok (.ireturn, 1) := dk_172 (dk_at dksX1_page_4 9 rfl rfl)
theorem dX1_page_102 : decode cX1_page 102 = .ok (.iload_n 1, 1) := dk_27 (dk_at dksX1_page_4 10 rfl rfl)
theorem dX1_page_103 : decode cX1_page 103 = .ok (.ifCond .le 26, 3) := dk_158 0 26 (dk_at dksX1_page_4 11 rfl rfl)
theorem dX1_page_106 : decode cX1_page 106 = .ok (.aload_n 0, 1) := dk_42 (dk_at dksX1_page_4 14 rfl rfl)
theorem dX1_page_107 : decode cX1_page 107 = .ok (.iload_n 1, 1) := dk_27 (dk_at dksX1_page_4 15 rfl rfl)
theorem dX1_page_108 : decode cX1_page 108 = .ok (.iload 5, 2) := dk_21 5 (dk_at dksX1_page_4 16 rfl rfl)
theorem dX1_page_110 : decode cX1_page 110 = .ok (.ifCond .eq 10, 3) := dk_153 0 10 (dk_at dksX1_page_4 18 rfl rfl)
theorem dX1_page_113 : decode cX1_page 113 = .ok (.aload_n 0, 1) := dk_42 (dk_at dksX1_page_4 21 rfl rfl)
theorem dX1_page_114 : decode cX1_page 114 = .ok (.invokevirtual 153, 3) := dk_182 0 153 (dk_at dksX1_page_5 0 rfl rfl)
theorem dX1_page_117 : decode cX1_page 117 = .ok (.goto 4, 3) := dk_167 0 4 (dk_at dksX1_page_5 3 rfl rfl)
theorem dX1_page_120 : decode cX1_page 120 = .ok (.iload_n 2, 1) := dk_28 (dk_at dksX1_page_5 6 rfl rfl)
theorem dX1_page_121 : decode cX1_page 121 = .ok (.sipush 255, 3) := dk_17 0 255 (dk_at dksX1_page_5 7 rfl rfl)
theorem dX1_page_124 : decode cX1_page 124 = .ok (.lload_n 3, 1) := dk_33 (dk_at dksX1_page_5 10 rfl rfl)
theorem dX1_page_125 : decode cX1_page 125 = .ok (.invokevirtual 163, 3) := dk_182 0 163 (dk_at dksX1_page_5 11 rfl rfl)
theorem dX1_page_128 : decode cX1_page 128 = .ok (.ireturn, 1) := dk_172 (dk_at dksX1_page_5 14 rfl rfl)
theorem dX1_page_129 : decode cX1_page 129 = .ok (.aload_n 0, 1) := dk_42 (dk_at dksX1_page_5 15 rfl rfl)
theorem dX1_page_130 : decode cX1_page 130 = .ok (.getfield 19, 3) := dk_180 0 19 (dk_at dksX1_page_5 16 rfl rfl)
theorem dX1_page_133 : decode cX1_page 133 = .ok (.aload_n 0, 1) := dk_42 (dk_at dksX1_page_5 19 rfl rfl)
theorem dX1_page_134 : decode cX1_page 134 = .ok (.getfield 13, 3) := dk_180 0 13 (dk_at dksX1_page_5 20 rfl rfl)
theorem dX1_page_137 : decode cX1_page 137 = .ok (.iload_n 2, 1) := dk_28 (dk_at dksX1_page_5 23 rfl rfl)
theorem dX1_page_138 : decode cX1_page 138 = .ok (.iaload, 1) := dk_46 (dk_at dksX1_page_6 0 rfl rfl)
theorem dX1_page_139 : decode cX1_page 139 = .ok (.aconst_null, 1) := dk_1 (dk_at dksX1_page_6 1 rfl rfl)
theorem dX1_page_140 : decode cX1_page 140 = .ok (.aastore, 1) := dk_83 (dk_at dksX1_page_6 2 rfl rfl)
theorem dX1_page_141 : decode cX1_page 141 = .ok (.aload_n 0, 1) := dk_42 (dk_at dksX1_page_6 3 rfl rfl)
theorem dX1_page_142 : decode cX1_page 142 = .ok (.getfield 13, 3) := dk_180 0 13 (dk_at dksX1_page_6 4 rfl rfl)
theorem dX1_page_145 : decode cX1_page 145 = .ok (.iload_n 2, 1) := dk_28 (dk_at dksX1_page_6 7 rfl rfl)
theorem dX1_page_146 : decode cX1_page 146 = .ok (.iconst (-1), 1) := dk_2 (dk_at dksX1_page_6 8 rfl rfl)
theorem dX1_page_147 : decode cX1_page 147 = .ok (.iastore, 1) := dk_79 (dk_at dksX1_page_6 9 rfl rfl)
theorem dX1_page_148 : decode cX1_page 148 = .ok (.aload_n 0, 1) := dk_42 (dk_at dksX1_page_6 10 rfl rfl)
theorem dX1_page_149 : decode cX1_page 149 = .ok (.iconst 1, 1) := dk_4 (dk_at dksX1_page_6 11 rfl rfl)
theorem dX1_page_150 : decode cX1_page 150 = .ok (.putfield 71, 3) := dk_181 0 71 (dk_at dksX1_page_6 12 rfl rfl)
theorem dX1_page_153 : decode cX1_page 153 = .ok (.iload_n 2, 1) := dk_28 (dk_at dksX1_page_6 15 rfl rfl)
theorem dX1_page_154 : decode cX1_page 154 = .ok (.ireturn, 1) := dk_172 (dk_at dksX1_page_6 16 rfl rfl)
abbrev cX1_isPage : ByteArray := prog_1_method_6_code
def yX1_isPage : MethodName := ⟨RX1, "isPage", "(I)Z"⟩
def dkwX1_isPage_1 : List UInt8 := [3, 172]
abbrev dktX1_isPage_1 : List UInt8 := dkwX1_isPage_1 ++ []
def dkwX1_isPage_0 : List UInt8 := [27, 155, 0, 23, 27, 16, 30, 162, 0, 17, 42, 180, 0, 13, 27, 46, 2, 159, 0, 7, 4, 167, 0, 4]
abbrev dktX1_isPage_0 : List UInt8 := dkwX1_isPage_0 ++ dktX1_isPage_1
theorem dksX1_isPage_0 : cX1_isPage.data.toList.drop 0 = dktX1_isPage_0 := by decide +kernel
theorem dksX1_isPage_1 : cX1_isPage.data.toList.drop 24 = dktX1_isPage_1 := dk_seg dksX1_isPage_0 24 rfl rfl
theorem dX1_isPage_0 : decode cX1_isPage 0 = .ok (.iload_n 1, 1) := dk_27 (dk_at dksX1_isPage_0 0 rfl rfl)
theorem dX1_isPage_1 : decode cX1_isPage 1 = .ok (.ifCond .lt 23, 3) := dk_155 0 23 (dk_at dksX1_isPage_0 1 rfl rfl)
theorem dX1_isPage_4 : decode cX1_isPage 4 = .ok (.iload_n 1, 1) := dk_27 (dk_at dksX1_isPage_0 4 rfl rfl)
theorem dX1_isPage_5 : decode cX1_isPage 5 = .ok (.bipush 30, 2) := dk_16 30 (dk_at dksX1_isPage_0 5 rfl rfl)
theorem dX1_isPage_7 : decode cX1_isPage 7 = .ok (.if_icmp .ge 17, 3) := dk_162 0 17 (dk_at dksX1_isPage_0 7 rfl rfl)
theorem dX1_isPage_10 : decode cX1_isPage 10 = .ok (.aload_n 0, 1) := dk_42 (dk_at dksX1_isPage_0 10 rfl rfl)
theorem dX1_isPage_11 : decode cX1_isPage 11 = .ok (.getfield 13, 3) := dk_180 0 13 (dk_at dksX1_isPage_0 11 rfl rfl)
theorem dX1_isPage_14 : decode cX1_isPage 14 = .ok (.iload_n 1, 1) := dk_27 (dk_at dksX1_isPage_0 14 rfl rfl)
theorem dX1_isPage_15 : decode cX1_isPage 15 = .ok (.iaload, 1) := dk_46 (dk_at dksX1_isPage_0 15 rfl rfl)
theorem dX1_isPage_16 : decode cX1_isPage 16 = .ok (.iconst (-1), 1) := dk_2 (dk_at dksX1_isPage_0 16 rfl rfl)
theorem dX1_isPage_17 : decode cX1_isPage 17 = .ok (.if_icmp .eq 7, 3) := dk_159 0 7 (dk_at dksX1_isPage_0 17 rfl rfl)
theorem dX1_isPage_20 : decode cX1_isPage 20 = .ok (.iconst 1, 1) := dk_4 (dk_at dksX1_isPage_0 20 rfl rfl)
theorem dX1_isPage_21 : decode cX1_isPage 21 = .ok (.goto 4, 3) := dk_167 0 4 (dk_at dksX1_isPage_0 21 rfl rfl)
theorem dX1_isPage_24 : decode cX1_isPage 24 = .ok (.iconst 0, 1) := dk_3 (dk_at dksX1_isPage_1 0 rfl rfl)
theorem dX1_isPage_25 : decode cX1_isPage 25 = .ok (.ireturn, 1) := dk_172 (dk_at dksX1_isPage_1 1 rfl rfl)
abbrev cX1_pageAt : ByteArray := prog_1_method_13_code
def yX1_pageAt : MethodName := ⟨RX1, "pageAt", "(I)LKnowDisk$Sector;"⟩
def dkwX1_pageAt_0 : List UInt8 := [42, 42, 180, 0, 13, 27, 46, 182, 0, 141, 176]
abbrev dktX1_pageAt_0 : List UInt8 := dkwX1_pageAt_0 ++ []
theorem dksX1_pageAt_0 : cX1_pageAt.data.toList.drop 0 = dktX1_pageAt_0 := by decide +kernel
theorem dX1_pageAt_0 : decode cX1_pageAt 0 = .ok (.aload_n 0, 1) := dk_42 (dk_at dksX1_pageAt_0 0 rfl rfl)
theorem dX1_pageAt_1 : decode cX1_pageAt 1 = .ok (.aload_n 0, 1) := dk_42 (dk_at dksX1_pageAt_0 1 rfl rfl)
theorem dX1_pageAt_2 : decode cX1_pageAt 2 = .ok (.getfield 13, 3) := dk_180 0 13 (dk_at dksX1_pageAt_0 2 rfl rfl)
theorem dX1_pageAt_5 : decode cX1_pageAt 5 = .ok (.iload_n 1, 1) := dk_27 (dk_at dksX1_pageAt_0 5 rfl rfl)
theorem dX1_pageAt_6 : decode cX1_pageAt 6 = .ok (.iaload, 1) := dk_46 (dk_at dksX1_pageAt_0 6 rfl rfl)
theorem dX1_pageAt_7 : decode cX1_pageAt 7 = .ok (.invokevirtual 141, 3) := dk_182 0 141 (dk_at dksX1_pageAt_0 7 rfl rfl)
theorem dX1_pageAt_10 : decode cX1_pageAt 10 = .ok (.areturn, 1) := dk_176 (dk_at dksX1_pageAt_0 10 rfl rfl)
abbrev cX1_sector : ByteArray := prog_1_method_4_code
def yX1_sector : MethodName := ⟨RX1, "sector", "(I)LKnowDisk$Sector;"⟩
def dkwX1_sector_3 : List UInt8 := [182, 0, 108, 167, 0, 4, 44, 176]
abbrev dktX1_sector_3 : List UInt8 := dkwX1_sector_3 ++ []
def dkwX1_sector_2 : List UInt8 := [25, 4, 182, 0, 100, 27, 160, 0, 9, 25, 4, 182, 0, 104, 77, 167, 255, 221, 44, 199, 0, 11, 42, 27]
abbrev dktX1_sector_2 : List UInt8 := dkwX1_sector_2 ++ dktX1_sector_3
def dkwX1_sector_1 : List UInt8 := [182, 0, 84, 78, 45, 185, 0, 88, 1, 0, 153, 0, 32, 45, 185, 0, 94, 1, 0, 192, 0, 98, 58, 4]
abbrev dktX1_sector_1 : List UInt8 := dkwX1_sector_1 ++ dktX1_sector_2
def dkwX1_sector_0 : List UInt8 := [42, 180, 0, 19, 27, 50, 198, 0, 10, 42, 180, 0, 19, 27, 50, 176, 1, 77, 42, 180, 0, 26]
abbrev dktX1_sector_0 : List UInt8 := dkwX1_sector_0 ++ dktX1_sector_1
theorem dksX1_sector_0 : cX1_sector.data.toList.drop 0 = dktX1_sector_0 := by decide +kernel
theorem dksX1_sector_1 : cX1_sector.data.toList.drop 22 = dktX1_sector_1 := dk_seg dksX1_sector_0 22 rfl rfl
theorem dksX1_sector_2 : cX1_sector.data.toList.drop 46 = dktX1_sector_2 := dk_seg dksX1_sector_1 24 rfl rfl
theorem dksX1_sector_3 : cX1_sector.data.toList.drop 70 = dktX1_sector_3 := dk_seg dksX1_sector_2 24 rfl rfl
theorem dX1_sector_0 : decode cX1_sector 0 = .ok (.aload_n 0, 1) := dk_42 (dk_at dksX1_sector_0 0 rfl rfl)
theorem dX1_sector_1 : decode cX1_sector 1 = .ok (.getfield 19, 3) := dk_180 0 19 (dk_at dksX1_sector_0 1 rfl rfl)
theorem dX1_sector_4 : decode cX1_sector 4 = .ok (.iload_n 1, 1) := dk_27 (dk_at dksX1_sector_0 4 rfl rfl)
theorem dX1_sector_5 : decode cX1_sector 5 = .ok (.aaload, 1) := dk_50 (dk_at dksX1_sector_0 5 rfl rfl)
theorem dX1_sector_6 : decode cX1_sector 6 = .ok (.ifnull 10, 3) := dk_198 0 10 (dk_at dksX1_sector_0 6 rfl rfl)
theorem dX1_sector_9 : decode cX1_sector 9 = .ok (.aload_n 0, 1) := dk_42 (dk_at dksX1_sector_0 9 rfl rfl)
theorem dX1_sector_10 : decode cX1_sector 10 = .ok (.getfield 19, 3) := dk_180 0 19 (dk_at dksX1_sector_0 10 rfl rfl)
theorem dX1_sector_13 : decode cX1_sector 13 = .ok (.iload_n 1, 1) := dk_27 (dk_at dksX1_sector_0 13 rfl rfl)
theorem dX1_sector_14 : decode cX1_sector 14 = .ok (.aaload, 1) := dk_50 (dk_at dksX1_sector_0 14 rfl rfl)
theorem dX1_sector_15 : decode cX1_sector 15 = .ok (.areturn, 1) := dk_176 (dk_at dksX1_sector_0 15 rfl rfl)
theorem dX1_sector_16 : decode cX1_sector 16 = .ok (.aconst_null, 1) := dk_1 (dk_at dksX1_sector_0 16 rfl rfl)
theorem dX1_sector_17 : decode cX1_sector 17 = .ok (.astore_n 2, 1) := dk_77 (dk_at dksX1_sector_0 17 rfl rfl)
theorem dX1_sector_18 : decode cX1_sector 18 = .ok (.aload_n 0, 1) := dk_42 (dk_at dksX1_sector_0 18 rfl rfl)
theorem dX1_sector_19 : decode cX1_sector 19 = .ok (.getfield 26, 3) := dk_180 0 26 (dk_at dksX1_sector_0 19 rfl rfl)
theorem dX1_sector_22 : decode cX1_sector 22 = .ok (.invokevirtual 84, 3) := dk_182 0 84 (dk_at dksX1_sector_1 0 rfl rfl)
theorem dX1_sector_25 : decode cX1_sector 25 = .ok (.astore_n 3, 1) := dk_78 (dk_at dksX1_sector_1 3 rfl rfl)
theorem dX1_sector_26 : decode cX1_sector 26 = .ok (.aload_n 3, 1) := dk_45 (dk_at dksX1_sector_1 4 rfl rfl)
theorem dX1_sector_27 : decode cX1_sector 27 = .ok (.invokeinterface 88 1, 5) := by decide +kernel
theorem dX1_sector_32 : decode cX1_sector 32 = .ok (.ifCond .eq 32, 3) := dk_153 0 32 (dk_at dksX1_sector_1 10 rfl rfl)
theorem dX1_sector_35 : decode cX1_sector 35 = .ok (.aload_n 3, 1) := dk_45 (dk_at dksX1_sector_1 13 rfl rfl)
theorem dX1_sector_36 : decode cX1_sector 36 = .ok (.invokeinterface 94 1, 5) := by decide +kernel
theorem dX1_sector_41 : decode cX1_sector 41 = .ok (.checkcast 98, 3) := dk_192 0 98 (dk_at dksX1_sector_1 19 rfl rfl)
theorem dX1_sector_44 : decode cX1_sector 44 = .ok (.astore 4, 2) := dk_58 4 (dk_at dksX1_sector_1 22 rfl rfl)
theorem dX1_sector_46 : decode cX1_sector 46 = .ok (.aload 4, 2) := dk_25 4 (dk_at dksX1_sector_2 0 rfl rfl)
theorem dX1_sector_48 : decode cX1_sector 48 = .ok (.invokevirtual 100, 3) := dk_182 0 100 (dk_at dksX1_sector_2 2 rfl rfl)
theorem dX1_sector_51 : decode cX1_sector 51 = .ok (.iload_n 1, 1) := dk_27 (dk_at dksX1_sector_2 5 rfl rfl)
theorem dX1_sector_52 : decode cX1_sector 52 = .ok (.if_icmp .ne 9, 3) := dk_160 0 9 (dk_at dksX1_sector_2 6 rfl rfl)
theorem dX1_sector_55 : decode cX1_sector 55 = .ok (.aload 4, 2) := dk_25 4 (dk_at dksX1_sector_2 9 rfl rfl)
theorem dX1_sector_57 : decode cX1_sector 57 = .ok (.invokevirtual 104, 3) := dk_182 0 104 (dk_at dksX1_sector_2 11 rfl rfl)
theorem dX1_sector_60 : decode cX1_sector 60 = .ok (.astore_n 2, 1) := dk_77 (dk_at dksX1_sector_2 14 rfl rfl)
theorem dX1_sector_61 : decode cX1_sector 61 = .ok (.goto (-35), 3) := dk_167 255 221 (dk_at dksX1_sector_2 15 rfl rfl)
theorem dX1_sector_64 : decode cX1_sector 64 = .ok (.aload_n 2, 1) := dk_44 (dk_at dksX1_sector_2 18 rfl rfl)
theorem dX1_sector_65 : decode cX1_sector 65 = .ok (.ifnonnull 11, 3) := dk_199 0 11 (dk_at dksX1_sector_2 19 rfl rfl)
theorem dX1_sector_68 : decode cX1_sector 68 = .ok (.aload_n 0, 1) := dk_42 (dk_at dksX1_sector_2 22 rfl rfl)
theorem dX1_sector_69 : decode cX1_sector 69 = .ok (.iload_n 1, 1) := dk_27 (dk_at dksX1_sector_2 23 rfl rfl)
theorem dX1_sector_70 : decode cX1_sector 70 = .ok (.invokevirtual 108, 3) := dk_182 0 108 (dk_at dksX1_sector_3 0 rfl rfl)
theorem dX1_sector_73 : decode cX1_sector 73 = .ok (.goto 4, 3) := dk_167 0 4 (dk_at dksX1_sector_3 3 rfl rfl)
theorem dX1_sector_76 : decode cX1_sector 76 = .ok (.aload_n 2, 1) := dk_44 (dk_at dksX1_sector_3 6 rfl rfl)
theorem dX1_sector_77 : decode cX1_sector 77 = .ok (.areturn, 1) := dk_176 (dk_at dksX1_sector_3 7 rfl rfl)
abbrev cX1_read : ByteArray := prog_1_method_3_code
def yX1_read : MethodName := ⟨RX1, "read", "(I)LKnowDisk$Sector;"⟩
def dkwX1_read_1 : List UInt8 := [184, 0, 78, 44, 176]
abbrev dktX1_read_1 : List UInt8 := dkwX1_read_1 ++ []
def dkwX1_read_0 : List UInt8 := [187, 0, 17, 89, 183, 0, 74, 77, 42, 180, 0, 50, 16, 32, 27, 104, 44, 180, 0, 75, 3, 16, 32]
abbrev dktX1_read_0 : List UInt8 := dkwX1_read_0 ++ dktX1_read_1
theorem dksX1_read_0 : cX1_read.data.toList.drop 0 = dktX1_read_0 := by decide +kernel
theorem dksX1_read_1 : cX1_read.data.toList.drop 23 = dktX1_read_1 := dk_seg dksX1_read_0 23 rfl rfl
theorem dX1_read_0 : decode cX1_read 0 = .ok (.new 17, 3) := dk_187 0 17 (dk_at dksX1_read_0 0 rfl rfl)
theorem dX1_read_3 : decode cX1_read 3 = .ok (.dup, 1) := dk_89 (dk_at dksX1_read_0 3 rfl rfl)
theorem dX1_read_4 : decode cX1_read 4 = .ok (.invokespecial 74, 3) := dk_183 0 74 (dk_at dksX1_read_0 4 rfl rfl)
theorem dX1_read_7 : decode cX1_read 7 = .ok (.astore_n 2, 1) := dk_77 (dk_at dksX1_read_0 7 rfl rfl)
theorem dX1_read_8 : decode cX1_read 8 = .ok (.aload_n 0, 1) := dk_42 (dk_at dksX1_read_0 8 rfl rfl)
theorem dX1_read_9 : decode cX1_read 9 = .ok (.getfield 50, 3) := dk_180 0 50 (dk_at dksX1_read_0 9 rfl rfl)
theorem dX1_read_12 : decode cX1_read 12 = .ok (.bipush 32, 2) := dk_16 32 (dk_at dksX1_read_0 12 rfl rfl)
theorem dX1_read_14 : decode cX1_read 14 = .ok (.iload_n 1, 1) := dk_27 (dk_at dksX1_read_0 14 rfl rfl)
theorem dX1_read_15 : decode cX1_read 15 = .ok (.imul, 1) := dk_104 (dk_at dksX1_read_0 15 rfl rfl)
theorem dX1_read_16 : decode cX1_read 16 = .ok (.aload_n 2, 1) := dk_44 (dk_at dksX1_read_0 16 rfl rfl)
theorem dX1_read_17 : decode cX1_read 17 = .ok (.getfield 75, 3) := dk_180 0 75 (dk_at dksX1_read_0 17 rfl rfl)
theorem dX1_read_20 : decode cX1_read 20 = .ok (.iconst 0, 1) := dk_3 (dk_at dksX1_read_0 20 rfl rfl)
theorem dX1_read_21 : decode cX1_read 21 = .ok (.bipush 32, 2) := dk_16 32 (dk_at dksX1_read_0 21 rfl rfl)
theorem dX1_read_23 : decode cX1_read 23 = .ok (.invokestatic 78, 3) := dk_184 0 78 (dk_at dksX1_read_1 0 rfl rfl)
theorem dX1_read_26 : decode cX1_read 26 = .ok (.aload_n 2, 1) := dk_44 (dk_at dksX1_read_1 3 rfl rfl)
theorem dX1_read_27 : decode cX1_read 27 = .ok (.areturn, 1) := dk_176 (dk_at dksX1_read_1 4 rfl rfl)
abbrev cX1_freePage : ByteArray := prog_1_method_10_code
def yX1_freePage : MethodName := ⟨RX1, "freePage", "()I"⟩
def dkwX1_freePage_1 : List UInt8 := [27, 16, 30, 162, 0, 7, 27, 167, 0, 4, 2, 172]
abbrev dktX1_freePage_1 : List UInt8 := dkwX1_freePage_1 ++ []
def dkwX1_freePage_0 : List UInt8 := [3, 60, 27, 16, 30, 162, 0, 19, 42, 180, 0, 13, 27, 46, 2, 159, 0, 9, 132, 1, 1, 167, 255, 237]
abbrev dktX1_freePage_0 : List UInt8 := dkwX1_freePage_0 ++ dktX1_freePage_1
theorem dksX1_freePage_0 : cX1_freePage.data.toList.drop 0 = dktX1_freePage_0 := by decide +kernel
theorem dksX1_freePage_1 : cX1_freePage.data.toList.drop 24 = dktX1_freePage_1 := dk_seg dksX1_freePage_0 24 rfl rfl
theorem dX1_freePage_0 : decode cX1_freePage 0 = .ok (.iconst 0, 1) := dk_3 (dk_at dksX1_freePage_0 0 rfl rfl)
theorem dX1_freePage_1 : decode cX1_freePage 1 = .ok (.istore_n 1, 1) := dk_60 (dk_at dksX1_freePage_0 1 rfl rfl)
theorem dX1_freePage_2 : decode cX1_freePage 2 = .ok (.iload_n 1, 1) := dk_27 (dk_at dksX1_freePage_0 2 rfl rfl)
theorem dX1_freePage_3 : decode cX1_freePage 3 = .ok (.bipush 30, 2) := dk_16 30 (dk_at dksX1_freePage_0 3 rfl rfl)
theorem dX1_freePage_5 : decode cX1_freePage 5 = .ok (.if_icmp .ge 19, 3) := dk_162 0 19 (dk_at dksX1_freePage_0 5 rfl rfl)
theorem dX1_freePage_8 : decode cX1_freePage 8 = .ok (.aload_n 0, 1) := dk_42 (dk_at dksX1_freePage_0 8 rfl rfl)
theorem dX1_freePage_9 : decode cX1_freePage 9 = .ok (.getfield 13, 3) := dk_180 0 13 (dk_at dksX1_freePage_0 9 rfl rfl)
theorem dX1_freePage_12 : decode cX1_freePage 12 = .ok (.iload_n 1, 1) := dk_27 (dk_at dksX1_freePage_0 12 rfl rfl)
theorem dX1_freePage_13 : decode cX1_freePage 13 = .ok (.iaload, 1) := dk_46 (dk_at dksX1_freePage_0 13 rfl rfl)
theorem dX1_freePage_14 : decode cX1_freePage 14 = .ok (.iconst (-1), 1) := dk_2 (dk_at dksX1_freePage_0 14 rfl rfl)
theorem dX1_freePage_15 : decode cX1_freePage 15 = .ok (.if_icmp .eq 9, 3) := dk_159 0 9 (dk_at dksX1_freePage_0 15 rfl rfl)
theorem dX1_freePage_18 : decode cX1_freePage 18 = .ok (.iinc 1 1, 3) := dk_132 1 1 (dk_at dksX1_freePage_0 18 rfl rfl)
theorem dX1_freePage_21 : decode cX1_freePage 21 = .ok (.goto (-19), 3) := dk_167 255 237 (dk_at dksX1_freePage_0 21 rfl rfl)
theorem dX1_freePage_24 : decode cX1_freePage 24 = .ok (.iload_n 1, 1) := dk_27 (dk_at dksX1_freePage_1 0 rfl rfl)
theorem dX1_freePage_25 : decode cX1_freePage 25 = .ok (.bipush 30, 2) := dk_16 30 (dk_at dksX1_freePage_1 1 rfl rfl)
theorem dX1_freePage_27 : decode cX1_freePage 27 = .ok (.if_icmp .ge 7, 3) := dk_162 0 7 (dk_at dksX1_freePage_1 3 rfl rfl)
theorem dX1_freePage_30 : decode cX1_freePage 30 = .ok (.iload_n 1, 1) := dk_27 (dk_at dksX1_freePage_1 6 rfl rfl)
theorem dX1_freePage_31 : decode cX1_freePage 31 = .ok (.goto 4, 3) := dk_167 0 4 (dk_at dksX1_freePage_1 7 rfl rfl)
theorem dX1_freePage_34 : decode cX1_freePage 34 = .ok (.iconst (-1), 1) := dk_2 (dk_at dksX1_freePage_1 10 rfl rfl)
theorem dX1_freePage_35 : decode cX1_freePage 35 = .ok (.ireturn, 1) := dk_172 (dk_at dksX1_freePage_1 11 rfl rfl)
abbrev cX1_derivedFrom : ByteArray := prog_1_method_11_code
def yX1_derivedFrom : MethodName := ⟨RX1, "derivedFrom", "(J)J"⟩
def dkwX1_derivedFrom_0 : List UInt8 := [30, 16, 9, 184, 0, 123, 20, 0, 129, 131, 173]
abbrev dktX1_derivedFrom_0 : List UInt8 := dkwX1_derivedFrom_0 ++ []
theorem dksX1_derivedFrom_0 : cX1_derivedFrom.data.toList.drop 0 = dktX1_derivedFrom_0 := by decide +kernel
theorem dX1_derivedFrom_0 : decode cX1_derivedFrom 0 = .ok (.lload_n 0, 1) := dk_30 (dk_at dksX1_derivedFrom_0 0 rfl rfl)
theorem dX1_derivedFrom_1 : decode cX1_derivedFrom 1 = .ok (.bipush 9, 2) := dk_16 9 (dk_at dksX1_derivedFrom_0 1 rfl rfl)
theorem dX1_derivedFrom_3 : decode cX1_derivedFrom 3 = .ok (.invokestatic 123, 3) := dk_184 0 123 (dk_at dksX1_derivedFrom_0 3 rfl rfl)
theorem dX1_derivedFrom_6 : decode cX1_derivedFrom 6 = .ok (.ldc2_w 129, 3) := dk_20 0 129 (dk_at dksX1_derivedFrom_0 6 rfl rfl)
theorem dX1_derivedFrom_9 : decode cX1_derivedFrom 9 = .ok (.lxor, 1) := dk_131 (dk_at dksX1_derivedFrom_0 9 rfl rfl)
theorem dX1_derivedFrom_10 : decode cX1_derivedFrom 10 = .ok (.lreturn, 1) := dk_173 (dk_at dksX1_derivedFrom_0 10 rfl rfl)
abbrev cX1_lay : ByteArray := prog_1_method_12_code
def yX1_lay : MethodName := ⟨RX1, "lay", "(IIIJ)I"⟩
def dkwX1_lay_3 : List UInt8 := [79, 42, 4, 181, 0, 71, 28, 172]
abbrev dktX1_lay_3 : List UInt8 := dkwX1_lay_3 ++ []
def dkwX1_lay_2 : List UInt8 := [46, 2, 159, 0, 15, 42, 180, 0, 19, 42, 180, 0, 13, 28, 46, 1, 83, 42, 180, 0, 13, 28, 21, 6]
abbrev dktX1_lay_2 : List UInt8 := dkwX1_lay_2 ++ dktX1_lay_3
def dkwX1_lay_1 : List UInt8 := [16, 252, 172, 42, 180, 0, 19, 21, 6, 27, 28, 29, 22, 4, 3, 184, 0, 137, 83, 42, 180, 0, 13, 28]
abbrev dktX1_lay_1 : List UInt8 := dkwX1_lay_1 ++ dktX1_lay_2
def dkwX1_lay_0 : List UInt8 := [42, 182, 0, 131, 54, 6, 28, 2, 159, 0, 16, 21, 6, 2, 159, 0, 10, 42, 180, 0, 134, 153, 0, 6]
abbrev dktX1_lay_0 : List UInt8 := dkwX1_lay_0 ++ dktX1_lay_1
theorem dksX1_lay_0 : cX1_lay.data.toList.drop 0 = dktX1_lay_0 := by decide +kernel
theorem dksX1_lay_1 : cX1_lay.data.toList.drop 24 = dktX1_lay_1 := dk_seg dksX1_lay_0 24 rfl rfl
theorem dksX1_lay_2 : cX1_lay.data.toList.drop 48 = dktX1_lay_2 := dk_seg dksX1_lay_1 24 rfl rfl
theorem dksX1_lay_3 : cX1_lay.data.toList.drop 72 = dktX1_lay_3 := dk_seg dksX1_lay_2 24 rfl rfl
theorem dX1_lay_0 : decode cX1_lay 0 = .ok (.aload_n 0, 1) := dk_42 (dk_at dksX1_lay_0 0 rfl rfl)
theorem dX1_lay_1 : decode cX1_lay 1 = .ok (.invokevirtual 131, 3) := dk_182 0 131 (dk_at dksX1_lay_0 1 rfl rfl)
theorem dX1_lay_4 : decode cX1_lay 4 = .ok (.istore 6, 2) := dk_54 6 (dk_at dksX1_lay_0 4 rfl rfl)
theorem dX1_lay_6 : decode cX1_lay 6 = .ok (.iload_n 2, 1) := dk_28 (dk_at dksX1_lay_0 6 rfl rfl)
theorem dX1_lay_7 : decode cX1_lay 7 = .ok (.iconst (-1), 1) := dk_2 (dk_at dksX1_lay_0 7 rfl rfl)
theorem dX1_lay_8 : decode cX1_lay 8 = .ok (.if_icmp .eq 16, 3) := dk_159 0 16 (dk_at dksX1_lay_0 8 rfl rfl)
theorem dX1_lay_11 : decode cX1_lay 11 = .ok (.iload 6, 2) := dk_21 6 (dk_at dksX1_lay_0 11 rfl rfl)
theorem dX1_lay_13 : decode cX1_lay 13 = .ok (.iconst (-1), 1) := dk_2 (dk_at dksX1_lay_0 13 rfl rfl)
theorem dX1_lay_14 : decode cX1_lay 14 = .ok (.if_icmp .eq 10, 3) := dk_159 0 10 (dk_at dksX1_lay_0 14 rfl rfl)
theorem dX1_lay_17 : decode cX1_lay 17 = .ok (.aload_n 0, 1) := dk_42 (dk_at dksX1_lay_0 17 rfl rfl)
theorem dX1_lay_18 : decode cX1_lay 18 = .ok (.getfield 134, 3) := dk_180 0 134 (dk_at dksX1_lay_0 18 rfl rfl)
theorem dX1_lay_21 : decode cX1_lay 21 = .ok (.ifCond .eq 6, 3) := dk_153 0 6 (dk_at dksX1_lay_0 21 rfl rfl)
theorem dX1_lay_24 : decode cX1_lay 24 = .ok (.bipush (-4), 2) := dk_16 252 (dk_at dksX1_lay_1 0 rfl rfl)
theorem dX1_lay_26 : decode cX1_lay 26 = .ok (.ireturn, 1) := dk_172 (dk_at dksX1_lay_1 2 rfl rfl)
theorem dX1_lay_27 : decode cX1_lay 27 = .ok (.aload_n 0, 1) := dk_42 (dk_at dksX1_lay_1 3 rfl rfl)
theorem dX1_lay_28 : decode cX1_lay 28 = .ok (.getfield 19, 3) := dk_180 0 19 (dk_at dksX1_lay_1 4 rfl rfl)
theorem dX1_lay_31 : decode cX1_lay 31 = .ok (.iload 6, 2) := dk_21 6 (dk_at dksX1_lay_1 7 rfl rfl)
theorem dX1_lay_33 : decode cX1_lay 33 = .ok (.iload_n 1, 1) := dk_27 (dk_at dksX1_lay_1 9 rfl rfl)
theorem dX1_lay_34 : decode cX1_lay 34 = .ok (.iload_n 2, 1) := dk_28 (dk_at dksX1_lay_1 10 rfl rfl)
theorem dX1_lay_35 : decode cX1_lay 35 = .ok (.iload_n 3, 1) := dk_29 (dk_at dksX1_lay_1 11 rfl rfl)
theorem dX1_lay_36 : decode cX1_lay 36 = .ok (.lload 4, 2) := dk_22 4 (dk_at dksX1_lay_1 12 rfl rfl)
theorem dX1_lay_38 : decode cX1_lay 38 = .ok (.iconst 0, 1) := dk_3 (dk_at dksX1_lay_1 14 rfl rfl)
theorem dX1_lay_39 : decode cX1_lay 39 = .ok (.invokestatic 137, 3) := dk_184 0 137 (dk_at dksX1_lay_1 15 rfl rfl)
theorem dX1_lay_42 : decode cX1_lay 42 = .ok (.aastore, 1) := dk_83 (dk_at dksX1_lay_1 18 rfl rfl)
theorem dX1_lay_43 : decode cX1_lay 43 = .ok (.aload_n 0, 1) := dk_42 (dk_at dksX1_lay_1 19 rfl rfl)
theorem dX1_lay_44 : decode cX1_lay 44 = .ok (.getfield 13, 3) := dk_180 0 13 (dk_at dksX1_lay_1 20 rfl rfl)
theorem dX1_lay_47 : decode cX1_lay 47 = .ok (.iload_n 2, 1) := dk_28 (dk_at dksX1_lay_1 23 rfl rfl)
theorem dX1_lay_48 : decode cX1_lay 48 = .ok (.iaload, 1) := dk_46 (dk_at dksX1_lay_2 0 rfl rfl)
theorem dX1_lay_49 : decode cX1_lay 49 = .ok (.iconst (-1), 1) := dk_2 (dk_at dksX1_lay_2 1 rfl rfl)
theorem dX1_lay_50 : decode cX1_lay 50 = .ok (.if_icmp .eq 15, 3) := dk_159 0 15 (dk_at dksX1_lay_2 2 rfl rfl)
theorem dX1_lay_53 : decode cX1_lay 53 = .ok (.aload_n 0, 1) := dk_42 (dk_at dksX1_lay_2 5 rfl rfl)
theorem dX1_lay_54 : decode cX1_lay 54 = .ok (.getfield 19, 3) := dk_180 0 19 (dk_at dksX1_lay_2 6 rfl rfl)
theorem dX1_lay_57 : decode cX1_lay 57 = .ok (.aload_n 0, 1) := dk_42 (dk_at dksX1_lay_2 9 rfl rfl)
theorem dX1_lay_58 : decode cX1_lay 58 = .ok (.getfield 13, 3) := dk_180 0 13 (dk_at dksX1_lay_2 10 rfl rfl)
theorem dX1_lay_61 : decode cX1_lay 61 = .ok (.iload_n 2, 1) := dk_28 (dk_at dksX1_lay_2 13 rfl rfl)
theorem dX1_lay_62 : decode cX1_lay 62 = .ok (.iaload, 1) := dk_46 (dk_at dksX1_lay_2 14 rfl rfl)
theorem dX1_lay_63 : decode cX1_lay 63 = .ok (.aconst_null, 1) := dk_1 (dk_at dksX1_lay_2 15 rfl rfl)
theorem dX1_lay_64 : decode cX1_lay 64 = .ok (.aastore, 1) := dk_83 (dk_at dksX1_lay_2 16 rfl rfl)
theorem dX1_lay_65 : decode cX1_lay 65 = .ok (.aload_n 0, 1) := dk_42 (dk_at dksX1_lay_2 17 rfl rfl)
theorem dX1_lay_66 : decode cX1_lay 66 = .ok (.getfield 13, 3) := dk_180 0 13 (dk_at dksX1_lay_2 18 rfl rfl)
theorem dX1_lay_69 : decode cX1_lay 69 = .ok (.iload_n 2, 1) := dk_28 (dk_at dksX1_lay_2 21 rfl rfl)
theorem dX1_lay_70 : decode cX1_lay 70 = .ok (.iload 6, 2) := dk_21 6 (dk_at dksX1_lay_2 22 rfl rfl)
theorem dX1_lay_72 : decode cX1_lay 72 = .ok (.iastore, 1) := dk_79 (dk_at dksX1_lay_3 0 rfl rfl)
theorem dX1_lay_73 : decode cX1_lay 73 = .ok (.aload_n 0, 1) := dk_42 (dk_at dksX1_lay_3 1 rfl rfl)
theorem dX1_lay_74 : decode cX1_lay 74 = .ok (.iconst 1, 1) := dk_4 (dk_at dksX1_lay_3 2 rfl rfl)
theorem dX1_lay_75 : decode cX1_lay 75 = .ok (.putfield 71, 3) := dk_181 0 71 (dk_at dksX1_lay_3 3 rfl rfl)
theorem dX1_lay_78 : decode cX1_lay 78 = .ok (.iload_n 2, 1) := dk_28 (dk_at dksX1_lay_3 6 rfl rfl)
theorem dX1_lay_79 : decode cX1_lay 79 = .ok (.ireturn, 1) := dk_172 (dk_at dksX1_lay_3 7 rfl rfl)
abbrev cX1_free : ByteArray := prog_1_method_9_code
def yX1_free : MethodName := ⟨RX1, "free", "()I"⟩
def dkwX1_free_1 : List UInt8 := [154, 0, 9, 132, 3, 1, 167, 255, 235, 29, 42, 180, 0, 46, 162, 0, 7, 29, 167, 0, 4, 2, 172]
abbrev dktX1_free_1 : List UInt8 := dkwX1_free_1 ++ []
def dkwX1_free_0 : List UInt8 := [42, 182, 0, 120, 64, 5, 62, 29, 42, 180, 0, 46, 162, 0, 19, 31, 29, 123, 10, 127, 10, 148]
abbrev dktX1_free_0 : List UInt8 := dkwX1_free_0 ++ dktX1_free_1
theorem dksX1_free_0 : cX1_free.data.toList.drop 0 = dktX1_free_0 := by decide +kernel
theorem dksX1_free_1 : cX1_free.data.toList.drop 22 = dktX1_free_1 := dk_seg dksX1_free_0 22 rfl rfl
theorem dX1_free_0 : decode cX1_free 0 = .ok (.aload_n 0, 1) := dk_42 (dk_at dksX1_free_0 0 rfl rfl)
theorem dX1_free_1 : decode cX1_free 1 = .ok (.invokevirtual 120, 3) := dk_182 0 120 (dk_at dksX1_free_0 1 rfl rfl)
theorem dX1_free_4 : decode cX1_free 4 = .ok (.lstore_n 1, 1) := dk_64 (dk_at dksX1_free_0 4 rfl rfl)
theorem dX1_free_5 : decode cX1_free 5 = .ok (.iconst 2, 1) := dk_5 (dk_at dksX1_free_0 5 rfl rfl)
theorem dX1_free_6 : decode cX1_free 6 = .ok (.istore_n 3, 1) := dk_62 (dk_at dksX1_free_0 6 rfl rfl)
theorem dX1_free_7 : decode cX1_free 7 = .ok (.iload_n 3, 1) := dk_29 (dk_at dksX1_free_0 7 rfl rfl)
theorem dX1_free_8 : decode cX1_free 8 = .ok (.aload_n 0, 1) := dk_42 (dk_at dksX1_free_0 8 rfl rfl)
theorem dX1_free_9 : decode cX1_free 9 = .ok (.getfield 46, 3) := dk_180 0 46 (dk_at dksX1_free_0 9 rfl rfl)
theorem dX1_free_12 : decode cX1_free 12 = .ok (.if_icmp .ge 19, 3) := dk_162 0 19 (dk_at dksX1_free_0 12 rfl rfl)
theorem dX1_free_15 : decode cX1_free 15 = .ok (.lload_n 1, 1) := dk_31 (dk_at dksX1_free_0 15 rfl rfl)
theorem dX1_free_16 : decode cX1_free 16 = .ok (.iload_n 3, 1) := dk_29 (dk_at dksX1_free_0 16 rfl rfl)
theorem dX1_free_17 : decode cX1_free 17 = .ok (.lshr, 1) := dk_123 (dk_at dksX1_free_0 17 rfl rfl)
theorem dX1_free_18 : decode cX1_free 18 = .ok (.lconst 1, 1) := dk_10 (dk_at dksX1_free_0 18 rfl rfl)
theorem dX1_free_19 : decode cX1_free 19 = .ok (.land, 1) := dk_127 (dk_at dksX1_free_0 19 rfl rfl)
theorem dX1_free_20 : decode cX1_free 20 = .ok (.lconst 1, 1) := dk_10 (dk_at dksX1_free_0 20 rfl rfl)
theorem dX1_free_21 : decode cX1_free 21 = .ok (.lcmp, 1) := dk_148 (dk_at dksX1_free_0 21 rfl rfl)
theorem dX1_free_22 : decode cX1_free 22 = .ok (.ifCond .ne 9, 3) := dk_154 0 9 (dk_at dksX1_free_1 0 rfl rfl)
theorem dX1_free_25 : decode cX1_free 25 = .ok (.iinc 3 1, 3) := dk_132 3 1 (dk_at dksX1_free_1 3 rfl rfl)
theorem dX1_free_28 : decode cX1_free 28 = .ok (.goto (-21), 3) := dk_167 255 235 (dk_at dksX1_free_1 6 rfl rfl)
theorem dX1_free_31 : decode cX1_free 31 = .ok (.iload_n 3, 1) := dk_29 (dk_at dksX1_free_1 9 rfl rfl)
theorem dX1_free_32 : decode cX1_free 32 = .ok (.aload_n 0, 1) := dk_42 (dk_at dksX1_free_1 10 rfl rfl)
theorem dX1_free_33 : decode cX1_free 33 = .ok (.getfield 46, 3) := dk_180 0 46 (dk_at dksX1_free_1 11 rfl rfl)
theorem dX1_free_36 : decode cX1_free 36 = .ok (.if_icmp .ge 7, 3) := dk_162 0 7 (dk_at dksX1_free_1 14 rfl rfl)
theorem dX1_free_39 : decode cX1_free 39 = .ok (.iload_n 3, 1) := dk_29 (dk_at dksX1_free_1 17 rfl rfl)
theorem dX1_free_40 : decode cX1_free 40 = .ok (.goto 4, 3) := dk_167 0 4 (dk_at dksX1_free_1 18 rfl rfl)
theorem dX1_free_43 : decode cX1_free 43 = .ok (.iconst (-1), 1) := dk_2 (dk_at dksX1_free_1 21 rfl rfl)
theorem dX1_free_44 : decode cX1_free 44 = .ok (.ireturn, 1) := dk_172 (dk_at dksX1_free_1 22 rfl rfl)
abbrev cX1_held : ByteArray := prog_1_method_8_code
def yX1_held : MethodName := ⟨RX1, "held", "()J"⟩
def dkwX1_held_5 : List UInt8 := [182, 0, 100, 121, 129, 64, 167, 255, 226, 31, 173]
abbrev dktX1_held_5 : List UInt8 := dkwX1_held_5 ++ []
def dkwX1_held_4 : List UInt8 := [45, 185, 0, 88, 1, 0, 153, 0, 27, 45, 185, 0, 94, 1, 0, 192, 0, 98, 58, 4, 31, 10, 25, 4]
abbrev dktX1_held_4 : List UInt8 := dkwX1_held_4 ++ dktX1_held_5
def dkwX1_held_3 : List UInt8 := [192, 0, 54, 58, 4, 31, 25, 4, 182, 0, 116, 129, 64, 167, 255, 228, 42, 180, 0, 26, 182, 0, 84, 78]
abbrev dktX1_held_3 : List UInt8 := dkwX1_held_3 ++ dktX1_held_4
def dkwX1_held_2 : List UInt8 := [180, 0, 36, 182, 0, 119, 78, 45, 185, 0, 88, 1, 0, 153, 0, 25, 45, 185, 0, 94, 1, 0]
abbrev dktX1_held_2 : List UInt8 := dkwX1_held_2 ++ dktX1_held_3
def dkwX1_held_1 : List UInt8 := [185, 0, 94, 1, 0, 192, 0, 54, 58, 4, 31, 25, 4, 182, 0, 116, 129, 64, 167, 255, 228, 42]
abbrev dktX1_held_1 : List UInt8 := dkwX1_held_1 ++ dktX1_held_2
def dkwX1_held_0 : List UInt8 := [42, 182, 0, 112, 64, 42, 180, 0, 30, 182, 0, 84, 78, 45, 185, 0, 88, 1, 0, 153, 0, 25, 45]
abbrev dktX1_held_0 : List UInt8 := dkwX1_held_0 ++ dktX1_held_1
theorem dksX1_held_0 : cX1_held.data.toList.drop 0 = dktX1_held_0 := by decide +kernel
theorem dksX1_held_1 : cX1_held.data.toList.drop 23 = dktX1_held_1 := dk_seg dksX1_held_0 23 rfl rfl
theorem dksX1_held_2 : cX1_held.data.toList.drop 45 = dktX1_held_2 := dk_seg dksX1_held_1 22 rfl rfl
theorem dksX1_held_3 : cX1_held.data.toList.drop 67 = dktX1_held_3 := dk_seg dksX1_held_2 22 rfl rfl
theorem dksX1_held_4 : cX1_held.data.toList.drop 91 = dktX1_held_4 := dk_seg dksX1_held_3 24 rfl rfl
theorem dksX1_held_5 : cX1_held.data.toList.drop 115 = dktX1_held_5 := dk_seg dksX1_held_4 24 rfl rfl
theorem dX1_held_0 : decode cX1_held 0 = .ok (.aload_n 0, 1) := dk_42 (dk_at dksX1_held_0 0 rfl rfl)
theorem dX1_held_1 : decode cX1_held 1 = .ok (.invokevirtual 112, 3) := dk_182 0 112 (dk_at dksX1_held_0 1 rfl rfl)
theorem dX1_held_4 : decode cX1_held 4 = .ok (.lstore_n 1, 1) := dk_64 (dk_at dksX1_held_0 4 rfl rfl)
theorem dX1_held_5 : decode cX1_held 5 = .ok (.aload_n 0, 1) := dk_42 (dk_at dksX1_held_0 5 rfl rfl)
theorem dX1_held_6 : decode cX1_held 6 = .ok (.getfield 30, 3) := dk_180 0 30 (dk_at dksX1_held_0 6 rfl rfl)
theorem dX1_held_9 : decode cX1_held 9 = .ok (.invokevirtual 84, 3) := dk_182 0 84 (dk_at dksX1_held_0 9 rfl rfl)
theorem dX1_held_12 : decode cX1_held 12 = .ok (.astore_n 3, 1) := dk_78 (dk_at dksX1_held_0 12 rfl rfl)
theorem dX1_held_13 : decode cX1_held 13 = .ok (.aload_n 3, 1) := dk_45 (dk_at dksX1_held_0 13 rfl rfl)
theorem dX1_held_14 : decode cX1_held 14 = .ok (.invokeinterface 88 1, 5) := by decide +kernel
theorem dX1_held_19 : decode cX1_held 19 = .ok (.ifCond .eq 25, 3) := dk_153 0 25 (dk_at dksX1_held_0 19 rfl rfl)
theorem dX1_held_22 : decode cX1_held 22 = .ok (.aload_n 3, 1) := dk_45 (dk_at dksX1_held_0 22 rfl rfl)
theorem dX1_held_23 : decode cX1_held 23 = .ok (.invokeinterface 94 1, 5) := by decide +kernel
theorem dX1_held_28 : decode cX1_held 28 = .ok (.checkcast 54, 3) := dk_192 0 54 (dk_at dksX1_held_1 5 rfl rfl)
theorem dX1_held_31 : decode cX1_held 31 = .ok (.astore 4, 2) := dk_58 4 (dk_at dksX1_held_1 8 rfl rfl)
theorem dX1_held_33 : decode cX1_held 33 = .ok (.lload_n 1, 1) := dk_31 (dk_at dksX1_held_1 10 rfl rfl)
theorem dX1_held_34 : decode cX1_held 34 = .ok (.aload 4, 2) := dk_25 4 (dk_at dksX1_held_1 11 rfl rfl)
theorem dX1_held_36 : decode cX1_held 36 = .ok (.invokevirtual 116, 3) := dk_182 0 116 (dk_at dksX1_held_1 13 rfl rfl)
theorem dX1_held_39 : decode cX1_held 39 = .ok (.lor, 1) := dk_129 (dk_at dksX1_held_1 16 rfl rfl)
theorem dX1_held_40 : decode cX1_held 40 = .ok (.lstore_n 1, 1) := dk_64 (dk_at dksX1_held_1 17 rfl rfl)
theorem dX1_held_41 : decode cX1_held 41 = .ok (.goto (-28), 3) := dk_167 255 228 (dk_at dksX1_held_1 18 rfl rfl)
theorem dX1_held_44 : decode cX1_held 44 = .ok (.aload_n 0, 1) := dk_42 (dk_at dksX1_held_1 21 rfl rfl)
theorem dX1_held_45 : decode cX1_held 45 = .ok (.getfield 36, 3) := dk_180 0 36 (dk_at dksX1_held_2 0 rfl rfl)
theorem dX1_held_48 : decode cX1_held 48 = .ok (.invokevirtual 119, 3) := dk_182 0 119 (dk_at dksX1_held_2 3 rfl rfl)
theorem dX1_held_51 : decode cX1_held 51 = .ok (.astore_n 3, 1) := dk_78 (dk_at dksX1_held_2 6 rfl rfl)
theorem dX1_held_52 : decode cX1_held 52 = .ok (.aload_n 3, 1) := dk_45 (dk_at dksX1_held_2 7 rfl rfl)
theorem dX1_held_53 : decode cX1_held 53 = .ok (.invokeinterface 88 1, 5) := by decide +kernel
theorem dX1_held_58 : decode cX1_held 58 = .ok (.ifCond .eq 25, 3) := dk_153 0 25 (dk_at dksX1_held_2 13 rfl rfl)
theorem dX1_held_61 : decode cX1_held 61 = .ok (.aload_n 3, 1) := dk_45 (dk_at dksX1_held_2 16 rfl rfl)
theorem dX1_held_62 : decode cX1_held 62 = .ok (.invokeinterface 94 1, 5) := by decide +kernel
theorem dX1_held_67 : decode cX1_held 67 = .ok (.checkcast 54, 3) := dk_192 0 54 (dk_at dksX1_held_3 0 rfl rfl)
theorem dX1_held_70 : decode cX1_held 70 = .ok (.astore 4, 2) := dk_58 4 (dk_at dksX1_held_3 3 rfl rfl)
theorem dX1_held_72 : decode cX1_held 72 = .ok (.lload_n 1, 1) := dk_31 (dk_at dksX1_held_3 5 rfl rfl)
theorem dX1_held_73 : decode cX1_held 73 = .ok (.aload 4, 2) := dk_25 4 (dk_at dksX1_held_3 6 rfl rfl)
theorem dX1_held_75 : decode cX1_held 75 = .ok (.invokevirtual 116, 3) := dk_182 0 116 (dk_at dksX1_held_3 8 rfl rfl)
theorem dX1_held_78 : decode cX1_held 78 = .ok (.lor, 1) := dk_129 (dk_at dksX1_held_3 11 rfl rfl)
theorem dX1_held_79 : decode cX1_held 79 = .ok (.lstore_n 1, 1) := dk_64 (dk_at dksX1_held_3 12 rfl rfl)
theorem dX1_held_80 : decode cX1_held 80 = .ok (.goto (-28), 3) := dk_167 255 228 (dk_at dksX1_held_3 13 rfl rfl)
theorem dX1_held_83 : decode cX1_held 83 = .ok (.aload_n 0, 1) := dk_42 (dk_at dksX1_held_3 16 rfl rfl)
theorem dX1_held_84 : decode cX1_held 84 = .ok (.getfield 26, 3) := dk_180 0 26 (dk_at dksX1_held_3 17 rfl rfl)
theorem dX1_held_87 : decode cX1_held 87 = .ok (.invokevirtual 84, 3) := dk_182 0 84 (dk_at dksX1_held_3 20 rfl rfl)
theorem dX1_held_90 : decode cX1_held 90 = .ok (.astore_n 3, 1) := dk_78 (dk_at dksX1_held_3 23 rfl rfl)
theorem dX1_held_91 : decode cX1_held 91 = .ok (.aload_n 3, 1) := dk_45 (dk_at dksX1_held_4 0 rfl rfl)
theorem dX1_held_92 : decode cX1_held 92 = .ok (.invokeinterface 88 1, 5) := by decide +kernel
theorem dX1_held_97 : decode cX1_held 97 = .ok (.ifCond .eq 27, 3) := dk_153 0 27 (dk_at dksX1_held_4 6 rfl rfl)
theorem dX1_held_100 : decode cX1_held 100 = .ok (.aload_n 3, 1) := dk_45 (dk_at dksX1_held_4 9 rfl rfl)
theorem dX1_held_101 : decode cX1_held 101 = .ok (.invokeinterface 94 1, 5) := by decide +kernel
theorem dX1_held_106 : decode cX1_held 106 = .ok (.checkcast 98, 3) := dk_192 0 98 (dk_at dksX1_held_4 15 rfl rfl)
theorem dX1_held_109 : decode cX1_held 109 = .ok (.astore 4, 2) := dk_58 4 (dk_at dksX1_held_4 18 rfl rfl)
theorem dX1_held_111 : decode cX1_held 111 = .ok (.lload_n 1, 1) := dk_31 (dk_at dksX1_held_4 20 rfl rfl)
theorem dX1_held_112 : decode cX1_held 112 = .ok (.lconst 1, 1) := dk_10 (dk_at dksX1_held_4 21 rfl rfl)
theorem dX1_held_113 : decode cX1_held 113 = .ok (.aload 4, 2) := dk_25 4 (dk_at dksX1_held_4 22 rfl rfl)
theorem dX1_held_115 : decode cX1_held 115 = .ok (.invokevirtual 100, 3) := dk_182 0 100 (dk_at dksX1_held_5 0 rfl rfl)
theorem dX1_held_118 : decode cX1_held 118 = .ok (.lshl, 1) := dk_121 (dk_at dksX1_held_5 3 rfl rfl)
theorem dX1_held_119 : decode cX1_held 119 = .ok (.lor, 1) := dk_129 (dk_at dksX1_held_5 4 rfl rfl)
theorem dX1_held_120 : decode cX1_held 120 = .ok (.lstore_n 1, 1) := dk_64 (dk_at dksX1_held_5 5 rfl rfl)
theorem dX1_held_121 : decode cX1_held 121 = .ok (.goto (-30), 3) := dk_167 255 226 (dk_at dksX1_held_5 6 rfl rfl)
theorem dX1_held_124 : decode cX1_held 124 = .ok (.lload_n 1, 1) := dk_31 (dk_at dksX1_held_5 9 rfl rfl)
theorem dX1_held_125 : decode cX1_held 125 = .ok (.lreturn, 1) := dk_173 (dk_at dksX1_held_5 10 rfl rfl)
abbrev cX1_open : ByteArray := prog_1_method_7_code
def yX1_open : MethodName := ⟨RX1, "open", "()J"⟩
def dkwX1_open_1 : List UInt8 := [46, 54, 6, 21, 6, 2, 159, 0, 10, 31, 10, 21, 6, 121, 129, 64, 132, 5, 1, 167, 255, 227, 31, 173]
abbrev dktX1_open_1 : List UInt8 := dkwX1_open_1 ++ []
def dkwX1_open_0 : List UInt8 := [9, 64, 42, 180, 0, 13, 78, 45, 190, 54, 4, 3, 54, 5, 21, 5, 21, 4, 162, 0, 28, 45, 21, 5]
abbrev dktX1_open_0 : List UInt8 := dkwX1_open_0 ++ dktX1_open_1
theorem dksX1_open_0 : cX1_open.data.toList.drop 0 = dktX1_open_0 := by decide +kernel
theorem dksX1_open_1 : cX1_open.data.toList.drop 24 = dktX1_open_1 := dk_seg dksX1_open_0 24 rfl rfl
theorem dX1_open_0 : decode cX1_open 0 = .ok (.lconst 0, 1) := dk_9 (dk_at dksX1_open_0 0 rfl rfl)
theorem dX1_open_1 : decode cX1_open 1 = .ok (.lstore_n 1, 1) := dk_64 (dk_at dksX1_open_0 1 rfl rfl)
theorem dX1_open_2 : decode cX1_open 2 = .ok (.aload_n 0, 1) := dk_42 (dk_at dksX1_open_0 2 rfl rfl)
theorem dX1_open_3 : decode cX1_open 3 = .ok (.getfield 13, 3) := dk_180 0 13 (dk_at dksX1_open_0 3 rfl rfl)
theorem dX1_open_6 : decode cX1_open 6 = .ok (.astore_n 3, 1) := dk_78 (dk_at dksX1_open_0 6 rfl rfl)
theorem dX1_open_7 : decode cX1_open 7 = .ok (.aload_n 3, 1) := dk_45 (dk_at dksX1_open_0 7 rfl rfl)
theorem dX1_open_8 : decode cX1_open 8 = .ok (.arraylength, 1) := dk_190 (dk_at dksX1_open_0 8 rfl rfl)
theorem dX1_open_9 : decode cX1_open 9 = .ok (.istore 4, 2) := dk_54 4 (dk_at dksX1_open_0 9 rfl rfl)
theorem dX1_open_11 : decode cX1_open 11 = .ok (.iconst 0, 1) := dk_3 (dk_at dksX1_open_0 11 rfl rfl)
theorem dX1_open_12 : decode cX1_open 12 = .ok (.istore 5, 2) := dk_54 5 (dk_at dksX1_open_0 12 rfl rfl)
theorem dX1_open_14 : decode cX1_open 14 = .ok (.iload 5, 2) := dk_21 5 (dk_at dksX1_open_0 14 rfl rfl)
theorem dX1_open_16 : decode cX1_open 16 = .ok (.iload 4, 2) := dk_21 4 (dk_at dksX1_open_0 16 rfl rfl)
theorem dX1_open_18 : decode cX1_open 18 = .ok (.if_icmp .ge 28, 3) := dk_162 0 28 (dk_at dksX1_open_0 18 rfl rfl)
theorem dX1_open_21 : decode cX1_open 21 = .ok (.aload_n 3, 1) := dk_45 (dk_at dksX1_open_0 21 rfl rfl)
theorem dX1_open_22 : decode cX1_open 22 = .ok (.iload 5, 2) := dk_21 5 (dk_at dksX1_open_0 22 rfl rfl)
theorem dX1_open_24 : decode cX1_open 24 = .ok (.iaload, 1) := dk_46 (dk_at dksX1_open_1 0 rfl rfl)
theorem dX1_open_25 : decode cX1_open 25 = .ok (.istore 6, 2) := dk_54 6 (dk_at dksX1_open_1 1 rfl rfl)
theorem dX1_open_27 : decode cX1_open 27 = .ok (.iload 6, 2) := dk_21 6 (dk_at dksX1_open_1 3 rfl rfl)
theorem dX1_open_29 : decode cX1_open 29 = .ok (.iconst (-1), 1) := dk_2 (dk_at dksX1_open_1 5 rfl rfl)
theorem dX1_open_30 : decode cX1_open 30 = .ok (.if_icmp .eq 10, 3) := dk_159 0 10 (dk_at dksX1_open_1 6 rfl rfl)
theorem dX1_open_33 : decode cX1_open 33 = .ok (.lload_n 1, 1) := dk_31 (dk_at dksX1_open_1 9 rfl rfl)
theorem dX1_open_34 : decode cX1_open 34 = .ok (.lconst 1, 1) := dk_10 (dk_at dksX1_open_1 10 rfl rfl)
theorem dX1_open_35 : decode cX1_open 35 = .ok (.iload 6, 2) := dk_21 6 (dk_at dksX1_open_1 11 rfl rfl)
theorem dX1_open_37 : decode cX1_open 37 = .ok (.lshl, 1) := dk_121 (dk_at dksX1_open_1 13 rfl rfl)
theorem dX1_open_38 : decode cX1_open 38 = .ok (.lor, 1) := dk_129 (dk_at dksX1_open_1 14 rfl rfl)
theorem dX1_open_39 : decode cX1_open 39 = .ok (.lstore_n 1, 1) := dk_64 (dk_at dksX1_open_1 15 rfl rfl)
theorem dX1_open_40 : decode cX1_open 40 = .ok (.iinc 5 1, 3) := dk_132 5 1 (dk_at dksX1_open_1 16 rfl rfl)
theorem dX1_open_43 : decode cX1_open 43 = .ok (.goto (-29), 3) := dk_167 255 227 (dk_at dksX1_open_1 19 rfl rfl)
theorem dX1_open_46 : decode cX1_open 46 = .ok (.lload_n 1, 1) := dk_31 (dk_at dksX1_open_1 22 rfl rfl)
theorem dX1_open_47 : decode cX1_open 47 = .ok (.lreturn, 1) := dk_173 (dk_at dksX1_open_1 23 rfl rfl)
abbrev cX1_derived : ByteArray := prog_1_method_15_code
def yX1_derived : MethodName := ⟨RX1, "derived", "(I)I"⟩
def dkwX1_derived_5 : List UInt8 := [182, 0, 163, 54, 6, 21, 6, 16, 252, 160, 0, 8, 16, 252, 167, 0, 4, 4, 172]
abbrev dktX1_derived_5 : List UInt8 := dkwX1_derived_5 ++ []
def dkwX1_derived_4 : List UInt8 := [182, 0, 170, 153, 0, 15, 44, 182, 0, 156, 22, 4, 148, 154, 0, 5, 3, 172, 42, 6, 27, 29, 22, 4]
abbrev dktX1_derived_4 : List UInt8 := dkwX1_derived_4 ++ dktX1_derived_5
def dkwX1_derived_3 : List UInt8 := [180, 0, 13, 27, 46, 50, 198, 0, 16, 44, 182, 0, 156, 22, 4, 148, 154, 0, 25, 167, 0, 20, 44]
abbrev dktX1_derived_3 : List UInt8 := dkwX1_derived_3 ++ dktX1_derived_4
def dkwX1_derived_2 : List UInt8 := [154, 0, 5, 3, 172, 42, 29, 182, 0, 147, 182, 0, 156, 184, 0, 159, 55, 4, 42, 180, 0, 19, 42]
abbrev dktX1_derived_2 : List UInt8 := dkwX1_derived_2 ++ dktX1_derived_3
def dkwX1_derived_1 : List UInt8 := [182, 0, 147, 77, 44, 182, 0, 150, 6, 159, 0, 5, 2, 172, 44, 182, 0, 167, 62, 42, 29, 182, 0, 143]
abbrev dktX1_derived_1 : List UInt8 := dkwX1_derived_1 ++ dktX1_derived_2
def dkwX1_derived_0 : List UInt8 := [42, 180, 0, 7, 154, 0, 6, 16, 253, 172, 42, 27, 182, 0, 143, 154, 0, 5, 2, 172, 42, 27]
abbrev dktX1_derived_0 : List UInt8 := dkwX1_derived_0 ++ dktX1_derived_1
theorem dksX1_derived_0 : cX1_derived.data.toList.drop 0 = dktX1_derived_0 := by decide +kernel
theorem dksX1_derived_1 : cX1_derived.data.toList.drop 22 = dktX1_derived_1 := dk_seg dksX1_derived_0 22 rfl rfl
theorem dksX1_derived_2 : cX1_derived.data.toList.drop 46 = dktX1_derived_2 := dk_seg dksX1_derived_1 24 rfl rfl
theorem dksX1_derived_3 : cX1_derived.data.toList.drop 69 = dktX1_derived_3 := dk_seg dksX1_derived_2 23 rfl rfl
theorem dksX1_derived_4 : cX1_derived.data.toList.drop 92 = dktX1_derived_4 := dk_seg dksX1_derived_3 23 rfl rfl
theorem dksX1_derived_5 : cX1_derived.data.toList.drop 116 = dktX1_derived_5 := dk_seg dksX1_derived_4 24 rfl rfl
theorem dX1_derived_0 : decode cX1_derived 0 = .ok (.aload_n 0, 1) := dk_42 (dk_at dksX1_derived_0 0 rfl rfl)
theorem dX1_derived_1 : decode cX1_derived 1 = .ok (.getfield 7, 3) := dk_180 0 7 (dk_at dksX1_derived_0 1 rfl rfl)
theorem dX1_derived_4 : decode cX1_derived 4 = .ok (.ifCond .ne 6, 3) := dk_154 0 6 (dk_at dksX1_derived_0 4 rfl rfl)
theorem dX1_derived_7 : decode cX1_derived 7 = .ok (.bipush (-3), 2) := dk_16 253 (dk_at dksX1_derived_0 7 rfl rfl)
theorem dX1_derived_9 : decode cX1_derived 9 = .ok (.ireturn, 1) := dk_172 (dk_at dksX1_derived_0 9 rfl rfl)
theorem dX1_derived_10 : decode cX1_derived 10 = .ok (.aload_n 0, 1) := dk_42 (dk_at dksX1_derived_0 10 rfl rfl)
theorem dX1_derived_11 : decode cX1_derived 11 = .ok (.iload_n 1, 1) := dk_27 (dk_at dksX1_derived_0 11 rfl rfl)
theorem dX1_derived_12 : decode cX1_derived 12 = .ok (.invokevirtual 143, 3) := dk_182 0 143 (dk_at dksX1_derived_0 12 rfl rfl)
theorem dX1_derived_15 : decode cX1_derived 15 = .ok (.ifCond .ne 5, 3) := dk_154 0 5 (dk_at dksX1_derived_0 15 rfl rfl)
theorem dX1_derived_18 : decode cX1_derived 18 = .ok (.iconst (-1), 1) := dk_2 (dk_at dksX1_derived_0 18 rfl rfl)
theorem dX1_derived_19 : decode cX1_derived 19 = .ok (.ireturn, 1) := dk_172 (dk_at dksX1_derived_0 19 rfl rfl)
theorem dX1_derived_20 : decode cX1_derived 20 = .ok (.aload_n 0, 1) := dk_42 (dk_at dksX1_derived_0 20 rfl rfl)
theorem dX1_derived_21 : decode cX1_derived 21 = .ok (.iload_n 1, 1) := dk_27 (dk_at dksX1_derived_0 21 rfl rfl)
theorem dX1_derived_22 : decode cX1_derived 22 = .ok (.invokevirtual 147, 3) := dk_182 0 147 (dk_at dksX1_derived_1 0 rfl rfl)
theorem dX1_derived_25 : decode cX1_derived 25 = .ok (.astore_n 2, 1) := dk_77 (dk_at dksX1_derived_1 3 rfl rfl)
theorem dX1_derived_26 : decode cX1_derived 26 = .ok (.aload_n 2, 1) := dk_44 (dk_at dksX1_derived_1 4 rfl rfl)
theorem dX1_derived_27 : decode cX1_derived 27 = .ok (.invokevirtual 150, 3) := dk_182 0 150 (dk_at dksX1_derived_1 5 rfl rfl)
theorem dX1_derived_30 : decode cX1_derived 30 = .ok (.iconst 3, 1) := dk_6 (dk_at dksX1_derived_1 8 rfl rfl)
theorem dX1_derived_31 : decode cX1_derived 31 = .ok (.if_icmp .eq 5, 3) := dk_159 0 5 (dk_at dksX1_derived_1 9 rfl rfl)
theorem dX1_derived_34 : decode cX1_derived 34 = .ok (.iconst (-1), 1) := dk_2 (dk_at dksX1_derived_1 12 rfl rfl)
theorem dX1_derived_35 : decode cX1_derived 35 = .ok (.ireturn, 1) := dk_172 (dk_at dksX1_derived_1 13 rfl rfl)
theorem dX1_derived_36 : decode cX1_derived 36 = .ok (.aload_n 2, 1) := dk_44 (dk_at dksX1_derived_1 14 rfl rfl)
theorem dX1_derived_37 : decode cX1_derived 37 = .ok (.invokevirtual 167, 3) := dk_182 0 167 (dk_at dksX1_derived_1 15 rfl rfl)
theorem dX1_derived_40 : decode cX1_derived 40 = .ok (.istore_n 3, 1) := dk_62 (dk_at dksX1_derived_1 18 rfl rfl)
theorem dX1_derived_41 : decode cX1_derived 41 = .ok (.aload_n 0, 1) := dk_42 (dk_at dksX1_derived_1 19 rfl rfl)
theorem dX1_derived_42 : decode cX1_derived 42 = .ok (.iload_n 3, 1) := dk_29 (dk_at dksX1_derived_1 20 rfl rfl)
theorem dX1_derived_43 : decode cX1_derived 43 = .ok (.invokevirtual 143, 3) := dk_182 0 143 (dk_at dksX1_derived_1 21 rfl rfl)
theorem dX1_derived_46 : decode cX1_derived 46 = .ok (.ifCond .ne 5, 3) := dk_154 0 5 (dk_at dksX1_derived_2 0 rfl rfl)
theorem dX1_derived_49 : decode cX1_derived 49 = .ok (.iconst 0, 1) := dk_3 (dk_at dksX1_derived_2 3 rfl rfl)
theorem dX1_derived_50 : decode cX1_derived 50 = .ok (.ireturn, 1) := dk_172 (dk_at dksX1_derived_2 4 rfl rfl)
theorem dX1_derived_51 : decode cX1_derived 51 = .ok (.aload_n 0, 1) := dk_42 (dk_at dksX1_derived_2 5 rfl rfl)
theorem dX1_derived_52 : decode cX1_derived 52 = .ok (.iload_n 3, 1) := dk_29 (dk_at dksX1_derived_2 6 rfl rfl)
theorem dX1_derived_53 : decode cX1_derived 53 = .ok (.invokevirtual 147, 3) := dk_182 0 147 (dk_at dksX1_derived_2 7 rfl rfl)
theorem dX1_derived_56 : decode cX1_derived 56 = .ok (.invokevirtual 156, 3) := dk_182 0 156 (dk_at dksX1_derived_2 10 rfl rfl)
theorem dX1_derived_59 : decode cX1_derived 59 = .ok (.invokestatic 159, 3) := dk_184 0 159 (dk_at dksX1_derived_2 13 rfl rfl)
theorem dX1_derived_62 : decode cX1_derived 62 = .ok (.lstore 4, 2) := dk_55 4 (dk_at dksX1_derived_2 16 rfl rfl)
theorem dX1_derived_64 : decode cX1_derived 64 = .ok (.aload_n 0, 1) := dk_42 (dk_at dksX1_derived_2 18 rfl rfl)
theorem dX1_derived_65 : decode cX1_derived 65 = .ok (.getfield 19, 3) := dk_180 0 19 (dk_at dksX1_derived_2 19 rfl rfl)
theorem dX1_derived_68 : decode cX1_derived 68 = .ok (.aload_n 0, 1) := dk_42 (dk_at dksX1_derived_2 22 rfl rfl)
theorem dX1_derived_69 : decode cX1_derived 69 = .ok (.getfield 13, 3) := dk_180 0 13 (dk_at dksX1_derived_3 0 rfl rfl)
theorem dX1_derived_72 : decode cX1_derived 72 = .ok (.iload_n 1, 1) := dk_27 (dk_at dksX1_derived_3 3 rfl rfl)
theorem dX1_derived_73 : decode cX1_derived 73 = .ok (.iaload, 1) := dk_46 (dk_at dksX1_derived_3 4 rfl rfl)
theorem dX1_derived_74 : decode cX1_derived 74 = .ok (.aaload, 1) := dk_50 (dk_at dksX1_derived_3 5 rfl rfl)
theorem dX1_derived_75 : decode cX1_derived 75 = .ok (.ifnull 16, 3) := dk_198 0 16 (dk_at dksX1_derived_3 6 rfl rfl)
theorem dX1_derived_78 : decode cX1_derived 78 = .ok (.aload_n 2, 1) := dk_44 (dk_at dksX1_derived_3 9 rfl rfl)
theorem dX1_derived_79 : decode cX1_derived 79 = .ok (.invokevirtual 156, 3) := dk_182 0 156 (dk_at dksX1_derived_3 10 rfl rfl)
theorem dX1_derived_82 : decode cX1_derived 82 = .ok (.lload 4, 2) := dk_22 4 (dk_at dksX1_derived_3 13 rfl rfl)
theorem dX1_derived_84 : decode cX1_derived 84 = .ok (.lcmp, 1) := dk_148 (dk_at dksX1_derived_3 15 rfl rfl)
theorem dX1_derived_85 : decode cX1_derived 85 = .ok (.ifCond .ne 25, 3) := dk_154 0 25 (dk_at dksX1_derived_3 16 rfl rfl)
theorem dX1_derived_88 : decode cX1_derived 88 = .ok (.goto 20, 3) := dk_167 0 20 (dk_at dksX1_derived_3 19 rfl rfl)
theorem dX1_derived_91 : decode cX1_derived 91 = .ok (.aload_n 2, 1) := dk_44 (dk_at dksX1_derived_3 22 rfl rfl)
theorem dX1_derived_92 : decode cX1_derived 92 = .ok (.invokevirtual 170, 3) := dk_182 0 170 (dk_at dksX1_derived_4 0 rfl rfl)
theorem dX1_derived_95 : decode cX1_derived 95 = .ok (.ifCond .eq 15, 3) := dk_153 0 15 (dk_at dksX1_derived_4 3 rfl rfl)
theorem dX1_derived_98 : decode cX1_derived 98 = .ok (.aload_n 2, 1) := dk_44 (dk_at dksX1_derived_4 6 rfl rfl)
theorem dX1_derived_99 : decode cX1_derived 99 = .ok (.invokevirtual 156, 3) := dk_182 0 156 (dk_at dksX1_derived_4 7 rfl rfl)
theorem dX1_derived_102 : decode cX1_derived 102 = .ok (.lload 4, 2) := dk_22 4 (dk_at dksX1_derived_4 10 rfl rfl)
theorem dX1_derived_104 : decode cX1_derived 104 = .ok (.lcmp, 1) := dk_148 (dk_at dksX1_derived_4 12 rfl rfl)
theorem dX1_derived_105 : decode cX1_derived 105 = .ok (.ifCond .ne 5, 3) := dk_154 0 5 (dk_at dksX1_derived_4 13 rfl rfl)
theorem dX1_derived_108 : decode cX1_derived 108 = .ok (.iconst 0, 1) := dk_3 (dk_at dksX1_derived_4 16 rfl rfl)
theorem dX1_derived_109 : decode cX1_derived 109 = .ok (.ireturn, 1) := dk_172 (dk_at dksX1_derived_4 17 rfl rfl)
theorem dX1_derived_110 : decode cX1_derived 110 = .ok (.aload_n 0, 1) := dk_42 (dk_at dksX1_derived_4 18 rfl rfl)
theorem dX1_derived_111 : decode cX1_derived 111 = .ok (.iconst 3, 1) := dk_6 (dk_at dksX1_derived_4 19 rfl rfl)
theorem dX1_derived_112 : decode cX1_derived 112 = .ok (.iload_n 1, 1) := dk_27 (dk_at dksX1_derived_4 20 rfl rfl)
theorem dX1_derived_113 : decode cX1_derived 113 = .ok (.iload_n 3, 1) := dk_29 (dk_at dksX1_derived_4 21 rfl rfl)
theorem dX1_derived_114 : decode cX1_derived 114 = .ok (.lload 4, 2) := dk_22 4 (dk_at dksX1_derived_4 22 rfl rfl)
theorem dX1_derived_116 : decode cX1_derived 116 = .ok (.invokevirtual 163, 3) := dk_182 0 163 (dk_at dksX1_derived_5 0 rfl rfl)
theorem dX1_derived_119 : decode cX1_derived 119 = .ok (.istore 6, 2) := dk_54 6 (dk_at dksX1_derived_5 3 rfl rfl)
theorem dX1_derived_121 : decode cX1_derived 121 = .ok (.iload 6, 2) := dk_21 6 (dk_at dksX1_derived_5 5 rfl rfl)
theorem dX1_derived_123 : decode cX1_derived 123 = .ok (.bipush (-4), 2) := dk_16 252 (dk_at dksX1_derived_5 7 rfl rfl)
theorem dX1_derived_125 : decode cX1_derived 125 = .ok (.if_icmp .ne 8, 3) := dk_160 0 8 (dk_at dksX1_derived_5 9 rfl rfl)
theorem dX1_derived_128 : decode cX1_derived 128 = .ok (.bipush (-4), 2) := dk_16 252 (dk_at dksX1_derived_5 12 rfl rfl)
theorem dX1_derived_130 : decode cX1_derived 130 = .ok (.goto 4, 3) := dk_167 0 4 (dk_at dksX1_derived_5 14 rfl rfl)
theorem dX1_derived_133 : decode cX1_derived 133 = .ok (.iconst 1, 1) := dk_4 (dk_at dksX1_derived_5 17 rfl rfl)
theorem dX1_derived_134 : decode cX1_derived 134 = .ok (.ireturn, 1) := dk_172 (dk_at dksX1_derived_5 18 rfl rfl)
abbrev cX1_commit : ByteArray := prog_1_method_17_code
def yX1_commit : MethodName := ⟨RX1, "commit", "(I)I"⟩
def dkwX1_commit_11 : List UInt8 := [182, 0, 66, 87, 42, 3, 181, 0, 71, 42, 180, 0, 26, 182, 0, 184, 28, 100, 172]
abbrev dktX1_commit_11 : List UInt8 := dkwX1_commit_11 ++ []
def dkwX1_commit_10 : List UInt8 := [126, 25, 6, 183, 0, 194, 182, 0, 66, 87, 42, 180, 0, 30, 187, 0, 54, 89, 27, 33, 183, 0, 56]
abbrev dktX1_commit_10 : List UInt8 := dkwX1_commit_10 ++ dktX1_commit_11
def dkwX1_commit_9 : List UInt8 := [25, 6, 16, 20, 21, 5, 182, 0, 187, 25, 6, 182, 0, 191, 42, 180, 0, 26, 187, 0, 98, 89, 27, 4]
abbrev dktX1_commit_9 : List UInt8 := dkwX1_commit_9 ++ dktX1_commit_10
def dkwX1_commit_8 : List UInt8 := [180, 0, 75, 7, 16, 9, 84, 25, 6, 16, 8, 33, 182, 0, 200, 25, 6, 16, 16, 27, 182, 0, 187]
abbrev dktX1_commit_8 : List UInt8 := dkwX1_commit_8 ++ dktX1_commit_9
def dkwX1_commit_7 : List UInt8 := [182, 0, 197, 130, 54, 5, 132, 6, 1, 167, 255, 218, 187, 0, 17, 89, 183, 0, 74, 58, 6, 25, 6]
abbrev dktX1_commit_7 : List UInt8 := dkwX1_commit_7 ++ dktX1_commit_8
def dkwX1_commit_6 : List UInt8 := [162, 0, 35, 33, 21, 6, 123, 10, 127, 10, 148, 154, 0, 18, 21, 5, 42, 21, 6, 182, 0, 141, 3]
abbrev dktX1_commit_6 : List UInt8 := dkwX1_commit_6 ++ dktX1_commit_7
def dkwX1_commit_5 : List UInt8 := [83, 132, 3, 1, 167, 255, 183, 42, 182, 0, 112, 66, 3, 54, 5, 5, 54, 6, 21, 6, 42, 180, 0, 46]
abbrev dktX1_commit_5 : List UInt8 := dkwX1_commit_5 ++ dktX1_commit_6
def dkwX1_commit_4 : List UInt8 := [187, 0, 98, 89, 29, 42, 180, 0, 19, 29, 50, 183, 0, 194, 182, 0, 66, 87, 42, 180, 0, 19, 29, 1]
abbrev dktX1_commit_4 : List UInt8 := dkwX1_commit_4 ++ dktX1_commit_5
def dkwX1_commit_3 : List UInt8 := [180, 0, 19, 29, 50, 16, 16, 27, 182, 0, 187, 42, 180, 0, 19, 29, 50, 182, 0, 191, 42, 180, 0, 26]
abbrev dktX1_commit_3 : List UInt8 := dkwX1_commit_3 ++ dktX1_commit_4
def dkwX1_commit_2 : List UInt8 := [62, 29, 42, 180, 0, 46, 162, 0, 71, 42, 180, 0, 19, 29, 50, 199, 0, 6, 167, 0, 53, 42]
abbrev dktX1_commit_2 : List UInt8 := dkwX1_commit_2 ++ dktX1_commit_3
def dkwX1_commit_1 : List UInt8 := [182, 0, 180, 164, 0, 9, 27, 18, 183, 164, 0, 6, 16, 254, 172, 42, 180, 0, 26, 182, 0, 184, 61, 5]
abbrev dktX1_commit_1 : List UInt8 := dkwX1_commit_1 ++ dktX1_commit_2
def dkwX1_commit_0 : List UInt8 := [42, 180, 0, 7, 153, 0, 10, 42, 180, 0, 71, 154, 0, 6, 16, 253, 172, 27, 42, 182, 0, 176]
abbrev dktX1_commit_0 : List UInt8 := dkwX1_commit_0 ++ dktX1_commit_1
theorem dksX1_commit_0 : cX1_commit.data.toList.drop 0 = dktX1_commit_0 := by decide +kernel
theorem dksX1_commit_1 : cX1_commit.data.toList.drop 22 = dktX1_commit_1 := dk_seg dksX1_commit_0 22 rfl rfl
theorem dksX1_commit_2 : cX1_commit.data.toList.drop 46 = dktX1_commit_2 := dk_seg dksX1_commit_1 24 rfl rfl
theorem dksX1_commit_3 : cX1_commit.data.toList.drop 68 = dktX1_commit_3 := dk_seg dksX1_commit_2 22 rfl rfl
theorem dksX1_commit_4 : cX1_commit.data.toList.drop 92 = dktX1_commit_4 := dk_seg dksX1_commit_3 24 rfl rfl
theorem dksX1_commit_5 : cX1_commit.data.toList.drop 116 = dktX1_commit_5 := dk_seg dksX1_commit_4 24 rfl rfl
theorem dksX1_commit_6 : cX1_commit.data.toList.drop 140 = dktX1_commit_6 := dk_seg dksX1_commit_5 24 rfl rfl
theorem dksX1_commit_7 : cX1_commit.data.toList.drop 163 = dktX1_commit_7 := dk_seg dksX1_commit_6 23 rfl rfl
theorem dksX1_commit_8 : cX1_commit.data.toList.drop 186 = dktX1_commit_8 := dk_seg dksX1_commit_7 23 rfl rfl
theorem dksX1_commit_9 : cX1_commit.data.toList.drop 209 = dktX1_commit_9 := dk_seg dksX1_commit_8 23 rfl rfl
theorem dksX1_commit_10 : cX1_commit.data.toList.drop 233 = dktX1_commit_10 := dk_seg dksX1_commit_9 24 rfl rfl
theorem dksX1_commit_11 : cX1_commit.data.toList.drop 256 = dktX1_commit_11 := dk_seg dksX1_commit_10 23 rfl rfl
theorem dX1_commit_0 : decode cX1_commit 0 = .ok (.aload_n 0, 1) := dk_42 (dk_at dksX1_commit_0 0 rfl rfl)
theorem dX1_commit_1 : decode cX1_commit 1 = .ok (.getfield 7, 3) := dk_180 0 7 (dk_at dksX1_commit_0 1 rfl rfl)
theorem dX1_commit_4 : decode cX1_commit 4 = .ok (.ifCond .eq 10, 3) := dk_153 0 10 (dk_at dksX1_commit_0 4 rfl rfl)
theorem dX1_commit_7 : decode cX1_commit 7 = .ok (.aload_n 0, 1) := dk_42 (dk_at dksX1_commit_0 7 rfl rfl)
theorem dX1_commit_8 : decode cX1_commit 8 = .ok (.getfield 71, 3) := dk_180 0 71 (dk_at dksX1_commit_0 8 rfl rfl)
theorem dX1_commit_11 : decode cX1_commit 11 = .ok (.ifCond .ne 6, 3) := dk_154 0 6 (dk_at dksX1_commit_0 11 rfl rfl)
theorem dX1_commit_14 : decode cX1_commit 14 = .ok (.bipush (-3), 2) := dk_16 253 (dk_at dksX1_commit_0 14 rfl rfl)
theorem dX1_commit_16 : decode cX1_commit 16 = .ok (.ireturn, 1) := dk_172 (dk_at dksX1_commit_0 16 rfl rfl)
theorem dX1_commit_17 : decode cX1_commit 17 = .ok (.iload_n 1, 1) := dk_27 (dk_at dksX1_commit_0 17 rfl rfl)
theorem dX1_commit_18 : decode cX1_commit 18 = .ok (.aload_n 0, 1) := dk_42 (dk_at dksX1_commit_0 18 rfl rfl)
theorem dX1_commit_19 : decode cX1_commit 19 = .ok (.invokevirtual 176, 3) := dk_182 0 176 (dk_at dksX1_commit_0 19 rfl rfl)
theorem dX1_commit_22 : decode cX1_commit 22 = .ok (.invokevirtual 180, 3) := dk_182 0 180 (dk_at dksX1_commit_1 0 rfl rfl)
theorem dX1_commit_25 : decode cX1_commit 25 = .ok (.if_icmp .le 9, 3) := dk_164 0 9 (dk_at dksX1_commit_1 3 rfl rfl)
theorem dX1_commit_28 : decode cX1_commit 28 = .ok (.iload_n 1, 1) := dk_27 (dk_at dksX1_commit_1 6 rfl rfl)
theorem dX1_commit_29 : decode cX1_commit 29 = .ok (.ldc 183, 2) := dk_18 183 (dk_at dksX1_commit_1 7 rfl rfl)
theorem dX1_commit_31 : decode cX1_commit 31 = .ok (.if_icmp .le 6, 3) := dk_164 0 6 (dk_at dksX1_commit_1 9 rfl rfl)
theorem dX1_commit_34 : decode cX1_commit 34 = .ok (.bipush (-2), 2) := dk_16 254 (dk_at dksX1_commit_1 12 rfl rfl)
theorem dX1_commit_36 : decode cX1_commit 36 = .ok (.ireturn, 1) := dk_172 (dk_at dksX1_commit_1 14 rfl rfl)
theorem dX1_commit_37 : decode cX1_commit 37 = .ok (.aload_n 0, 1) := dk_42 (dk_at dksX1_commit_1 15 rfl rfl)
theorem dX1_commit_38 : decode cX1_commit 38 = .ok (.getfield 26, 3) := dk_180 0 26 (dk_at dksX1_commit_1 16 rfl rfl)
theorem dX1_commit_41 : decode cX1_commit 41 = .ok (.invokevirtual 184, 3) := dk_182 0 184 (dk_at dksX1_commit_1 19 rfl rfl)
theorem dX1_commit_44 : decode cX1_commit 44 = .ok (.istore_n 2, 1) := dk_61 (dk_at dksX1_commit_1 22 rfl rfl)
theorem dX1_commit_45 : decode cX1_commit 45 = .ok (.iconst 2, 1) := dk_5 (dk_at dksX1_commit_1 23 rfl rfl)
theorem dX1_commit_46 : decode cX1_commit 46 = .ok (.istore_n 3, 1) := dk_62 (dk_at dksX1_commit_2 0 rfl rfl)
theorem dX1_commit_47 : decode cX1_commit 47 = .ok (.iload_n 3, 1) := dk_29 (dk_at dksX1_commit_2 1 rfl rfl)
theorem dX1_commit_48 : decode cX1_commit 48 = .ok (.aload_n 0, 1) := dk_42 (dk_at dksX1_commit_2 2 rfl rfl)
theorem dX1_commit_49 : decode cX1_commit 49 = .ok (.getfield 46, 3) := dk_180 0 46 (dk_at dksX1_commit_2 3 rfl rfl)
theorem dX1_commit_52 : decode cX1_commit 52 = .ok (.if_icmp .ge 71, 3) := dk_162 0 71 (dk_at dksX1_commit_2 6 rfl rfl)
theorem dX1_commit_55 : decode cX1_commit 55 = .ok (.aload_n 0, 1) := dk_42 (dk_at dksX1_commit_2 9 rfl rfl)
theorem dX1_commit_56 : decode cX1_commit 56 = .ok (.getfield 19, 3) := dk_180 0 19 (dk_at dksX1_commit_2 10 rfl rfl)
theorem dX1_commit_59 : decode cX1_commit 59 = .ok (.iload_n 3, 1) := dk_29 (dk_at dksX1_commit_2 13 rfl rfl)
theorem dX1_commit_60 : decode cX1_commit 60 = .ok (.aaload, 1) := dk_50 (dk_at dksX1_commit_2 14 rfl rfl)
theorem dX1_commit_61 : decode cX1_commit 61 = .ok (.ifnonnull 6, 3) := dk_199 0 6 (dk_at dksX1_commit_2 15 rfl rfl)
theorem dX1_commit_64 : decode cX1_commit 64 = .ok (.goto 53, 3) := dk_167 0 53 (dk_at dksX1_commit_2 18 rfl rfl)
theorem dX1_commit_67 : decode cX1_commit 67 = .ok (.aload_n 0, 1) := dk_42 (dk_at dksX1_commit_2 21 rfl rfl)
theorem dX1_commit_68 : decode cX1_commit 68 = .ok (.getfield 19, 3) := dk_180 0 19 (dk_at dksX1_commit_3 0 rfl rfl)
theorem dX1_commit_71 : decode cX1_commit 71 = .ok (.iload_n 3, 1) := dk_29 (dk_at dksX1_commit_3 3 rfl rfl)
theorem dX1_commit_72 : decode cX1_commit 72 = .ok (.aaload, 1) := dk_50 (dk_at dksX1_commit_3 4 rfl rfl)
theorem dX1_commit_73 : decode cX1_commit 73 = .ok (.bipush 16, 2) := dk_16 16 (dk_at dksX1_commit_3 5 rfl rfl)
theorem dX1_commit_75 : decode cX1_commit 75 = .ok (.iload_n 1, 1) := dk_27 (dk_at dksX1_commit_3 7 rfl rfl)
theorem dX1_commit_76 : decode cX1_commit 76 = .ok (.invokevirtual 187, 3) := dk_182 0 187 (dk_at dksX1_commit_3 8 rfl rfl)
theorem dX1_commit_79 : decode cX1_commit 79 = .ok (.aload_n 0, 1) := dk_42 (dk_at dksX1_commit_3 11 rfl rfl)
theorem dX1_commit_80 : decode cX1_commit 80 = .ok (.getfield 19, 3) := dk_180 0 19 (dk_at dksX1_commit_3 12 rfl rfl)
theorem dX1_commit_83 : decode cX1_commit 83 = .ok (.iload_n 3, 1) := dk_29 (dk_at dksX1_commit_3 15 rfl rfl)
theorem dX1_commit_84 : decode cX1_commit 84 = .ok (.aaload, 1) := dk_50 (dk_at dksX1_commit_3 16 rfl rfl)
theorem dX1_commit_85 : decode cX1_commit 85 = .ok (.invokevirtual 191, 3) := dk_182 0 191 (dk_at dksX1_commit_3 17 rfl rfl)
theorem dX1_commit_88 : decode cX1_commit 88 = .ok (.aload_n 0, 1) := dk_42 (dk_at dksX1_commit_3 20 rfl rfl)
theorem dX1_commit_89 : decode cX1_commit 89 = .ok (.getfield 26, 3) := dk_180 0 26 (dk_at dksX1_commit_3 21 rfl rfl)
theorem dX1_commit_92 : decode cX1_commit 92 = .ok (.new 98, 3) := dk_187 0 98 (dk_at dksX1_commit_4 0 rfl rfl)
theorem dX1_commit_95 : decode cX1_commit 95 = .ok (.dup, 1) := dk_89 (dk_at dksX1_commit_4 3 rfl rfl)
theorem dX1_commit_96 : decode cX1_commit 96 = .ok (.iload_n 3, 1) := dk_29 (dk_at dksX1_commit_4 4 rfl rfl)
theorem dX1_commit_97 : decode cX1_commit 97 = .ok (.aload_n 0, 1) := dk_42 (dk_at dksX1_commit_4 5 rfl rfl)
theorem dX1_commit_98 : decode cX1_commit 98 = .ok (.getfield 19, 3) := dk_180 0 19 (dk_at dksX1_commit_4 6 rfl rfl)
theorem dX1_commit_101 : decode cX1_commit 101 = .ok (.iload_n 3, 1) := dk_29 (dk_at dksX1_commit_4 9 rfl rfl)
theorem dX1_commit_102 : decode cX1_commit 102 = .ok (.aaload, 1) := dk_50 (dk_at dksX1_commit_4 10 rfl rfl)
theorem dX1_commit_103 : decode cX1_commit 103 = .ok (.invokespecial 194, 3) := dk_183 0 194 (dk_at dksX1_commit_4 11 rfl rfl)
theorem dX1_commit_106 : decode cX1_commit 106 = .ok (.invokevirtual 66, 3) := dk_182 0 66 (dk_at dksX1_commit_4 14 rfl rfl)
theorem dX1_commit_109 : decode cX1_commit 109 = .ok (.pop, 1) := dk_87 (dk_at dksX1_commit_4 17 rfl rfl)
theorem dX1_commit_110 : decode cX1_commit 110 = .ok (.aload_n 0, 1) := dk_42 (dk_at dksX1_commit_4 18 rfl rfl)
theorem dX1_commit_111 : decode cX1_commit 111 = .ok (.getfield 19, 3) := dk_180 0 19 (dk_at dksX1_commit_4 19 rfl rfl)
theorem dX1_commit_114 : decode cX1_commit 114 = .ok (.iload_n 3, 1) := dk_29 (dk_at dksX1_commit_4 22 rfl rfl)
theorem dX1_commit_115 : decode cX1_commit 115 = .ok (.aconst_null, 1) := dk_1 (dk_at dksX1_commit_4 23 rfl rfl)
theorem dX1_commit_116 : decode cX1_commit 116 = .ok (.aastore, 1) := dk_83 (dk_at dksX1_commit_5 0 rfl rfl)
theorem dX1_commit_117 : decode cX1_commit 117 = .ok (.iinc 3 1, 3) := dk_132 3 1 (dk_at dksX1_commit_5 1 rfl rfl)
theorem dX1_commit_120 : decode cX1_commit 120 = .ok (.goto (-73), 3) := dk_167 255 183 (dk_at dksX1_commit_5 4 rfl rfl)
theorem dX1_commit_123 : decode cX1_commit 123 = .ok (.aload_n 0, 1) := dk_42 (dk_at dksX1_commit_5 7 rfl rfl)
theorem dX1_commit_124 : decode cX1_commit 124 = .ok (.invokevirtual 112, 3) := dk_182 0 112 (dk_at dksX1_commit_5 8 rfl rfl)
theorem dX1_commit_127 : decode cX1_commit 127 = .ok (.lstore_n 3, 1) := dk_66 (dk_at dksX1_commit_5 11 rfl rfl)
theorem dX1_commit_128 : decode cX1_commit 128 = .ok (.iconst 0, 1) := dk_3 (dk_at dksX1_commit_5 12 rfl rfl)
theorem dX1_commit_129 : decode cX1_commit 129 = .ok (.istore 5, 2) := dk_54 5 (dk_at dksX1_commit_5 13 rfl rfl)
theorem dX1_commit_131 : decode cX1_commit 131 = .ok (.iconst 2, 1) := dk_5 (dk_at dksX1_commit_5 15 rfl rfl)
theorem dX1_commit_132 : decode cX1_commit 132 = .ok (.istore 6, 2) := dk_54 6 (dk_at dksX1_commit_5 16 rfl rfl)
theorem dX1_commit_134 : decode cX1_commit 134 = .ok (.iload 6, 2) := dk_21 6 (dk_at dksX1_commit_5 18 rfl rfl)
theorem dX1_commit_136 : decode cX1_commit 136 = .ok (.aload_n 0, 1) := dk_42 (dk_at dksX1_commit_5 20 rfl rfl)
theorem dX1_commit_137 : decode cX1_commit 137 = .ok (.getfield 46, 3) := dk_180 0 46 (dk_at dksX1_commit_5 21 rfl rfl)
theorem dX1_commit_140 : decode cX1_commit 140 = .ok (.if_icmp .ge 35, 3) := dk_162 0 35 (dk_at dksX1_commit_6 0 rfl rfl)
theorem dX1_commit_143 : decode cX1_commit 143 = .ok (.lload_n 3, 1) := dk_33 (dk_at dksX1_commit_6 3 rfl rfl)
theorem dX1_commit_144 : decode cX1_commit 144 = .ok (.iload 6, 2) := dk_21 6 (dk_at dksX1_commit_6 4 rfl rfl)
theorem dX1_commit_146 : decode cX1_commit 146 = .ok (.lshr, 1) := dk_123 (dk_at dksX1_commit_6 6 rfl rfl)
theorem dX1_commit_147 : decode cX1_commit 147 = .ok (.lconst 1, 1) := dk_10 (dk_at dksX1_commit_6 7 rfl rfl)
theorem dX1_commit_148 : decode cX1_commit 148 = .ok (.land, 1) := dk_127 (dk_at dksX1_commit_6 8 rfl rfl)
theorem dX1_commit_149 : decode cX1_commit 149 = .ok (.lconst 1, 1) := dk_10 (dk_at dksX1_commit_6 9 rfl rfl)
theorem dX1_commit_150 : decode cX1_commit 150 = .ok (.lcmp, 1) := dk_148 (dk_at dksX1_commit_6 10 rfl rfl)
theorem dX1_commit_151 : decode cX1_commit 151 = .ok (.ifCond .ne 18, 3) := dk_154 0 18 (dk_at dksX1_commit_6 11 rfl rfl)
theorem dX1_commit_154 : decode cX1_commit 154 = .ok (.iload 5, 2) := dk_21 5 (dk_at dksX1_commit_6 14 rfl rfl)
theorem dX1_commit_156 : decode cX1_commit 156 = .ok (.aload_n 0, 1) := dk_42 (dk_at dksX1_commit_6 16 rfl rfl)
theorem dX1_commit_157 : decode cX1_commit 157 = .ok (.iload 6, 2) := dk_21 6 (dk_at dksX1_commit_6 17 rfl rfl)
theorem dX1_commit_159 : decode cX1_commit 159 = .ok (.invokevirtual 141, 3) := dk_182 0 141 (dk_at dksX1_commit_6 19 rfl rfl)
theorem dX1_commit_162 : decode cX1_commit 162 = .ok (.iconst 0, 1) := dk_3 (dk_at dksX1_commit_6 22 rfl rfl)
theorem dX1_commit_163 : decode cX1_commit 163 = .ok (.invokevirtual 197, 3) := dk_182 0 197 (dk_at dksX1_commit_7 0 rfl rfl)
theorem dX1_commit_166 : decode cX1_commit 166 = .ok (.ixor, 1) := dk_130 (dk_at dksX1_commit_7 3 rfl rfl)
theorem dX1_commit_167 : decode cX1_commit 167 = .ok (.istore 5, 2) := dk_54 5 (dk_at dksX1_commit_7 4 rfl rfl)
theorem dX1_commit_169 : decode cX1_commit 169 = .ok (.iinc 6 1, 3) := dk_132 6 1 (dk_at dksX1_commit_7 6 rfl rfl)
theorem dX1_commit_172 : decode cX1_commit 172 = .ok (.goto (-38), 3) := dk_167 255 218 (dk_at dksX1_commit_7 9 rfl rfl)
theorem dX1_commit_175 : decode cX1_commit 175 = .ok (.new 17, 3) := dk_187 0 17 (dk_at dksX1_commit_7 12 rfl rfl)
theorem dX1_commit_178 : decode cX1_commit 178 = .ok (.dup, 1) := dk_89 (dk_at dksX1_commit_7 15 rfl rfl)
theorem dX1_commit_179 : decode cX1_commit 179 = .ok (.invokespecial 74, 3) := dk_183 0 74 (dk_at dksX1_commit_7 16 rfl rfl)
theorem dX1_commit_182 : decode cX1_commit 182 = .ok (.astore 6, 2) := dk_58 6 (dk_at dksX1_commit_7 19 rfl rfl)
theorem dX1_commit_184 : decode cX1_commit 184 = .ok (.aload 6, 2) := dk_25 6 (dk_at dksX1_commit_7 21 rfl rfl)
theorem dX1_commit_186 : decode cX1_commit 186 = .ok (.getfield 75, 3) := dk_180 0 75 (dk_at dksX1_commit_8 0 rfl rfl)
theorem dX1_commit_189 : decode cX1_commit 189 = .ok (.iconst 4, 1) := dk_7 (dk_at dksX1_commit_8 3 rfl rfl)
theorem dX1_commit_190 : decode cX1_commit 190 = .ok (.bipush 9, 2) := dk_16 9 (dk_at dksX1_commit_8 4 rfl rfl)
theorem dX1_commit_192 : decode cX1_commit 192 = .ok (.bastore, 1) := dk_84 (dk_at dksX1_commit_8 6 rfl rfl)
theorem dX1_commit_193 : decode cX1_commit 193 = .ok (.aload 6, 2) := dk_25 6 (dk_at dksX1_commit_8 7 rfl rfl)
theorem dX1_commit_195 : decode cX1_commit 195 = .ok (.bipush 8, 2) := dk_16 8 (dk_at dksX1_commit_8 9 rfl rfl)
theorem dX1_commit_197 : decode cX1_commit 197 = .ok (.lload_n 3, 1) := dk_33 (dk_at dksX1_commit_8 11 rfl rfl)
theorem dX1_commit_198 : decode cX1_commit 198 = .ok (.invokevirtual 200, 3) := dk_182 0 200 (dk_at dksX1_commit_8 12 rfl rfl)
theorem dX1_commit_201 : decode cX1_commit 201 = .ok (.aload 6, 2) := dk_25 6 (dk_at dksX1_commit_8 15 rfl rfl)
theorem dX1_commit_203 : decode cX1_commit 203 = .ok (.bipush 16, 2) := dk_16 16 (dk_at dksX1_commit_8 17 rfl rfl)
theorem dX1_commit_205 : decode cX1_commit 205 = .ok (.iload_n 1, 1) := dk_27 (dk_at dksX1_commit_8 19 rfl rfl)
theorem dX1_commit_206 : decode cX1_commit 206 = .ok (.invokevirtual 187, 3) := dk_182 0 187 (dk_at dksX1_commit_8 20 rfl rfl)
theorem dX1_commit_209 : decode cX1_commit 209 = .ok (.aload 6, 2) := dk_25 6 (dk_at dksX1_commit_9 0 rfl rfl)
theorem dX1_commit_211 : decode cX1_commit 211 = .ok (.bipush 20, 2) := dk_16 20 (dk_at dksX1_commit_9 2 rfl rfl)
theorem dX1_commit_213 : decode cX1_commit 213 = .ok (.iload 5, 2) := dk_21 5 (dk_at dksX1_commit_9 4 rfl rfl)
theorem dX1_commit_215 : decode cX1_commit 215 = .ok (.invokevirtual 187, 3) := dk_182 0 187 (dk_at dksX1_commit_9 6 rfl rfl)
theorem dX1_commit_218 : decode cX1_commit 218 = .ok (.aload 6, 2) := dk_25 6 (dk_at dksX1_commit_9 9 rfl rfl)
theorem dX1_commit_220 : decode cX1_commit 220 = .ok (.invokevirtual 191, 3) := dk_182 0 191 (dk_at dksX1_commit_9 11 rfl rfl)
theorem dX1_commit_223 : decode cX1_commit 223 = .ok (.aload_n 0, 1) := dk_42 (dk_at dksX1_commit_9 14 rfl rfl)
theorem dX1_commit_224 : decode cX1_commit 224 = .ok (.getfield 26, 3) := dk_180 0 26 (dk_at dksX1_commit_9 15 rfl rfl)
theorem dX1_commit_227 : decode cX1_commit 227 = .ok (.new 98, 3) := dk_187 0 98 (dk_at dksX1_commit_9 18 rfl rfl)
theorem dX1_commit_230 : decode cX1_commit 230 = .ok (.dup, 1) := dk_89 (dk_at dksX1_commit_9 21 rfl rfl)
theorem dX1_commit_231 : decode cX1_commit 231 = .ok (.iload_n 1, 1) := dk_27 (dk_at dksX1_commit_9 22 rfl rfl)
theorem dX1_commit_232 : decode cX1_commit 232 = .ok (.iconst 1, 1) := dk_4 (dk_at dksX1_commit_9 23 rfl rfl)
theorem dX1_commit_233 : decode cX1_commit 233 = .ok (.iand, 1) := dk_126 (dk_at dksX1_commit_10 0 rfl rfl)
theorem dX1_commit_234 : decode cX1_commit 234 = .ok (.aload 6, 2) := dk_25 6 (dk_at dksX1_commit_10 1 rfl rfl)
theorem dX1_commit_236 : decode cX1_commit 236 = .ok (.invokespecial 194, 3) := dk_183 0 194 (dk_at dksX1_commit_10 3 rfl rfl)
theorem dX1_commit_239 : decode cX1_commit 239 = .ok (.invokevirtual 66, 3) := dk_182 0 66 (dk_at dksX1_commit_10 6 rfl rfl)
theorem dX1_commit_242 : decode cX1_commit 242 = .ok (.pop, 1) := dk_87 (dk_at dksX1_commit_10 9 rfl rfl)
theorem dX1_commit_243 : decode cX1_commit 243 = .ok (.aload_n 0, 1) := dk_42 (dk_at dksX1_commit_10 10 rfl rfl)
theorem dX1_commit_244 : decode cX1_commit 244 = .ok (.getfield 30, 3) := dk_180 0 30 (dk_at dksX1_commit_10 11 rfl rfl)
theorem dX1_commit_247 : decode cX1_commit 247 = .ok (.new 54, 3) := dk_187 0 54 (dk_at dksX1_commit_10 14 rfl rfl)
theorem dX1_commit_250 : decode cX1_commit 250 = .ok (.dup, 1) := dk_89 (dk_at dksX1_commit_10 17 rfl rfl)
theorem dX1_commit_251 : decode cX1_commit 251 = .ok (.iload_n 1, 1) := dk_27 (dk_at dksX1_commit_10 18 rfl rfl)
theorem dX1_commit_252 : decode cX1_commit 252 = .ok (.lload_n 3, 1) := dk_33 (dk_at dksX1_commit_10 19 rfl rfl)
theorem dX1_commit_253 : decode cX1_commit 253 = .ok (.invokespecial 56, 3) := dk_183 0 56 (dk_at dksX1_commit_10 20 rfl rfl)
theorem dX1_commit_256 : decode cX1_commit 256 = .ok (.invokevirtual 66, 3) := dk_182 0 66 (dk_at dksX1_commit_11 0 rfl rfl)
theorem dX1_commit_259 : decode cX1_commit 259 = .ok (.pop, 1) := dk_87 (dk_at dksX1_commit_11 3 rfl rfl)
theorem dX1_commit_260 : decode cX1_commit 260 = .ok (.aload_n 0, 1) := dk_42 (dk_at dksX1_commit_11 4 rfl rfl)
theorem dX1_commit_261 : decode cX1_commit 261 = .ok (.iconst 0, 1) := dk_3 (dk_at dksX1_commit_11 5 rfl rfl)
theorem dX1_commit_262 : decode cX1_commit 262 = .ok (.putfield 71, 3) := dk_181 0 71 (dk_at dksX1_commit_11 6 rfl rfl)
theorem dX1_commit_265 : decode cX1_commit 265 = .ok (.aload_n 0, 1) := dk_42 (dk_at dksX1_commit_11 9 rfl rfl)
theorem dX1_commit_266 : decode cX1_commit 266 = .ok (.getfield 26, 3) := dk_180 0 26 (dk_at dksX1_commit_11 10 rfl rfl)
theorem dX1_commit_269 : decode cX1_commit 269 = .ok (.invokevirtual 184, 3) := dk_182 0 184 (dk_at dksX1_commit_11 13 rfl rfl)
theorem dX1_commit_272 : decode cX1_commit 272 = .ok (.iload_n 2, 1) := dk_28 (dk_at dksX1_commit_11 16 rfl rfl)
theorem dX1_commit_273 : decode cX1_commit 273 = .ok (.isub, 1) := dk_100 (dk_at dksX1_commit_11 17 rfl rfl)
theorem dX1_commit_274 : decode cX1_commit 274 = .ok (.ireturn, 1) := dk_172 (dk_at dksX1_commit_11 18 rfl rfl)
abbrev cX1_latest : ByteArray := prog_1_method_16_code
def yX1_latest : MethodName := ⟨RX1, "latest", "()LKnowDisk$State;"⟩
def dkwX1_latest_0 : List UInt8 := [42, 180, 0, 30, 182, 0, 173, 192, 0, 54, 176]
abbrev dktX1_latest_0 : List UInt8 := dkwX1_latest_0 ++ []
theorem dksX1_latest_0 : cX1_latest.data.toList.drop 0 = dktX1_latest_0 := by decide +kernel
theorem dX1_latest_0 : decode cX1_latest 0 = .ok (.aload_n 0, 1) := dk_42 (dk_at dksX1_latest_0 0 rfl rfl)
theorem dX1_latest_1 : decode cX1_latest 1 = .ok (.getfield 30, 3) := dk_180 0 30 (dk_at dksX1_latest_0 1 rfl rfl)
theorem dX1_latest_4 : decode cX1_latest 4 = .ok (.invokevirtual 173, 3) := dk_182 0 173 (dk_at dksX1_latest_0 4 rfl rfl)
theorem dX1_latest_7 : decode cX1_latest 7 = .ok (.checkcast 54, 3) := dk_192 0 54 (dk_at dksX1_latest_0 7 rfl rfl)
theorem dX1_latest_10 : decode cX1_latest 10 = .ok (.areturn, 1) := dk_176 (dk_at dksX1_latest_0 10 rfl rfl)
abbrev cX1_sync : ByteArray := prog_1_method_19_code
def yX1_sync : MethodName := ⟨RX1, "sync", "()I"⟩
def dkwX1_sync_2 : List UInt8 := [4, 164, 0, 14, 42, 180, 0, 30, 182, 0, 206, 87, 167, 255, 237, 42, 182, 0, 176, 182, 0, 180, 172]
abbrev dktX1_sync_2 : List UInt8 := dkwX1_sync_2 ++ []
def dkwX1_sync_1 : List UInt8 := [180, 0, 26, 182, 0, 206, 192, 0, 98, 16, 32, 182, 0, 209, 167, 255, 230, 42, 180, 0, 30, 182, 0, 184]
abbrev dktX1_sync_1 : List UInt8 := dkwX1_sync_1 ++ dktX1_sync_2
def dkwX1_sync_0 : List UInt8 := [42, 180, 0, 7, 154, 0, 6, 16, 253, 172, 42, 180, 0, 26, 182, 0, 203, 154, 0, 22, 42, 42]
abbrev dktX1_sync_0 : List UInt8 := dkwX1_sync_0 ++ dktX1_sync_1
theorem dksX1_sync_0 : cX1_sync.data.toList.drop 0 = dktX1_sync_0 := by decide +kernel
theorem dksX1_sync_1 : cX1_sync.data.toList.drop 22 = dktX1_sync_1 := dk_seg dksX1_sync_0 22 rfl rfl
theorem dksX1_sync_2 : cX1_sync.data.toList.drop 46 = dktX1_sync_2 := dk_seg dksX1_sync_1 24 rfl rfl
theorem dX1_sync_0 : decode cX1_sync 0 = .ok (.aload_n 0, 1) := dk_42 (dk_at dksX1_sync_0 0 rfl rfl)
theorem dX1_sync_1 : decode cX1_sync 1 = .ok (.getfield 7, 3) := dk_180 0 7 (dk_at dksX1_sync_0 1 rfl rfl)
theorem dX1_sync_4 : decode cX1_sync 4 = .ok (.ifCond .ne 6, 3) := dk_154 0 6 (dk_at dksX1_sync_0 4 rfl rfl)
theorem dX1_sync_7 : decode cX1_sync 7 = .ok (.bipush (-3), 2) := dk_16 253 (dk_at dksX1_sync_0 7 rfl rfl)
theorem dX1_sync_9 : decode cX1_sync 9 = .ok (.ireturn, 1) := dk_172 (dk_at dksX1_sync_0 9 rfl rfl)
theorem dX1_sync_10 : decode cX1_sync 10 = .ok (.aload_n 0, 1) := dk_42 (dk_at dksX1_sync_0 10 rfl rfl)
theorem dX1_sync_11 : decode cX1_sync 11 = .ok (.getfield 26, 3) := dk_180 0 26 (dk_at dksX1_sync_0 11 rfl rfl)
theorem dX1_sync_14 : decode cX1_sync 14 = .ok (.invokevirtual 203, 3) := dk_182 0 203 (dk_at dksX1_sync_0 14 rfl rfl)
theorem dX1_sync_17 : decode cX1_sync 17 = .ok (.ifCond .ne 22, 3) := dk_154 0 22 (dk_at dksX1_sync_0 17 rfl rfl)
theorem dX1_sync_20 : decode cX1_sync 20 = .ok (.aload_n 0, 1) := dk_42 (dk_at dksX1_sync_0 20 rfl rfl)
theorem dX1_sync_21 : decode cX1_sync 21 = .ok (.aload_n 0, 1) := dk_42 (dk_at dksX1_sync_0 21 rfl rfl)
theorem dX1_sync_22 : decode cX1_sync 22 = .ok (.getfield 26, 3) := dk_180 0 26 (dk_at dksX1_sync_1 0 rfl rfl)
theorem dX1_sync_25 : decode cX1_sync 25 = .ok (.invokevirtual 206, 3) := dk_182 0 206 (dk_at dksX1_sync_1 3 rfl rfl)
theorem dX1_sync_28 : decode cX1_sync 28 = .ok (.checkcast 98, 3) := dk_192 0 98 (dk_at dksX1_sync_1 6 rfl rfl)
theorem dX1_sync_31 : decode cX1_sync 31 = .ok (.bipush 32, 2) := dk_16 32 (dk_at dksX1_sync_1 9 rfl rfl)
theorem dX1_sync_33 : decode cX1_sync 33 = .ok (.invokevirtual 209, 3) := dk_182 0 209 (dk_at dksX1_sync_1 11 rfl rfl)
theorem dX1_sync_36 : decode cX1_sync 36 = .ok (.goto (-26), 3) := dk_167 255 230 (dk_at dksX1_sync_1 14 rfl rfl)
theorem dX1_sync_39 : decode cX1_sync 39 = .ok (.aload_n 0, 1) := dk_42 (dk_at dksX1_sync_1 17 rfl rfl)
theorem dX1_sync_40 : decode cX1_sync 40 = .ok (.getfield 30, 3) := dk_180 0 30 (dk_at dksX1_sync_1 18 rfl rfl)
theorem dX1_sync_43 : decode cX1_sync 43 = .ok (.invokevirtual 184, 3) := dk_182 0 184 (dk_at dksX1_sync_1 21 rfl rfl)
theorem dX1_sync_46 : decode cX1_sync 46 = .ok (.iconst 1, 1) := dk_4 (dk_at dksX1_sync_2 0 rfl rfl)
theorem dX1_sync_47 : decode cX1_sync 47 = .ok (.if_icmp .le 14, 3) := dk_164 0 14 (dk_at dksX1_sync_2 1 rfl rfl)
theorem dX1_sync_50 : decode cX1_sync 50 = .ok (.aload_n 0, 1) := dk_42 (dk_at dksX1_sync_2 4 rfl rfl)
theorem dX1_sync_51 : decode cX1_sync 51 = .ok (.getfield 30, 3) := dk_180 0 30 (dk_at dksX1_sync_2 5 rfl rfl)
theorem dX1_sync_54 : decode cX1_sync 54 = .ok (.invokevirtual 206, 3) := dk_182 0 206 (dk_at dksX1_sync_2 8 rfl rfl)
theorem dX1_sync_57 : decode cX1_sync 57 = .ok (.pop, 1) := dk_87 (dk_at dksX1_sync_2 11 rfl rfl)
theorem dX1_sync_58 : decode cX1_sync 58 = .ok (.goto (-19), 3) := dk_167 255 237 (dk_at dksX1_sync_2 12 rfl rfl)
theorem dX1_sync_61 : decode cX1_sync 61 = .ok (.aload_n 0, 1) := dk_42 (dk_at dksX1_sync_2 15 rfl rfl)
theorem dX1_sync_62 : decode cX1_sync 62 = .ok (.invokevirtual 176, 3) := dk_182 0 176 (dk_at dksX1_sync_2 16 rfl rfl)
theorem dX1_sync_65 : decode cX1_sync 65 = .ok (.invokevirtual 180, 3) := dk_182 0 180 (dk_at dksX1_sync_2 19 rfl rfl)
theorem dX1_sync_68 : decode cX1_sync 68 = .ok (.ireturn, 1) := dk_172 (dk_at dksX1_sync_2 22 rfl rfl)
abbrev cX1_write : ByteArray := prog_1_method_18_code
def yX1_write : MethodName := ⟨RX1, "write", "(LKnowDisk$Write;I)V"⟩
def dkwX1_write_0 : List UInt8 := [43, 182, 0, 104, 180, 0, 75, 3, 42, 180, 0, 50, 16, 32, 43, 182, 0, 100, 104, 28, 184, 0, 78, 177]
abbrev dktX1_write_0 : List UInt8 := dkwX1_write_0 ++ []
theorem dksX1_write_0 : cX1_write.data.toList.drop 0 = dktX1_write_0 := by decide +kernel
theorem dX1_write_0 : decode cX1_write 0 = .ok (.aload_n 1, 1) := dk_43 (dk_at dksX1_write_0 0 rfl rfl)
theorem dX1_write_1 : decode cX1_write 1 = .ok (.invokevirtual 104, 3) := dk_182 0 104 (dk_at dksX1_write_0 1 rfl rfl)
theorem dX1_write_4 : decode cX1_write 4 = .ok (.getfield 75, 3) := dk_180 0 75 (dk_at dksX1_write_0 4 rfl rfl)
theorem dX1_write_7 : decode cX1_write 7 = .ok (.iconst 0, 1) := dk_3 (dk_at dksX1_write_0 7 rfl rfl)
theorem dX1_write_8 : decode cX1_write 8 = .ok (.aload_n 0, 1) := dk_42 (dk_at dksX1_write_0 8 rfl rfl)
theorem dX1_write_9 : decode cX1_write 9 = .ok (.getfield 50, 3) := dk_180 0 50 (dk_at dksX1_write_0 9 rfl rfl)
theorem dX1_write_12 : decode cX1_write 12 = .ok (.bipush 32, 2) := dk_16 32 (dk_at dksX1_write_0 12 rfl rfl)
theorem dX1_write_14 : decode cX1_write 14 = .ok (.aload_n 1, 1) := dk_43 (dk_at dksX1_write_0 14 rfl rfl)
theorem dX1_write_15 : decode cX1_write 15 = .ok (.invokevirtual 100, 3) := dk_182 0 100 (dk_at dksX1_write_0 15 rfl rfl)
theorem dX1_write_18 : decode cX1_write 18 = .ok (.imul, 1) := dk_104 (dk_at dksX1_write_0 18 rfl rfl)
theorem dX1_write_19 : decode cX1_write 19 = .ok (.iload_n 2, 1) := dk_28 (dk_at dksX1_write_0 19 rfl rfl)
theorem dX1_write_20 : decode cX1_write 20 = .ok (.invokestatic 78, 3) := dk_184 0 78 (dk_at dksX1_write_0 20 rfl rfl)
theorem dX1_write_23 : decode cX1_write 23 = .ok (.return_, 1) := dk_177 (dk_at dksX1_write_0 23 rfl rfl)
abbrev cX1_cut : ByteArray := prog_1_method_20_code
def yX1_cut : MethodName := ⟨RX1, "cut", "(II)V"⟩
def dkwX1_cut_4 : List UInt8 := [9, 183, 0, 56, 182, 0, 59, 177]
abbrev dktX1_cut_4 : List UInt8 := dkwX1_cut_4 ++ []
def dkwX1_cut_3 : List UInt8 := [3, 28, 16, 32, 184, 0, 213, 184, 0, 216, 182, 0, 209, 42, 3, 181, 0, 7, 42, 187, 0, 54, 89, 3]
abbrev dktX1_cut_3 : List UInt8 := dkwX1_cut_3 ++ dktX1_cut_4
def dkwX1_cut_2 : List UInt8 := [167, 255, 222, 42, 180, 0, 26, 182, 0, 203, 154, 0, 27, 42, 42, 180, 0, 26, 182, 0, 206, 192, 0, 98]
abbrev dktX1_cut_2 : List UInt8 := dkwX1_cut_2 ++ dktX1_cut_3
def dkwX1_cut_1 : List UInt8 := [154, 0, 25, 42, 42, 180, 0, 26, 182, 0, 206, 192, 0, 98, 16, 32, 182, 0, 209, 132, 3, 1]
abbrev dktX1_cut_1 : List UInt8 := dkwX1_cut_1 ++ dktX1_cut_2
def dkwX1_cut_0 : List UInt8 := [42, 180, 0, 7, 154, 0, 4, 177, 3, 62, 29, 27, 162, 0, 35, 42, 180, 0, 26, 182, 0, 203]
abbrev dktX1_cut_0 : List UInt8 := dkwX1_cut_0 ++ dktX1_cut_1
theorem dksX1_cut_0 : cX1_cut.data.toList.drop 0 = dktX1_cut_0 := by decide +kernel
theorem dksX1_cut_1 : cX1_cut.data.toList.drop 22 = dktX1_cut_1 := dk_seg dksX1_cut_0 22 rfl rfl
theorem dksX1_cut_2 : cX1_cut.data.toList.drop 44 = dktX1_cut_2 := dk_seg dksX1_cut_1 22 rfl rfl
theorem dksX1_cut_3 : cX1_cut.data.toList.drop 68 = dktX1_cut_3 := dk_seg dksX1_cut_2 24 rfl rfl
theorem dksX1_cut_4 : cX1_cut.data.toList.drop 92 = dktX1_cut_4 := dk_seg dksX1_cut_3 24 rfl rfl
theorem dX1_cut_0 : decode cX1_cut 0 = .ok (.aload_n 0, 1) := dk_42 (dk_at dksX1_cut_0 0 rfl rfl)
theorem dX1_cut_1 : decode cX1_cut 1 = .ok (.getfield 7, 3) := dk_180 0 7 (dk_at dksX1_cut_0 1 rfl rfl)
theorem dX1_cut_4 : decode cX1_cut 4 = .ok (.ifCond .ne 4, 3) := dk_154 0 4 (dk_at dksX1_cut_0 4 rfl rfl)
theorem dX1_cut_7 : decode cX1_cut 7 = .ok (.return_, 1) := dk_177 (dk_at dksX1_cut_0 7 rfl rfl)
theorem dX1_cut_8 : decode cX1_cut 8 = .ok (.iconst 0, 1) := dk_3 (dk_at dksX1_cut_0 8 rfl rfl)
theorem dX1_cut_9 : decode cX1_cut 9 = .ok (.istore_n 3, 1) := dk_62 (dk_at dksX1_cut_0 9 rfl rfl)
theorem dX1_cut_10 : decode cX1_cut 10 = .ok (.iload_n 3, 1) := dk_29 (dk_at dksX1_cut_0 10 rfl rfl)
theorem dX1_cut_11 : decode cX1_cut 11 = .ok (.iload_n 1, 1) := dk_27 (dk_at dksX1_cut_0 11 rfl rfl)
theorem dX1_cut_12 : decode cX1_cut 12 = .ok (.if_icmp .ge 35, 3) := dk_162 0 35 (dk_at dksX1_cut_0 12 rfl rfl)
theorem dX1_cut_15 : decode cX1_cut 15 = .ok (.aload_n 0, 1) := dk_42 (dk_at dksX1_cut_0 15 rfl rfl)
theorem dX1_cut_16 : decode cX1_cut 16 = .ok (.getfield 26, 3) := dk_180 0 26 (dk_at dksX1_cut_0 16 rfl rfl)
theorem dX1_cut_19 : decode cX1_cut 19 = .ok (.invokevirtual 203, 3) := dk_182 0 203 (dk_at dksX1_cut_0 19 rfl rfl)
theorem dX1_cut_22 : decode cX1_cut 22 = .ok (.ifCond .ne 25, 3) := dk_154 0 25 (dk_at dksX1_cut_1 0 rfl rfl)
theorem dX1_cut_25 : decode cX1_cut 25 = .ok (.aload_n 0, 1) := dk_42 (dk_at dksX1_cut_1 3 rfl rfl)
theorem dX1_cut_26 : decode cX1_cut 26 = .ok (.aload_n 0, 1) := dk_42 (dk_at dksX1_cut_1 4 rfl rfl)
theorem dX1_cut_27 : decode cX1_cut 27 = .ok (.getfield 26, 3) := dk_180 0 26 (dk_at dksX1_cut_1 5 rfl rfl)
theorem dX1_cut_30 : decode cX1_cut 30 = .ok (.invokevirtual 206, 3) := dk_182 0 206 (dk_at dksX1_cut_1 8 rfl rfl)
theorem dX1_cut_33 : decode cX1_cut 33 = .ok (.checkcast 98, 3) := dk_192 0 98 (dk_at dksX1_cut_1 11 rfl rfl)
theorem dX1_cut_36 : decode cX1_cut 36 = .ok (.bipush 32, 2) := dk_16 32 (dk_at dksX1_cut_1 14 rfl rfl)
theorem dX1_cut_38 : decode cX1_cut 38 = .ok (.invokevirtual 209, 3) := dk_182 0 209 (dk_at dksX1_cut_1 16 rfl rfl)
theorem dX1_cut_41 : decode cX1_cut 41 = .ok (.iinc 3 1, 3) := dk_132 3 1 (dk_at dksX1_cut_1 19 rfl rfl)
theorem dX1_cut_44 : decode cX1_cut 44 = .ok (.goto (-34), 3) := dk_167 255 222 (dk_at dksX1_cut_2 0 rfl rfl)
theorem dX1_cut_47 : decode cX1_cut 47 = .ok (.aload_n 0, 1) := dk_42 (dk_at dksX1_cut_2 3 rfl rfl)
theorem dX1_cut_48 : decode cX1_cut 48 = .ok (.getfield 26, 3) := dk_180 0 26 (dk_at dksX1_cut_2 4 rfl rfl)
theorem dX1_cut_51 : decode cX1_cut 51 = .ok (.invokevirtual 203, 3) := dk_182 0 203 (dk_at dksX1_cut_2 7 rfl rfl)
theorem dX1_cut_54 : decode cX1_cut 54 = .ok (.ifCond .ne 27, 3) := dk_154 0 27 (dk_at dksX1_cut_2 10 rfl rfl)
theorem dX1_cut_57 : decode cX1_cut 57 = .ok (.aload_n 0, 1) := dk_42 (dk_at dksX1_cut_2 13 rfl rfl)
theorem dX1_cut_58 : decode cX1_cut 58 = .ok (.aload_n 0, 1) := dk_42 (dk_at dksX1_cut_2 14 rfl rfl)
theorem dX1_cut_59 : decode cX1_cut 59 = .ok (.getfield 26, 3) := dk_180 0 26 (dk_at dksX1_cut_2 15 rfl rfl)
theorem dX1_cut_62 : decode cX1_cut 62 = .ok (.invokevirtual 206, 3) := dk_182 0 206 (dk_at dksX1_cut_2 18 rfl rfl)
theorem dX1_cut_65 : decode cX1_cut 65 = .ok (.checkcast 98, 3) := dk_192 0 98 (dk_at dksX1_cut_2 21 rfl rfl)
theorem dX1_cut_68 : decode cX1_cut 68 = .ok (.iconst 0, 1) := dk_3 (dk_at dksX1_cut_3 0 rfl rfl)
theorem dX1_cut_69 : decode cX1_cut 69 = .ok (.iload_n 2, 1) := dk_28 (dk_at dksX1_cut_3 1 rfl rfl)
theorem dX1_cut_70 : decode cX1_cut 70 = .ok (.bipush 32, 2) := dk_16 32 (dk_at dksX1_cut_3 2 rfl rfl)
theorem dX1_cut_72 : decode cX1_cut 72 = .ok (.invokestatic 213, 3) := dk_184 0 213 (dk_at dksX1_cut_3 4 rfl rfl)
theorem dX1_cut_75 : decode cX1_cut 75 = .ok (.invokestatic 216, 3) := dk_184 0 216 (dk_at dksX1_cut_3 7 rfl rfl)
theorem dX1_cut_78 : decode cX1_cut 78 = .ok (.invokevirtual 209, 3) := dk_182 0 209 (dk_at dksX1_cut_3 10 rfl rfl)
theorem dX1_cut_81 : decode cX1_cut 81 = .ok (.aload_n 0, 1) := dk_42 (dk_at dksX1_cut_3 13 rfl rfl)
theorem dX1_cut_82 : decode cX1_cut 82 = .ok (.iconst 0, 1) := dk_3 (dk_at dksX1_cut_3 14 rfl rfl)
theorem dX1_cut_83 : decode cX1_cut 83 = .ok (.putfield 7, 3) := dk_181 0 7 (dk_at dksX1_cut_3 15 rfl rfl)
theorem dX1_cut_86 : decode cX1_cut 86 = .ok (.aload_n 0, 1) := dk_42 (dk_at dksX1_cut_3 18 rfl rfl)
theorem dX1_cut_87 : decode cX1_cut 87 = .ok (.new 54, 3) := dk_187 0 54 (dk_at dksX1_cut_3 19 rfl rfl)
theorem dX1_cut_90 : decode cX1_cut 90 = .ok (.dup, 1) := dk_89 (dk_at dksX1_cut_3 22 rfl rfl)
theorem dX1_cut_91 : decode cX1_cut 91 = .ok (.iconst 0, 1) := dk_3 (dk_at dksX1_cut_3 23 rfl rfl)
theorem dX1_cut_92 : decode cX1_cut 92 = .ok (.lconst 0, 1) := dk_9 (dk_at dksX1_cut_4 0 rfl rfl)
theorem dX1_cut_93 : decode cX1_cut 93 = .ok (.invokespecial 56, 3) := dk_183 0 56 (dk_at dksX1_cut_4 1 rfl rfl)
theorem dX1_cut_96 : decode cX1_cut 96 = .ok (.invokevirtual 59, 3) := dk_182 0 59 (dk_at dksX1_cut_4 4 rfl rfl)
theorem dX1_cut_99 : decode cX1_cut 99 = .ok (.return_, 1) := dk_177 (dk_at dksX1_cut_4 7 rfl rfl)
abbrev cX1_start : ByteArray := prog_1_method_22_code
def yX1_start : MethodName := ⟨RX1, "start", "()I"⟩
def dkwX1_start_5 : List UInt8 := [22, 4, 22, 4, 10, 101, 127, 55, 4, 167, 255, 217, 42, 182, 0, 176, 182, 0, 180, 172]
abbrev dktX1_start_5 : List UInt8 := dkwX1_start_5 ++ []
def dkwX1_start_4 : List UInt8 := [22, 4, 184, 0, 225, 54, 6, 42, 180, 0, 13, 42, 21, 6, 182, 0, 108, 182, 0, 229, 21, 6, 79]
abbrev dktX1_start_4 : List UInt8 := dkwX1_start_4 ++ dktX1_start_5
def dkwX1_start_3 : List UInt8 := [182, 0, 59, 42, 4, 181, 0, 7, 42, 182, 0, 176, 182, 0, 116, 55, 4, 22, 4, 9, 148, 153, 0, 38]
abbrev dktX1_start_3 : List UInt8 := dkwX1_start_3 ++ dktX1_start_4
def dkwX1_start_2 : List UInt8 := [167, 0, 4, 44, 78, 42, 45, 199, 0, 15, 187, 0, 54, 89, 3, 9, 183, 0, 56, 167, 0, 4, 45]
abbrev dktX1_start_2 : List UInt8 := dkwX1_start_2 ++ dktX1_start_3
def dkwX1_start_1 : List UInt8 := [199, 0, 7, 44, 167, 0, 23, 44, 198, 0, 14, 43, 182, 0, 180, 44, 182, 0, 180, 161, 0, 7, 43]
abbrev dktX1_start_1 : List UInt8 := dkwX1_start_1 ++ dktX1_start_2
def dkwX1_start_0 : List UInt8 := [42, 180, 0, 7, 153, 0, 6, 16, 253, 172, 42, 3, 182, 0, 232, 76, 42, 4, 182, 0, 232, 77, 43]
abbrev dktX1_start_0 : List UInt8 := dkwX1_start_0 ++ dktX1_start_1
theorem dksX1_start_0 : cX1_start.data.toList.drop 0 = dktX1_start_0 := by decide +kernel
theorem dksX1_start_1 : cX1_start.data.toList.drop 23 = dktX1_start_1 := dk_seg dksX1_start_0 23 rfl rfl
theorem dksX1_start_2 : cX1_start.data.toList.drop 46 = dktX1_start_2 := dk_seg dksX1_start_1 23 rfl rfl
theorem dksX1_start_3 : cX1_start.data.toList.drop 69 = dktX1_start_3 := dk_seg dksX1_start_2 23 rfl rfl
theorem dksX1_start_4 : cX1_start.data.toList.drop 93 = dktX1_start_4 := dk_seg dksX1_start_3 24 rfl rfl
theorem dksX1_start_5 : cX1_start.data.toList.drop 116 = dktX1_start_5 := dk_seg dksX1_start_4 23 rfl rfl
theorem dX1_start_0 : decode cX1_start 0 = .ok (.aload_n 0, 1) := dk_42 (dk_at dksX1_start_0 0 rfl rfl)
theorem dX1_start_1 : decode cX1_start 1 = .ok (.getfield 7, 3) := dk_180 0 7 (dk_at dksX1_start_0 1 rfl rfl)
theorem dX1_start_4 : decode cX1_start 4 = .ok (.ifCond .eq 6, 3) := dk_153 0 6 (dk_at dksX1_start_0 4 rfl rfl)
theorem dX1_start_7 : decode cX1_start 7 = .ok (.bipush (-3), 2) := dk_16 253 (dk_at dksX1_start_0 7 rfl rfl)
theorem dX1_start_9 : decode cX1_start 9 = .ok (.ireturn, 1) := dk_172 (dk_at dksX1_start_0 9 rfl rfl)
theorem dX1_start_10 : decode cX1_start 10 = .ok (.aload_n 0, 1) := dk_42 (dk_at dksX1_start_0 10 rfl rfl)
theorem dX1_start_11 : decode cX1_start 11 = .ok (.iconst 0, 1) := dk_3 (dk_at dksX1_start_0 11 rfl rfl)
theorem dX1_start_12 : decode cX1_start 12 = .ok (.invokevirtual 232, 3) := dk_182 0 232 (dk_at dksX1_start_0 12 rfl rfl)
theorem dX1_start_15 : decode cX1_start 15 = .ok (.astore_n 1, 1) := dk_76 (dk_at dksX1_start_0 15 rfl rfl)
theorem dX1_start_16 : decode cX1_start 16 = .ok (.aload_n 0, 1) := dk_42 (dk_at dksX1_start_0 16 rfl rfl)
theorem dX1_start_17 : decode cX1_start 17 = .ok (.iconst 1, 1) := dk_4 (dk_at dksX1_start_0 17 rfl rfl)
theorem dX1_start_18 : decode cX1_start 18 = .ok (.invokevirtual 232, 3) := dk_182 0 232 (dk_at dksX1_start_0 18 rfl rfl)
theorem dX1_start_21 : decode cX1_start 21 = .ok (.astore_n 2, 1) := dk_77 (dk_at dksX1_start_0 21 rfl rfl)
theorem dX1_start_22 : decode cX1_start 22 = .ok (.aload_n 1, 1) := dk_43 (dk_at dksX1_start_0 22 rfl rfl)
theorem dX1_start_23 : decode cX1_start 23 = .ok (.ifnonnull 7, 3) := dk_199 0 7 (dk_at dksX1_start_1 0 rfl rfl)
theorem dX1_start_26 : decode cX1_start 26 = .ok (.aload_n 2, 1) := dk_44 (dk_at dksX1_start_1 3 rfl rfl)
theorem dX1_start_27 : decode cX1_start 27 = .ok (.goto 23, 3) := dk_167 0 23 (dk_at dksX1_start_1 4 rfl rfl)
theorem dX1_start_30 : decode cX1_start 30 = .ok (.aload_n 2, 1) := dk_44 (dk_at dksX1_start_1 7 rfl rfl)
theorem dX1_start_31 : decode cX1_start 31 = .ok (.ifnull 14, 3) := dk_198 0 14 (dk_at dksX1_start_1 8 rfl rfl)
theorem dX1_start_34 : decode cX1_start 34 = .ok (.aload_n 1, 1) := dk_43 (dk_at dksX1_start_1 11 rfl rfl)
theorem dX1_start_35 : decode cX1_start 35 = .ok (.invokevirtual 180, 3) := dk_182 0 180 (dk_at dksX1_start_1 12 rfl rfl)
theorem dX1_start_38 : decode cX1_start 38 = .ok (.aload_n 2, 1) := dk_44 (dk_at dksX1_start_1 15 rfl rfl)
theorem dX1_start_39 : decode cX1_start 39 = .ok (.invokevirtual 180, 3) := dk_182 0 180 (dk_at dksX1_start_1 16 rfl rfl)
theorem dX1_start_42 : decode cX1_start 42 = .ok (.if_icmp .lt 7, 3) := dk_161 0 7 (dk_at dksX1_start_1 19 rfl rfl)
theorem dX1_start_45 : decode cX1_start 45 = .ok (.aload_n 1, 1) := dk_43 (dk_at dksX1_start_1 22 rfl rfl)
theorem dX1_start_46 : decode cX1_start 46 = .ok (.goto 4, 3) := dk_167 0 4 (dk_at dksX1_start_2 0 rfl rfl)
theorem dX1_start_49 : decode cX1_start 49 = .ok (.aload_n 2, 1) := dk_44 (dk_at dksX1_start_2 3 rfl rfl)
theorem dX1_start_50 : decode cX1_start 50 = .ok (.astore_n 3, 1) := dk_78 (dk_at dksX1_start_2 4 rfl rfl)
theorem dX1_start_51 : decode cX1_start 51 = .ok (.aload_n 0, 1) := dk_42 (dk_at dksX1_start_2 5 rfl rfl)
theorem dX1_start_52 : decode cX1_start 52 = .ok (.aload_n 3, 1) := dk_45 (dk_at dksX1_start_2 6 rfl rfl)
theorem dX1_start_53 : decode cX1_start 53 = .ok (.ifnonnull 15, 3) := dk_199 0 15 (dk_at dksX1_start_2 7 rfl rfl)
theorem dX1_start_56 : decode cX1_start 56 = .ok (.new 54, 3) := dk_187 0 54 (dk_at dksX1_start_2 10 rfl rfl)
theorem dX1_start_59 : decode cX1_start 59 = .ok (.dup, 1) := dk_89 (dk_at dksX1_start_2 13 rfl rfl)
theorem dX1_start_60 : decode cX1_start 60 = .ok (.iconst 0, 1) := dk_3 (dk_at dksX1_start_2 14 rfl rfl)
theorem dX1_start_61 : decode cX1_start 61 = .ok (.lconst 0, 1) := dk_9 (dk_at dksX1_start_2 15 rfl rfl)
theorem dX1_start_62 : decode cX1_start 62 = .ok (.invokespecial 56, 3) := dk_183 0 56 (dk_at dksX1_start_2 16 rfl rfl)
theorem dX1_start_65 : decode cX1_start 65 = .ok (.goto 4, 3) := dk_167 0 4 (dk_at dksX1_start_2 19 rfl rfl)
theorem dX1_start_68 : decode cX1_start 68 = .ok (.aload_n 3, 1) := dk_45 (dk_at dksX1_start_2 22 rfl rfl)
theorem dX1_start_69 : decode cX1_start 69 = .ok (.invokevirtual 59, 3) := dk_182 0 59 (dk_at dksX1_start_3 0 rfl rfl)
theorem dX1_start_72 : decode cX1_start 72 = .ok (.aload_n 0, 1) := dk_42 (dk_at dksX1_start_3 3 rfl rfl)
theorem dX1_start_73 : decode cX1_start 73 = .ok (.iconst 1, 1) := dk_4 (dk_at dksX1_start_3 4 rfl rfl)
theorem dX1_start_74 : decode cX1_start 74 = .ok (.putfield 7, 3) := dk_181 0 7 (dk_at dksX1_start_3 5 rfl rfl)
theorem dX1_start_77 : decode cX1_start 77 = .ok (.aload_n 0, 1) := dk_42 (dk_at dksX1_start_3 8 rfl rfl)
theorem dX1_start_78 : decode cX1_start 78 = .ok (.invokevirtual 176, 3) := dk_182 0 176 (dk_at dksX1_start_3 9 rfl rfl)
theorem dX1_start_81 : decode cX1_start 81 = .ok (.invokevirtual 116, 3) := dk_182 0 116 (dk_at dksX1_start_3 12 rfl rfl)
theorem dX1_start_84 : decode cX1_start 84 = .ok (.lstore 4, 2) := dk_55 4 (dk_at dksX1_start_3 15 rfl rfl)
theorem dX1_start_86 : decode cX1_start 86 = .ok (.lload 4, 2) := dk_22 4 (dk_at dksX1_start_3 17 rfl rfl)
theorem dX1_start_88 : decode cX1_start 88 = .ok (.lconst 0, 1) := dk_9 (dk_at dksX1_start_3 19 rfl rfl)
theorem dX1_start_89 : decode cX1_start 89 = .ok (.lcmp, 1) := dk_148 (dk_at dksX1_start_3 20 rfl rfl)
theorem dX1_start_90 : decode cX1_start 90 = .ok (.ifCond .eq 38, 3) := dk_153 0 38 (dk_at dksX1_start_3 21 rfl rfl)
theorem dX1_start_93 : decode cX1_start 93 = .ok (.lload 4, 2) := dk_22 4 (dk_at dksX1_start_4 0 rfl rfl)
theorem dX1_start_95 : decode cX1_start 95 = .ok (.invokestatic 225, 3) := dk_184 0 225 (dk_at dksX1_start_4 2 rfl rfl)
theorem dX1_start_98 : decode cX1_start 98 = .ok (.istore 6, 2) := dk_54 6 (dk_at dksX1_start_4 5 rfl rfl)
theorem dX1_start_100 : decode cX1_start 100 = .ok (.aload_n 0, 1) := dk_42 (dk_at dksX1_start_4 7 rfl rfl)
theorem dX1_start_101 : decode cX1_start 101 = .ok (.getfield 13, 3) := dk_180 0 13 (dk_at dksX1_start_4 8 rfl rfl)
theorem dX1_start_104 : decode cX1_start 104 = .ok (.aload_n 0, 1) := dk_42 (dk_at dksX1_start_4 11 rfl rfl)
theorem dX1_start_105 : decode cX1_start 105 = .ok (.iload 6, 2) := dk_21 6 (dk_at dksX1_start_4 12 rfl rfl)
theorem dX1_start_107 : decode cX1_start 107 = .ok (.invokevirtual 108, 3) := dk_182 0 108 (dk_at dksX1_start_4 14 rfl rfl)
theorem dX1_start_110 : decode cX1_start 110 = .ok (.invokevirtual 229, 3) := dk_182 0 229 (dk_at dksX1_start_4 17 rfl rfl)
theorem dX1_start_113 : decode cX1_start 113 = .ok (.iload 6, 2) := dk_21 6 (dk_at dksX1_start_4 20 rfl rfl)
theorem dX1_start_115 : decode cX1_start 115 = .ok (.iastore, 1) := dk_79 (dk_at dksX1_start_4 22 rfl rfl)
theorem dX1_start_116 : decode cX1_start 116 = .ok (.lload 4, 2) := dk_22 4 (dk_at dksX1_start_5 0 rfl rfl)
theorem dX1_start_118 : decode cX1_start 118 = .ok (.lload 4, 2) := dk_22 4 (dk_at dksX1_start_5 2 rfl rfl)
theorem dX1_start_120 : decode cX1_start 120 = .ok (.lconst 1, 1) := dk_10 (dk_at dksX1_start_5 4 rfl rfl)
theorem dX1_start_121 : decode cX1_start 121 = .ok (.lsub, 1) := dk_101 (dk_at dksX1_start_5 5 rfl rfl)
theorem dX1_start_122 : decode cX1_start 122 = .ok (.land, 1) := dk_127 (dk_at dksX1_start_5 6 rfl rfl)
theorem dX1_start_123 : decode cX1_start 123 = .ok (.lstore 4, 2) := dk_55 4 (dk_at dksX1_start_5 7 rfl rfl)
theorem dX1_start_125 : decode cX1_start 125 = .ok (.goto (-39), 3) := dk_167 255 217 (dk_at dksX1_start_5 9 rfl rfl)
theorem dX1_start_128 : decode cX1_start 128 = .ok (.aload_n 0, 1) := dk_42 (dk_at dksX1_start_5 12 rfl rfl)
theorem dX1_start_129 : decode cX1_start 129 = .ok (.invokevirtual 176, 3) := dk_182 0 176 (dk_at dksX1_start_5 13 rfl rfl)
theorem dX1_start_132 : decode cX1_start 132 = .ok (.invokevirtual 180, 3) := dk_182 0 180 (dk_at dksX1_start_5 16 rfl rfl)
theorem dX1_start_135 : decode cX1_start 135 = .ok (.ireturn, 1) := dk_172 (dk_at dksX1_start_5 19 rfl rfl)
abbrev cX1_whole : ByteArray := prog_1_method_21_code
def yX1_whole : MethodName := ⟨RX1, "whole", "(I)LKnowDisk$State;"⟩
def dkwX1_whole_9 : List UInt8 := [182, 0, 197, 33, 183, 0, 56, 167, 0, 4, 1, 176]
abbrev dktX1_whole_9 : List UInt8 := dkwX1_whole_9 ++ []
def dkwX1_whole_8 : List UInt8 := [127, 55, 8, 167, 255, 141, 21, 7, 44, 16, 20, 182, 0, 197, 160, 0, 20, 187, 0, 54, 89, 44, 16, 16]
abbrev dktX1_whole_8 : List UInt8 := dkwX1_whole_8 ++ dktX1_whole_9
def dkwX1_whole_7 : List UInt8 := [182, 0, 229, 121, 129, 55, 5, 21, 7, 25, 10, 3, 182, 0, 197, 130, 54, 7, 22, 8, 22, 8, 10, 101]
abbrev dktX1_whole_7 : List UInt8 := dkwX1_whole_7 ++ dktX1_whole_8
def dkwX1_whole_6 : List UInt8 := [154, 0, 7, 4, 167, 0, 4, 3, 54, 11, 21, 11, 154, 0, 5, 1, 176, 22, 5, 10, 25, 10]
abbrev dktX1_whole_6 : List UInt8 := dkwX1_whole_6 ++ dktX1_whole_7
def dkwX1_whole_5 : List UInt8 := [25, 10, 182, 0, 229, 16, 30, 162, 0, 22, 22, 5, 25, 10, 182, 0, 229, 123, 10, 127, 9, 148]
abbrev dktX1_whole_5 : List UInt8 := dkwX1_whole_5 ++ dktX1_whole_6
def dkwX1_whole_4 : List UInt8 := [182, 0, 170, 153, 0, 50, 25, 10, 182, 0, 150, 4, 161, 0, 41, 25, 10, 182, 0, 150, 6, 163, 0, 32]
abbrev dktX1_whole_4 : List UInt8 := dkwX1_whole_4 ++ dktX1_whole_5
def dkwX1_whole_3 : List UInt8 := [55, 8, 22, 8, 9, 148, 153, 0, 114, 42, 22, 8, 184, 0, 225, 182, 0, 108, 58, 10, 25, 10]
abbrev dktX1_whole_3 : List UInt8 := dkwX1_whole_3 ++ dktX1_whole_4
def dkwX1_whole_2 : List UInt8 := [162, 0, 16, 33, 42, 180, 0, 46, 125, 9, 148, 153, 0, 5, 1, 176, 9, 55, 5, 3, 54, 7, 33]
abbrev dktX1_whole_2 : List UInt8 := dkwX1_whole_2 ++ dktX1_whole_3
def dkwX1_whole_1 : List UInt8 := [44, 16, 8, 182, 0, 219, 66, 33, 20, 0, 223, 127, 9, 148, 154, 0, 23, 42, 180, 0, 46, 16, 64]
abbrev dktX1_whole_1 : List UInt8 := dkwX1_whole_1 ++ dktX1_whole_2
def dkwX1_whole_0 : List UInt8 := [42, 27, 182, 0, 108, 77, 44, 182, 0, 150, 16, 9, 160, 0, 10, 44, 182, 0, 170, 154, 0, 5, 1, 176]
abbrev dktX1_whole_0 : List UInt8 := dkwX1_whole_0 ++ dktX1_whole_1
theorem dksX1_whole_0 : cX1_whole.data.toList.drop 0 = dktX1_whole_0 := by decide +kernel
theorem dksX1_whole_1 : cX1_whole.data.toList.drop 24 = dktX1_whole_1 := dk_seg dksX1_whole_0 24 rfl rfl
theorem dksX1_whole_2 : cX1_whole.data.toList.drop 47 = dktX1_whole_2 := dk_seg dksX1_whole_1 23 rfl rfl
theorem dksX1_whole_3 : cX1_whole.data.toList.drop 70 = dktX1_whole_3 := dk_seg dksX1_whole_2 23 rfl rfl
theorem dksX1_whole_4 : cX1_whole.data.toList.drop 92 = dktX1_whole_4 := dk_seg dksX1_whole_3 22 rfl rfl
theorem dksX1_whole_5 : cX1_whole.data.toList.drop 116 = dktX1_whole_5 := dk_seg dksX1_whole_4 24 rfl rfl
theorem dksX1_whole_6 : cX1_whole.data.toList.drop 138 = dktX1_whole_6 := dk_seg dksX1_whole_5 22 rfl rfl
theorem dksX1_whole_7 : cX1_whole.data.toList.drop 160 = dktX1_whole_7 := dk_seg dksX1_whole_6 22 rfl rfl
theorem dksX1_whole_8 : cX1_whole.data.toList.drop 184 = dktX1_whole_8 := dk_seg dksX1_whole_7 24 rfl rfl
theorem dksX1_whole_9 : cX1_whole.data.toList.drop 208 = dktX1_whole_9 := dk_seg dksX1_whole_8 24 rfl rfl
theorem dX1_whole_0 : decode cX1_whole 0 = .ok (.aload_n 0, 1) := dk_42 (dk_at dksX1_whole_0 0 rfl rfl)
theorem dX1_whole_1 : decode cX1_whole 1 = .ok (.iload_n 1, 1) := dk_27 (dk_at dksX1_whole_0 1 rfl rfl)
theorem dX1_whole_2 : decode cX1_whole 2 = .ok (.invokevirtual 108, 3) := dk_182 0 108 (dk_at dksX1_whole_0 2 rfl rfl)
theorem dX1_whole_5 : decode cX1_whole 5 = .ok (.astore_n 2, 1) := dk_77 (dk_at dksX1_whole_0 5 rfl rfl)
theorem dX1_whole_6 : decode cX1_whole 6 = .ok (.aload_n 2, 1) := dk_44 (dk_at dksX1_whole_0 6 rfl rfl)
theorem dX1_whole_7 : decode cX1_whole 7 = .ok (.invokevirtual 150, 3) := dk_182 0 150 (dk_at dksX1_whole_0 7 rfl rfl)
theorem dX1_whole_10 : decode cX1_whole 10 = .ok (.bipush 9, 2) := dk_16 9 (dk_at dksX1_whole_0 10 rfl rfl)
theorem dX1_whole_12 : decode cX1_whole 12 = .ok (.if_icmp .ne 10, 3) := dk_160 0 10 (dk_at dksX1_whole_0 12 rfl rfl)
theorem dX1_whole_15 : decode cX1_whole 15 = .ok (.aload_n 2, 1) := dk_44 (dk_at dksX1_whole_0 15 rfl rfl)
theorem dX1_whole_16 : decode cX1_whole 16 = .ok (.invokevirtual 170, 3) := dk_182 0 170 (dk_at dksX1_whole_0 16 rfl rfl)
theorem dX1_whole_19 : decode cX1_whole 19 = .ok (.ifCond .ne 5, 3) := dk_154 0 5 (dk_at dksX1_whole_0 19 rfl rfl)
theorem dX1_whole_22 : decode cX1_whole 22 = .ok (.aconst_null, 1) := dk_1 (dk_at dksX1_whole_0 22 rfl rfl)
theorem dX1_whole_23 : decode cX1_whole 23 = .ok (.areturn, 1) := dk_176 (dk_at dksX1_whole_0 23 rfl rfl)
theorem dX1_whole_24 : decode cX1_whole 24 = .ok (.aload_n 2, 1) := dk_44 (dk_at dksX1_whole_1 0 rfl rfl)
theorem dX1_whole_25 : decode cX1_whole 25 = .ok (.bipush 8, 2) := dk_16 8 (dk_at dksX1_whole_1 1 rfl rfl)
theorem dX1_whole_27 : decode cX1_whole 27 = .ok (.invokevirtual 219, 3) := dk_182 0 219 (dk_at dksX1_whole_1 3 rfl rfl)
theorem dX1_whole_30 : decode cX1_whole 30 = .ok (.lstore_n 3, 1) := dk_66 (dk_at dksX1_whole_1 6 rfl rfl)
theorem dX1_whole_31 : decode cX1_whole 31 = .ok (.lload_n 3, 1) := dk_33 (dk_at dksX1_whole_1 7 rfl rfl)
theorem dX1_whole_32 : decode cX1_whole 32 = .ok (.ldc2_w 223, 3) := dk_20 0 223 (dk_at dksX1_whole_1 8 rfl rfl)
theorem dX1_whole_35 : decode cX1_whole 35 = .ok (.land, 1) := dk_127 (dk_at dksX1_whole_1 11 rfl rfl)
theorem dX1_whole_36 : decode cX1_whole 36 = .ok (.lconst 0, 1) := dk_9 (dk_at dksX1_whole_1 12 rfl rfl)
theorem dX1_whole_37 : decode cX1_whole 37 = .ok (.lcmp, 1) := dk_148 (dk_at dksX1_whole_1 13 rfl rfl)
theorem dX1_whole_38 : decode cX1_whole 38 = .ok (.ifCond .ne 23, 3) := dk_154 0 23 (dk_at dksX1_whole_1 14 rfl rfl)
theorem dX1_whole_41 : decode cX1_whole 41 = .ok (.aload_n 0, 1) := dk_42 (dk_at dksX1_whole_1 17 rfl rfl)
theorem dX1_whole_42 : decode cX1_whole 42 = .ok (.getfield 46, 3) := dk_180 0 46 (dk_at dksX1_whole_1 18 rfl rfl)
theorem dX1_whole_45 : decode cX1_whole 45 = .ok (.bipush 64, 2) := dk_16 64 (dk_at dksX1_whole_1 21 rfl rfl)
theorem dX1_whole_47 : decode cX1_whole 47 = .ok (.if_icmp .ge 16, 3) := dk_162 0 16 (dk_at dksX1_whole_2 0 rfl rfl)
theorem dX1_whole_50 : decode cX1_whole 50 = .ok (.lload_n 3, 1) := dk_33 (dk_at dksX1_whole_2 3 rfl rfl)
theorem dX1_whole_51 : decode cX1_whole 51 = .ok (.aload_n 0, 1) := dk_42 (dk_at dksX1_whole_2 4 rfl rfl)
theorem dX1_whole_52 : decode cX1_whole 52 = .ok (.getfield 46, 3) := dk_180 0 46 (dk_at dksX1_whole_2 5 rfl rfl)
theorem dX1_whole_55 : decode cX1_whole 55 = .ok (.lushr, 1) := dk_125 (dk_at dksX1_whole_2 8 rfl rfl)
theorem dX1_whole_56 : decode cX1_whole 56 = .ok (.lconst 0, 1) := dk_9 (dk_at dksX1_whole_2 9 rfl rfl)
theorem dX1_whole_57 : decode cX1_whole 57 = .ok (.lcmp, 1) := dk_148 (dk_at dksX1_whole_2 10 rfl rfl)
theorem dX1_whole_58 : decode cX1_whole 58 = .ok (.ifCond .eq 5, 3) := dk_153 0 5 (dk_at dksX1_whole_2 11 rfl rfl)
theorem dX1_whole_61 : decode cX1_whole 61 = .ok (.aconst_null, 1) := dk_1 (dk_at dksX1_whole_2 14 rfl rfl)
theorem dX1_whole_62 : decode cX1_whole 62 = .ok (.areturn, 1) := dk_176 (dk_at dksX1_whole_2 15 rfl rfl)
theorem dX1_whole_63 : decode cX1_whole 63 = .ok (.lconst 0, 1) := dk_9 (dk_at dksX1_whole_2 16 rfl rfl)
theorem dX1_whole_64 : decode cX1_whole 64 = .ok (.lstore 5, 2) := dk_55 5 (dk_at dksX1_whole_2 17 rfl rfl)
theorem dX1_whole_66 : decode cX1_whole 66 = .ok (.iconst 0, 1) := dk_3 (dk_at dksX1_whole_2 19 rfl rfl)
theorem dX1_whole_67 : decode cX1_whole 67 = .ok (.istore 7, 2) := dk_54 7 (dk_at dksX1_whole_2 20 rfl rfl)
theorem dX1_whole_69 : decode cX1_whole 69 = .ok (.lload_n 3, 1) := dk_33 (dk_at dksX1_whole_2 22 rfl rfl)
theorem dX1_whole_70 : decode cX1_whole 70 = .ok (.lstore 8, 2) := dk_55 8 (dk_at dksX1_whole_3 0 rfl rfl)
theorem dX1_whole_72 : decode cX1_whole 72 = .ok (.lload 8, 2) := dk_22 8 (dk_at dksX1_whole_3 2 rfl rfl)
theorem dX1_whole_74 : decode cX1_whole 74 = .ok (.lconst 0, 1) := dk_9 (dk_at dksX1_whole_3 4 rfl rfl)
theorem dX1_whole_75 : decode cX1_whole 75 = .ok (.lcmp, 1) := dk_148 (dk_at dksX1_whole_3 5 rfl rfl)
theorem dX1_whole_76 : decode cX1_whole 76 = .ok (.ifCond .eq 114, 3) := dk_153 0 114 (dk_at dksX1_whole_3 6 rfl rfl)
theorem dX1_whole_79 : decode cX1_whole 79 = .ok (.aload_n 0, 1) := dk_42 (dk_at dksX1_whole_3 9 rfl rfl)
theorem dX1_whole_80 : decode cX1_whole 80 = .ok (.lload 8, 2) := dk_22 8 (dk_at dksX1_whole_3 10 rfl rfl)
theorem dX1_whole_82 : decode cX1_whole 82 = .ok (.invokestatic 225, 3) := dk_184 0 225 (dk_at dksX1_whole_3 12 rfl rfl)
theorem dX1_whole_85 : decode cX1_whole 85 = .ok (.invokevirtual 108, 3) := dk_182 0 108 (dk_at dksX1_whole_3 15 rfl rfl)
theorem dX1_whole_88 : decode cX1_whole 88 = .ok (.astore 10, 2) := dk_58 10 (dk_at dksX1_whole_3 18 rfl rfl)
theorem dX1_whole_90 : decode cX1_whole 90 = .ok (.aload 10, 2) := dk_25 10 (dk_at dksX1_whole_3 20 rfl rfl)
theorem dX1_whole_92 : decode cX1_whole 92 = .ok (.invokevirtual 170, 3) := dk_182 0 170 (dk_at dksX1_whole_4 0 rfl rfl)
theorem dX1_whole_95 : decode cX1_whole 95 = .ok (.ifCond .eq 50, 3) := dk_153 0 50 (dk_at dksX1_whole_4 3 rfl rfl)
theorem dX1_whole_98 : decode cX1_whole 98 = .ok (.aload 10, 2) := dk_25 10 (dk_at dksX1_whole_4 6 rfl rfl)
theorem dX1_whole_100 : decode cX1_whole 100 = .ok (.invokevirtual 150, 3) := dk_182 0 150 (dk_at dksX1_whole_4 8 rfl rfl)
theorem dX1_whole_103 : decode cX1_whole 103 = .ok (.iconst 1, 1) := dk_4 (dk_at dksX1_whole_4 11 rfl rfl)
theorem dX1_whole_104 : decode cX1_whole 104 = .ok (.if_icmp .lt 41, 3) := dk_161 0 41 (dk_at dksX1_whole_4 12 rfl rfl)
theorem dX1_whole_107 : decode cX1_whole 107 = .ok (.aload 10, 2) := dk_25 10 (dk_at dksX1_whole_4 15 rfl rfl)
theorem dX1_whole_109 : decode cX1_whole 109 = .ok (.invokevirtual 150, 3) := dk_182 0 150 (dk_at dksX1_whole_4 17 rfl rfl)
theorem dX1_whole_112 : decode cX1_whole 112 = .ok (.iconst 3, 1) := dk_6 (dk_at dksX1_whole_4 20 rfl rfl)
theorem dX1_whole_113 : decode cX1_whole 113 = .ok (.if_icmp .gt 32, 3) := dk_163 0 32 (dk_at dksX1_whole_4 21 rfl rfl)
theorem dX1_whole_116 : decode cX1_whole 116 = .ok (.aload 10, 2) := dk_25 10 (dk_at dksX1_whole_5 0 rfl rfl)
theorem dX1_whole_118 : decode cX1_whole 118 = .ok (.invokevirtual 229, 3) := dk_182 0 229 (dk_at dksX1_whole_5 2 rfl rfl)
theorem dX1_whole_121 : decode cX1_whole 121 = .ok (.bipush 30, 2) := dk_16 30 (dk_at dksX1_whole_5 5 rfl rfl)
theorem dX1_whole_123 : decode cX1_whole 123 = .ok (.if_icmp .ge 22, 3) := dk_162 0 22 (dk_at dksX1_whole_5 7 rfl rfl)
theorem dX1_whole_126 : decode cX1_whole 126 = .ok (.lload 5, 2) := dk_22 5 (dk_at dksX1_whole_5 10 rfl rfl)
theorem dX1_whole_128 : decode cX1_whole 128 = .ok (.aload 10, 2) := dk_25 10 (dk_at dksX1_whole_5 12 rfl rfl)
theorem dX1_whole_130 : decode cX1_whole 130 = .ok (.invokevirtual 229, 3) := dk_182 0 229 (dk_at dksX1_whole_5 14 rfl rfl)
theorem dX1_whole_133 : decode cX1_whole 133 = .ok (.lshr, 1) := dk_123 (dk_at dksX1_whole_5 17 rfl rfl)
theorem dX1_whole_134 : decode cX1_whole 134 = .ok (.lconst 1, 1) := dk_10 (dk_at dksX1_whole_5 18 rfl rfl)
theorem dX1_whole_135 : decode cX1_whole 135 = .ok (.land, 1) := dk_127 (dk_at dksX1_whole_5 19 rfl rfl)
theorem dX1_whole_136 : decode cX1_whole 136 = .ok (.lconst 0, 1) := dk_9 (dk_at dksX1_whole_5 20 rfl rfl)
theorem dX1_whole_137 : decode cX1_whole 137 = .ok (.lcmp, 1) := dk_148 (dk_at dksX1_whole_5 21 rfl rfl)
theorem dX1_whole_138 : decode cX1_whole 138 = .ok (.ifCond .ne 7, 3) := dk_154 0 7 (dk_at dksX1_whole_6 0 rfl rfl)
theorem dX1_whole_141 : decode cX1_whole 141 = .ok (.iconst 1, 1) := dk_4 (dk_at dksX1_whole_6 3 rfl rfl)
theorem dX1_whole_142 : decode cX1_whole 142 = .ok (.goto 4, 3) := dk_167 0 4 (dk_at dksX1_whole_6 4 rfl rfl)
theorem dX1_whole_145 : decode cX1_whole 145 = .ok (.iconst 0, 1) := dk_3 (dk_at dksX1_whole_6 7 rfl rfl)
theorem dX1_whole_146 : decode cX1_whole 146 = .ok (.istore 11, 2) := dk_54 11 (dk_at dksX1_whole_6 8 rfl rfl)
theorem dX1_whole_148 : decode cX1_whole 148 = .ok (.iload 11, 2) := dk_21 11 (dk_at dksX1_whole_6 10 rfl rfl)
theorem dX1_whole_150 : decode cX1_whole 150 = .ok (.ifCond .ne 5, 3) := dk_154 0 5 (dk_at dksX1_whole_6 12 rfl rfl)
theorem dX1_whole_153 : decode cX1_whole 153 = .ok (.aconst_null, 1) := dk_1 (dk_at dksX1_whole_6 15 rfl rfl)
theorem dX1_whole_154 : decode cX1_whole 154 = .ok (.areturn, 1) := dk_176 (dk_at dksX1_whole_6 16 rfl rfl)
theorem dX1_whole_155 : decode cX1_whole 155 = .ok (.lload 5, 2) := dk_22 5 (dk_at dksX1_whole_6 17 rfl rfl)
theorem dX1_whole_157 : decode cX1_whole 157 = .ok (.lconst 1, 1) := dk_10 (dk_at dksX1_whole_6 19 rfl rfl)
theorem dX1_whole_158 : decode cX1_whole 158 = .ok (.aload 10, 2) := dk_25 10 (dk_at dksX1_whole_6 20 rfl rfl)
theorem dX1_whole_160 : decode cX1_whole 160 = .ok (.invokevirtual 229, 3) := dk_182 0 229 (dk_at dksX1_whole_7 0 rfl rfl)
theorem dX1_whole_163 : decode cX1_whole 163 = .ok (.lshl, 1) := dk_121 (dk_at dksX1_whole_7 3 rfl rfl)
theorem dX1_whole_164 : decode cX1_whole 164 = .ok (.lor, 1) := dk_129 (dk_at dksX1_whole_7 4 rfl rfl)
theorem dX1_whole_165 : decode cX1_whole 165 = .ok (.lstore 5, 2) := dk_55 5 (dk_at dksX1_whole_7 5 rfl rfl)
theorem dX1_whole_167 : decode cX1_whole 167 = .ok (.iload 7, 2) := dk_21 7 (dk_at dksX1_whole_7 7 rfl rfl)
theorem dX1_whole_169 : decode cX1_whole 169 = .ok (.aload 10, 2) := dk_25 10 (dk_at dksX1_whole_7 9 rfl rfl)
theorem dX1_whole_171 : decode cX1_whole 171 = .ok (.iconst 0, 1) := dk_3 (dk_at dksX1_whole_7 11 rfl rfl)
theorem dX1_whole_172 : decode cX1_whole 172 = .ok (.invokevirtual 197, 3) := dk_182 0 197 (dk_at dksX1_whole_7 12 rfl rfl)
theorem dX1_whole_175 : decode cX1_whole 175 = .ok (.ixor, 1) := dk_130 (dk_at dksX1_whole_7 15 rfl rfl)
theorem dX1_whole_176 : decode cX1_whole 176 = .ok (.istore 7, 2) := dk_54 7 (dk_at dksX1_whole_7 16 rfl rfl)
theorem dX1_whole_178 : decode cX1_whole 178 = .ok (.lload 8, 2) := dk_22 8 (dk_at dksX1_whole_7 18 rfl rfl)
theorem dX1_whole_180 : decode cX1_whole 180 = .ok (.lload 8, 2) := dk_22 8 (dk_at dksX1_whole_7 20 rfl rfl)
theorem dX1_whole_182 : decode cX1_whole 182 = .ok (.lconst 1, 1) := dk_10 (dk_at dksX1_whole_7 22 rfl rfl)
theorem dX1_whole_183 : decode cX1_whole 183 = .ok (.lsub, 1) := dk_101 (dk_at dksX1_whole_7 23 rfl rfl)
theorem dX1_whole_184 : decode cX1_whole 184 = .ok (.land, 1) := dk_127 (dk_at dksX1_whole_8 0 rfl rfl)
theorem dX1_whole_185 : decode cX1_whole 185 = .ok (.lstore 8, 2) := dk_55 8 (dk_at dksX1_whole_8 1 rfl rfl)
theorem dX1_whole_187 : decode cX1_whole 187 = .ok (.goto (-115), 3) := dk_167 255 141 (dk_at dksX1_whole_8 3 rfl rfl)
theorem dX1_whole_190 : decode cX1_whole 190 = .ok (.iload 7, 2) := dk_21 7 (dk_at dksX1_whole_8 6 rfl rfl)
theorem dX1_whole_192 : decode cX1_whole 192 = .ok (.aload_n 2, 1) := dk_44 (dk_at dksX1_whole_8 8 rfl rfl)
theorem dX1_whole_193 : decode cX1_whole 193 = .ok (.bipush 20, 2) := dk_16 20 (dk_at dksX1_whole_8 9 rfl rfl)
theorem dX1_whole_195 : decode cX1_whole 195 = .ok (.invokevirtual 197, 3) := dk_182 0 197 (dk_at dksX1_whole_8 11 rfl rfl)
theorem dX1_whole_198 : decode cX1_whole 198 = .ok (.if_icmp .ne 20, 3) := dk_160 0 20 (dk_at dksX1_whole_8 14 rfl rfl)
theorem dX1_whole_201 : decode cX1_whole 201 = .ok (.new 54, 3) := dk_187 0 54 (dk_at dksX1_whole_8 17 rfl rfl)
theorem dX1_whole_204 : decode cX1_whole 204 = .ok (.dup, 1) := dk_89 (dk_at dksX1_whole_8 20 rfl rfl)
theorem dX1_whole_205 : decode cX1_whole 205 = .ok (.aload_n 2, 1) := dk_44 (dk_at dksX1_whole_8 21 rfl rfl)
theorem dX1_whole_206 : decode cX1_whole 206 = .ok (.bipush 16, 2) := dk_16 16 (dk_at dksX1_whole_8 22 rfl rfl)
theorem dX1_whole_208 : decode cX1_whole 208 = .ok (.invokevirtual 197, 3) := dk_182 0 197 (dk_at dksX1_whole_9 0 rfl rfl)
theorem dX1_whole_211 : decode cX1_whole 211 = .ok (.lload_n 3, 1) := dk_33 (dk_at dksX1_whole_9 3 rfl rfl)
theorem dX1_whole_212 : decode cX1_whole 212 = .ok (.invokespecial 56, 3) := dk_183 0 56 (dk_at dksX1_whole_9 4 rfl rfl)
theorem dX1_whole_215 : decode cX1_whole 215 = .ok (.goto 4, 3) := dk_167 0 4 (dk_at dksX1_whole_9 7 rfl rfl)
theorem dX1_whole_218 : decode cX1_whole 218 = .ok (.aconst_null, 1) := dk_1 (dk_at dksX1_whole_9 10 rfl rfl)
theorem dX1_whole_219 : decode cX1_whole 219 = .ok (.areturn, 1) := dk_176 (dk_at dksX1_whole_9 11 rfl rfl)
abbrev cX1_poke : ByteArray := prog_1_method_25_code
def yX1_poke : MethodName := ⟨RX1, "poke", "(III)I"⟩
def dkwX1_poke_4 : List UInt8 := [42, 180, 0, 50, 16, 32, 21, 4, 104, 28, 96, 51, 17, 0, 255, 126, 172]
abbrev dktX1_poke_4 : List UInt8 := dkwX1_poke_4 ++ []
def dkwX1_poke_3 : List UInt8 := [153, 0, 6, 16, 253, 172, 42, 180, 0, 50, 16, 32, 21, 4, 104, 28, 96, 92, 51, 29, 145, 130, 145, 84]
abbrev dktX1_poke_3 : List UInt8 := dkwX1_poke_3 ++ dktX1_poke_4
def dkwX1_poke_2 : List UInt8 := [180, 0, 13, 27, 46, 54, 4, 42, 180, 0, 19, 21, 4, 50, 199, 0, 12, 42, 21, 4, 182, 0, 240]
abbrev dktX1_poke_2 : List UInt8 := dkwX1_poke_2 ++ dktX1_poke_3
def dkwX1_poke_1 : List UInt8 := [28, 16, 32, 162, 0, 15, 29, 4, 161, 0, 10, 29, 17, 0, 255, 164, 0, 6, 16, 254, 172, 42]
abbrev dktX1_poke_1 : List UInt8 := dkwX1_poke_1 ++ dktX1_poke_2
def dkwX1_poke_0 : List UInt8 := [42, 180, 0, 7, 154, 0, 6, 16, 253, 172, 42, 27, 182, 0, 143, 154, 0, 5, 2, 172, 28, 155, 0, 21]
abbrev dktX1_poke_0 : List UInt8 := dkwX1_poke_0 ++ dktX1_poke_1
theorem dksX1_poke_0 : cX1_poke.data.toList.drop 0 = dktX1_poke_0 := by decide +kernel
theorem dksX1_poke_1 : cX1_poke.data.toList.drop 24 = dktX1_poke_1 := dk_seg dksX1_poke_0 24 rfl rfl
theorem dksX1_poke_2 : cX1_poke.data.toList.drop 46 = dktX1_poke_2 := dk_seg dksX1_poke_1 22 rfl rfl
theorem dksX1_poke_3 : cX1_poke.data.toList.drop 69 = dktX1_poke_3 := dk_seg dksX1_poke_2 23 rfl rfl
theorem dksX1_poke_4 : cX1_poke.data.toList.drop 93 = dktX1_poke_4 := dk_seg dksX1_poke_3 24 rfl rfl
theorem dX1_poke_0 : decode cX1_poke 0 = .ok (.aload_n 0, 1) := dk_42 (dk_at dksX1_poke_0 0 rfl rfl)
theorem dX1_poke_1 : decode cX1_poke 1 = .ok (.getfield 7, 3) := dk_180 0 7 (dk_at dksX1_poke_0 1 rfl rfl)
theorem dX1_poke_4 : decode cX1_poke 4 = .ok (.ifCond .ne 6, 3) := dk_154 0 6 (dk_at dksX1_poke_0 4 rfl rfl)
theorem dX1_poke_7 : decode cX1_poke 7 = .ok (.bipush (-3), 2) := dk_16 253 (dk_at dksX1_poke_0 7 rfl rfl)
theorem dX1_poke_9 : decode cX1_poke 9 = .ok (.ireturn, 1) := dk_172 (dk_at dksX1_poke_0 9 rfl rfl)
theorem dX1_poke_10 : decode cX1_poke 10 = .ok (.aload_n 0, 1) := dk_42 (dk_at dksX1_poke_0 10 rfl rfl)
theorem dX1_poke_11 : decode cX1_poke 11 = .ok (.iload_n 1, 1) := dk_27 (dk_at dksX1_poke_0 11 rfl rfl)
theorem dX1_poke_12 : decode cX1_poke 12 = .ok (.invokevirtual 143, 3) := dk_182 0 143 (dk_at dksX1_poke_0 12 rfl rfl)
theorem dX1_poke_15 : decode cX1_poke 15 = .ok (.ifCond .ne 5, 3) := dk_154 0 5 (dk_at dksX1_poke_0 15 rfl rfl)
theorem dX1_poke_18 : decode cX1_poke 18 = .ok (.iconst (-1), 1) := dk_2 (dk_at dksX1_poke_0 18 rfl rfl)
theorem dX1_poke_19 : decode cX1_poke 19 = .ok (.ireturn, 1) := dk_172 (dk_at dksX1_poke_0 19 rfl rfl)
theorem dX1_poke_20 : decode cX1_poke 20 = .ok (.iload_n 2, 1) := dk_28 (dk_at dksX1_poke_0 20 rfl rfl)
theorem dX1_poke_21 : decode cX1_poke 21 = .ok (.ifCond .lt 21, 3) := dk_155 0 21 (dk_at dksX1_poke_0 21 rfl rfl)
theorem dX1_poke_24 : decode cX1_poke 24 = .ok (.iload_n 2, 1) := dk_28 (dk_at dksX1_poke_1 0 rfl rfl)
theorem dX1_poke_25 : decode cX1_poke 25 = .ok (.bipush 32, 2) := dk_16 32 (dk_at dksX1_poke_1 1 rfl rfl)
theorem dX1_poke_27 : decode cX1_poke 27 = .ok (.if_icmp .ge 15, 3) := dk_162 0 15 (dk_at dksX1_poke_1 3 rfl rfl)
theorem dX1_poke_30 : decode cX1_poke 30 = .ok (.iload_n 3, 1) := dk_29 (dk_at dksX1_poke_1 6 rfl rfl)
theorem dX1_poke_31 : decode cX1_poke 31 = .ok (.iconst 1, 1) := dk_4 (dk_at dksX1_poke_1 7 rfl rfl)
theorem dX1_poke_32 : decode cX1_poke 32 = .ok (.if_icmp .lt 10, 3) := dk_161 0 10 (dk_at dksX1_poke_1 8 rfl rfl)
theorem dX1_poke_35 : decode cX1_poke 35 = .ok (.iload_n 3, 1) := dk_29 (dk_at dksX1_poke_1 11 rfl rfl)
theorem dX1_poke_36 : decode cX1_poke 36 = .ok (.sipush 255, 3) := dk_17 0 255 (dk_at dksX1_poke_1 12 rfl rfl)
theorem dX1_poke_39 : decode cX1_poke 39 = .ok (.if_icmp .le 6, 3) := dk_164 0 6 (dk_at dksX1_poke_1 15 rfl rfl)
theorem dX1_poke_42 : decode cX1_poke 42 = .ok (.bipush (-2), 2) := dk_16 254 (dk_at dksX1_poke_1 18 rfl rfl)
theorem dX1_poke_44 : decode cX1_poke 44 = .ok (.ireturn, 1) := dk_172 (dk_at dksX1_poke_1 20 rfl rfl)
theorem dX1_poke_45 : decode cX1_poke 45 = .ok (.aload_n 0, 1) := dk_42 (dk_at dksX1_poke_1 21 rfl rfl)
theorem dX1_poke_46 : decode cX1_poke 46 = .ok (.getfield 13, 3) := dk_180 0 13 (dk_at dksX1_poke_2 0 rfl rfl)
theorem dX1_poke_49 : decode cX1_poke 49 = .ok (.iload_n 1, 1) := dk_27 (dk_at dksX1_poke_2 3 rfl rfl)
theorem dX1_poke_50 : decode cX1_poke 50 = .ok (.iaload, 1) := dk_46 (dk_at dksX1_poke_2 4 rfl rfl)
theorem dX1_poke_51 : decode cX1_poke 51 = .ok (.istore 4, 2) := dk_54 4 (dk_at dksX1_poke_2 5 rfl rfl)
theorem dX1_poke_53 : decode cX1_poke 53 = .ok (.aload_n 0, 1) := dk_42 (dk_at dksX1_poke_2 7 rfl rfl)
theorem dX1_poke_54 : decode cX1_poke 54 = .ok (.getfield 19, 3) := dk_180 0 19 (dk_at dksX1_poke_2 8 rfl rfl)
theorem dX1_poke_57 : decode cX1_poke 57 = .ok (.iload 4, 2) := dk_21 4 (dk_at dksX1_poke_2 11 rfl rfl)
theorem dX1_poke_59 : decode cX1_poke 59 = .ok (.aaload, 1) := dk_50 (dk_at dksX1_poke_2 13 rfl rfl)
theorem dX1_poke_60 : decode cX1_poke 60 = .ok (.ifnonnull 12, 3) := dk_199 0 12 (dk_at dksX1_poke_2 14 rfl rfl)
theorem dX1_poke_63 : decode cX1_poke 63 = .ok (.aload_n 0, 1) := dk_42 (dk_at dksX1_poke_2 17 rfl rfl)
theorem dX1_poke_64 : decode cX1_poke 64 = .ok (.iload 4, 2) := dk_21 4 (dk_at dksX1_poke_2 18 rfl rfl)
theorem dX1_poke_66 : decode cX1_poke 66 = .ok (.invokevirtual 240, 3) := dk_182 0 240 (dk_at dksX1_poke_2 20 rfl rfl)
theorem dX1_poke_69 : decode cX1_poke 69 = .ok (.ifCond .eq 6, 3) := dk_153 0 6 (dk_at dksX1_poke_3 0 rfl rfl)
theorem dX1_poke_72 : decode cX1_poke 72 = .ok (.bipush (-3), 2) := dk_16 253 (dk_at dksX1_poke_3 3 rfl rfl)
theorem dX1_poke_74 : decode cX1_poke 74 = .ok (.ireturn, 1) := dk_172 (dk_at dksX1_poke_3 5 rfl rfl)
theorem dX1_poke_75 : decode cX1_poke 75 = .ok (.aload_n 0, 1) := dk_42 (dk_at dksX1_poke_3 6 rfl rfl)
theorem dX1_poke_76 : decode cX1_poke 76 = .ok (.getfield 50, 3) := dk_180 0 50 (dk_at dksX1_poke_3 7 rfl rfl)
theorem dX1_poke_79 : decode cX1_poke 79 = .ok (.bipush 32, 2) := dk_16 32 (dk_at dksX1_poke_3 10 rfl rfl)
theorem dX1_poke_81 : decode cX1_poke 81 = .ok (.iload 4, 2) := dk_21 4 (dk_at dksX1_poke_3 12 rfl rfl)
theorem dX1_poke_83 : decode cX1_poke 83 = .ok (.imul, 1) := dk_104 (dk_at dksX1_poke_3 14 rfl rfl)
theorem dX1_poke_84 : decode cX1_poke 84 = .ok (.iload_n 2, 1) := dk_28 (dk_at dksX1_poke_3 15 rfl rfl)
theorem dX1_poke_85 : decode cX1_poke 85 = .ok (.iadd, 1) := dk_96 (dk_at dksX1_poke_3 16 rfl rfl)
theorem dX1_poke_86 : decode cX1_poke 86 = .ok (.dup2, 1) := dk_92 (dk_at dksX1_poke_3 17 rfl rfl)
theorem dX1_poke_87 : decode cX1_poke 87 = .ok (.baload, 1) := dk_51 (dk_at dksX1_poke_3 18 rfl rfl)
theorem dX1_poke_88 : decode cX1_poke 88 = .ok (.iload_n 3, 1) := dk_29 (dk_at dksX1_poke_3 19 rfl rfl)
theorem dX1_poke_89 : decode cX1_poke 89 = .ok (.i2b, 1) := dk_145 (dk_at dksX1_poke_3 20 rfl rfl)
theorem dX1_poke_90 : decode cX1_poke 90 = .ok (.ixor, 1) := dk_130 (dk_at dksX1_poke_3 21 rfl rfl)
theorem dX1_poke_91 : decode cX1_poke 91 = .ok (.i2b, 1) := dk_145 (dk_at dksX1_poke_3 22 rfl rfl)
theorem dX1_poke_92 : decode cX1_poke 92 = .ok (.bastore, 1) := dk_84 (dk_at dksX1_poke_3 23 rfl rfl)
theorem dX1_poke_93 : decode cX1_poke 93 = .ok (.aload_n 0, 1) := dk_42 (dk_at dksX1_poke_4 0 rfl rfl)
theorem dX1_poke_94 : decode cX1_poke 94 = .ok (.getfield 50, 3) := dk_180 0 50 (dk_at dksX1_poke_4 1 rfl rfl)
theorem dX1_poke_97 : decode cX1_poke 97 = .ok (.bipush 32, 2) := dk_16 32 (dk_at dksX1_poke_4 4 rfl rfl)
theorem dX1_poke_99 : decode cX1_poke 99 = .ok (.iload 4, 2) := dk_21 4 (dk_at dksX1_poke_4 6 rfl rfl)
theorem dX1_poke_101 : decode cX1_poke 101 = .ok (.imul, 1) := dk_104 (dk_at dksX1_poke_4 8 rfl rfl)
theorem dX1_poke_102 : decode cX1_poke 102 = .ok (.iload_n 2, 1) := dk_28 (dk_at dksX1_poke_4 9 rfl rfl)
theorem dX1_poke_103 : decode cX1_poke 103 = .ok (.iadd, 1) := dk_96 (dk_at dksX1_poke_4 10 rfl rfl)
theorem dX1_poke_104 : decode cX1_poke 104 = .ok (.baload, 1) := dk_51 (dk_at dksX1_poke_4 11 rfl rfl)
theorem dX1_poke_105 : decode cX1_poke 105 = .ok (.sipush 255, 3) := dk_17 0 255 (dk_at dksX1_poke_4 12 rfl rfl)
theorem dX1_poke_108 : decode cX1_poke 108 = .ok (.iand, 1) := dk_126 (dk_at dksX1_poke_4 15 rfl rfl)
theorem dX1_poke_109 : decode cX1_poke 109 = .ok (.ireturn, 1) := dk_172 (dk_at dksX1_poke_4 16 rfl rfl)
abbrev cX1_isWaiting : ByteArray := prog_1_method_5_code
def yX1_isWaiting : MethodName := ⟨RX1, "isWaiting", "(I)Z"⟩
def dkwX1_isWaiting_1 : List UInt8 := [192, 0, 98, 78, 45, 182, 0, 100, 27, 160, 0, 5, 4, 172, 167, 255, 227, 3, 172]
abbrev dktX1_isWaiting_1 : List UInt8 := dkwX1_isWaiting_1 ++ []
def dkwX1_isWaiting_0 : List UInt8 := [42, 180, 0, 26, 182, 0, 84, 77, 44, 185, 0, 88, 1, 0, 153, 0, 26, 44, 185, 0, 94, 1, 0]
abbrev dktX1_isWaiting_0 : List UInt8 := dkwX1_isWaiting_0 ++ dktX1_isWaiting_1
theorem dksX1_isWaiting_0 : cX1_isWaiting.data.toList.drop 0 = dktX1_isWaiting_0 := by decide +kernel
theorem dksX1_isWaiting_1 : cX1_isWaiting.data.toList.drop 23 = dktX1_isWaiting_1 := dk_seg dksX1_isWaiting_0 23 rfl rfl
theorem dX1_isWaiting_0 : decode cX1_isWaiting 0 = .ok (.aload_n 0, 1) := dk_42 (dk_at dksX1_isWaiting_0 0 rfl rfl)
theorem dX1_isWaiting_1 : decode cX1_isWaiting 1 = .ok (.getfield 26, 3) := dk_180 0 26 (dk_at dksX1_isWaiting_0 1 rfl rfl)
theorem dX1_isWaiting_4 : decode cX1_isWaiting 4 = .ok (.invokevirtual 84, 3) := dk_182 0 84 (dk_at dksX1_isWaiting_0 4 rfl rfl)
theorem dX1_isWaiting_7 : decode cX1_isWaiting 7 = .ok (.astore_n 2, 1) := dk_77 (dk_at dksX1_isWaiting_0 7 rfl rfl)
theorem dX1_isWaiting_8 : decode cX1_isWaiting 8 = .ok (.aload_n 2, 1) := dk_44 (dk_at dksX1_isWaiting_0 8 rfl rfl)
theorem dX1_isWaiting_9 : decode cX1_isWaiting 9 = .ok (.invokeinterface 88 1, 5) := by decide +kernel
theorem dX1_isWaiting_14 : decode cX1_isWaiting 14 = .ok (.ifCond .eq 26, 3) := dk_153 0 26 (dk_at dksX1_isWaiting_0 14 rfl rfl)
theorem dX1_isWaiting_17 : decode cX1_isWaiting 17 = .ok (.aload_n 2, 1) := dk_44 (dk_at dksX1_isWaiting_0 17 rfl rfl)
theorem dX1_isWaiting_18 : decode cX1_isWaiting 18 = .ok (.invokeinterface 94 1, 5) := by decide +kernel
theorem dX1_isWaiting_23 : decode cX1_isWaiting 23 = .ok (.checkcast 98, 3) := dk_192 0 98 (dk_at dksX1_isWaiting_1 0 rfl rfl)
theorem dX1_isWaiting_26 : decode cX1_isWaiting 26 = .ok (.astore_n 3, 1) := dk_78 (dk_at dksX1_isWaiting_1 3 rfl rfl)
theorem dX1_isWaiting_27 : decode cX1_isWaiting 27 = .ok (.aload_n 3, 1) := dk_45 (dk_at dksX1_isWaiting_1 4 rfl rfl)
theorem dX1_isWaiting_28 : decode cX1_isWaiting 28 = .ok (.invokevirtual 100, 3) := dk_182 0 100 (dk_at dksX1_isWaiting_1 5 rfl rfl)
theorem dX1_isWaiting_31 : decode cX1_isWaiting 31 = .ok (.iload_n 1, 1) := dk_27 (dk_at dksX1_isWaiting_1 8 rfl rfl)
theorem dX1_isWaiting_32 : decode cX1_isWaiting 32 = .ok (.if_icmp .ne 5, 3) := dk_160 0 5 (dk_at dksX1_isWaiting_1 9 rfl rfl)
theorem dX1_isWaiting_35 : decode cX1_isWaiting 35 = .ok (.iconst 1, 1) := dk_4 (dk_at dksX1_isWaiting_1 12 rfl rfl)
theorem dX1_isWaiting_36 : decode cX1_isWaiting 36 = .ok (.ireturn, 1) := dk_172 (dk_at dksX1_isWaiting_1 13 rfl rfl)
theorem dX1_isWaiting_37 : decode cX1_isWaiting 37 = .ok (.goto (-29), 3) := dk_167 255 227 (dk_at dksX1_isWaiting_1 14 rfl rfl)
theorem dX1_isWaiting_40 : decode cX1_isWaiting 40 = .ok (.iconst 0, 1) := dk_3 (dk_at dksX1_isWaiting_1 17 rfl rfl)
theorem dX1_isWaiting_41 : decode cX1_isWaiting 41 = .ok (.ireturn, 1) := dk_172 (dk_at dksX1_isWaiting_1 18 rfl rfl)
abbrev cX1_wrong : ByteArray := prog_1_method_26_code
def yX1_wrong : MethodName := ⟨RX1, "wrong", "(I)I"⟩
def dkwX1_wrong_5 : List UInt8 := [167, 0, 9, 42, 180, 0, 13, 29, 46, 172]
abbrev dktX1_wrong_5 : List UInt8 := dkwX1_wrong_5 ++ []
def dkwX1_wrong_4 : List UInt8 := [27, 154, 0, 7, 28, 167, 0, 27, 29, 2, 160, 0, 7, 2, 167, 0, 18, 27, 4, 160, 0, 7, 29]
abbrev dktX1_wrong_4 : List UInt8 := dkwX1_wrong_4 ++ dktX1_wrong_5
def dkwX1_wrong_3 : List UInt8 := [182, 0, 141, 182, 0, 170, 153, 0, 6, 167, 0, 9, 132, 2, 1, 21, 4, 62, 132, 4, 255, 167, 255, 196]
abbrev dktX1_wrong_3 : List UInt8 := dkwX1_wrong_3 ++ dktX1_wrong_4
def dkwX1_wrong_2 : List UInt8 := [180, 0, 19, 42, 180, 0, 13, 21, 4, 46, 50, 199, 0, 29, 42, 42, 180, 0, 13, 21, 4, 46]
abbrev dktX1_wrong_2 : List UInt8 := dkwX1_wrong_2 ++ dktX1_wrong_3
def dkwX1_wrong_1 : List UInt8 := [2, 62, 16, 29, 54, 4, 21, 4, 155, 0, 61, 42, 180, 0, 13, 21, 4, 46, 2, 159, 0, 44, 42]
abbrev dktX1_wrong_1 : List UInt8 := dkwX1_wrong_1 ++ dktX1_wrong_2
def dkwX1_wrong_0 : List UInt8 := [42, 180, 0, 7, 154, 0, 6, 16, 253, 172, 27, 155, 0, 8, 27, 5, 164, 0, 6, 16, 254, 172, 3, 61]
abbrev dktX1_wrong_0 : List UInt8 := dkwX1_wrong_0 ++ dktX1_wrong_1
theorem dksX1_wrong_0 : cX1_wrong.data.toList.drop 0 = dktX1_wrong_0 := by decide +kernel
theorem dksX1_wrong_1 : cX1_wrong.data.toList.drop 24 = dktX1_wrong_1 := dk_seg dksX1_wrong_0 24 rfl rfl
theorem dksX1_wrong_2 : cX1_wrong.data.toList.drop 47 = dktX1_wrong_2 := dk_seg dksX1_wrong_1 23 rfl rfl
theorem dksX1_wrong_3 : cX1_wrong.data.toList.drop 69 = dktX1_wrong_3 := dk_seg dksX1_wrong_2 22 rfl rfl
theorem dksX1_wrong_4 : cX1_wrong.data.toList.drop 93 = dktX1_wrong_4 := dk_seg dksX1_wrong_3 24 rfl rfl
theorem dksX1_wrong_5 : cX1_wrong.data.toList.drop 116 = dktX1_wrong_5 := dk_seg dksX1_wrong_4 23 rfl rfl
theorem dX1_wrong_0 : decode cX1_wrong 0 = .ok (.aload_n 0, 1) := dk_42 (dk_at dksX1_wrong_0 0 rfl rfl)
theorem dX1_wrong_1 : decode cX1_wrong 1 = .ok (.getfield 7, 3) := dk_180 0 7 (dk_at dksX1_wrong_0 1 rfl rfl)
theorem dX1_wrong_4 : decode cX1_wrong 4 = .ok (.ifCond .ne 6, 3) := dk_154 0 6 (dk_at dksX1_wrong_0 4 rfl rfl)
theorem dX1_wrong_7 : decode cX1_wrong 7 = .ok (.bipush (-3), 2) := dk_16 253 (dk_at dksX1_wrong_0 7 rfl rfl)
theorem dX1_wrong_9 : decode cX1_wrong 9 = .ok (.ireturn, 1) := dk_172 (dk_at dksX1_wrong_0 9 rfl rfl)
theorem dX1_wrong_10 : decode cX1_wrong 10 = .ok (.iload_n 1, 1) := dk_27 (dk_at dksX1_wrong_0 10 rfl rfl)
theorem dX1_wrong_11 : decode cX1_wrong 11 = .ok (.ifCond .lt 8, 3) := dk_155 0 8 (dk_at dksX1_wrong_0 11 rfl rfl)
theorem dX1_wrong_14 : decode cX1_wrong 14 = .ok (.iload_n 1, 1) := dk_27 (dk_at dksX1_wrong_0 14 rfl rfl)
theorem dX1_wrong_15 : decode cX1_wrong 15 = .ok (.iconst 2, 1) := dk_5 (dk_at dksX1_wrong_0 15 rfl rfl)
theorem dX1_wrong_16 : decode cX1_wrong 16 = .ok (.if_icmp .le 6, 3) := dk_164 0 6 (dk_at dksX1_wrong_0 16 rfl rfl)
theorem dX1_wrong_19 : decode cX1_wrong 19 = .ok (.bipush (-2), 2) := dk_16 254 (dk_at dksX1_wrong_0 19 rfl rfl)
theorem dX1_wrong_21 : decode cX1_wrong 21 = .ok (.ireturn, 1) := dk_172 (dk_at dksX1_wrong_0 21 rfl rfl)
theorem dX1_wrong_22 : decode cX1_wrong 22 = .ok (.iconst 0, 1) := dk_3 (dk_at dksX1_wrong_0 22 rfl rfl)
theorem dX1_wrong_23 : decode cX1_wrong 23 = .ok (.istore_n 2, 1) := dk_61 (dk_at dksX1_wrong_0 23 rfl rfl)
theorem dX1_wrong_24 : decode cX1_wrong 24 = .ok (.iconst (-1), 1) := dk_2 (dk_at dksX1_wrong_1 0 rfl rfl)
theorem dX1_wrong_25 : decode cX1_wrong 25 = .ok (.istore_n 3, 1) := dk_62 (dk_at dksX1_wrong_1 1 rfl rfl)
theorem dX1_wrong_26 : decode cX1_wrong 26 = .ok (.bipush 29, 2) := dk_16 29 (dk_at dksX1_wrong_1 2 rfl rfl)
theorem dX1_wrong_28 : decode cX1_wrong 28 = .ok (.istore 4, 2) := dk_54 4 (dk_at dksX1_wrong_1 4 rfl rfl)
theorem dX1_wrong_30 : decode cX1_wrong 30 = .ok (.iload 4, 2) := dk_21 4 (dk_at dksX1_wrong_1 6 rfl rfl)
theorem dX1_wrong_32 : decode cX1_wrong 32 = .ok (.ifCond .lt 61, 3) := dk_155 0 61 (dk_at dksX1_wrong_1 8 rfl rfl)
theorem dX1_wrong_35 : decode cX1_wrong 35 = .ok (.aload_n 0, 1) := dk_42 (dk_at dksX1_wrong_1 11 rfl rfl)
theorem dX1_wrong_36 : decode cX1_wrong 36 = .ok (.getfield 13, 3) := dk_180 0 13 (dk_at dksX1_wrong_1 12 rfl rfl)
theorem dX1_wrong_39 : decode cX1_wrong 39 = .ok (.iload 4, 2) := dk_21 4 (dk_at dksX1_wrong_1 15 rfl rfl)
theorem dX1_wrong_41 : decode cX1_wrong 41 = .ok (.iaload, 1) := dk_46 (dk_at dksX1_wrong_1 17 rfl rfl)
theorem dX1_wrong_42 : decode cX1_wrong 42 = .ok (.iconst (-1), 1) := dk_2 (dk_at dksX1_wrong_1 18 rfl rfl)
theorem dX1_wrong_43 : decode cX1_wrong 43 = .ok (.if_icmp .eq 44, 3) := dk_159 0 44 (dk_at dksX1_wrong_1 19 rfl rfl)
theorem dX1_wrong_46 : decode cX1_wrong 46 = .ok (.aload_n 0, 1) := dk_42 (dk_at dksX1_wrong_1 22 rfl rfl)
theorem dX1_wrong_47 : decode cX1_wrong 47 = .ok (.getfield 19, 3) := dk_180 0 19 (dk_at dksX1_wrong_2 0 rfl rfl)
theorem dX1_wrong_50 : decode cX1_wrong 50 = .ok (.aload_n 0, 1) := dk_42 (dk_at dksX1_wrong_2 3 rfl rfl)
theorem dX1_wrong_51 : decode cX1_wrong 51 = .ok (.getfield 13, 3) := dk_180 0 13 (dk_at dksX1_wrong_2 4 rfl rfl)
theorem dX1_wrong_54 : decode cX1_wrong 54 = .ok (.iload 4, 2) := dk_21 4 (dk_at dksX1_wrong_2 7 rfl rfl)
theorem dX1_wrong_56 : decode cX1_wrong 56 = .ok (.iaload, 1) := dk_46 (dk_at dksX1_wrong_2 9 rfl rfl)
theorem dX1_wrong_57 : decode cX1_wrong 57 = .ok (.aaload, 1) := dk_50 (dk_at dksX1_wrong_2 10 rfl rfl)
theorem dX1_wrong_58 : decode cX1_wrong 58 = .ok (.ifnonnull 29, 3) := dk_199 0 29 (dk_at dksX1_wrong_2 11 rfl rfl)
theorem dX1_wrong_61 : decode cX1_wrong 61 = .ok (.aload_n 0, 1) := dk_42 (dk_at dksX1_wrong_2 14 rfl rfl)
theorem dX1_wrong_62 : decode cX1_wrong 62 = .ok (.aload_n 0, 1) := dk_42 (dk_at dksX1_wrong_2 15 rfl rfl)
theorem dX1_wrong_63 : decode cX1_wrong 63 = .ok (.getfield 13, 3) := dk_180 0 13 (dk_at dksX1_wrong_2 16 rfl rfl)
theorem dX1_wrong_66 : decode cX1_wrong 66 = .ok (.iload 4, 2) := dk_21 4 (dk_at dksX1_wrong_2 19 rfl rfl)
theorem dX1_wrong_68 : decode cX1_wrong 68 = .ok (.iaload, 1) := dk_46 (dk_at dksX1_wrong_2 21 rfl rfl)
theorem dX1_wrong_69 : decode cX1_wrong 69 = .ok (.invokevirtual 141, 3) := dk_182 0 141 (dk_at dksX1_wrong_3 0 rfl rfl)
theorem dX1_wrong_72 : decode cX1_wrong 72 = .ok (.invokevirtual 170, 3) := dk_182 0 170 (dk_at dksX1_wrong_3 3 rfl rfl)
theorem dX1_wrong_75 : decode cX1_wrong 75 = .ok (.ifCond .eq 6, 3) := dk_153 0 6 (dk_at dksX1_wrong_3 6 rfl rfl)
theorem dX1_wrong_78 : decode cX1_wrong 78 = .ok (.goto 9, 3) := dk_167 0 9 (dk_at dksX1_wrong_3 9 rfl rfl)
theorem dX1_wrong_81 : decode cX1_wrong 81 = .ok (.iinc 2 1, 3) := dk_132 2 1 (dk_at dksX1_wrong_3 12 rfl rfl)
theorem dX1_wrong_84 : decode cX1_wrong 84 = .ok (.iload 4, 2) := dk_21 4 (dk_at dksX1_wrong_3 15 rfl rfl)
theorem dX1_wrong_86 : decode cX1_wrong 86 = .ok (.istore_n 3, 1) := dk_62 (dk_at dksX1_wrong_3 17 rfl rfl)
theorem dX1_wrong_87 : decode cX1_wrong 87 = .ok (.iinc 4 (-1), 3) := dk_132 4 255 (dk_at dksX1_wrong_3 18 rfl rfl)
theorem dX1_wrong_90 : decode cX1_wrong 90 = .ok (.goto (-60), 3) := dk_167 255 196 (dk_at dksX1_wrong_3 21 rfl rfl)
theorem dX1_wrong_93 : decode cX1_wrong 93 = .ok (.iload_n 1, 1) := dk_27 (dk_at dksX1_wrong_4 0 rfl rfl)
theorem dX1_wrong_94 : decode cX1_wrong 94 = .ok (.ifCond .ne 7, 3) := dk_154 0 7 (dk_at dksX1_wrong_4 1 rfl rfl)
theorem dX1_wrong_97 : decode cX1_wrong 97 = .ok (.iload_n 2, 1) := dk_28 (dk_at dksX1_wrong_4 4 rfl rfl)
theorem dX1_wrong_98 : decode cX1_wrong 98 = .ok (.goto 27, 3) := dk_167 0 27 (dk_at dksX1_wrong_4 5 rfl rfl)
theorem dX1_wrong_101 : decode cX1_wrong 101 = .ok (.iload_n 3, 1) := dk_29 (dk_at dksX1_wrong_4 8 rfl rfl)
theorem dX1_wrong_102 : decode cX1_wrong 102 = .ok (.iconst (-1), 1) := dk_2 (dk_at dksX1_wrong_4 9 rfl rfl)
theorem dX1_wrong_103 : decode cX1_wrong 103 = .ok (.if_icmp .ne 7, 3) := dk_160 0 7 (dk_at dksX1_wrong_4 10 rfl rfl)
theorem dX1_wrong_106 : decode cX1_wrong 106 = .ok (.iconst (-1), 1) := dk_2 (dk_at dksX1_wrong_4 13 rfl rfl)
theorem dX1_wrong_107 : decode cX1_wrong 107 = .ok (.goto 18, 3) := dk_167 0 18 (dk_at dksX1_wrong_4 14 rfl rfl)
theorem dX1_wrong_110 : decode cX1_wrong 110 = .ok (.iload_n 1, 1) := dk_27 (dk_at dksX1_wrong_4 17 rfl rfl)
theorem dX1_wrong_111 : decode cX1_wrong 111 = .ok (.iconst 1, 1) := dk_4 (dk_at dksX1_wrong_4 18 rfl rfl)
theorem dX1_wrong_112 : decode cX1_wrong 112 = .ok (.if_icmp .ne 7, 3) := dk_160 0 7 (dk_at dksX1_wrong_4 19 rfl rfl)
theorem dX1_wrong_115 : decode cX1_wrong 115 = .ok (.iload_n 3, 1) := dk_29 (dk_at dksX1_wrong_4 22 rfl rfl)
theorem dX1_wrong_116 : decode cX1_wrong 116 = .ok (.goto 9, 3) := dk_167 0 9 (dk_at dksX1_wrong_5 0 rfl rfl)
theorem dX1_wrong_119 : decode cX1_wrong 119 = .ok (.aload_n 0, 1) := dk_42 (dk_at dksX1_wrong_5 3 rfl rfl)
theorem dX1_wrong_120 : decode cX1_wrong 120 = .ok (.getfield 13, 3) := dk_180 0 13 (dk_at dksX1_wrong_5 4 rfl rfl)
theorem dX1_wrong_123 : decode cX1_wrong 123 = .ok (.iload_n 3, 1) := dk_29 (dk_at dksX1_wrong_5 7 rfl rfl)
theorem dX1_wrong_124 : decode cX1_wrong 124 = .ok (.iaload, 1) := dk_46 (dk_at dksX1_wrong_5 8 rfl rfl)
theorem dX1_wrong_125 : decode cX1_wrong 125 = .ok (.ireturn, 1) := dk_172 (dk_at dksX1_wrong_5 9 rfl rfl)
abbrev cX1_backup : ByteArray := prog_1_method_27_code
def yX1_backup : MethodName := ⟨RX1, "backup", "(I)I"⟩
def dkwX1_backup_2 : List UInt8 := [87, 42, 182, 0, 176, 182, 0, 116, 184, 0, 245, 172]
abbrev dktX1_backup_2 : List UInt8 := dkwX1_backup_2 ++ []
def dkwX1_backup_1 : List UInt8 := [180, 0, 36, 182, 0, 243, 7, 160, 0, 6, 16, 252, 172, 42, 180, 0, 36, 42, 182, 0, 176, 182, 0, 244]
abbrev dktX1_backup_1 : List UInt8 := dkwX1_backup_1 ++ dktX1_backup_2
def dkwX1_backup_0 : List UInt8 := [42, 180, 0, 7, 154, 0, 6, 16, 253, 172, 42, 182, 0, 176, 182, 0, 180, 27, 159, 0, 5, 2, 172, 42]
abbrev dktX1_backup_0 : List UInt8 := dkwX1_backup_0 ++ dktX1_backup_1
theorem dksX1_backup_0 : cX1_backup.data.toList.drop 0 = dktX1_backup_0 := by decide +kernel
theorem dksX1_backup_1 : cX1_backup.data.toList.drop 24 = dktX1_backup_1 := dk_seg dksX1_backup_0 24 rfl rfl
theorem dksX1_backup_2 : cX1_backup.data.toList.drop 48 = dktX1_backup_2 := dk_seg dksX1_backup_1 24 rfl rfl
theorem dX1_backup_0 : decode cX1_backup 0 = .ok (.aload_n 0, 1) := dk_42 (dk_at dksX1_backup_0 0 rfl rfl)
theorem dX1_backup_1 : decode cX1_backup 1 = .ok (.getfield 7, 3) := dk_180 0 7 (dk_at dksX1_backup_0 1 rfl rfl)
theorem dX1_backup_4 : decode cX1_backup 4 = .ok (.ifCond .ne 6, 3) := dk_154 0 6 (dk_at dksX1_backup_0 4 rfl rfl)
theorem dX1_backup_7 : decode cX1_backup 7 = .ok (.bipush (-3), 2) := dk_16 253 (dk_at dksX1_backup_0 7 rfl rfl)
theorem dX1_backup_9 : decode cX1_backup 9 = .ok (.ireturn, 1) := dk_172 (dk_at dksX1_backup_0 9 rfl rfl)
theorem dX1_backup_10 : decode cX1_backup 10 = .ok (.aload_n 0, 1) := dk_42 (dk_at dksX1_backup_0 10 rfl rfl)
theorem dX1_backup_11 : decode cX1_backup 11 = .ok (.invokevirtual 176, 3) := dk_182 0 176 (dk_at dksX1_backup_0 11 rfl rfl)
theorem dX1_backup_14 : decode cX1_backup 14 = .ok (.invokevirtual 180, 3) := dk_182 0 180 (dk_at dksX1_backup_0 14 rfl rfl)
theorem dX1_backup_17 : decode cX1_backup 17 = .ok (.iload_n 1, 1) := dk_27 (dk_at dksX1_backup_0 17 rfl rfl)
theorem dX1_backup_18 : decode cX1_backup 18 = .ok (.if_icmp .eq 5, 3) := dk_159 0 5 (dk_at dksX1_backup_0 18 rfl rfl)
theorem dX1_backup_21 : decode cX1_backup 21 = .ok (.iconst (-1), 1) := dk_2 (dk_at dksX1_backup_0 21 rfl rfl)
theorem dX1_backup_22 : decode cX1_backup 22 = .ok (.ireturn, 1) := dk_172 (dk_at dksX1_backup_0 22 rfl rfl)
theorem dX1_backup_23 : decode cX1_backup 23 = .ok (.aload_n 0, 1) := dk_42 (dk_at dksX1_backup_0 23 rfl rfl)
theorem dX1_backup_24 : decode cX1_backup 24 = .ok (.getfield 36, 3) := dk_180 0 36 (dk_at dksX1_backup_1 0 rfl rfl)
theorem dX1_backup_27 : decode cX1_backup 27 = .ok (.invokevirtual 243, 3) := dk_182 0 243 (dk_at dksX1_backup_1 3 rfl rfl)
theorem dX1_backup_30 : decode cX1_backup 30 = .ok (.iconst 4, 1) := dk_7 (dk_at dksX1_backup_1 6 rfl rfl)
theorem dX1_backup_31 : decode cX1_backup 31 = .ok (.if_icmp .ne 6, 3) := dk_160 0 6 (dk_at dksX1_backup_1 7 rfl rfl)
theorem dX1_backup_34 : decode cX1_backup 34 = .ok (.bipush (-4), 2) := dk_16 252 (dk_at dksX1_backup_1 10 rfl rfl)
theorem dX1_backup_36 : decode cX1_backup 36 = .ok (.ireturn, 1) := dk_172 (dk_at dksX1_backup_1 12 rfl rfl)
theorem dX1_backup_37 : decode cX1_backup 37 = .ok (.aload_n 0, 1) := dk_42 (dk_at dksX1_backup_1 13 rfl rfl)
theorem dX1_backup_38 : decode cX1_backup 38 = .ok (.getfield 36, 3) := dk_180 0 36 (dk_at dksX1_backup_1 14 rfl rfl)
theorem dX1_backup_41 : decode cX1_backup 41 = .ok (.aload_n 0, 1) := dk_42 (dk_at dksX1_backup_1 17 rfl rfl)
theorem dX1_backup_42 : decode cX1_backup 42 = .ok (.invokevirtual 176, 3) := dk_182 0 176 (dk_at dksX1_backup_1 18 rfl rfl)
theorem dX1_backup_45 : decode cX1_backup 45 = .ok (.invokevirtual 244, 3) := dk_182 0 244 (dk_at dksX1_backup_1 21 rfl rfl)
theorem dX1_backup_48 : decode cX1_backup 48 = .ok (.pop, 1) := dk_87 (dk_at dksX1_backup_2 0 rfl rfl)
theorem dX1_backup_49 : decode cX1_backup 49 = .ok (.aload_n 0, 1) := dk_42 (dk_at dksX1_backup_2 1 rfl rfl)
theorem dX1_backup_50 : decode cX1_backup 50 = .ok (.invokevirtual 176, 3) := dk_182 0 176 (dk_at dksX1_backup_2 2 rfl rfl)
theorem dX1_backup_53 : decode cX1_backup 53 = .ok (.invokevirtual 116, 3) := dk_182 0 116 (dk_at dksX1_backup_2 5 rfl rfl)
theorem dX1_backup_56 : decode cX1_backup 56 = .ok (.invokestatic 245, 3) := dk_184 0 245 (dk_at dksX1_backup_2 8 rfl rfl)
theorem dX1_backup_59 : decode cX1_backup 59 = .ok (.ireturn, 1) := dk_172 (dk_at dksX1_backup_2 11 rfl rfl)
abbrev cX1_drop : ByteArray := prog_1_method_28_code
def yX1_drop : MethodName := ⟨RX1, "drop", "(I)I"⟩
def dkwX1_drop_3 : List UInt8 := [182, 0, 252, 87, 33, 42, 182, 0, 120, 20, 0, 255, 131, 127, 184, 0, 245, 172]
abbrev dktX1_drop_3 : List UInt8 := dkwX1_drop_3 ++ []
def dkwX1_drop_2 : List UInt8 := [42, 180, 0, 36, 182, 0, 243, 160, 0, 5, 2, 172, 42, 182, 0, 120, 66, 42, 180, 0, 36, 28]
abbrev dktX1_drop_2 : List UInt8 := dkwX1_drop_2 ++ dktX1_drop_3
def dkwX1_drop_1 : List UInt8 := [180, 0, 36, 28, 182, 0, 248, 192, 0, 54, 182, 0, 180, 27, 159, 0, 9, 132, 2, 1, 167, 255, 224, 28]
abbrev dktX1_drop_1 : List UInt8 := dkwX1_drop_1 ++ dktX1_drop_2
def dkwX1_drop_0 : List UInt8 := [42, 180, 0, 7, 154, 0, 6, 16, 253, 172, 3, 61, 28, 42, 180, 0, 36, 182, 0, 243, 162, 0, 27, 42]
abbrev dktX1_drop_0 : List UInt8 := dkwX1_drop_0 ++ dktX1_drop_1
theorem dksX1_drop_0 : cX1_drop.data.toList.drop 0 = dktX1_drop_0 := by decide +kernel
theorem dksX1_drop_1 : cX1_drop.data.toList.drop 24 = dktX1_drop_1 := dk_seg dksX1_drop_0 24 rfl rfl
theorem dksX1_drop_2 : cX1_drop.data.toList.drop 48 = dktX1_drop_2 := dk_seg dksX1_drop_1 24 rfl rfl
theorem dksX1_drop_3 : cX1_drop.data.toList.drop 70 = dktX1_drop_3 := dk_seg dksX1_drop_2 22 rfl rfl
theorem dX1_drop_0 : decode cX1_drop 0 = .ok (.aload_n 0, 1) := dk_42 (dk_at dksX1_drop_0 0 rfl rfl)
theorem dX1_drop_1 : decode cX1_drop 1 = .ok (.getfield 7, 3) := dk_180 0 7 (dk_at dksX1_drop_0 1 rfl rfl)
theorem dX1_drop_4 : decode cX1_drop 4 = .ok (.ifCond .ne 6, 3) := dk_154 0 6 (dk_at dksX1_drop_0 4 rfl rfl)
theorem dX1_drop_7 : decode cX1_drop 7 = .ok (.bipush (-3), 2) := dk_16 253 (dk_at dksX1_drop_0 7 rfl rfl)
theorem dX1_drop_9 : decode cX1_drop 9 = .ok (.ireturn, 1) := dk_172 (dk_at dksX1_drop_0 9 rfl rfl)
theorem dX1_drop_10 : decode cX1_drop 10 = .ok (.iconst 0, 1) := dk_3 (dk_at dksX1_drop_0 10 rfl rfl)
theorem dX1_drop_11 : decode cX1_drop 11 = .ok (.istore_n 2, 1) := dk_61 (dk_at dksX1_drop_0 11 rfl rfl)
theorem dX1_drop_12 : decode cX1_drop 12 = .ok (.iload_n 2, 1) := dk_28 (dk_at dksX1_drop_0 12 rfl rfl)
theorem dX1_drop_13 : decode cX1_drop 13 = .ok (.aload_n 0, 1) := dk_42 (dk_at dksX1_drop_0 13 rfl rfl)
theorem dX1_drop_14 : decode cX1_drop 14 = .ok (.getfield 36, 3) := dk_180 0 36 (dk_at dksX1_drop_0 14 rfl rfl)
theorem dX1_drop_17 : decode cX1_drop 17 = .ok (.invokevirtual 243, 3) := dk_182 0 243 (dk_at dksX1_drop_0 17 rfl rfl)
theorem dX1_drop_20 : decode cX1_drop 20 = .ok (.if_icmp .ge 27, 3) := dk_162 0 27 (dk_at dksX1_drop_0 20 rfl rfl)
theorem dX1_drop_23 : decode cX1_drop 23 = .ok (.aload_n 0, 1) := dk_42 (dk_at dksX1_drop_0 23 rfl rfl)
theorem dX1_drop_24 : decode cX1_drop 24 = .ok (.getfield 36, 3) := dk_180 0 36 (dk_at dksX1_drop_1 0 rfl rfl)
theorem dX1_drop_27 : decode cX1_drop 27 = .ok (.iload_n 2, 1) := dk_28 (dk_at dksX1_drop_1 3 rfl rfl)
theorem dX1_drop_28 : decode cX1_drop 28 = .ok (.invokevirtual 248, 3) := dk_182 0 248 (dk_at dksX1_drop_1 4 rfl rfl)
theorem dX1_drop_31 : decode cX1_drop 31 = .ok (.checkcast 54, 3) := dk_192 0 54 (dk_at dksX1_drop_1 7 rfl rfl)
theorem dX1_drop_34 : decode cX1_drop 34 = .ok (.invokevirtual 180, 3) := dk_182 0 180 (dk_at dksX1_drop_1 10 rfl rfl)
theorem dX1_drop_37 : decode cX1_drop 37 = .ok (.iload_n 1, 1) := dk_27 (dk_at dksX1_drop_1 13 rfl rfl)
theorem dX1_drop_38 : decode cX1_drop 38 = .ok (.if_icmp .eq 9, 3) := dk_159 0 9 (dk_at dksX1_drop_1 14 rfl rfl)
theorem dX1_drop_41 : decode cX1_drop 41 = .ok (.iinc 2 1, 3) := dk_132 2 1 (dk_at dksX1_drop_1 17 rfl rfl)
theorem dX1_drop_44 : decode cX1_drop 44 = .ok (.goto (-32), 3) := dk_167 255 224 (dk_at dksX1_drop_1 20 rfl rfl)
theorem dX1_drop_47 : decode cX1_drop 47 = .ok (.iload_n 2, 1) := dk_28 (dk_at dksX1_drop_1 23 rfl rfl)
theorem dX1_drop_48 : decode cX1_drop 48 = .ok (.aload_n 0, 1) := dk_42 (dk_at dksX1_drop_2 0 rfl rfl)
theorem dX1_drop_49 : decode cX1_drop 49 = .ok (.getfield 36, 3) := dk_180 0 36 (dk_at dksX1_drop_2 1 rfl rfl)
theorem dX1_drop_52 : decode cX1_drop 52 = .ok (.invokevirtual 243, 3) := dk_182 0 243 (dk_at dksX1_drop_2 4 rfl rfl)
theorem dX1_drop_55 : decode cX1_drop 55 = .ok (.if_icmp .ne 5, 3) := dk_160 0 5 (dk_at dksX1_drop_2 7 rfl rfl)
theorem dX1_drop_58 : decode cX1_drop 58 = .ok (.iconst (-1), 1) := dk_2 (dk_at dksX1_drop_2 10 rfl rfl)
theorem dX1_drop_59 : decode cX1_drop 59 = .ok (.ireturn, 1) := dk_172 (dk_at dksX1_drop_2 11 rfl rfl)
theorem dX1_drop_60 : decode cX1_drop 60 = .ok (.aload_n 0, 1) := dk_42 (dk_at dksX1_drop_2 12 rfl rfl)
theorem dX1_drop_61 : decode cX1_drop 61 = .ok (.invokevirtual 120, 3) := dk_182 0 120 (dk_at dksX1_drop_2 13 rfl rfl)
theorem dX1_drop_64 : decode cX1_drop 64 = .ok (.lstore_n 3, 1) := dk_66 (dk_at dksX1_drop_2 16 rfl rfl)
theorem dX1_drop_65 : decode cX1_drop 65 = .ok (.aload_n 0, 1) := dk_42 (dk_at dksX1_drop_2 17 rfl rfl)
theorem dX1_drop_66 : decode cX1_drop 66 = .ok (.getfield 36, 3) := dk_180 0 36 (dk_at dksX1_drop_2 18 rfl rfl)
theorem dX1_drop_69 : decode cX1_drop 69 = .ok (.iload_n 2, 1) := dk_28 (dk_at dksX1_drop_2 21 rfl rfl)
theorem dX1_drop_70 : decode cX1_drop 70 = .ok (.invokevirtual 252, 3) := dk_182 0 252 (dk_at dksX1_drop_3 0 rfl rfl)
theorem dX1_drop_73 : decode cX1_drop 73 = .ok (.pop, 1) := dk_87 (dk_at dksX1_drop_3 3 rfl rfl)
theorem dX1_drop_74 : decode cX1_drop 74 = .ok (.lload_n 3, 1) := dk_33 (dk_at dksX1_drop_3 4 rfl rfl)
theorem dX1_drop_75 : decode cX1_drop 75 = .ok (.aload_n 0, 1) := dk_42 (dk_at dksX1_drop_3 5 rfl rfl)
theorem dX1_drop_76 : decode cX1_drop 76 = .ok (.invokevirtual 120, 3) := dk_182 0 120 (dk_at dksX1_drop_3 6 rfl rfl)
theorem dX1_drop_79 : decode cX1_drop 79 = .ok (.ldc2_w 255, 3) := dk_20 0 255 (dk_at dksX1_drop_3 9 rfl rfl)
theorem dX1_drop_82 : decode cX1_drop 82 = .ok (.lxor, 1) := dk_131 (dk_at dksX1_drop_3 12 rfl rfl)
theorem dX1_drop_83 : decode cX1_drop 83 = .ok (.land, 1) := dk_127 (dk_at dksX1_drop_3 13 rfl rfl)
theorem dX1_drop_84 : decode cX1_drop 84 = .ok (.invokestatic 245, 3) := dk_184 0 245 (dk_at dksX1_drop_3 14 rfl rfl)
theorem dX1_drop_87 : decode cX1_drop 87 = .ok (.ireturn, 1) := dk_172 (dk_at dksX1_drop_3 17 rfl rfl)
abbrev cX1_full : ByteArray := prog_1_method_29_code
def yX1_full : MethodName := ⟨RX1, "full", "(Z)Z"⟩
def dkwX1_full_0 : List UInt8 := [42, 180, 0, 134, 61, 42, 27, 181, 0, 134, 28, 172]
abbrev dktX1_full_0 : List UInt8 := dkwX1_full_0 ++ []
theorem dksX1_full_0 : cX1_full.data.toList.drop 0 = dktX1_full_0 := by decide +kernel
theorem dX1_full_0 : decode cX1_full 0 = .ok (.aload_n 0, 1) := dk_42 (dk_at dksX1_full_0 0 rfl rfl)
theorem dX1_full_1 : decode cX1_full 1 = .ok (.getfield 134, 3) := dk_180 0 134 (dk_at dksX1_full_0 1 rfl rfl)
theorem dX1_full_4 : decode cX1_full 4 = .ok (.istore_n 2, 1) := dk_61 (dk_at dksX1_full_0 4 rfl rfl)
theorem dX1_full_5 : decode cX1_full 5 = .ok (.aload_n 0, 1) := dk_42 (dk_at dksX1_full_0 5 rfl rfl)
theorem dX1_full_6 : decode cX1_full 6 = .ok (.iload_n 1, 1) := dk_27 (dk_at dksX1_full_0 6 rfl rfl)
theorem dX1_full_7 : decode cX1_full 7 = .ok (.putfield 134, 3) := dk_181 0 134 (dk_at dksX1_full_0 7 rfl rfl)
theorem dX1_full_10 : decode cX1_full 10 = .ok (.iload_n 2, 1) := dk_28 (dk_at dksX1_full_0 10 rfl rfl)
theorem dX1_full_11 : decode cX1_full 11 = .ok (.ireturn, 1) := dk_172 (dk_at dksX1_full_0 11 rfl rfl)
abbrev cX1_at : ByteArray := prog_1_method_23_code
def yX1_at : MethodName := ⟨RX1, "at", "(II)B"⟩
def dkwX1_at_1 : List UInt8 := [182, 0, 141, 180, 0, 75, 28, 51, 172, 25, 4, 184, 0, 236, 180, 0, 75, 28, 51, 172]
abbrev dktX1_at_1 : List UInt8 := dkwX1_at_1 ++ []
def dkwX1_at_0 : List UInt8 := [42, 180, 0, 13, 27, 46, 62, 42, 180, 0, 19, 29, 50, 58, 4, 25, 4, 199, 0, 14, 42, 29]
abbrev dktX1_at_0 : List UInt8 := dkwX1_at_0 ++ dktX1_at_1
theorem dksX1_at_0 : cX1_at.data.toList.drop 0 = dktX1_at_0 := by decide +kernel
theorem dksX1_at_1 : cX1_at.data.toList.drop 22 = dktX1_at_1 := dk_seg dksX1_at_0 22 rfl rfl
theorem dX1_at_0 : decode cX1_at 0 = .ok (.aload_n 0, 1) := dk_42 (dk_at dksX1_at_0 0 rfl rfl)
theorem dX1_at_1 : decode cX1_at 1 = .ok (.getfield 13, 3) := dk_180 0 13 (dk_at dksX1_at_0 1 rfl rfl)
theorem dX1_at_4 : decode cX1_at 4 = .ok (.iload_n 1, 1) := dk_27 (dk_at dksX1_at_0 4 rfl rfl)
theorem dX1_at_5 : decode cX1_at 5 = .ok (.iaload, 1) := dk_46 (dk_at dksX1_at_0 5 rfl rfl)
theorem dX1_at_6 : decode cX1_at 6 = .ok (.istore_n 3, 1) := dk_62 (dk_at dksX1_at_0 6 rfl rfl)
theorem dX1_at_7 : decode cX1_at 7 = .ok (.aload_n 0, 1) := dk_42 (dk_at dksX1_at_0 7 rfl rfl)
theorem dX1_at_8 : decode cX1_at 8 = .ok (.getfield 19, 3) := dk_180 0 19 (dk_at dksX1_at_0 8 rfl rfl)
theorem dX1_at_11 : decode cX1_at 11 = .ok (.iload_n 3, 1) := dk_29 (dk_at dksX1_at_0 11 rfl rfl)
theorem dX1_at_12 : decode cX1_at 12 = .ok (.aaload, 1) := dk_50 (dk_at dksX1_at_0 12 rfl rfl)
theorem dX1_at_13 : decode cX1_at 13 = .ok (.astore 4, 2) := dk_58 4 (dk_at dksX1_at_0 13 rfl rfl)
theorem dX1_at_15 : decode cX1_at 15 = .ok (.aload 4, 2) := dk_25 4 (dk_at dksX1_at_0 15 rfl rfl)
theorem dX1_at_17 : decode cX1_at 17 = .ok (.ifnonnull 14, 3) := dk_199 0 14 (dk_at dksX1_at_0 17 rfl rfl)
theorem dX1_at_20 : decode cX1_at 20 = .ok (.aload_n 0, 1) := dk_42 (dk_at dksX1_at_0 20 rfl rfl)
theorem dX1_at_21 : decode cX1_at 21 = .ok (.iload_n 3, 1) := dk_29 (dk_at dksX1_at_0 21 rfl rfl)
theorem dX1_at_22 : decode cX1_at 22 = .ok (.invokevirtual 141, 3) := dk_182 0 141 (dk_at dksX1_at_1 0 rfl rfl)
theorem dX1_at_25 : decode cX1_at 25 = .ok (.getfield 75, 3) := dk_180 0 75 (dk_at dksX1_at_1 3 rfl rfl)
theorem dX1_at_28 : decode cX1_at 28 = .ok (.iload_n 2, 1) := dk_28 (dk_at dksX1_at_1 6 rfl rfl)
theorem dX1_at_29 : decode cX1_at 29 = .ok (.baload, 1) := dk_51 (dk_at dksX1_at_1 7 rfl rfl)
theorem dX1_at_30 : decode cX1_at 30 = .ok (.ireturn, 1) := dk_172 (dk_at dksX1_at_1 8 rfl rfl)
theorem dX1_at_31 : decode cX1_at 31 = .ok (.aload 4, 2) := dk_25 4 (dk_at dksX1_at_1 9 rfl rfl)
theorem dX1_at_33 : decode cX1_at 33 = .ok (.invokestatic 236, 3) := dk_184 0 236 (dk_at dksX1_at_1 11 rfl rfl)
theorem dX1_at_36 : decode cX1_at 36 = .ok (.getfield 75, 3) := dk_180 0 75 (dk_at dksX1_at_1 14 rfl rfl)
theorem dX1_at_39 : decode cX1_at 39 = .ok (.iload_n 2, 1) := dk_28 (dk_at dksX1_at_1 17 rfl rfl)
theorem dX1_at_40 : decode cX1_at 40 = .ok (.baload, 1) := dk_51 (dk_at dksX1_at_1 18 rfl rfl)
theorem dX1_at_41 : decode cX1_at 41 = .ok (.ireturn, 1) := dk_172 (dk_at dksX1_at_1 19 rfl rfl)
abbrev cX1_closed : ByteArray := prog_1_method_24_code
def yX1_closed : MethodName := ⟨RX1, "closed", "(LKnowDisk$Sector;)LKnowDisk$Sector;"⟩
def dkwX1_closed_0 : List UInt8 := [42, 182, 0, 191, 42, 176]
abbrev dktX1_closed_0 : List UInt8 := dkwX1_closed_0 ++ []
theorem dksX1_closed_0 : cX1_closed.data.toList.drop 0 = dktX1_closed_0 := by decide +kernel
theorem dX1_closed_0 : decode cX1_closed 0 = .ok (.aload_n 0, 1) := dk_42 (dk_at dksX1_closed_0 0 rfl rfl)
theorem dX1_closed_1 : decode cX1_closed 1 = .ok (.invokevirtual 191, 3) := dk_182 0 191 (dk_at dksX1_closed_0 1 rfl rfl)
theorem dX1_closed_4 : decode cX1_closed 4 = .ok (.aload_n 0, 1) := dk_42 (dk_at dksX1_closed_0 4 rfl rfl)
theorem dX1_closed_5 : decode cX1_closed 5 = .ok (.areturn, 1) := dk_176 (dk_at dksX1_closed_0 5 rfl rfl)
theorem q43 : (Jvm.Cond.initialized "KnowDisk") ∈ lw_all := lw_g (lw_at lw_m1 1 rfl) rfl
theorem q71 : (Jvm.Cond.instantiable "KnowDisk" (10 : Nat)) ∈ lw_all := lw_g (lw_at lw_m1 29 rfl) rfl
theorem q73 : (Jvm.Cond.instanceMethod ({ cls := "KnowDisk", name := "<init>", desc := "(I)V" } : Jvm.MethodName)) ∈ lw_all := lw_g (lw_at lw_m1 31 rfl) rfl
theorem q74 : (Jvm.Cond.code ({ cls := "KnowDisk", name := "<init>", desc := "(I)V" } : Jvm.MethodName) prog_1_method_1_code (2 : Nat) (Option.none : Option Jvm.ClassFile.FieldType)) ∈ lw_all := lw_g (lw_at lw_m1 32 rfl) rfl
theorem q75 : (Jvm.Cond.methodLink "KnowDisk" (1 : Nat) ({ cls := "java/lang/Object", name := "<init>", desc := "()V" } : Jvm.MethodName)) ∈ lw_all := lw_g (lw_at lw_m1 33 rfl) rfl
theorem q78 : (Jvm.Cond.classLink "KnowDisk" (17 : Nat) "KnowDisk$Sector") ∈ lw_all := lw_g (lw_at lw_m1 36 rfl) rfl
theorem q80 : (Jvm.Cond.classLink "KnowDisk" (23 : Nat) "java/util/ArrayDeque") ∈ lw_all := lw_g (lw_at lw_m1 38 rfl) rfl
theorem q82 : (Jvm.Cond.methodLink "KnowDisk" (25 : Nat) ({ cls := "java/util/ArrayDeque", name := "<init>", desc := "()V" } : Jvm.MethodName)) ∈ lw_all := lw_g (lw_at lw_m1 40 rfl) rfl
theorem q104 : (Jvm.Cond.classLink "KnowDisk" (33 : Nat) "java/util/ArrayList") ∈ lw_all := lw_g (lw_at lw_m1 62 rfl) rfl
theorem q106 : (Jvm.Cond.methodLink "KnowDisk" (35 : Nat) ({ cls := "java/util/ArrayList", name := "<init>", desc := "()V" } : Jvm.MethodName)) ∈ lw_all := lw_g (lw_at lw_m1 64 rfl) rfl
theorem q130 : (Jvm.Cond.methodLink "KnowDisk" (40 : Nat) ({ cls := "java/lang/Math", name := "floorMod", desc := "(II)I" } : Jvm.MethodName)) ∈ lw_all := lw_g (lw_at lw_m1 88 rfl) rfl
theorem q133 : (Jvm.Cond.classLink "KnowDisk" (54 : Nat) "KnowDisk$State") ∈ lw_all := lw_g (lw_at lw_m1 91 rfl) rfl
theorem q135 : (Jvm.Cond.methodLinkNest "KnowDisk" (56 : Nat) ({ cls := "KnowDisk$State", name := "<init>", desc := "(IJ)V" } : Jvm.MethodName) "KnowDisk") ∈ lw_tbl := lw_at lw_m1 93 rfl
theorem q150 : (Jvm.Cond.methodLink "KnowDisk" (59 : Nat) ({ cls := "KnowDisk", name := "begin", desc := "(LKnowDisk$State;)V" } : Jvm.MethodName)) ∈ lw_all := lw_g (lw_at lw_m1 108 rfl) rfl
theorem q151 : (Jvm.Cond.privateMethod ({ cls := "KnowDisk", name := "begin", desc := "(LKnowDisk$State;)V" } : Jvm.MethodName)) ∈ lw_tbl := lw_at lw_m1 109 rfl
theorem q152 : (Jvm.Cond.instanceMethod ({ cls := "KnowDisk", name := "begin", desc := "(LKnowDisk$State;)V" } : Jvm.MethodName)) ∈ lw_all := lw_g (lw_at lw_m1 110 rfl) rfl
theorem q153 : (Jvm.Cond.code ({ cls := "KnowDisk", name := "begin", desc := "(LKnowDisk$State;)V" } : Jvm.MethodName) prog_1_method_2_code (3 : Nat) (Option.none : Option Jvm.ClassFile.FieldType)) ∈ lw_all := lw_g (lw_at lw_m1 111 rfl) rfl
theorem q154 : (Jvm.Cond.methodLink "KnowDisk" (63 : Nat) ({ cls := "java/util/ArrayDeque", name := "clear", desc := "()V" } : Jvm.MethodName)) ∈ lw_all := lw_g (lw_at lw_m1 112 rfl) rfl
theorem q161 : (Jvm.Cond.methodLink "KnowDisk" (66 : Nat) ({ cls := "java/util/ArrayDeque", name := "add", desc := "(Ljava/lang/Object;)Z" } : Jvm.MethodName)) ∈ lw_all := lw_g (lw_at lw_m1 119 rfl) rfl
theorem q188 : (Jvm.Cond.selects "KnowDisk" ({ cls := "java/lang/Object", name := "getClass", desc := "()Ljava/lang/Class;" } : Jvm.MethodName) ({ cls := "java/lang/Object", name := "getClass", desc := "()Ljava/lang/Class;" } : Jvm.MethodName)) ∈ lw_all := lw_g (lw_at lw_m1 146 rfl) rfl
theorem q211 : (Jvm.Cond.methodLink "KnowDisk" (70 : Nat) ({ cls := "java/util/ArrayList", name := "clear", desc := "()V" } : Jvm.MethodName)) ∈ lw_all := lw_g (lw_at lw_m1 169 rfl) rfl
theorem q215 : (Jvm.Cond.fieldLink "KnowDisk" (50 : Nat) "KnowDisk" "disk" "[B") ∈ lw_all := lw_g (lw_at lw_m1 173 rfl) rfl
theorem q216 : (Jvm.Cond.fieldLink "KnowDisk" (46 : Nat) "KnowDisk" "count" "I") ∈ lw_all := lw_g (lw_at lw_m1 174 rfl) rfl
theorem q217 : (Jvm.Cond.fieldLink "KnowDisk" (7 : Nat) "KnowDisk" "runs" "Z") ∈ lw_all := lw_g (lw_at lw_m1 175 rfl) rfl
theorem q218 : (Jvm.Cond.fieldLink "KnowDisk" (134 : Nat) "KnowDisk" "isFull" "Z") ∈ lw_all := lw_g (lw_at lw_m1 176 rfl) rfl
theorem q219 : (Jvm.Cond.fieldLink "KnowDisk" (13 : Nat) "KnowDisk" "places" "[I") ∈ lw_all := lw_g (lw_at lw_m1 177 rfl) rfl
theorem q220 : (Jvm.Cond.fieldLink "KnowDisk" (19 : Nat) "KnowDisk" "laid" "[LKnowDisk$Sector;") ∈ lw_all := lw_g (lw_at lw_m1 178 rfl) rfl
theorem q221 : (Jvm.Cond.fieldLink "KnowDisk" (71 : Nat) "KnowDisk" "changed" "Z") ∈ lw_all := lw_g (lw_at lw_m1 179 rfl) rfl
theorem q222 : (Jvm.Cond.fieldLink "KnowDisk" (26 : Nat) "KnowDisk" "waiting" "Ljava/util/ArrayDeque;") ∈ lw_all := lw_g (lw_at lw_m1 180 rfl) rfl
theorem q223 : (Jvm.Cond.fieldLink "KnowDisk" (30 : Nat) "KnowDisk" "states" "Ljava/util/ArrayDeque;") ∈ lw_all := lw_g (lw_at lw_m1 181 rfl) rfl
theorem q224 : (Jvm.Cond.fieldLink "KnowDisk" (36 : Nat) "KnowDisk" "kept" "Ljava/util/ArrayList;") ∈ lw_all := lw_g (lw_at lw_m1 182 rfl) rfl
theorem q225 : (Jvm.Cond.laysFinal "KnowDisk" "KnowDisk" "disk" "[B") ∈ lw_all := lw_g (lw_at lw_m1 183 rfl) rfl
theorem q226 : (Jvm.Cond.soleField "KnowDisk" "disk") ∈ lw_all := lw_g (lw_at lw_m1 184 rfl) rfl
theorem q227 : (Jvm.Cond.laysFinal "KnowDisk" "KnowDisk" "count" "I") ∈ lw_all := lw_g (lw_at lw_m1 185 rfl) rfl
theorem q228 : (Jvm.Cond.soleField "KnowDisk" "count") ∈ lw_all := lw_g (lw_at lw_m1 186 rfl) rfl
theorem q229 : (Jvm.Cond.lays "KnowDisk" "KnowDisk" "runs" "Z") ∈ lw_all := lw_g (lw_at lw_m1 187 rfl) rfl
theorem q230 : (Jvm.Cond.soleField "KnowDisk" "runs") ∈ lw_all := lw_g (lw_at lw_m1 188 rfl) rfl
theorem q231 : (Jvm.Cond.lays "KnowDisk" "KnowDisk" "isFull" "Z") ∈ lw_all := lw_g (lw_at lw_m1 189 rfl) rfl
theorem q232 : (Jvm.Cond.soleField "KnowDisk" "isFull") ∈ lw_all := lw_g (lw_at lw_m1 190 rfl) rfl
theorem q233 : (Jvm.Cond.laysFinal "KnowDisk" "KnowDisk" "places" "[I") ∈ lw_all := lw_g (lw_at lw_m1 191 rfl) rfl
theorem q234 : (Jvm.Cond.soleField "KnowDisk" "places") ∈ lw_all := lw_g (lw_at lw_m1 192 rfl) rfl
theorem q235 : (Jvm.Cond.laysFinal "KnowDisk" "KnowDisk" "laid" "[LKnowDisk$Sector;") ∈ lw_all := lw_g (lw_at lw_m1 193 rfl) rfl
theorem q236 : (Jvm.Cond.soleField "KnowDisk" "laid") ∈ lw_all := lw_g (lw_at lw_m1 194 rfl) rfl
theorem q237 : (Jvm.Cond.lays "KnowDisk" "KnowDisk" "changed" "Z") ∈ lw_all := lw_g (lw_at lw_m1 195 rfl) rfl
theorem q238 : (Jvm.Cond.soleField "KnowDisk" "changed") ∈ lw_all := lw_g (lw_at lw_m1 196 rfl) rfl
theorem q239 : (Jvm.Cond.laysFinal "KnowDisk" "KnowDisk" "waiting" "Ljava/util/ArrayDeque;") ∈ lw_all := lw_g (lw_at lw_m1 197 rfl) rfl
theorem q240 : (Jvm.Cond.soleField "KnowDisk" "waiting") ∈ lw_all := lw_g (lw_at lw_m1 198 rfl) rfl
theorem q241 : (Jvm.Cond.laysFinal "KnowDisk" "KnowDisk" "states" "Ljava/util/ArrayDeque;") ∈ lw_all := lw_g (lw_at lw_m1 199 rfl) rfl
theorem q242 : (Jvm.Cond.soleField "KnowDisk" "states") ∈ lw_all := lw_g (lw_at lw_m1 200 rfl) rfl
theorem q243 : (Jvm.Cond.laysFinal "KnowDisk" "KnowDisk" "kept" "Ljava/util/ArrayList;") ∈ lw_all := lw_g (lw_at lw_m1 201 rfl) rfl
theorem q244 : (Jvm.Cond.soleField "KnowDisk" "kept") ∈ lw_all := lw_g (lw_at lw_m1 202 rfl) rfl
theorem q245 : (Jvm.Cond.superclass "KnowDisk" "java/lang/Object") ∈ lw_all := lw_g (lw_at lw_m1 203 rfl) rfl
theorem q247 : (Jvm.Cond.instanceMethod ({ cls := "KnowDisk", name := "page", desc := "(IIJ)I" } : Jvm.MethodName)) ∈ lw_all := lw_g (lw_at lw_m1 205 rfl) rfl
theorem q248 : (Jvm.Cond.selects "KnowDisk" ({ cls := "KnowDisk", name := "page", desc := "(IIJ)I" } : Jvm.MethodName) ({ cls := "KnowDisk", name := "page", desc := "(IIJ)I" } : Jvm.MethodName)) ∈ lw_all := lw_g (lw_at lw_m1 206 rfl) rfl
theorem q249 : (Jvm.Cond.code ({ cls := "KnowDisk", name := "page", desc := "(IIJ)I" } : Jvm.MethodName) prog_1_method_14_code (6 : Nat) (Option.some Jvm.ClassFile.FieldType.int)) ∈ lw_all := lw_g (lw_at lw_m1 207 rfl) rfl
theorem q250 : (Jvm.Cond.methodLink "KnowDisk" (143 : Nat) ({ cls := "KnowDisk", name := "isPage", desc := "(I)Z" } : Jvm.MethodName)) ∈ lw_all := lw_g (lw_at lw_m1 208 rfl) rfl
theorem q251 : (Jvm.Cond.privateMethod ({ cls := "KnowDisk", name := "isPage", desc := "(I)Z" } : Jvm.MethodName)) ∈ lw_tbl := lw_at lw_m1 209 rfl
theorem q252 : (Jvm.Cond.instanceMethod ({ cls := "KnowDisk", name := "isPage", desc := "(I)Z" } : Jvm.MethodName)) ∈ lw_all := lw_g (lw_at lw_m1 210 rfl) rfl
theorem q253 : (Jvm.Cond.code ({ cls := "KnowDisk", name := "isPage", desc := "(I)Z" } : Jvm.MethodName) prog_1_method_6_code (2 : Nat) (Option.some Jvm.ClassFile.FieldType.boolean)) ∈ lw_all := lw_g (lw_at lw_m1 211 rfl) rfl
theorem q254 : (Jvm.Cond.methodLink "KnowDisk" (147 : Nat) ({ cls := "KnowDisk", name := "pageAt", desc := "(I)LKnowDisk$Sector;" } : Jvm.MethodName)) ∈ lw_all := lw_g (lw_at lw_m1 212 rfl) rfl
theorem q255 : (Jvm.Cond.privateMethod ({ cls := "KnowDisk", name := "pageAt", desc := "(I)LKnowDisk$Sector;" } : Jvm.MethodName)) ∈ lw_tbl := lw_at lw_m1 213 rfl
theorem q256 : (Jvm.Cond.instanceMethod ({ cls := "KnowDisk", name := "pageAt", desc := "(I)LKnowDisk$Sector;" } : Jvm.MethodName)) ∈ lw_all := lw_g (lw_at lw_m1 214 rfl) rfl
theorem q257 : (Jvm.Cond.code ({ cls := "KnowDisk", name := "pageAt", desc := "(I)LKnowDisk$Sector;" } : Jvm.MethodName) prog_1_method_13_code (2 : Nat) (Option.some (Jvm.ClassFile.FieldType.object "KnowDisk$Sector"))) ∈ lw_all := lw_g (lw_at lw_m1 215 rfl) rfl
theorem q258 : (Jvm.Cond.methodLink "KnowDisk" (141 : Nat) ({ cls := "KnowDisk", name := "sector", desc := "(I)LKnowDisk$Sector;" } : Jvm.MethodName)) ∈ lw_all := lw_g (lw_at lw_m1 216 rfl) rfl
theorem q259 : (Jvm.Cond.privateMethod ({ cls := "KnowDisk", name := "sector", desc := "(I)LKnowDisk$Sector;" } : Jvm.MethodName)) ∈ lw_tbl := lw_at lw_m1 217 rfl
theorem q260 : (Jvm.Cond.instanceMethod ({ cls := "KnowDisk", name := "sector", desc := "(I)LKnowDisk$Sector;" } : Jvm.MethodName)) ∈ lw_all := lw_g (lw_at lw_m1 218 rfl) rfl
theorem q261 : (Jvm.Cond.code ({ cls := "KnowDisk", name := "sector", desc := "(I)LKnowDisk$Sector;" } : Jvm.MethodName) prog_1_method_4_code (5 : Nat) (Option.some (Jvm.ClassFile.FieldType.object "KnowDisk$Sector"))) ∈ lw_all := lw_g (lw_at lw_m1 219 rfl) rfl
theorem q262 : (Jvm.Cond.methodLink "KnowDisk" (84 : Nat) ({ cls := "java/util/ArrayDeque", name := "iterator", desc := "()Ljava/util/Iterator;" } : Jvm.MethodName)) ∈ lw_all := lw_g (lw_at lw_m1 220 rfl) rfl
theorem q292 : (Jvm.Cond.interfaceEntry "KnowDisk" (88 : Nat)) ∈ lw_tbl := lw_at lw_m2 10 rfl
theorem q293 : (Jvm.Cond.methodLink "KnowDisk" (88 : Nat) ({ cls := "java/util/Iterator", name := "hasNext", desc := "()Z" } : Jvm.MethodName)) ∈ lw_all := lw_g (lw_at lw_m2 11 rfl) rfl
theorem q308 : (Jvm.Cond.interfaceEntry "KnowDisk" (94 : Nat)) ∈ lw_tbl := lw_at lw_m2 26 rfl
theorem q309 : (Jvm.Cond.methodLink "KnowDisk" (94 : Nat) ({ cls := "java/util/Iterator", name := "next", desc := "()Ljava/lang/Object;" } : Jvm.MethodName)) ∈ lw_all := lw_g (lw_at lw_m2 27 rfl) rfl
theorem q330 : (Jvm.Cond.classLink "KnowDisk" (98 : Nat) "KnowDisk$Write") ∈ lw_all := lw_g (lw_at lw_m2 48 rfl) rfl
theorem q331 : (Jvm.Cond.methodLink "KnowDisk" (100 : Nat) ({ cls := "KnowDisk$Write", name := "to", desc := "()I" } : Jvm.MethodName)) ∈ lw_all := lw_g (lw_at lw_m2 49 rfl) rfl
theorem q335 : (Jvm.Cond.methodLink "KnowDisk" (104 : Nat) ({ cls := "KnowDisk$Write", name := "sector", desc := "()LKnowDisk$Sector;" } : Jvm.MethodName)) ∈ lw_all := lw_g (lw_at lw_m2 53 rfl) rfl
theorem q339 : (Jvm.Cond.methodLink "KnowDisk" (108 : Nat) ({ cls := "KnowDisk", name := "read", desc := "(I)LKnowDisk$Sector;" } : Jvm.MethodName)) ∈ lw_all := lw_g (lw_at lw_m2 57 rfl) rfl
theorem q340 : (Jvm.Cond.privateMethod ({ cls := "KnowDisk", name := "read", desc := "(I)LKnowDisk$Sector;" } : Jvm.MethodName)) ∈ lw_tbl := lw_at lw_m2 58 rfl
theorem q341 : (Jvm.Cond.instanceMethod ({ cls := "KnowDisk", name := "read", desc := "(I)LKnowDisk$Sector;" } : Jvm.MethodName)) ∈ lw_all := lw_g (lw_at lw_m2 59 rfl) rfl
theorem q342 : (Jvm.Cond.code ({ cls := "KnowDisk", name := "read", desc := "(I)LKnowDisk$Sector;" } : Jvm.MethodName) prog_1_method_3_code (3 : Nat) (Option.some (Jvm.ClassFile.FieldType.object "KnowDisk$Sector"))) ∈ lw_all := lw_g (lw_at lw_m2 60 rfl) rfl
theorem q344 : (Jvm.Cond.methodLinkNest "KnowDisk" (74 : Nat) ({ cls := "KnowDisk$Sector", name := "<init>", desc := "()V" } : Jvm.MethodName) "KnowDisk") ∈ lw_tbl := lw_at lw_m2 62 rfl
theorem q349 : (Jvm.Cond.fieldLinkNest "KnowDisk" (75 : Nat) "KnowDisk$Sector" "bytes" "[B" "KnowDisk") ∈ lw_tbl := lw_at lw_m2 67 rfl
theorem q353 : (Jvm.Cond.methodLink "KnowDisk" (78 : Nat) ({ cls := "java/lang/System", name := "arraycopy", desc := "(Ljava/lang/Object;ILjava/lang/Object;II)V" } : Jvm.MethodName)) ∈ lw_all := lw_g (lw_at lw_m2 71 rfl) rfl
theorem q354 : (Jvm.Cond.methodLink "KnowDisk" (150 : Nat) ({ cls := "KnowDisk$Sector", name := "kind", desc := "()I" } : Jvm.MethodName)) ∈ lw_all := lw_g (lw_at lw_m2 72 rfl) rfl
theorem q358 : (Jvm.Cond.methodLink "KnowDisk" (153 : Nat) ({ cls := "KnowDisk", name := "freePage", desc := "()I" } : Jvm.MethodName)) ∈ lw_all := lw_g (lw_at lw_m2 76 rfl) rfl
theorem q359 : (Jvm.Cond.privateMethod ({ cls := "KnowDisk", name := "freePage", desc := "()I" } : Jvm.MethodName)) ∈ lw_tbl := lw_at lw_m2 77 rfl
theorem q360 : (Jvm.Cond.instanceMethod ({ cls := "KnowDisk", name := "freePage", desc := "()I" } : Jvm.MethodName)) ∈ lw_all := lw_g (lw_at lw_m2 78 rfl) rfl
theorem q361 : (Jvm.Cond.code ({ cls := "KnowDisk", name := "freePage", desc := "()I" } : Jvm.MethodName) prog_1_method_10_code (2 : Nat) (Option.some Jvm.ClassFile.FieldType.int)) ∈ lw_all := lw_g (lw_at lw_m2 79 rfl) rfl
theorem q362 : (Jvm.Cond.methodLink "KnowDisk" (156 : Nat) ({ cls := "KnowDisk$Sector", name := "value", desc := "()J" } : Jvm.MethodName)) ∈ lw_all := lw_g (lw_at lw_m2 80 rfl) rfl
theorem q375 : (Jvm.Cond.methodLink "KnowDisk" (159 : Nat) ({ cls := "KnowDisk", name := "derivedFrom", desc := "(J)J" } : Jvm.MethodName)) ∈ lw_all := lw_g (lw_at lw_m2 93 rfl) rfl
theorem q376 : (Jvm.Cond.static ({ cls := "KnowDisk", name := "derivedFrom", desc := "(J)J" } : Jvm.MethodName)) ∈ lw_all := lw_g (lw_at lw_m2 94 rfl) rfl
theorem q377 : (Jvm.Cond.code ({ cls := "KnowDisk", name := "derivedFrom", desc := "(J)J" } : Jvm.MethodName) prog_1_method_11_code (2 : Nat) (Option.some Jvm.ClassFile.FieldType.long)) ∈ lw_all := lw_g (lw_at lw_m2 95 rfl) rfl
theorem q378 : (Jvm.Cond.methodLink "KnowDisk" (123 : Nat) ({ cls := "java/lang/Long", name := "rotateLeft", desc := "(JI)J" } : Jvm.MethodName)) ∈ lw_all := lw_g (lw_at lw_m2 96 rfl) rfl
theorem q381 : (Jvm.Cond.constantLong "KnowDisk" (129 : Nat) (25214903917 : Int64)) ∈ lw_all := lw_g (lw_at lw_m2 99 rfl) rfl
theorem q382 : (Jvm.Cond.methodLink "KnowDisk" (163 : Nat) ({ cls := "KnowDisk", name := "lay", desc := "(IIIJ)I" } : Jvm.MethodName)) ∈ lw_all := lw_g (lw_at lw_m2 100 rfl) rfl
theorem q383 : (Jvm.Cond.privateMethod ({ cls := "KnowDisk", name := "lay", desc := "(IIIJ)I" } : Jvm.MethodName)) ∈ lw_tbl := lw_at lw_m2 101 rfl
theorem q384 : (Jvm.Cond.instanceMethod ({ cls := "KnowDisk", name := "lay", desc := "(IIIJ)I" } : Jvm.MethodName)) ∈ lw_all := lw_g (lw_at lw_m2 102 rfl) rfl
theorem q385 : (Jvm.Cond.code ({ cls := "KnowDisk", name := "lay", desc := "(IIIJ)I" } : Jvm.MethodName) prog_1_method_12_code (7 : Nat) (Option.some Jvm.ClassFile.FieldType.int)) ∈ lw_all := lw_g (lw_at lw_m2 103 rfl) rfl
theorem q386 : (Jvm.Cond.methodLink "KnowDisk" (131 : Nat) ({ cls := "KnowDisk", name := "free", desc := "()I" } : Jvm.MethodName)) ∈ lw_all := lw_g (lw_at lw_m2 104 rfl) rfl
theorem q387 : (Jvm.Cond.privateMethod ({ cls := "KnowDisk", name := "free", desc := "()I" } : Jvm.MethodName)) ∈ lw_tbl := lw_at lw_m2 105 rfl
theorem q388 : (Jvm.Cond.instanceMethod ({ cls := "KnowDisk", name := "free", desc := "()I" } : Jvm.MethodName)) ∈ lw_all := lw_g (lw_at lw_m2 106 rfl) rfl
theorem q389 : (Jvm.Cond.code ({ cls := "KnowDisk", name := "free", desc := "()I" } : Jvm.MethodName) prog_1_method_9_code (4 : Nat) (Option.some Jvm.ClassFile.FieldType.int)) ∈ lw_all := lw_g (lw_at lw_m2 107 rfl) rfl
theorem q390 : (Jvm.Cond.methodLink "KnowDisk" (120 : Nat) ({ cls := "KnowDisk", name := "held", desc := "()J" } : Jvm.MethodName)) ∈ lw_all := lw_g (lw_at lw_m2 108 rfl) rfl
theorem q391 : (Jvm.Cond.privateMethod ({ cls := "KnowDisk", name := "held", desc := "()J" } : Jvm.MethodName)) ∈ lw_tbl := lw_at lw_m2 109 rfl
theorem q392 : (Jvm.Cond.instanceMethod ({ cls := "KnowDisk", name := "held", desc := "()J" } : Jvm.MethodName)) ∈ lw_all := lw_g (lw_at lw_m2 110 rfl) rfl
theorem q393 : (Jvm.Cond.code ({ cls := "KnowDisk", name := "held", desc := "()J" } : Jvm.MethodName) prog_1_method_8_code (5 : Nat) (Option.some Jvm.ClassFile.FieldType.long)) ∈ lw_all := lw_g (lw_at lw_m2 111 rfl) rfl
theorem q394 : (Jvm.Cond.methodLink "KnowDisk" (112 : Nat) ({ cls := "KnowDisk", name := "open", desc := "()J" } : Jvm.MethodName)) ∈ lw_all := lw_g (lw_at lw_m2 112 rfl) rfl
theorem q395 : (Jvm.Cond.privateMethod ({ cls := "KnowDisk", name := "open", desc := "()J" } : Jvm.MethodName)) ∈ lw_tbl := lw_at lw_m2 113 rfl
theorem q396 : (Jvm.Cond.instanceMethod ({ cls := "KnowDisk", name := "open", desc := "()J" } : Jvm.MethodName)) ∈ lw_all := lw_g (lw_at lw_m2 114 rfl) rfl
theorem q397 : (Jvm.Cond.code ({ cls := "KnowDisk", name := "open", desc := "()J" } : Jvm.MethodName) prog_1_method_7_code (7 : Nat) (Option.some Jvm.ClassFile.FieldType.long)) ∈ lw_all := lw_g (lw_at lw_m2 115 rfl) rfl
theorem q398 : (Jvm.Cond.methodLink "KnowDisk" (116 : Nat) ({ cls := "KnowDisk$State", name := "sectors", desc := "()J" } : Jvm.MethodName)) ∈ lw_all := lw_g (lw_at lw_m2 116 rfl) rfl
theorem q402 : (Jvm.Cond.methodLink "KnowDisk" (119 : Nat) ({ cls := "java/util/ArrayList", name := "iterator", desc := "()Ljava/util/Iterator;" } : Jvm.MethodName)) ∈ lw_all := lw_g (lw_at lw_m2 120 rfl) rfl
theorem q425 : (Jvm.Cond.methodLink "KnowDisk" (137 : Nat) ({ cls := "KnowDisk$Sector", name := "of", desc := "(IIIJI)LKnowDisk$Sector;" } : Jvm.MethodName)) ∈ lw_all := lw_g (lw_at lw_m2 143 rfl) rfl
theorem q439 : (Jvm.Cond.instanceMethod ({ cls := "KnowDisk", name := "derived", desc := "(I)I" } : Jvm.MethodName)) ∈ lw_all := lw_g (lw_at lw_m2 157 rfl) rfl
theorem q440 : (Jvm.Cond.selects "KnowDisk" ({ cls := "KnowDisk", name := "derived", desc := "(I)I" } : Jvm.MethodName) ({ cls := "KnowDisk", name := "derived", desc := "(I)I" } : Jvm.MethodName)) ∈ lw_all := lw_g (lw_at lw_m2 158 rfl) rfl
theorem q441 : (Jvm.Cond.code ({ cls := "KnowDisk", name := "derived", desc := "(I)I" } : Jvm.MethodName) prog_1_method_15_code (7 : Nat) (Option.some Jvm.ClassFile.FieldType.int)) ∈ lw_all := lw_g (lw_at lw_m2 159 rfl) rfl
theorem q442 : (Jvm.Cond.methodLink "KnowDisk" (167 : Nat) ({ cls := "KnowDisk$Sector", name := "source", desc := "()I" } : Jvm.MethodName)) ∈ lw_all := lw_g (lw_at lw_m2 160 rfl) rfl
theorem q446 : (Jvm.Cond.methodLink "KnowDisk" (170 : Nat) ({ cls := "KnowDisk$Sector", name := "isRight", desc := "()Z" } : Jvm.MethodName)) ∈ lw_all := lw_g (lw_at lw_m2 164 rfl) rfl
theorem q459 : (Jvm.Cond.instanceMethod ({ cls := "KnowDisk", name := "commit", desc := "(I)I" } : Jvm.MethodName)) ∈ lw_all := lw_g (lw_at lw_m2 177 rfl) rfl
theorem q460 : (Jvm.Cond.selects "KnowDisk" ({ cls := "KnowDisk", name := "commit", desc := "(I)I" } : Jvm.MethodName) ({ cls := "KnowDisk", name := "commit", desc := "(I)I" } : Jvm.MethodName)) ∈ lw_all := lw_g (lw_at lw_m2 178 rfl) rfl
theorem q461 : (Jvm.Cond.code ({ cls := "KnowDisk", name := "commit", desc := "(I)I" } : Jvm.MethodName) prog_1_method_17_code (7 : Nat) (Option.some Jvm.ClassFile.FieldType.int)) ∈ lw_all := lw_g (lw_at lw_m2 179 rfl) rfl
theorem q462 : (Jvm.Cond.methodLink "KnowDisk" (176 : Nat) ({ cls := "KnowDisk", name := "latest", desc := "()LKnowDisk$State;" } : Jvm.MethodName)) ∈ lw_all := lw_g (lw_at lw_m2 180 rfl) rfl
theorem q463 : (Jvm.Cond.privateMethod ({ cls := "KnowDisk", name := "latest", desc := "()LKnowDisk$State;" } : Jvm.MethodName)) ∈ lw_tbl := lw_at lw_m2 181 rfl
theorem q464 : (Jvm.Cond.instanceMethod ({ cls := "KnowDisk", name := "latest", desc := "()LKnowDisk$State;" } : Jvm.MethodName)) ∈ lw_all := lw_g (lw_at lw_m2 182 rfl) rfl
theorem q465 : (Jvm.Cond.code ({ cls := "KnowDisk", name := "latest", desc := "()LKnowDisk$State;" } : Jvm.MethodName) prog_1_method_16_code (1 : Nat) (Option.some (Jvm.ClassFile.FieldType.object "KnowDisk$State"))) ∈ lw_all := lw_g (lw_at lw_m2 183 rfl) rfl
theorem q466 : (Jvm.Cond.methodLink "KnowDisk" (173 : Nat) ({ cls := "java/util/ArrayDeque", name := "peekLast", desc := "()Ljava/lang/Object;" } : Jvm.MethodName)) ∈ lw_all := lw_g (lw_at lw_m2 184 rfl) rfl
theorem q476 : (Jvm.Cond.methodLink "KnowDisk" (180 : Nat) ({ cls := "KnowDisk$State", name := "number", desc := "()I" } : Jvm.MethodName)) ∈ lw_all := lw_g (lw_at lw_m2 194 rfl) rfl
theorem q480 : (Jvm.Cond.constant "KnowDisk" (183 : Nat) (1000000 : Int32)) ∈ lw_all := lw_g (lw_at lw_m2 198 rfl) rfl
theorem q481 : (Jvm.Cond.methodLink "KnowDisk" (184 : Nat) ({ cls := "java/util/ArrayDeque", name := "size", desc := "()I" } : Jvm.MethodName)) ∈ lw_all := lw_g (lw_at lw_m2 199 rfl) rfl
theorem q482 : (Jvm.Cond.methodLinkNest "KnowDisk" (187 : Nat) ({ cls := "KnowDisk$Sector", name := "set", desc := "(II)V" } : Jvm.MethodName) "KnowDisk") ∈ lw_tbl := lw_at lw_m2 200 rfl
theorem q483 : (Jvm.Cond.methodLink "KnowDisk" (191 : Nat) ({ cls := "KnowDisk$Sector", name := "close", desc := "()V" } : Jvm.MethodName)) ∈ lw_all := lw_g (lw_at lw_m2 201 rfl) rfl
theorem q488 : (Jvm.Cond.methodLinkNest "KnowDisk" (194 : Nat) ({ cls := "KnowDisk$Write", name := "<init>", desc := "(ILKnowDisk$Sector;)V" } : Jvm.MethodName) "KnowDisk") ∈ lw_tbl := lw_at lw_m2 206 rfl
theorem q499 : (Jvm.Cond.methodLinkNest "KnowDisk" (197 : Nat) ({ cls := "KnowDisk$Sector", name := "number", desc := "(I)I" } : Jvm.MethodName) "KnowDisk") ∈ lw_tbl := lw_at lw_m2 217 rfl
theorem q500 : (Jvm.Cond.methodLinkNest "KnowDisk" (200 : Nat) ({ cls := "KnowDisk$Sector", name := "setWide", desc := "(IJ)V" } : Jvm.MethodName) "KnowDisk") ∈ lw_tbl := lw_at lw_m2 218 rfl
theorem q502 : (Jvm.Cond.instanceMethod ({ cls := "KnowDisk", name := "sync", desc := "()I" } : Jvm.MethodName)) ∈ lw_all := lw_g (lw_at lw_m2 220 rfl) rfl
theorem q503 : (Jvm.Cond.selects "KnowDisk" ({ cls := "KnowDisk", name := "sync", desc := "()I" } : Jvm.MethodName) ({ cls := "KnowDisk", name := "sync", desc := "()I" } : Jvm.MethodName)) ∈ lw_all := lw_g (lw_at lw_m2 221 rfl) rfl
theorem q504 : (Jvm.Cond.code ({ cls := "KnowDisk", name := "sync", desc := "()I" } : Jvm.MethodName) prog_1_method_19_code (1 : Nat) (Option.some Jvm.ClassFile.FieldType.int)) ∈ lw_all := lw_g (lw_at lw_m2 222 rfl) rfl
theorem q505 : (Jvm.Cond.methodLink "KnowDisk" (203 : Nat) ({ cls := "java/util/ArrayDeque", name := "isEmpty", desc := "()Z" } : Jvm.MethodName)) ∈ lw_all := lw_g (lw_at lw_m2 223 rfl) rfl
theorem q509 : (Jvm.Cond.methodLink "KnowDisk" (206 : Nat) ({ cls := "java/util/ArrayDeque", name := "poll", desc := "()Ljava/lang/Object;" } : Jvm.MethodName)) ∈ lw_all := lw_g (lw_at lw_m2 227 rfl) rfl
theorem q517 : (Jvm.Cond.methodLink "KnowDisk" (209 : Nat) ({ cls := "KnowDisk", name := "write", desc := "(LKnowDisk$Write;I)V" } : Jvm.MethodName)) ∈ lw_all := lw_g (lw_at lw_m2 235 rfl) rfl
theorem q518 : (Jvm.Cond.privateMethod ({ cls := "KnowDisk", name := "write", desc := "(LKnowDisk$Write;I)V" } : Jvm.MethodName)) ∈ lw_tbl := lw_at lw_m2 236 rfl
theorem q519 : (Jvm.Cond.instanceMethod ({ cls := "KnowDisk", name := "write", desc := "(LKnowDisk$Write;I)V" } : Jvm.MethodName)) ∈ lw_all := lw_g (lw_at lw_m2 237 rfl) rfl
theorem q520 : (Jvm.Cond.code ({ cls := "KnowDisk", name := "write", desc := "(LKnowDisk$Write;I)V" } : Jvm.MethodName) prog_1_method_18_code (3 : Nat) (Option.none : Option Jvm.ClassFile.FieldType)) ∈ lw_all := lw_g (lw_at lw_m2 238 rfl) rfl
theorem q522 : (Jvm.Cond.instanceMethod ({ cls := "KnowDisk", name := "cut", desc := "(II)V" } : Jvm.MethodName)) ∈ lw_all := lw_g (lw_at lw_m3 0 rfl) rfl
theorem q523 : (Jvm.Cond.selects "KnowDisk" ({ cls := "KnowDisk", name := "cut", desc := "(II)V" } : Jvm.MethodName) ({ cls := "KnowDisk", name := "cut", desc := "(II)V" } : Jvm.MethodName)) ∈ lw_all := lw_g (lw_at lw_m3 1 rfl) rfl
theorem q524 : (Jvm.Cond.code ({ cls := "KnowDisk", name := "cut", desc := "(II)V" } : Jvm.MethodName) prog_1_method_20_code (4 : Nat) (Option.none : Option Jvm.ClassFile.FieldType)) ∈ lw_all := lw_g (lw_at lw_m3 2 rfl) rfl
theorem q525 : (Jvm.Cond.methodLink "KnowDisk" (213 : Nat) ({ cls := "java/lang/Math", name := "min", desc := "(II)I" } : Jvm.MethodName)) ∈ lw_all := lw_g (lw_at lw_m3 3 rfl) rfl
theorem q526 : (Jvm.Cond.methodLink "KnowDisk" (216 : Nat) ({ cls := "java/lang/Math", name := "max", desc := "(II)I" } : Jvm.MethodName)) ∈ lw_all := lw_g (lw_at lw_m3 4 rfl) rfl
theorem q530 : (Jvm.Cond.instanceMethod ({ cls := "KnowDisk", name := "start", desc := "()I" } : Jvm.MethodName)) ∈ lw_all := lw_g (lw_at lw_m3 8 rfl) rfl
theorem q531 : (Jvm.Cond.selects "KnowDisk" ({ cls := "KnowDisk", name := "start", desc := "()I" } : Jvm.MethodName) ({ cls := "KnowDisk", name := "start", desc := "()I" } : Jvm.MethodName)) ∈ lw_all := lw_g (lw_at lw_m3 9 rfl) rfl
theorem q532 : (Jvm.Cond.code ({ cls := "KnowDisk", name := "start", desc := "()I" } : Jvm.MethodName) prog_1_method_22_code (7 : Nat) (Option.some Jvm.ClassFile.FieldType.int)) ∈ lw_all := lw_g (lw_at lw_m3 10 rfl) rfl
theorem q533 : (Jvm.Cond.methodLink "KnowDisk" (232 : Nat) ({ cls := "KnowDisk", name := "whole", desc := "(I)LKnowDisk$State;" } : Jvm.MethodName)) ∈ lw_all := lw_g (lw_at lw_m3 11 rfl) rfl
theorem q534 : (Jvm.Cond.privateMethod ({ cls := "KnowDisk", name := "whole", desc := "(I)LKnowDisk$State;" } : Jvm.MethodName)) ∈ lw_tbl := lw_at lw_m3 12 rfl
theorem q535 : (Jvm.Cond.instanceMethod ({ cls := "KnowDisk", name := "whole", desc := "(I)LKnowDisk$State;" } : Jvm.MethodName)) ∈ lw_all := lw_g (lw_at lw_m3 13 rfl) rfl
theorem q536 : (Jvm.Cond.code ({ cls := "KnowDisk", name := "whole", desc := "(I)LKnowDisk$State;" } : Jvm.MethodName) prog_1_method_21_code (12 : Nat) (Option.some (Jvm.ClassFile.FieldType.object "KnowDisk$State"))) ∈ lw_all := lw_g (lw_at lw_m3 14 rfl) rfl
theorem q537 : (Jvm.Cond.methodLinkNest "KnowDisk" (219 : Nat) ({ cls := "KnowDisk$Sector", name := "wide", desc := "(I)J" } : Jvm.MethodName) "KnowDisk") ∈ lw_tbl := lw_at lw_m3 15 rfl
theorem q538 : (Jvm.Cond.constantLong "KnowDisk" (223 : Nat) (3 : Int64)) ∈ lw_all := lw_g (lw_at lw_m3 16 rfl) rfl
theorem q539 : (Jvm.Cond.methodLink "KnowDisk" (225 : Nat) ({ cls := "java/lang/Long", name := "numberOfTrailingZeros", desc := "(J)I" } : Jvm.MethodName)) ∈ lw_all := lw_g (lw_at lw_m3 17 rfl) rfl
theorem q546 : (Jvm.Cond.methodLink "KnowDisk" (229 : Nat) ({ cls := "KnowDisk$Sector", name := "page", desc := "()I" } : Jvm.MethodName)) ∈ lw_all := lw_g (lw_at lw_m3 24 rfl) rfl
theorem q551 : (Jvm.Cond.instanceMethod ({ cls := "KnowDisk", name := "poke", desc := "(III)I" } : Jvm.MethodName)) ∈ lw_all := lw_g (lw_at lw_m3 29 rfl) rfl
theorem q552 : (Jvm.Cond.selects "KnowDisk" ({ cls := "KnowDisk", name := "poke", desc := "(III)I" } : Jvm.MethodName) ({ cls := "KnowDisk", name := "poke", desc := "(III)I" } : Jvm.MethodName)) ∈ lw_all := lw_g (lw_at lw_m3 30 rfl) rfl
theorem q553 : (Jvm.Cond.code ({ cls := "KnowDisk", name := "poke", desc := "(III)I" } : Jvm.MethodName) prog_1_method_25_code (5 : Nat) (Option.some Jvm.ClassFile.FieldType.int)) ∈ lw_all := lw_g (lw_at lw_m3 31 rfl) rfl
theorem q554 : (Jvm.Cond.methodLink "KnowDisk" (240 : Nat) ({ cls := "KnowDisk", name := "isWaiting", desc := "(I)Z" } : Jvm.MethodName)) ∈ lw_all := lw_g (lw_at lw_m3 32 rfl) rfl
theorem q555 : (Jvm.Cond.privateMethod ({ cls := "KnowDisk", name := "isWaiting", desc := "(I)Z" } : Jvm.MethodName)) ∈ lw_tbl := lw_at lw_m3 33 rfl
theorem q556 : (Jvm.Cond.instanceMethod ({ cls := "KnowDisk", name := "isWaiting", desc := "(I)Z" } : Jvm.MethodName)) ∈ lw_all := lw_g (lw_at lw_m3 34 rfl) rfl
theorem q557 : (Jvm.Cond.code ({ cls := "KnowDisk", name := "isWaiting", desc := "(I)Z" } : Jvm.MethodName) prog_1_method_5_code (4 : Nat) (Option.some Jvm.ClassFile.FieldType.boolean)) ∈ lw_all := lw_g (lw_at lw_m3 35 rfl) rfl
theorem q559 : (Jvm.Cond.instanceMethod ({ cls := "KnowDisk", name := "wrong", desc := "(I)I" } : Jvm.MethodName)) ∈ lw_all := lw_g (lw_at lw_m3 37 rfl) rfl
theorem q560 : (Jvm.Cond.selects "KnowDisk" ({ cls := "KnowDisk", name := "wrong", desc := "(I)I" } : Jvm.MethodName) ({ cls := "KnowDisk", name := "wrong", desc := "(I)I" } : Jvm.MethodName)) ∈ lw_all := lw_g (lw_at lw_m3 38 rfl) rfl
theorem q561 : (Jvm.Cond.code ({ cls := "KnowDisk", name := "wrong", desc := "(I)I" } : Jvm.MethodName) prog_1_method_26_code (5 : Nat) (Option.some Jvm.ClassFile.FieldType.int)) ∈ lw_all := lw_g (lw_at lw_m3 39 rfl) rfl
theorem q563 : (Jvm.Cond.instanceMethod ({ cls := "KnowDisk", name := "backup", desc := "(I)I" } : Jvm.MethodName)) ∈ lw_all := lw_g (lw_at lw_m3 41 rfl) rfl
theorem q564 : (Jvm.Cond.selects "KnowDisk" ({ cls := "KnowDisk", name := "backup", desc := "(I)I" } : Jvm.MethodName) ({ cls := "KnowDisk", name := "backup", desc := "(I)I" } : Jvm.MethodName)) ∈ lw_all := lw_g (lw_at lw_m3 42 rfl) rfl
theorem q565 : (Jvm.Cond.code ({ cls := "KnowDisk", name := "backup", desc := "(I)I" } : Jvm.MethodName) prog_1_method_27_code (2 : Nat) (Option.some Jvm.ClassFile.FieldType.int)) ∈ lw_all := lw_g (lw_at lw_m3 43 rfl) rfl
theorem q566 : (Jvm.Cond.methodLink "KnowDisk" (243 : Nat) ({ cls := "java/util/ArrayList", name := "size", desc := "()I" } : Jvm.MethodName)) ∈ lw_all := lw_g (lw_at lw_m3 44 rfl) rfl
theorem q570 : (Jvm.Cond.methodLink "KnowDisk" (244 : Nat) ({ cls := "java/util/ArrayList", name := "add", desc := "(Ljava/lang/Object;)Z" } : Jvm.MethodName)) ∈ lw_all := lw_g (lw_at lw_m3 48 rfl) rfl
theorem q597 : (Jvm.Cond.methodLink "KnowDisk" (245 : Nat) ({ cls := "java/lang/Long", name := "bitCount", desc := "(J)I" } : Jvm.MethodName)) ∈ lw_all := lw_g (lw_at lw_m3 75 rfl) rfl
theorem q604 : (Jvm.Cond.instanceMethod ({ cls := "KnowDisk", name := "drop", desc := "(I)I" } : Jvm.MethodName)) ∈ lw_all := lw_g (lw_at lw_m3 82 rfl) rfl
theorem q605 : (Jvm.Cond.selects "KnowDisk" ({ cls := "KnowDisk", name := "drop", desc := "(I)I" } : Jvm.MethodName) ({ cls := "KnowDisk", name := "drop", desc := "(I)I" } : Jvm.MethodName)) ∈ lw_all := lw_g (lw_at lw_m3 83 rfl) rfl
theorem q606 : (Jvm.Cond.code ({ cls := "KnowDisk", name := "drop", desc := "(I)I" } : Jvm.MethodName) prog_1_method_28_code (5 : Nat) (Option.some Jvm.ClassFile.FieldType.int)) ∈ lw_all := lw_g (lw_at lw_m3 84 rfl) rfl
theorem q607 : (Jvm.Cond.methodLink "KnowDisk" (248 : Nat) ({ cls := "java/util/ArrayList", name := "get", desc := "(I)Ljava/lang/Object;" } : Jvm.MethodName)) ∈ lw_all := lw_g (lw_at lw_m3 85 rfl) rfl
theorem q621 : (Jvm.Cond.methodLink "KnowDisk" (252 : Nat) ({ cls := "java/util/ArrayList", name := "remove", desc := "(I)Ljava/lang/Object;" } : Jvm.MethodName)) ∈ lw_all := lw_g (lw_at lw_m3 99 rfl) rfl
theorem q630 : (Jvm.Cond.constantLong "KnowDisk" (255 : Nat) (-1 : Int64)) ∈ lw_all := lw_g (lw_at lw_m3 108 rfl) rfl
theorem q632 : (Jvm.Cond.instanceMethod ({ cls := "KnowDisk", name := "full", desc := "(Z)Z" } : Jvm.MethodName)) ∈ lw_all := lw_g (lw_at lw_m3 110 rfl) rfl
theorem q633 : (Jvm.Cond.selects "KnowDisk" ({ cls := "KnowDisk", name := "full", desc := "(Z)Z" } : Jvm.MethodName) ({ cls := "KnowDisk", name := "full", desc := "(Z)Z" } : Jvm.MethodName)) ∈ lw_all := lw_g (lw_at lw_m3 111 rfl) rfl
theorem q634 : (Jvm.Cond.code ({ cls := "KnowDisk", name := "full", desc := "(Z)Z" } : Jvm.MethodName) prog_1_method_29_code (3 : Nat) (Option.some Jvm.ClassFile.FieldType.boolean)) ∈ lw_all := lw_g (lw_at lw_m3 112 rfl) rfl
theorem q715 : (Jvm.Cond.instanceMethod ({ cls := "KnowDisk", name := "at", desc := "(II)B" } : Jvm.MethodName)) ∈ lw_all := lw_g (lw_at lw_m3 193 rfl) rfl
theorem q716 : (Jvm.Cond.selects "KnowDisk" ({ cls := "KnowDisk", name := "at", desc := "(II)B" } : Jvm.MethodName) ({ cls := "KnowDisk", name := "at", desc := "(II)B" } : Jvm.MethodName)) ∈ lw_all := lw_g (lw_at lw_m3 194 rfl) rfl
theorem q717 : (Jvm.Cond.code ({ cls := "KnowDisk", name := "at", desc := "(II)B" } : Jvm.MethodName) prog_1_method_23_code (5 : Nat) (Option.some Jvm.ClassFile.FieldType.byte)) ∈ lw_all := lw_g (lw_at lw_m3 195 rfl) rfl
theorem q718 : (Jvm.Cond.methodLink "KnowDisk" (236 : Nat) ({ cls := "KnowDisk", name := "closed", desc := "(LKnowDisk$Sector;)LKnowDisk$Sector;" } : Jvm.MethodName)) ∈ lw_all := lw_g (lw_at lw_m3 196 rfl) rfl
theorem q719 : (Jvm.Cond.static ({ cls := "KnowDisk", name := "closed", desc := "(LKnowDisk$Sector;)LKnowDisk$Sector;" } : Jvm.MethodName)) ∈ lw_all := lw_g (lw_at lw_m3 197 rfl) rfl
theorem q720 : (Jvm.Cond.code ({ cls := "KnowDisk", name := "closed", desc := "(LKnowDisk$Sector;)LKnowDisk$Sector;" } : Jvm.MethodName) prog_1_method_24_code (1 : Nat) (Option.some (Jvm.ClassFile.FieldType.object "KnowDisk$Sector"))) ∈ lw_all := lw_g (lw_at lw_m3 198 rfl) rfl
theorem q948 : (Jvm.Cond.castable "KnowDisk" "java/lang/Object") ∈ lw_tbl := lw_at lw_m4 186 rfl
theorem in_X1 : ∀ w ∈ wsX10, w ∈ lw_all := lw_in wsX10 [225, 227, 229, 231, 233, 235, 237, 239, 241, 243] (by decide +kernel) (by decide +kernel)
/-! KnowDiskLaw -/
set_option maxRecDepth 100000
def RX0 : String := "KnowDiskLaw"
abbrev cX0_cell : ByteArray := method_2_code
def yX0_cell : MethodName := ⟨RX0, "cell", "([II)I"⟩
def dkwX0_cell_0 : List UInt8 := [27, 42, 190, 162, 0, 9, 42, 27, 46, 167, 0, 4, 3, 172]
abbrev dktX0_cell_0 : List UInt8 := dkwX0_cell_0 ++ []
theorem dksX0_cell_0 : cX0_cell.data.toList.drop 0 = dktX0_cell_0 := by decide +kernel
theorem dX0_cell_0 : decode cX0_cell 0 = .ok (.iload_n 1, 1) := dk_27 (dk_at dksX0_cell_0 0 rfl rfl)
theorem dX0_cell_1 : decode cX0_cell 1 = .ok (.aload_n 0, 1) := dk_42 (dk_at dksX0_cell_0 1 rfl rfl)
theorem dX0_cell_2 : decode cX0_cell 2 = .ok (.arraylength, 1) := dk_190 (dk_at dksX0_cell_0 2 rfl rfl)
theorem dX0_cell_3 : decode cX0_cell 3 = .ok (.if_icmp .ge 9, 3) := dk_162 0 9 (dk_at dksX0_cell_0 3 rfl rfl)
theorem dX0_cell_6 : decode cX0_cell 6 = .ok (.aload_n 0, 1) := dk_42 (dk_at dksX0_cell_0 6 rfl rfl)
theorem dX0_cell_7 : decode cX0_cell 7 = .ok (.iload_n 1, 1) := dk_27 (dk_at dksX0_cell_0 7 rfl rfl)
theorem dX0_cell_8 : decode cX0_cell 8 = .ok (.iaload, 1) := dk_46 (dk_at dksX0_cell_0 8 rfl rfl)
theorem dX0_cell_9 : decode cX0_cell 9 = .ok (.goto 4, 3) := dk_167 0 4 (dk_at dksX0_cell_0 9 rfl rfl)
theorem dX0_cell_12 : decode cX0_cell 12 = .ok (.iconst 0, 1) := dk_3 (dk_at dksX0_cell_0 12 rfl rfl)
theorem dX0_cell_13 : decode cX0_cell 13 = .ok (.ireturn, 1) := dk_172 (dk_at dksX0_cell_0 13 rfl rfl)
abbrev cX0_at : ByteArray := method_3_code
def yX0_at : MethodName := ⟨RX0, "at", "(LKnowDisk;II[J)I"⟩
def dkwX0_at_0 : List UInt8 := [45, 3, 42, 27, 28, 182, 0, 7, 133, 80, 167, 0, 7, 58, 4, 4, 172, 3, 172]
abbrev dktX0_at_0 : List UInt8 := dkwX0_at_0 ++ []
theorem dksX0_at_0 : cX0_at.data.toList.drop 0 = dktX0_at_0 := by decide +kernel
theorem dX0_at_0 : decode cX0_at 0 = .ok (.aload_n 3, 1) := dk_45 (dk_at dksX0_at_0 0 rfl rfl)
theorem dX0_at_1 : decode cX0_at 1 = .ok (.iconst 0, 1) := dk_3 (dk_at dksX0_at_0 1 rfl rfl)
theorem dX0_at_2 : decode cX0_at 2 = .ok (.aload_n 0, 1) := dk_42 (dk_at dksX0_at_0 2 rfl rfl)
theorem dX0_at_3 : decode cX0_at 3 = .ok (.iload_n 1, 1) := dk_27 (dk_at dksX0_at_0 3 rfl rfl)
theorem dX0_at_4 : decode cX0_at 4 = .ok (.iload_n 2, 1) := dk_28 (dk_at dksX0_at_0 4 rfl rfl)
theorem dX0_at_5 : decode cX0_at 5 = .ok (.invokevirtual 7, 3) := dk_182 0 7 (dk_at dksX0_at_0 5 rfl rfl)
theorem dX0_at_8 : decode cX0_at 8 = .ok (.i2l, 1) := dk_133 (dk_at dksX0_at_0 8 rfl rfl)
theorem dX0_at_9 : decode cX0_at 9 = .ok (.lastore, 1) := dk_80 (dk_at dksX0_at_0 9 rfl rfl)
theorem dX0_at_10 : decode cX0_at 10 = .ok (.goto 7, 3) := dk_167 0 7 (dk_at dksX0_at_0 10 rfl rfl)
theorem dX0_at_13 : decode cX0_at 13 = .ok (.astore 4, 2) := dk_58 4 (dk_at dksX0_at_0 13 rfl rfl)
theorem dX0_at_15 : decode cX0_at 15 = .ok (.iconst 1, 1) := dk_4 (dk_at dksX0_at_0 15 rfl rfl)
theorem dX0_at_16 : decode cX0_at 16 = .ok (.ireturn, 1) := dk_172 (dk_at dksX0_at_0 16 rfl rfl)
theorem dX0_at_17 : decode cX0_at 17 = .ok (.iconst 0, 1) := dk_3 (dk_at dksX0_at_0 17 rfl rfl)
theorem dX0_at_18 : decode cX0_at 18 = .ok (.ireturn, 1) := dk_172 (dk_at dksX0_at_0 18 rfl rfl)
theorem q42 : (Jvm.Cond.initialized "KnowDiskLaw") ∈ lw_all := lw_g (lw_at lw_m1 0 rfl) rfl
theorem q70 : (Jvm.Cond.classLink "KnowDiskLaw" (8 : Nat) "KnowDisk") ∈ lw_all := lw_g (lw_at lw_m1 28 rfl) rfl
theorem q72 : (Jvm.Cond.methodLink "KnowDiskLaw" (21 : Nat) ({ cls := "KnowDisk", name := "<init>", desc := "(I)V" } : Jvm.MethodName)) ∈ lw_all := lw_g (lw_at lw_m1 30 rfl) rfl
theorem q246 : (Jvm.Cond.methodLink "KnowDiskLaw" (29 : Nat) ({ cls := "KnowDisk", name := "page", desc := "(IIJ)I" } : Jvm.MethodName)) ∈ lw_all := lw_g (lw_at lw_m1 204 rfl) rfl
theorem q438 : (Jvm.Cond.methodLink "KnowDiskLaw" (77 : Nat) ({ cls := "KnowDisk", name := "derived", desc := "(I)I" } : Jvm.MethodName)) ∈ lw_all := lw_g (lw_at lw_m2 156 rfl) rfl
theorem q458 : (Jvm.Cond.methodLink "KnowDiskLaw" (34 : Nat) ({ cls := "KnowDisk", name := "commit", desc := "(I)I" } : Jvm.MethodName)) ∈ lw_all := lw_g (lw_at lw_m2 176 rfl) rfl
theorem q501 : (Jvm.Cond.methodLink "KnowDiskLaw" (39 : Nat) ({ cls := "KnowDisk", name := "sync", desc := "()I" } : Jvm.MethodName)) ∈ lw_all := lw_g (lw_at lw_m2 219 rfl) rfl
theorem q521 : (Jvm.Cond.methodLink "KnowDiskLaw" (44 : Nat) ({ cls := "KnowDisk", name := "cut", desc := "(II)V" } : Jvm.MethodName)) ∈ lw_all := lw_g (lw_at lw_m2 239 rfl) rfl
theorem q529 : (Jvm.Cond.methodLink "KnowDiskLaw" (49 : Nat) ({ cls := "KnowDisk", name := "start", desc := "()I" } : Jvm.MethodName)) ∈ lw_all := lw_g (lw_at lw_m3 7 rfl) rfl
theorem q550 : (Jvm.Cond.methodLink "KnowDiskLaw" (60 : Nat) ({ cls := "KnowDisk", name := "poke", desc := "(III)I" } : Jvm.MethodName)) ∈ lw_all := lw_g (lw_at lw_m3 28 rfl) rfl
theorem q558 : (Jvm.Cond.methodLink "KnowDiskLaw" (65 : Nat) ({ cls := "KnowDisk", name := "wrong", desc := "(I)I" } : Jvm.MethodName)) ∈ lw_all := lw_g (lw_at lw_m3 36 rfl) rfl
theorem q562 : (Jvm.Cond.methodLink "KnowDiskLaw" (69 : Nat) ({ cls := "KnowDisk", name := "backup", desc := "(I)I" } : Jvm.MethodName)) ∈ lw_all := lw_g (lw_at lw_m3 40 rfl) rfl
theorem q603 : (Jvm.Cond.methodLink "KnowDiskLaw" (73 : Nat) ({ cls := "KnowDisk", name := "drop", desc := "(I)I" } : Jvm.MethodName)) ∈ lw_all := lw_g (lw_at lw_m3 81 rfl) rfl
theorem q631 : (Jvm.Cond.methodLink "KnowDiskLaw" (81 : Nat) ({ cls := "KnowDisk", name := "full", desc := "(Z)Z" } : Jvm.MethodName)) ∈ lw_all := lw_g (lw_at lw_m3 109 rfl) rfl
theorem q635 : (Jvm.Cond.methodLink "KnowDiskLaw" (15 : Nat) ({ cls := "KnowDiskLaw", name := "cell", desc := "([II)I" } : Jvm.MethodName)) ∈ lw_all := lw_g (lw_at lw_m3 113 rfl) rfl
theorem q636 : (Jvm.Cond.static ({ cls := "KnowDiskLaw", name := "cell", desc := "([II)I" } : Jvm.MethodName)) ∈ lw_all := lw_g (lw_at lw_m3 114 rfl) rfl
theorem q637 : (Jvm.Cond.code ({ cls := "KnowDiskLaw", name := "cell", desc := "([II)I" } : Jvm.MethodName) method_2_code (2 : Nat) (Option.some Jvm.ClassFile.FieldType.int)) ∈ lw_all := lw_g (lw_at lw_m3 115 rfl) rfl
theorem q638 : (Jvm.Cond.methodLink "KnowDiskLaw" (53 : Nat) ({ cls := "KnowDiskLaw", name := "at", desc := "(LKnowDisk;II[J)I" } : Jvm.MethodName)) ∈ lw_all := lw_g (lw_at lw_m3 116 rfl) rfl
theorem q639 : (Jvm.Cond.static ({ cls := "KnowDiskLaw", name := "at", desc := "(LKnowDisk;II[J)I" } : Jvm.MethodName)) ∈ lw_all := lw_g (lw_at lw_m3 117 rfl) rfl
theorem q640 : (Jvm.Cond.codeWith ({ cls := "KnowDiskLaw", name := "at", desc := "(LKnowDisk;II[J)I" } : Jvm.MethodName) method_3_code (5 : Nat) (Option.some Jvm.ClassFile.FieldType.int) [((0 : Nat), (10 : Nat), (13 : Nat), (13 : Nat))]) ∈ lw_all := lw_g (lw_at lw_m3 118 rfl) rfl
theorem q641 : (Jvm.Cond.classLink "KnowDiskLaw" (13 : Nat) "java/lang/ArrayIndexOutOfBoundsException") ∈ lw_all := lw_g (lw_at lw_m3 119 rfl) rfl
theorem q714 : (Jvm.Cond.methodLink "KnowDiskLaw" (7 : Nat) ({ cls := "KnowDisk", name := "at", desc := "(II)B" } : Jvm.MethodName)) ∈ lw_all := lw_g (lw_at lw_m3 192 rfl) rfl
theorem q721 : (Jvm.Cond.classLink "KnowDiskLaw" (24 : Nat) "KnowDiskModel") ∈ lw_all := lw_g (lw_at lw_m3 199 rfl) rfl
theorem q723 : (Jvm.Cond.methodLink "KnowDiskLaw" (26 : Nat) ({ cls := "KnowDiskModel", name := "<init>", desc := "(I)V" } : Jvm.MethodName)) ∈ lw_all := lw_g (lw_at lw_m3 201 rfl) rfl
theorem q801 : (Jvm.Cond.methodLink "KnowDiskLaw" (33 : Nat) ({ cls := "KnowDiskModel", name := "page", desc := "(IIJ)I" } : Jvm.MethodName)) ∈ lw_all := lw_g (lw_at lw_m4 39 rfl) rfl
theorem q869 : (Jvm.Cond.methodLink "KnowDiskLaw" (80 : Nat) ({ cls := "KnowDiskModel", name := "derived", desc := "(I)I" } : Jvm.MethodName)) ∈ lw_all := lw_g (lw_at lw_m4 107 rfl) rfl
theorem q876 : (Jvm.Cond.methodLink "KnowDiskLaw" (38 : Nat) ({ cls := "KnowDiskModel", name := "commit", desc := "(I)I" } : Jvm.MethodName)) ∈ lw_all := lw_g (lw_at lw_m4 114 rfl) rfl
theorem q885 : (Jvm.Cond.methodLink "KnowDiskLaw" (43 : Nat) ({ cls := "KnowDiskModel", name := "sync", desc := "()I" } : Jvm.MethodName)) ∈ lw_all := lw_g (lw_at lw_m4 123 rfl) rfl
theorem q897 : (Jvm.Cond.methodLink "KnowDiskLaw" (48 : Nat) ({ cls := "KnowDiskModel", name := "cut", desc := "(II)V" } : Jvm.MethodName)) ∈ lw_all := lw_g (lw_at lw_m4 135 rfl) rfl
theorem q901 : (Jvm.Cond.methodLink "KnowDiskLaw" (52 : Nat) ({ cls := "KnowDiskModel", name := "start", desc := "()I" } : Jvm.MethodName)) ∈ lw_all := lw_g (lw_at lw_m4 139 rfl) rfl
theorem q909 : (Jvm.Cond.methodLink "KnowDiskLaw" (56 : Nat) ({ cls := "KnowDiskModel", name := "at", desc := "(II)B" } : Jvm.MethodName)) ∈ lw_all := lw_g (lw_at lw_m4 147 rfl) rfl
theorem q913 : (Jvm.Cond.methodLink "KnowDiskLaw" (57 : Nat) ({ cls := "KnowDiskModel", name := "thrown", desc := "()I" } : Jvm.MethodName)) ∈ lw_all := lw_g (lw_at lw_m4 151 rfl) rfl
theorem q917 : (Jvm.Cond.methodLink "KnowDiskLaw" (64 : Nat) ({ cls := "KnowDiskModel", name := "poke", desc := "(III)I" } : Jvm.MethodName)) ∈ lw_all := lw_g (lw_at lw_m4 155 rfl) rfl
theorem q921 : (Jvm.Cond.methodLink "KnowDiskLaw" (68 : Nat) ({ cls := "KnowDiskModel", name := "wrong", desc := "(I)I" } : Jvm.MethodName)) ∈ lw_all := lw_g (lw_at lw_m4 159 rfl) rfl
theorem q925 : (Jvm.Cond.methodLink "KnowDiskLaw" (72 : Nat) ({ cls := "KnowDiskModel", name := "backup", desc := "(I)I" } : Jvm.MethodName)) ∈ lw_all := lw_g (lw_at lw_m4 163 rfl) rfl
theorem q932 : (Jvm.Cond.methodLink "KnowDiskLaw" (76 : Nat) ({ cls := "KnowDiskModel", name := "drop", desc := "(I)I" } : Jvm.MethodName)) ∈ lw_all := lw_g (lw_at lw_m4 170 rfl) rfl
theorem q940 : (Jvm.Cond.methodLink "KnowDiskLaw" (85 : Nat) ({ cls := "KnowDiskModel", name := "full", desc := "(Z)Z" } : Jvm.MethodName)) ∈ lw_all := lw_g (lw_at lw_m4 178 rfl) rfl
theorem q944 : (Jvm.Cond.constantLong "KnowDiskLaw" (27 : Nat) (4294967295 : Int64)) ∈ lw_all := lw_g (lw_at lw_m4 182 rfl) rfl
