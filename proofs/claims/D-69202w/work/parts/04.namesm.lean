/-! KnowDiskModel -/
set_option maxRecDepth 100000
def RX3 : String := "KnowDiskModel"
def TX3 : u_T := fun k => match k with
  | 0 => ("KnowDiskModel", "count", "I", true)
  | 1 => ("KnowDiskModel", "runs", "Z", false)
  | 2 => ("KnowDiskModel", "full", "Z", false)
  | 3 => ("KnowDiskModel", "disk", "[I", true)
  | 4 => ("KnowDiskModel", "later", "[I", true)
  | 5 => ("KnowDiskModel", "open", "[I", true)
  | 6 => ("KnowDiskModel", "laid", "[Z", true)
  | 7 => ("KnowDiskModel", "places", "[I", true)
  | 8 => ("KnowDiskModel", "changed", "Z", false)
  | 9 => ("KnowDiskModel", "targets", "[I", true)
  | 10 => ("KnowDiskModel", "bytes", "[I", true)
  | 11 => ("KnowDiskModel", "first", "I", false)
  | 12 => ("KnowDiskModel", "behind", "I", false)
  | 13 => ("KnowDiskModel", "numbers", "[I", true)
  | 14 => ("KnowDiskModel", "sectors", "[J", true)
  | 15 => ("KnowDiskModel", "oldest", "I", false)
  | 16 => ("KnowDiskModel", "newest", "I", false)
  | 17 => ("KnowDiskModel", "keptNumbers", "[I", true)
  | 18 => ("KnowDiskModel", "keptSectors", "[J", true)
  | 19 => ("KnowDiskModel", "kept", "I", false)
  | 20 => ("KnowDiskModel", "thrown", "Z", false)
  | _ => ("KnowDiskModel", "head", "[I", true)
def tyX3 : Nat → FieldType := fun k => match k with
  | 0 => .int
  | 1 => .boolean
  | 2 => .boolean
  | 3 => .array .int
  | 4 => .array .int
  | 5 => .array .int
  | 6 => .array .boolean
  | 7 => .array .int
  | 8 => .boolean
  | 9 => .array .int
  | 10 => .array .int
  | 11 => .int
  | 12 => .int
  | 13 => .array .int
  | 14 => .array .long
  | 15 => .int
  | 16 => .int
  | 17 => .array .int
  | 18 => .array .long
  | 19 => .int
  | 20 => .boolean
  | _ => .array .int
abbrev wsX30 : List Cond := u_ws RX3 TX3 22
set_option maxRecDepth 100000 in
theorem nmX3 : ∀ a, a < 22 → ∀ b, b < 22 → a ≠ b → (TX3 a).2.1 ≠ (TX3 b).2.1 := by decide +kernel
set_option maxRecDepth 100000 in
theorem tyX3_ok : ∀ k, k < 22 → parseFieldDescriptor (TX3 k).2.2.1 = some (tyX3 k) := by decide +kernel
abbrev cX3_init : ByteArray := prog_6_method_1_code
def yX3_init : MethodName := ⟨RX3, "<init>", "(I)V"⟩
def dkwX3_init_5 : List UInt8 := [156, 0, 10, 28, 16, 57, 96, 167, 0, 4, 28, 96, 181, 0, 53, 42, 3, 9, 182, 0, 57, 177]
abbrev dktX3_init_5 : List UInt8 := dkwX3_init_5 ++ []
def dkwX3_init_4 : List UInt8 := [42, 7, 188, 11, 181, 0, 47, 42, 16, 32, 188, 10, 181, 0, 50, 27, 16, 57, 112, 61, 42, 16, 8, 28]
abbrev dktX3_init_4 : List UInt8 := dkwX3_init_4 ++ dktX3_init_5
def dkwX3_init_3 : List UInt8 := [17, 4, 176, 188, 10, 181, 0, 37, 42, 17, 4, 176, 188, 11, 181, 0, 40, 42, 7, 188, 10, 181, 0, 44]
abbrev dktX3_init_3 : List UInt8 := dkwX3_init_3 ++ dktX3_init_4
def dkwX3_init_2 : List UInt8 := [188, 10, 181, 0, 27, 42, 17, 4, 176, 188, 10, 181, 0, 30, 42, 18, 33, 188, 10, 181, 0, 34, 42]
abbrev dktX3_init_2 : List UInt8 := dkwX3_init_2 ++ dktX3_init_3
def dkwX3_init_1 : List UInt8 := [181, 0, 17, 42, 17, 8, 0, 188, 10, 181, 0, 20, 42, 16, 64, 188, 4, 181, 0, 23, 42, 16, 30]
abbrev dktX3_init_1 : List UInt8 := dkwX3_init_1 ++ dktX3_init_2
def dkwX3_init_0 : List UInt8 := [42, 183, 0, 1, 42, 4, 181, 0, 7, 42, 17, 8, 0, 188, 10, 181, 0, 13, 42, 17, 8, 0, 188, 10]
abbrev dktX3_init_0 : List UInt8 := dkwX3_init_0 ++ dktX3_init_1
theorem dksX3_init_0 : cX3_init.data.toList.drop 0 = dktX3_init_0 := by decide +kernel
theorem dksX3_init_1 : cX3_init.data.toList.drop 24 = dktX3_init_1 := dk_seg dksX3_init_0 24 rfl rfl
theorem dksX3_init_2 : cX3_init.data.toList.drop 47 = dktX3_init_2 := dk_seg dksX3_init_1 23 rfl rfl
theorem dksX3_init_3 : cX3_init.data.toList.drop 70 = dktX3_init_3 := dk_seg dksX3_init_2 23 rfl rfl
theorem dksX3_init_4 : cX3_init.data.toList.drop 94 = dktX3_init_4 := dk_seg dksX3_init_3 24 rfl rfl
theorem dksX3_init_5 : cX3_init.data.toList.drop 118 = dktX3_init_5 := dk_seg dksX3_init_4 24 rfl rfl
theorem dX3_init_0 : decode cX3_init 0 = .ok (.aload_n 0, 1) := dk_42 (dk_at dksX3_init_0 0 rfl rfl)
theorem dX3_init_1 : decode cX3_init 1 = .ok (.invokespecial 1, 3) := dk_183 0 1 (dk_at dksX3_init_0 1 rfl rfl)
theorem dX3_init_4 : decode cX3_init 4 = .ok (.aload_n 0, 1) := dk_42 (dk_at dksX3_init_0 4 rfl rfl)
theorem dX3_init_5 : decode cX3_init 5 = .ok (.iconst 1, 1) := dk_4 (dk_at dksX3_init_0 5 rfl rfl)
theorem dX3_init_6 : decode cX3_init 6 = .ok (.putfield 7, 3) := dk_181 0 7 (dk_at dksX3_init_0 6 rfl rfl)
theorem dX3_init_9 : decode cX3_init 9 = .ok (.aload_n 0, 1) := dk_42 (dk_at dksX3_init_0 9 rfl rfl)
theorem dX3_init_10 : decode cX3_init 10 = .ok (.sipush 2048, 3) := dk_17 8 0 (dk_at dksX3_init_0 10 rfl rfl)
theorem dX3_init_13 : decode cX3_init 13 = .ok (.newarray .int, 2) := dk_188_10 (dk_at dksX3_init_0 13 rfl rfl)
theorem dX3_init_15 : decode cX3_init 15 = .ok (.putfield 13, 3) := dk_181 0 13 (dk_at dksX3_init_0 15 rfl rfl)
theorem dX3_init_18 : decode cX3_init 18 = .ok (.aload_n 0, 1) := dk_42 (dk_at dksX3_init_0 18 rfl rfl)
theorem dX3_init_19 : decode cX3_init 19 = .ok (.sipush 2048, 3) := dk_17 8 0 (dk_at dksX3_init_0 19 rfl rfl)
theorem dX3_init_22 : decode cX3_init 22 = .ok (.newarray .int, 2) := dk_188_10 (dk_at dksX3_init_0 22 rfl rfl)
theorem dX3_init_24 : decode cX3_init 24 = .ok (.putfield 17, 3) := dk_181 0 17 (dk_at dksX3_init_1 0 rfl rfl)
theorem dX3_init_27 : decode cX3_init 27 = .ok (.aload_n 0, 1) := dk_42 (dk_at dksX3_init_1 3 rfl rfl)
theorem dX3_init_28 : decode cX3_init 28 = .ok (.sipush 2048, 3) := dk_17 8 0 (dk_at dksX3_init_1 4 rfl rfl)
theorem dX3_init_31 : decode cX3_init 31 = .ok (.newarray .int, 2) := dk_188_10 (dk_at dksX3_init_1 7 rfl rfl)
theorem dX3_init_33 : decode cX3_init 33 = .ok (.putfield 20, 3) := dk_181 0 20 (dk_at dksX3_init_1 9 rfl rfl)
theorem dX3_init_36 : decode cX3_init 36 = .ok (.aload_n 0, 1) := dk_42 (dk_at dksX3_init_1 12 rfl rfl)
theorem dX3_init_37 : decode cX3_init 37 = .ok (.bipush 64, 2) := dk_16 64 (dk_at dksX3_init_1 13 rfl rfl)
theorem dX3_init_39 : decode cX3_init 39 = .ok (.newarray .boolean, 2) := dk_188_4 (dk_at dksX3_init_1 15 rfl rfl)
theorem dX3_init_41 : decode cX3_init 41 = .ok (.putfield 23, 3) := dk_181 0 23 (dk_at dksX3_init_1 17 rfl rfl)
theorem dX3_init_44 : decode cX3_init 44 = .ok (.aload_n 0, 1) := dk_42 (dk_at dksX3_init_1 20 rfl rfl)
theorem dX3_init_45 : decode cX3_init 45 = .ok (.bipush 30, 2) := dk_16 30 (dk_at dksX3_init_1 21 rfl rfl)
theorem dX3_init_47 : decode cX3_init 47 = .ok (.newarray .int, 2) := dk_188_10 (dk_at dksX3_init_2 0 rfl rfl)
theorem dX3_init_49 : decode cX3_init 49 = .ok (.putfield 27, 3) := dk_181 0 27 (dk_at dksX3_init_2 2 rfl rfl)
theorem dX3_init_52 : decode cX3_init 52 = .ok (.aload_n 0, 1) := dk_42 (dk_at dksX3_init_2 5 rfl rfl)
theorem dX3_init_53 : decode cX3_init 53 = .ok (.sipush 1200, 3) := dk_17 4 176 (dk_at dksX3_init_2 6 rfl rfl)
theorem dX3_init_56 : decode cX3_init 56 = .ok (.newarray .int, 2) := dk_188_10 (dk_at dksX3_init_2 9 rfl rfl)
theorem dX3_init_58 : decode cX3_init 58 = .ok (.putfield 30, 3) := dk_181 0 30 (dk_at dksX3_init_2 11 rfl rfl)
theorem dX3_init_61 : decode cX3_init 61 = .ok (.aload_n 0, 1) := dk_42 (dk_at dksX3_init_2 14 rfl rfl)
theorem dX3_init_62 : decode cX3_init 62 = .ok (.ldc 33, 2) := dk_18 33 (dk_at dksX3_init_2 15 rfl rfl)
theorem dX3_init_64 : decode cX3_init 64 = .ok (.newarray .int, 2) := dk_188_10 (dk_at dksX3_init_2 17 rfl rfl)
theorem dX3_init_66 : decode cX3_init 66 = .ok (.putfield 34, 3) := dk_181 0 34 (dk_at dksX3_init_2 19 rfl rfl)
theorem dX3_init_69 : decode cX3_init 69 = .ok (.aload_n 0, 1) := dk_42 (dk_at dksX3_init_2 22 rfl rfl)
theorem dX3_init_70 : decode cX3_init 70 = .ok (.sipush 1200, 3) := dk_17 4 176 (dk_at dksX3_init_3 0 rfl rfl)
theorem dX3_init_73 : decode cX3_init 73 = .ok (.newarray .int, 2) := dk_188_10 (dk_at dksX3_init_3 3 rfl rfl)
theorem dX3_init_75 : decode cX3_init 75 = .ok (.putfield 37, 3) := dk_181 0 37 (dk_at dksX3_init_3 5 rfl rfl)
theorem dX3_init_78 : decode cX3_init 78 = .ok (.aload_n 0, 1) := dk_42 (dk_at dksX3_init_3 8 rfl rfl)
theorem dX3_init_79 : decode cX3_init 79 = .ok (.sipush 1200, 3) := dk_17 4 176 (dk_at dksX3_init_3 9 rfl rfl)
theorem dX3_init_82 : decode cX3_init 82 = .ok (.newarray .long, 2) := dk_188_11 (dk_at dksX3_init_3 12 rfl rfl)
theorem dX3_init_84 : decode cX3_init 84 = .ok (.putfield 40, 3) := dk_181 0 40 (dk_at dksX3_init_3 14 rfl rfl)
theorem dX3_init_87 : decode cX3_init 87 = .ok (.aload_n 0, 1) := dk_42 (dk_at dksX3_init_3 17 rfl rfl)
theorem dX3_init_88 : decode cX3_init 88 = .ok (.iconst 4, 1) := dk_7 (dk_at dksX3_init_3 18 rfl rfl)
theorem dX3_init_89 : decode cX3_init 89 = .ok (.newarray .int, 2) := dk_188_10 (dk_at dksX3_init_3 19 rfl rfl)
theorem dX3_init_91 : decode cX3_init 91 = .ok (.putfield 44, 3) := dk_181 0 44 (dk_at dksX3_init_3 21 rfl rfl)
theorem dX3_init_94 : decode cX3_init 94 = .ok (.aload_n 0, 1) := dk_42 (dk_at dksX3_init_4 0 rfl rfl)
theorem dX3_init_95 : decode cX3_init 95 = .ok (.iconst 4, 1) := dk_7 (dk_at dksX3_init_4 1 rfl rfl)
theorem dX3_init_96 : decode cX3_init 96 = .ok (.newarray .long, 2) := dk_188_11 (dk_at dksX3_init_4 2 rfl rfl)
theorem dX3_init_98 : decode cX3_init 98 = .ok (.putfield 47, 3) := dk_181 0 47 (dk_at dksX3_init_4 4 rfl rfl)
theorem dX3_init_101 : decode cX3_init 101 = .ok (.aload_n 0, 1) := dk_42 (dk_at dksX3_init_4 7 rfl rfl)
theorem dX3_init_102 : decode cX3_init 102 = .ok (.bipush 32, 2) := dk_16 32 (dk_at dksX3_init_4 8 rfl rfl)
theorem dX3_init_104 : decode cX3_init 104 = .ok (.newarray .int, 2) := dk_188_10 (dk_at dksX3_init_4 10 rfl rfl)
theorem dX3_init_106 : decode cX3_init 106 = .ok (.putfield 50, 3) := dk_181 0 50 (dk_at dksX3_init_4 12 rfl rfl)
theorem dX3_init_109 : decode cX3_init 109 = .ok (.iload_n 1, 1) := dk_27 (dk_at dksX3_init_4 15 rfl rfl)
theorem dX3_init_110 : decode cX3_init 110 = .ok (.bipush 57, 2) := dk_16 57 (dk_at dksX3_init_4 16 rfl rfl)
theorem dX3_init_112 : decode cX3_init 112 = .ok (.irem, 1) := dk_112 (dk_at dksX3_init_4 18 rfl rfl)
theorem dX3_init_113 : decode cX3_init 113 = .ok (.istore_n 2, 1) := dk_61 (dk_at dksX3_init_4 19 rfl rfl)
theorem dX3_init_114 : decode cX3_init 114 = .ok (.aload_n 0, 1) := dk_42 (dk_at dksX3_init_4 20 rfl rfl)
theorem dX3_init_115 : decode cX3_init 115 = .ok (.bipush 8, 2) := dk_16 8 (dk_at dksX3_init_4 21 rfl rfl)
theorem dX3_init_117 : decode cX3_init 117 = .ok (.iload_n 2, 1) := dk_28 (dk_at dksX3_init_4 23 rfl rfl)
theorem dX3_init_118 : decode cX3_init 118 = .ok (.ifCond .ge 10, 3) := dk_156 0 10 (dk_at dksX3_init_5 0 rfl rfl)
theorem dX3_init_121 : decode cX3_init 121 = .ok (.iload_n 2, 1) := dk_28 (dk_at dksX3_init_5 3 rfl rfl)
theorem dX3_init_122 : decode cX3_init 122 = .ok (.bipush 57, 2) := dk_16 57 (dk_at dksX3_init_5 4 rfl rfl)
theorem dX3_init_124 : decode cX3_init 124 = .ok (.iadd, 1) := dk_96 (dk_at dksX3_init_5 6 rfl rfl)
theorem dX3_init_125 : decode cX3_init 125 = .ok (.goto 4, 3) := dk_167 0 4 (dk_at dksX3_init_5 7 rfl rfl)
theorem dX3_init_128 : decode cX3_init 128 = .ok (.iload_n 2, 1) := dk_28 (dk_at dksX3_init_5 10 rfl rfl)
theorem dX3_init_129 : decode cX3_init 129 = .ok (.iadd, 1) := dk_96 (dk_at dksX3_init_5 11 rfl rfl)
theorem dX3_init_130 : decode cX3_init 130 = .ok (.putfield 53, 3) := dk_181 0 53 (dk_at dksX3_init_5 12 rfl rfl)
theorem dX3_init_133 : decode cX3_init 133 = .ok (.aload_n 0, 1) := dk_42 (dk_at dksX3_init_5 15 rfl rfl)
theorem dX3_init_134 : decode cX3_init 134 = .ok (.iconst 0, 1) := dk_3 (dk_at dksX3_init_5 16 rfl rfl)
theorem dX3_init_135 : decode cX3_init 135 = .ok (.lconst 0, 1) := dk_9 (dk_at dksX3_init_5 17 rfl rfl)
theorem dX3_init_136 : decode cX3_init 136 = .ok (.invokevirtual 57, 3) := dk_182 0 57 (dk_at dksX3_init_5 18 rfl rfl)
theorem dX3_init_139 : decode cX3_init 139 = .ok (.return_, 1) := dk_177 (dk_at dksX3_init_5 21 rfl rfl)
abbrev cX3_begin : ByteArray := prog_6_method_2_code
def yX3_begin : MethodName := ⟨RX3, "begin", "(IJ)V"⟩
def dkwX3_begin_5 : List UInt8 := [132, 4, 1, 167, 255, 231, 177]
abbrev dktX3_begin_5 : List UInt8 := dkwX3_begin_5 ++ []
def dkwX3_begin_4 : List UInt8 := [21, 4, 17, 8, 0, 162, 0, 23, 42, 180, 0, 17, 21, 4, 42, 180, 0, 13, 21, 4, 46, 79]
abbrev dktX3_begin_4 : List UInt8 := dkwX3_begin_4 ++ dktX3_begin_5
def dkwX3_begin_3 : List UInt8 := [21, 4, 16, 64, 162, 0, 17, 42, 180, 0, 23, 21, 4, 3, 84, 132, 4, 1, 167, 255, 238, 3, 54, 4]
abbrev dktX3_begin_3 : List UInt8 := dkwX3_begin_3 ++ dktX3_begin_4
def dkwX3_begin_2 : List UInt8 := [21, 4, 16, 30, 162, 0, 17, 42, 180, 0, 27, 21, 4, 2, 79, 132, 4, 1, 167, 255, 238, 3, 54, 4]
abbrev dktX3_begin_2 : List UInt8 := dkwX3_begin_2 ++ dktX3_begin_3
def dkwX3_begin_1 : List UInt8 := [42, 3, 181, 0, 67, 42, 3, 181, 0, 70, 42, 3, 181, 0, 73, 42, 3, 181, 0, 76, 3, 54, 4]
abbrev dktX3_begin_1 : List UInt8 := dkwX3_begin_1 ++ dktX3_begin_2
def dkwX3_begin_0 : List UInt8 := [42, 3, 181, 0, 61, 42, 3, 181, 0, 64, 42, 180, 0, 37, 3, 27, 79, 42, 180, 0, 40, 3, 32, 80]
abbrev dktX3_begin_0 : List UInt8 := dkwX3_begin_0 ++ dktX3_begin_1
theorem dksX3_begin_0 : cX3_begin.data.toList.drop 0 = dktX3_begin_0 := by decide +kernel
theorem dksX3_begin_1 : cX3_begin.data.toList.drop 24 = dktX3_begin_1 := dk_seg dksX3_begin_0 24 rfl rfl
theorem dksX3_begin_2 : cX3_begin.data.toList.drop 47 = dktX3_begin_2 := dk_seg dksX3_begin_1 23 rfl rfl
theorem dksX3_begin_3 : cX3_begin.data.toList.drop 71 = dktX3_begin_3 := dk_seg dksX3_begin_2 24 rfl rfl
theorem dksX3_begin_4 : cX3_begin.data.toList.drop 95 = dktX3_begin_4 := dk_seg dksX3_begin_3 24 rfl rfl
theorem dksX3_begin_5 : cX3_begin.data.toList.drop 117 = dktX3_begin_5 := dk_seg dksX3_begin_4 22 rfl rfl
theorem dX3_begin_0 : decode cX3_begin 0 = .ok (.aload_n 0, 1) := dk_42 (dk_at dksX3_begin_0 0 rfl rfl)
theorem dX3_begin_1 : decode cX3_begin 1 = .ok (.iconst 0, 1) := dk_3 (dk_at dksX3_begin_0 1 rfl rfl)
theorem dX3_begin_2 : decode cX3_begin 2 = .ok (.putfield 61, 3) := dk_181 0 61 (dk_at dksX3_begin_0 2 rfl rfl)
theorem dX3_begin_5 : decode cX3_begin 5 = .ok (.aload_n 0, 1) := dk_42 (dk_at dksX3_begin_0 5 rfl rfl)
theorem dX3_begin_6 : decode cX3_begin 6 = .ok (.iconst 0, 1) := dk_3 (dk_at dksX3_begin_0 6 rfl rfl)
theorem dX3_begin_7 : decode cX3_begin 7 = .ok (.putfield 64, 3) := dk_181 0 64 (dk_at dksX3_begin_0 7 rfl rfl)
theorem dX3_begin_10 : decode cX3_begin 10 = .ok (.aload_n 0, 1) := dk_42 (dk_at dksX3_begin_0 10 rfl rfl)
theorem dX3_begin_11 : decode cX3_begin 11 = .ok (.getfield 37, 3) := dk_180 0 37 (dk_at dksX3_begin_0 11 rfl rfl)
theorem dX3_begin_14 : decode cX3_begin 14 = .ok (.iconst 0, 1) := dk_3 (dk_at dksX3_begin_0 14 rfl rfl)
theorem dX3_begin_15 : decode cX3_begin 15 = .ok (.iload_n 1, 1) := dk_27 (dk_at dksX3_begin_0 15 rfl rfl)
theorem dX3_begin_16 : decode cX3_begin 16 = .ok (.iastore, 1) := dk_79 (dk_at dksX3_begin_0 16 rfl rfl)
theorem dX3_begin_17 : decode cX3_begin 17 = .ok (.aload_n 0, 1) := dk_42 (dk_at dksX3_begin_0 17 rfl rfl)
theorem dX3_begin_18 : decode cX3_begin 18 = .ok (.getfield 40, 3) := dk_180 0 40 (dk_at dksX3_begin_0 18 rfl rfl)
theorem dX3_begin_21 : decode cX3_begin 21 = .ok (.iconst 0, 1) := dk_3 (dk_at dksX3_begin_0 21 rfl rfl)
theorem dX3_begin_22 : decode cX3_begin 22 = .ok (.lload_n 2, 1) := dk_32 (dk_at dksX3_begin_0 22 rfl rfl)
theorem dX3_begin_23 : decode cX3_begin 23 = .ok (.lastore, 1) := dk_80 (dk_at dksX3_begin_0 23 rfl rfl)
theorem dX3_begin_24 : decode cX3_begin 24 = .ok (.aload_n 0, 1) := dk_42 (dk_at dksX3_begin_1 0 rfl rfl)
theorem dX3_begin_25 : decode cX3_begin 25 = .ok (.iconst 0, 1) := dk_3 (dk_at dksX3_begin_1 1 rfl rfl)
theorem dX3_begin_26 : decode cX3_begin 26 = .ok (.putfield 67, 3) := dk_181 0 67 (dk_at dksX3_begin_1 2 rfl rfl)
theorem dX3_begin_29 : decode cX3_begin 29 = .ok (.aload_n 0, 1) := dk_42 (dk_at dksX3_begin_1 5 rfl rfl)
theorem dX3_begin_30 : decode cX3_begin 30 = .ok (.iconst 0, 1) := dk_3 (dk_at dksX3_begin_1 6 rfl rfl)
theorem dX3_begin_31 : decode cX3_begin 31 = .ok (.putfield 70, 3) := dk_181 0 70 (dk_at dksX3_begin_1 7 rfl rfl)
theorem dX3_begin_34 : decode cX3_begin 34 = .ok (.aload_n 0, 1) := dk_42 (dk_at dksX3_begin_1 10 rfl rfl)
theorem dX3_begin_35 : decode cX3_begin 35 = .ok (.iconst 0, 1) := dk_3 (dk_at dksX3_begin_1 11 rfl rfl)
theorem dX3_begin_36 : decode cX3_begin 36 = .ok (.putfield 73, 3) := dk_181 0 73 (dk_at dksX3_begin_1 12 rfl rfl)
theorem dX3_begin_39 : decode cX3_begin 39 = .ok (.aload_n 0, 1) := dk_42 (dk_at dksX3_begin_1 15 rfl rfl)
theorem dX3_begin_40 : decode cX3_begin 40 = .ok (.iconst 0, 1) := dk_3 (dk_at dksX3_begin_1 16 rfl rfl)
theorem dX3_begin_41 : decode cX3_begin 41 = .ok (.putfield 76, 3) := dk_181 0 76 (dk_at dksX3_begin_1 17 rfl rfl)
theorem dX3_begin_44 : decode cX3_begin 44 = .ok (.iconst 0, 1) := dk_3 (dk_at dksX3_begin_1 20 rfl rfl)
theorem dX3_begin_45 : decode cX3_begin 45 = .ok (.istore 4, 2) := dk_54 4 (dk_at dksX3_begin_1 21 rfl rfl)
theorem dX3_begin_47 : decode cX3_begin 47 = .ok (.iload 4, 2) := dk_21 4 (dk_at dksX3_begin_2 0 rfl rfl)
theorem dX3_begin_49 : decode cX3_begin 49 = .ok (.bipush 30, 2) := dk_16 30 (dk_at dksX3_begin_2 2 rfl rfl)
theorem dX3_begin_51 : decode cX3_begin 51 = .ok (.if_icmp .ge 17, 3) := dk_162 0 17 (dk_at dksX3_begin_2 4 rfl rfl)
theorem dX3_begin_54 : decode cX3_begin 54 = .ok (.aload_n 0, 1) := dk_42 (dk_at dksX3_begin_2 7 rfl rfl)
theorem dX3_begin_55 : decode cX3_begin 55 = .ok (.getfield 27, 3) := dk_180 0 27 (dk_at dksX3_begin_2 8 rfl rfl)
theorem dX3_begin_58 : decode cX3_begin 58 = .ok (.iload 4, 2) := dk_21 4 (dk_at dksX3_begin_2 11 rfl rfl)
theorem dX3_begin_60 : decode cX3_begin 60 = .ok (.iconst (-1), 1) := dk_2 (dk_at dksX3_begin_2 13 rfl rfl)
theorem dX3_begin_61 : decode cX3_begin 61 = .ok (.iastore, 1) := dk_79 (dk_at dksX3_begin_2 14 rfl rfl)
theorem dX3_begin_62 : decode cX3_begin 62 = .ok (.iinc 4 1, 3) := dk_132 4 1 (dk_at dksX3_begin_2 15 rfl rfl)
theorem dX3_begin_65 : decode cX3_begin 65 = .ok (.goto (-18), 3) := dk_167 255 238 (dk_at dksX3_begin_2 18 rfl rfl)
theorem dX3_begin_68 : decode cX3_begin 68 = .ok (.iconst 0, 1) := dk_3 (dk_at dksX3_begin_2 21 rfl rfl)
theorem dX3_begin_69 : decode cX3_begin 69 = .ok (.istore 4, 2) := dk_54 4 (dk_at dksX3_begin_2 22 rfl rfl)
theorem dX3_begin_71 : decode cX3_begin 71 = .ok (.iload 4, 2) := dk_21 4 (dk_at dksX3_begin_3 0 rfl rfl)
theorem dX3_begin_73 : decode cX3_begin 73 = .ok (.bipush 64, 2) := dk_16 64 (dk_at dksX3_begin_3 2 rfl rfl)
theorem dX3_begin_75 : decode cX3_begin 75 = .ok (.if_icmp .ge 17, 3) := dk_162 0 17 (dk_at dksX3_begin_3 4 rfl rfl)
theorem dX3_begin_78 : decode cX3_begin 78 = .ok (.aload_n 0, 1) := dk_42 (dk_at dksX3_begin_3 7 rfl rfl)
theorem dX3_begin_79 : decode cX3_begin 79 = .ok (.getfield 23, 3) := dk_180 0 23 (dk_at dksX3_begin_3 8 rfl rfl)
theorem dX3_begin_82 : decode cX3_begin 82 = .ok (.iload 4, 2) := dk_21 4 (dk_at dksX3_begin_3 11 rfl rfl)
theorem dX3_begin_84 : decode cX3_begin 84 = .ok (.iconst 0, 1) := dk_3 (dk_at dksX3_begin_3 13 rfl rfl)
theorem dX3_begin_85 : decode cX3_begin 85 = .ok (.bastore, 1) := dk_84 (dk_at dksX3_begin_3 14 rfl rfl)
theorem dX3_begin_86 : decode cX3_begin 86 = .ok (.iinc 4 1, 3) := dk_132 4 1 (dk_at dksX3_begin_3 15 rfl rfl)
theorem dX3_begin_89 : decode cX3_begin 89 = .ok (.goto (-18), 3) := dk_167 255 238 (dk_at dksX3_begin_3 18 rfl rfl)
theorem dX3_begin_92 : decode cX3_begin 92 = .ok (.iconst 0, 1) := dk_3 (dk_at dksX3_begin_3 21 rfl rfl)
theorem dX3_begin_93 : decode cX3_begin 93 = .ok (.istore 4, 2) := dk_54 4 (dk_at dksX3_begin_3 22 rfl rfl)
theorem dX3_begin_95 : decode cX3_begin 95 = .ok (.iload 4, 2) := dk_21 4 (dk_at dksX3_begin_4 0 rfl rfl)
theorem dX3_begin_97 : decode cX3_begin 97 = .ok (.sipush 2048, 3) := dk_17 8 0 (dk_at dksX3_begin_4 2 rfl rfl)
theorem dX3_begin_100 : decode cX3_begin 100 = .ok (.if_icmp .ge 23, 3) := dk_162 0 23 (dk_at dksX3_begin_4 5 rfl rfl)
theorem dX3_begin_103 : decode cX3_begin 103 = .ok (.aload_n 0, 1) := dk_42 (dk_at dksX3_begin_4 8 rfl rfl)
theorem dX3_begin_104 : decode cX3_begin 104 = .ok (.getfield 17, 3) := dk_180 0 17 (dk_at dksX3_begin_4 9 rfl rfl)
theorem dX3_begin_107 : decode cX3_begin 107 = .ok (.iload 4, 2) := dk_21 4 (dk_at dksX3_begin_4 12 rfl rfl)
theorem dX3_begin_109 : decode cX3_begin 109 = .ok (.aload_n 0, 1) := dk_42 (dk_at dksX3_begin_4 14 rfl rfl)
theorem dX3_begin_110 : decode cX3_begin 110 = .ok (.getfield 13, 3) := dk_180 0 13 (dk_at dksX3_begin_4 15 rfl rfl)
theorem dX3_begin_113 : decode cX3_begin 113 = .ok (.iload 4, 2) := dk_21 4 (dk_at dksX3_begin_4 18 rfl rfl)
theorem dX3_begin_115 : decode cX3_begin 115 = .ok (.iaload, 1) := dk_46 (dk_at dksX3_begin_4 20 rfl rfl)
theorem dX3_begin_116 : decode cX3_begin 116 = .ok (.iastore, 1) := dk_79 (dk_at dksX3_begin_4 21 rfl rfl)
theorem dX3_begin_117 : decode cX3_begin 117 = .ok (.iinc 4 1, 3) := dk_132 4 1 (dk_at dksX3_begin_5 0 rfl rfl)
theorem dX3_begin_120 : decode cX3_begin 120 = .ok (.goto (-25), 3) := dk_167 255 231 (dk_at dksX3_begin_5 3 rfl rfl)
theorem dX3_begin_123 : decode cX3_begin 123 = .ok (.return_, 1) := dk_177 (dk_at dksX3_begin_5 6 rfl rfl)
abbrev cX3_page : ByteArray := prog_6_method_21_code
def yX3_page : MethodName := ⟨RX3, "page", "(IIJ)I"⟩
def dkwX3_page_6 : List UInt8 := [46, 3, 84, 42, 180, 0, 27, 28, 2, 79, 42, 4, 181, 0, 76, 28, 172]
abbrev dktX3_page_6 : List UInt8 := dkwX3_page_6 ++ []
def dkwX3_page_5 : List UInt8 := [182, 0, 135, 167, 0, 4, 28, 17, 0, 255, 33, 182, 0, 146, 172, 42, 180, 0, 23, 42, 180, 0, 27, 28]
abbrev dktX3_page_5 : List UInt8 := dkwX3_page_5 ++ dktX3_page_6
def dkwX3_page_4 : List UInt8 := [28, 46, 182, 0, 138, 184, 0, 142, 182, 0, 146, 172, 27, 158, 0, 26, 42, 27, 21, 5, 153, 0, 10, 42]
abbrev dktX3_page_4 : List UInt8 := dkwX3_page_4 ++ dktX3_page_5
def dkwX3_page_3 : List UInt8 := [46, 182, 0, 131, 6, 160, 0, 7, 2, 167, 0, 26, 42, 6, 42, 182, 0, 135, 28, 42, 42, 180, 0, 27]
abbrev dktX3_page_3 : List UInt8 := dkwX3_page_3 ++ dktX3_page_4
def dkwX3_page_2 : List UInt8 := [154, 0, 13, 42, 28, 182, 0, 128, 154, 0, 5, 2, 172, 27, 6, 160, 0, 45, 42, 42, 180, 0, 27, 28]
abbrev dktX3_page_2 : List UInt8 := dkwX3_page_2 ++ dktX3_page_3
def dkwX3_page_1 : List UInt8 := [160, 0, 17, 27, 4, 159, 0, 8, 27, 5, 160, 0, 7, 4, 167, 0, 4, 3, 54, 5, 21, 5]
abbrev dktX3_page_1 : List UInt8 := dkwX3_page_1 ++ dktX3_page_2
def dkwX3_page_0 : List UInt8 := [42, 180, 0, 7, 154, 0, 6, 16, 253, 172, 27, 155, 0, 8, 27, 6, 164, 0, 6, 16, 254, 172, 28, 2]
abbrev dktX3_page_0 : List UInt8 := dkwX3_page_0 ++ dktX3_page_1
theorem dksX3_page_0 : cX3_page.data.toList.drop 0 = dktX3_page_0 := by decide +kernel
theorem dksX3_page_1 : cX3_page.data.toList.drop 24 = dktX3_page_1 := dk_seg dksX3_page_0 24 rfl rfl
theorem dksX3_page_2 : cX3_page.data.toList.drop 46 = dktX3_page_2 := dk_seg dksX3_page_1 22 rfl rfl
theorem dksX3_page_3 : cX3_page.data.toList.drop 70 = dktX3_page_3 := dk_seg dksX3_page_2 24 rfl rfl
theorem dksX3_page_4 : cX3_page.data.toList.drop 94 = dktX3_page_4 := dk_seg dksX3_page_3 24 rfl rfl
theorem dksX3_page_5 : cX3_page.data.toList.drop 118 = dktX3_page_5 := dk_seg dksX3_page_4 24 rfl rfl
theorem dksX3_page_6 : cX3_page.data.toList.drop 142 = dktX3_page_6 := dk_seg dksX3_page_5 24 rfl rfl
theorem dX3_page_0 : decode cX3_page 0 = .ok (.aload_n 0, 1) := dk_42 (dk_at dksX3_page_0 0 rfl rfl)
theorem dX3_page_1 : decode cX3_page 1 = .ok (.getfield 7, 3) := dk_180 0 7 (dk_at dksX3_page_0 1 rfl rfl)
theorem dX3_page_4 : decode cX3_page 4 = .ok (.ifCond .ne 6, 3) := dk_154 0 6 (dk_at dksX3_page_0 4 rfl rfl)
theorem dX3_page_7 : decode cX3_page 7 = .ok (.bipush (-3), 2) := dk_16 253 (dk_at dksX3_page_0 7 rfl rfl)
theorem dX3_page_9 : decode cX3_page 9 = .ok (.ireturn, 1) := dk_172 (dk_at dksX3_page_0 9 rfl rfl)
theorem dX3_page_10 : decode cX3_page 10 = .ok (.iload_n 1, 1) := dk_27 (dk_at dksX3_page_0 10 rfl rfl)
theorem dX3_page_11 : decode cX3_page 11 = .ok (.ifCond .lt 8, 3) := dk_155 0 8 (dk_at dksX3_page_0 11 rfl rfl)
theorem dX3_page_14 : decode cX3_page 14 = .ok (.iload_n 1, 1) := dk_27 (dk_at dksX3_page_0 14 rfl rfl)
theorem dX3_page_15 : decode cX3_page 15 = .ok (.iconst 3, 1) := dk_6 (dk_at dksX3_page_0 15 rfl rfl)
theorem dX3_page_16 : decode cX3_page 16 = .ok (.if_icmp .le 6, 3) := dk_164 0 6 (dk_at dksX3_page_0 16 rfl rfl)
theorem dX3_page_19 : decode cX3_page 19 = .ok (.bipush (-2), 2) := dk_16 254 (dk_at dksX3_page_0 19 rfl rfl)
theorem dX3_page_21 : decode cX3_page 21 = .ok (.ireturn, 1) := dk_172 (dk_at dksX3_page_0 21 rfl rfl)
theorem dX3_page_22 : decode cX3_page 22 = .ok (.iload_n 2, 1) := dk_28 (dk_at dksX3_page_0 22 rfl rfl)
theorem dX3_page_23 : decode cX3_page 23 = .ok (.iconst (-1), 1) := dk_2 (dk_at dksX3_page_0 23 rfl rfl)
theorem dX3_page_24 : decode cX3_page 24 = .ok (.if_icmp .ne 17, 3) := dk_160 0 17 (dk_at dksX3_page_1 0 rfl rfl)
theorem dX3_page_27 : decode cX3_page 27 = .ok (.iload_n 1, 1) := dk_27 (dk_at dksX3_page_1 3 rfl rfl)
theorem dX3_page_28 : decode cX3_page 28 = .ok (.iconst 1, 1) := dk_4 (dk_at dksX3_page_1 4 rfl rfl)
theorem dX3_page_29 : decode cX3_page 29 = .ok (.if_icmp .eq 8, 3) := dk_159 0 8 (dk_at dksX3_page_1 5 rfl rfl)
theorem dX3_page_32 : decode cX3_page 32 = .ok (.iload_n 1, 1) := dk_27 (dk_at dksX3_page_1 8 rfl rfl)
theorem dX3_page_33 : decode cX3_page 33 = .ok (.iconst 2, 1) := dk_5 (dk_at dksX3_page_1 9 rfl rfl)
theorem dX3_page_34 : decode cX3_page 34 = .ok (.if_icmp .ne 7, 3) := dk_160 0 7 (dk_at dksX3_page_1 10 rfl rfl)
theorem dX3_page_37 : decode cX3_page 37 = .ok (.iconst 1, 1) := dk_4 (dk_at dksX3_page_1 13 rfl rfl)
theorem dX3_page_38 : decode cX3_page 38 = .ok (.goto 4, 3) := dk_167 0 4 (dk_at dksX3_page_1 14 rfl rfl)
theorem dX3_page_41 : decode cX3_page 41 = .ok (.iconst 0, 1) := dk_3 (dk_at dksX3_page_1 17 rfl rfl)
theorem dX3_page_42 : decode cX3_page 42 = .ok (.istore 5, 2) := dk_54 5 (dk_at dksX3_page_1 18 rfl rfl)
theorem dX3_page_44 : decode cX3_page 44 = .ok (.iload 5, 2) := dk_21 5 (dk_at dksX3_page_1 20 rfl rfl)
theorem dX3_page_46 : decode cX3_page 46 = .ok (.ifCond .ne 13, 3) := dk_154 0 13 (dk_at dksX3_page_2 0 rfl rfl)
theorem dX3_page_49 : decode cX3_page 49 = .ok (.aload_n 0, 1) := dk_42 (dk_at dksX3_page_2 3 rfl rfl)
theorem dX3_page_50 : decode cX3_page 50 = .ok (.iload_n 2, 1) := dk_28 (dk_at dksX3_page_2 4 rfl rfl)
theorem dX3_page_51 : decode cX3_page 51 = .ok (.invokevirtual 128, 3) := dk_182 0 128 (dk_at dksX3_page_2 5 rfl rfl)
theorem dX3_page_54 : decode cX3_page 54 = .ok (.ifCond .ne 5, 3) := dk_154 0 5 (dk_at dksX3_page_2 8 rfl rfl)
theorem dX3_page_57 : decode cX3_page 57 = .ok (.iconst (-1), 1) := dk_2 (dk_at dksX3_page_2 11 rfl rfl)
theorem dX3_page_58 : decode cX3_page 58 = .ok (.ireturn, 1) := dk_172 (dk_at dksX3_page_2 12 rfl rfl)
theorem dX3_page_59 : decode cX3_page 59 = .ok (.iload_n 1, 1) := dk_27 (dk_at dksX3_page_2 13 rfl rfl)
theorem dX3_page_60 : decode cX3_page 60 = .ok (.iconst 3, 1) := dk_6 (dk_at dksX3_page_2 14 rfl rfl)
theorem dX3_page_61 : decode cX3_page 61 = .ok (.if_icmp .ne 45, 3) := dk_160 0 45 (dk_at dksX3_page_2 15 rfl rfl)
theorem dX3_page_64 : decode cX3_page 64 = .ok (.aload_n 0, 1) := dk_42 (dk_at dksX3_page_2 18 rfl rfl)
theorem dX3_page_65 : decode cX3_page 65 = .ok (.aload_n 0, 1) := dk_42 (dk_at dksX3_page_2 19 rfl rfl)
theorem dX3_page_66 : decode cX3_page 66 = .ok (.getfield 27, 3) := dk_180 0 27 (dk_at dksX3_page_2 20 rfl rfl)
theorem dX3_page_69 : decode cX3_page 69 = .ok (.iload_n 2, 1) := dk_28 (dk_at dksX3_page_2 23 rfl rfl)
theorem dX3_page_70 : decode cX3_page 70 = .ok (.iaload, 1) := dk_46 (dk_at dksX3_page_3 0 rfl rfl)
theorem dX3_page_71 : decode cX3_page 71 = .ok (.invokevirtual 131, 3) := dk_182 0 131 (dk_at dksX3_page_3 1 rfl rfl)
theorem dX3_page_74 : decode cX3_page 74 = .ok (.iconst 3, 1) := dk_6 (dk_at dksX3_page_3 4 rfl rfl)
theorem dX3_page_75 : decode cX3_page 75 = .ok (.if_icmp .ne 7, 3) := dk_160 0 7 (dk_at dksX3_page_3 5 rfl rfl)
theorem dX3_page_78 : decode cX3_page 78 = .ok (.iconst (-1), 1) := dk_2 (dk_at dksX3_page_3 8 rfl rfl)
theorem dX3_page_79 : decode cX3_page 79 = .ok (.goto 26, 3) := dk_167 0 26 (dk_at dksX3_page_3 9 rfl rfl)
theorem dX3_page_82 : decode cX3_page 82 = .ok (.aload_n 0, 1) := dk_42 (dk_at dksX3_page_3 12 rfl rfl)
theorem dX3_page_83 : decode cX3_page 83 = .ok (.iconst 3, 1) := dk_6 (dk_at dksX3_page_3 13 rfl rfl)
theorem dX3_page_84 : decode cX3_page 84 = .ok (.aload_n 0, 1) := dk_42 (dk_at dksX3_page_3 14 rfl rfl)
theorem dX3_page_85 : decode cX3_page 85 = .ok (.invokevirtual 135, 3) := dk_182 0 135 (dk_at dksX3_page_3 15 rfl rfl)
theorem dX3_page_88 : decode cX3_page 88 = .ok (.iload_n 2, 1) := dk_28 (dk_at dksX3_page_3 18 rfl rfl)
theorem dX3_page_89 : decode cX3_page 89 = .ok (.aload_n 0, 1) := dk_42 (dk_at dksX3_page_3 19 rfl rfl)
theorem dX3_page_90 : decode cX3_page 90 = .ok (.aload_n 0, 1) := dk_42 (dk_at dksX3_page_3 20 rfl rfl)
theorem dX3_page_91 : decode cX3_page 91 = .ok (.getfield 27, 3) := dk_180 0 27 (dk_at dksX3_page_3 21 rfl rfl)
theorem dX3_page_94 : decode cX3_page 94 = .ok (.iload_n 2, 1) := dk_28 (dk_at dksX3_page_4 0 rfl rfl)
theorem dX3_page_95 : decode cX3_page 95 = .ok (.iaload, 1) := dk_46 (dk_at dksX3_page_4 1 rfl rfl)
theorem dX3_page_96 : decode cX3_page 96 = .ok (.invokevirtual 138, 3) := dk_182 0 138 (dk_at dksX3_page_4 2 rfl rfl)
theorem dX3_page_99 : decode cX3_page 99 = .ok (.invokestatic 142, 3) := dk_184 0 142 (dk_at dksX3_page_4 5 rfl rfl)
theorem dX3_page_102 : decode cX3_page 102 = .ok (.invokevirtual 146, 3) := dk_182 0 146 (dk_at dksX3_page_4 8 rfl rfl)
theorem dX3_page_105 : decode cX3_page 105 = .ok (.ireturn, 1) := dk_172 (dk_at dksX3_page_4 11 rfl rfl)
theorem dX3_page_106 : decode cX3_page 106 = .ok (.iload_n 1, 1) := dk_27 (dk_at dksX3_page_4 12 rfl rfl)
theorem dX3_page_107 : decode cX3_page 107 = .ok (.ifCond .le 26, 3) := dk_158 0 26 (dk_at dksX3_page_4 13 rfl rfl)
theorem dX3_page_110 : decode cX3_page 110 = .ok (.aload_n 0, 1) := dk_42 (dk_at dksX3_page_4 16 rfl rfl)
theorem dX3_page_111 : decode cX3_page 111 = .ok (.iload_n 1, 1) := dk_27 (dk_at dksX3_page_4 17 rfl rfl)
theorem dX3_page_112 : decode cX3_page 112 = .ok (.iload 5, 2) := dk_21 5 (dk_at dksX3_page_4 18 rfl rfl)
theorem dX3_page_114 : decode cX3_page 114 = .ok (.ifCond .eq 10, 3) := dk_153 0 10 (dk_at dksX3_page_4 20 rfl rfl)
theorem dX3_page_117 : decode cX3_page 117 = .ok (.aload_n 0, 1) := dk_42 (dk_at dksX3_page_4 23 rfl rfl)
theorem dX3_page_118 : decode cX3_page 118 = .ok (.invokevirtual 135, 3) := dk_182 0 135 (dk_at dksX3_page_5 0 rfl rfl)
theorem dX3_page_121 : decode cX3_page 121 = .ok (.goto 4, 3) := dk_167 0 4 (dk_at dksX3_page_5 3 rfl rfl)
theorem dX3_page_124 : decode cX3_page 124 = .ok (.iload_n 2, 1) := dk_28 (dk_at dksX3_page_5 6 rfl rfl)
theorem dX3_page_125 : decode cX3_page 125 = .ok (.sipush 255, 3) := dk_17 0 255 (dk_at dksX3_page_5 7 rfl rfl)
theorem dX3_page_128 : decode cX3_page 128 = .ok (.lload_n 3, 1) := dk_33 (dk_at dksX3_page_5 10 rfl rfl)
theorem dX3_page_129 : decode cX3_page 129 = .ok (.invokevirtual 146, 3) := dk_182 0 146 (dk_at dksX3_page_5 11 rfl rfl)
theorem dX3_page_132 : decode cX3_page 132 = .ok (.ireturn, 1) := dk_172 (dk_at dksX3_page_5 14 rfl rfl)
theorem dX3_page_133 : decode cX3_page 133 = .ok (.aload_n 0, 1) := dk_42 (dk_at dksX3_page_5 15 rfl rfl)
theorem dX3_page_134 : decode cX3_page 134 = .ok (.getfield 23, 3) := dk_180 0 23 (dk_at dksX3_page_5 16 rfl rfl)
theorem dX3_page_137 : decode cX3_page 137 = .ok (.aload_n 0, 1) := dk_42 (dk_at dksX3_page_5 19 rfl rfl)
theorem dX3_page_138 : decode cX3_page 138 = .ok (.getfield 27, 3) := dk_180 0 27 (dk_at dksX3_page_5 20 rfl rfl)
theorem dX3_page_141 : decode cX3_page 141 = .ok (.iload_n 2, 1) := dk_28 (dk_at dksX3_page_5 23 rfl rfl)
theorem dX3_page_142 : decode cX3_page 142 = .ok (.iaload, 1) := dk_46 (dk_at dksX3_page_6 0 rfl rfl)
theorem dX3_page_143 : decode cX3_page 143 = .ok (.iconst 0, 1) := dk_3 (dk_at dksX3_page_6 1 rfl rfl)
theorem dX3_page_144 : decode cX3_page 144 = .ok (.bastore, 1) := dk_84 (dk_at dksX3_page_6 2 rfl rfl)
theorem dX3_page_145 : decode cX3_page 145 = .ok (.aload_n 0, 1) := dk_42 (dk_at dksX3_page_6 3 rfl rfl)
theorem dX3_page_146 : decode cX3_page 146 = .ok (.getfield 27, 3) := dk_180 0 27 (dk_at dksX3_page_6 4 rfl rfl)
theorem dX3_page_149 : decode cX3_page 149 = .ok (.iload_n 2, 1) := dk_28 (dk_at dksX3_page_6 7 rfl rfl)
theorem dX3_page_150 : decode cX3_page 150 = .ok (.iconst (-1), 1) := dk_2 (dk_at dksX3_page_6 8 rfl rfl)
theorem dX3_page_151 : decode cX3_page 151 = .ok (.iastore, 1) := dk_79 (dk_at dksX3_page_6 9 rfl rfl)
theorem dX3_page_152 : decode cX3_page 152 = .ok (.aload_n 0, 1) := dk_42 (dk_at dksX3_page_6 10 rfl rfl)
theorem dX3_page_153 : decode cX3_page 153 = .ok (.iconst 1, 1) := dk_4 (dk_at dksX3_page_6 11 rfl rfl)
theorem dX3_page_154 : decode cX3_page 154 = .ok (.putfield 76, 3) := dk_181 0 76 (dk_at dksX3_page_6 12 rfl rfl)
theorem dX3_page_157 : decode cX3_page 157 = .ok (.iload_n 2, 1) := dk_28 (dk_at dksX3_page_6 15 rfl rfl)
theorem dX3_page_158 : decode cX3_page 158 = .ok (.ireturn, 1) := dk_172 (dk_at dksX3_page_6 16 rfl rfl)
abbrev cX3_isPage : ByteArray := prog_6_method_13_code
def yX3_isPage : MethodName := ⟨RX3, "isPage", "(I)Z"⟩
def dkwX3_isPage_1 : List UInt8 := [3, 172]
abbrev dktX3_isPage_1 : List UInt8 := dkwX3_isPage_1 ++ []
def dkwX3_isPage_0 : List UInt8 := [27, 155, 0, 23, 27, 16, 30, 162, 0, 17, 42, 180, 0, 27, 27, 46, 2, 159, 0, 7, 4, 167, 0, 4]
abbrev dktX3_isPage_0 : List UInt8 := dkwX3_isPage_0 ++ dktX3_isPage_1
theorem dksX3_isPage_0 : cX3_isPage.data.toList.drop 0 = dktX3_isPage_0 := by decide +kernel
theorem dksX3_isPage_1 : cX3_isPage.data.toList.drop 24 = dktX3_isPage_1 := dk_seg dksX3_isPage_0 24 rfl rfl
theorem dX3_isPage_0 : decode cX3_isPage 0 = .ok (.iload_n 1, 1) := dk_27 (dk_at dksX3_isPage_0 0 rfl rfl)
theorem dX3_isPage_1 : decode cX3_isPage 1 = .ok (.ifCond .lt 23, 3) := dk_155 0 23 (dk_at dksX3_isPage_0 1 rfl rfl)
theorem dX3_isPage_4 : decode cX3_isPage 4 = .ok (.iload_n 1, 1) := dk_27 (dk_at dksX3_isPage_0 4 rfl rfl)
theorem dX3_isPage_5 : decode cX3_isPage 5 = .ok (.bipush 30, 2) := dk_16 30 (dk_at dksX3_isPage_0 5 rfl rfl)
theorem dX3_isPage_7 : decode cX3_isPage 7 = .ok (.if_icmp .ge 17, 3) := dk_162 0 17 (dk_at dksX3_isPage_0 7 rfl rfl)
theorem dX3_isPage_10 : decode cX3_isPage 10 = .ok (.aload_n 0, 1) := dk_42 (dk_at dksX3_isPage_0 10 rfl rfl)
theorem dX3_isPage_11 : decode cX3_isPage 11 = .ok (.getfield 27, 3) := dk_180 0 27 (dk_at dksX3_isPage_0 11 rfl rfl)
theorem dX3_isPage_14 : decode cX3_isPage 14 = .ok (.iload_n 1, 1) := dk_27 (dk_at dksX3_isPage_0 14 rfl rfl)
theorem dX3_isPage_15 : decode cX3_isPage 15 = .ok (.iaload, 1) := dk_46 (dk_at dksX3_isPage_0 15 rfl rfl)
theorem dX3_isPage_16 : decode cX3_isPage 16 = .ok (.iconst (-1), 1) := dk_2 (dk_at dksX3_isPage_0 16 rfl rfl)
theorem dX3_isPage_17 : decode cX3_isPage 17 = .ok (.if_icmp .eq 7, 3) := dk_159 0 7 (dk_at dksX3_isPage_0 17 rfl rfl)
theorem dX3_isPage_20 : decode cX3_isPage 20 = .ok (.iconst 1, 1) := dk_4 (dk_at dksX3_isPage_0 20 rfl rfl)
theorem dX3_isPage_21 : decode cX3_isPage 21 = .ok (.goto 4, 3) := dk_167 0 4 (dk_at dksX3_isPage_0 21 rfl rfl)
theorem dX3_isPage_24 : decode cX3_isPage 24 = .ok (.iconst 0, 1) := dk_3 (dk_at dksX3_isPage_1 0 rfl rfl)
theorem dX3_isPage_25 : decode cX3_isPage 25 = .ok (.ireturn, 1) := dk_172 (dk_at dksX3_isPage_1 1 rfl rfl)
abbrev cX3_kindOf : ByteArray := prog_6_method_12_code
def yX3_kindOf : MethodName := ⟨RX3, "kindOf", "(I)I"⟩
def dkwX3_kindOf_0 : List UInt8 := [42, 27, 7, 182, 0, 97, 61, 28, 16, 127, 164, 0, 11, 28, 17, 1, 0, 100, 167, 0, 4, 28, 172]
abbrev dktX3_kindOf_0 : List UInt8 := dkwX3_kindOf_0 ++ []
theorem dksX3_kindOf_0 : cX3_kindOf.data.toList.drop 0 = dktX3_kindOf_0 := by decide +kernel
theorem dX3_kindOf_0 : decode cX3_kindOf 0 = .ok (.aload_n 0, 1) := dk_42 (dk_at dksX3_kindOf_0 0 rfl rfl)
theorem dX3_kindOf_1 : decode cX3_kindOf 1 = .ok (.iload_n 1, 1) := dk_27 (dk_at dksX3_kindOf_0 1 rfl rfl)
theorem dX3_kindOf_2 : decode cX3_kindOf 2 = .ok (.iconst 4, 1) := dk_7 (dk_at dksX3_kindOf_0 2 rfl rfl)
theorem dX3_kindOf_3 : decode cX3_kindOf 3 = .ok (.invokevirtual 97, 3) := dk_182 0 97 (dk_at dksX3_kindOf_0 3 rfl rfl)
theorem dX3_kindOf_6 : decode cX3_kindOf 6 = .ok (.istore_n 2, 1) := dk_61 (dk_at dksX3_kindOf_0 6 rfl rfl)
theorem dX3_kindOf_7 : decode cX3_kindOf 7 = .ok (.iload_n 2, 1) := dk_28 (dk_at dksX3_kindOf_0 7 rfl rfl)
theorem dX3_kindOf_8 : decode cX3_kindOf 8 = .ok (.bipush 127, 2) := dk_16 127 (dk_at dksX3_kindOf_0 8 rfl rfl)
theorem dX3_kindOf_10 : decode cX3_kindOf 10 = .ok (.if_icmp .le 11, 3) := dk_164 0 11 (dk_at dksX3_kindOf_0 10 rfl rfl)
theorem dX3_kindOf_13 : decode cX3_kindOf 13 = .ok (.iload_n 2, 1) := dk_28 (dk_at dksX3_kindOf_0 13 rfl rfl)
theorem dX3_kindOf_14 : decode cX3_kindOf 14 = .ok (.sipush 256, 3) := dk_17 1 0 (dk_at dksX3_kindOf_0 14 rfl rfl)
theorem dX3_kindOf_17 : decode cX3_kindOf 17 = .ok (.isub, 1) := dk_100 (dk_at dksX3_kindOf_0 17 rfl rfl)
theorem dX3_kindOf_18 : decode cX3_kindOf 18 = .ok (.goto 4, 3) := dk_167 0 4 (dk_at dksX3_kindOf_0 18 rfl rfl)
theorem dX3_kindOf_21 : decode cX3_kindOf 21 = .ok (.iload_n 2, 1) := dk_28 (dk_at dksX3_kindOf_0 21 rfl rfl)
theorem dX3_kindOf_22 : decode cX3_kindOf 22 = .ok (.ireturn, 1) := dk_172 (dk_at dksX3_kindOf_0 22 rfl rfl)
abbrev cX3_byteOf : ByteArray := prog_6_method_10_code
def yX3_byteOf : MethodName := ⟨RX3, "byteOf", "(II)I"⟩
def dkwX3_byteOf_1 : List UInt8 := [180, 0, 17, 16, 32, 27, 104, 28, 96, 46, 172]
abbrev dktX3_byteOf_1 : List UInt8 := dkwX3_byteOf_1 ++ []
def dkwX3_byteOf_0 : List UInt8 := [42, 180, 0, 23, 27, 51, 153, 0, 17, 42, 180, 0, 20, 16, 32, 27, 104, 28, 96, 46, 167, 0, 14, 42]
abbrev dktX3_byteOf_0 : List UInt8 := dkwX3_byteOf_0 ++ dktX3_byteOf_1
theorem dksX3_byteOf_0 : cX3_byteOf.data.toList.drop 0 = dktX3_byteOf_0 := by decide +kernel
theorem dksX3_byteOf_1 : cX3_byteOf.data.toList.drop 24 = dktX3_byteOf_1 := dk_seg dksX3_byteOf_0 24 rfl rfl
theorem dX3_byteOf_0 : decode cX3_byteOf 0 = .ok (.aload_n 0, 1) := dk_42 (dk_at dksX3_byteOf_0 0 rfl rfl)
theorem dX3_byteOf_1 : decode cX3_byteOf 1 = .ok (.getfield 23, 3) := dk_180 0 23 (dk_at dksX3_byteOf_0 1 rfl rfl)
theorem dX3_byteOf_4 : decode cX3_byteOf 4 = .ok (.iload_n 1, 1) := dk_27 (dk_at dksX3_byteOf_0 4 rfl rfl)
theorem dX3_byteOf_5 : decode cX3_byteOf 5 = .ok (.baload, 1) := dk_51 (dk_at dksX3_byteOf_0 5 rfl rfl)
theorem dX3_byteOf_6 : decode cX3_byteOf 6 = .ok (.ifCond .eq 17, 3) := dk_153 0 17 (dk_at dksX3_byteOf_0 6 rfl rfl)
theorem dX3_byteOf_9 : decode cX3_byteOf 9 = .ok (.aload_n 0, 1) := dk_42 (dk_at dksX3_byteOf_0 9 rfl rfl)
theorem dX3_byteOf_10 : decode cX3_byteOf 10 = .ok (.getfield 20, 3) := dk_180 0 20 (dk_at dksX3_byteOf_0 10 rfl rfl)
theorem dX3_byteOf_13 : decode cX3_byteOf 13 = .ok (.bipush 32, 2) := dk_16 32 (dk_at dksX3_byteOf_0 13 rfl rfl)
theorem dX3_byteOf_15 : decode cX3_byteOf 15 = .ok (.iload_n 1, 1) := dk_27 (dk_at dksX3_byteOf_0 15 rfl rfl)
theorem dX3_byteOf_16 : decode cX3_byteOf 16 = .ok (.imul, 1) := dk_104 (dk_at dksX3_byteOf_0 16 rfl rfl)
theorem dX3_byteOf_17 : decode cX3_byteOf 17 = .ok (.iload_n 2, 1) := dk_28 (dk_at dksX3_byteOf_0 17 rfl rfl)
theorem dX3_byteOf_18 : decode cX3_byteOf 18 = .ok (.iadd, 1) := dk_96 (dk_at dksX3_byteOf_0 18 rfl rfl)
theorem dX3_byteOf_19 : decode cX3_byteOf 19 = .ok (.iaload, 1) := dk_46 (dk_at dksX3_byteOf_0 19 rfl rfl)
theorem dX3_byteOf_20 : decode cX3_byteOf 20 = .ok (.goto 14, 3) := dk_167 0 14 (dk_at dksX3_byteOf_0 20 rfl rfl)
theorem dX3_byteOf_23 : decode cX3_byteOf 23 = .ok (.aload_n 0, 1) := dk_42 (dk_at dksX3_byteOf_0 23 rfl rfl)
theorem dX3_byteOf_24 : decode cX3_byteOf 24 = .ok (.getfield 17, 3) := dk_180 0 17 (dk_at dksX3_byteOf_1 0 rfl rfl)
theorem dX3_byteOf_27 : decode cX3_byteOf 27 = .ok (.bipush 32, 2) := dk_16 32 (dk_at dksX3_byteOf_1 3 rfl rfl)
theorem dX3_byteOf_29 : decode cX3_byteOf 29 = .ok (.iload_n 1, 1) := dk_27 (dk_at dksX3_byteOf_1 5 rfl rfl)
theorem dX3_byteOf_30 : decode cX3_byteOf 30 = .ok (.imul, 1) := dk_104 (dk_at dksX3_byteOf_1 6 rfl rfl)
theorem dX3_byteOf_31 : decode cX3_byteOf 31 = .ok (.iload_n 2, 1) := dk_28 (dk_at dksX3_byteOf_1 7 rfl rfl)
theorem dX3_byteOf_32 : decode cX3_byteOf 32 = .ok (.iadd, 1) := dk_96 (dk_at dksX3_byteOf_1 8 rfl rfl)
theorem dX3_byteOf_33 : decode cX3_byteOf 33 = .ok (.iaload, 1) := dk_46 (dk_at dksX3_byteOf_1 9 rfl rfl)
theorem dX3_byteOf_34 : decode cX3_byteOf 34 = .ok (.ireturn, 1) := dk_172 (dk_at dksX3_byteOf_1 10 rfl rfl)
abbrev cX3_freePage : ByteArray := prog_6_method_18_code
def yX3_freePage : MethodName := ⟨RX3, "freePage", "()I"⟩
def dkwX3_freePage_1 : List UInt8 := [27, 16, 30, 162, 0, 7, 27, 167, 0, 4, 2, 172]
abbrev dktX3_freePage_1 : List UInt8 := dkwX3_freePage_1 ++ []
def dkwX3_freePage_0 : List UInt8 := [3, 60, 27, 16, 30, 162, 0, 19, 42, 180, 0, 27, 27, 46, 2, 159, 0, 9, 132, 1, 1, 167, 255, 237]
abbrev dktX3_freePage_0 : List UInt8 := dkwX3_freePage_0 ++ dktX3_freePage_1
theorem dksX3_freePage_0 : cX3_freePage.data.toList.drop 0 = dktX3_freePage_0 := by decide +kernel
theorem dksX3_freePage_1 : cX3_freePage.data.toList.drop 24 = dktX3_freePage_1 := dk_seg dksX3_freePage_0 24 rfl rfl
theorem dX3_freePage_0 : decode cX3_freePage 0 = .ok (.iconst 0, 1) := dk_3 (dk_at dksX3_freePage_0 0 rfl rfl)
theorem dX3_freePage_1 : decode cX3_freePage 1 = .ok (.istore_n 1, 1) := dk_60 (dk_at dksX3_freePage_0 1 rfl rfl)
theorem dX3_freePage_2 : decode cX3_freePage 2 = .ok (.iload_n 1, 1) := dk_27 (dk_at dksX3_freePage_0 2 rfl rfl)
theorem dX3_freePage_3 : decode cX3_freePage 3 = .ok (.bipush 30, 2) := dk_16 30 (dk_at dksX3_freePage_0 3 rfl rfl)
theorem dX3_freePage_5 : decode cX3_freePage 5 = .ok (.if_icmp .ge 19, 3) := dk_162 0 19 (dk_at dksX3_freePage_0 5 rfl rfl)
theorem dX3_freePage_8 : decode cX3_freePage 8 = .ok (.aload_n 0, 1) := dk_42 (dk_at dksX3_freePage_0 8 rfl rfl)
theorem dX3_freePage_9 : decode cX3_freePage 9 = .ok (.getfield 27, 3) := dk_180 0 27 (dk_at dksX3_freePage_0 9 rfl rfl)
theorem dX3_freePage_12 : decode cX3_freePage 12 = .ok (.iload_n 1, 1) := dk_27 (dk_at dksX3_freePage_0 12 rfl rfl)
theorem dX3_freePage_13 : decode cX3_freePage 13 = .ok (.iaload, 1) := dk_46 (dk_at dksX3_freePage_0 13 rfl rfl)
theorem dX3_freePage_14 : decode cX3_freePage 14 = .ok (.iconst (-1), 1) := dk_2 (dk_at dksX3_freePage_0 14 rfl rfl)
theorem dX3_freePage_15 : decode cX3_freePage 15 = .ok (.if_icmp .eq 9, 3) := dk_159 0 9 (dk_at dksX3_freePage_0 15 rfl rfl)
theorem dX3_freePage_18 : decode cX3_freePage 18 = .ok (.iinc 1 1, 3) := dk_132 1 1 (dk_at dksX3_freePage_0 18 rfl rfl)
theorem dX3_freePage_21 : decode cX3_freePage 21 = .ok (.goto (-19), 3) := dk_167 255 237 (dk_at dksX3_freePage_0 21 rfl rfl)
theorem dX3_freePage_24 : decode cX3_freePage 24 = .ok (.iload_n 1, 1) := dk_27 (dk_at dksX3_freePage_1 0 rfl rfl)
theorem dX3_freePage_25 : decode cX3_freePage 25 = .ok (.bipush 30, 2) := dk_16 30 (dk_at dksX3_freePage_1 1 rfl rfl)
theorem dX3_freePage_27 : decode cX3_freePage 27 = .ok (.if_icmp .ge 7, 3) := dk_162 0 7 (dk_at dksX3_freePage_1 3 rfl rfl)
theorem dX3_freePage_30 : decode cX3_freePage 30 = .ok (.iload_n 1, 1) := dk_27 (dk_at dksX3_freePage_1 6 rfl rfl)
theorem dX3_freePage_31 : decode cX3_freePage 31 = .ok (.goto 4, 3) := dk_167 0 4 (dk_at dksX3_freePage_1 7 rfl rfl)
theorem dX3_freePage_34 : decode cX3_freePage 34 = .ok (.iconst (-1), 1) := dk_2 (dk_at dksX3_freePage_1 10 rfl rfl)
theorem dX3_freePage_35 : decode cX3_freePage 35 = .ok (.ireturn, 1) := dk_172 (dk_at dksX3_freePage_1 11 rfl rfl)
abbrev cX3_valueOf : ByteArray := prog_6_method_11_code
def yX3_valueOf : MethodName := ⟨RX3, "valueOf", "(I)J"⟩
def dkwX3_valueOf_1 : List UInt8 := [167, 0, 17, 42, 180, 0, 17, 16, 32, 27, 104, 16, 8, 96, 184, 0, 93, 173]
abbrev dktX3_valueOf_1 : List UInt8 := dkwX3_valueOf_1 ++ []
def dkwX3_valueOf_0 : List UInt8 := [42, 180, 0, 23, 27, 51, 153, 0, 20, 42, 180, 0, 20, 16, 32, 27, 104, 16, 8, 96, 184, 0, 93]
abbrev dktX3_valueOf_0 : List UInt8 := dkwX3_valueOf_0 ++ dktX3_valueOf_1
theorem dksX3_valueOf_0 : cX3_valueOf.data.toList.drop 0 = dktX3_valueOf_0 := by decide +kernel
theorem dksX3_valueOf_1 : cX3_valueOf.data.toList.drop 23 = dktX3_valueOf_1 := dk_seg dksX3_valueOf_0 23 rfl rfl
theorem dX3_valueOf_0 : decode cX3_valueOf 0 = .ok (.aload_n 0, 1) := dk_42 (dk_at dksX3_valueOf_0 0 rfl rfl)
theorem dX3_valueOf_1 : decode cX3_valueOf 1 = .ok (.getfield 23, 3) := dk_180 0 23 (dk_at dksX3_valueOf_0 1 rfl rfl)
theorem dX3_valueOf_4 : decode cX3_valueOf 4 = .ok (.iload_n 1, 1) := dk_27 (dk_at dksX3_valueOf_0 4 rfl rfl)
theorem dX3_valueOf_5 : decode cX3_valueOf 5 = .ok (.baload, 1) := dk_51 (dk_at dksX3_valueOf_0 5 rfl rfl)
theorem dX3_valueOf_6 : decode cX3_valueOf 6 = .ok (.ifCond .eq 20, 3) := dk_153 0 20 (dk_at dksX3_valueOf_0 6 rfl rfl)
theorem dX3_valueOf_9 : decode cX3_valueOf 9 = .ok (.aload_n 0, 1) := dk_42 (dk_at dksX3_valueOf_0 9 rfl rfl)
theorem dX3_valueOf_10 : decode cX3_valueOf 10 = .ok (.getfield 20, 3) := dk_180 0 20 (dk_at dksX3_valueOf_0 10 rfl rfl)
theorem dX3_valueOf_13 : decode cX3_valueOf 13 = .ok (.bipush 32, 2) := dk_16 32 (dk_at dksX3_valueOf_0 13 rfl rfl)
theorem dX3_valueOf_15 : decode cX3_valueOf 15 = .ok (.iload_n 1, 1) := dk_27 (dk_at dksX3_valueOf_0 15 rfl rfl)
theorem dX3_valueOf_16 : decode cX3_valueOf 16 = .ok (.imul, 1) := dk_104 (dk_at dksX3_valueOf_0 16 rfl rfl)
theorem dX3_valueOf_17 : decode cX3_valueOf 17 = .ok (.bipush 8, 2) := dk_16 8 (dk_at dksX3_valueOf_0 17 rfl rfl)
theorem dX3_valueOf_19 : decode cX3_valueOf 19 = .ok (.iadd, 1) := dk_96 (dk_at dksX3_valueOf_0 19 rfl rfl)
theorem dX3_valueOf_20 : decode cX3_valueOf 20 = .ok (.invokestatic 93, 3) := dk_184 0 93 (dk_at dksX3_valueOf_0 20 rfl rfl)
theorem dX3_valueOf_23 : decode cX3_valueOf 23 = .ok (.goto 17, 3) := dk_167 0 17 (dk_at dksX3_valueOf_1 0 rfl rfl)
theorem dX3_valueOf_26 : decode cX3_valueOf 26 = .ok (.aload_n 0, 1) := dk_42 (dk_at dksX3_valueOf_1 3 rfl rfl)
theorem dX3_valueOf_27 : decode cX3_valueOf 27 = .ok (.getfield 17, 3) := dk_180 0 17 (dk_at dksX3_valueOf_1 4 rfl rfl)
theorem dX3_valueOf_30 : decode cX3_valueOf 30 = .ok (.bipush 32, 2) := dk_16 32 (dk_at dksX3_valueOf_1 7 rfl rfl)
theorem dX3_valueOf_32 : decode cX3_valueOf 32 = .ok (.iload_n 1, 1) := dk_27 (dk_at dksX3_valueOf_1 9 rfl rfl)
theorem dX3_valueOf_33 : decode cX3_valueOf 33 = .ok (.imul, 1) := dk_104 (dk_at dksX3_valueOf_1 10 rfl rfl)
theorem dX3_valueOf_34 : decode cX3_valueOf 34 = .ok (.bipush 8, 2) := dk_16 8 (dk_at dksX3_valueOf_1 11 rfl rfl)
theorem dX3_valueOf_36 : decode cX3_valueOf 36 = .ok (.iadd, 1) := dk_96 (dk_at dksX3_valueOf_1 13 rfl rfl)
theorem dX3_valueOf_37 : decode cX3_valueOf 37 = .ok (.invokestatic 93, 3) := dk_184 0 93 (dk_at dksX3_valueOf_1 14 rfl rfl)
theorem dX3_valueOf_40 : decode cX3_valueOf 40 = .ok (.lreturn, 1) := dk_173 (dk_at dksX3_valueOf_1 17 rfl rfl)
abbrev cX3_wide : ByteArray := prog_6_method_8_code
def yX3_wide : MethodName := ⟨RX3, "wide", "([II)J"⟩
def dkwX3_wide_0 : List UInt8 := [42, 27, 184, 0, 88, 133, 16, 32, 121, 42, 27, 7, 96, 184, 0, 88, 133, 20, 0, 91, 127, 129, 173]
abbrev dktX3_wide_0 : List UInt8 := dkwX3_wide_0 ++ []
theorem dksX3_wide_0 : cX3_wide.data.toList.drop 0 = dktX3_wide_0 := by decide +kernel
theorem dX3_wide_0 : decode cX3_wide 0 = .ok (.aload_n 0, 1) := dk_42 (dk_at dksX3_wide_0 0 rfl rfl)
theorem dX3_wide_1 : decode cX3_wide 1 = .ok (.iload_n 1, 1) := dk_27 (dk_at dksX3_wide_0 1 rfl rfl)
theorem dX3_wide_2 : decode cX3_wide 2 = .ok (.invokestatic 88, 3) := dk_184 0 88 (dk_at dksX3_wide_0 2 rfl rfl)
theorem dX3_wide_5 : decode cX3_wide 5 = .ok (.i2l, 1) := dk_133 (dk_at dksX3_wide_0 5 rfl rfl)
theorem dX3_wide_6 : decode cX3_wide 6 = .ok (.bipush 32, 2) := dk_16 32 (dk_at dksX3_wide_0 6 rfl rfl)
theorem dX3_wide_8 : decode cX3_wide 8 = .ok (.lshl, 1) := dk_121 (dk_at dksX3_wide_0 8 rfl rfl)
theorem dX3_wide_9 : decode cX3_wide 9 = .ok (.aload_n 0, 1) := dk_42 (dk_at dksX3_wide_0 9 rfl rfl)
theorem dX3_wide_10 : decode cX3_wide 10 = .ok (.iload_n 1, 1) := dk_27 (dk_at dksX3_wide_0 10 rfl rfl)
theorem dX3_wide_11 : decode cX3_wide 11 = .ok (.iconst 4, 1) := dk_7 (dk_at dksX3_wide_0 11 rfl rfl)
theorem dX3_wide_12 : decode cX3_wide 12 = .ok (.iadd, 1) := dk_96 (dk_at dksX3_wide_0 12 rfl rfl)
theorem dX3_wide_13 : decode cX3_wide 13 = .ok (.invokestatic 88, 3) := dk_184 0 88 (dk_at dksX3_wide_0 13 rfl rfl)
theorem dX3_wide_16 : decode cX3_wide 16 = .ok (.i2l, 1) := dk_133 (dk_at dksX3_wide_0 16 rfl rfl)
theorem dX3_wide_17 : decode cX3_wide 17 = .ok (.ldc2_w 91, 3) := dk_20 0 91 (dk_at dksX3_wide_0 17 rfl rfl)
theorem dX3_wide_20 : decode cX3_wide 20 = .ok (.land, 1) := dk_127 (dk_at dksX3_wide_0 20 rfl rfl)
theorem dX3_wide_21 : decode cX3_wide 21 = .ok (.lor, 1) := dk_129 (dk_at dksX3_wide_0 21 rfl rfl)
theorem dX3_wide_22 : decode cX3_wide 22 = .ok (.lreturn, 1) := dk_173 (dk_at dksX3_wide_0 22 rfl rfl)
abbrev cX3_number : ByteArray := prog_6_method_3_code
def yX3_number : MethodName := ⟨RX3, "number", "([II)I"⟩
def dkwX3_number_1 : List UInt8 := [42, 27, 6, 96, 46, 128, 172]
abbrev dktX3_number_1 : List UInt8 := dkwX3_number_1 ++ []
def dkwX3_number_0 : List UInt8 := [42, 27, 46, 16, 24, 120, 42, 27, 4, 96, 46, 16, 16, 120, 128, 42, 27, 5, 96, 46, 16, 8, 120, 128]
abbrev dktX3_number_0 : List UInt8 := dkwX3_number_0 ++ dktX3_number_1
theorem dksX3_number_0 : cX3_number.data.toList.drop 0 = dktX3_number_0 := by decide +kernel
theorem dksX3_number_1 : cX3_number.data.toList.drop 24 = dktX3_number_1 := dk_seg dksX3_number_0 24 rfl rfl
theorem dX3_number_0 : decode cX3_number 0 = .ok (.aload_n 0, 1) := dk_42 (dk_at dksX3_number_0 0 rfl rfl)
theorem dX3_number_1 : decode cX3_number 1 = .ok (.iload_n 1, 1) := dk_27 (dk_at dksX3_number_0 1 rfl rfl)
theorem dX3_number_2 : decode cX3_number 2 = .ok (.iaload, 1) := dk_46 (dk_at dksX3_number_0 2 rfl rfl)
theorem dX3_number_3 : decode cX3_number 3 = .ok (.bipush 24, 2) := dk_16 24 (dk_at dksX3_number_0 3 rfl rfl)
theorem dX3_number_5 : decode cX3_number 5 = .ok (.ishl, 1) := dk_120 (dk_at dksX3_number_0 5 rfl rfl)
theorem dX3_number_6 : decode cX3_number 6 = .ok (.aload_n 0, 1) := dk_42 (dk_at dksX3_number_0 6 rfl rfl)
theorem dX3_number_7 : decode cX3_number 7 = .ok (.iload_n 1, 1) := dk_27 (dk_at dksX3_number_0 7 rfl rfl)
theorem dX3_number_8 : decode cX3_number 8 = .ok (.iconst 1, 1) := dk_4 (dk_at dksX3_number_0 8 rfl rfl)
theorem dX3_number_9 : decode cX3_number 9 = .ok (.iadd, 1) := dk_96 (dk_at dksX3_number_0 9 rfl rfl)
theorem dX3_number_10 : decode cX3_number 10 = .ok (.iaload, 1) := dk_46 (dk_at dksX3_number_0 10 rfl rfl)
theorem dX3_number_11 : decode cX3_number 11 = .ok (.bipush 16, 2) := dk_16 16 (dk_at dksX3_number_0 11 rfl rfl)
theorem dX3_number_13 : decode cX3_number 13 = .ok (.ishl, 1) := dk_120 (dk_at dksX3_number_0 13 rfl rfl)
theorem dX3_number_14 : decode cX3_number 14 = .ok (.ior, 1) := dk_128 (dk_at dksX3_number_0 14 rfl rfl)
theorem dX3_number_15 : decode cX3_number 15 = .ok (.aload_n 0, 1) := dk_42 (dk_at dksX3_number_0 15 rfl rfl)
theorem dX3_number_16 : decode cX3_number 16 = .ok (.iload_n 1, 1) := dk_27 (dk_at dksX3_number_0 16 rfl rfl)
theorem dX3_number_17 : decode cX3_number 17 = .ok (.iconst 2, 1) := dk_5 (dk_at dksX3_number_0 17 rfl rfl)
theorem dX3_number_18 : decode cX3_number 18 = .ok (.iadd, 1) := dk_96 (dk_at dksX3_number_0 18 rfl rfl)
theorem dX3_number_19 : decode cX3_number 19 = .ok (.iaload, 1) := dk_46 (dk_at dksX3_number_0 19 rfl rfl)
theorem dX3_number_20 : decode cX3_number 20 = .ok (.bipush 8, 2) := dk_16 8 (dk_at dksX3_number_0 20 rfl rfl)
theorem dX3_number_22 : decode cX3_number 22 = .ok (.ishl, 1) := dk_120 (dk_at dksX3_number_0 22 rfl rfl)
theorem dX3_number_23 : decode cX3_number 23 = .ok (.ior, 1) := dk_128 (dk_at dksX3_number_0 23 rfl rfl)
theorem dX3_number_24 : decode cX3_number 24 = .ok (.aload_n 0, 1) := dk_42 (dk_at dksX3_number_1 0 rfl rfl)
theorem dX3_number_25 : decode cX3_number 25 = .ok (.iload_n 1, 1) := dk_27 (dk_at dksX3_number_1 1 rfl rfl)
theorem dX3_number_26 : decode cX3_number 26 = .ok (.iconst 3, 1) := dk_6 (dk_at dksX3_number_1 2 rfl rfl)
theorem dX3_number_27 : decode cX3_number 27 = .ok (.iadd, 1) := dk_96 (dk_at dksX3_number_1 3 rfl rfl)
theorem dX3_number_28 : decode cX3_number 28 = .ok (.iaload, 1) := dk_46 (dk_at dksX3_number_1 4 rfl rfl)
theorem dX3_number_29 : decode cX3_number 29 = .ok (.ior, 1) := dk_128 (dk_at dksX3_number_1 5 rfl rfl)
theorem dX3_number_30 : decode cX3_number 30 = .ok (.ireturn, 1) := dk_172 (dk_at dksX3_number_1 6 rfl rfl)
abbrev cX3_turned : ByteArray := prog_6_method_19_code
def yX3_turned : MethodName := ⟨RX3, "turned", "(J)J"⟩
def dkwX3_turned_0 : List UInt8 := [30, 16, 9, 121, 30, 16, 55, 125, 129, 20, 0, 111, 131, 173]
abbrev dktX3_turned_0 : List UInt8 := dkwX3_turned_0 ++ []
theorem dksX3_turned_0 : cX3_turned.data.toList.drop 0 = dktX3_turned_0 := by decide +kernel
theorem dX3_turned_0 : decode cX3_turned 0 = .ok (.lload_n 0, 1) := dk_30 (dk_at dksX3_turned_0 0 rfl rfl)
theorem dX3_turned_1 : decode cX3_turned 1 = .ok (.bipush 9, 2) := dk_16 9 (dk_at dksX3_turned_0 1 rfl rfl)
theorem dX3_turned_3 : decode cX3_turned 3 = .ok (.lshl, 1) := dk_121 (dk_at dksX3_turned_0 3 rfl rfl)
theorem dX3_turned_4 : decode cX3_turned 4 = .ok (.lload_n 0, 1) := dk_30 (dk_at dksX3_turned_0 4 rfl rfl)
theorem dX3_turned_5 : decode cX3_turned 5 = .ok (.bipush 55, 2) := dk_16 55 (dk_at dksX3_turned_0 5 rfl rfl)
theorem dX3_turned_7 : decode cX3_turned 7 = .ok (.lushr, 1) := dk_125 (dk_at dksX3_turned_0 7 rfl rfl)
theorem dX3_turned_8 : decode cX3_turned 8 = .ok (.lor, 1) := dk_129 (dk_at dksX3_turned_0 8 rfl rfl)
theorem dX3_turned_9 : decode cX3_turned 9 = .ok (.ldc2_w 111, 3) := dk_20 0 111 (dk_at dksX3_turned_0 9 rfl rfl)
theorem dX3_turned_12 : decode cX3_turned 12 = .ok (.lxor, 1) := dk_131 (dk_at dksX3_turned_0 12 rfl rfl)
theorem dX3_turned_13 : decode cX3_turned 13 = .ok (.lreturn, 1) := dk_173 (dk_at dksX3_turned_0 13 rfl rfl)
abbrev cX3_lay : ByteArray := prog_6_method_20_code
def yX3_lay : MethodName := ⟨RX3, "lay", "(IIIJ)I"⟩
def dkwX3_lay_7 : List UInt8 := [28, 172]
abbrev dktX3_lay_7 : List UInt8 := dkwX3_lay_7 ++ []
def dkwX3_lay_6 : List UInt8 := [46, 3, 84, 42, 180, 0, 23, 21, 6, 4, 84, 42, 180, 0, 27, 28, 21, 6, 79, 42, 4, 181, 0, 76]
abbrev dktX3_lay_6 : List UInt8 := dkwX3_lay_6 ++ dktX3_lay_7
def dkwX3_lay_5 : List UInt8 := [21, 6, 184, 0, 124, 42, 180, 0, 27, 28, 46, 2, 159, 0, 15, 42, 180, 0, 23, 42, 180, 0, 27, 28]
abbrev dktX3_lay_5 : List UInt8 := dkwX3_lay_5 ++ dktX3_lay_6
def dkwX3_lay_4 : List UInt8 := [29, 79, 42, 180, 0, 20, 16, 32, 21, 6, 104, 16, 8, 96, 22, 4, 184, 0, 120, 42, 180, 0, 20]
abbrev dktX3_lay_4 : List UInt8 := dkwX3_lay_4 ++ dktX3_lay_5
def dkwX3_lay_3 : List UInt8 := [180, 0, 20, 16, 32, 21, 6, 104, 8, 96, 28, 79, 42, 180, 0, 20, 16, 32, 21, 6, 104, 16, 6, 96]
abbrev dktX3_lay_3 : List UInt8 := dkwX3_lay_3 ++ dktX3_lay_4
def dkwX3_lay_2 : List UInt8 := [96, 3, 79, 132, 7, 1, 167, 255, 232, 42, 180, 0, 20, 16, 32, 21, 6, 104, 7, 96, 27, 79, 42]
abbrev dktX3_lay_2 : List UInt8 := dkwX3_lay_2 ++ dktX3_lay_3
def dkwX3_lay_1 : List UInt8 := [16, 252, 172, 3, 54, 7, 21, 7, 16, 32, 162, 0, 23, 42, 180, 0, 20, 16, 32, 21, 6, 104, 21, 7]
abbrev dktX3_lay_1 : List UInt8 := dkwX3_lay_1 ++ dktX3_lay_2
def dkwX3_lay_0 : List UInt8 := [42, 182, 0, 113, 54, 6, 28, 2, 159, 0, 16, 21, 6, 2, 159, 0, 10, 42, 180, 0, 117, 153, 0, 6]
abbrev dktX3_lay_0 : List UInt8 := dkwX3_lay_0 ++ dktX3_lay_1
theorem dksX3_lay_0 : cX3_lay.data.toList.drop 0 = dktX3_lay_0 := by decide +kernel
theorem dksX3_lay_1 : cX3_lay.data.toList.drop 24 = dktX3_lay_1 := dk_seg dksX3_lay_0 24 rfl rfl
theorem dksX3_lay_2 : cX3_lay.data.toList.drop 48 = dktX3_lay_2 := dk_seg dksX3_lay_1 24 rfl rfl
theorem dksX3_lay_3 : cX3_lay.data.toList.drop 71 = dktX3_lay_3 := dk_seg dksX3_lay_2 23 rfl rfl
theorem dksX3_lay_4 : cX3_lay.data.toList.drop 95 = dktX3_lay_4 := dk_seg dksX3_lay_3 24 rfl rfl
theorem dksX3_lay_5 : cX3_lay.data.toList.drop 118 = dktX3_lay_5 := dk_seg dksX3_lay_4 23 rfl rfl
theorem dksX3_lay_6 : cX3_lay.data.toList.drop 142 = dktX3_lay_6 := dk_seg dksX3_lay_5 24 rfl rfl
theorem dksX3_lay_7 : cX3_lay.data.toList.drop 166 = dktX3_lay_7 := dk_seg dksX3_lay_6 24 rfl rfl
theorem dX3_lay_0 : decode cX3_lay 0 = .ok (.aload_n 0, 1) := dk_42 (dk_at dksX3_lay_0 0 rfl rfl)
theorem dX3_lay_1 : decode cX3_lay 1 = .ok (.invokevirtual 113, 3) := dk_182 0 113 (dk_at dksX3_lay_0 1 rfl rfl)
theorem dX3_lay_4 : decode cX3_lay 4 = .ok (.istore 6, 2) := dk_54 6 (dk_at dksX3_lay_0 4 rfl rfl)
theorem dX3_lay_6 : decode cX3_lay 6 = .ok (.iload_n 2, 1) := dk_28 (dk_at dksX3_lay_0 6 rfl rfl)
theorem dX3_lay_7 : decode cX3_lay 7 = .ok (.iconst (-1), 1) := dk_2 (dk_at dksX3_lay_0 7 rfl rfl)
theorem dX3_lay_8 : decode cX3_lay 8 = .ok (.if_icmp .eq 16, 3) := dk_159 0 16 (dk_at dksX3_lay_0 8 rfl rfl)
theorem dX3_lay_11 : decode cX3_lay 11 = .ok (.iload 6, 2) := dk_21 6 (dk_at dksX3_lay_0 11 rfl rfl)
theorem dX3_lay_13 : decode cX3_lay 13 = .ok (.iconst (-1), 1) := dk_2 (dk_at dksX3_lay_0 13 rfl rfl)
theorem dX3_lay_14 : decode cX3_lay 14 = .ok (.if_icmp .eq 10, 3) := dk_159 0 10 (dk_at dksX3_lay_0 14 rfl rfl)
theorem dX3_lay_17 : decode cX3_lay 17 = .ok (.aload_n 0, 1) := dk_42 (dk_at dksX3_lay_0 17 rfl rfl)
theorem dX3_lay_18 : decode cX3_lay 18 = .ok (.getfield 117, 3) := dk_180 0 117 (dk_at dksX3_lay_0 18 rfl rfl)
theorem dX3_lay_21 : decode cX3_lay 21 = .ok (.ifCond .eq 6, 3) := dk_153 0 6 (dk_at dksX3_lay_0 21 rfl rfl)
theorem dX3_lay_24 : decode cX3_lay 24 = .ok (.bipush (-4), 2) := dk_16 252 (dk_at dksX3_lay_1 0 rfl rfl)
theorem dX3_lay_26 : decode cX3_lay 26 = .ok (.ireturn, 1) := dk_172 (dk_at dksX3_lay_1 2 rfl rfl)
theorem dX3_lay_27 : decode cX3_lay 27 = .ok (.iconst 0, 1) := dk_3 (dk_at dksX3_lay_1 3 rfl rfl)
theorem dX3_lay_28 : decode cX3_lay 28 = .ok (.istore 7, 2) := dk_54 7 (dk_at dksX3_lay_1 4 rfl rfl)
theorem dX3_lay_30 : decode cX3_lay 30 = .ok (.iload 7, 2) := dk_21 7 (dk_at dksX3_lay_1 6 rfl rfl)
theorem dX3_lay_32 : decode cX3_lay 32 = .ok (.bipush 32, 2) := dk_16 32 (dk_at dksX3_lay_1 8 rfl rfl)
theorem dX3_lay_34 : decode cX3_lay 34 = .ok (.if_icmp .ge 23, 3) := dk_162 0 23 (dk_at dksX3_lay_1 10 rfl rfl)
theorem dX3_lay_37 : decode cX3_lay 37 = .ok (.aload_n 0, 1) := dk_42 (dk_at dksX3_lay_1 13 rfl rfl)
theorem dX3_lay_38 : decode cX3_lay 38 = .ok (.getfield 20, 3) := dk_180 0 20 (dk_at dksX3_lay_1 14 rfl rfl)
theorem dX3_lay_41 : decode cX3_lay 41 = .ok (.bipush 32, 2) := dk_16 32 (dk_at dksX3_lay_1 17 rfl rfl)
theorem dX3_lay_43 : decode cX3_lay 43 = .ok (.iload 6, 2) := dk_21 6 (dk_at dksX3_lay_1 19 rfl rfl)
theorem dX3_lay_45 : decode cX3_lay 45 = .ok (.imul, 1) := dk_104 (dk_at dksX3_lay_1 21 rfl rfl)
theorem dX3_lay_46 : decode cX3_lay 46 = .ok (.iload 7, 2) := dk_21 7 (dk_at dksX3_lay_1 22 rfl rfl)
theorem dX3_lay_48 : decode cX3_lay 48 = .ok (.iadd, 1) := dk_96 (dk_at dksX3_lay_2 0 rfl rfl)
theorem dX3_lay_49 : decode cX3_lay 49 = .ok (.iconst 0, 1) := dk_3 (dk_at dksX3_lay_2 1 rfl rfl)
theorem dX3_lay_50 : decode cX3_lay 50 = .ok (.iastore, 1) := dk_79 (dk_at dksX3_lay_2 2 rfl rfl)
theorem dX3_lay_51 : decode cX3_lay 51 = .ok (.iinc 7 1, 3) := dk_132 7 1 (dk_at dksX3_lay_2 3 rfl rfl)
theorem dX3_lay_54 : decode cX3_lay 54 = .ok (.goto (-24), 3) := dk_167 255 232 (dk_at dksX3_lay_2 6 rfl rfl)
theorem dX3_lay_57 : decode cX3_lay 57 = .ok (.aload_n 0, 1) := dk_42 (dk_at dksX3_lay_2 9 rfl rfl)
theorem dX3_lay_58 : decode cX3_lay 58 = .ok (.getfield 20, 3) := dk_180 0 20 (dk_at dksX3_lay_2 10 rfl rfl)
theorem dX3_lay_61 : decode cX3_lay 61 = .ok (.bipush 32, 2) := dk_16 32 (dk_at dksX3_lay_2 13 rfl rfl)
theorem dX3_lay_63 : decode cX3_lay 63 = .ok (.iload 6, 2) := dk_21 6 (dk_at dksX3_lay_2 15 rfl rfl)
theorem dX3_lay_65 : decode cX3_lay 65 = .ok (.imul, 1) := dk_104 (dk_at dksX3_lay_2 17 rfl rfl)
theorem dX3_lay_66 : decode cX3_lay 66 = .ok (.iconst 4, 1) := dk_7 (dk_at dksX3_lay_2 18 rfl rfl)
theorem dX3_lay_67 : decode cX3_lay 67 = .ok (.iadd, 1) := dk_96 (dk_at dksX3_lay_2 19 rfl rfl)
theorem dX3_lay_68 : decode cX3_lay 68 = .ok (.iload_n 1, 1) := dk_27 (dk_at dksX3_lay_2 20 rfl rfl)
theorem dX3_lay_69 : decode cX3_lay 69 = .ok (.iastore, 1) := dk_79 (dk_at dksX3_lay_2 21 rfl rfl)
theorem dX3_lay_70 : decode cX3_lay 70 = .ok (.aload_n 0, 1) := dk_42 (dk_at dksX3_lay_2 22 rfl rfl)
theorem dX3_lay_71 : decode cX3_lay 71 = .ok (.getfield 20, 3) := dk_180 0 20 (dk_at dksX3_lay_3 0 rfl rfl)
theorem dX3_lay_74 : decode cX3_lay 74 = .ok (.bipush 32, 2) := dk_16 32 (dk_at dksX3_lay_3 3 rfl rfl)
theorem dX3_lay_76 : decode cX3_lay 76 = .ok (.iload 6, 2) := dk_21 6 (dk_at dksX3_lay_3 5 rfl rfl)
theorem dX3_lay_78 : decode cX3_lay 78 = .ok (.imul, 1) := dk_104 (dk_at dksX3_lay_3 7 rfl rfl)
theorem dX3_lay_79 : decode cX3_lay 79 = .ok (.iconst 5, 1) := dk_8 (dk_at dksX3_lay_3 8 rfl rfl)
theorem dX3_lay_80 : decode cX3_lay 80 = .ok (.iadd, 1) := dk_96 (dk_at dksX3_lay_3 9 rfl rfl)
theorem dX3_lay_81 : decode cX3_lay 81 = .ok (.iload_n 2, 1) := dk_28 (dk_at dksX3_lay_3 10 rfl rfl)
theorem dX3_lay_82 : decode cX3_lay 82 = .ok (.iastore, 1) := dk_79 (dk_at dksX3_lay_3 11 rfl rfl)
theorem dX3_lay_83 : decode cX3_lay 83 = .ok (.aload_n 0, 1) := dk_42 (dk_at dksX3_lay_3 12 rfl rfl)
theorem dX3_lay_84 : decode cX3_lay 84 = .ok (.getfield 20, 3) := dk_180 0 20 (dk_at dksX3_lay_3 13 rfl rfl)
theorem dX3_lay_87 : decode cX3_lay 87 = .ok (.bipush 32, 2) := dk_16 32 (dk_at dksX3_lay_3 16 rfl rfl)
theorem dX3_lay_89 : decode cX3_lay 89 = .ok (.iload 6, 2) := dk_21 6 (dk_at dksX3_lay_3 18 rfl rfl)
theorem dX3_lay_91 : decode cX3_lay 91 = .ok (.imul, 1) := dk_104 (dk_at dksX3_lay_3 20 rfl rfl)
theorem dX3_lay_92 : decode cX3_lay 92 = .ok (.bipush 6, 2) := dk_16 6 (dk_at dksX3_lay_3 21 rfl rfl)
theorem dX3_lay_94 : decode cX3_lay 94 = .ok (.iadd, 1) := dk_96 (dk_at dksX3_lay_3 23 rfl rfl)
theorem dX3_lay_95 : decode cX3_lay 95 = .ok (.iload_n 3, 1) := dk_29 (dk_at dksX3_lay_4 0 rfl rfl)
theorem dX3_lay_96 : decode cX3_lay 96 = .ok (.iastore, 1) := dk_79 (dk_at dksX3_lay_4 1 rfl rfl)
theorem dX3_lay_97 : decode cX3_lay 97 = .ok (.aload_n 0, 1) := dk_42 (dk_at dksX3_lay_4 2 rfl rfl)
theorem dX3_lay_98 : decode cX3_lay 98 = .ok (.getfield 20, 3) := dk_180 0 20 (dk_at dksX3_lay_4 3 rfl rfl)
theorem dX3_lay_101 : decode cX3_lay 101 = .ok (.bipush 32, 2) := dk_16 32 (dk_at dksX3_lay_4 6 rfl rfl)
theorem dX3_lay_103 : decode cX3_lay 103 = .ok (.iload 6, 2) := dk_21 6 (dk_at dksX3_lay_4 8 rfl rfl)
theorem dX3_lay_105 : decode cX3_lay 105 = .ok (.imul, 1) := dk_104 (dk_at dksX3_lay_4 10 rfl rfl)
theorem dX3_lay_106 : decode cX3_lay 106 = .ok (.bipush 8, 2) := dk_16 8 (dk_at dksX3_lay_4 11 rfl rfl)
theorem dX3_lay_108 : decode cX3_lay 108 = .ok (.iadd, 1) := dk_96 (dk_at dksX3_lay_4 13 rfl rfl)
theorem dX3_lay_109 : decode cX3_lay 109 = .ok (.lload 4, 2) := dk_22 4 (dk_at dksX3_lay_4 14 rfl rfl)
theorem dX3_lay_111 : decode cX3_lay 111 = .ok (.invokestatic 120, 3) := dk_184 0 120 (dk_at dksX3_lay_4 16 rfl rfl)
theorem dX3_lay_114 : decode cX3_lay 114 = .ok (.aload_n 0, 1) := dk_42 (dk_at dksX3_lay_4 19 rfl rfl)
theorem dX3_lay_115 : decode cX3_lay 115 = .ok (.getfield 20, 3) := dk_180 0 20 (dk_at dksX3_lay_4 20 rfl rfl)
theorem dX3_lay_118 : decode cX3_lay 118 = .ok (.iload 6, 2) := dk_21 6 (dk_at dksX3_lay_5 0 rfl rfl)
theorem dX3_lay_120 : decode cX3_lay 120 = .ok (.invokestatic 124, 3) := dk_184 0 124 (dk_at dksX3_lay_5 2 rfl rfl)
theorem dX3_lay_123 : decode cX3_lay 123 = .ok (.aload_n 0, 1) := dk_42 (dk_at dksX3_lay_5 5 rfl rfl)
theorem dX3_lay_124 : decode cX3_lay 124 = .ok (.getfield 27, 3) := dk_180 0 27 (dk_at dksX3_lay_5 6 rfl rfl)
theorem dX3_lay_127 : decode cX3_lay 127 = .ok (.iload_n 2, 1) := dk_28 (dk_at dksX3_lay_5 9 rfl rfl)
theorem dX3_lay_128 : decode cX3_lay 128 = .ok (.iaload, 1) := dk_46 (dk_at dksX3_lay_5 10 rfl rfl)
theorem dX3_lay_129 : decode cX3_lay 129 = .ok (.iconst (-1), 1) := dk_2 (dk_at dksX3_lay_5 11 rfl rfl)
theorem dX3_lay_130 : decode cX3_lay 130 = .ok (.if_icmp .eq 15, 3) := dk_159 0 15 (dk_at dksX3_lay_5 12 rfl rfl)
theorem dX3_lay_133 : decode cX3_lay 133 = .ok (.aload_n 0, 1) := dk_42 (dk_at dksX3_lay_5 15 rfl rfl)
theorem dX3_lay_134 : decode cX3_lay 134 = .ok (.getfield 23, 3) := dk_180 0 23 (dk_at dksX3_lay_5 16 rfl rfl)
theorem dX3_lay_137 : decode cX3_lay 137 = .ok (.aload_n 0, 1) := dk_42 (dk_at dksX3_lay_5 19 rfl rfl)
theorem dX3_lay_138 : decode cX3_lay 138 = .ok (.getfield 27, 3) := dk_180 0 27 (dk_at dksX3_lay_5 20 rfl rfl)
theorem dX3_lay_141 : decode cX3_lay 141 = .ok (.iload_n 2, 1) := dk_28 (dk_at dksX3_lay_5 23 rfl rfl)
theorem dX3_lay_142 : decode cX3_lay 142 = .ok (.iaload, 1) := dk_46 (dk_at dksX3_lay_6 0 rfl rfl)
theorem dX3_lay_143 : decode cX3_lay 143 = .ok (.iconst 0, 1) := dk_3 (dk_at dksX3_lay_6 1 rfl rfl)
theorem dX3_lay_144 : decode cX3_lay 144 = .ok (.bastore, 1) := dk_84 (dk_at dksX3_lay_6 2 rfl rfl)
theorem dX3_lay_145 : decode cX3_lay 145 = .ok (.aload_n 0, 1) := dk_42 (dk_at dksX3_lay_6 3 rfl rfl)
theorem dX3_lay_146 : decode cX3_lay 146 = .ok (.getfield 23, 3) := dk_180 0 23 (dk_at dksX3_lay_6 4 rfl rfl)
theorem dX3_lay_149 : decode cX3_lay 149 = .ok (.iload 6, 2) := dk_21 6 (dk_at dksX3_lay_6 7 rfl rfl)
theorem dX3_lay_151 : decode cX3_lay 151 = .ok (.iconst 1, 1) := dk_4 (dk_at dksX3_lay_6 9 rfl rfl)
theorem dX3_lay_152 : decode cX3_lay 152 = .ok (.bastore, 1) := dk_84 (dk_at dksX3_lay_6 10 rfl rfl)
theorem dX3_lay_153 : decode cX3_lay 153 = .ok (.aload_n 0, 1) := dk_42 (dk_at dksX3_lay_6 11 rfl rfl)
theorem dX3_lay_154 : decode cX3_lay 154 = .ok (.getfield 27, 3) := dk_180 0 27 (dk_at dksX3_lay_6 12 rfl rfl)
theorem dX3_lay_157 : decode cX3_lay 157 = .ok (.iload_n 2, 1) := dk_28 (dk_at dksX3_lay_6 15 rfl rfl)
theorem dX3_lay_158 : decode cX3_lay 158 = .ok (.iload 6, 2) := dk_21 6 (dk_at dksX3_lay_6 16 rfl rfl)
theorem dX3_lay_160 : decode cX3_lay 160 = .ok (.iastore, 1) := dk_79 (dk_at dksX3_lay_6 18 rfl rfl)
theorem dX3_lay_161 : decode cX3_lay 161 = .ok (.aload_n 0, 1) := dk_42 (dk_at dksX3_lay_6 19 rfl rfl)
theorem dX3_lay_162 : decode cX3_lay 162 = .ok (.iconst 1, 1) := dk_4 (dk_at dksX3_lay_6 20 rfl rfl)
theorem dX3_lay_163 : decode cX3_lay 163 = .ok (.putfield 76, 3) := dk_181 0 76 (dk_at dksX3_lay_6 21 rfl rfl)
theorem dX3_lay_166 : decode cX3_lay 166 = .ok (.iload_n 2, 1) := dk_28 (dk_at dksX3_lay_7 0 rfl rfl)
theorem dX3_lay_167 : decode cX3_lay 167 = .ok (.ireturn, 1) := dk_172 (dk_at dksX3_lay_7 1 rfl rfl)
abbrev cX3_freeSector : ByteArray := prog_6_method_17_code
def yX3_freeSector : MethodName := ⟨RX3, "freeSector", "()I"⟩
def dkwX3_freeSector_1 : List UInt8 := [27, 42, 180, 0, 53, 162, 0, 7, 27, 167, 0, 4, 2, 172]
abbrev dktX3_freeSector_1 : List UInt8 := dkwX3_freeSector_1 ++ []
def dkwX3_freeSector_0 : List UInt8 := [5, 60, 27, 42, 180, 0, 53, 162, 0, 17, 42, 27, 182, 0, 108, 153, 0, 9, 132, 1, 1, 167, 255, 237]
abbrev dktX3_freeSector_0 : List UInt8 := dkwX3_freeSector_0 ++ dktX3_freeSector_1
theorem dksX3_freeSector_0 : cX3_freeSector.data.toList.drop 0 = dktX3_freeSector_0 := by decide +kernel
theorem dksX3_freeSector_1 : cX3_freeSector.data.toList.drop 24 = dktX3_freeSector_1 := dk_seg dksX3_freeSector_0 24 rfl rfl
theorem dX3_freeSector_0 : decode cX3_freeSector 0 = .ok (.iconst 2, 1) := dk_5 (dk_at dksX3_freeSector_0 0 rfl rfl)
theorem dX3_freeSector_1 : decode cX3_freeSector 1 = .ok (.istore_n 1, 1) := dk_60 (dk_at dksX3_freeSector_0 1 rfl rfl)
theorem dX3_freeSector_2 : decode cX3_freeSector 2 = .ok (.iload_n 1, 1) := dk_27 (dk_at dksX3_freeSector_0 2 rfl rfl)
theorem dX3_freeSector_3 : decode cX3_freeSector 3 = .ok (.aload_n 0, 1) := dk_42 (dk_at dksX3_freeSector_0 3 rfl rfl)
theorem dX3_freeSector_4 : decode cX3_freeSector 4 = .ok (.getfield 53, 3) := dk_180 0 53 (dk_at dksX3_freeSector_0 4 rfl rfl)
theorem dX3_freeSector_7 : decode cX3_freeSector 7 = .ok (.if_icmp .ge 17, 3) := dk_162 0 17 (dk_at dksX3_freeSector_0 7 rfl rfl)
theorem dX3_freeSector_10 : decode cX3_freeSector 10 = .ok (.aload_n 0, 1) := dk_42 (dk_at dksX3_freeSector_0 10 rfl rfl)
theorem dX3_freeSector_11 : decode cX3_freeSector 11 = .ok (.iload_n 1, 1) := dk_27 (dk_at dksX3_freeSector_0 11 rfl rfl)
theorem dX3_freeSector_12 : decode cX3_freeSector 12 = .ok (.invokevirtual 108, 3) := dk_182 0 108 (dk_at dksX3_freeSector_0 12 rfl rfl)
theorem dX3_freeSector_15 : decode cX3_freeSector 15 = .ok (.ifCond .eq 9, 3) := dk_153 0 9 (dk_at dksX3_freeSector_0 15 rfl rfl)
theorem dX3_freeSector_18 : decode cX3_freeSector 18 = .ok (.iinc 1 1, 3) := dk_132 1 1 (dk_at dksX3_freeSector_0 18 rfl rfl)
theorem dX3_freeSector_21 : decode cX3_freeSector 21 = .ok (.goto (-19), 3) := dk_167 255 237 (dk_at dksX3_freeSector_0 21 rfl rfl)
theorem dX3_freeSector_24 : decode cX3_freeSector 24 = .ok (.iload_n 1, 1) := dk_27 (dk_at dksX3_freeSector_1 0 rfl rfl)
theorem dX3_freeSector_25 : decode cX3_freeSector 25 = .ok (.aload_n 0, 1) := dk_42 (dk_at dksX3_freeSector_1 1 rfl rfl)
theorem dX3_freeSector_26 : decode cX3_freeSector 26 = .ok (.getfield 53, 3) := dk_180 0 53 (dk_at dksX3_freeSector_1 2 rfl rfl)
theorem dX3_freeSector_29 : decode cX3_freeSector 29 = .ok (.if_icmp .ge 7, 3) := dk_162 0 7 (dk_at dksX3_freeSector_1 5 rfl rfl)
theorem dX3_freeSector_32 : decode cX3_freeSector 32 = .ok (.iload_n 1, 1) := dk_27 (dk_at dksX3_freeSector_1 8 rfl rfl)
theorem dX3_freeSector_33 : decode cX3_freeSector 33 = .ok (.goto 4, 3) := dk_167 0 4 (dk_at dksX3_freeSector_1 9 rfl rfl)
theorem dX3_freeSector_36 : decode cX3_freeSector 36 = .ok (.iconst (-1), 1) := dk_2 (dk_at dksX3_freeSector_1 12 rfl rfl)
theorem dX3_freeSector_37 : decode cX3_freeSector 37 = .ok (.ireturn, 1) := dk_172 (dk_at dksX3_freeSector_1 13 rfl rfl)
abbrev cX3_isHeld : ByteArray := prog_6_method_16_code
def yX3_isHeld : MethodName := ⟨RX3, "isHeld", "(I)Z"⟩
def dkwX3_isHeld_4 : List UInt8 := [154, 0, 7, 4, 167, 0, 4, 3, 61, 132, 3, 1, 167, 255, 220, 28, 172]
abbrev dktX3_isHeld_4 : List UInt8 := dkwX3_isHeld_4 ++ []
def dkwX3_isHeld_3 : List UInt8 := [180, 0, 67, 162, 0, 34, 28, 154, 0, 18, 42, 180, 0, 47, 29, 47, 27, 123, 10, 127, 10, 148]
abbrev dktX3_isHeld_3 : List UInt8 := dkwX3_isHeld_3 ++ dktX3_isHeld_4
def dkwX3_isHeld_2 : List UInt8 := [10, 127, 10, 148, 154, 0, 7, 4, 167, 0, 4, 3, 61, 132, 3, 1, 167, 255, 220, 3, 62, 29, 42]
abbrev dktX3_isHeld_2 : List UInt8 := dkwX3_isHeld_2 ++ dktX3_isHeld_3
def dkwX3_isHeld_1 : List UInt8 := [180, 0, 61, 62, 29, 42, 180, 0, 64, 163, 0, 34, 28, 154, 0, 18, 42, 180, 0, 40, 29, 47, 27, 123]
abbrev dktX3_isHeld_1 : List UInt8 := dkwX3_isHeld_1 ++ dktX3_isHeld_2
def dkwX3_isHeld_0 : List UInt8 := [42, 27, 182, 0, 101, 154, 0, 11, 42, 27, 182, 0, 105, 153, 0, 7, 4, 167, 0, 4, 3, 61, 42]
abbrev dktX3_isHeld_0 : List UInt8 := dkwX3_isHeld_0 ++ dktX3_isHeld_1
theorem dksX3_isHeld_0 : cX3_isHeld.data.toList.drop 0 = dktX3_isHeld_0 := by decide +kernel
theorem dksX3_isHeld_1 : cX3_isHeld.data.toList.drop 23 = dktX3_isHeld_1 := dk_seg dksX3_isHeld_0 23 rfl rfl
theorem dksX3_isHeld_2 : cX3_isHeld.data.toList.drop 47 = dktX3_isHeld_2 := dk_seg dksX3_isHeld_1 24 rfl rfl
theorem dksX3_isHeld_3 : cX3_isHeld.data.toList.drop 70 = dktX3_isHeld_3 := dk_seg dksX3_isHeld_2 23 rfl rfl
theorem dksX3_isHeld_4 : cX3_isHeld.data.toList.drop 92 = dktX3_isHeld_4 := dk_seg dksX3_isHeld_3 22 rfl rfl
theorem dX3_isHeld_0 : decode cX3_isHeld 0 = .ok (.aload_n 0, 1) := dk_42 (dk_at dksX3_isHeld_0 0 rfl rfl)
theorem dX3_isHeld_1 : decode cX3_isHeld 1 = .ok (.iload_n 1, 1) := dk_27 (dk_at dksX3_isHeld_0 1 rfl rfl)
theorem dX3_isHeld_2 : decode cX3_isHeld 2 = .ok (.invokevirtual 101, 3) := dk_182 0 101 (dk_at dksX3_isHeld_0 2 rfl rfl)
theorem dX3_isHeld_5 : decode cX3_isHeld 5 = .ok (.ifCond .ne 11, 3) := dk_154 0 11 (dk_at dksX3_isHeld_0 5 rfl rfl)
theorem dX3_isHeld_8 : decode cX3_isHeld 8 = .ok (.aload_n 0, 1) := dk_42 (dk_at dksX3_isHeld_0 8 rfl rfl)
theorem dX3_isHeld_9 : decode cX3_isHeld 9 = .ok (.iload_n 1, 1) := dk_27 (dk_at dksX3_isHeld_0 9 rfl rfl)
theorem dX3_isHeld_10 : decode cX3_isHeld 10 = .ok (.invokevirtual 105, 3) := dk_182 0 105 (dk_at dksX3_isHeld_0 10 rfl rfl)
theorem dX3_isHeld_13 : decode cX3_isHeld 13 = .ok (.ifCond .eq 7, 3) := dk_153 0 7 (dk_at dksX3_isHeld_0 13 rfl rfl)
theorem dX3_isHeld_16 : decode cX3_isHeld 16 = .ok (.iconst 1, 1) := dk_4 (dk_at dksX3_isHeld_0 16 rfl rfl)
theorem dX3_isHeld_17 : decode cX3_isHeld 17 = .ok (.goto 4, 3) := dk_167 0 4 (dk_at dksX3_isHeld_0 17 rfl rfl)
theorem dX3_isHeld_20 : decode cX3_isHeld 20 = .ok (.iconst 0, 1) := dk_3 (dk_at dksX3_isHeld_0 20 rfl rfl)
theorem dX3_isHeld_21 : decode cX3_isHeld 21 = .ok (.istore_n 2, 1) := dk_61 (dk_at dksX3_isHeld_0 21 rfl rfl)
theorem dX3_isHeld_22 : decode cX3_isHeld 22 = .ok (.aload_n 0, 1) := dk_42 (dk_at dksX3_isHeld_0 22 rfl rfl)
theorem dX3_isHeld_23 : decode cX3_isHeld 23 = .ok (.getfield 61, 3) := dk_180 0 61 (dk_at dksX3_isHeld_1 0 rfl rfl)
theorem dX3_isHeld_26 : decode cX3_isHeld 26 = .ok (.istore_n 3, 1) := dk_62 (dk_at dksX3_isHeld_1 3 rfl rfl)
theorem dX3_isHeld_27 : decode cX3_isHeld 27 = .ok (.iload_n 3, 1) := dk_29 (dk_at dksX3_isHeld_1 4 rfl rfl)
theorem dX3_isHeld_28 : decode cX3_isHeld 28 = .ok (.aload_n 0, 1) := dk_42 (dk_at dksX3_isHeld_1 5 rfl rfl)
theorem dX3_isHeld_29 : decode cX3_isHeld 29 = .ok (.getfield 64, 3) := dk_180 0 64 (dk_at dksX3_isHeld_1 6 rfl rfl)
theorem dX3_isHeld_32 : decode cX3_isHeld 32 = .ok (.if_icmp .gt 34, 3) := dk_163 0 34 (dk_at dksX3_isHeld_1 9 rfl rfl)
theorem dX3_isHeld_35 : decode cX3_isHeld 35 = .ok (.iload_n 2, 1) := dk_28 (dk_at dksX3_isHeld_1 12 rfl rfl)
theorem dX3_isHeld_36 : decode cX3_isHeld 36 = .ok (.ifCond .ne 18, 3) := dk_154 0 18 (dk_at dksX3_isHeld_1 13 rfl rfl)
theorem dX3_isHeld_39 : decode cX3_isHeld 39 = .ok (.aload_n 0, 1) := dk_42 (dk_at dksX3_isHeld_1 16 rfl rfl)
theorem dX3_isHeld_40 : decode cX3_isHeld 40 = .ok (.getfield 40, 3) := dk_180 0 40 (dk_at dksX3_isHeld_1 17 rfl rfl)
theorem dX3_isHeld_43 : decode cX3_isHeld 43 = .ok (.iload_n 3, 1) := dk_29 (dk_at dksX3_isHeld_1 20 rfl rfl)
theorem dX3_isHeld_44 : decode cX3_isHeld 44 = .ok (.laload, 1) := dk_47 (dk_at dksX3_isHeld_1 21 rfl rfl)
theorem dX3_isHeld_45 : decode cX3_isHeld 45 = .ok (.iload_n 1, 1) := dk_27 (dk_at dksX3_isHeld_1 22 rfl rfl)
theorem dX3_isHeld_46 : decode cX3_isHeld 46 = .ok (.lshr, 1) := dk_123 (dk_at dksX3_isHeld_1 23 rfl rfl)
theorem dX3_isHeld_47 : decode cX3_isHeld 47 = .ok (.lconst 1, 1) := dk_10 (dk_at dksX3_isHeld_2 0 rfl rfl)
theorem dX3_isHeld_48 : decode cX3_isHeld 48 = .ok (.land, 1) := dk_127 (dk_at dksX3_isHeld_2 1 rfl rfl)
theorem dX3_isHeld_49 : decode cX3_isHeld 49 = .ok (.lconst 1, 1) := dk_10 (dk_at dksX3_isHeld_2 2 rfl rfl)
theorem dX3_isHeld_50 : decode cX3_isHeld 50 = .ok (.lcmp, 1) := dk_148 (dk_at dksX3_isHeld_2 3 rfl rfl)
theorem dX3_isHeld_51 : decode cX3_isHeld 51 = .ok (.ifCond .ne 7, 3) := dk_154 0 7 (dk_at dksX3_isHeld_2 4 rfl rfl)
theorem dX3_isHeld_54 : decode cX3_isHeld 54 = .ok (.iconst 1, 1) := dk_4 (dk_at dksX3_isHeld_2 7 rfl rfl)
theorem dX3_isHeld_55 : decode cX3_isHeld 55 = .ok (.goto 4, 3) := dk_167 0 4 (dk_at dksX3_isHeld_2 8 rfl rfl)
theorem dX3_isHeld_58 : decode cX3_isHeld 58 = .ok (.iconst 0, 1) := dk_3 (dk_at dksX3_isHeld_2 11 rfl rfl)
theorem dX3_isHeld_59 : decode cX3_isHeld 59 = .ok (.istore_n 2, 1) := dk_61 (dk_at dksX3_isHeld_2 12 rfl rfl)
theorem dX3_isHeld_60 : decode cX3_isHeld 60 = .ok (.iinc 3 1, 3) := dk_132 3 1 (dk_at dksX3_isHeld_2 13 rfl rfl)
theorem dX3_isHeld_63 : decode cX3_isHeld 63 = .ok (.goto (-36), 3) := dk_167 255 220 (dk_at dksX3_isHeld_2 16 rfl rfl)
theorem dX3_isHeld_66 : decode cX3_isHeld 66 = .ok (.iconst 0, 1) := dk_3 (dk_at dksX3_isHeld_2 19 rfl rfl)
theorem dX3_isHeld_67 : decode cX3_isHeld 67 = .ok (.istore_n 3, 1) := dk_62 (dk_at dksX3_isHeld_2 20 rfl rfl)
theorem dX3_isHeld_68 : decode cX3_isHeld 68 = .ok (.iload_n 3, 1) := dk_29 (dk_at dksX3_isHeld_2 21 rfl rfl)
theorem dX3_isHeld_69 : decode cX3_isHeld 69 = .ok (.aload_n 0, 1) := dk_42 (dk_at dksX3_isHeld_2 22 rfl rfl)
theorem dX3_isHeld_70 : decode cX3_isHeld 70 = .ok (.getfield 67, 3) := dk_180 0 67 (dk_at dksX3_isHeld_3 0 rfl rfl)
theorem dX3_isHeld_73 : decode cX3_isHeld 73 = .ok (.if_icmp .ge 34, 3) := dk_162 0 34 (dk_at dksX3_isHeld_3 3 rfl rfl)
theorem dX3_isHeld_76 : decode cX3_isHeld 76 = .ok (.iload_n 2, 1) := dk_28 (dk_at dksX3_isHeld_3 6 rfl rfl)
theorem dX3_isHeld_77 : decode cX3_isHeld 77 = .ok (.ifCond .ne 18, 3) := dk_154 0 18 (dk_at dksX3_isHeld_3 7 rfl rfl)
theorem dX3_isHeld_80 : decode cX3_isHeld 80 = .ok (.aload_n 0, 1) := dk_42 (dk_at dksX3_isHeld_3 10 rfl rfl)
theorem dX3_isHeld_81 : decode cX3_isHeld 81 = .ok (.getfield 47, 3) := dk_180 0 47 (dk_at dksX3_isHeld_3 11 rfl rfl)
theorem dX3_isHeld_84 : decode cX3_isHeld 84 = .ok (.iload_n 3, 1) := dk_29 (dk_at dksX3_isHeld_3 14 rfl rfl)
theorem dX3_isHeld_85 : decode cX3_isHeld 85 = .ok (.laload, 1) := dk_47 (dk_at dksX3_isHeld_3 15 rfl rfl)
theorem dX3_isHeld_86 : decode cX3_isHeld 86 = .ok (.iload_n 1, 1) := dk_27 (dk_at dksX3_isHeld_3 16 rfl rfl)
theorem dX3_isHeld_87 : decode cX3_isHeld 87 = .ok (.lshr, 1) := dk_123 (dk_at dksX3_isHeld_3 17 rfl rfl)
theorem dX3_isHeld_88 : decode cX3_isHeld 88 = .ok (.lconst 1, 1) := dk_10 (dk_at dksX3_isHeld_3 18 rfl rfl)
theorem dX3_isHeld_89 : decode cX3_isHeld 89 = .ok (.land, 1) := dk_127 (dk_at dksX3_isHeld_3 19 rfl rfl)
theorem dX3_isHeld_90 : decode cX3_isHeld 90 = .ok (.lconst 1, 1) := dk_10 (dk_at dksX3_isHeld_3 20 rfl rfl)
theorem dX3_isHeld_91 : decode cX3_isHeld 91 = .ok (.lcmp, 1) := dk_148 (dk_at dksX3_isHeld_3 21 rfl rfl)
theorem dX3_isHeld_92 : decode cX3_isHeld 92 = .ok (.ifCond .ne 7, 3) := dk_154 0 7 (dk_at dksX3_isHeld_4 0 rfl rfl)
theorem dX3_isHeld_95 : decode cX3_isHeld 95 = .ok (.iconst 1, 1) := dk_4 (dk_at dksX3_isHeld_4 3 rfl rfl)
theorem dX3_isHeld_96 : decode cX3_isHeld 96 = .ok (.goto 4, 3) := dk_167 0 4 (dk_at dksX3_isHeld_4 4 rfl rfl)
theorem dX3_isHeld_99 : decode cX3_isHeld 99 = .ok (.iconst 0, 1) := dk_3 (dk_at dksX3_isHeld_4 7 rfl rfl)
theorem dX3_isHeld_100 : decode cX3_isHeld 100 = .ok (.istore_n 2, 1) := dk_61 (dk_at dksX3_isHeld_4 8 rfl rfl)
theorem dX3_isHeld_101 : decode cX3_isHeld 101 = .ok (.iinc 3 1, 3) := dk_132 3 1 (dk_at dksX3_isHeld_4 9 rfl rfl)
theorem dX3_isHeld_104 : decode cX3_isHeld 104 = .ok (.goto (-36), 3) := dk_167 255 220 (dk_at dksX3_isHeld_4 12 rfl rfl)
theorem dX3_isHeld_107 : decode cX3_isHeld 107 = .ok (.iload_n 2, 1) := dk_28 (dk_at dksX3_isHeld_4 15 rfl rfl)
theorem dX3_isHeld_108 : decode cX3_isHeld 108 = .ok (.ireturn, 1) := dk_172 (dk_at dksX3_isHeld_4 16 rfl rfl)
abbrev cX3_isOpen : ByteArray := prog_6_method_14_code
def yX3_isOpen : MethodName := ⟨RX3, "isOpen", "(I)Z"⟩
def dkwX3_isOpen_1 : List UInt8 := [4, 167, 0, 4, 3, 61, 132, 3, 1, 167, 255, 227, 28, 172]
abbrev dktX3_isOpen_1 : List UInt8 := dkwX3_isOpen_1 ++ []
def dkwX3_isOpen_0 : List UInt8 := [3, 61, 3, 62, 29, 16, 30, 162, 0, 29, 28, 154, 0, 13, 42, 180, 0, 27, 29, 46, 27, 160, 0, 7]
abbrev dktX3_isOpen_0 : List UInt8 := dkwX3_isOpen_0 ++ dktX3_isOpen_1
theorem dksX3_isOpen_0 : cX3_isOpen.data.toList.drop 0 = dktX3_isOpen_0 := by decide +kernel
theorem dksX3_isOpen_1 : cX3_isOpen.data.toList.drop 24 = dktX3_isOpen_1 := dk_seg dksX3_isOpen_0 24 rfl rfl
theorem dX3_isOpen_0 : decode cX3_isOpen 0 = .ok (.iconst 0, 1) := dk_3 (dk_at dksX3_isOpen_0 0 rfl rfl)
theorem dX3_isOpen_1 : decode cX3_isOpen 1 = .ok (.istore_n 2, 1) := dk_61 (dk_at dksX3_isOpen_0 1 rfl rfl)
theorem dX3_isOpen_2 : decode cX3_isOpen 2 = .ok (.iconst 0, 1) := dk_3 (dk_at dksX3_isOpen_0 2 rfl rfl)
theorem dX3_isOpen_3 : decode cX3_isOpen 3 = .ok (.istore_n 3, 1) := dk_62 (dk_at dksX3_isOpen_0 3 rfl rfl)
theorem dX3_isOpen_4 : decode cX3_isOpen 4 = .ok (.iload_n 3, 1) := dk_29 (dk_at dksX3_isOpen_0 4 rfl rfl)
theorem dX3_isOpen_5 : decode cX3_isOpen 5 = .ok (.bipush 30, 2) := dk_16 30 (dk_at dksX3_isOpen_0 5 rfl rfl)
theorem dX3_isOpen_7 : decode cX3_isOpen 7 = .ok (.if_icmp .ge 29, 3) := dk_162 0 29 (dk_at dksX3_isOpen_0 7 rfl rfl)
theorem dX3_isOpen_10 : decode cX3_isOpen 10 = .ok (.iload_n 2, 1) := dk_28 (dk_at dksX3_isOpen_0 10 rfl rfl)
theorem dX3_isOpen_11 : decode cX3_isOpen 11 = .ok (.ifCond .ne 13, 3) := dk_154 0 13 (dk_at dksX3_isOpen_0 11 rfl rfl)
theorem dX3_isOpen_14 : decode cX3_isOpen 14 = .ok (.aload_n 0, 1) := dk_42 (dk_at dksX3_isOpen_0 14 rfl rfl)
theorem dX3_isOpen_15 : decode cX3_isOpen 15 = .ok (.getfield 27, 3) := dk_180 0 27 (dk_at dksX3_isOpen_0 15 rfl rfl)
theorem dX3_isOpen_18 : decode cX3_isOpen 18 = .ok (.iload_n 3, 1) := dk_29 (dk_at dksX3_isOpen_0 18 rfl rfl)
theorem dX3_isOpen_19 : decode cX3_isOpen 19 = .ok (.iaload, 1) := dk_46 (dk_at dksX3_isOpen_0 19 rfl rfl)
theorem dX3_isOpen_20 : decode cX3_isOpen 20 = .ok (.iload_n 1, 1) := dk_27 (dk_at dksX3_isOpen_0 20 rfl rfl)
theorem dX3_isOpen_21 : decode cX3_isOpen 21 = .ok (.if_icmp .ne 7, 3) := dk_160 0 7 (dk_at dksX3_isOpen_0 21 rfl rfl)
theorem dX3_isOpen_24 : decode cX3_isOpen 24 = .ok (.iconst 1, 1) := dk_4 (dk_at dksX3_isOpen_1 0 rfl rfl)
theorem dX3_isOpen_25 : decode cX3_isOpen 25 = .ok (.goto 4, 3) := dk_167 0 4 (dk_at dksX3_isOpen_1 1 rfl rfl)
theorem dX3_isOpen_28 : decode cX3_isOpen 28 = .ok (.iconst 0, 1) := dk_3 (dk_at dksX3_isOpen_1 4 rfl rfl)
theorem dX3_isOpen_29 : decode cX3_isOpen 29 = .ok (.istore_n 2, 1) := dk_61 (dk_at dksX3_isOpen_1 5 rfl rfl)
theorem dX3_isOpen_30 : decode cX3_isOpen 30 = .ok (.iinc 3 1, 3) := dk_132 3 1 (dk_at dksX3_isOpen_1 6 rfl rfl)
theorem dX3_isOpen_33 : decode cX3_isOpen 33 = .ok (.goto (-29), 3) := dk_167 255 227 (dk_at dksX3_isOpen_1 9 rfl rfl)
theorem dX3_isOpen_36 : decode cX3_isOpen 36 = .ok (.iload_n 2, 1) := dk_28 (dk_at dksX3_isOpen_1 12 rfl rfl)
theorem dX3_isOpen_37 : decode cX3_isOpen 37 = .ok (.ireturn, 1) := dk_172 (dk_at dksX3_isOpen_1 13 rfl rfl)
abbrev cX3_isWaiting : ByteArray := prog_6_method_15_code
def yX3_isWaiting : MethodName := ⟨RX3, "isWaiting", "(I)Z"⟩
def dkwX3_isWaiting_1 : List UInt8 := [46, 27, 160, 0, 7, 4, 167, 0, 4, 3, 61, 132, 3, 1, 167, 255, 225, 28, 172]
abbrev dktX3_isWaiting_1 : List UInt8 := dkwX3_isWaiting_1 ++ []
def dkwX3_isWaiting_0 : List UInt8 := [3, 61, 42, 180, 0, 70, 62, 29, 42, 180, 0, 73, 162, 0, 29, 28, 154, 0, 13, 42, 180, 0, 30, 29]
abbrev dktX3_isWaiting_0 : List UInt8 := dkwX3_isWaiting_0 ++ dktX3_isWaiting_1
theorem dksX3_isWaiting_0 : cX3_isWaiting.data.toList.drop 0 = dktX3_isWaiting_0 := by decide +kernel
theorem dksX3_isWaiting_1 : cX3_isWaiting.data.toList.drop 24 = dktX3_isWaiting_1 := dk_seg dksX3_isWaiting_0 24 rfl rfl
theorem dX3_isWaiting_0 : decode cX3_isWaiting 0 = .ok (.iconst 0, 1) := dk_3 (dk_at dksX3_isWaiting_0 0 rfl rfl)
theorem dX3_isWaiting_1 : decode cX3_isWaiting 1 = .ok (.istore_n 2, 1) := dk_61 (dk_at dksX3_isWaiting_0 1 rfl rfl)
theorem dX3_isWaiting_2 : decode cX3_isWaiting 2 = .ok (.aload_n 0, 1) := dk_42 (dk_at dksX3_isWaiting_0 2 rfl rfl)
theorem dX3_isWaiting_3 : decode cX3_isWaiting 3 = .ok (.getfield 70, 3) := dk_180 0 70 (dk_at dksX3_isWaiting_0 3 rfl rfl)
theorem dX3_isWaiting_6 : decode cX3_isWaiting 6 = .ok (.istore_n 3, 1) := dk_62 (dk_at dksX3_isWaiting_0 6 rfl rfl)
theorem dX3_isWaiting_7 : decode cX3_isWaiting 7 = .ok (.iload_n 3, 1) := dk_29 (dk_at dksX3_isWaiting_0 7 rfl rfl)
theorem dX3_isWaiting_8 : decode cX3_isWaiting 8 = .ok (.aload_n 0, 1) := dk_42 (dk_at dksX3_isWaiting_0 8 rfl rfl)
theorem dX3_isWaiting_9 : decode cX3_isWaiting 9 = .ok (.getfield 73, 3) := dk_180 0 73 (dk_at dksX3_isWaiting_0 9 rfl rfl)
theorem dX3_isWaiting_12 : decode cX3_isWaiting 12 = .ok (.if_icmp .ge 29, 3) := dk_162 0 29 (dk_at dksX3_isWaiting_0 12 rfl rfl)
theorem dX3_isWaiting_15 : decode cX3_isWaiting 15 = .ok (.iload_n 2, 1) := dk_28 (dk_at dksX3_isWaiting_0 15 rfl rfl)
theorem dX3_isWaiting_16 : decode cX3_isWaiting 16 = .ok (.ifCond .ne 13, 3) := dk_154 0 13 (dk_at dksX3_isWaiting_0 16 rfl rfl)
theorem dX3_isWaiting_19 : decode cX3_isWaiting 19 = .ok (.aload_n 0, 1) := dk_42 (dk_at dksX3_isWaiting_0 19 rfl rfl)
theorem dX3_isWaiting_20 : decode cX3_isWaiting 20 = .ok (.getfield 30, 3) := dk_180 0 30 (dk_at dksX3_isWaiting_0 20 rfl rfl)
theorem dX3_isWaiting_23 : decode cX3_isWaiting 23 = .ok (.iload_n 3, 1) := dk_29 (dk_at dksX3_isWaiting_0 23 rfl rfl)
theorem dX3_isWaiting_24 : decode cX3_isWaiting 24 = .ok (.iaload, 1) := dk_46 (dk_at dksX3_isWaiting_1 0 rfl rfl)
theorem dX3_isWaiting_25 : decode cX3_isWaiting 25 = .ok (.iload_n 1, 1) := dk_27 (dk_at dksX3_isWaiting_1 1 rfl rfl)
theorem dX3_isWaiting_26 : decode cX3_isWaiting 26 = .ok (.if_icmp .ne 7, 3) := dk_160 0 7 (dk_at dksX3_isWaiting_1 2 rfl rfl)
theorem dX3_isWaiting_29 : decode cX3_isWaiting 29 = .ok (.iconst 1, 1) := dk_4 (dk_at dksX3_isWaiting_1 5 rfl rfl)
theorem dX3_isWaiting_30 : decode cX3_isWaiting 30 = .ok (.goto 4, 3) := dk_167 0 4 (dk_at dksX3_isWaiting_1 6 rfl rfl)
theorem dX3_isWaiting_33 : decode cX3_isWaiting 33 = .ok (.iconst 0, 1) := dk_3 (dk_at dksX3_isWaiting_1 9 rfl rfl)
theorem dX3_isWaiting_34 : decode cX3_isWaiting 34 = .ok (.istore_n 2, 1) := dk_61 (dk_at dksX3_isWaiting_1 10 rfl rfl)
theorem dX3_isWaiting_35 : decode cX3_isWaiting 35 = .ok (.iinc 3 1, 3) := dk_132 3 1 (dk_at dksX3_isWaiting_1 11 rfl rfl)
theorem dX3_isWaiting_38 : decode cX3_isWaiting 38 = .ok (.goto (-31), 3) := dk_167 255 225 (dk_at dksX3_isWaiting_1 14 rfl rfl)
theorem dX3_isWaiting_41 : decode cX3_isWaiting 41 = .ok (.iload_n 2, 1) := dk_28 (dk_at dksX3_isWaiting_1 17 rfl rfl)
theorem dX3_isWaiting_42 : decode cX3_isWaiting 42 = .ok (.ireturn, 1) := dk_172 (dk_at dksX3_isWaiting_1 18 rfl rfl)
abbrev cX3_setWide : ByteArray := prog_6_method_9_code
def yX3_setWide : MethodName := ⟨RX3, "setWide", "([IIJ)V"⟩
def dkwX3_setWide_0 : List UInt8 := [42, 27, 32, 16, 32, 123, 136, 184, 0, 84, 42, 27, 7, 96, 32, 136, 184, 0, 84, 177]
abbrev dktX3_setWide_0 : List UInt8 := dkwX3_setWide_0 ++ []
theorem dksX3_setWide_0 : cX3_setWide.data.toList.drop 0 = dktX3_setWide_0 := by decide +kernel
theorem dX3_setWide_0 : decode cX3_setWide 0 = .ok (.aload_n 0, 1) := dk_42 (dk_at dksX3_setWide_0 0 rfl rfl)
theorem dX3_setWide_1 : decode cX3_setWide 1 = .ok (.iload_n 1, 1) := dk_27 (dk_at dksX3_setWide_0 1 rfl rfl)
theorem dX3_setWide_2 : decode cX3_setWide 2 = .ok (.lload_n 2, 1) := dk_32 (dk_at dksX3_setWide_0 2 rfl rfl)
theorem dX3_setWide_3 : decode cX3_setWide 3 = .ok (.bipush 32, 2) := dk_16 32 (dk_at dksX3_setWide_0 3 rfl rfl)
theorem dX3_setWide_5 : decode cX3_setWide 5 = .ok (.lshr, 1) := dk_123 (dk_at dksX3_setWide_0 5 rfl rfl)
theorem dX3_setWide_6 : decode cX3_setWide 6 = .ok (.l2i, 1) := dk_136 (dk_at dksX3_setWide_0 6 rfl rfl)
theorem dX3_setWide_7 : decode cX3_setWide 7 = .ok (.invokestatic 84, 3) := dk_184 0 84 (dk_at dksX3_setWide_0 7 rfl rfl)
theorem dX3_setWide_10 : decode cX3_setWide 10 = .ok (.aload_n 0, 1) := dk_42 (dk_at dksX3_setWide_0 10 rfl rfl)
theorem dX3_setWide_11 : decode cX3_setWide 11 = .ok (.iload_n 1, 1) := dk_27 (dk_at dksX3_setWide_0 11 rfl rfl)
theorem dX3_setWide_12 : decode cX3_setWide 12 = .ok (.iconst 4, 1) := dk_7 (dk_at dksX3_setWide_0 12 rfl rfl)
theorem dX3_setWide_13 : decode cX3_setWide 13 = .ok (.iadd, 1) := dk_96 (dk_at dksX3_setWide_0 13 rfl rfl)
theorem dX3_setWide_14 : decode cX3_setWide 14 = .ok (.lload_n 2, 1) := dk_32 (dk_at dksX3_setWide_0 14 rfl rfl)
theorem dX3_setWide_15 : decode cX3_setWide 15 = .ok (.l2i, 1) := dk_136 (dk_at dksX3_setWide_0 15 rfl rfl)
theorem dX3_setWide_16 : decode cX3_setWide 16 = .ok (.invokestatic 84, 3) := dk_184 0 84 (dk_at dksX3_setWide_0 16 rfl rfl)
theorem dX3_setWide_19 : decode cX3_setWide 19 = .ok (.return_, 1) := dk_177 (dk_at dksX3_setWide_0 19 rfl rfl)
abbrev cX3_set : ByteArray := prog_6_method_4_code
def yX3_set : MethodName := ⟨RX3, "set", "([III)V"⟩
def dkwX3_set_1 : List UInt8 := [79, 132, 3, 1, 167, 255, 230, 177]
abbrev dktX3_set_1 : List UInt8 := dkwX3_set_1 ++ []
def dkwX3_set_0 : List UInt8 := [3, 62, 29, 7, 162, 0, 27, 42, 27, 29, 96, 28, 16, 24, 16, 8, 29, 104, 100, 122, 17, 0, 255, 126]
abbrev dktX3_set_0 : List UInt8 := dkwX3_set_0 ++ dktX3_set_1
theorem dksX3_set_0 : cX3_set.data.toList.drop 0 = dktX3_set_0 := by decide +kernel
theorem dksX3_set_1 : cX3_set.data.toList.drop 24 = dktX3_set_1 := dk_seg dksX3_set_0 24 rfl rfl
theorem dX3_set_0 : decode cX3_set 0 = .ok (.iconst 0, 1) := dk_3 (dk_at dksX3_set_0 0 rfl rfl)
theorem dX3_set_1 : decode cX3_set 1 = .ok (.istore_n 3, 1) := dk_62 (dk_at dksX3_set_0 1 rfl rfl)
theorem dX3_set_2 : decode cX3_set 2 = .ok (.iload_n 3, 1) := dk_29 (dk_at dksX3_set_0 2 rfl rfl)
theorem dX3_set_3 : decode cX3_set 3 = .ok (.iconst 4, 1) := dk_7 (dk_at dksX3_set_0 3 rfl rfl)
theorem dX3_set_4 : decode cX3_set 4 = .ok (.if_icmp .ge 27, 3) := dk_162 0 27 (dk_at dksX3_set_0 4 rfl rfl)
theorem dX3_set_7 : decode cX3_set 7 = .ok (.aload_n 0, 1) := dk_42 (dk_at dksX3_set_0 7 rfl rfl)
theorem dX3_set_8 : decode cX3_set 8 = .ok (.iload_n 1, 1) := dk_27 (dk_at dksX3_set_0 8 rfl rfl)
theorem dX3_set_9 : decode cX3_set 9 = .ok (.iload_n 3, 1) := dk_29 (dk_at dksX3_set_0 9 rfl rfl)
theorem dX3_set_10 : decode cX3_set 10 = .ok (.iadd, 1) := dk_96 (dk_at dksX3_set_0 10 rfl rfl)
theorem dX3_set_11 : decode cX3_set 11 = .ok (.iload_n 2, 1) := dk_28 (dk_at dksX3_set_0 11 rfl rfl)
theorem dX3_set_12 : decode cX3_set 12 = .ok (.bipush 24, 2) := dk_16 24 (dk_at dksX3_set_0 12 rfl rfl)
theorem dX3_set_14 : decode cX3_set 14 = .ok (.bipush 8, 2) := dk_16 8 (dk_at dksX3_set_0 14 rfl rfl)
theorem dX3_set_16 : decode cX3_set 16 = .ok (.iload_n 3, 1) := dk_29 (dk_at dksX3_set_0 16 rfl rfl)
theorem dX3_set_17 : decode cX3_set 17 = .ok (.imul, 1) := dk_104 (dk_at dksX3_set_0 17 rfl rfl)
theorem dX3_set_18 : decode cX3_set 18 = .ok (.isub, 1) := dk_100 (dk_at dksX3_set_0 18 rfl rfl)
theorem dX3_set_19 : decode cX3_set 19 = .ok (.ishr, 1) := dk_122 (dk_at dksX3_set_0 19 rfl rfl)
theorem dX3_set_20 : decode cX3_set 20 = .ok (.sipush 255, 3) := dk_17 0 255 (dk_at dksX3_set_0 20 rfl rfl)
theorem dX3_set_23 : decode cX3_set 23 = .ok (.iand, 1) := dk_126 (dk_at dksX3_set_0 23 rfl rfl)
theorem dX3_set_24 : decode cX3_set 24 = .ok (.iastore, 1) := dk_79 (dk_at dksX3_set_1 0 rfl rfl)
theorem dX3_set_25 : decode cX3_set 25 = .ok (.iinc 3 1, 3) := dk_132 3 1 (dk_at dksX3_set_1 1 rfl rfl)
theorem dX3_set_28 : decode cX3_set 28 = .ok (.goto (-26), 3) := dk_167 255 230 (dk_at dksX3_set_1 4 rfl rfl)
theorem dX3_set_31 : decode cX3_set 31 = .ok (.return_, 1) := dk_177 (dk_at dksX3_set_1 7 rfl rfl)
abbrev cX3_close : ByteArray := prog_6_method_6_code
def yX3_close : MethodName := ⟨RX3, "close", "([II)V"⟩
def dkwX3_close_0 : List UInt8 := [42, 16, 32, 27, 104, 42, 27, 184, 0, 80, 184, 0, 84, 177]
abbrev dktX3_close_0 : List UInt8 := dkwX3_close_0 ++ []
theorem dksX3_close_0 : cX3_close.data.toList.drop 0 = dktX3_close_0 := by decide +kernel
theorem dX3_close_0 : decode cX3_close 0 = .ok (.aload_n 0, 1) := dk_42 (dk_at dksX3_close_0 0 rfl rfl)
theorem dX3_close_1 : decode cX3_close 1 = .ok (.bipush 32, 2) := dk_16 32 (dk_at dksX3_close_0 1 rfl rfl)
theorem dX3_close_3 : decode cX3_close 3 = .ok (.iload_n 1, 1) := dk_27 (dk_at dksX3_close_0 3 rfl rfl)
theorem dX3_close_4 : decode cX3_close 4 = .ok (.imul, 1) := dk_104 (dk_at dksX3_close_0 4 rfl rfl)
theorem dX3_close_5 : decode cX3_close 5 = .ok (.aload_n 0, 1) := dk_42 (dk_at dksX3_close_0 5 rfl rfl)
theorem dX3_close_6 : decode cX3_close 6 = .ok (.iload_n 1, 1) := dk_27 (dk_at dksX3_close_0 6 rfl rfl)
theorem dX3_close_7 : decode cX3_close 7 = .ok (.invokestatic 80, 3) := dk_184 0 80 (dk_at dksX3_close_0 7 rfl rfl)
theorem dX3_close_10 : decode cX3_close 10 = .ok (.invokestatic 84, 3) := dk_184 0 84 (dk_at dksX3_close_0 10 rfl rfl)
theorem dX3_close_13 : decode cX3_close 13 = .ok (.return_, 1) := dk_177 (dk_at dksX3_close_0 13 rfl rfl)
abbrev cX3_sum : ByteArray := prog_6_method_5_code
def yX3_sum : MethodName := ⟨RX3, "sum", "([II)I"⟩
def dkwX3_sum_1 : List UInt8 := [16, 11, 120, 21, 4, 16, 21, 124, 128, 18, 79, 104, 61, 132, 3, 1, 167, 255, 220, 28, 172]
abbrev dktX3_sum_1 : List UInt8 := dkwX3_sum_1 ++ []
def dkwX3_sum_0 : List UInt8 := [3, 61, 7, 62, 29, 16, 32, 162, 0, 36, 28, 42, 16, 32, 27, 104, 29, 96, 46, 130, 54, 4, 21, 4]
abbrev dktX3_sum_0 : List UInt8 := dkwX3_sum_0 ++ dktX3_sum_1
theorem dksX3_sum_0 : cX3_sum.data.toList.drop 0 = dktX3_sum_0 := by decide +kernel
theorem dksX3_sum_1 : cX3_sum.data.toList.drop 24 = dktX3_sum_1 := dk_seg dksX3_sum_0 24 rfl rfl
theorem dX3_sum_0 : decode cX3_sum 0 = .ok (.iconst 0, 1) := dk_3 (dk_at dksX3_sum_0 0 rfl rfl)
theorem dX3_sum_1 : decode cX3_sum 1 = .ok (.istore_n 2, 1) := dk_61 (dk_at dksX3_sum_0 1 rfl rfl)
theorem dX3_sum_2 : decode cX3_sum 2 = .ok (.iconst 4, 1) := dk_7 (dk_at dksX3_sum_0 2 rfl rfl)
theorem dX3_sum_3 : decode cX3_sum 3 = .ok (.istore_n 3, 1) := dk_62 (dk_at dksX3_sum_0 3 rfl rfl)
theorem dX3_sum_4 : decode cX3_sum 4 = .ok (.iload_n 3, 1) := dk_29 (dk_at dksX3_sum_0 4 rfl rfl)
theorem dX3_sum_5 : decode cX3_sum 5 = .ok (.bipush 32, 2) := dk_16 32 (dk_at dksX3_sum_0 5 rfl rfl)
theorem dX3_sum_7 : decode cX3_sum 7 = .ok (.if_icmp .ge 36, 3) := dk_162 0 36 (dk_at dksX3_sum_0 7 rfl rfl)
theorem dX3_sum_10 : decode cX3_sum 10 = .ok (.iload_n 2, 1) := dk_28 (dk_at dksX3_sum_0 10 rfl rfl)
theorem dX3_sum_11 : decode cX3_sum 11 = .ok (.aload_n 0, 1) := dk_42 (dk_at dksX3_sum_0 11 rfl rfl)
theorem dX3_sum_12 : decode cX3_sum 12 = .ok (.bipush 32, 2) := dk_16 32 (dk_at dksX3_sum_0 12 rfl rfl)
theorem dX3_sum_14 : decode cX3_sum 14 = .ok (.iload_n 1, 1) := dk_27 (dk_at dksX3_sum_0 14 rfl rfl)
theorem dX3_sum_15 : decode cX3_sum 15 = .ok (.imul, 1) := dk_104 (dk_at dksX3_sum_0 15 rfl rfl)
theorem dX3_sum_16 : decode cX3_sum 16 = .ok (.iload_n 3, 1) := dk_29 (dk_at dksX3_sum_0 16 rfl rfl)
theorem dX3_sum_17 : decode cX3_sum 17 = .ok (.iadd, 1) := dk_96 (dk_at dksX3_sum_0 17 rfl rfl)
theorem dX3_sum_18 : decode cX3_sum 18 = .ok (.iaload, 1) := dk_46 (dk_at dksX3_sum_0 18 rfl rfl)
theorem dX3_sum_19 : decode cX3_sum 19 = .ok (.ixor, 1) := dk_130 (dk_at dksX3_sum_0 19 rfl rfl)
theorem dX3_sum_20 : decode cX3_sum 20 = .ok (.istore 4, 2) := dk_54 4 (dk_at dksX3_sum_0 20 rfl rfl)
theorem dX3_sum_22 : decode cX3_sum 22 = .ok (.iload 4, 2) := dk_21 4 (dk_at dksX3_sum_0 22 rfl rfl)
theorem dX3_sum_24 : decode cX3_sum 24 = .ok (.bipush 11, 2) := dk_16 11 (dk_at dksX3_sum_1 0 rfl rfl)
theorem dX3_sum_26 : decode cX3_sum 26 = .ok (.ishl, 1) := dk_120 (dk_at dksX3_sum_1 2 rfl rfl)
theorem dX3_sum_27 : decode cX3_sum 27 = .ok (.iload 4, 2) := dk_21 4 (dk_at dksX3_sum_1 3 rfl rfl)
theorem dX3_sum_29 : decode cX3_sum 29 = .ok (.bipush 21, 2) := dk_16 21 (dk_at dksX3_sum_1 5 rfl rfl)
theorem dX3_sum_31 : decode cX3_sum 31 = .ok (.iushr, 1) := dk_124 (dk_at dksX3_sum_1 7 rfl rfl)
theorem dX3_sum_32 : decode cX3_sum 32 = .ok (.ior, 1) := dk_128 (dk_at dksX3_sum_1 8 rfl rfl)
theorem dX3_sum_33 : decode cX3_sum 33 = .ok (.ldc 79, 2) := dk_18 79 (dk_at dksX3_sum_1 9 rfl rfl)
theorem dX3_sum_35 : decode cX3_sum 35 = .ok (.imul, 1) := dk_104 (dk_at dksX3_sum_1 11 rfl rfl)
theorem dX3_sum_36 : decode cX3_sum 36 = .ok (.istore_n 2, 1) := dk_61 (dk_at dksX3_sum_1 12 rfl rfl)
theorem dX3_sum_37 : decode cX3_sum 37 = .ok (.iinc 3 1, 3) := dk_132 3 1 (dk_at dksX3_sum_1 13 rfl rfl)
theorem dX3_sum_40 : decode cX3_sum 40 = .ok (.goto (-36), 3) := dk_167 255 220 (dk_at dksX3_sum_1 16 rfl rfl)
theorem dX3_sum_43 : decode cX3_sum 43 = .ok (.iload_n 2, 1) := dk_28 (dk_at dksX3_sum_1 19 rfl rfl)
theorem dX3_sum_44 : decode cX3_sum 44 = .ok (.ireturn, 1) := dk_172 (dk_at dksX3_sum_1 20 rfl rfl)
abbrev cX3_derived : ByteArray := prog_6_method_22_code
def yX3_derived : MethodName := ⟨RX3, "derived", "(I)I"⟩
def dkwX3_derived_5 : List UInt8 := [42, 6, 27, 29, 22, 4, 182, 0, 146, 16, 252, 160, 0, 8, 16, 252, 167, 0, 4, 4, 172]
abbrev dktX3_derived_5 : List UInt8 := dkwX3_derived_5 ++ []
def dkwX3_derived_4 : List UInt8 := [167, 0, 4, 3, 54, 6, 21, 6, 153, 0, 16, 42, 28, 182, 0, 138, 22, 4, 148, 154, 0, 5, 3, 172]
abbrev dktX3_derived_4 : List UInt8 := dkwX3_derived_4 ++ dktX3_derived_5
def dkwX3_derived_3 : List UInt8 := [55, 4, 42, 180, 0, 23, 28, 51, 154, 0, 14, 42, 180, 0, 17, 28, 184, 0, 150, 153, 0, 7, 4]
abbrev dktX3_derived_3 : List UInt8 := dkwX3_derived_3 ++ dktX3_derived_4
def dkwX3_derived_2 : List UInt8 := [62, 42, 29, 182, 0, 128, 154, 0, 5, 3, 172, 42, 42, 180, 0, 27, 29, 46, 182, 0, 138, 184, 0, 142]
abbrev dktX3_derived_2 : List UInt8 := dkwX3_derived_2 ++ dktX3_derived_3
def dkwX3_derived_1 : List UInt8 := [46, 182, 0, 131, 6, 159, 0, 5, 2, 172, 42, 180, 0, 27, 27, 46, 61, 42, 28, 16, 6, 182, 0, 97]
abbrev dktX3_derived_1 : List UInt8 := dkwX3_derived_1 ++ dktX3_derived_2
def dkwX3_derived_0 : List UInt8 := [42, 180, 0, 7, 154, 0, 6, 16, 253, 172, 42, 27, 182, 0, 128, 153, 0, 17, 42, 42, 180, 0, 27, 27]
abbrev dktX3_derived_0 : List UInt8 := dkwX3_derived_0 ++ dktX3_derived_1
theorem dksX3_derived_0 : cX3_derived.data.toList.drop 0 = dktX3_derived_0 := by decide +kernel
theorem dksX3_derived_1 : cX3_derived.data.toList.drop 24 = dktX3_derived_1 := dk_seg dksX3_derived_0 24 rfl rfl
theorem dksX3_derived_2 : cX3_derived.data.toList.drop 48 = dktX3_derived_2 := dk_seg dksX3_derived_1 24 rfl rfl
theorem dksX3_derived_3 : cX3_derived.data.toList.drop 72 = dktX3_derived_3 := dk_seg dksX3_derived_2 24 rfl rfl
theorem dksX3_derived_4 : cX3_derived.data.toList.drop 95 = dktX3_derived_4 := dk_seg dksX3_derived_3 23 rfl rfl
theorem dksX3_derived_5 : cX3_derived.data.toList.drop 119 = dktX3_derived_5 := dk_seg dksX3_derived_4 24 rfl rfl
theorem dX3_derived_0 : decode cX3_derived 0 = .ok (.aload_n 0, 1) := dk_42 (dk_at dksX3_derived_0 0 rfl rfl)
theorem dX3_derived_1 : decode cX3_derived 1 = .ok (.getfield 7, 3) := dk_180 0 7 (dk_at dksX3_derived_0 1 rfl rfl)
theorem dX3_derived_4 : decode cX3_derived 4 = .ok (.ifCond .ne 6, 3) := dk_154 0 6 (dk_at dksX3_derived_0 4 rfl rfl)
theorem dX3_derived_7 : decode cX3_derived 7 = .ok (.bipush (-3), 2) := dk_16 253 (dk_at dksX3_derived_0 7 rfl rfl)
theorem dX3_derived_9 : decode cX3_derived 9 = .ok (.ireturn, 1) := dk_172 (dk_at dksX3_derived_0 9 rfl rfl)
theorem dX3_derived_10 : decode cX3_derived 10 = .ok (.aload_n 0, 1) := dk_42 (dk_at dksX3_derived_0 10 rfl rfl)
theorem dX3_derived_11 : decode cX3_derived 11 = .ok (.iload_n 1, 1) := dk_27 (dk_at dksX3_derived_0 11 rfl rfl)
theorem dX3_derived_12 : decode cX3_derived 12 = .ok (.invokevirtual 128, 3) := dk_182 0 128 (dk_at dksX3_derived_0 12 rfl rfl)
theorem dX3_derived_15 : decode cX3_derived 15 = .ok (.ifCond .eq 17, 3) := dk_153 0 17 (dk_at dksX3_derived_0 15 rfl rfl)
theorem dX3_derived_18 : decode cX3_derived 18 = .ok (.aload_n 0, 1) := dk_42 (dk_at dksX3_derived_0 18 rfl rfl)
theorem dX3_derived_19 : decode cX3_derived 19 = .ok (.aload_n 0, 1) := dk_42 (dk_at dksX3_derived_0 19 rfl rfl)
theorem dX3_derived_20 : decode cX3_derived 20 = .ok (.getfield 27, 3) := dk_180 0 27 (dk_at dksX3_derived_0 20 rfl rfl)
theorem dX3_derived_23 : decode cX3_derived 23 = .ok (.iload_n 1, 1) := dk_27 (dk_at dksX3_derived_0 23 rfl rfl)
theorem dX3_derived_24 : decode cX3_derived 24 = .ok (.iaload, 1) := dk_46 (dk_at dksX3_derived_1 0 rfl rfl)
theorem dX3_derived_25 : decode cX3_derived 25 = .ok (.invokevirtual 131, 3) := dk_182 0 131 (dk_at dksX3_derived_1 1 rfl rfl)
theorem dX3_derived_28 : decode cX3_derived 28 = .ok (.iconst 3, 1) := dk_6 (dk_at dksX3_derived_1 4 rfl rfl)
theorem dX3_derived_29 : decode cX3_derived 29 = .ok (.if_icmp .eq 5, 3) := dk_159 0 5 (dk_at dksX3_derived_1 5 rfl rfl)
theorem dX3_derived_32 : decode cX3_derived 32 = .ok (.iconst (-1), 1) := dk_2 (dk_at dksX3_derived_1 8 rfl rfl)
theorem dX3_derived_33 : decode cX3_derived 33 = .ok (.ireturn, 1) := dk_172 (dk_at dksX3_derived_1 9 rfl rfl)
theorem dX3_derived_34 : decode cX3_derived 34 = .ok (.aload_n 0, 1) := dk_42 (dk_at dksX3_derived_1 10 rfl rfl)
theorem dX3_derived_35 : decode cX3_derived 35 = .ok (.getfield 27, 3) := dk_180 0 27 (dk_at dksX3_derived_1 11 rfl rfl)
theorem dX3_derived_38 : decode cX3_derived 38 = .ok (.iload_n 1, 1) := dk_27 (dk_at dksX3_derived_1 14 rfl rfl)
theorem dX3_derived_39 : decode cX3_derived 39 = .ok (.iaload, 1) := dk_46 (dk_at dksX3_derived_1 15 rfl rfl)
theorem dX3_derived_40 : decode cX3_derived 40 = .ok (.istore_n 2, 1) := dk_61 (dk_at dksX3_derived_1 16 rfl rfl)
theorem dX3_derived_41 : decode cX3_derived 41 = .ok (.aload_n 0, 1) := dk_42 (dk_at dksX3_derived_1 17 rfl rfl)
theorem dX3_derived_42 : decode cX3_derived 42 = .ok (.iload_n 2, 1) := dk_28 (dk_at dksX3_derived_1 18 rfl rfl)
theorem dX3_derived_43 : decode cX3_derived 43 = .ok (.bipush 6, 2) := dk_16 6 (dk_at dksX3_derived_1 19 rfl rfl)
theorem dX3_derived_45 : decode cX3_derived 45 = .ok (.invokevirtual 97, 3) := dk_182 0 97 (dk_at dksX3_derived_1 21 rfl rfl)
theorem dX3_derived_48 : decode cX3_derived 48 = .ok (.istore_n 3, 1) := dk_62 (dk_at dksX3_derived_2 0 rfl rfl)
theorem dX3_derived_49 : decode cX3_derived 49 = .ok (.aload_n 0, 1) := dk_42 (dk_at dksX3_derived_2 1 rfl rfl)
theorem dX3_derived_50 : decode cX3_derived 50 = .ok (.iload_n 3, 1) := dk_29 (dk_at dksX3_derived_2 2 rfl rfl)
theorem dX3_derived_51 : decode cX3_derived 51 = .ok (.invokevirtual 128, 3) := dk_182 0 128 (dk_at dksX3_derived_2 3 rfl rfl)
theorem dX3_derived_54 : decode cX3_derived 54 = .ok (.ifCond .ne 5, 3) := dk_154 0 5 (dk_at dksX3_derived_2 6 rfl rfl)
theorem dX3_derived_57 : decode cX3_derived 57 = .ok (.iconst 0, 1) := dk_3 (dk_at dksX3_derived_2 9 rfl rfl)
theorem dX3_derived_58 : decode cX3_derived 58 = .ok (.ireturn, 1) := dk_172 (dk_at dksX3_derived_2 10 rfl rfl)
theorem dX3_derived_59 : decode cX3_derived 59 = .ok (.aload_n 0, 1) := dk_42 (dk_at dksX3_derived_2 11 rfl rfl)
theorem dX3_derived_60 : decode cX3_derived 60 = .ok (.aload_n 0, 1) := dk_42 (dk_at dksX3_derived_2 12 rfl rfl)
theorem dX3_derived_61 : decode cX3_derived 61 = .ok (.getfield 27, 3) := dk_180 0 27 (dk_at dksX3_derived_2 13 rfl rfl)
theorem dX3_derived_64 : decode cX3_derived 64 = .ok (.iload_n 3, 1) := dk_29 (dk_at dksX3_derived_2 16 rfl rfl)
theorem dX3_derived_65 : decode cX3_derived 65 = .ok (.iaload, 1) := dk_46 (dk_at dksX3_derived_2 17 rfl rfl)
theorem dX3_derived_66 : decode cX3_derived 66 = .ok (.invokevirtual 138, 3) := dk_182 0 138 (dk_at dksX3_derived_2 18 rfl rfl)
theorem dX3_derived_69 : decode cX3_derived 69 = .ok (.invokestatic 142, 3) := dk_184 0 142 (dk_at dksX3_derived_2 21 rfl rfl)
theorem dX3_derived_72 : decode cX3_derived 72 = .ok (.lstore 4, 2) := dk_55 4 (dk_at dksX3_derived_3 0 rfl rfl)
theorem dX3_derived_74 : decode cX3_derived 74 = .ok (.aload_n 0, 1) := dk_42 (dk_at dksX3_derived_3 2 rfl rfl)
theorem dX3_derived_75 : decode cX3_derived 75 = .ok (.getfield 23, 3) := dk_180 0 23 (dk_at dksX3_derived_3 3 rfl rfl)
theorem dX3_derived_78 : decode cX3_derived 78 = .ok (.iload_n 2, 1) := dk_28 (dk_at dksX3_derived_3 6 rfl rfl)
theorem dX3_derived_79 : decode cX3_derived 79 = .ok (.baload, 1) := dk_51 (dk_at dksX3_derived_3 7 rfl rfl)
theorem dX3_derived_80 : decode cX3_derived 80 = .ok (.ifCond .ne 14, 3) := dk_154 0 14 (dk_at dksX3_derived_3 8 rfl rfl)
theorem dX3_derived_83 : decode cX3_derived 83 = .ok (.aload_n 0, 1) := dk_42 (dk_at dksX3_derived_3 11 rfl rfl)
theorem dX3_derived_84 : decode cX3_derived 84 = .ok (.getfield 17, 3) := dk_180 0 17 (dk_at dksX3_derived_3 12 rfl rfl)
theorem dX3_derived_87 : decode cX3_derived 87 = .ok (.iload_n 2, 1) := dk_28 (dk_at dksX3_derived_3 15 rfl rfl)
theorem dX3_derived_88 : decode cX3_derived 88 = .ok (.invokestatic 150, 3) := dk_184 0 150 (dk_at dksX3_derived_3 16 rfl rfl)
theorem dX3_derived_91 : decode cX3_derived 91 = .ok (.ifCond .eq 7, 3) := dk_153 0 7 (dk_at dksX3_derived_3 19 rfl rfl)
theorem dX3_derived_94 : decode cX3_derived 94 = .ok (.iconst 1, 1) := dk_4 (dk_at dksX3_derived_3 22 rfl rfl)
theorem dX3_derived_95 : decode cX3_derived 95 = .ok (.goto 4, 3) := dk_167 0 4 (dk_at dksX3_derived_4 0 rfl rfl)
theorem dX3_derived_98 : decode cX3_derived 98 = .ok (.iconst 0, 1) := dk_3 (dk_at dksX3_derived_4 3 rfl rfl)
theorem dX3_derived_99 : decode cX3_derived 99 = .ok (.istore 6, 2) := dk_54 6 (dk_at dksX3_derived_4 4 rfl rfl)
theorem dX3_derived_101 : decode cX3_derived 101 = .ok (.iload 6, 2) := dk_21 6 (dk_at dksX3_derived_4 6 rfl rfl)
theorem dX3_derived_103 : decode cX3_derived 103 = .ok (.ifCond .eq 16, 3) := dk_153 0 16 (dk_at dksX3_derived_4 8 rfl rfl)
theorem dX3_derived_106 : decode cX3_derived 106 = .ok (.aload_n 0, 1) := dk_42 (dk_at dksX3_derived_4 11 rfl rfl)
theorem dX3_derived_107 : decode cX3_derived 107 = .ok (.iload_n 2, 1) := dk_28 (dk_at dksX3_derived_4 12 rfl rfl)
theorem dX3_derived_108 : decode cX3_derived 108 = .ok (.invokevirtual 138, 3) := dk_182 0 138 (dk_at dksX3_derived_4 13 rfl rfl)
theorem dX3_derived_111 : decode cX3_derived 111 = .ok (.lload 4, 2) := dk_22 4 (dk_at dksX3_derived_4 16 rfl rfl)
theorem dX3_derived_113 : decode cX3_derived 113 = .ok (.lcmp, 1) := dk_148 (dk_at dksX3_derived_4 18 rfl rfl)
theorem dX3_derived_114 : decode cX3_derived 114 = .ok (.ifCond .ne 5, 3) := dk_154 0 5 (dk_at dksX3_derived_4 19 rfl rfl)
theorem dX3_derived_117 : decode cX3_derived 117 = .ok (.iconst 0, 1) := dk_3 (dk_at dksX3_derived_4 22 rfl rfl)
theorem dX3_derived_118 : decode cX3_derived 118 = .ok (.ireturn, 1) := dk_172 (dk_at dksX3_derived_4 23 rfl rfl)
theorem dX3_derived_119 : decode cX3_derived 119 = .ok (.aload_n 0, 1) := dk_42 (dk_at dksX3_derived_5 0 rfl rfl)
theorem dX3_derived_120 : decode cX3_derived 120 = .ok (.iconst 3, 1) := dk_6 (dk_at dksX3_derived_5 1 rfl rfl)
theorem dX3_derived_121 : decode cX3_derived 121 = .ok (.iload_n 1, 1) := dk_27 (dk_at dksX3_derived_5 2 rfl rfl)
theorem dX3_derived_122 : decode cX3_derived 122 = .ok (.iload_n 3, 1) := dk_29 (dk_at dksX3_derived_5 3 rfl rfl)
theorem dX3_derived_123 : decode cX3_derived 123 = .ok (.lload 4, 2) := dk_22 4 (dk_at dksX3_derived_5 4 rfl rfl)
theorem dX3_derived_125 : decode cX3_derived 125 = .ok (.invokevirtual 146, 3) := dk_182 0 146 (dk_at dksX3_derived_5 6 rfl rfl)
theorem dX3_derived_128 : decode cX3_derived 128 = .ok (.bipush (-4), 2) := dk_16 252 (dk_at dksX3_derived_5 9 rfl rfl)
theorem dX3_derived_130 : decode cX3_derived 130 = .ok (.if_icmp .ne 8, 3) := dk_160 0 8 (dk_at dksX3_derived_5 11 rfl rfl)
theorem dX3_derived_133 : decode cX3_derived 133 = .ok (.bipush (-4), 2) := dk_16 252 (dk_at dksX3_derived_5 14 rfl rfl)
theorem dX3_derived_135 : decode cX3_derived 135 = .ok (.goto 4, 3) := dk_167 0 4 (dk_at dksX3_derived_5 16 rfl rfl)
theorem dX3_derived_138 : decode cX3_derived 138 = .ok (.iconst 1, 1) := dk_4 (dk_at dksX3_derived_5 19 rfl rfl)
theorem dX3_derived_139 : decode cX3_derived 139 = .ok (.ireturn, 1) := dk_172 (dk_at dksX3_derived_5 20 rfl rfl)
abbrev cX3_isRight : ByteArray := prog_6_method_7_code
def yX3_isRight : MethodName := ⟨RX3, "isRight", "([II)Z"⟩
def dkwX3_isRight_0 : List UInt8 := [42, 16, 32, 27, 104, 184, 0, 88, 42, 27, 184, 0, 80, 160, 0, 7, 4, 167, 0, 4, 3, 172]
abbrev dktX3_isRight_0 : List UInt8 := dkwX3_isRight_0 ++ []
theorem dksX3_isRight_0 : cX3_isRight.data.toList.drop 0 = dktX3_isRight_0 := by decide +kernel
theorem dX3_isRight_0 : decode cX3_isRight 0 = .ok (.aload_n 0, 1) := dk_42 (dk_at dksX3_isRight_0 0 rfl rfl)
theorem dX3_isRight_1 : decode cX3_isRight 1 = .ok (.bipush 32, 2) := dk_16 32 (dk_at dksX3_isRight_0 1 rfl rfl)
theorem dX3_isRight_3 : decode cX3_isRight 3 = .ok (.iload_n 1, 1) := dk_27 (dk_at dksX3_isRight_0 3 rfl rfl)
theorem dX3_isRight_4 : decode cX3_isRight 4 = .ok (.imul, 1) := dk_104 (dk_at dksX3_isRight_0 4 rfl rfl)
theorem dX3_isRight_5 : decode cX3_isRight 5 = .ok (.invokestatic 88, 3) := dk_184 0 88 (dk_at dksX3_isRight_0 5 rfl rfl)
theorem dX3_isRight_8 : decode cX3_isRight 8 = .ok (.aload_n 0, 1) := dk_42 (dk_at dksX3_isRight_0 8 rfl rfl)
theorem dX3_isRight_9 : decode cX3_isRight 9 = .ok (.iload_n 1, 1) := dk_27 (dk_at dksX3_isRight_0 9 rfl rfl)
theorem dX3_isRight_10 : decode cX3_isRight 10 = .ok (.invokestatic 80, 3) := dk_184 0 80 (dk_at dksX3_isRight_0 10 rfl rfl)
theorem dX3_isRight_13 : decode cX3_isRight 13 = .ok (.if_icmp .ne 7, 3) := dk_160 0 7 (dk_at dksX3_isRight_0 13 rfl rfl)
theorem dX3_isRight_16 : decode cX3_isRight 16 = .ok (.iconst 1, 1) := dk_4 (dk_at dksX3_isRight_0 16 rfl rfl)
theorem dX3_isRight_17 : decode cX3_isRight 17 = .ok (.goto 4, 3) := dk_167 0 4 (dk_at dksX3_isRight_0 17 rfl rfl)
theorem dX3_isRight_20 : decode cX3_isRight 20 = .ok (.iconst 0, 1) := dk_3 (dk_at dksX3_isRight_0 20 rfl rfl)
theorem dX3_isRight_21 : decode cX3_isRight 21 = .ok (.ireturn, 1) := dk_172 (dk_at dksX3_isRight_0 21 rfl rfl)
abbrev cX3_commit : ByteArray := prog_6_method_24_code
def yX3_commit : MethodName := ⟨RX3, "commit", "(I)I"⟩
def dkwX3_commit_12 : List UInt8 := [80, 42, 3, 181, 0, 76, 42, 180, 0, 73, 28, 100, 172]
abbrev dktX3_commit_12 : List UInt8 := dkwX3_commit_12 ++ []
def dkwX3_commit_11 : List UInt8 := [4, 96, 181, 0, 64, 42, 180, 0, 37, 42, 180, 0, 64, 27, 79, 42, 180, 0, 40, 42, 180, 0, 64, 33]
abbrev dktX3_commit_11 : List UInt8 := dkwX3_commit_11 ++ dktX3_commit_12
def dkwX3_commit_10 : List UInt8 := [180, 0, 50, 3, 184, 0, 124, 42, 42, 180, 0, 50, 3, 27, 5, 112, 182, 0, 155, 42, 89, 180, 0, 64]
abbrev dktX3_commit_10 : List UInt8 := dkwX3_commit_10 ++ dktX3_commit_11
def dkwX3_commit_9 : List UInt8 := [42, 180, 0, 50, 16, 16, 27, 184, 0, 84, 42, 180, 0, 50, 16, 20, 21, 5, 184, 0, 84, 42]
abbrev dktX3_commit_9 : List UInt8 := dkwX3_commit_9 ++ dktX3_commit_10
def dkwX3_commit_8 : List UInt8 := [132, 6, 1, 167, 255, 238, 42, 180, 0, 50, 7, 16, 9, 79, 42, 180, 0, 50, 16, 8, 33, 184, 0, 120]
abbrev dktX3_commit_8 : List UInt8 := dkwX3_commit_8 ++ dktX3_commit_9
def dkwX3_commit_7 : List UInt8 := [132, 6, 1, 167, 255, 208, 3, 54, 6, 21, 6, 16, 32, 162, 0, 17, 42, 180, 0, 50, 21, 6, 3, 79]
abbrev dktX3_commit_7 : List UInt8 := dkwX3_commit_7 ++ dktX3_commit_8
def dkwX3_commit_6 : List UInt8 := [10, 21, 6, 121, 129, 66, 21, 5, 42, 180, 0, 17, 16, 32, 21, 6, 104, 184, 0, 88, 130, 54, 5]
abbrev dktX3_commit_6 : List UInt8 := dkwX3_commit_6 ++ dktX3_commit_7
def dkwX3_commit_5 : List UInt8 := [54, 6, 21, 6, 42, 180, 0, 53, 162, 0, 45, 42, 21, 6, 182, 0, 101, 154, 0, 6, 167, 0, 27, 33]
abbrev dktX3_commit_5 : List UInt8 := dkwX3_commit_5 ++ dktX3_commit_6
def dkwX3_commit_4 : List UInt8 := [3, 84, 42, 42, 180, 0, 20, 29, 29, 182, 0, 155, 132, 3, 1, 167, 255, 193, 9, 66, 3, 54, 5, 5]
abbrev dktX3_commit_4 : List UInt8 := dkwX3_commit_4 ++ dktX3_commit_5
def dkwX3_commit_3 : List UInt8 := [16, 32, 29, 104, 16, 16, 96, 27, 184, 0, 84, 42, 180, 0, 20, 29, 184, 0, 124, 42, 180, 0, 23, 29]
abbrev dktX3_commit_3 : List UInt8 := dkwX3_commit_3 ++ dktX3_commit_4
def dkwX3_commit_2 : List UInt8 := [42, 180, 0, 53, 162, 0, 61, 42, 180, 0, 23, 29, 51, 154, 0, 6, 167, 0, 43, 42, 180, 0, 20]
abbrev dktX3_commit_2 : List UInt8 := dkwX3_commit_2 ++ dktX3_commit_3
def dkwX3_commit_1 : List UInt8 := [180, 0, 64, 46, 164, 0, 9, 27, 18, 154, 164, 0, 6, 16, 254, 172, 42, 180, 0, 73, 61, 5, 62, 29]
abbrev dktX3_commit_1 : List UInt8 := dkwX3_commit_1 ++ dktX3_commit_2
def dkwX3_commit_0 : List UInt8 := [42, 180, 0, 7, 153, 0, 10, 42, 180, 0, 76, 154, 0, 6, 16, 253, 172, 27, 42, 180, 0, 37, 42]
abbrev dktX3_commit_0 : List UInt8 := dkwX3_commit_0 ++ dktX3_commit_1
theorem dksX3_commit_0 : cX3_commit.data.toList.drop 0 = dktX3_commit_0 := by decide +kernel
theorem dksX3_commit_1 : cX3_commit.data.toList.drop 23 = dktX3_commit_1 := dk_seg dksX3_commit_0 23 rfl rfl
theorem dksX3_commit_2 : cX3_commit.data.toList.drop 47 = dktX3_commit_2 := dk_seg dksX3_commit_1 24 rfl rfl
theorem dksX3_commit_3 : cX3_commit.data.toList.drop 70 = dktX3_commit_3 := dk_seg dksX3_commit_2 23 rfl rfl
theorem dksX3_commit_4 : cX3_commit.data.toList.drop 94 = dktX3_commit_4 := dk_seg dksX3_commit_3 24 rfl rfl
theorem dksX3_commit_5 : cX3_commit.data.toList.drop 118 = dktX3_commit_5 := dk_seg dksX3_commit_4 24 rfl rfl
theorem dksX3_commit_6 : cX3_commit.data.toList.drop 142 = dktX3_commit_6 := dk_seg dksX3_commit_5 24 rfl rfl
theorem dksX3_commit_7 : cX3_commit.data.toList.drop 165 = dktX3_commit_7 := dk_seg dksX3_commit_6 23 rfl rfl
theorem dksX3_commit_8 : cX3_commit.data.toList.drop 189 = dktX3_commit_8 := dk_seg dksX3_commit_7 24 rfl rfl
theorem dksX3_commit_9 : cX3_commit.data.toList.drop 213 = dktX3_commit_9 := dk_seg dksX3_commit_8 24 rfl rfl
theorem dksX3_commit_10 : cX3_commit.data.toList.drop 235 = dktX3_commit_10 := dk_seg dksX3_commit_9 22 rfl rfl
theorem dksX3_commit_11 : cX3_commit.data.toList.drop 259 = dktX3_commit_11 := dk_seg dksX3_commit_10 24 rfl rfl
theorem dksX3_commit_12 : cX3_commit.data.toList.drop 283 = dktX3_commit_12 := dk_seg dksX3_commit_11 24 rfl rfl
theorem dX3_commit_0 : decode cX3_commit 0 = .ok (.aload_n 0, 1) := dk_42 (dk_at dksX3_commit_0 0 rfl rfl)
theorem dX3_commit_1 : decode cX3_commit 1 = .ok (.getfield 7, 3) := dk_180 0 7 (dk_at dksX3_commit_0 1 rfl rfl)
theorem dX3_commit_4 : decode cX3_commit 4 = .ok (.ifCond .eq 10, 3) := dk_153 0 10 (dk_at dksX3_commit_0 4 rfl rfl)
theorem dX3_commit_7 : decode cX3_commit 7 = .ok (.aload_n 0, 1) := dk_42 (dk_at dksX3_commit_0 7 rfl rfl)
theorem dX3_commit_8 : decode cX3_commit 8 = .ok (.getfield 76, 3) := dk_180 0 76 (dk_at dksX3_commit_0 8 rfl rfl)
theorem dX3_commit_11 : decode cX3_commit 11 = .ok (.ifCond .ne 6, 3) := dk_154 0 6 (dk_at dksX3_commit_0 11 rfl rfl)
theorem dX3_commit_14 : decode cX3_commit 14 = .ok (.bipush (-3), 2) := dk_16 253 (dk_at dksX3_commit_0 14 rfl rfl)
theorem dX3_commit_16 : decode cX3_commit 16 = .ok (.ireturn, 1) := dk_172 (dk_at dksX3_commit_0 16 rfl rfl)
theorem dX3_commit_17 : decode cX3_commit 17 = .ok (.iload_n 1, 1) := dk_27 (dk_at dksX3_commit_0 17 rfl rfl)
theorem dX3_commit_18 : decode cX3_commit 18 = .ok (.aload_n 0, 1) := dk_42 (dk_at dksX3_commit_0 18 rfl rfl)
theorem dX3_commit_19 : decode cX3_commit 19 = .ok (.getfield 37, 3) := dk_180 0 37 (dk_at dksX3_commit_0 19 rfl rfl)
theorem dX3_commit_22 : decode cX3_commit 22 = .ok (.aload_n 0, 1) := dk_42 (dk_at dksX3_commit_0 22 rfl rfl)
theorem dX3_commit_23 : decode cX3_commit 23 = .ok (.getfield 64, 3) := dk_180 0 64 (dk_at dksX3_commit_1 0 rfl rfl)
theorem dX3_commit_26 : decode cX3_commit 26 = .ok (.iaload, 1) := dk_46 (dk_at dksX3_commit_1 3 rfl rfl)
theorem dX3_commit_27 : decode cX3_commit 27 = .ok (.if_icmp .le 9, 3) := dk_164 0 9 (dk_at dksX3_commit_1 4 rfl rfl)
theorem dX3_commit_30 : decode cX3_commit 30 = .ok (.iload_n 1, 1) := dk_27 (dk_at dksX3_commit_1 7 rfl rfl)
theorem dX3_commit_31 : decode cX3_commit 31 = .ok (.ldc 154, 2) := dk_18 154 (dk_at dksX3_commit_1 8 rfl rfl)
theorem dX3_commit_33 : decode cX3_commit 33 = .ok (.if_icmp .le 6, 3) := dk_164 0 6 (dk_at dksX3_commit_1 10 rfl rfl)
theorem dX3_commit_36 : decode cX3_commit 36 = .ok (.bipush (-2), 2) := dk_16 254 (dk_at dksX3_commit_1 13 rfl rfl)
theorem dX3_commit_38 : decode cX3_commit 38 = .ok (.ireturn, 1) := dk_172 (dk_at dksX3_commit_1 15 rfl rfl)
theorem dX3_commit_39 : decode cX3_commit 39 = .ok (.aload_n 0, 1) := dk_42 (dk_at dksX3_commit_1 16 rfl rfl)
theorem dX3_commit_40 : decode cX3_commit 40 = .ok (.getfield 73, 3) := dk_180 0 73 (dk_at dksX3_commit_1 17 rfl rfl)
theorem dX3_commit_43 : decode cX3_commit 43 = .ok (.istore_n 2, 1) := dk_61 (dk_at dksX3_commit_1 20 rfl rfl)
theorem dX3_commit_44 : decode cX3_commit 44 = .ok (.iconst 2, 1) := dk_5 (dk_at dksX3_commit_1 21 rfl rfl)
theorem dX3_commit_45 : decode cX3_commit 45 = .ok (.istore_n 3, 1) := dk_62 (dk_at dksX3_commit_1 22 rfl rfl)
theorem dX3_commit_46 : decode cX3_commit 46 = .ok (.iload_n 3, 1) := dk_29 (dk_at dksX3_commit_1 23 rfl rfl)
theorem dX3_commit_47 : decode cX3_commit 47 = .ok (.aload_n 0, 1) := dk_42 (dk_at dksX3_commit_2 0 rfl rfl)
theorem dX3_commit_48 : decode cX3_commit 48 = .ok (.getfield 53, 3) := dk_180 0 53 (dk_at dksX3_commit_2 1 rfl rfl)
theorem dX3_commit_51 : decode cX3_commit 51 = .ok (.if_icmp .ge 61, 3) := dk_162 0 61 (dk_at dksX3_commit_2 4 rfl rfl)
theorem dX3_commit_54 : decode cX3_commit 54 = .ok (.aload_n 0, 1) := dk_42 (dk_at dksX3_commit_2 7 rfl rfl)
theorem dX3_commit_55 : decode cX3_commit 55 = .ok (.getfield 23, 3) := dk_180 0 23 (dk_at dksX3_commit_2 8 rfl rfl)
theorem dX3_commit_58 : decode cX3_commit 58 = .ok (.iload_n 3, 1) := dk_29 (dk_at dksX3_commit_2 11 rfl rfl)
theorem dX3_commit_59 : decode cX3_commit 59 = .ok (.baload, 1) := dk_51 (dk_at dksX3_commit_2 12 rfl rfl)
theorem dX3_commit_60 : decode cX3_commit 60 = .ok (.ifCond .ne 6, 3) := dk_154 0 6 (dk_at dksX3_commit_2 13 rfl rfl)
theorem dX3_commit_63 : decode cX3_commit 63 = .ok (.goto 43, 3) := dk_167 0 43 (dk_at dksX3_commit_2 16 rfl rfl)
theorem dX3_commit_66 : decode cX3_commit 66 = .ok (.aload_n 0, 1) := dk_42 (dk_at dksX3_commit_2 19 rfl rfl)
theorem dX3_commit_67 : decode cX3_commit 67 = .ok (.getfield 20, 3) := dk_180 0 20 (dk_at dksX3_commit_2 20 rfl rfl)
theorem dX3_commit_70 : decode cX3_commit 70 = .ok (.bipush 32, 2) := dk_16 32 (dk_at dksX3_commit_3 0 rfl rfl)
theorem dX3_commit_72 : decode cX3_commit 72 = .ok (.iload_n 3, 1) := dk_29 (dk_at dksX3_commit_3 2 rfl rfl)
theorem dX3_commit_73 : decode cX3_commit 73 = .ok (.imul, 1) := dk_104 (dk_at dksX3_commit_3 3 rfl rfl)
theorem dX3_commit_74 : decode cX3_commit 74 = .ok (.bipush 16, 2) := dk_16 16 (dk_at dksX3_commit_3 4 rfl rfl)
theorem dX3_commit_76 : decode cX3_commit 76 = .ok (.iadd, 1) := dk_96 (dk_at dksX3_commit_3 6 rfl rfl)
theorem dX3_commit_77 : decode cX3_commit 77 = .ok (.iload_n 1, 1) := dk_27 (dk_at dksX3_commit_3 7 rfl rfl)
theorem dX3_commit_78 : decode cX3_commit 78 = .ok (.invokestatic 84, 3) := dk_184 0 84 (dk_at dksX3_commit_3 8 rfl rfl)
theorem dX3_commit_81 : decode cX3_commit 81 = .ok (.aload_n 0, 1) := dk_42 (dk_at dksX3_commit_3 11 rfl rfl)
theorem dX3_commit_82 : decode cX3_commit 82 = .ok (.getfield 20, 3) := dk_180 0 20 (dk_at dksX3_commit_3 12 rfl rfl)
theorem dX3_commit_85 : decode cX3_commit 85 = .ok (.iload_n 3, 1) := dk_29 (dk_at dksX3_commit_3 15 rfl rfl)
theorem dX3_commit_86 : decode cX3_commit 86 = .ok (.invokestatic 124, 3) := dk_184 0 124 (dk_at dksX3_commit_3 16 rfl rfl)
theorem dX3_commit_89 : decode cX3_commit 89 = .ok (.aload_n 0, 1) := dk_42 (dk_at dksX3_commit_3 19 rfl rfl)
theorem dX3_commit_90 : decode cX3_commit 90 = .ok (.getfield 23, 3) := dk_180 0 23 (dk_at dksX3_commit_3 20 rfl rfl)
theorem dX3_commit_93 : decode cX3_commit 93 = .ok (.iload_n 3, 1) := dk_29 (dk_at dksX3_commit_3 23 rfl rfl)
theorem dX3_commit_94 : decode cX3_commit 94 = .ok (.iconst 0, 1) := dk_3 (dk_at dksX3_commit_4 0 rfl rfl)
theorem dX3_commit_95 : decode cX3_commit 95 = .ok (.bastore, 1) := dk_84 (dk_at dksX3_commit_4 1 rfl rfl)
theorem dX3_commit_96 : decode cX3_commit 96 = .ok (.aload_n 0, 1) := dk_42 (dk_at dksX3_commit_4 2 rfl rfl)
theorem dX3_commit_97 : decode cX3_commit 97 = .ok (.aload_n 0, 1) := dk_42 (dk_at dksX3_commit_4 3 rfl rfl)
theorem dX3_commit_98 : decode cX3_commit 98 = .ok (.getfield 20, 3) := dk_180 0 20 (dk_at dksX3_commit_4 4 rfl rfl)
theorem dX3_commit_101 : decode cX3_commit 101 = .ok (.iload_n 3, 1) := dk_29 (dk_at dksX3_commit_4 7 rfl rfl)
theorem dX3_commit_102 : decode cX3_commit 102 = .ok (.iload_n 3, 1) := dk_29 (dk_at dksX3_commit_4 8 rfl rfl)
theorem dX3_commit_103 : decode cX3_commit 103 = .ok (.invokevirtual 155, 3) := dk_182 0 155 (dk_at dksX3_commit_4 9 rfl rfl)
theorem dX3_commit_106 : decode cX3_commit 106 = .ok (.iinc 3 1, 3) := dk_132 3 1 (dk_at dksX3_commit_4 12 rfl rfl)
theorem dX3_commit_109 : decode cX3_commit 109 = .ok (.goto (-63), 3) := dk_167 255 193 (dk_at dksX3_commit_4 15 rfl rfl)
theorem dX3_commit_112 : decode cX3_commit 112 = .ok (.lconst 0, 1) := dk_9 (dk_at dksX3_commit_4 18 rfl rfl)
theorem dX3_commit_113 : decode cX3_commit 113 = .ok (.lstore_n 3, 1) := dk_66 (dk_at dksX3_commit_4 19 rfl rfl)
theorem dX3_commit_114 : decode cX3_commit 114 = .ok (.iconst 0, 1) := dk_3 (dk_at dksX3_commit_4 20 rfl rfl)
theorem dX3_commit_115 : decode cX3_commit 115 = .ok (.istore 5, 2) := dk_54 5 (dk_at dksX3_commit_4 21 rfl rfl)
theorem dX3_commit_117 : decode cX3_commit 117 = .ok (.iconst 2, 1) := dk_5 (dk_at dksX3_commit_4 23 rfl rfl)
theorem dX3_commit_118 : decode cX3_commit 118 = .ok (.istore 6, 2) := dk_54 6 (dk_at dksX3_commit_5 0 rfl rfl)
theorem dX3_commit_120 : decode cX3_commit 120 = .ok (.iload 6, 2) := dk_21 6 (dk_at dksX3_commit_5 2 rfl rfl)
theorem dX3_commit_122 : decode cX3_commit 122 = .ok (.aload_n 0, 1) := dk_42 (dk_at dksX3_commit_5 4 rfl rfl)
theorem dX3_commit_123 : decode cX3_commit 123 = .ok (.getfield 53, 3) := dk_180 0 53 (dk_at dksX3_commit_5 5 rfl rfl)
theorem dX3_commit_126 : decode cX3_commit 126 = .ok (.if_icmp .ge 45, 3) := dk_162 0 45 (dk_at dksX3_commit_5 8 rfl rfl)
theorem dX3_commit_129 : decode cX3_commit 129 = .ok (.aload_n 0, 1) := dk_42 (dk_at dksX3_commit_5 11 rfl rfl)
theorem dX3_commit_130 : decode cX3_commit 130 = .ok (.iload 6, 2) := dk_21 6 (dk_at dksX3_commit_5 12 rfl rfl)
theorem dX3_commit_132 : decode cX3_commit 132 = .ok (.invokevirtual 101, 3) := dk_182 0 101 (dk_at dksX3_commit_5 14 rfl rfl)
theorem dX3_commit_135 : decode cX3_commit 135 = .ok (.ifCond .ne 6, 3) := dk_154 0 6 (dk_at dksX3_commit_5 17 rfl rfl)
theorem dX3_commit_138 : decode cX3_commit 138 = .ok (.goto 27, 3) := dk_167 0 27 (dk_at dksX3_commit_5 20 rfl rfl)
theorem dX3_commit_141 : decode cX3_commit 141 = .ok (.lload_n 3, 1) := dk_33 (dk_at dksX3_commit_5 23 rfl rfl)
theorem dX3_commit_142 : decode cX3_commit 142 = .ok (.lconst 1, 1) := dk_10 (dk_at dksX3_commit_6 0 rfl rfl)
theorem dX3_commit_143 : decode cX3_commit 143 = .ok (.iload 6, 2) := dk_21 6 (dk_at dksX3_commit_6 1 rfl rfl)
theorem dX3_commit_145 : decode cX3_commit 145 = .ok (.lshl, 1) := dk_121 (dk_at dksX3_commit_6 3 rfl rfl)
theorem dX3_commit_146 : decode cX3_commit 146 = .ok (.lor, 1) := dk_129 (dk_at dksX3_commit_6 4 rfl rfl)
theorem dX3_commit_147 : decode cX3_commit 147 = .ok (.lstore_n 3, 1) := dk_66 (dk_at dksX3_commit_6 5 rfl rfl)
theorem dX3_commit_148 : decode cX3_commit 148 = .ok (.iload 5, 2) := dk_21 5 (dk_at dksX3_commit_6 6 rfl rfl)
theorem dX3_commit_150 : decode cX3_commit 150 = .ok (.aload_n 0, 1) := dk_42 (dk_at dksX3_commit_6 8 rfl rfl)
theorem dX3_commit_151 : decode cX3_commit 151 = .ok (.getfield 17, 3) := dk_180 0 17 (dk_at dksX3_commit_6 9 rfl rfl)
theorem dX3_commit_154 : decode cX3_commit 154 = .ok (.bipush 32, 2) := dk_16 32 (dk_at dksX3_commit_6 12 rfl rfl)
theorem dX3_commit_156 : decode cX3_commit 156 = .ok (.iload 6, 2) := dk_21 6 (dk_at dksX3_commit_6 14 rfl rfl)
theorem dX3_commit_158 : decode cX3_commit 158 = .ok (.imul, 1) := dk_104 (dk_at dksX3_commit_6 16 rfl rfl)
theorem dX3_commit_159 : decode cX3_commit 159 = .ok (.invokestatic 88, 3) := dk_184 0 88 (dk_at dksX3_commit_6 17 rfl rfl)
theorem dX3_commit_162 : decode cX3_commit 162 = .ok (.ixor, 1) := dk_130 (dk_at dksX3_commit_6 20 rfl rfl)
theorem dX3_commit_163 : decode cX3_commit 163 = .ok (.istore 5, 2) := dk_54 5 (dk_at dksX3_commit_6 21 rfl rfl)
theorem dX3_commit_165 : decode cX3_commit 165 = .ok (.iinc 6 1, 3) := dk_132 6 1 (dk_at dksX3_commit_7 0 rfl rfl)
theorem dX3_commit_168 : decode cX3_commit 168 = .ok (.goto (-48), 3) := dk_167 255 208 (dk_at dksX3_commit_7 3 rfl rfl)
theorem dX3_commit_171 : decode cX3_commit 171 = .ok (.iconst 0, 1) := dk_3 (dk_at dksX3_commit_7 6 rfl rfl)
theorem dX3_commit_172 : decode cX3_commit 172 = .ok (.istore 6, 2) := dk_54 6 (dk_at dksX3_commit_7 7 rfl rfl)
theorem dX3_commit_174 : decode cX3_commit 174 = .ok (.iload 6, 2) := dk_21 6 (dk_at dksX3_commit_7 9 rfl rfl)
theorem dX3_commit_176 : decode cX3_commit 176 = .ok (.bipush 32, 2) := dk_16 32 (dk_at dksX3_commit_7 11 rfl rfl)
theorem dX3_commit_178 : decode cX3_commit 178 = .ok (.if_icmp .ge 17, 3) := dk_162 0 17 (dk_at dksX3_commit_7 13 rfl rfl)
theorem dX3_commit_181 : decode cX3_commit 181 = .ok (.aload_n 0, 1) := dk_42 (dk_at dksX3_commit_7 16 rfl rfl)
theorem dX3_commit_182 : decode cX3_commit 182 = .ok (.getfield 50, 3) := dk_180 0 50 (dk_at dksX3_commit_7 17 rfl rfl)
theorem dX3_commit_185 : decode cX3_commit 185 = .ok (.iload 6, 2) := dk_21 6 (dk_at dksX3_commit_7 20 rfl rfl)
theorem dX3_commit_187 : decode cX3_commit 187 = .ok (.iconst 0, 1) := dk_3 (dk_at dksX3_commit_7 22 rfl rfl)
theorem dX3_commit_188 : decode cX3_commit 188 = .ok (.iastore, 1) := dk_79 (dk_at dksX3_commit_7 23 rfl rfl)
theorem dX3_commit_189 : decode cX3_commit 189 = .ok (.iinc 6 1, 3) := dk_132 6 1 (dk_at dksX3_commit_8 0 rfl rfl)
theorem dX3_commit_192 : decode cX3_commit 192 = .ok (.goto (-18), 3) := dk_167 255 238 (dk_at dksX3_commit_8 3 rfl rfl)
theorem dX3_commit_195 : decode cX3_commit 195 = .ok (.aload_n 0, 1) := dk_42 (dk_at dksX3_commit_8 6 rfl rfl)
theorem dX3_commit_196 : decode cX3_commit 196 = .ok (.getfield 50, 3) := dk_180 0 50 (dk_at dksX3_commit_8 7 rfl rfl)
theorem dX3_commit_199 : decode cX3_commit 199 = .ok (.iconst 4, 1) := dk_7 (dk_at dksX3_commit_8 10 rfl rfl)
theorem dX3_commit_200 : decode cX3_commit 200 = .ok (.bipush 9, 2) := dk_16 9 (dk_at dksX3_commit_8 11 rfl rfl)
theorem dX3_commit_202 : decode cX3_commit 202 = .ok (.iastore, 1) := dk_79 (dk_at dksX3_commit_8 13 rfl rfl)
theorem dX3_commit_203 : decode cX3_commit 203 = .ok (.aload_n 0, 1) := dk_42 (dk_at dksX3_commit_8 14 rfl rfl)
theorem dX3_commit_204 : decode cX3_commit 204 = .ok (.getfield 50, 3) := dk_180 0 50 (dk_at dksX3_commit_8 15 rfl rfl)
theorem dX3_commit_207 : decode cX3_commit 207 = .ok (.bipush 8, 2) := dk_16 8 (dk_at dksX3_commit_8 18 rfl rfl)
theorem dX3_commit_209 : decode cX3_commit 209 = .ok (.lload_n 3, 1) := dk_33 (dk_at dksX3_commit_8 20 rfl rfl)
theorem dX3_commit_210 : decode cX3_commit 210 = .ok (.invokestatic 120, 3) := dk_184 0 120 (dk_at dksX3_commit_8 21 rfl rfl)
theorem dX3_commit_213 : decode cX3_commit 213 = .ok (.aload_n 0, 1) := dk_42 (dk_at dksX3_commit_9 0 rfl rfl)
theorem dX3_commit_214 : decode cX3_commit 214 = .ok (.getfield 50, 3) := dk_180 0 50 (dk_at dksX3_commit_9 1 rfl rfl)
theorem dX3_commit_217 : decode cX3_commit 217 = .ok (.bipush 16, 2) := dk_16 16 (dk_at dksX3_commit_9 4 rfl rfl)
theorem dX3_commit_219 : decode cX3_commit 219 = .ok (.iload_n 1, 1) := dk_27 (dk_at dksX3_commit_9 6 rfl rfl)
theorem dX3_commit_220 : decode cX3_commit 220 = .ok (.invokestatic 84, 3) := dk_184 0 84 (dk_at dksX3_commit_9 7 rfl rfl)
theorem dX3_commit_223 : decode cX3_commit 223 = .ok (.aload_n 0, 1) := dk_42 (dk_at dksX3_commit_9 10 rfl rfl)
theorem dX3_commit_224 : decode cX3_commit 224 = .ok (.getfield 50, 3) := dk_180 0 50 (dk_at dksX3_commit_9 11 rfl rfl)
theorem dX3_commit_227 : decode cX3_commit 227 = .ok (.bipush 20, 2) := dk_16 20 (dk_at dksX3_commit_9 14 rfl rfl)
theorem dX3_commit_229 : decode cX3_commit 229 = .ok (.iload 5, 2) := dk_21 5 (dk_at dksX3_commit_9 16 rfl rfl)
theorem dX3_commit_231 : decode cX3_commit 231 = .ok (.invokestatic 84, 3) := dk_184 0 84 (dk_at dksX3_commit_9 18 rfl rfl)
theorem dX3_commit_234 : decode cX3_commit 234 = .ok (.aload_n 0, 1) := dk_42 (dk_at dksX3_commit_9 21 rfl rfl)
theorem dX3_commit_235 : decode cX3_commit 235 = .ok (.getfield 50, 3) := dk_180 0 50 (dk_at dksX3_commit_10 0 rfl rfl)
theorem dX3_commit_238 : decode cX3_commit 238 = .ok (.iconst 0, 1) := dk_3 (dk_at dksX3_commit_10 3 rfl rfl)
theorem dX3_commit_239 : decode cX3_commit 239 = .ok (.invokestatic 124, 3) := dk_184 0 124 (dk_at dksX3_commit_10 4 rfl rfl)
theorem dX3_commit_242 : decode cX3_commit 242 = .ok (.aload_n 0, 1) := dk_42 (dk_at dksX3_commit_10 7 rfl rfl)
theorem dX3_commit_243 : decode cX3_commit 243 = .ok (.aload_n 0, 1) := dk_42 (dk_at dksX3_commit_10 8 rfl rfl)
theorem dX3_commit_244 : decode cX3_commit 244 = .ok (.getfield 50, 3) := dk_180 0 50 (dk_at dksX3_commit_10 9 rfl rfl)
theorem dX3_commit_247 : decode cX3_commit 247 = .ok (.iconst 0, 1) := dk_3 (dk_at dksX3_commit_10 12 rfl rfl)
theorem dX3_commit_248 : decode cX3_commit 248 = .ok (.iload_n 1, 1) := dk_27 (dk_at dksX3_commit_10 13 rfl rfl)
theorem dX3_commit_249 : decode cX3_commit 249 = .ok (.iconst 2, 1) := dk_5 (dk_at dksX3_commit_10 14 rfl rfl)
theorem dX3_commit_250 : decode cX3_commit 250 = .ok (.irem, 1) := dk_112 (dk_at dksX3_commit_10 15 rfl rfl)
theorem dX3_commit_251 : decode cX3_commit 251 = .ok (.invokevirtual 155, 3) := dk_182 0 155 (dk_at dksX3_commit_10 16 rfl rfl)
theorem dX3_commit_254 : decode cX3_commit 254 = .ok (.aload_n 0, 1) := dk_42 (dk_at dksX3_commit_10 19 rfl rfl)
theorem dX3_commit_255 : decode cX3_commit 255 = .ok (.dup, 1) := dk_89 (dk_at dksX3_commit_10 20 rfl rfl)
theorem dX3_commit_256 : decode cX3_commit 256 = .ok (.getfield 64, 3) := dk_180 0 64 (dk_at dksX3_commit_10 21 rfl rfl)
theorem dX3_commit_259 : decode cX3_commit 259 = .ok (.iconst 1, 1) := dk_4 (dk_at dksX3_commit_11 0 rfl rfl)
theorem dX3_commit_260 : decode cX3_commit 260 = .ok (.iadd, 1) := dk_96 (dk_at dksX3_commit_11 1 rfl rfl)
theorem dX3_commit_261 : decode cX3_commit 261 = .ok (.putfield 64, 3) := dk_181 0 64 (dk_at dksX3_commit_11 2 rfl rfl)
theorem dX3_commit_264 : decode cX3_commit 264 = .ok (.aload_n 0, 1) := dk_42 (dk_at dksX3_commit_11 5 rfl rfl)
theorem dX3_commit_265 : decode cX3_commit 265 = .ok (.getfield 37, 3) := dk_180 0 37 (dk_at dksX3_commit_11 6 rfl rfl)
theorem dX3_commit_268 : decode cX3_commit 268 = .ok (.aload_n 0, 1) := dk_42 (dk_at dksX3_commit_11 9 rfl rfl)
theorem dX3_commit_269 : decode cX3_commit 269 = .ok (.getfield 64, 3) := dk_180 0 64 (dk_at dksX3_commit_11 10 rfl rfl)
theorem dX3_commit_272 : decode cX3_commit 272 = .ok (.iload_n 1, 1) := dk_27 (dk_at dksX3_commit_11 13 rfl rfl)
theorem dX3_commit_273 : decode cX3_commit 273 = .ok (.iastore, 1) := dk_79 (dk_at dksX3_commit_11 14 rfl rfl)
theorem dX3_commit_274 : decode cX3_commit 274 = .ok (.aload_n 0, 1) := dk_42 (dk_at dksX3_commit_11 15 rfl rfl)
theorem dX3_commit_275 : decode cX3_commit 275 = .ok (.getfield 40, 3) := dk_180 0 40 (dk_at dksX3_commit_11 16 rfl rfl)
theorem dX3_commit_278 : decode cX3_commit 278 = .ok (.aload_n 0, 1) := dk_42 (dk_at dksX3_commit_11 19 rfl rfl)
theorem dX3_commit_279 : decode cX3_commit 279 = .ok (.getfield 64, 3) := dk_180 0 64 (dk_at dksX3_commit_11 20 rfl rfl)
theorem dX3_commit_282 : decode cX3_commit 282 = .ok (.lload_n 3, 1) := dk_33 (dk_at dksX3_commit_11 23 rfl rfl)
theorem dX3_commit_283 : decode cX3_commit 283 = .ok (.lastore, 1) := dk_80 (dk_at dksX3_commit_12 0 rfl rfl)
theorem dX3_commit_284 : decode cX3_commit 284 = .ok (.aload_n 0, 1) := dk_42 (dk_at dksX3_commit_12 1 rfl rfl)
theorem dX3_commit_285 : decode cX3_commit 285 = .ok (.iconst 0, 1) := dk_3 (dk_at dksX3_commit_12 2 rfl rfl)
theorem dX3_commit_286 : decode cX3_commit 286 = .ok (.putfield 76, 3) := dk_181 0 76 (dk_at dksX3_commit_12 3 rfl rfl)
theorem dX3_commit_289 : decode cX3_commit 289 = .ok (.aload_n 0, 1) := dk_42 (dk_at dksX3_commit_12 6 rfl rfl)
theorem dX3_commit_290 : decode cX3_commit 290 = .ok (.getfield 73, 3) := dk_180 0 73 (dk_at dksX3_commit_12 7 rfl rfl)
theorem dX3_commit_293 : decode cX3_commit 293 = .ok (.iload_n 2, 1) := dk_28 (dk_at dksX3_commit_12 10 rfl rfl)
theorem dX3_commit_294 : decode cX3_commit 294 = .ok (.isub, 1) := dk_100 (dk_at dksX3_commit_12 11 rfl rfl)
theorem dX3_commit_295 : decode cX3_commit 295 = .ok (.ireturn, 1) := dk_172 (dk_at dksX3_commit_12 12 rfl rfl)
abbrev cX3_queue : ByteArray := prog_6_method_23_code
def yX3_queue : MethodName := ⟨RX3, "queue", "([III)V"⟩
def dkwX3_queue_3 : List UInt8 := [89, 180, 0, 73, 4, 96, 181, 0, 73, 177]
abbrev dktX3_queue_3 : List UInt8 := dkwX3_queue_3 ++ []
def dkwX3_queue_2 : List UInt8 := [16, 32, 29, 104, 21, 4, 96, 43, 16, 32, 28, 104, 21, 4, 96, 46, 79, 132, 4, 1, 167, 255, 201, 42]
abbrev dktX3_queue_2 : List UInt8 := dkwX3_queue_2 ++ dktX3_queue_3
def dkwX3_queue_1 : List UInt8 := [16, 32, 42, 180, 0, 73, 104, 21, 4, 96, 43, 16, 32, 28, 104, 21, 4, 96, 46, 79, 42, 180, 0, 17]
abbrev dktX3_queue_1 : List UInt8 := dkwX3_queue_1 ++ dktX3_queue_2
def dkwX3_queue_0 : List UInt8 := [42, 180, 0, 30, 42, 180, 0, 73, 29, 79, 3, 54, 4, 21, 4, 16, 32, 162, 0, 54, 42, 180, 0, 34]
abbrev dktX3_queue_0 : List UInt8 := dkwX3_queue_0 ++ dktX3_queue_1
theorem dksX3_queue_0 : cX3_queue.data.toList.drop 0 = dktX3_queue_0 := by decide +kernel
theorem dksX3_queue_1 : cX3_queue.data.toList.drop 24 = dktX3_queue_1 := dk_seg dksX3_queue_0 24 rfl rfl
theorem dksX3_queue_2 : cX3_queue.data.toList.drop 48 = dktX3_queue_2 := dk_seg dksX3_queue_1 24 rfl rfl
theorem dksX3_queue_3 : cX3_queue.data.toList.drop 72 = dktX3_queue_3 := dk_seg dksX3_queue_2 24 rfl rfl
theorem dX3_queue_0 : decode cX3_queue 0 = .ok (.aload_n 0, 1) := dk_42 (dk_at dksX3_queue_0 0 rfl rfl)
theorem dX3_queue_1 : decode cX3_queue 1 = .ok (.getfield 30, 3) := dk_180 0 30 (dk_at dksX3_queue_0 1 rfl rfl)
theorem dX3_queue_4 : decode cX3_queue 4 = .ok (.aload_n 0, 1) := dk_42 (dk_at dksX3_queue_0 4 rfl rfl)
theorem dX3_queue_5 : decode cX3_queue 5 = .ok (.getfield 73, 3) := dk_180 0 73 (dk_at dksX3_queue_0 5 rfl rfl)
theorem dX3_queue_8 : decode cX3_queue 8 = .ok (.iload_n 3, 1) := dk_29 (dk_at dksX3_queue_0 8 rfl rfl)
theorem dX3_queue_9 : decode cX3_queue 9 = .ok (.iastore, 1) := dk_79 (dk_at dksX3_queue_0 9 rfl rfl)
theorem dX3_queue_10 : decode cX3_queue 10 = .ok (.iconst 0, 1) := dk_3 (dk_at dksX3_queue_0 10 rfl rfl)
theorem dX3_queue_11 : decode cX3_queue 11 = .ok (.istore 4, 2) := dk_54 4 (dk_at dksX3_queue_0 11 rfl rfl)
theorem dX3_queue_13 : decode cX3_queue 13 = .ok (.iload 4, 2) := dk_21 4 (dk_at dksX3_queue_0 13 rfl rfl)
theorem dX3_queue_15 : decode cX3_queue 15 = .ok (.bipush 32, 2) := dk_16 32 (dk_at dksX3_queue_0 15 rfl rfl)
theorem dX3_queue_17 : decode cX3_queue 17 = .ok (.if_icmp .ge 54, 3) := dk_162 0 54 (dk_at dksX3_queue_0 17 rfl rfl)
theorem dX3_queue_20 : decode cX3_queue 20 = .ok (.aload_n 0, 1) := dk_42 (dk_at dksX3_queue_0 20 rfl rfl)
theorem dX3_queue_21 : decode cX3_queue 21 = .ok (.getfield 34, 3) := dk_180 0 34 (dk_at dksX3_queue_0 21 rfl rfl)
theorem dX3_queue_24 : decode cX3_queue 24 = .ok (.bipush 32, 2) := dk_16 32 (dk_at dksX3_queue_1 0 rfl rfl)
theorem dX3_queue_26 : decode cX3_queue 26 = .ok (.aload_n 0, 1) := dk_42 (dk_at dksX3_queue_1 2 rfl rfl)
theorem dX3_queue_27 : decode cX3_queue 27 = .ok (.getfield 73, 3) := dk_180 0 73 (dk_at dksX3_queue_1 3 rfl rfl)
theorem dX3_queue_30 : decode cX3_queue 30 = .ok (.imul, 1) := dk_104 (dk_at dksX3_queue_1 6 rfl rfl)
theorem dX3_queue_31 : decode cX3_queue 31 = .ok (.iload 4, 2) := dk_21 4 (dk_at dksX3_queue_1 7 rfl rfl)
theorem dX3_queue_33 : decode cX3_queue 33 = .ok (.iadd, 1) := dk_96 (dk_at dksX3_queue_1 9 rfl rfl)
theorem dX3_queue_34 : decode cX3_queue 34 = .ok (.aload_n 1, 1) := dk_43 (dk_at dksX3_queue_1 10 rfl rfl)
theorem dX3_queue_35 : decode cX3_queue 35 = .ok (.bipush 32, 2) := dk_16 32 (dk_at dksX3_queue_1 11 rfl rfl)
theorem dX3_queue_37 : decode cX3_queue 37 = .ok (.iload_n 2, 1) := dk_28 (dk_at dksX3_queue_1 13 rfl rfl)
theorem dX3_queue_38 : decode cX3_queue 38 = .ok (.imul, 1) := dk_104 (dk_at dksX3_queue_1 14 rfl rfl)
theorem dX3_queue_39 : decode cX3_queue 39 = .ok (.iload 4, 2) := dk_21 4 (dk_at dksX3_queue_1 15 rfl rfl)
theorem dX3_queue_41 : decode cX3_queue 41 = .ok (.iadd, 1) := dk_96 (dk_at dksX3_queue_1 17 rfl rfl)
theorem dX3_queue_42 : decode cX3_queue 42 = .ok (.iaload, 1) := dk_46 (dk_at dksX3_queue_1 18 rfl rfl)
theorem dX3_queue_43 : decode cX3_queue 43 = .ok (.iastore, 1) := dk_79 (dk_at dksX3_queue_1 19 rfl rfl)
theorem dX3_queue_44 : decode cX3_queue 44 = .ok (.aload_n 0, 1) := dk_42 (dk_at dksX3_queue_1 20 rfl rfl)
theorem dX3_queue_45 : decode cX3_queue 45 = .ok (.getfield 17, 3) := dk_180 0 17 (dk_at dksX3_queue_1 21 rfl rfl)
theorem dX3_queue_48 : decode cX3_queue 48 = .ok (.bipush 32, 2) := dk_16 32 (dk_at dksX3_queue_2 0 rfl rfl)
theorem dX3_queue_50 : decode cX3_queue 50 = .ok (.iload_n 3, 1) := dk_29 (dk_at dksX3_queue_2 2 rfl rfl)
theorem dX3_queue_51 : decode cX3_queue 51 = .ok (.imul, 1) := dk_104 (dk_at dksX3_queue_2 3 rfl rfl)
theorem dX3_queue_52 : decode cX3_queue 52 = .ok (.iload 4, 2) := dk_21 4 (dk_at dksX3_queue_2 4 rfl rfl)
theorem dX3_queue_54 : decode cX3_queue 54 = .ok (.iadd, 1) := dk_96 (dk_at dksX3_queue_2 6 rfl rfl)
theorem dX3_queue_55 : decode cX3_queue 55 = .ok (.aload_n 1, 1) := dk_43 (dk_at dksX3_queue_2 7 rfl rfl)
theorem dX3_queue_56 : decode cX3_queue 56 = .ok (.bipush 32, 2) := dk_16 32 (dk_at dksX3_queue_2 8 rfl rfl)
theorem dX3_queue_58 : decode cX3_queue 58 = .ok (.iload_n 2, 1) := dk_28 (dk_at dksX3_queue_2 10 rfl rfl)
theorem dX3_queue_59 : decode cX3_queue 59 = .ok (.imul, 1) := dk_104 (dk_at dksX3_queue_2 11 rfl rfl)
theorem dX3_queue_60 : decode cX3_queue 60 = .ok (.iload 4, 2) := dk_21 4 (dk_at dksX3_queue_2 12 rfl rfl)
theorem dX3_queue_62 : decode cX3_queue 62 = .ok (.iadd, 1) := dk_96 (dk_at dksX3_queue_2 14 rfl rfl)
theorem dX3_queue_63 : decode cX3_queue 63 = .ok (.iaload, 1) := dk_46 (dk_at dksX3_queue_2 15 rfl rfl)
theorem dX3_queue_64 : decode cX3_queue 64 = .ok (.iastore, 1) := dk_79 (dk_at dksX3_queue_2 16 rfl rfl)
theorem dX3_queue_65 : decode cX3_queue 65 = .ok (.iinc 4 1, 3) := dk_132 4 1 (dk_at dksX3_queue_2 17 rfl rfl)
theorem dX3_queue_68 : decode cX3_queue 68 = .ok (.goto (-55), 3) := dk_167 255 201 (dk_at dksX3_queue_2 20 rfl rfl)
theorem dX3_queue_71 : decode cX3_queue 71 = .ok (.aload_n 0, 1) := dk_42 (dk_at dksX3_queue_2 23 rfl rfl)
theorem dX3_queue_72 : decode cX3_queue 72 = .ok (.dup, 1) := dk_89 (dk_at dksX3_queue_3 0 rfl rfl)
theorem dX3_queue_73 : decode cX3_queue 73 = .ok (.getfield 73, 3) := dk_180 0 73 (dk_at dksX3_queue_3 1 rfl rfl)
theorem dX3_queue_76 : decode cX3_queue 76 = .ok (.iconst 1, 1) := dk_4 (dk_at dksX3_queue_3 4 rfl rfl)
theorem dX3_queue_77 : decode cX3_queue 77 = .ok (.iadd, 1) := dk_96 (dk_at dksX3_queue_3 5 rfl rfl)
theorem dX3_queue_78 : decode cX3_queue 78 = .ok (.putfield 73, 3) := dk_181 0 73 (dk_at dksX3_queue_3 6 rfl rfl)
theorem dX3_queue_81 : decode cX3_queue 81 = .ok (.return_, 1) := dk_177 (dk_at dksX3_queue_3 9 rfl rfl)
abbrev cX3_sync : ByteArray := prog_6_method_27_code
def yX3_sync : MethodName := ⟨RX3, "sync", "()I"⟩
def dkwX3_sync_1 : List UInt8 := [182, 0, 158, 167, 255, 239, 42, 182, 0, 162, 42, 180, 0, 37, 42, 180, 0, 64, 46, 172]
abbrev dktX3_sync_1 : List UInt8 := dkwX3_sync_1 ++ []
def dkwX3_sync_0 : List UInt8 := [42, 180, 0, 7, 154, 0, 6, 16, 253, 172, 42, 180, 0, 70, 42, 180, 0, 73, 162, 0, 12, 42, 16, 32]
abbrev dktX3_sync_0 : List UInt8 := dkwX3_sync_0 ++ dktX3_sync_1
theorem dksX3_sync_0 : cX3_sync.data.toList.drop 0 = dktX3_sync_0 := by decide +kernel
theorem dksX3_sync_1 : cX3_sync.data.toList.drop 24 = dktX3_sync_1 := dk_seg dksX3_sync_0 24 rfl rfl
theorem dX3_sync_0 : decode cX3_sync 0 = .ok (.aload_n 0, 1) := dk_42 (dk_at dksX3_sync_0 0 rfl rfl)
theorem dX3_sync_1 : decode cX3_sync 1 = .ok (.getfield 7, 3) := dk_180 0 7 (dk_at dksX3_sync_0 1 rfl rfl)
theorem dX3_sync_4 : decode cX3_sync 4 = .ok (.ifCond .ne 6, 3) := dk_154 0 6 (dk_at dksX3_sync_0 4 rfl rfl)
theorem dX3_sync_7 : decode cX3_sync 7 = .ok (.bipush (-3), 2) := dk_16 253 (dk_at dksX3_sync_0 7 rfl rfl)
theorem dX3_sync_9 : decode cX3_sync 9 = .ok (.ireturn, 1) := dk_172 (dk_at dksX3_sync_0 9 rfl rfl)
theorem dX3_sync_10 : decode cX3_sync 10 = .ok (.aload_n 0, 1) := dk_42 (dk_at dksX3_sync_0 10 rfl rfl)
theorem dX3_sync_11 : decode cX3_sync 11 = .ok (.getfield 70, 3) := dk_180 0 70 (dk_at dksX3_sync_0 11 rfl rfl)
theorem dX3_sync_14 : decode cX3_sync 14 = .ok (.aload_n 0, 1) := dk_42 (dk_at dksX3_sync_0 14 rfl rfl)
theorem dX3_sync_15 : decode cX3_sync 15 = .ok (.getfield 73, 3) := dk_180 0 73 (dk_at dksX3_sync_0 15 rfl rfl)
theorem dX3_sync_18 : decode cX3_sync 18 = .ok (.if_icmp .ge 12, 3) := dk_162 0 12 (dk_at dksX3_sync_0 18 rfl rfl)
theorem dX3_sync_21 : decode cX3_sync 21 = .ok (.aload_n 0, 1) := dk_42 (dk_at dksX3_sync_0 21 rfl rfl)
theorem dX3_sync_22 : decode cX3_sync 22 = .ok (.bipush 32, 2) := dk_16 32 (dk_at dksX3_sync_0 22 rfl rfl)
theorem dX3_sync_24 : decode cX3_sync 24 = .ok (.invokevirtual 158, 3) := dk_182 0 158 (dk_at dksX3_sync_1 0 rfl rfl)
theorem dX3_sync_27 : decode cX3_sync 27 = .ok (.goto (-17), 3) := dk_167 255 239 (dk_at dksX3_sync_1 3 rfl rfl)
theorem dX3_sync_30 : decode cX3_sync 30 = .ok (.aload_n 0, 1) := dk_42 (dk_at dksX3_sync_1 6 rfl rfl)
theorem dX3_sync_31 : decode cX3_sync 31 = .ok (.invokevirtual 162, 3) := dk_182 0 162 (dk_at dksX3_sync_1 7 rfl rfl)
theorem dX3_sync_34 : decode cX3_sync 34 = .ok (.aload_n 0, 1) := dk_42 (dk_at dksX3_sync_1 10 rfl rfl)
theorem dX3_sync_35 : decode cX3_sync 35 = .ok (.getfield 37, 3) := dk_180 0 37 (dk_at dksX3_sync_1 11 rfl rfl)
theorem dX3_sync_38 : decode cX3_sync 38 = .ok (.aload_n 0, 1) := dk_42 (dk_at dksX3_sync_1 14 rfl rfl)
theorem dX3_sync_39 : decode cX3_sync 39 = .ok (.getfield 64, 3) := dk_180 0 64 (dk_at dksX3_sync_1 15 rfl rfl)
theorem dX3_sync_42 : decode cX3_sync 42 = .ok (.iaload, 1) := dk_46 (dk_at dksX3_sync_1 18 rfl rfl)
theorem dX3_sync_43 : decode cX3_sync 43 = .ok (.ireturn, 1) := dk_172 (dk_at dksX3_sync_1 19 rfl rfl)
abbrev cX3_write : ByteArray := prog_6_method_25_code
def yX3_write : MethodName := ⟨RX3, "write", "(I)V"⟩
def dkwX3_write_2 : List UInt8 := [180, 0, 70, 4, 96, 181, 0, 70, 177]
abbrev dktX3_write_2 : List UInt8 := dkwX3_write_2 ++ []
def dkwX3_write_1 : List UInt8 := [96, 42, 180, 0, 34, 16, 32, 42, 180, 0, 70, 104, 28, 96, 46, 79, 132, 2, 1, 167, 255, 215, 42, 89]
abbrev dktX3_write_1 : List UInt8 := dkwX3_write_1 ++ dktX3_write_2
def dkwX3_write_0 : List UInt8 := [3, 61, 28, 27, 162, 0, 42, 42, 180, 0, 13, 16, 32, 42, 180, 0, 30, 42, 180, 0, 70, 46, 104, 28]
abbrev dktX3_write_0 : List UInt8 := dkwX3_write_0 ++ dktX3_write_1
theorem dksX3_write_0 : cX3_write.data.toList.drop 0 = dktX3_write_0 := by decide +kernel
theorem dksX3_write_1 : cX3_write.data.toList.drop 24 = dktX3_write_1 := dk_seg dksX3_write_0 24 rfl rfl
theorem dksX3_write_2 : cX3_write.data.toList.drop 48 = dktX3_write_2 := dk_seg dksX3_write_1 24 rfl rfl
theorem dX3_write_0 : decode cX3_write 0 = .ok (.iconst 0, 1) := dk_3 (dk_at dksX3_write_0 0 rfl rfl)
theorem dX3_write_1 : decode cX3_write 1 = .ok (.istore_n 2, 1) := dk_61 (dk_at dksX3_write_0 1 rfl rfl)
theorem dX3_write_2 : decode cX3_write 2 = .ok (.iload_n 2, 1) := dk_28 (dk_at dksX3_write_0 2 rfl rfl)
theorem dX3_write_3 : decode cX3_write 3 = .ok (.iload_n 1, 1) := dk_27 (dk_at dksX3_write_0 3 rfl rfl)
theorem dX3_write_4 : decode cX3_write 4 = .ok (.if_icmp .ge 42, 3) := dk_162 0 42 (dk_at dksX3_write_0 4 rfl rfl)
theorem dX3_write_7 : decode cX3_write 7 = .ok (.aload_n 0, 1) := dk_42 (dk_at dksX3_write_0 7 rfl rfl)
theorem dX3_write_8 : decode cX3_write 8 = .ok (.getfield 13, 3) := dk_180 0 13 (dk_at dksX3_write_0 8 rfl rfl)
theorem dX3_write_11 : decode cX3_write 11 = .ok (.bipush 32, 2) := dk_16 32 (dk_at dksX3_write_0 11 rfl rfl)
theorem dX3_write_13 : decode cX3_write 13 = .ok (.aload_n 0, 1) := dk_42 (dk_at dksX3_write_0 13 rfl rfl)
theorem dX3_write_14 : decode cX3_write 14 = .ok (.getfield 30, 3) := dk_180 0 30 (dk_at dksX3_write_0 14 rfl rfl)
theorem dX3_write_17 : decode cX3_write 17 = .ok (.aload_n 0, 1) := dk_42 (dk_at dksX3_write_0 17 rfl rfl)
theorem dX3_write_18 : decode cX3_write 18 = .ok (.getfield 70, 3) := dk_180 0 70 (dk_at dksX3_write_0 18 rfl rfl)
theorem dX3_write_21 : decode cX3_write 21 = .ok (.iaload, 1) := dk_46 (dk_at dksX3_write_0 21 rfl rfl)
theorem dX3_write_22 : decode cX3_write 22 = .ok (.imul, 1) := dk_104 (dk_at dksX3_write_0 22 rfl rfl)
theorem dX3_write_23 : decode cX3_write 23 = .ok (.iload_n 2, 1) := dk_28 (dk_at dksX3_write_0 23 rfl rfl)
theorem dX3_write_24 : decode cX3_write 24 = .ok (.iadd, 1) := dk_96 (dk_at dksX3_write_1 0 rfl rfl)
theorem dX3_write_25 : decode cX3_write 25 = .ok (.aload_n 0, 1) := dk_42 (dk_at dksX3_write_1 1 rfl rfl)
theorem dX3_write_26 : decode cX3_write 26 = .ok (.getfield 34, 3) := dk_180 0 34 (dk_at dksX3_write_1 2 rfl rfl)
theorem dX3_write_29 : decode cX3_write 29 = .ok (.bipush 32, 2) := dk_16 32 (dk_at dksX3_write_1 5 rfl rfl)
theorem dX3_write_31 : decode cX3_write 31 = .ok (.aload_n 0, 1) := dk_42 (dk_at dksX3_write_1 7 rfl rfl)
theorem dX3_write_32 : decode cX3_write 32 = .ok (.getfield 70, 3) := dk_180 0 70 (dk_at dksX3_write_1 8 rfl rfl)
theorem dX3_write_35 : decode cX3_write 35 = .ok (.imul, 1) := dk_104 (dk_at dksX3_write_1 11 rfl rfl)
theorem dX3_write_36 : decode cX3_write 36 = .ok (.iload_n 2, 1) := dk_28 (dk_at dksX3_write_1 12 rfl rfl)
theorem dX3_write_37 : decode cX3_write 37 = .ok (.iadd, 1) := dk_96 (dk_at dksX3_write_1 13 rfl rfl)
theorem dX3_write_38 : decode cX3_write 38 = .ok (.iaload, 1) := dk_46 (dk_at dksX3_write_1 14 rfl rfl)
theorem dX3_write_39 : decode cX3_write 39 = .ok (.iastore, 1) := dk_79 (dk_at dksX3_write_1 15 rfl rfl)
theorem dX3_write_40 : decode cX3_write 40 = .ok (.iinc 2 1, 3) := dk_132 2 1 (dk_at dksX3_write_1 16 rfl rfl)
theorem dX3_write_43 : decode cX3_write 43 = .ok (.goto (-41), 3) := dk_167 255 215 (dk_at dksX3_write_1 19 rfl rfl)
theorem dX3_write_46 : decode cX3_write 46 = .ok (.aload_n 0, 1) := dk_42 (dk_at dksX3_write_1 22 rfl rfl)
theorem dX3_write_47 : decode cX3_write 47 = .ok (.dup, 1) := dk_89 (dk_at dksX3_write_1 23 rfl rfl)
theorem dX3_write_48 : decode cX3_write 48 = .ok (.getfield 70, 3) := dk_180 0 70 (dk_at dksX3_write_2 0 rfl rfl)
theorem dX3_write_51 : decode cX3_write 51 = .ok (.iconst 1, 1) := dk_4 (dk_at dksX3_write_2 3 rfl rfl)
theorem dX3_write_52 : decode cX3_write 52 = .ok (.iadd, 1) := dk_96 (dk_at dksX3_write_2 4 rfl rfl)
theorem dX3_write_53 : decode cX3_write 53 = .ok (.putfield 70, 3) := dk_181 0 70 (dk_at dksX3_write_2 5 rfl rfl)
theorem dX3_write_56 : decode cX3_write 56 = .ok (.return_, 1) := dk_177 (dk_at dksX3_write_2 8 rfl rfl)
abbrev cX3_settle : ByteArray := prog_6_method_26_code
def yX3_settle : MethodName := ⟨RX3, "settle", "()V"⟩
def dkwX3_settle_2 : List UInt8 := [180, 0, 64, 47, 80, 42, 3, 181, 0, 61, 42, 3, 181, 0, 64, 177]
abbrev dktX3_settle_2 : List UInt8 := dkwX3_settle_2 ++ []
def dkwX3_settle_1 : List UInt8 := [180, 0, 37, 3, 42, 180, 0, 37, 42, 180, 0, 64, 46, 79, 42, 180, 0, 40, 3, 42, 180, 0, 40, 42]
abbrev dktX3_settle_1 : List UInt8 := dkwX3_settle_1 ++ dktX3_settle_2
def dkwX3_settle_0 : List UInt8 := [42, 180, 0, 70, 42, 180, 0, 73, 160, 0, 13, 42, 3, 181, 0, 70, 42, 3, 181, 0, 73, 42]
abbrev dktX3_settle_0 : List UInt8 := dkwX3_settle_0 ++ dktX3_settle_1
theorem dksX3_settle_0 : cX3_settle.data.toList.drop 0 = dktX3_settle_0 := by decide +kernel
theorem dksX3_settle_1 : cX3_settle.data.toList.drop 22 = dktX3_settle_1 := dk_seg dksX3_settle_0 22 rfl rfl
theorem dksX3_settle_2 : cX3_settle.data.toList.drop 46 = dktX3_settle_2 := dk_seg dksX3_settle_1 24 rfl rfl
theorem dX3_settle_0 : decode cX3_settle 0 = .ok (.aload_n 0, 1) := dk_42 (dk_at dksX3_settle_0 0 rfl rfl)
theorem dX3_settle_1 : decode cX3_settle 1 = .ok (.getfield 70, 3) := dk_180 0 70 (dk_at dksX3_settle_0 1 rfl rfl)
theorem dX3_settle_4 : decode cX3_settle 4 = .ok (.aload_n 0, 1) := dk_42 (dk_at dksX3_settle_0 4 rfl rfl)
theorem dX3_settle_5 : decode cX3_settle 5 = .ok (.getfield 73, 3) := dk_180 0 73 (dk_at dksX3_settle_0 5 rfl rfl)
theorem dX3_settle_8 : decode cX3_settle 8 = .ok (.if_icmp .ne 13, 3) := dk_160 0 13 (dk_at dksX3_settle_0 8 rfl rfl)
theorem dX3_settle_11 : decode cX3_settle 11 = .ok (.aload_n 0, 1) := dk_42 (dk_at dksX3_settle_0 11 rfl rfl)
theorem dX3_settle_12 : decode cX3_settle 12 = .ok (.iconst 0, 1) := dk_3 (dk_at dksX3_settle_0 12 rfl rfl)
theorem dX3_settle_13 : decode cX3_settle 13 = .ok (.putfield 70, 3) := dk_181 0 70 (dk_at dksX3_settle_0 13 rfl rfl)
theorem dX3_settle_16 : decode cX3_settle 16 = .ok (.aload_n 0, 1) := dk_42 (dk_at dksX3_settle_0 16 rfl rfl)
theorem dX3_settle_17 : decode cX3_settle 17 = .ok (.iconst 0, 1) := dk_3 (dk_at dksX3_settle_0 17 rfl rfl)
theorem dX3_settle_18 : decode cX3_settle 18 = .ok (.putfield 73, 3) := dk_181 0 73 (dk_at dksX3_settle_0 18 rfl rfl)
theorem dX3_settle_21 : decode cX3_settle 21 = .ok (.aload_n 0, 1) := dk_42 (dk_at dksX3_settle_0 21 rfl rfl)
theorem dX3_settle_22 : decode cX3_settle 22 = .ok (.getfield 37, 3) := dk_180 0 37 (dk_at dksX3_settle_1 0 rfl rfl)
theorem dX3_settle_25 : decode cX3_settle 25 = .ok (.iconst 0, 1) := dk_3 (dk_at dksX3_settle_1 3 rfl rfl)
theorem dX3_settle_26 : decode cX3_settle 26 = .ok (.aload_n 0, 1) := dk_42 (dk_at dksX3_settle_1 4 rfl rfl)
theorem dX3_settle_27 : decode cX3_settle 27 = .ok (.getfield 37, 3) := dk_180 0 37 (dk_at dksX3_settle_1 5 rfl rfl)
theorem dX3_settle_30 : decode cX3_settle 30 = .ok (.aload_n 0, 1) := dk_42 (dk_at dksX3_settle_1 8 rfl rfl)
theorem dX3_settle_31 : decode cX3_settle 31 = .ok (.getfield 64, 3) := dk_180 0 64 (dk_at dksX3_settle_1 9 rfl rfl)
theorem dX3_settle_34 : decode cX3_settle 34 = .ok (.iaload, 1) := dk_46 (dk_at dksX3_settle_1 12 rfl rfl)
theorem dX3_settle_35 : decode cX3_settle 35 = .ok (.iastore, 1) := dk_79 (dk_at dksX3_settle_1 13 rfl rfl)
theorem dX3_settle_36 : decode cX3_settle 36 = .ok (.aload_n 0, 1) := dk_42 (dk_at dksX3_settle_1 14 rfl rfl)
theorem dX3_settle_37 : decode cX3_settle 37 = .ok (.getfield 40, 3) := dk_180 0 40 (dk_at dksX3_settle_1 15 rfl rfl)
theorem dX3_settle_40 : decode cX3_settle 40 = .ok (.iconst 0, 1) := dk_3 (dk_at dksX3_settle_1 18 rfl rfl)
theorem dX3_settle_41 : decode cX3_settle 41 = .ok (.aload_n 0, 1) := dk_42 (dk_at dksX3_settle_1 19 rfl rfl)
theorem dX3_settle_42 : decode cX3_settle 42 = .ok (.getfield 40, 3) := dk_180 0 40 (dk_at dksX3_settle_1 20 rfl rfl)
theorem dX3_settle_45 : decode cX3_settle 45 = .ok (.aload_n 0, 1) := dk_42 (dk_at dksX3_settle_1 23 rfl rfl)
theorem dX3_settle_46 : decode cX3_settle 46 = .ok (.getfield 64, 3) := dk_180 0 64 (dk_at dksX3_settle_2 0 rfl rfl)
theorem dX3_settle_49 : decode cX3_settle 49 = .ok (.laload, 1) := dk_47 (dk_at dksX3_settle_2 3 rfl rfl)
theorem dX3_settle_50 : decode cX3_settle 50 = .ok (.lastore, 1) := dk_80 (dk_at dksX3_settle_2 4 rfl rfl)
theorem dX3_settle_51 : decode cX3_settle 51 = .ok (.aload_n 0, 1) := dk_42 (dk_at dksX3_settle_2 5 rfl rfl)
theorem dX3_settle_52 : decode cX3_settle 52 = .ok (.iconst 0, 1) := dk_3 (dk_at dksX3_settle_2 6 rfl rfl)
theorem dX3_settle_53 : decode cX3_settle 53 = .ok (.putfield 61, 3) := dk_181 0 61 (dk_at dksX3_settle_2 7 rfl rfl)
theorem dX3_settle_56 : decode cX3_settle 56 = .ok (.aload_n 0, 1) := dk_42 (dk_at dksX3_settle_2 10 rfl rfl)
theorem dX3_settle_57 : decode cX3_settle 57 = .ok (.iconst 0, 1) := dk_3 (dk_at dksX3_settle_2 11 rfl rfl)
theorem dX3_settle_58 : decode cX3_settle 58 = .ok (.putfield 64, 3) := dk_181 0 64 (dk_at dksX3_settle_2 12 rfl rfl)
theorem dX3_settle_61 : decode cX3_settle 61 = .ok (.return_, 1) := dk_177 (dk_at dksX3_settle_2 15 rfl rfl)
abbrev cX3_cut : ByteArray := prog_6_method_28_code
def yX3_cut : MethodName := ⟨RX3, "cut", "(II)V"⟩
def dkwX3_cut_3 : List UInt8 := [182, 0, 158, 42, 3, 181, 0, 7, 42, 3, 9, 182, 0, 57, 177]
abbrev dktX3_cut_3 : List UInt8 := dkwX3_cut_3 ++ []
def dkwX3_cut_2 : List UInt8 := [162, 0, 27, 42, 28, 156, 0, 7, 3, 167, 0, 15, 28, 16, 32, 164, 0, 8, 16, 32, 167, 0, 4, 28]
abbrev dktX3_cut_2 : List UInt8 := dkwX3_cut_2 ++ dktX3_cut_3
def dkwX3_cut_1 : List UInt8 := [162, 0, 15, 42, 16, 32, 182, 0, 158, 132, 3, 1, 167, 255, 231, 42, 180, 0, 70, 42, 180, 0, 73]
abbrev dktX3_cut_1 : List UInt8 := dkwX3_cut_1 ++ dktX3_cut_2
def dkwX3_cut_0 : List UInt8 := [42, 180, 0, 7, 154, 0, 4, 177, 3, 62, 29, 27, 162, 0, 26, 42, 180, 0, 70, 42, 180, 0, 73]
abbrev dktX3_cut_0 : List UInt8 := dkwX3_cut_0 ++ dktX3_cut_1
theorem dksX3_cut_0 : cX3_cut.data.toList.drop 0 = dktX3_cut_0 := by decide +kernel
theorem dksX3_cut_1 : cX3_cut.data.toList.drop 23 = dktX3_cut_1 := dk_seg dksX3_cut_0 23 rfl rfl
theorem dksX3_cut_2 : cX3_cut.data.toList.drop 46 = dktX3_cut_2 := dk_seg dksX3_cut_1 23 rfl rfl
theorem dksX3_cut_3 : cX3_cut.data.toList.drop 70 = dktX3_cut_3 := dk_seg dksX3_cut_2 24 rfl rfl
theorem dX3_cut_0 : decode cX3_cut 0 = .ok (.aload_n 0, 1) := dk_42 (dk_at dksX3_cut_0 0 rfl rfl)
theorem dX3_cut_1 : decode cX3_cut 1 = .ok (.getfield 7, 3) := dk_180 0 7 (dk_at dksX3_cut_0 1 rfl rfl)
theorem dX3_cut_4 : decode cX3_cut 4 = .ok (.ifCond .ne 4, 3) := dk_154 0 4 (dk_at dksX3_cut_0 4 rfl rfl)
theorem dX3_cut_7 : decode cX3_cut 7 = .ok (.return_, 1) := dk_177 (dk_at dksX3_cut_0 7 rfl rfl)
theorem dX3_cut_8 : decode cX3_cut 8 = .ok (.iconst 0, 1) := dk_3 (dk_at dksX3_cut_0 8 rfl rfl)
theorem dX3_cut_9 : decode cX3_cut 9 = .ok (.istore_n 3, 1) := dk_62 (dk_at dksX3_cut_0 9 rfl rfl)
theorem dX3_cut_10 : decode cX3_cut 10 = .ok (.iload_n 3, 1) := dk_29 (dk_at dksX3_cut_0 10 rfl rfl)
theorem dX3_cut_11 : decode cX3_cut 11 = .ok (.iload_n 1, 1) := dk_27 (dk_at dksX3_cut_0 11 rfl rfl)
theorem dX3_cut_12 : decode cX3_cut 12 = .ok (.if_icmp .ge 26, 3) := dk_162 0 26 (dk_at dksX3_cut_0 12 rfl rfl)
theorem dX3_cut_15 : decode cX3_cut 15 = .ok (.aload_n 0, 1) := dk_42 (dk_at dksX3_cut_0 15 rfl rfl)
theorem dX3_cut_16 : decode cX3_cut 16 = .ok (.getfield 70, 3) := dk_180 0 70 (dk_at dksX3_cut_0 16 rfl rfl)
theorem dX3_cut_19 : decode cX3_cut 19 = .ok (.aload_n 0, 1) := dk_42 (dk_at dksX3_cut_0 19 rfl rfl)
theorem dX3_cut_20 : decode cX3_cut 20 = .ok (.getfield 73, 3) := dk_180 0 73 (dk_at dksX3_cut_0 20 rfl rfl)
theorem dX3_cut_23 : decode cX3_cut 23 = .ok (.if_icmp .ge 15, 3) := dk_162 0 15 (dk_at dksX3_cut_1 0 rfl rfl)
theorem dX3_cut_26 : decode cX3_cut 26 = .ok (.aload_n 0, 1) := dk_42 (dk_at dksX3_cut_1 3 rfl rfl)
theorem dX3_cut_27 : decode cX3_cut 27 = .ok (.bipush 32, 2) := dk_16 32 (dk_at dksX3_cut_1 4 rfl rfl)
theorem dX3_cut_29 : decode cX3_cut 29 = .ok (.invokevirtual 158, 3) := dk_182 0 158 (dk_at dksX3_cut_1 6 rfl rfl)
theorem dX3_cut_32 : decode cX3_cut 32 = .ok (.iinc 3 1, 3) := dk_132 3 1 (dk_at dksX3_cut_1 9 rfl rfl)
theorem dX3_cut_35 : decode cX3_cut 35 = .ok (.goto (-25), 3) := dk_167 255 231 (dk_at dksX3_cut_1 12 rfl rfl)
theorem dX3_cut_38 : decode cX3_cut 38 = .ok (.aload_n 0, 1) := dk_42 (dk_at dksX3_cut_1 15 rfl rfl)
theorem dX3_cut_39 : decode cX3_cut 39 = .ok (.getfield 70, 3) := dk_180 0 70 (dk_at dksX3_cut_1 16 rfl rfl)
theorem dX3_cut_42 : decode cX3_cut 42 = .ok (.aload_n 0, 1) := dk_42 (dk_at dksX3_cut_1 19 rfl rfl)
theorem dX3_cut_43 : decode cX3_cut 43 = .ok (.getfield 73, 3) := dk_180 0 73 (dk_at dksX3_cut_1 20 rfl rfl)
theorem dX3_cut_46 : decode cX3_cut 46 = .ok (.if_icmp .ge 27, 3) := dk_162 0 27 (dk_at dksX3_cut_2 0 rfl rfl)
theorem dX3_cut_49 : decode cX3_cut 49 = .ok (.aload_n 0, 1) := dk_42 (dk_at dksX3_cut_2 3 rfl rfl)
theorem dX3_cut_50 : decode cX3_cut 50 = .ok (.iload_n 2, 1) := dk_28 (dk_at dksX3_cut_2 4 rfl rfl)
theorem dX3_cut_51 : decode cX3_cut 51 = .ok (.ifCond .ge 7, 3) := dk_156 0 7 (dk_at dksX3_cut_2 5 rfl rfl)
theorem dX3_cut_54 : decode cX3_cut 54 = .ok (.iconst 0, 1) := dk_3 (dk_at dksX3_cut_2 8 rfl rfl)
theorem dX3_cut_55 : decode cX3_cut 55 = .ok (.goto 15, 3) := dk_167 0 15 (dk_at dksX3_cut_2 9 rfl rfl)
theorem dX3_cut_58 : decode cX3_cut 58 = .ok (.iload_n 2, 1) := dk_28 (dk_at dksX3_cut_2 12 rfl rfl)
theorem dX3_cut_59 : decode cX3_cut 59 = .ok (.bipush 32, 2) := dk_16 32 (dk_at dksX3_cut_2 13 rfl rfl)
theorem dX3_cut_61 : decode cX3_cut 61 = .ok (.if_icmp .le 8, 3) := dk_164 0 8 (dk_at dksX3_cut_2 15 rfl rfl)
theorem dX3_cut_64 : decode cX3_cut 64 = .ok (.bipush 32, 2) := dk_16 32 (dk_at dksX3_cut_2 18 rfl rfl)
theorem dX3_cut_66 : decode cX3_cut 66 = .ok (.goto 4, 3) := dk_167 0 4 (dk_at dksX3_cut_2 20 rfl rfl)
theorem dX3_cut_69 : decode cX3_cut 69 = .ok (.iload_n 2, 1) := dk_28 (dk_at dksX3_cut_2 23 rfl rfl)
theorem dX3_cut_70 : decode cX3_cut 70 = .ok (.invokevirtual 158, 3) := dk_182 0 158 (dk_at dksX3_cut_3 0 rfl rfl)
theorem dX3_cut_73 : decode cX3_cut 73 = .ok (.aload_n 0, 1) := dk_42 (dk_at dksX3_cut_3 3 rfl rfl)
theorem dX3_cut_74 : decode cX3_cut 74 = .ok (.iconst 0, 1) := dk_3 (dk_at dksX3_cut_3 4 rfl rfl)
theorem dX3_cut_75 : decode cX3_cut 75 = .ok (.putfield 7, 3) := dk_181 0 7 (dk_at dksX3_cut_3 5 rfl rfl)
theorem dX3_cut_78 : decode cX3_cut 78 = .ok (.aload_n 0, 1) := dk_42 (dk_at dksX3_cut_3 8 rfl rfl)
theorem dX3_cut_79 : decode cX3_cut 79 = .ok (.iconst 0, 1) := dk_3 (dk_at dksX3_cut_3 9 rfl rfl)
theorem dX3_cut_80 : decode cX3_cut 80 = .ok (.lconst 0, 1) := dk_9 (dk_at dksX3_cut_3 10 rfl rfl)
theorem dX3_cut_81 : decode cX3_cut 81 = .ok (.invokevirtual 57, 3) := dk_182 0 57 (dk_at dksX3_cut_3 11 rfl rfl)
theorem dX3_cut_84 : decode cX3_cut 84 = .ok (.return_, 1) := dk_177 (dk_at dksX3_cut_3 14 rfl rfl)
abbrev cX3_start : ByteArray := prog_6_method_30_code
def yX3_start : MethodName := ⟨RX3, "start", "()I"⟩
def dkwX3_start_8 : List UInt8 := [42, 180, 0, 64, 46, 172]
abbrev dktX3_start_8 : List UInt8 := dkwX3_start_8 ++ []
def dkwX3_start_7 : List UInt8 := [180, 0, 13, 16, 32, 21, 6, 104, 8, 96, 46, 21, 6, 79, 132, 6, 1, 167, 255, 208, 42, 180, 0, 37]
abbrev dktX3_start_7 : List UInt8 := dkwX3_start_7 ++ dktX3_start_8
def dkwX3_start_6 : List UInt8 := [42, 180, 0, 40, 42, 180, 0, 64, 47, 21, 6, 123, 10, 127, 10, 148, 154, 0, 22, 42, 180, 0, 27, 42]
abbrev dktX3_start_6 : List UInt8 := dkwX3_start_6 ++ dktX3_start_7
def dkwX3_start_5 : List UInt8 := [16, 8, 96, 184, 0, 93, 182, 0, 57, 42, 4, 181, 0, 7, 3, 54, 6, 21, 6, 16, 64, 162, 0, 47]
abbrev dktX3_start_5 : List UInt8 := dkwX3_start_5 ++ dktX3_start_6
def dkwX3_start_4 : List UInt8 := [96, 184, 0, 88, 21, 5, 2, 160, 0, 7, 9, 167, 0, 18, 42, 180, 0, 13, 16, 32, 21, 5, 104]
abbrev dktX3_start_4 : List UInt8 := dkwX3_start_4 ++ dktX3_start_5
def dkwX3_start_3 : List UInt8 := [54, 5, 42, 21, 5, 2, 160, 0, 7, 3, 167, 0, 18, 42, 180, 0, 13, 16, 32, 21, 5, 104, 16, 16]
abbrev dktX3_start_3 : List UInt8 := dkwX3_start_3 ++ dktX3_start_4
def dkwX3_start_2 : List UInt8 := [28, 153, 0, 9, 29, 21, 4, 161, 0, 7, 3, 167, 0, 12, 28, 153, 0, 7, 4, 167, 0, 4, 2]
abbrev dktX3_start_2 : List UInt8 := dkwX3_start_2 ++ dktX3_start_3
def dkwX3_start_1 : List UInt8 := [180, 0, 13, 16, 16, 184, 0, 88, 62, 42, 180, 0, 13, 16, 48, 184, 0, 88, 54, 4, 27, 153, 0, 17]
abbrev dktX3_start_1 : List UInt8 := dkwX3_start_1 ++ dktX3_start_2
def dkwX3_start_0 : List UInt8 := [42, 180, 0, 7, 153, 0, 6, 16, 253, 172, 42, 3, 182, 0, 165, 60, 42, 4, 182, 0, 165, 61, 42]
abbrev dktX3_start_0 : List UInt8 := dkwX3_start_0 ++ dktX3_start_1
theorem dksX3_start_0 : cX3_start.data.toList.drop 0 = dktX3_start_0 := by decide +kernel
theorem dksX3_start_1 : cX3_start.data.toList.drop 23 = dktX3_start_1 := dk_seg dksX3_start_0 23 rfl rfl
theorem dksX3_start_2 : cX3_start.data.toList.drop 47 = dktX3_start_2 := dk_seg dksX3_start_1 24 rfl rfl
theorem dksX3_start_3 : cX3_start.data.toList.drop 70 = dktX3_start_3 := dk_seg dksX3_start_2 23 rfl rfl
theorem dksX3_start_4 : cX3_start.data.toList.drop 94 = dktX3_start_4 := dk_seg dksX3_start_3 24 rfl rfl
theorem dksX3_start_5 : cX3_start.data.toList.drop 117 = dktX3_start_5 := dk_seg dksX3_start_4 23 rfl rfl
theorem dksX3_start_6 : cX3_start.data.toList.drop 141 = dktX3_start_6 := dk_seg dksX3_start_5 24 rfl rfl
theorem dksX3_start_7 : cX3_start.data.toList.drop 165 = dktX3_start_7 := dk_seg dksX3_start_6 24 rfl rfl
theorem dksX3_start_8 : cX3_start.data.toList.drop 189 = dktX3_start_8 := dk_seg dksX3_start_7 24 rfl rfl
theorem dX3_start_0 : decode cX3_start 0 = .ok (.aload_n 0, 1) := dk_42 (dk_at dksX3_start_0 0 rfl rfl)
theorem dX3_start_1 : decode cX3_start 1 = .ok (.getfield 7, 3) := dk_180 0 7 (dk_at dksX3_start_0 1 rfl rfl)
theorem dX3_start_4 : decode cX3_start 4 = .ok (.ifCond .eq 6, 3) := dk_153 0 6 (dk_at dksX3_start_0 4 rfl rfl)
theorem dX3_start_7 : decode cX3_start 7 = .ok (.bipush (-3), 2) := dk_16 253 (dk_at dksX3_start_0 7 rfl rfl)
theorem dX3_start_9 : decode cX3_start 9 = .ok (.ireturn, 1) := dk_172 (dk_at dksX3_start_0 9 rfl rfl)
theorem dX3_start_10 : decode cX3_start 10 = .ok (.aload_n 0, 1) := dk_42 (dk_at dksX3_start_0 10 rfl rfl)
theorem dX3_start_11 : decode cX3_start 11 = .ok (.iconst 0, 1) := dk_3 (dk_at dksX3_start_0 11 rfl rfl)
theorem dX3_start_12 : decode cX3_start 12 = .ok (.invokevirtual 165, 3) := dk_182 0 165 (dk_at dksX3_start_0 12 rfl rfl)
theorem dX3_start_15 : decode cX3_start 15 = .ok (.istore_n 1, 1) := dk_60 (dk_at dksX3_start_0 15 rfl rfl)
theorem dX3_start_16 : decode cX3_start 16 = .ok (.aload_n 0, 1) := dk_42 (dk_at dksX3_start_0 16 rfl rfl)
theorem dX3_start_17 : decode cX3_start 17 = .ok (.iconst 1, 1) := dk_4 (dk_at dksX3_start_0 17 rfl rfl)
theorem dX3_start_18 : decode cX3_start 18 = .ok (.invokevirtual 165, 3) := dk_182 0 165 (dk_at dksX3_start_0 18 rfl rfl)
theorem dX3_start_21 : decode cX3_start 21 = .ok (.istore_n 2, 1) := dk_61 (dk_at dksX3_start_0 21 rfl rfl)
theorem dX3_start_22 : decode cX3_start 22 = .ok (.aload_n 0, 1) := dk_42 (dk_at dksX3_start_0 22 rfl rfl)
theorem dX3_start_23 : decode cX3_start 23 = .ok (.getfield 13, 3) := dk_180 0 13 (dk_at dksX3_start_1 0 rfl rfl)
theorem dX3_start_26 : decode cX3_start 26 = .ok (.bipush 16, 2) := dk_16 16 (dk_at dksX3_start_1 3 rfl rfl)
theorem dX3_start_28 : decode cX3_start 28 = .ok (.invokestatic 88, 3) := dk_184 0 88 (dk_at dksX3_start_1 5 rfl rfl)
theorem dX3_start_31 : decode cX3_start 31 = .ok (.istore_n 3, 1) := dk_62 (dk_at dksX3_start_1 8 rfl rfl)
theorem dX3_start_32 : decode cX3_start 32 = .ok (.aload_n 0, 1) := dk_42 (dk_at dksX3_start_1 9 rfl rfl)
theorem dX3_start_33 : decode cX3_start 33 = .ok (.getfield 13, 3) := dk_180 0 13 (dk_at dksX3_start_1 10 rfl rfl)
theorem dX3_start_36 : decode cX3_start 36 = .ok (.bipush 48, 2) := dk_16 48 (dk_at dksX3_start_1 13 rfl rfl)
theorem dX3_start_38 : decode cX3_start 38 = .ok (.invokestatic 88, 3) := dk_184 0 88 (dk_at dksX3_start_1 15 rfl rfl)
theorem dX3_start_41 : decode cX3_start 41 = .ok (.istore 4, 2) := dk_54 4 (dk_at dksX3_start_1 18 rfl rfl)
theorem dX3_start_43 : decode cX3_start 43 = .ok (.iload_n 1, 1) := dk_27 (dk_at dksX3_start_1 20 rfl rfl)
theorem dX3_start_44 : decode cX3_start 44 = .ok (.ifCond .eq 17, 3) := dk_153 0 17 (dk_at dksX3_start_1 21 rfl rfl)
theorem dX3_start_47 : decode cX3_start 47 = .ok (.iload_n 2, 1) := dk_28 (dk_at dksX3_start_2 0 rfl rfl)
theorem dX3_start_48 : decode cX3_start 48 = .ok (.ifCond .eq 9, 3) := dk_153 0 9 (dk_at dksX3_start_2 1 rfl rfl)
theorem dX3_start_51 : decode cX3_start 51 = .ok (.iload_n 3, 1) := dk_29 (dk_at dksX3_start_2 4 rfl rfl)
theorem dX3_start_52 : decode cX3_start 52 = .ok (.iload 4, 2) := dk_21 4 (dk_at dksX3_start_2 5 rfl rfl)
theorem dX3_start_54 : decode cX3_start 54 = .ok (.if_icmp .lt 7, 3) := dk_161 0 7 (dk_at dksX3_start_2 7 rfl rfl)
theorem dX3_start_57 : decode cX3_start 57 = .ok (.iconst 0, 1) := dk_3 (dk_at dksX3_start_2 10 rfl rfl)
theorem dX3_start_58 : decode cX3_start 58 = .ok (.goto 12, 3) := dk_167 0 12 (dk_at dksX3_start_2 11 rfl rfl)
theorem dX3_start_61 : decode cX3_start 61 = .ok (.iload_n 2, 1) := dk_28 (dk_at dksX3_start_2 14 rfl rfl)
theorem dX3_start_62 : decode cX3_start 62 = .ok (.ifCond .eq 7, 3) := dk_153 0 7 (dk_at dksX3_start_2 15 rfl rfl)
theorem dX3_start_65 : decode cX3_start 65 = .ok (.iconst 1, 1) := dk_4 (dk_at dksX3_start_2 18 rfl rfl)
theorem dX3_start_66 : decode cX3_start 66 = .ok (.goto 4, 3) := dk_167 0 4 (dk_at dksX3_start_2 19 rfl rfl)
theorem dX3_start_69 : decode cX3_start 69 = .ok (.iconst (-1), 1) := dk_2 (dk_at dksX3_start_2 22 rfl rfl)
theorem dX3_start_70 : decode cX3_start 70 = .ok (.istore 5, 2) := dk_54 5 (dk_at dksX3_start_3 0 rfl rfl)
theorem dX3_start_72 : decode cX3_start 72 = .ok (.aload_n 0, 1) := dk_42 (dk_at dksX3_start_3 2 rfl rfl)
theorem dX3_start_73 : decode cX3_start 73 = .ok (.iload 5, 2) := dk_21 5 (dk_at dksX3_start_3 3 rfl rfl)
theorem dX3_start_75 : decode cX3_start 75 = .ok (.iconst (-1), 1) := dk_2 (dk_at dksX3_start_3 5 rfl rfl)
theorem dX3_start_76 : decode cX3_start 76 = .ok (.if_icmp .ne 7, 3) := dk_160 0 7 (dk_at dksX3_start_3 6 rfl rfl)
theorem dX3_start_79 : decode cX3_start 79 = .ok (.iconst 0, 1) := dk_3 (dk_at dksX3_start_3 9 rfl rfl)
theorem dX3_start_80 : decode cX3_start 80 = .ok (.goto 18, 3) := dk_167 0 18 (dk_at dksX3_start_3 10 rfl rfl)
theorem dX3_start_83 : decode cX3_start 83 = .ok (.aload_n 0, 1) := dk_42 (dk_at dksX3_start_3 13 rfl rfl)
theorem dX3_start_84 : decode cX3_start 84 = .ok (.getfield 13, 3) := dk_180 0 13 (dk_at dksX3_start_3 14 rfl rfl)
theorem dX3_start_87 : decode cX3_start 87 = .ok (.bipush 32, 2) := dk_16 32 (dk_at dksX3_start_3 17 rfl rfl)
theorem dX3_start_89 : decode cX3_start 89 = .ok (.iload 5, 2) := dk_21 5 (dk_at dksX3_start_3 19 rfl rfl)
theorem dX3_start_91 : decode cX3_start 91 = .ok (.imul, 1) := dk_104 (dk_at dksX3_start_3 21 rfl rfl)
theorem dX3_start_92 : decode cX3_start 92 = .ok (.bipush 16, 2) := dk_16 16 (dk_at dksX3_start_3 22 rfl rfl)
theorem dX3_start_94 : decode cX3_start 94 = .ok (.iadd, 1) := dk_96 (dk_at dksX3_start_4 0 rfl rfl)
theorem dX3_start_95 : decode cX3_start 95 = .ok (.invokestatic 88, 3) := dk_184 0 88 (dk_at dksX3_start_4 1 rfl rfl)
theorem dX3_start_98 : decode cX3_start 98 = .ok (.iload 5, 2) := dk_21 5 (dk_at dksX3_start_4 4 rfl rfl)
theorem dX3_start_100 : decode cX3_start 100 = .ok (.iconst (-1), 1) := dk_2 (dk_at dksX3_start_4 6 rfl rfl)
theorem dX3_start_101 : decode cX3_start 101 = .ok (.if_icmp .ne 7, 3) := dk_160 0 7 (dk_at dksX3_start_4 7 rfl rfl)
theorem dX3_start_104 : decode cX3_start 104 = .ok (.lconst 0, 1) := dk_9 (dk_at dksX3_start_4 10 rfl rfl)
theorem dX3_start_105 : decode cX3_start 105 = .ok (.goto 18, 3) := dk_167 0 18 (dk_at dksX3_start_4 11 rfl rfl)
theorem dX3_start_108 : decode cX3_start 108 = .ok (.aload_n 0, 1) := dk_42 (dk_at dksX3_start_4 14 rfl rfl)
theorem dX3_start_109 : decode cX3_start 109 = .ok (.getfield 13, 3) := dk_180 0 13 (dk_at dksX3_start_4 15 rfl rfl)
theorem dX3_start_112 : decode cX3_start 112 = .ok (.bipush 32, 2) := dk_16 32 (dk_at dksX3_start_4 18 rfl rfl)
theorem dX3_start_114 : decode cX3_start 114 = .ok (.iload 5, 2) := dk_21 5 (dk_at dksX3_start_4 20 rfl rfl)
theorem dX3_start_116 : decode cX3_start 116 = .ok (.imul, 1) := dk_104 (dk_at dksX3_start_4 22 rfl rfl)
theorem dX3_start_117 : decode cX3_start 117 = .ok (.bipush 8, 2) := dk_16 8 (dk_at dksX3_start_5 0 rfl rfl)
theorem dX3_start_119 : decode cX3_start 119 = .ok (.iadd, 1) := dk_96 (dk_at dksX3_start_5 2 rfl rfl)
theorem dX3_start_120 : decode cX3_start 120 = .ok (.invokestatic 93, 3) := dk_184 0 93 (dk_at dksX3_start_5 3 rfl rfl)
theorem dX3_start_123 : decode cX3_start 123 = .ok (.invokevirtual 57, 3) := dk_182 0 57 (dk_at dksX3_start_5 6 rfl rfl)
theorem dX3_start_126 : decode cX3_start 126 = .ok (.aload_n 0, 1) := dk_42 (dk_at dksX3_start_5 9 rfl rfl)
theorem dX3_start_127 : decode cX3_start 127 = .ok (.iconst 1, 1) := dk_4 (dk_at dksX3_start_5 10 rfl rfl)
theorem dX3_start_128 : decode cX3_start 128 = .ok (.putfield 7, 3) := dk_181 0 7 (dk_at dksX3_start_5 11 rfl rfl)
theorem dX3_start_131 : decode cX3_start 131 = .ok (.iconst 0, 1) := dk_3 (dk_at dksX3_start_5 14 rfl rfl)
theorem dX3_start_132 : decode cX3_start 132 = .ok (.istore 6, 2) := dk_54 6 (dk_at dksX3_start_5 15 rfl rfl)
theorem dX3_start_134 : decode cX3_start 134 = .ok (.iload 6, 2) := dk_21 6 (dk_at dksX3_start_5 17 rfl rfl)
theorem dX3_start_136 : decode cX3_start 136 = .ok (.bipush 64, 2) := dk_16 64 (dk_at dksX3_start_5 19 rfl rfl)
theorem dX3_start_138 : decode cX3_start 138 = .ok (.if_icmp .ge 47, 3) := dk_162 0 47 (dk_at dksX3_start_5 21 rfl rfl)
theorem dX3_start_141 : decode cX3_start 141 = .ok (.aload_n 0, 1) := dk_42 (dk_at dksX3_start_6 0 rfl rfl)
theorem dX3_start_142 : decode cX3_start 142 = .ok (.getfield 40, 3) := dk_180 0 40 (dk_at dksX3_start_6 1 rfl rfl)
theorem dX3_start_145 : decode cX3_start 145 = .ok (.aload_n 0, 1) := dk_42 (dk_at dksX3_start_6 4 rfl rfl)
theorem dX3_start_146 : decode cX3_start 146 = .ok (.getfield 64, 3) := dk_180 0 64 (dk_at dksX3_start_6 5 rfl rfl)
theorem dX3_start_149 : decode cX3_start 149 = .ok (.laload, 1) := dk_47 (dk_at dksX3_start_6 8 rfl rfl)
theorem dX3_start_150 : decode cX3_start 150 = .ok (.iload 6, 2) := dk_21 6 (dk_at dksX3_start_6 9 rfl rfl)
theorem dX3_start_152 : decode cX3_start 152 = .ok (.lshr, 1) := dk_123 (dk_at dksX3_start_6 11 rfl rfl)
theorem dX3_start_153 : decode cX3_start 153 = .ok (.lconst 1, 1) := dk_10 (dk_at dksX3_start_6 12 rfl rfl)
theorem dX3_start_154 : decode cX3_start 154 = .ok (.land, 1) := dk_127 (dk_at dksX3_start_6 13 rfl rfl)
theorem dX3_start_155 : decode cX3_start 155 = .ok (.lconst 1, 1) := dk_10 (dk_at dksX3_start_6 14 rfl rfl)
theorem dX3_start_156 : decode cX3_start 156 = .ok (.lcmp, 1) := dk_148 (dk_at dksX3_start_6 15 rfl rfl)
theorem dX3_start_157 : decode cX3_start 157 = .ok (.ifCond .ne 22, 3) := dk_154 0 22 (dk_at dksX3_start_6 16 rfl rfl)
theorem dX3_start_160 : decode cX3_start 160 = .ok (.aload_n 0, 1) := dk_42 (dk_at dksX3_start_6 19 rfl rfl)
theorem dX3_start_161 : decode cX3_start 161 = .ok (.getfield 27, 3) := dk_180 0 27 (dk_at dksX3_start_6 20 rfl rfl)
theorem dX3_start_164 : decode cX3_start 164 = .ok (.aload_n 0, 1) := dk_42 (dk_at dksX3_start_6 23 rfl rfl)
theorem dX3_start_165 : decode cX3_start 165 = .ok (.getfield 13, 3) := dk_180 0 13 (dk_at dksX3_start_7 0 rfl rfl)
theorem dX3_start_168 : decode cX3_start 168 = .ok (.bipush 32, 2) := dk_16 32 (dk_at dksX3_start_7 3 rfl rfl)
theorem dX3_start_170 : decode cX3_start 170 = .ok (.iload 6, 2) := dk_21 6 (dk_at dksX3_start_7 5 rfl rfl)
theorem dX3_start_172 : decode cX3_start 172 = .ok (.imul, 1) := dk_104 (dk_at dksX3_start_7 7 rfl rfl)
theorem dX3_start_173 : decode cX3_start 173 = .ok (.iconst 5, 1) := dk_8 (dk_at dksX3_start_7 8 rfl rfl)
theorem dX3_start_174 : decode cX3_start 174 = .ok (.iadd, 1) := dk_96 (dk_at dksX3_start_7 9 rfl rfl)
theorem dX3_start_175 : decode cX3_start 175 = .ok (.iaload, 1) := dk_46 (dk_at dksX3_start_7 10 rfl rfl)
theorem dX3_start_176 : decode cX3_start 176 = .ok (.iload 6, 2) := dk_21 6 (dk_at dksX3_start_7 11 rfl rfl)
theorem dX3_start_178 : decode cX3_start 178 = .ok (.iastore, 1) := dk_79 (dk_at dksX3_start_7 13 rfl rfl)
theorem dX3_start_179 : decode cX3_start 179 = .ok (.iinc 6 1, 3) := dk_132 6 1 (dk_at dksX3_start_7 14 rfl rfl)
theorem dX3_start_182 : decode cX3_start 182 = .ok (.goto (-48), 3) := dk_167 255 208 (dk_at dksX3_start_7 17 rfl rfl)
theorem dX3_start_185 : decode cX3_start 185 = .ok (.aload_n 0, 1) := dk_42 (dk_at dksX3_start_7 20 rfl rfl)
theorem dX3_start_186 : decode cX3_start 186 = .ok (.getfield 37, 3) := dk_180 0 37 (dk_at dksX3_start_7 21 rfl rfl)
theorem dX3_start_189 : decode cX3_start 189 = .ok (.aload_n 0, 1) := dk_42 (dk_at dksX3_start_8 0 rfl rfl)
theorem dX3_start_190 : decode cX3_start 190 = .ok (.getfield 64, 3) := dk_180 0 64 (dk_at dksX3_start_8 1 rfl rfl)
theorem dX3_start_193 : decode cX3_start 193 = .ok (.iaload, 1) := dk_46 (dk_at dksX3_start_8 4 rfl rfl)
theorem dX3_start_194 : decode cX3_start 194 = .ok (.ireturn, 1) := dk_172 (dk_at dksX3_start_8 5 rfl rfl)
abbrev cX3_isWhole : ByteArray := prog_6_method_29_code
def yX3_isWhole : MethodName := ⟨RX3, "isWhole", "(I)Z"⟩
def dkwX3_isWhole_10 : List UInt8 := [167, 0, 4, 3, 172]
abbrev dktX3_isWhole_10 : List UInt8 := dkwX3_isWhole_10 ++ []
def dkwX3_isWhole_9 : List UInt8 := [21, 7, 153, 0, 23, 21, 5, 42, 180, 0, 13, 28, 16, 20, 96, 184, 0, 88, 160, 0, 7, 4]
abbrev dktX3_isWhole_9 : List UInt8 := dkwX3_isWhole_9 ++ dktX3_isWhole_10
def dkwX3_isWhole_8 : List UInt8 := [21, 5, 42, 180, 0, 13, 16, 32, 21, 8, 104, 184, 0, 88, 130, 54, 5, 132, 8, 1, 167, 255, 100]
abbrev dktX3_isWhole_8 : List UInt8 := dkwX3_isWhole_8 ++ dktX3_isWhole_9
def dkwX3_isWhole_7 : List UInt8 := [154, 0, 7, 4, 167, 0, 4, 3, 54, 7, 21, 7, 153, 0, 12, 21, 6, 4, 21, 9, 120, 128, 54, 6]
abbrev dktX3_isWhole_7 : List UInt8 := dkwX3_isWhole_7 ++ dktX3_isWhole_8
def dkwX3_isWhole_6 : List UInt8 := [21, 8, 104, 7, 96, 46, 7, 162, 0, 24, 21, 9, 16, 30, 162, 0, 17, 21, 6, 21, 9, 122, 4, 126]
abbrev dktX3_isWhole_6 : List UInt8 := dkwX3_isWhole_6 ++ dktX3_isWhole_7
def dkwX3_isWhole_5 : List UInt8 := [153, 0, 55, 42, 180, 0, 13, 16, 32, 21, 8, 104, 7, 96, 46, 158, 0, 40, 42, 180, 0, 13, 16, 32]
abbrev dktX3_isWhole_5 : List UInt8 := dkwX3_isWhole_5 ++ dktX3_isWhole_6
def dkwX3_isWhole_4 : List UInt8 := [21, 8, 4, 164, 0, 76, 21, 8, 42, 180, 0, 53, 162, 0, 67, 42, 180, 0, 13, 21, 8, 184, 0, 150]
abbrev dktX3_isWhole_4 : List UInt8 := dkwX3_isWhole_4 ++ dktX3_isWhole_5
def dkwX3_isWhole_3 : List UInt8 := [10, 127, 9, 148, 154, 0, 6, 167, 0, 130, 42, 180, 0, 13, 16, 32, 21, 8, 104, 8, 96, 46, 54, 9]
abbrev dktX3_isWhole_3 : List UInt8 := dkwX3_isWhole_3 ++ dktX3_isWhole_4
def dkwX3_isWhole_2 : List UInt8 := [54, 6, 4, 54, 7, 3, 54, 8, 21, 8, 16, 64, 162, 0, 155, 21, 7, 153, 0, 150, 33, 21, 8, 123]
abbrev dktX3_isWhole_2 : List UInt8 := dkwX3_isWhole_2 ++ dktX3_isWhole_3
def dkwX3_isWhole_1 : List UInt8 := [184, 0, 150, 154, 0, 5, 3, 172, 42, 180, 0, 13, 28, 16, 8, 96, 184, 0, 93, 66, 3, 54, 5, 3]
abbrev dktX3_isWhole_1 : List UInt8 := dkwX3_isWhole_1 ++ dktX3_isWhole_2
def dkwX3_isWhole_0 : List UInt8 := [16, 32, 27, 104, 61, 42, 180, 0, 13, 28, 7, 96, 46, 16, 9, 160, 0, 14, 42, 180, 0, 13, 27]
abbrev dktX3_isWhole_0 : List UInt8 := dkwX3_isWhole_0 ++ dktX3_isWhole_1
theorem dksX3_isWhole_0 : cX3_isWhole.data.toList.drop 0 = dktX3_isWhole_0 := by decide +kernel
theorem dksX3_isWhole_1 : cX3_isWhole.data.toList.drop 23 = dktX3_isWhole_1 := dk_seg dksX3_isWhole_0 23 rfl rfl
theorem dksX3_isWhole_2 : cX3_isWhole.data.toList.drop 47 = dktX3_isWhole_2 := dk_seg dksX3_isWhole_1 24 rfl rfl
theorem dksX3_isWhole_3 : cX3_isWhole.data.toList.drop 71 = dktX3_isWhole_3 := dk_seg dksX3_isWhole_2 24 rfl rfl
theorem dksX3_isWhole_4 : cX3_isWhole.data.toList.drop 95 = dktX3_isWhole_4 := dk_seg dksX3_isWhole_3 24 rfl rfl
theorem dksX3_isWhole_5 : cX3_isWhole.data.toList.drop 119 = dktX3_isWhole_5 := dk_seg dksX3_isWhole_4 24 rfl rfl
theorem dksX3_isWhole_6 : cX3_isWhole.data.toList.drop 143 = dktX3_isWhole_6 := dk_seg dksX3_isWhole_5 24 rfl rfl
theorem dksX3_isWhole_7 : cX3_isWhole.data.toList.drop 167 = dktX3_isWhole_7 := dk_seg dksX3_isWhole_6 24 rfl rfl
theorem dksX3_isWhole_8 : cX3_isWhole.data.toList.drop 191 = dktX3_isWhole_8 := dk_seg dksX3_isWhole_7 24 rfl rfl
theorem dksX3_isWhole_9 : cX3_isWhole.data.toList.drop 214 = dktX3_isWhole_9 := dk_seg dksX3_isWhole_8 23 rfl rfl
theorem dksX3_isWhole_10 : cX3_isWhole.data.toList.drop 236 = dktX3_isWhole_10 := dk_seg dksX3_isWhole_9 22 rfl rfl
theorem dX3_isWhole_0 : decode cX3_isWhole 0 = .ok (.bipush 32, 2) := dk_16 32 (dk_at dksX3_isWhole_0 0 rfl rfl)
theorem dX3_isWhole_2 : decode cX3_isWhole 2 = .ok (.iload_n 1, 1) := dk_27 (dk_at dksX3_isWhole_0 2 rfl rfl)
theorem dX3_isWhole_3 : decode cX3_isWhole 3 = .ok (.imul, 1) := dk_104 (dk_at dksX3_isWhole_0 3 rfl rfl)
theorem dX3_isWhole_4 : decode cX3_isWhole 4 = .ok (.istore_n 2, 1) := dk_61 (dk_at dksX3_isWhole_0 4 rfl rfl)
theorem dX3_isWhole_5 : decode cX3_isWhole 5 = .ok (.aload_n 0, 1) := dk_42 (dk_at dksX3_isWhole_0 5 rfl rfl)
theorem dX3_isWhole_6 : decode cX3_isWhole 6 = .ok (.getfield 13, 3) := dk_180 0 13 (dk_at dksX3_isWhole_0 6 rfl rfl)
theorem dX3_isWhole_9 : decode cX3_isWhole 9 = .ok (.iload_n 2, 1) := dk_28 (dk_at dksX3_isWhole_0 9 rfl rfl)
theorem dX3_isWhole_10 : decode cX3_isWhole 10 = .ok (.iconst 4, 1) := dk_7 (dk_at dksX3_isWhole_0 10 rfl rfl)
theorem dX3_isWhole_11 : decode cX3_isWhole 11 = .ok (.iadd, 1) := dk_96 (dk_at dksX3_isWhole_0 11 rfl rfl)
theorem dX3_isWhole_12 : decode cX3_isWhole 12 = .ok (.iaload, 1) := dk_46 (dk_at dksX3_isWhole_0 12 rfl rfl)
theorem dX3_isWhole_13 : decode cX3_isWhole 13 = .ok (.bipush 9, 2) := dk_16 9 (dk_at dksX3_isWhole_0 13 rfl rfl)
theorem dX3_isWhole_15 : decode cX3_isWhole 15 = .ok (.if_icmp .ne 14, 3) := dk_160 0 14 (dk_at dksX3_isWhole_0 15 rfl rfl)
theorem dX3_isWhole_18 : decode cX3_isWhole 18 = .ok (.aload_n 0, 1) := dk_42 (dk_at dksX3_isWhole_0 18 rfl rfl)
theorem dX3_isWhole_19 : decode cX3_isWhole 19 = .ok (.getfield 13, 3) := dk_180 0 13 (dk_at dksX3_isWhole_0 19 rfl rfl)
theorem dX3_isWhole_22 : decode cX3_isWhole 22 = .ok (.iload_n 1, 1) := dk_27 (dk_at dksX3_isWhole_0 22 rfl rfl)
theorem dX3_isWhole_23 : decode cX3_isWhole 23 = .ok (.invokestatic 150, 3) := dk_184 0 150 (dk_at dksX3_isWhole_1 0 rfl rfl)
theorem dX3_isWhole_26 : decode cX3_isWhole 26 = .ok (.ifCond .ne 5, 3) := dk_154 0 5 (dk_at dksX3_isWhole_1 3 rfl rfl)
theorem dX3_isWhole_29 : decode cX3_isWhole 29 = .ok (.iconst 0, 1) := dk_3 (dk_at dksX3_isWhole_1 6 rfl rfl)
theorem dX3_isWhole_30 : decode cX3_isWhole 30 = .ok (.ireturn, 1) := dk_172 (dk_at dksX3_isWhole_1 7 rfl rfl)
theorem dX3_isWhole_31 : decode cX3_isWhole 31 = .ok (.aload_n 0, 1) := dk_42 (dk_at dksX3_isWhole_1 8 rfl rfl)
theorem dX3_isWhole_32 : decode cX3_isWhole 32 = .ok (.getfield 13, 3) := dk_180 0 13 (dk_at dksX3_isWhole_1 9 rfl rfl)
theorem dX3_isWhole_35 : decode cX3_isWhole 35 = .ok (.iload_n 2, 1) := dk_28 (dk_at dksX3_isWhole_1 12 rfl rfl)
theorem dX3_isWhole_36 : decode cX3_isWhole 36 = .ok (.bipush 8, 2) := dk_16 8 (dk_at dksX3_isWhole_1 13 rfl rfl)
theorem dX3_isWhole_38 : decode cX3_isWhole 38 = .ok (.iadd, 1) := dk_96 (dk_at dksX3_isWhole_1 15 rfl rfl)
theorem dX3_isWhole_39 : decode cX3_isWhole 39 = .ok (.invokestatic 93, 3) := dk_184 0 93 (dk_at dksX3_isWhole_1 16 rfl rfl)
theorem dX3_isWhole_42 : decode cX3_isWhole 42 = .ok (.lstore_n 3, 1) := dk_66 (dk_at dksX3_isWhole_1 19 rfl rfl)
theorem dX3_isWhole_43 : decode cX3_isWhole 43 = .ok (.iconst 0, 1) := dk_3 (dk_at dksX3_isWhole_1 20 rfl rfl)
theorem dX3_isWhole_44 : decode cX3_isWhole 44 = .ok (.istore 5, 2) := dk_54 5 (dk_at dksX3_isWhole_1 21 rfl rfl)
theorem dX3_isWhole_46 : decode cX3_isWhole 46 = .ok (.iconst 0, 1) := dk_3 (dk_at dksX3_isWhole_1 23 rfl rfl)
theorem dX3_isWhole_47 : decode cX3_isWhole 47 = .ok (.istore 6, 2) := dk_54 6 (dk_at dksX3_isWhole_2 0 rfl rfl)
theorem dX3_isWhole_49 : decode cX3_isWhole 49 = .ok (.iconst 1, 1) := dk_4 (dk_at dksX3_isWhole_2 2 rfl rfl)
theorem dX3_isWhole_50 : decode cX3_isWhole 50 = .ok (.istore 7, 2) := dk_54 7 (dk_at dksX3_isWhole_2 3 rfl rfl)
theorem dX3_isWhole_52 : decode cX3_isWhole 52 = .ok (.iconst 0, 1) := dk_3 (dk_at dksX3_isWhole_2 5 rfl rfl)
theorem dX3_isWhole_53 : decode cX3_isWhole 53 = .ok (.istore 8, 2) := dk_54 8 (dk_at dksX3_isWhole_2 6 rfl rfl)
theorem dX3_isWhole_55 : decode cX3_isWhole 55 = .ok (.iload 8, 2) := dk_21 8 (dk_at dksX3_isWhole_2 8 rfl rfl)
theorem dX3_isWhole_57 : decode cX3_isWhole 57 = .ok (.bipush 64, 2) := dk_16 64 (dk_at dksX3_isWhole_2 10 rfl rfl)
theorem dX3_isWhole_59 : decode cX3_isWhole 59 = .ok (.if_icmp .ge 155, 3) := dk_162 0 155 (dk_at dksX3_isWhole_2 12 rfl rfl)
theorem dX3_isWhole_62 : decode cX3_isWhole 62 = .ok (.iload 7, 2) := dk_21 7 (dk_at dksX3_isWhole_2 15 rfl rfl)
theorem dX3_isWhole_64 : decode cX3_isWhole 64 = .ok (.ifCond .eq 150, 3) := dk_153 0 150 (dk_at dksX3_isWhole_2 17 rfl rfl)
theorem dX3_isWhole_67 : decode cX3_isWhole 67 = .ok (.lload_n 3, 1) := dk_33 (dk_at dksX3_isWhole_2 20 rfl rfl)
theorem dX3_isWhole_68 : decode cX3_isWhole 68 = .ok (.iload 8, 2) := dk_21 8 (dk_at dksX3_isWhole_2 21 rfl rfl)
theorem dX3_isWhole_70 : decode cX3_isWhole 70 = .ok (.lshr, 1) := dk_123 (dk_at dksX3_isWhole_2 23 rfl rfl)
theorem dX3_isWhole_71 : decode cX3_isWhole 71 = .ok (.lconst 1, 1) := dk_10 (dk_at dksX3_isWhole_3 0 rfl rfl)
theorem dX3_isWhole_72 : decode cX3_isWhole 72 = .ok (.land, 1) := dk_127 (dk_at dksX3_isWhole_3 1 rfl rfl)
theorem dX3_isWhole_73 : decode cX3_isWhole 73 = .ok (.lconst 0, 1) := dk_9 (dk_at dksX3_isWhole_3 2 rfl rfl)
theorem dX3_isWhole_74 : decode cX3_isWhole 74 = .ok (.lcmp, 1) := dk_148 (dk_at dksX3_isWhole_3 3 rfl rfl)
theorem dX3_isWhole_75 : decode cX3_isWhole 75 = .ok (.ifCond .ne 6, 3) := dk_154 0 6 (dk_at dksX3_isWhole_3 4 rfl rfl)
theorem dX3_isWhole_78 : decode cX3_isWhole 78 = .ok (.goto 130, 3) := dk_167 0 130 (dk_at dksX3_isWhole_3 7 rfl rfl)
theorem dX3_isWhole_81 : decode cX3_isWhole 81 = .ok (.aload_n 0, 1) := dk_42 (dk_at dksX3_isWhole_3 10 rfl rfl)
theorem dX3_isWhole_82 : decode cX3_isWhole 82 = .ok (.getfield 13, 3) := dk_180 0 13 (dk_at dksX3_isWhole_3 11 rfl rfl)
theorem dX3_isWhole_85 : decode cX3_isWhole 85 = .ok (.bipush 32, 2) := dk_16 32 (dk_at dksX3_isWhole_3 14 rfl rfl)
theorem dX3_isWhole_87 : decode cX3_isWhole 87 = .ok (.iload 8, 2) := dk_21 8 (dk_at dksX3_isWhole_3 16 rfl rfl)
theorem dX3_isWhole_89 : decode cX3_isWhole 89 = .ok (.imul, 1) := dk_104 (dk_at dksX3_isWhole_3 18 rfl rfl)
theorem dX3_isWhole_90 : decode cX3_isWhole 90 = .ok (.iconst 5, 1) := dk_8 (dk_at dksX3_isWhole_3 19 rfl rfl)
theorem dX3_isWhole_91 : decode cX3_isWhole 91 = .ok (.iadd, 1) := dk_96 (dk_at dksX3_isWhole_3 20 rfl rfl)
theorem dX3_isWhole_92 : decode cX3_isWhole 92 = .ok (.iaload, 1) := dk_46 (dk_at dksX3_isWhole_3 21 rfl rfl)
theorem dX3_isWhole_93 : decode cX3_isWhole 93 = .ok (.istore 9, 2) := dk_54 9 (dk_at dksX3_isWhole_3 22 rfl rfl)
theorem dX3_isWhole_95 : decode cX3_isWhole 95 = .ok (.iload 8, 2) := dk_21 8 (dk_at dksX3_isWhole_4 0 rfl rfl)
theorem dX3_isWhole_97 : decode cX3_isWhole 97 = .ok (.iconst 1, 1) := dk_4 (dk_at dksX3_isWhole_4 2 rfl rfl)
theorem dX3_isWhole_98 : decode cX3_isWhole 98 = .ok (.if_icmp .le 76, 3) := dk_164 0 76 (dk_at dksX3_isWhole_4 3 rfl rfl)
theorem dX3_isWhole_101 : decode cX3_isWhole 101 = .ok (.iload 8, 2) := dk_21 8 (dk_at dksX3_isWhole_4 6 rfl rfl)
theorem dX3_isWhole_103 : decode cX3_isWhole 103 = .ok (.aload_n 0, 1) := dk_42 (dk_at dksX3_isWhole_4 8 rfl rfl)
theorem dX3_isWhole_104 : decode cX3_isWhole 104 = .ok (.getfield 53, 3) := dk_180 0 53 (dk_at dksX3_isWhole_4 9 rfl rfl)
theorem dX3_isWhole_107 : decode cX3_isWhole 107 = .ok (.if_icmp .ge 67, 3) := dk_162 0 67 (dk_at dksX3_isWhole_4 12 rfl rfl)
theorem dX3_isWhole_110 : decode cX3_isWhole 110 = .ok (.aload_n 0, 1) := dk_42 (dk_at dksX3_isWhole_4 15 rfl rfl)
theorem dX3_isWhole_111 : decode cX3_isWhole 111 = .ok (.getfield 13, 3) := dk_180 0 13 (dk_at dksX3_isWhole_4 16 rfl rfl)
theorem dX3_isWhole_114 : decode cX3_isWhole 114 = .ok (.iload 8, 2) := dk_21 8 (dk_at dksX3_isWhole_4 19 rfl rfl)
theorem dX3_isWhole_116 : decode cX3_isWhole 116 = .ok (.invokestatic 150, 3) := dk_184 0 150 (dk_at dksX3_isWhole_4 21 rfl rfl)
theorem dX3_isWhole_119 : decode cX3_isWhole 119 = .ok (.ifCond .eq 55, 3) := dk_153 0 55 (dk_at dksX3_isWhole_5 0 rfl rfl)
theorem dX3_isWhole_122 : decode cX3_isWhole 122 = .ok (.aload_n 0, 1) := dk_42 (dk_at dksX3_isWhole_5 3 rfl rfl)
theorem dX3_isWhole_123 : decode cX3_isWhole 123 = .ok (.getfield 13, 3) := dk_180 0 13 (dk_at dksX3_isWhole_5 4 rfl rfl)
theorem dX3_isWhole_126 : decode cX3_isWhole 126 = .ok (.bipush 32, 2) := dk_16 32 (dk_at dksX3_isWhole_5 7 rfl rfl)
theorem dX3_isWhole_128 : decode cX3_isWhole 128 = .ok (.iload 8, 2) := dk_21 8 (dk_at dksX3_isWhole_5 9 rfl rfl)
theorem dX3_isWhole_130 : decode cX3_isWhole 130 = .ok (.imul, 1) := dk_104 (dk_at dksX3_isWhole_5 11 rfl rfl)
theorem dX3_isWhole_131 : decode cX3_isWhole 131 = .ok (.iconst 4, 1) := dk_7 (dk_at dksX3_isWhole_5 12 rfl rfl)
theorem dX3_isWhole_132 : decode cX3_isWhole 132 = .ok (.iadd, 1) := dk_96 (dk_at dksX3_isWhole_5 13 rfl rfl)
theorem dX3_isWhole_133 : decode cX3_isWhole 133 = .ok (.iaload, 1) := dk_46 (dk_at dksX3_isWhole_5 14 rfl rfl)
theorem dX3_isWhole_134 : decode cX3_isWhole 134 = .ok (.ifCond .le 40, 3) := dk_158 0 40 (dk_at dksX3_isWhole_5 15 rfl rfl)
theorem dX3_isWhole_137 : decode cX3_isWhole 137 = .ok (.aload_n 0, 1) := dk_42 (dk_at dksX3_isWhole_5 18 rfl rfl)
theorem dX3_isWhole_138 : decode cX3_isWhole 138 = .ok (.getfield 13, 3) := dk_180 0 13 (dk_at dksX3_isWhole_5 19 rfl rfl)
theorem dX3_isWhole_141 : decode cX3_isWhole 141 = .ok (.bipush 32, 2) := dk_16 32 (dk_at dksX3_isWhole_5 22 rfl rfl)
theorem dX3_isWhole_143 : decode cX3_isWhole 143 = .ok (.iload 8, 2) := dk_21 8 (dk_at dksX3_isWhole_6 0 rfl rfl)
theorem dX3_isWhole_145 : decode cX3_isWhole 145 = .ok (.imul, 1) := dk_104 (dk_at dksX3_isWhole_6 2 rfl rfl)
theorem dX3_isWhole_146 : decode cX3_isWhole 146 = .ok (.iconst 4, 1) := dk_7 (dk_at dksX3_isWhole_6 3 rfl rfl)
theorem dX3_isWhole_147 : decode cX3_isWhole 147 = .ok (.iadd, 1) := dk_96 (dk_at dksX3_isWhole_6 4 rfl rfl)
theorem dX3_isWhole_148 : decode cX3_isWhole 148 = .ok (.iaload, 1) := dk_46 (dk_at dksX3_isWhole_6 5 rfl rfl)
theorem dX3_isWhole_149 : decode cX3_isWhole 149 = .ok (.iconst 4, 1) := dk_7 (dk_at dksX3_isWhole_6 6 rfl rfl)
theorem dX3_isWhole_150 : decode cX3_isWhole 150 = .ok (.if_icmp .ge 24, 3) := dk_162 0 24 (dk_at dksX3_isWhole_6 7 rfl rfl)
theorem dX3_isWhole_153 : decode cX3_isWhole 153 = .ok (.iload 9, 2) := dk_21 9 (dk_at dksX3_isWhole_6 10 rfl rfl)
theorem dX3_isWhole_155 : decode cX3_isWhole 155 = .ok (.bipush 30, 2) := dk_16 30 (dk_at dksX3_isWhole_6 12 rfl rfl)
theorem dX3_isWhole_157 : decode cX3_isWhole 157 = .ok (.if_icmp .ge 17, 3) := dk_162 0 17 (dk_at dksX3_isWhole_6 14 rfl rfl)
theorem dX3_isWhole_160 : decode cX3_isWhole 160 = .ok (.iload 6, 2) := dk_21 6 (dk_at dksX3_isWhole_6 17 rfl rfl)
theorem dX3_isWhole_162 : decode cX3_isWhole 162 = .ok (.iload 9, 2) := dk_21 9 (dk_at dksX3_isWhole_6 19 rfl rfl)
theorem dX3_isWhole_164 : decode cX3_isWhole 164 = .ok (.ishr, 1) := dk_122 (dk_at dksX3_isWhole_6 21 rfl rfl)
theorem dX3_isWhole_165 : decode cX3_isWhole 165 = .ok (.iconst 1, 1) := dk_4 (dk_at dksX3_isWhole_6 22 rfl rfl)
theorem dX3_isWhole_166 : decode cX3_isWhole 166 = .ok (.iand, 1) := dk_126 (dk_at dksX3_isWhole_6 23 rfl rfl)
theorem dX3_isWhole_167 : decode cX3_isWhole 167 = .ok (.ifCond .ne 7, 3) := dk_154 0 7 (dk_at dksX3_isWhole_7 0 rfl rfl)
theorem dX3_isWhole_170 : decode cX3_isWhole 170 = .ok (.iconst 1, 1) := dk_4 (dk_at dksX3_isWhole_7 3 rfl rfl)
theorem dX3_isWhole_171 : decode cX3_isWhole 171 = .ok (.goto 4, 3) := dk_167 0 4 (dk_at dksX3_isWhole_7 4 rfl rfl)
theorem dX3_isWhole_174 : decode cX3_isWhole 174 = .ok (.iconst 0, 1) := dk_3 (dk_at dksX3_isWhole_7 7 rfl rfl)
theorem dX3_isWhole_175 : decode cX3_isWhole 175 = .ok (.istore 7, 2) := dk_54 7 (dk_at dksX3_isWhole_7 8 rfl rfl)
theorem dX3_isWhole_177 : decode cX3_isWhole 177 = .ok (.iload 7, 2) := dk_21 7 (dk_at dksX3_isWhole_7 10 rfl rfl)
theorem dX3_isWhole_179 : decode cX3_isWhole 179 = .ok (.ifCond .eq 12, 3) := dk_153 0 12 (dk_at dksX3_isWhole_7 12 rfl rfl)
theorem dX3_isWhole_182 : decode cX3_isWhole 182 = .ok (.iload 6, 2) := dk_21 6 (dk_at dksX3_isWhole_7 15 rfl rfl)
theorem dX3_isWhole_184 : decode cX3_isWhole 184 = .ok (.iconst 1, 1) := dk_4 (dk_at dksX3_isWhole_7 17 rfl rfl)
theorem dX3_isWhole_185 : decode cX3_isWhole 185 = .ok (.iload 9, 2) := dk_21 9 (dk_at dksX3_isWhole_7 18 rfl rfl)
theorem dX3_isWhole_187 : decode cX3_isWhole 187 = .ok (.ishl, 1) := dk_120 (dk_at dksX3_isWhole_7 20 rfl rfl)
theorem dX3_isWhole_188 : decode cX3_isWhole 188 = .ok (.ior, 1) := dk_128 (dk_at dksX3_isWhole_7 21 rfl rfl)
theorem dX3_isWhole_189 : decode cX3_isWhole 189 = .ok (.istore 6, 2) := dk_54 6 (dk_at dksX3_isWhole_7 22 rfl rfl)
theorem dX3_isWhole_191 : decode cX3_isWhole 191 = .ok (.iload 5, 2) := dk_21 5 (dk_at dksX3_isWhole_8 0 rfl rfl)
theorem dX3_isWhole_193 : decode cX3_isWhole 193 = .ok (.aload_n 0, 1) := dk_42 (dk_at dksX3_isWhole_8 2 rfl rfl)
theorem dX3_isWhole_194 : decode cX3_isWhole 194 = .ok (.getfield 13, 3) := dk_180 0 13 (dk_at dksX3_isWhole_8 3 rfl rfl)
theorem dX3_isWhole_197 : decode cX3_isWhole 197 = .ok (.bipush 32, 2) := dk_16 32 (dk_at dksX3_isWhole_8 6 rfl rfl)
theorem dX3_isWhole_199 : decode cX3_isWhole 199 = .ok (.iload 8, 2) := dk_21 8 (dk_at dksX3_isWhole_8 8 rfl rfl)
theorem dX3_isWhole_201 : decode cX3_isWhole 201 = .ok (.imul, 1) := dk_104 (dk_at dksX3_isWhole_8 10 rfl rfl)
theorem dX3_isWhole_202 : decode cX3_isWhole 202 = .ok (.invokestatic 88, 3) := dk_184 0 88 (dk_at dksX3_isWhole_8 11 rfl rfl)
theorem dX3_isWhole_205 : decode cX3_isWhole 205 = .ok (.ixor, 1) := dk_130 (dk_at dksX3_isWhole_8 14 rfl rfl)
theorem dX3_isWhole_206 : decode cX3_isWhole 206 = .ok (.istore 5, 2) := dk_54 5 (dk_at dksX3_isWhole_8 15 rfl rfl)
theorem dX3_isWhole_208 : decode cX3_isWhole 208 = .ok (.iinc 8 1, 3) := dk_132 8 1 (dk_at dksX3_isWhole_8 17 rfl rfl)
theorem dX3_isWhole_211 : decode cX3_isWhole 211 = .ok (.goto (-156), 3) := dk_167 255 100 (dk_at dksX3_isWhole_8 20 rfl rfl)
theorem dX3_isWhole_214 : decode cX3_isWhole 214 = .ok (.iload 7, 2) := dk_21 7 (dk_at dksX3_isWhole_9 0 rfl rfl)
theorem dX3_isWhole_216 : decode cX3_isWhole 216 = .ok (.ifCond .eq 23, 3) := dk_153 0 23 (dk_at dksX3_isWhole_9 2 rfl rfl)
theorem dX3_isWhole_219 : decode cX3_isWhole 219 = .ok (.iload 5, 2) := dk_21 5 (dk_at dksX3_isWhole_9 5 rfl rfl)
theorem dX3_isWhole_221 : decode cX3_isWhole 221 = .ok (.aload_n 0, 1) := dk_42 (dk_at dksX3_isWhole_9 7 rfl rfl)
theorem dX3_isWhole_222 : decode cX3_isWhole 222 = .ok (.getfield 13, 3) := dk_180 0 13 (dk_at dksX3_isWhole_9 8 rfl rfl)
theorem dX3_isWhole_225 : decode cX3_isWhole 225 = .ok (.iload_n 2, 1) := dk_28 (dk_at dksX3_isWhole_9 11 rfl rfl)
theorem dX3_isWhole_226 : decode cX3_isWhole 226 = .ok (.bipush 20, 2) := dk_16 20 (dk_at dksX3_isWhole_9 12 rfl rfl)
theorem dX3_isWhole_228 : decode cX3_isWhole 228 = .ok (.iadd, 1) := dk_96 (dk_at dksX3_isWhole_9 14 rfl rfl)
theorem dX3_isWhole_229 : decode cX3_isWhole 229 = .ok (.invokestatic 88, 3) := dk_184 0 88 (dk_at dksX3_isWhole_9 15 rfl rfl)
theorem dX3_isWhole_232 : decode cX3_isWhole 232 = .ok (.if_icmp .ne 7, 3) := dk_160 0 7 (dk_at dksX3_isWhole_9 18 rfl rfl)
theorem dX3_isWhole_235 : decode cX3_isWhole 235 = .ok (.iconst 1, 1) := dk_4 (dk_at dksX3_isWhole_9 21 rfl rfl)
theorem dX3_isWhole_236 : decode cX3_isWhole 236 = .ok (.goto 4, 3) := dk_167 0 4 (dk_at dksX3_isWhole_10 0 rfl rfl)
theorem dX3_isWhole_239 : decode cX3_isWhole 239 = .ok (.iconst 0, 1) := dk_3 (dk_at dksX3_isWhole_10 3 rfl rfl)
theorem dX3_isWhole_240 : decode cX3_isWhole 240 = .ok (.ireturn, 1) := dk_172 (dk_at dksX3_isWhole_10 4 rfl rfl)
abbrev cX3_at : ByteArray := prog_6_method_31_code
def yX3_at : MethodName := ⟨RX3, "at", "(II)B"⟩
def dkwX3_at_2 : List UInt8 := [182, 0, 97, 145, 172]
abbrev dktX3_at_2 : List UInt8 := dkwX3_at_2 ++ []
def dkwX3_at_1 : List UInt8 := [181, 0, 168, 42, 180, 0, 168, 153, 0, 7, 3, 167, 0, 15, 42, 42, 180, 0, 27, 27, 46, 28]
abbrev dktX3_at_1 : List UInt8 := dkwX3_at_1 ++ dktX3_at_2
def dkwX3_at_0 : List UInt8 := [42, 42, 27, 182, 0, 128, 153, 0, 13, 28, 155, 0, 9, 28, 16, 32, 161, 0, 7, 4, 167, 0, 4, 3]
abbrev dktX3_at_0 : List UInt8 := dkwX3_at_0 ++ dktX3_at_1
theorem dksX3_at_0 : cX3_at.data.toList.drop 0 = dktX3_at_0 := by decide +kernel
theorem dksX3_at_1 : cX3_at.data.toList.drop 24 = dktX3_at_1 := dk_seg dksX3_at_0 24 rfl rfl
theorem dksX3_at_2 : cX3_at.data.toList.drop 46 = dktX3_at_2 := dk_seg dksX3_at_1 22 rfl rfl
theorem dX3_at_0 : decode cX3_at 0 = .ok (.aload_n 0, 1) := dk_42 (dk_at dksX3_at_0 0 rfl rfl)
theorem dX3_at_1 : decode cX3_at 1 = .ok (.aload_n 0, 1) := dk_42 (dk_at dksX3_at_0 1 rfl rfl)
theorem dX3_at_2 : decode cX3_at 2 = .ok (.iload_n 1, 1) := dk_27 (dk_at dksX3_at_0 2 rfl rfl)
theorem dX3_at_3 : decode cX3_at 3 = .ok (.invokevirtual 128, 3) := dk_182 0 128 (dk_at dksX3_at_0 3 rfl rfl)
theorem dX3_at_6 : decode cX3_at 6 = .ok (.ifCond .eq 13, 3) := dk_153 0 13 (dk_at dksX3_at_0 6 rfl rfl)
theorem dX3_at_9 : decode cX3_at 9 = .ok (.iload_n 2, 1) := dk_28 (dk_at dksX3_at_0 9 rfl rfl)
theorem dX3_at_10 : decode cX3_at 10 = .ok (.ifCond .lt 9, 3) := dk_155 0 9 (dk_at dksX3_at_0 10 rfl rfl)
theorem dX3_at_13 : decode cX3_at 13 = .ok (.iload_n 2, 1) := dk_28 (dk_at dksX3_at_0 13 rfl rfl)
theorem dX3_at_14 : decode cX3_at 14 = .ok (.bipush 32, 2) := dk_16 32 (dk_at dksX3_at_0 14 rfl rfl)
theorem dX3_at_16 : decode cX3_at 16 = .ok (.if_icmp .lt 7, 3) := dk_161 0 7 (dk_at dksX3_at_0 16 rfl rfl)
theorem dX3_at_19 : decode cX3_at 19 = .ok (.iconst 1, 1) := dk_4 (dk_at dksX3_at_0 19 rfl rfl)
theorem dX3_at_20 : decode cX3_at 20 = .ok (.goto 4, 3) := dk_167 0 4 (dk_at dksX3_at_0 20 rfl rfl)
theorem dX3_at_23 : decode cX3_at 23 = .ok (.iconst 0, 1) := dk_3 (dk_at dksX3_at_0 23 rfl rfl)
theorem dX3_at_24 : decode cX3_at 24 = .ok (.putfield 168, 3) := dk_181 0 168 (dk_at dksX3_at_1 0 rfl rfl)
theorem dX3_at_27 : decode cX3_at 27 = .ok (.aload_n 0, 1) := dk_42 (dk_at dksX3_at_1 3 rfl rfl)
theorem dX3_at_28 : decode cX3_at 28 = .ok (.getfield 168, 3) := dk_180 0 168 (dk_at dksX3_at_1 4 rfl rfl)
theorem dX3_at_31 : decode cX3_at 31 = .ok (.ifCond .eq 7, 3) := dk_153 0 7 (dk_at dksX3_at_1 7 rfl rfl)
theorem dX3_at_34 : decode cX3_at 34 = .ok (.iconst 0, 1) := dk_3 (dk_at dksX3_at_1 10 rfl rfl)
theorem dX3_at_35 : decode cX3_at 35 = .ok (.goto 15, 3) := dk_167 0 15 (dk_at dksX3_at_1 11 rfl rfl)
theorem dX3_at_38 : decode cX3_at 38 = .ok (.aload_n 0, 1) := dk_42 (dk_at dksX3_at_1 14 rfl rfl)
theorem dX3_at_39 : decode cX3_at 39 = .ok (.aload_n 0, 1) := dk_42 (dk_at dksX3_at_1 15 rfl rfl)
theorem dX3_at_40 : decode cX3_at 40 = .ok (.getfield 27, 3) := dk_180 0 27 (dk_at dksX3_at_1 16 rfl rfl)
theorem dX3_at_43 : decode cX3_at 43 = .ok (.iload_n 1, 1) := dk_27 (dk_at dksX3_at_1 19 rfl rfl)
theorem dX3_at_44 : decode cX3_at 44 = .ok (.iaload, 1) := dk_46 (dk_at dksX3_at_1 20 rfl rfl)
theorem dX3_at_45 : decode cX3_at 45 = .ok (.iload_n 2, 1) := dk_28 (dk_at dksX3_at_1 21 rfl rfl)
theorem dX3_at_46 : decode cX3_at 46 = .ok (.invokevirtual 97, 3) := dk_182 0 97 (dk_at dksX3_at_2 0 rfl rfl)
theorem dX3_at_49 : decode cX3_at 49 = .ok (.i2b, 1) := dk_145 (dk_at dksX3_at_2 3 rfl rfl)
theorem dX3_at_50 : decode cX3_at 50 = .ok (.ireturn, 1) := dk_172 (dk_at dksX3_at_2 4 rfl rfl)
abbrev cX3_thrown : ByteArray := prog_6_method_32_code
def yX3_thrown : MethodName := ⟨RX3, "thrown", "()I"⟩
def dkwX3_thrown_0 : List UInt8 := [42, 180, 0, 168, 153, 0, 7, 4, 167, 0, 4, 3, 172]
abbrev dktX3_thrown_0 : List UInt8 := dkwX3_thrown_0 ++ []
theorem dksX3_thrown_0 : cX3_thrown.data.toList.drop 0 = dktX3_thrown_0 := by decide +kernel
theorem dX3_thrown_0 : decode cX3_thrown 0 = .ok (.aload_n 0, 1) := dk_42 (dk_at dksX3_thrown_0 0 rfl rfl)
theorem dX3_thrown_1 : decode cX3_thrown 1 = .ok (.getfield 168, 3) := dk_180 0 168 (dk_at dksX3_thrown_0 1 rfl rfl)
theorem dX3_thrown_4 : decode cX3_thrown 4 = .ok (.ifCond .eq 7, 3) := dk_153 0 7 (dk_at dksX3_thrown_0 4 rfl rfl)
theorem dX3_thrown_7 : decode cX3_thrown 7 = .ok (.iconst 1, 1) := dk_4 (dk_at dksX3_thrown_0 7 rfl rfl)
theorem dX3_thrown_8 : decode cX3_thrown 8 = .ok (.goto 4, 3) := dk_167 0 4 (dk_at dksX3_thrown_0 8 rfl rfl)
theorem dX3_thrown_11 : decode cX3_thrown 11 = .ok (.iconst 0, 1) := dk_3 (dk_at dksX3_thrown_0 11 rfl rfl)
theorem dX3_thrown_12 : decode cX3_thrown 12 = .ok (.ireturn, 1) := dk_172 (dk_at dksX3_thrown_0 12 rfl rfl)
abbrev cX3_poke : ByteArray := prog_6_method_33_code
def yX3_poke : MethodName := ⟨RX3, "poke", "(III)I"⟩
def dkwX3_poke_5 : List UInt8 := [180, 0, 13, 16, 32, 21, 4, 104, 28, 96, 46, 172]
abbrev dktX3_poke_5 : List UInt8 := dkwX3_poke_5 ++ []
def dkwX3_poke_4 : List UInt8 := [180, 0, 17, 16, 32, 21, 4, 104, 28, 96, 42, 180, 0, 13, 16, 32, 21, 4, 104, 28, 96, 46, 79, 42]
abbrev dktX3_poke_4 : List UInt8 := dkwX3_poke_4 ++ dktX3_poke_5
def dkwX3_poke_3 : List UInt8 := [153, 0, 6, 16, 253, 172, 42, 180, 0, 13, 16, 32, 21, 4, 104, 28, 96, 92, 46, 29, 130, 79, 42]
abbrev dktX3_poke_3 : List UInt8 := dkwX3_poke_3 ++ dktX3_poke_4
def dkwX3_poke_2 : List UInt8 := [180, 0, 27, 27, 46, 54, 4, 42, 180, 0, 23, 21, 4, 51, 154, 0, 12, 42, 21, 4, 182, 0, 105]
abbrev dktX3_poke_2 : List UInt8 := dkwX3_poke_2 ++ dktX3_poke_3
def dkwX3_poke_1 : List UInt8 := [28, 16, 32, 162, 0, 15, 29, 4, 161, 0, 10, 29, 17, 0, 255, 164, 0, 6, 16, 254, 172, 42]
abbrev dktX3_poke_1 : List UInt8 := dkwX3_poke_1 ++ dktX3_poke_2
def dkwX3_poke_0 : List UInt8 := [42, 180, 0, 7, 154, 0, 6, 16, 253, 172, 42, 27, 182, 0, 128, 154, 0, 5, 2, 172, 28, 155, 0, 21]
abbrev dktX3_poke_0 : List UInt8 := dkwX3_poke_0 ++ dktX3_poke_1
theorem dksX3_poke_0 : cX3_poke.data.toList.drop 0 = dktX3_poke_0 := by decide +kernel
theorem dksX3_poke_1 : cX3_poke.data.toList.drop 24 = dktX3_poke_1 := dk_seg dksX3_poke_0 24 rfl rfl
theorem dksX3_poke_2 : cX3_poke.data.toList.drop 46 = dktX3_poke_2 := dk_seg dksX3_poke_1 22 rfl rfl
theorem dksX3_poke_3 : cX3_poke.data.toList.drop 69 = dktX3_poke_3 := dk_seg dksX3_poke_2 23 rfl rfl
theorem dksX3_poke_4 : cX3_poke.data.toList.drop 92 = dktX3_poke_4 := dk_seg dksX3_poke_3 23 rfl rfl
theorem dksX3_poke_5 : cX3_poke.data.toList.drop 116 = dktX3_poke_5 := dk_seg dksX3_poke_4 24 rfl rfl
theorem dX3_poke_0 : decode cX3_poke 0 = .ok (.aload_n 0, 1) := dk_42 (dk_at dksX3_poke_0 0 rfl rfl)
theorem dX3_poke_1 : decode cX3_poke 1 = .ok (.getfield 7, 3) := dk_180 0 7 (dk_at dksX3_poke_0 1 rfl rfl)
theorem dX3_poke_4 : decode cX3_poke 4 = .ok (.ifCond .ne 6, 3) := dk_154 0 6 (dk_at dksX3_poke_0 4 rfl rfl)
theorem dX3_poke_7 : decode cX3_poke 7 = .ok (.bipush (-3), 2) := dk_16 253 (dk_at dksX3_poke_0 7 rfl rfl)
theorem dX3_poke_9 : decode cX3_poke 9 = .ok (.ireturn, 1) := dk_172 (dk_at dksX3_poke_0 9 rfl rfl)
theorem dX3_poke_10 : decode cX3_poke 10 = .ok (.aload_n 0, 1) := dk_42 (dk_at dksX3_poke_0 10 rfl rfl)
theorem dX3_poke_11 : decode cX3_poke 11 = .ok (.iload_n 1, 1) := dk_27 (dk_at dksX3_poke_0 11 rfl rfl)
theorem dX3_poke_12 : decode cX3_poke 12 = .ok (.invokevirtual 128, 3) := dk_182 0 128 (dk_at dksX3_poke_0 12 rfl rfl)
theorem dX3_poke_15 : decode cX3_poke 15 = .ok (.ifCond .ne 5, 3) := dk_154 0 5 (dk_at dksX3_poke_0 15 rfl rfl)
theorem dX3_poke_18 : decode cX3_poke 18 = .ok (.iconst (-1), 1) := dk_2 (dk_at dksX3_poke_0 18 rfl rfl)
theorem dX3_poke_19 : decode cX3_poke 19 = .ok (.ireturn, 1) := dk_172 (dk_at dksX3_poke_0 19 rfl rfl)
theorem dX3_poke_20 : decode cX3_poke 20 = .ok (.iload_n 2, 1) := dk_28 (dk_at dksX3_poke_0 20 rfl rfl)
theorem dX3_poke_21 : decode cX3_poke 21 = .ok (.ifCond .lt 21, 3) := dk_155 0 21 (dk_at dksX3_poke_0 21 rfl rfl)
theorem dX3_poke_24 : decode cX3_poke 24 = .ok (.iload_n 2, 1) := dk_28 (dk_at dksX3_poke_1 0 rfl rfl)
theorem dX3_poke_25 : decode cX3_poke 25 = .ok (.bipush 32, 2) := dk_16 32 (dk_at dksX3_poke_1 1 rfl rfl)
theorem dX3_poke_27 : decode cX3_poke 27 = .ok (.if_icmp .ge 15, 3) := dk_162 0 15 (dk_at dksX3_poke_1 3 rfl rfl)
theorem dX3_poke_30 : decode cX3_poke 30 = .ok (.iload_n 3, 1) := dk_29 (dk_at dksX3_poke_1 6 rfl rfl)
theorem dX3_poke_31 : decode cX3_poke 31 = .ok (.iconst 1, 1) := dk_4 (dk_at dksX3_poke_1 7 rfl rfl)
theorem dX3_poke_32 : decode cX3_poke 32 = .ok (.if_icmp .lt 10, 3) := dk_161 0 10 (dk_at dksX3_poke_1 8 rfl rfl)
theorem dX3_poke_35 : decode cX3_poke 35 = .ok (.iload_n 3, 1) := dk_29 (dk_at dksX3_poke_1 11 rfl rfl)
theorem dX3_poke_36 : decode cX3_poke 36 = .ok (.sipush 255, 3) := dk_17 0 255 (dk_at dksX3_poke_1 12 rfl rfl)
theorem dX3_poke_39 : decode cX3_poke 39 = .ok (.if_icmp .le 6, 3) := dk_164 0 6 (dk_at dksX3_poke_1 15 rfl rfl)
theorem dX3_poke_42 : decode cX3_poke 42 = .ok (.bipush (-2), 2) := dk_16 254 (dk_at dksX3_poke_1 18 rfl rfl)
theorem dX3_poke_44 : decode cX3_poke 44 = .ok (.ireturn, 1) := dk_172 (dk_at dksX3_poke_1 20 rfl rfl)
theorem dX3_poke_45 : decode cX3_poke 45 = .ok (.aload_n 0, 1) := dk_42 (dk_at dksX3_poke_1 21 rfl rfl)
theorem dX3_poke_46 : decode cX3_poke 46 = .ok (.getfield 27, 3) := dk_180 0 27 (dk_at dksX3_poke_2 0 rfl rfl)
theorem dX3_poke_49 : decode cX3_poke 49 = .ok (.iload_n 1, 1) := dk_27 (dk_at dksX3_poke_2 3 rfl rfl)
theorem dX3_poke_50 : decode cX3_poke 50 = .ok (.iaload, 1) := dk_46 (dk_at dksX3_poke_2 4 rfl rfl)
theorem dX3_poke_51 : decode cX3_poke 51 = .ok (.istore 4, 2) := dk_54 4 (dk_at dksX3_poke_2 5 rfl rfl)
theorem dX3_poke_53 : decode cX3_poke 53 = .ok (.aload_n 0, 1) := dk_42 (dk_at dksX3_poke_2 7 rfl rfl)
theorem dX3_poke_54 : decode cX3_poke 54 = .ok (.getfield 23, 3) := dk_180 0 23 (dk_at dksX3_poke_2 8 rfl rfl)
theorem dX3_poke_57 : decode cX3_poke 57 = .ok (.iload 4, 2) := dk_21 4 (dk_at dksX3_poke_2 11 rfl rfl)
theorem dX3_poke_59 : decode cX3_poke 59 = .ok (.baload, 1) := dk_51 (dk_at dksX3_poke_2 13 rfl rfl)
theorem dX3_poke_60 : decode cX3_poke 60 = .ok (.ifCond .ne 12, 3) := dk_154 0 12 (dk_at dksX3_poke_2 14 rfl rfl)
theorem dX3_poke_63 : decode cX3_poke 63 = .ok (.aload_n 0, 1) := dk_42 (dk_at dksX3_poke_2 17 rfl rfl)
theorem dX3_poke_64 : decode cX3_poke 64 = .ok (.iload 4, 2) := dk_21 4 (dk_at dksX3_poke_2 18 rfl rfl)
theorem dX3_poke_66 : decode cX3_poke 66 = .ok (.invokevirtual 105, 3) := dk_182 0 105 (dk_at dksX3_poke_2 20 rfl rfl)
theorem dX3_poke_69 : decode cX3_poke 69 = .ok (.ifCond .eq 6, 3) := dk_153 0 6 (dk_at dksX3_poke_3 0 rfl rfl)
theorem dX3_poke_72 : decode cX3_poke 72 = .ok (.bipush (-3), 2) := dk_16 253 (dk_at dksX3_poke_3 3 rfl rfl)
theorem dX3_poke_74 : decode cX3_poke 74 = .ok (.ireturn, 1) := dk_172 (dk_at dksX3_poke_3 5 rfl rfl)
theorem dX3_poke_75 : decode cX3_poke 75 = .ok (.aload_n 0, 1) := dk_42 (dk_at dksX3_poke_3 6 rfl rfl)
theorem dX3_poke_76 : decode cX3_poke 76 = .ok (.getfield 13, 3) := dk_180 0 13 (dk_at dksX3_poke_3 7 rfl rfl)
theorem dX3_poke_79 : decode cX3_poke 79 = .ok (.bipush 32, 2) := dk_16 32 (dk_at dksX3_poke_3 10 rfl rfl)
theorem dX3_poke_81 : decode cX3_poke 81 = .ok (.iload 4, 2) := dk_21 4 (dk_at dksX3_poke_3 12 rfl rfl)
theorem dX3_poke_83 : decode cX3_poke 83 = .ok (.imul, 1) := dk_104 (dk_at dksX3_poke_3 14 rfl rfl)
theorem dX3_poke_84 : decode cX3_poke 84 = .ok (.iload_n 2, 1) := dk_28 (dk_at dksX3_poke_3 15 rfl rfl)
theorem dX3_poke_85 : decode cX3_poke 85 = .ok (.iadd, 1) := dk_96 (dk_at dksX3_poke_3 16 rfl rfl)
theorem dX3_poke_86 : decode cX3_poke 86 = .ok (.dup2, 1) := dk_92 (dk_at dksX3_poke_3 17 rfl rfl)
theorem dX3_poke_87 : decode cX3_poke 87 = .ok (.iaload, 1) := dk_46 (dk_at dksX3_poke_3 18 rfl rfl)
theorem dX3_poke_88 : decode cX3_poke 88 = .ok (.iload_n 3, 1) := dk_29 (dk_at dksX3_poke_3 19 rfl rfl)
theorem dX3_poke_89 : decode cX3_poke 89 = .ok (.ixor, 1) := dk_130 (dk_at dksX3_poke_3 20 rfl rfl)
theorem dX3_poke_90 : decode cX3_poke 90 = .ok (.iastore, 1) := dk_79 (dk_at dksX3_poke_3 21 rfl rfl)
theorem dX3_poke_91 : decode cX3_poke 91 = .ok (.aload_n 0, 1) := dk_42 (dk_at dksX3_poke_3 22 rfl rfl)
theorem dX3_poke_92 : decode cX3_poke 92 = .ok (.getfield 17, 3) := dk_180 0 17 (dk_at dksX3_poke_4 0 rfl rfl)
theorem dX3_poke_95 : decode cX3_poke 95 = .ok (.bipush 32, 2) := dk_16 32 (dk_at dksX3_poke_4 3 rfl rfl)
theorem dX3_poke_97 : decode cX3_poke 97 = .ok (.iload 4, 2) := dk_21 4 (dk_at dksX3_poke_4 5 rfl rfl)
theorem dX3_poke_99 : decode cX3_poke 99 = .ok (.imul, 1) := dk_104 (dk_at dksX3_poke_4 7 rfl rfl)
theorem dX3_poke_100 : decode cX3_poke 100 = .ok (.iload_n 2, 1) := dk_28 (dk_at dksX3_poke_4 8 rfl rfl)
theorem dX3_poke_101 : decode cX3_poke 101 = .ok (.iadd, 1) := dk_96 (dk_at dksX3_poke_4 9 rfl rfl)
theorem dX3_poke_102 : decode cX3_poke 102 = .ok (.aload_n 0, 1) := dk_42 (dk_at dksX3_poke_4 10 rfl rfl)
theorem dX3_poke_103 : decode cX3_poke 103 = .ok (.getfield 13, 3) := dk_180 0 13 (dk_at dksX3_poke_4 11 rfl rfl)
theorem dX3_poke_106 : decode cX3_poke 106 = .ok (.bipush 32, 2) := dk_16 32 (dk_at dksX3_poke_4 14 rfl rfl)
theorem dX3_poke_108 : decode cX3_poke 108 = .ok (.iload 4, 2) := dk_21 4 (dk_at dksX3_poke_4 16 rfl rfl)
theorem dX3_poke_110 : decode cX3_poke 110 = .ok (.imul, 1) := dk_104 (dk_at dksX3_poke_4 18 rfl rfl)
theorem dX3_poke_111 : decode cX3_poke 111 = .ok (.iload_n 2, 1) := dk_28 (dk_at dksX3_poke_4 19 rfl rfl)
theorem dX3_poke_112 : decode cX3_poke 112 = .ok (.iadd, 1) := dk_96 (dk_at dksX3_poke_4 20 rfl rfl)
theorem dX3_poke_113 : decode cX3_poke 113 = .ok (.iaload, 1) := dk_46 (dk_at dksX3_poke_4 21 rfl rfl)
theorem dX3_poke_114 : decode cX3_poke 114 = .ok (.iastore, 1) := dk_79 (dk_at dksX3_poke_4 22 rfl rfl)
theorem dX3_poke_115 : decode cX3_poke 115 = .ok (.aload_n 0, 1) := dk_42 (dk_at dksX3_poke_4 23 rfl rfl)
theorem dX3_poke_116 : decode cX3_poke 116 = .ok (.getfield 13, 3) := dk_180 0 13 (dk_at dksX3_poke_5 0 rfl rfl)
theorem dX3_poke_119 : decode cX3_poke 119 = .ok (.bipush 32, 2) := dk_16 32 (dk_at dksX3_poke_5 3 rfl rfl)
theorem dX3_poke_121 : decode cX3_poke 121 = .ok (.iload 4, 2) := dk_21 4 (dk_at dksX3_poke_5 5 rfl rfl)
theorem dX3_poke_123 : decode cX3_poke 123 = .ok (.imul, 1) := dk_104 (dk_at dksX3_poke_5 7 rfl rfl)
theorem dX3_poke_124 : decode cX3_poke 124 = .ok (.iload_n 2, 1) := dk_28 (dk_at dksX3_poke_5 8 rfl rfl)
theorem dX3_poke_125 : decode cX3_poke 125 = .ok (.iadd, 1) := dk_96 (dk_at dksX3_poke_5 9 rfl rfl)
theorem dX3_poke_126 : decode cX3_poke 126 = .ok (.iaload, 1) := dk_46 (dk_at dksX3_poke_5 10 rfl rfl)
theorem dX3_poke_127 : decode cX3_poke 127 = .ok (.ireturn, 1) := dk_172 (dk_at dksX3_poke_5 11 rfl rfl)
abbrev cX3_wrong : ByteArray := prog_6_method_34_code
def yX3_wrong : MethodName := ⟨RX3, "wrong", "(I)I"⟩
def dkwX3_wrong_5 : List UInt8 := [160, 0, 7, 29, 167, 0, 9, 42, 180, 0, 27, 29, 46, 172]
abbrev dktX3_wrong_5 : List UInt8 := dkwX3_wrong_5 ++ []
def dkwX3_wrong_4 : List UInt8 := [167, 255, 189, 27, 154, 0, 7, 28, 167, 0, 27, 29, 2, 160, 0, 7, 2, 167, 0, 18, 27, 4]
abbrev dktX3_wrong_4 : List UInt8 := dkwX3_wrong_4 ++ dktX3_wrong_5
def dkwX3_wrong_3 : List UInt8 := [46, 184, 0, 150, 153, 0, 6, 167, 0, 14, 132, 2, 1, 29, 2, 160, 0, 6, 21, 4, 62, 132, 4, 1]
abbrev dktX3_wrong_3 : List UInt8 := dkwX3_wrong_3 ++ dktX3_wrong_4
def dkwX3_wrong_2 : List UInt8 := [180, 0, 23, 42, 180, 0, 27, 21, 4, 46, 51, 154, 0, 34, 42, 180, 0, 17, 42, 180, 0, 27, 21, 4]
abbrev dktX3_wrong_2 : List UInt8 := dkwX3_wrong_2 ++ dktX3_wrong_3
def dkwX3_wrong_1 : List UInt8 := [2, 62, 3, 54, 4, 21, 4, 16, 30, 162, 0, 66, 42, 180, 0, 27, 21, 4, 46, 2, 159, 0, 49, 42]
abbrev dktX3_wrong_1 : List UInt8 := dkwX3_wrong_1 ++ dktX3_wrong_2
def dkwX3_wrong_0 : List UInt8 := [42, 180, 0, 7, 154, 0, 6, 16, 253, 172, 27, 155, 0, 8, 27, 5, 164, 0, 6, 16, 254, 172, 3, 61]
abbrev dktX3_wrong_0 : List UInt8 := dkwX3_wrong_0 ++ dktX3_wrong_1
theorem dksX3_wrong_0 : cX3_wrong.data.toList.drop 0 = dktX3_wrong_0 := by decide +kernel
theorem dksX3_wrong_1 : cX3_wrong.data.toList.drop 24 = dktX3_wrong_1 := dk_seg dksX3_wrong_0 24 rfl rfl
theorem dksX3_wrong_2 : cX3_wrong.data.toList.drop 48 = dktX3_wrong_2 := dk_seg dksX3_wrong_1 24 rfl rfl
theorem dksX3_wrong_3 : cX3_wrong.data.toList.drop 72 = dktX3_wrong_3 := dk_seg dksX3_wrong_2 24 rfl rfl
theorem dksX3_wrong_4 : cX3_wrong.data.toList.drop 96 = dktX3_wrong_4 := dk_seg dksX3_wrong_3 24 rfl rfl
theorem dksX3_wrong_5 : cX3_wrong.data.toList.drop 118 = dktX3_wrong_5 := dk_seg dksX3_wrong_4 22 rfl rfl
theorem dX3_wrong_0 : decode cX3_wrong 0 = .ok (.aload_n 0, 1) := dk_42 (dk_at dksX3_wrong_0 0 rfl rfl)
theorem dX3_wrong_1 : decode cX3_wrong 1 = .ok (.getfield 7, 3) := dk_180 0 7 (dk_at dksX3_wrong_0 1 rfl rfl)
theorem dX3_wrong_4 : decode cX3_wrong 4 = .ok (.ifCond .ne 6, 3) := dk_154 0 6 (dk_at dksX3_wrong_0 4 rfl rfl)
theorem dX3_wrong_7 : decode cX3_wrong 7 = .ok (.bipush (-3), 2) := dk_16 253 (dk_at dksX3_wrong_0 7 rfl rfl)
theorem dX3_wrong_9 : decode cX3_wrong 9 = .ok (.ireturn, 1) := dk_172 (dk_at dksX3_wrong_0 9 rfl rfl)
theorem dX3_wrong_10 : decode cX3_wrong 10 = .ok (.iload_n 1, 1) := dk_27 (dk_at dksX3_wrong_0 10 rfl rfl)
theorem dX3_wrong_11 : decode cX3_wrong 11 = .ok (.ifCond .lt 8, 3) := dk_155 0 8 (dk_at dksX3_wrong_0 11 rfl rfl)
theorem dX3_wrong_14 : decode cX3_wrong 14 = .ok (.iload_n 1, 1) := dk_27 (dk_at dksX3_wrong_0 14 rfl rfl)
theorem dX3_wrong_15 : decode cX3_wrong 15 = .ok (.iconst 2, 1) := dk_5 (dk_at dksX3_wrong_0 15 rfl rfl)
theorem dX3_wrong_16 : decode cX3_wrong 16 = .ok (.if_icmp .le 6, 3) := dk_164 0 6 (dk_at dksX3_wrong_0 16 rfl rfl)
theorem dX3_wrong_19 : decode cX3_wrong 19 = .ok (.bipush (-2), 2) := dk_16 254 (dk_at dksX3_wrong_0 19 rfl rfl)
theorem dX3_wrong_21 : decode cX3_wrong 21 = .ok (.ireturn, 1) := dk_172 (dk_at dksX3_wrong_0 21 rfl rfl)
theorem dX3_wrong_22 : decode cX3_wrong 22 = .ok (.iconst 0, 1) := dk_3 (dk_at dksX3_wrong_0 22 rfl rfl)
theorem dX3_wrong_23 : decode cX3_wrong 23 = .ok (.istore_n 2, 1) := dk_61 (dk_at dksX3_wrong_0 23 rfl rfl)
theorem dX3_wrong_24 : decode cX3_wrong 24 = .ok (.iconst (-1), 1) := dk_2 (dk_at dksX3_wrong_1 0 rfl rfl)
theorem dX3_wrong_25 : decode cX3_wrong 25 = .ok (.istore_n 3, 1) := dk_62 (dk_at dksX3_wrong_1 1 rfl rfl)
theorem dX3_wrong_26 : decode cX3_wrong 26 = .ok (.iconst 0, 1) := dk_3 (dk_at dksX3_wrong_1 2 rfl rfl)
theorem dX3_wrong_27 : decode cX3_wrong 27 = .ok (.istore 4, 2) := dk_54 4 (dk_at dksX3_wrong_1 3 rfl rfl)
theorem dX3_wrong_29 : decode cX3_wrong 29 = .ok (.iload 4, 2) := dk_21 4 (dk_at dksX3_wrong_1 5 rfl rfl)
theorem dX3_wrong_31 : decode cX3_wrong 31 = .ok (.bipush 30, 2) := dk_16 30 (dk_at dksX3_wrong_1 7 rfl rfl)
theorem dX3_wrong_33 : decode cX3_wrong 33 = .ok (.if_icmp .ge 66, 3) := dk_162 0 66 (dk_at dksX3_wrong_1 9 rfl rfl)
theorem dX3_wrong_36 : decode cX3_wrong 36 = .ok (.aload_n 0, 1) := dk_42 (dk_at dksX3_wrong_1 12 rfl rfl)
theorem dX3_wrong_37 : decode cX3_wrong 37 = .ok (.getfield 27, 3) := dk_180 0 27 (dk_at dksX3_wrong_1 13 rfl rfl)
theorem dX3_wrong_40 : decode cX3_wrong 40 = .ok (.iload 4, 2) := dk_21 4 (dk_at dksX3_wrong_1 16 rfl rfl)
theorem dX3_wrong_42 : decode cX3_wrong 42 = .ok (.iaload, 1) := dk_46 (dk_at dksX3_wrong_1 18 rfl rfl)
theorem dX3_wrong_43 : decode cX3_wrong 43 = .ok (.iconst (-1), 1) := dk_2 (dk_at dksX3_wrong_1 19 rfl rfl)
theorem dX3_wrong_44 : decode cX3_wrong 44 = .ok (.if_icmp .eq 49, 3) := dk_159 0 49 (dk_at dksX3_wrong_1 20 rfl rfl)
theorem dX3_wrong_47 : decode cX3_wrong 47 = .ok (.aload_n 0, 1) := dk_42 (dk_at dksX3_wrong_1 23 rfl rfl)
theorem dX3_wrong_48 : decode cX3_wrong 48 = .ok (.getfield 23, 3) := dk_180 0 23 (dk_at dksX3_wrong_2 0 rfl rfl)
theorem dX3_wrong_51 : decode cX3_wrong 51 = .ok (.aload_n 0, 1) := dk_42 (dk_at dksX3_wrong_2 3 rfl rfl)
theorem dX3_wrong_52 : decode cX3_wrong 52 = .ok (.getfield 27, 3) := dk_180 0 27 (dk_at dksX3_wrong_2 4 rfl rfl)
theorem dX3_wrong_55 : decode cX3_wrong 55 = .ok (.iload 4, 2) := dk_21 4 (dk_at dksX3_wrong_2 7 rfl rfl)
theorem dX3_wrong_57 : decode cX3_wrong 57 = .ok (.iaload, 1) := dk_46 (dk_at dksX3_wrong_2 9 rfl rfl)
theorem dX3_wrong_58 : decode cX3_wrong 58 = .ok (.baload, 1) := dk_51 (dk_at dksX3_wrong_2 10 rfl rfl)
theorem dX3_wrong_59 : decode cX3_wrong 59 = .ok (.ifCond .ne 34, 3) := dk_154 0 34 (dk_at dksX3_wrong_2 11 rfl rfl)
theorem dX3_wrong_62 : decode cX3_wrong 62 = .ok (.aload_n 0, 1) := dk_42 (dk_at dksX3_wrong_2 14 rfl rfl)
theorem dX3_wrong_63 : decode cX3_wrong 63 = .ok (.getfield 17, 3) := dk_180 0 17 (dk_at dksX3_wrong_2 15 rfl rfl)
theorem dX3_wrong_66 : decode cX3_wrong 66 = .ok (.aload_n 0, 1) := dk_42 (dk_at dksX3_wrong_2 18 rfl rfl)
theorem dX3_wrong_67 : decode cX3_wrong 67 = .ok (.getfield 27, 3) := dk_180 0 27 (dk_at dksX3_wrong_2 19 rfl rfl)
theorem dX3_wrong_70 : decode cX3_wrong 70 = .ok (.iload 4, 2) := dk_21 4 (dk_at dksX3_wrong_2 22 rfl rfl)
theorem dX3_wrong_72 : decode cX3_wrong 72 = .ok (.iaload, 1) := dk_46 (dk_at dksX3_wrong_3 0 rfl rfl)
theorem dX3_wrong_73 : decode cX3_wrong 73 = .ok (.invokestatic 150, 3) := dk_184 0 150 (dk_at dksX3_wrong_3 1 rfl rfl)
theorem dX3_wrong_76 : decode cX3_wrong 76 = .ok (.ifCond .eq 6, 3) := dk_153 0 6 (dk_at dksX3_wrong_3 4 rfl rfl)
theorem dX3_wrong_79 : decode cX3_wrong 79 = .ok (.goto 14, 3) := dk_167 0 14 (dk_at dksX3_wrong_3 7 rfl rfl)
theorem dX3_wrong_82 : decode cX3_wrong 82 = .ok (.iinc 2 1, 3) := dk_132 2 1 (dk_at dksX3_wrong_3 10 rfl rfl)
theorem dX3_wrong_85 : decode cX3_wrong 85 = .ok (.iload_n 3, 1) := dk_29 (dk_at dksX3_wrong_3 13 rfl rfl)
theorem dX3_wrong_86 : decode cX3_wrong 86 = .ok (.iconst (-1), 1) := dk_2 (dk_at dksX3_wrong_3 14 rfl rfl)
theorem dX3_wrong_87 : decode cX3_wrong 87 = .ok (.if_icmp .ne 6, 3) := dk_160 0 6 (dk_at dksX3_wrong_3 15 rfl rfl)
theorem dX3_wrong_90 : decode cX3_wrong 90 = .ok (.iload 4, 2) := dk_21 4 (dk_at dksX3_wrong_3 18 rfl rfl)
theorem dX3_wrong_92 : decode cX3_wrong 92 = .ok (.istore_n 3, 1) := dk_62 (dk_at dksX3_wrong_3 20 rfl rfl)
theorem dX3_wrong_93 : decode cX3_wrong 93 = .ok (.iinc 4 1, 3) := dk_132 4 1 (dk_at dksX3_wrong_3 21 rfl rfl)
theorem dX3_wrong_96 : decode cX3_wrong 96 = .ok (.goto (-67), 3) := dk_167 255 189 (dk_at dksX3_wrong_4 0 rfl rfl)
theorem dX3_wrong_99 : decode cX3_wrong 99 = .ok (.iload_n 1, 1) := dk_27 (dk_at dksX3_wrong_4 3 rfl rfl)
theorem dX3_wrong_100 : decode cX3_wrong 100 = .ok (.ifCond .ne 7, 3) := dk_154 0 7 (dk_at dksX3_wrong_4 4 rfl rfl)
theorem dX3_wrong_103 : decode cX3_wrong 103 = .ok (.iload_n 2, 1) := dk_28 (dk_at dksX3_wrong_4 7 rfl rfl)
theorem dX3_wrong_104 : decode cX3_wrong 104 = .ok (.goto 27, 3) := dk_167 0 27 (dk_at dksX3_wrong_4 8 rfl rfl)
theorem dX3_wrong_107 : decode cX3_wrong 107 = .ok (.iload_n 3, 1) := dk_29 (dk_at dksX3_wrong_4 11 rfl rfl)
theorem dX3_wrong_108 : decode cX3_wrong 108 = .ok (.iconst (-1), 1) := dk_2 (dk_at dksX3_wrong_4 12 rfl rfl)
theorem dX3_wrong_109 : decode cX3_wrong 109 = .ok (.if_icmp .ne 7, 3) := dk_160 0 7 (dk_at dksX3_wrong_4 13 rfl rfl)
theorem dX3_wrong_112 : decode cX3_wrong 112 = .ok (.iconst (-1), 1) := dk_2 (dk_at dksX3_wrong_4 16 rfl rfl)
theorem dX3_wrong_113 : decode cX3_wrong 113 = .ok (.goto 18, 3) := dk_167 0 18 (dk_at dksX3_wrong_4 17 rfl rfl)
theorem dX3_wrong_116 : decode cX3_wrong 116 = .ok (.iload_n 1, 1) := dk_27 (dk_at dksX3_wrong_4 20 rfl rfl)
theorem dX3_wrong_117 : decode cX3_wrong 117 = .ok (.iconst 1, 1) := dk_4 (dk_at dksX3_wrong_4 21 rfl rfl)
theorem dX3_wrong_118 : decode cX3_wrong 118 = .ok (.if_icmp .ne 7, 3) := dk_160 0 7 (dk_at dksX3_wrong_5 0 rfl rfl)
theorem dX3_wrong_121 : decode cX3_wrong 121 = .ok (.iload_n 3, 1) := dk_29 (dk_at dksX3_wrong_5 3 rfl rfl)
theorem dX3_wrong_122 : decode cX3_wrong 122 = .ok (.goto 9, 3) := dk_167 0 9 (dk_at dksX3_wrong_5 4 rfl rfl)
theorem dX3_wrong_125 : decode cX3_wrong 125 = .ok (.aload_n 0, 1) := dk_42 (dk_at dksX3_wrong_5 7 rfl rfl)
theorem dX3_wrong_126 : decode cX3_wrong 126 = .ok (.getfield 27, 3) := dk_180 0 27 (dk_at dksX3_wrong_5 8 rfl rfl)
theorem dX3_wrong_129 : decode cX3_wrong 129 = .ok (.iload_n 3, 1) := dk_29 (dk_at dksX3_wrong_5 11 rfl rfl)
theorem dX3_wrong_130 : decode cX3_wrong 130 = .ok (.iaload, 1) := dk_46 (dk_at dksX3_wrong_5 12 rfl rfl)
theorem dX3_wrong_131 : decode cX3_wrong 131 = .ok (.ireturn, 1) := dk_172 (dk_at dksX3_wrong_5 13 rfl rfl)
abbrev cX3_backup : ByteArray := prog_6_method_36_code
def yX3_backup : MethodName := ⟨RX3, "backup", "(I)I"⟩
def dkwX3_backup_3 : List UInt8 := [181, 0, 67, 42, 180, 0, 40, 42, 180, 0, 64, 47, 184, 0, 171, 172]
abbrev dktX3_backup_3 : List UInt8 := dkwX3_backup_3 ++ []
def dkwX3_backup_2 : List UInt8 := [180, 0, 47, 42, 180, 0, 67, 42, 180, 0, 40, 42, 180, 0, 64, 47, 80, 42, 89, 180, 0, 67, 4, 96]
abbrev dktX3_backup_2 : List UInt8 := dkwX3_backup_2 ++ dktX3_backup_3
def dkwX3_backup_1 : List UInt8 := [172, 42, 180, 0, 67, 7, 160, 0, 6, 16, 252, 172, 42, 180, 0, 44, 42, 180, 0, 67, 27, 79, 42]
abbrev dktX3_backup_1 : List UInt8 := dkwX3_backup_1 ++ dktX3_backup_2
def dkwX3_backup_0 : List UInt8 := [42, 180, 0, 7, 154, 0, 6, 16, 253, 172, 42, 180, 0, 37, 42, 180, 0, 64, 46, 27, 159, 0, 5, 2]
abbrev dktX3_backup_0 : List UInt8 := dkwX3_backup_0 ++ dktX3_backup_1
theorem dksX3_backup_0 : cX3_backup.data.toList.drop 0 = dktX3_backup_0 := by decide +kernel
theorem dksX3_backup_1 : cX3_backup.data.toList.drop 24 = dktX3_backup_1 := dk_seg dksX3_backup_0 24 rfl rfl
theorem dksX3_backup_2 : cX3_backup.data.toList.drop 47 = dktX3_backup_2 := dk_seg dksX3_backup_1 23 rfl rfl
theorem dksX3_backup_3 : cX3_backup.data.toList.drop 71 = dktX3_backup_3 := dk_seg dksX3_backup_2 24 rfl rfl
theorem dX3_backup_0 : decode cX3_backup 0 = .ok (.aload_n 0, 1) := dk_42 (dk_at dksX3_backup_0 0 rfl rfl)
theorem dX3_backup_1 : decode cX3_backup 1 = .ok (.getfield 7, 3) := dk_180 0 7 (dk_at dksX3_backup_0 1 rfl rfl)
theorem dX3_backup_4 : decode cX3_backup 4 = .ok (.ifCond .ne 6, 3) := dk_154 0 6 (dk_at dksX3_backup_0 4 rfl rfl)
theorem dX3_backup_7 : decode cX3_backup 7 = .ok (.bipush (-3), 2) := dk_16 253 (dk_at dksX3_backup_0 7 rfl rfl)
theorem dX3_backup_9 : decode cX3_backup 9 = .ok (.ireturn, 1) := dk_172 (dk_at dksX3_backup_0 9 rfl rfl)
theorem dX3_backup_10 : decode cX3_backup 10 = .ok (.aload_n 0, 1) := dk_42 (dk_at dksX3_backup_0 10 rfl rfl)
theorem dX3_backup_11 : decode cX3_backup 11 = .ok (.getfield 37, 3) := dk_180 0 37 (dk_at dksX3_backup_0 11 rfl rfl)
theorem dX3_backup_14 : decode cX3_backup 14 = .ok (.aload_n 0, 1) := dk_42 (dk_at dksX3_backup_0 14 rfl rfl)
theorem dX3_backup_15 : decode cX3_backup 15 = .ok (.getfield 64, 3) := dk_180 0 64 (dk_at dksX3_backup_0 15 rfl rfl)
theorem dX3_backup_18 : decode cX3_backup 18 = .ok (.iaload, 1) := dk_46 (dk_at dksX3_backup_0 18 rfl rfl)
theorem dX3_backup_19 : decode cX3_backup 19 = .ok (.iload_n 1, 1) := dk_27 (dk_at dksX3_backup_0 19 rfl rfl)
theorem dX3_backup_20 : decode cX3_backup 20 = .ok (.if_icmp .eq 5, 3) := dk_159 0 5 (dk_at dksX3_backup_0 20 rfl rfl)
theorem dX3_backup_23 : decode cX3_backup 23 = .ok (.iconst (-1), 1) := dk_2 (dk_at dksX3_backup_0 23 rfl rfl)
theorem dX3_backup_24 : decode cX3_backup 24 = .ok (.ireturn, 1) := dk_172 (dk_at dksX3_backup_1 0 rfl rfl)
theorem dX3_backup_25 : decode cX3_backup 25 = .ok (.aload_n 0, 1) := dk_42 (dk_at dksX3_backup_1 1 rfl rfl)
theorem dX3_backup_26 : decode cX3_backup 26 = .ok (.getfield 67, 3) := dk_180 0 67 (dk_at dksX3_backup_1 2 rfl rfl)
theorem dX3_backup_29 : decode cX3_backup 29 = .ok (.iconst 4, 1) := dk_7 (dk_at dksX3_backup_1 5 rfl rfl)
theorem dX3_backup_30 : decode cX3_backup 30 = .ok (.if_icmp .ne 6, 3) := dk_160 0 6 (dk_at dksX3_backup_1 6 rfl rfl)
theorem dX3_backup_33 : decode cX3_backup 33 = .ok (.bipush (-4), 2) := dk_16 252 (dk_at dksX3_backup_1 9 rfl rfl)
theorem dX3_backup_35 : decode cX3_backup 35 = .ok (.ireturn, 1) := dk_172 (dk_at dksX3_backup_1 11 rfl rfl)
theorem dX3_backup_36 : decode cX3_backup 36 = .ok (.aload_n 0, 1) := dk_42 (dk_at dksX3_backup_1 12 rfl rfl)
theorem dX3_backup_37 : decode cX3_backup 37 = .ok (.getfield 44, 3) := dk_180 0 44 (dk_at dksX3_backup_1 13 rfl rfl)
theorem dX3_backup_40 : decode cX3_backup 40 = .ok (.aload_n 0, 1) := dk_42 (dk_at dksX3_backup_1 16 rfl rfl)
theorem dX3_backup_41 : decode cX3_backup 41 = .ok (.getfield 67, 3) := dk_180 0 67 (dk_at dksX3_backup_1 17 rfl rfl)
theorem dX3_backup_44 : decode cX3_backup 44 = .ok (.iload_n 1, 1) := dk_27 (dk_at dksX3_backup_1 20 rfl rfl)
theorem dX3_backup_45 : decode cX3_backup 45 = .ok (.iastore, 1) := dk_79 (dk_at dksX3_backup_1 21 rfl rfl)
theorem dX3_backup_46 : decode cX3_backup 46 = .ok (.aload_n 0, 1) := dk_42 (dk_at dksX3_backup_1 22 rfl rfl)
theorem dX3_backup_47 : decode cX3_backup 47 = .ok (.getfield 47, 3) := dk_180 0 47 (dk_at dksX3_backup_2 0 rfl rfl)
theorem dX3_backup_50 : decode cX3_backup 50 = .ok (.aload_n 0, 1) := dk_42 (dk_at dksX3_backup_2 3 rfl rfl)
theorem dX3_backup_51 : decode cX3_backup 51 = .ok (.getfield 67, 3) := dk_180 0 67 (dk_at dksX3_backup_2 4 rfl rfl)
theorem dX3_backup_54 : decode cX3_backup 54 = .ok (.aload_n 0, 1) := dk_42 (dk_at dksX3_backup_2 7 rfl rfl)
theorem dX3_backup_55 : decode cX3_backup 55 = .ok (.getfield 40, 3) := dk_180 0 40 (dk_at dksX3_backup_2 8 rfl rfl)
theorem dX3_backup_58 : decode cX3_backup 58 = .ok (.aload_n 0, 1) := dk_42 (dk_at dksX3_backup_2 11 rfl rfl)
theorem dX3_backup_59 : decode cX3_backup 59 = .ok (.getfield 64, 3) := dk_180 0 64 (dk_at dksX3_backup_2 12 rfl rfl)
theorem dX3_backup_62 : decode cX3_backup 62 = .ok (.laload, 1) := dk_47 (dk_at dksX3_backup_2 15 rfl rfl)
theorem dX3_backup_63 : decode cX3_backup 63 = .ok (.lastore, 1) := dk_80 (dk_at dksX3_backup_2 16 rfl rfl)
theorem dX3_backup_64 : decode cX3_backup 64 = .ok (.aload_n 0, 1) := dk_42 (dk_at dksX3_backup_2 17 rfl rfl)
theorem dX3_backup_65 : decode cX3_backup 65 = .ok (.dup, 1) := dk_89 (dk_at dksX3_backup_2 18 rfl rfl)
theorem dX3_backup_66 : decode cX3_backup 66 = .ok (.getfield 67, 3) := dk_180 0 67 (dk_at dksX3_backup_2 19 rfl rfl)
theorem dX3_backup_69 : decode cX3_backup 69 = .ok (.iconst 1, 1) := dk_4 (dk_at dksX3_backup_2 22 rfl rfl)
theorem dX3_backup_70 : decode cX3_backup 70 = .ok (.iadd, 1) := dk_96 (dk_at dksX3_backup_2 23 rfl rfl)
theorem dX3_backup_71 : decode cX3_backup 71 = .ok (.putfield 67, 3) := dk_181 0 67 (dk_at dksX3_backup_3 0 rfl rfl)
theorem dX3_backup_74 : decode cX3_backup 74 = .ok (.aload_n 0, 1) := dk_42 (dk_at dksX3_backup_3 3 rfl rfl)
theorem dX3_backup_75 : decode cX3_backup 75 = .ok (.getfield 40, 3) := dk_180 0 40 (dk_at dksX3_backup_3 4 rfl rfl)
theorem dX3_backup_78 : decode cX3_backup 78 = .ok (.aload_n 0, 1) := dk_42 (dk_at dksX3_backup_3 7 rfl rfl)
theorem dX3_backup_79 : decode cX3_backup 79 = .ok (.getfield 64, 3) := dk_180 0 64 (dk_at dksX3_backup_3 8 rfl rfl)
theorem dX3_backup_82 : decode cX3_backup 82 = .ok (.laload, 1) := dk_47 (dk_at dksX3_backup_3 11 rfl rfl)
theorem dX3_backup_83 : decode cX3_backup 83 = .ok (.invokestatic 171, 3) := dk_184 0 171 (dk_at dksX3_backup_3 12 rfl rfl)
theorem dX3_backup_86 : decode cX3_backup 86 = .ok (.ireturn, 1) := dk_172 (dk_at dksX3_backup_3 15 rfl rfl)
abbrev cX3_bits : ByteArray := prog_6_method_35_code
def yX3_bits : MethodName := ⟨RX3, "bits", "(J)I"⟩
def dkwX3_bits_1 : List UInt8 := [167, 255, 238, 28, 172]
abbrev dktX3_bits_1 : List UInt8 := dkwX3_bits_1 ++ []
def dkwX3_bits_0 : List UInt8 := [3, 61, 3, 62, 29, 16, 64, 162, 0, 18, 28, 30, 29, 123, 10, 127, 136, 96, 61, 132, 3, 1]
abbrev dktX3_bits_0 : List UInt8 := dkwX3_bits_0 ++ dktX3_bits_1
theorem dksX3_bits_0 : cX3_bits.data.toList.drop 0 = dktX3_bits_0 := by decide +kernel
theorem dksX3_bits_1 : cX3_bits.data.toList.drop 22 = dktX3_bits_1 := dk_seg dksX3_bits_0 22 rfl rfl
theorem dX3_bits_0 : decode cX3_bits 0 = .ok (.iconst 0, 1) := dk_3 (dk_at dksX3_bits_0 0 rfl rfl)
theorem dX3_bits_1 : decode cX3_bits 1 = .ok (.istore_n 2, 1) := dk_61 (dk_at dksX3_bits_0 1 rfl rfl)
theorem dX3_bits_2 : decode cX3_bits 2 = .ok (.iconst 0, 1) := dk_3 (dk_at dksX3_bits_0 2 rfl rfl)
theorem dX3_bits_3 : decode cX3_bits 3 = .ok (.istore_n 3, 1) := dk_62 (dk_at dksX3_bits_0 3 rfl rfl)
theorem dX3_bits_4 : decode cX3_bits 4 = .ok (.iload_n 3, 1) := dk_29 (dk_at dksX3_bits_0 4 rfl rfl)
theorem dX3_bits_5 : decode cX3_bits 5 = .ok (.bipush 64, 2) := dk_16 64 (dk_at dksX3_bits_0 5 rfl rfl)
theorem dX3_bits_7 : decode cX3_bits 7 = .ok (.if_icmp .ge 18, 3) := dk_162 0 18 (dk_at dksX3_bits_0 7 rfl rfl)
theorem dX3_bits_10 : decode cX3_bits 10 = .ok (.iload_n 2, 1) := dk_28 (dk_at dksX3_bits_0 10 rfl rfl)
theorem dX3_bits_11 : decode cX3_bits 11 = .ok (.lload_n 0, 1) := dk_30 (dk_at dksX3_bits_0 11 rfl rfl)
theorem dX3_bits_12 : decode cX3_bits 12 = .ok (.iload_n 3, 1) := dk_29 (dk_at dksX3_bits_0 12 rfl rfl)
theorem dX3_bits_13 : decode cX3_bits 13 = .ok (.lshr, 1) := dk_123 (dk_at dksX3_bits_0 13 rfl rfl)
theorem dX3_bits_14 : decode cX3_bits 14 = .ok (.lconst 1, 1) := dk_10 (dk_at dksX3_bits_0 14 rfl rfl)
theorem dX3_bits_15 : decode cX3_bits 15 = .ok (.land, 1) := dk_127 (dk_at dksX3_bits_0 15 rfl rfl)
theorem dX3_bits_16 : decode cX3_bits 16 = .ok (.l2i, 1) := dk_136 (dk_at dksX3_bits_0 16 rfl rfl)
theorem dX3_bits_17 : decode cX3_bits 17 = .ok (.iadd, 1) := dk_96 (dk_at dksX3_bits_0 17 rfl rfl)
theorem dX3_bits_18 : decode cX3_bits 18 = .ok (.istore_n 2, 1) := dk_61 (dk_at dksX3_bits_0 18 rfl rfl)
theorem dX3_bits_19 : decode cX3_bits 19 = .ok (.iinc 3 1, 3) := dk_132 3 1 (dk_at dksX3_bits_0 19 rfl rfl)
theorem dX3_bits_22 : decode cX3_bits 22 = .ok (.goto (-18), 3) := dk_167 255 238 (dk_at dksX3_bits_1 0 rfl rfl)
theorem dX3_bits_25 : decode cX3_bits 25 = .ok (.iload_n 2, 1) := dk_28 (dk_at dksX3_bits_1 3 rfl rfl)
theorem dX3_bits_26 : decode cX3_bits 26 = .ok (.ireturn, 1) := dk_172 (dk_at dksX3_bits_1 4 rfl rfl)
abbrev cX3_drop : ByteArray := prog_6_method_38_code
def yX3_drop : MethodName := ⟨RX3, "drop", "(I)I"⟩
def dkwX3_drop_5 : List UInt8 := [172]
abbrev dktX3_drop_5 : List UInt8 := dkwX3_drop_5 ++ []
def dkwX3_drop_4 : List UInt8 := [21, 4, 42, 180, 0, 47, 21, 4, 4, 96, 47, 80, 132, 4, 1, 167, 255, 212, 29, 42, 182, 0, 175, 100]
abbrev dktX3_drop_4 : List UInt8 := dkwX3_drop_4 ++ dktX3_drop_5
def dkwX3_drop_3 : List UInt8 := [162, 0, 41, 42, 180, 0, 44, 21, 4, 42, 180, 0, 44, 21, 4, 4, 96, 46, 79, 42, 180, 0, 47]
abbrev dktX3_drop_3 : List UInt8 := dkwX3_drop_3 ++ dktX3_drop_4
def dkwX3_drop_2 : List UInt8 := [182, 0, 175, 62, 42, 89, 180, 0, 67, 4, 100, 181, 0, 67, 28, 54, 4, 21, 4, 42, 180, 0, 67]
abbrev dktX3_drop_2 : List UInt8 := dkwX3_drop_2 ++ dktX3_drop_3
def dkwX3_drop_1 : List UInt8 := [28, 46, 27, 159, 0, 9, 132, 2, 1, 167, 255, 235, 28, 42, 180, 0, 67, 160, 0, 5, 2, 172, 42]
abbrev dktX3_drop_1 : List UInt8 := dkwX3_drop_1 ++ dktX3_drop_2
def dkwX3_drop_0 : List UInt8 := [42, 180, 0, 7, 154, 0, 6, 16, 253, 172, 3, 61, 28, 42, 180, 0, 67, 162, 0, 19, 42, 180, 0, 44]
abbrev dktX3_drop_0 : List UInt8 := dkwX3_drop_0 ++ dktX3_drop_1
theorem dksX3_drop_0 : cX3_drop.data.toList.drop 0 = dktX3_drop_0 := by decide +kernel
theorem dksX3_drop_1 : cX3_drop.data.toList.drop 24 = dktX3_drop_1 := dk_seg dksX3_drop_0 24 rfl rfl
theorem dksX3_drop_2 : cX3_drop.data.toList.drop 47 = dktX3_drop_2 := dk_seg dksX3_drop_1 23 rfl rfl
theorem dksX3_drop_3 : cX3_drop.data.toList.drop 70 = dktX3_drop_3 := dk_seg dksX3_drop_2 23 rfl rfl
theorem dksX3_drop_4 : cX3_drop.data.toList.drop 93 = dktX3_drop_4 := dk_seg dksX3_drop_3 23 rfl rfl
theorem dksX3_drop_5 : cX3_drop.data.toList.drop 117 = dktX3_drop_5 := dk_seg dksX3_drop_4 24 rfl rfl
theorem dX3_drop_0 : decode cX3_drop 0 = .ok (.aload_n 0, 1) := dk_42 (dk_at dksX3_drop_0 0 rfl rfl)
theorem dX3_drop_1 : decode cX3_drop 1 = .ok (.getfield 7, 3) := dk_180 0 7 (dk_at dksX3_drop_0 1 rfl rfl)
theorem dX3_drop_4 : decode cX3_drop 4 = .ok (.ifCond .ne 6, 3) := dk_154 0 6 (dk_at dksX3_drop_0 4 rfl rfl)
theorem dX3_drop_7 : decode cX3_drop 7 = .ok (.bipush (-3), 2) := dk_16 253 (dk_at dksX3_drop_0 7 rfl rfl)
theorem dX3_drop_9 : decode cX3_drop 9 = .ok (.ireturn, 1) := dk_172 (dk_at dksX3_drop_0 9 rfl rfl)
theorem dX3_drop_10 : decode cX3_drop 10 = .ok (.iconst 0, 1) := dk_3 (dk_at dksX3_drop_0 10 rfl rfl)
theorem dX3_drop_11 : decode cX3_drop 11 = .ok (.istore_n 2, 1) := dk_61 (dk_at dksX3_drop_0 11 rfl rfl)
theorem dX3_drop_12 : decode cX3_drop 12 = .ok (.iload_n 2, 1) := dk_28 (dk_at dksX3_drop_0 12 rfl rfl)
theorem dX3_drop_13 : decode cX3_drop 13 = .ok (.aload_n 0, 1) := dk_42 (dk_at dksX3_drop_0 13 rfl rfl)
theorem dX3_drop_14 : decode cX3_drop 14 = .ok (.getfield 67, 3) := dk_180 0 67 (dk_at dksX3_drop_0 14 rfl rfl)
theorem dX3_drop_17 : decode cX3_drop 17 = .ok (.if_icmp .ge 19, 3) := dk_162 0 19 (dk_at dksX3_drop_0 17 rfl rfl)
theorem dX3_drop_20 : decode cX3_drop 20 = .ok (.aload_n 0, 1) := dk_42 (dk_at dksX3_drop_0 20 rfl rfl)
theorem dX3_drop_21 : decode cX3_drop 21 = .ok (.getfield 44, 3) := dk_180 0 44 (dk_at dksX3_drop_0 21 rfl rfl)
theorem dX3_drop_24 : decode cX3_drop 24 = .ok (.iload_n 2, 1) := dk_28 (dk_at dksX3_drop_1 0 rfl rfl)
theorem dX3_drop_25 : decode cX3_drop 25 = .ok (.iaload, 1) := dk_46 (dk_at dksX3_drop_1 1 rfl rfl)
theorem dX3_drop_26 : decode cX3_drop 26 = .ok (.iload_n 1, 1) := dk_27 (dk_at dksX3_drop_1 2 rfl rfl)
theorem dX3_drop_27 : decode cX3_drop 27 = .ok (.if_icmp .eq 9, 3) := dk_159 0 9 (dk_at dksX3_drop_1 3 rfl rfl)
theorem dX3_drop_30 : decode cX3_drop 30 = .ok (.iinc 2 1, 3) := dk_132 2 1 (dk_at dksX3_drop_1 6 rfl rfl)
theorem dX3_drop_33 : decode cX3_drop 33 = .ok (.goto (-21), 3) := dk_167 255 235 (dk_at dksX3_drop_1 9 rfl rfl)
theorem dX3_drop_36 : decode cX3_drop 36 = .ok (.iload_n 2, 1) := dk_28 (dk_at dksX3_drop_1 12 rfl rfl)
theorem dX3_drop_37 : decode cX3_drop 37 = .ok (.aload_n 0, 1) := dk_42 (dk_at dksX3_drop_1 13 rfl rfl)
theorem dX3_drop_38 : decode cX3_drop 38 = .ok (.getfield 67, 3) := dk_180 0 67 (dk_at dksX3_drop_1 14 rfl rfl)
theorem dX3_drop_41 : decode cX3_drop 41 = .ok (.if_icmp .ne 5, 3) := dk_160 0 5 (dk_at dksX3_drop_1 17 rfl rfl)
theorem dX3_drop_44 : decode cX3_drop 44 = .ok (.iconst (-1), 1) := dk_2 (dk_at dksX3_drop_1 20 rfl rfl)
theorem dX3_drop_45 : decode cX3_drop 45 = .ok (.ireturn, 1) := dk_172 (dk_at dksX3_drop_1 21 rfl rfl)
theorem dX3_drop_46 : decode cX3_drop 46 = .ok (.aload_n 0, 1) := dk_42 (dk_at dksX3_drop_1 22 rfl rfl)
theorem dX3_drop_47 : decode cX3_drop 47 = .ok (.invokevirtual 175, 3) := dk_182 0 175 (dk_at dksX3_drop_2 0 rfl rfl)
theorem dX3_drop_50 : decode cX3_drop 50 = .ok (.istore_n 3, 1) := dk_62 (dk_at dksX3_drop_2 3 rfl rfl)
theorem dX3_drop_51 : decode cX3_drop 51 = .ok (.aload_n 0, 1) := dk_42 (dk_at dksX3_drop_2 4 rfl rfl)
theorem dX3_drop_52 : decode cX3_drop 52 = .ok (.dup, 1) := dk_89 (dk_at dksX3_drop_2 5 rfl rfl)
theorem dX3_drop_53 : decode cX3_drop 53 = .ok (.getfield 67, 3) := dk_180 0 67 (dk_at dksX3_drop_2 6 rfl rfl)
theorem dX3_drop_56 : decode cX3_drop 56 = .ok (.iconst 1, 1) := dk_4 (dk_at dksX3_drop_2 9 rfl rfl)
theorem dX3_drop_57 : decode cX3_drop 57 = .ok (.isub, 1) := dk_100 (dk_at dksX3_drop_2 10 rfl rfl)
theorem dX3_drop_58 : decode cX3_drop 58 = .ok (.putfield 67, 3) := dk_181 0 67 (dk_at dksX3_drop_2 11 rfl rfl)
theorem dX3_drop_61 : decode cX3_drop 61 = .ok (.iload_n 2, 1) := dk_28 (dk_at dksX3_drop_2 14 rfl rfl)
theorem dX3_drop_62 : decode cX3_drop 62 = .ok (.istore 4, 2) := dk_54 4 (dk_at dksX3_drop_2 15 rfl rfl)
theorem dX3_drop_64 : decode cX3_drop 64 = .ok (.iload 4, 2) := dk_21 4 (dk_at dksX3_drop_2 17 rfl rfl)
theorem dX3_drop_66 : decode cX3_drop 66 = .ok (.aload_n 0, 1) := dk_42 (dk_at dksX3_drop_2 19 rfl rfl)
theorem dX3_drop_67 : decode cX3_drop 67 = .ok (.getfield 67, 3) := dk_180 0 67 (dk_at dksX3_drop_2 20 rfl rfl)
theorem dX3_drop_70 : decode cX3_drop 70 = .ok (.if_icmp .ge 41, 3) := dk_162 0 41 (dk_at dksX3_drop_3 0 rfl rfl)
theorem dX3_drop_73 : decode cX3_drop 73 = .ok (.aload_n 0, 1) := dk_42 (dk_at dksX3_drop_3 3 rfl rfl)
theorem dX3_drop_74 : decode cX3_drop 74 = .ok (.getfield 44, 3) := dk_180 0 44 (dk_at dksX3_drop_3 4 rfl rfl)
theorem dX3_drop_77 : decode cX3_drop 77 = .ok (.iload 4, 2) := dk_21 4 (dk_at dksX3_drop_3 7 rfl rfl)
theorem dX3_drop_79 : decode cX3_drop 79 = .ok (.aload_n 0, 1) := dk_42 (dk_at dksX3_drop_3 9 rfl rfl)
theorem dX3_drop_80 : decode cX3_drop 80 = .ok (.getfield 44, 3) := dk_180 0 44 (dk_at dksX3_drop_3 10 rfl rfl)
theorem dX3_drop_83 : decode cX3_drop 83 = .ok (.iload 4, 2) := dk_21 4 (dk_at dksX3_drop_3 13 rfl rfl)
theorem dX3_drop_85 : decode cX3_drop 85 = .ok (.iconst 1, 1) := dk_4 (dk_at dksX3_drop_3 15 rfl rfl)
theorem dX3_drop_86 : decode cX3_drop 86 = .ok (.iadd, 1) := dk_96 (dk_at dksX3_drop_3 16 rfl rfl)
theorem dX3_drop_87 : decode cX3_drop 87 = .ok (.iaload, 1) := dk_46 (dk_at dksX3_drop_3 17 rfl rfl)
theorem dX3_drop_88 : decode cX3_drop 88 = .ok (.iastore, 1) := dk_79 (dk_at dksX3_drop_3 18 rfl rfl)
theorem dX3_drop_89 : decode cX3_drop 89 = .ok (.aload_n 0, 1) := dk_42 (dk_at dksX3_drop_3 19 rfl rfl)
theorem dX3_drop_90 : decode cX3_drop 90 = .ok (.getfield 47, 3) := dk_180 0 47 (dk_at dksX3_drop_3 20 rfl rfl)
theorem dX3_drop_93 : decode cX3_drop 93 = .ok (.iload 4, 2) := dk_21 4 (dk_at dksX3_drop_4 0 rfl rfl)
theorem dX3_drop_95 : decode cX3_drop 95 = .ok (.aload_n 0, 1) := dk_42 (dk_at dksX3_drop_4 2 rfl rfl)
theorem dX3_drop_96 : decode cX3_drop 96 = .ok (.getfield 47, 3) := dk_180 0 47 (dk_at dksX3_drop_4 3 rfl rfl)
theorem dX3_drop_99 : decode cX3_drop 99 = .ok (.iload 4, 2) := dk_21 4 (dk_at dksX3_drop_4 6 rfl rfl)
theorem dX3_drop_101 : decode cX3_drop 101 = .ok (.iconst 1, 1) := dk_4 (dk_at dksX3_drop_4 8 rfl rfl)
theorem dX3_drop_102 : decode cX3_drop 102 = .ok (.iadd, 1) := dk_96 (dk_at dksX3_drop_4 9 rfl rfl)
theorem dX3_drop_103 : decode cX3_drop 103 = .ok (.laload, 1) := dk_47 (dk_at dksX3_drop_4 10 rfl rfl)
theorem dX3_drop_104 : decode cX3_drop 104 = .ok (.lastore, 1) := dk_80 (dk_at dksX3_drop_4 11 rfl rfl)
theorem dX3_drop_105 : decode cX3_drop 105 = .ok (.iinc 4 1, 3) := dk_132 4 1 (dk_at dksX3_drop_4 12 rfl rfl)
theorem dX3_drop_108 : decode cX3_drop 108 = .ok (.goto (-44), 3) := dk_167 255 212 (dk_at dksX3_drop_4 15 rfl rfl)
theorem dX3_drop_111 : decode cX3_drop 111 = .ok (.iload_n 3, 1) := dk_29 (dk_at dksX3_drop_4 18 rfl rfl)
theorem dX3_drop_112 : decode cX3_drop 112 = .ok (.aload_n 0, 1) := dk_42 (dk_at dksX3_drop_4 19 rfl rfl)
theorem dX3_drop_113 : decode cX3_drop 113 = .ok (.invokevirtual 175, 3) := dk_182 0 175 (dk_at dksX3_drop_4 20 rfl rfl)
theorem dX3_drop_116 : decode cX3_drop 116 = .ok (.isub, 1) := dk_100 (dk_at dksX3_drop_4 23 rfl rfl)
theorem dX3_drop_117 : decode cX3_drop 117 = .ok (.ireturn, 1) := dk_172 (dk_at dksX3_drop_5 0 rfl rfl)
abbrev cX3_heldCount : ByteArray := prog_6_method_37_code
def yX3_heldCount : MethodName := ⟨RX3, "heldCount", "()I"⟩
def dkwX3_heldCount_1 : List UInt8 := [96, 60, 132, 2, 1, 167, 255, 231, 27, 172]
abbrev dktX3_heldCount_1 : List UInt8 := dkwX3_heldCount_1 ++ []
def dkwX3_heldCount_0 : List UInt8 := [3, 60, 5, 61, 28, 16, 64, 162, 0, 25, 27, 42, 28, 182, 0, 108, 153, 0, 7, 4, 167, 0, 4, 3]
abbrev dktX3_heldCount_0 : List UInt8 := dkwX3_heldCount_0 ++ dktX3_heldCount_1
theorem dksX3_heldCount_0 : cX3_heldCount.data.toList.drop 0 = dktX3_heldCount_0 := by decide +kernel
theorem dksX3_heldCount_1 : cX3_heldCount.data.toList.drop 24 = dktX3_heldCount_1 := dk_seg dksX3_heldCount_0 24 rfl rfl
theorem dX3_heldCount_0 : decode cX3_heldCount 0 = .ok (.iconst 0, 1) := dk_3 (dk_at dksX3_heldCount_0 0 rfl rfl)
theorem dX3_heldCount_1 : decode cX3_heldCount 1 = .ok (.istore_n 1, 1) := dk_60 (dk_at dksX3_heldCount_0 1 rfl rfl)
theorem dX3_heldCount_2 : decode cX3_heldCount 2 = .ok (.iconst 2, 1) := dk_5 (dk_at dksX3_heldCount_0 2 rfl rfl)
theorem dX3_heldCount_3 : decode cX3_heldCount 3 = .ok (.istore_n 2, 1) := dk_61 (dk_at dksX3_heldCount_0 3 rfl rfl)
theorem dX3_heldCount_4 : decode cX3_heldCount 4 = .ok (.iload_n 2, 1) := dk_28 (dk_at dksX3_heldCount_0 4 rfl rfl)
theorem dX3_heldCount_5 : decode cX3_heldCount 5 = .ok (.bipush 64, 2) := dk_16 64 (dk_at dksX3_heldCount_0 5 rfl rfl)
theorem dX3_heldCount_7 : decode cX3_heldCount 7 = .ok (.if_icmp .ge 25, 3) := dk_162 0 25 (dk_at dksX3_heldCount_0 7 rfl rfl)
theorem dX3_heldCount_10 : decode cX3_heldCount 10 = .ok (.iload_n 1, 1) := dk_27 (dk_at dksX3_heldCount_0 10 rfl rfl)
theorem dX3_heldCount_11 : decode cX3_heldCount 11 = .ok (.aload_n 0, 1) := dk_42 (dk_at dksX3_heldCount_0 11 rfl rfl)
theorem dX3_heldCount_12 : decode cX3_heldCount 12 = .ok (.iload_n 2, 1) := dk_28 (dk_at dksX3_heldCount_0 12 rfl rfl)
theorem dX3_heldCount_13 : decode cX3_heldCount 13 = .ok (.invokevirtual 108, 3) := dk_182 0 108 (dk_at dksX3_heldCount_0 13 rfl rfl)
theorem dX3_heldCount_16 : decode cX3_heldCount 16 = .ok (.ifCond .eq 7, 3) := dk_153 0 7 (dk_at dksX3_heldCount_0 16 rfl rfl)
theorem dX3_heldCount_19 : decode cX3_heldCount 19 = .ok (.iconst 1, 1) := dk_4 (dk_at dksX3_heldCount_0 19 rfl rfl)
theorem dX3_heldCount_20 : decode cX3_heldCount 20 = .ok (.goto 4, 3) := dk_167 0 4 (dk_at dksX3_heldCount_0 20 rfl rfl)
theorem dX3_heldCount_23 : decode cX3_heldCount 23 = .ok (.iconst 0, 1) := dk_3 (dk_at dksX3_heldCount_0 23 rfl rfl)
theorem dX3_heldCount_24 : decode cX3_heldCount 24 = .ok (.iadd, 1) := dk_96 (dk_at dksX3_heldCount_1 0 rfl rfl)
theorem dX3_heldCount_25 : decode cX3_heldCount 25 = .ok (.istore_n 1, 1) := dk_60 (dk_at dksX3_heldCount_1 1 rfl rfl)
theorem dX3_heldCount_26 : decode cX3_heldCount 26 = .ok (.iinc 2 1, 3) := dk_132 2 1 (dk_at dksX3_heldCount_1 2 rfl rfl)
theorem dX3_heldCount_29 : decode cX3_heldCount 29 = .ok (.goto (-25), 3) := dk_167 255 231 (dk_at dksX3_heldCount_1 5 rfl rfl)
theorem dX3_heldCount_32 : decode cX3_heldCount 32 = .ok (.iload_n 1, 1) := dk_27 (dk_at dksX3_heldCount_1 8 rfl rfl)
theorem dX3_heldCount_33 : decode cX3_heldCount 33 = .ok (.ireturn, 1) := dk_172 (dk_at dksX3_heldCount_1 9 rfl rfl)
abbrev cX3_full : ByteArray := prog_6_method_39_code
def yX3_full : MethodName := ⟨RX3, "full", "(Z)Z"⟩
def dkwX3_full_0 : List UInt8 := [42, 180, 0, 117, 61, 42, 27, 181, 0, 117, 28, 172]
abbrev dktX3_full_0 : List UInt8 := dkwX3_full_0 ++ []
theorem dksX3_full_0 : cX3_full.data.toList.drop 0 = dktX3_full_0 := by decide +kernel
theorem dX3_full_0 : decode cX3_full 0 = .ok (.aload_n 0, 1) := dk_42 (dk_at dksX3_full_0 0 rfl rfl)
theorem dX3_full_1 : decode cX3_full 1 = .ok (.getfield 117, 3) := dk_180 0 117 (dk_at dksX3_full_0 1 rfl rfl)
theorem dX3_full_4 : decode cX3_full 4 = .ok (.istore_n 2, 1) := dk_61 (dk_at dksX3_full_0 4 rfl rfl)
theorem dX3_full_5 : decode cX3_full 5 = .ok (.aload_n 0, 1) := dk_42 (dk_at dksX3_full_0 5 rfl rfl)
theorem dX3_full_6 : decode cX3_full 6 = .ok (.iload_n 1, 1) := dk_27 (dk_at dksX3_full_0 6 rfl rfl)
theorem dX3_full_7 : decode cX3_full 7 = .ok (.putfield 117, 3) := dk_181 0 117 (dk_at dksX3_full_0 7 rfl rfl)
theorem dX3_full_10 : decode cX3_full 10 = .ok (.iload_n 2, 1) := dk_28 (dk_at dksX3_full_0 10 rfl rfl)
theorem dX3_full_11 : decode cX3_full 11 = .ok (.ireturn, 1) := dk_172 (dk_at dksX3_full_0 11 rfl rfl)
theorem q53 : (Jvm.Cond.initialized "KnowDiskModel") ∈ lw_all := lw_g (lw_at lw_m1 11 rfl) rfl
theorem q192 : (Jvm.Cond.selects "KnowDiskModel" ({ cls := "java/lang/Object", name := "getClass", desc := "()Ljava/lang/Class;" } : Jvm.MethodName) ({ cls := "java/lang/Object", name := "getClass", desc := "()Ljava/lang/Class;" } : Jvm.MethodName)) ∈ lw_all := lw_g (lw_at lw_m1 150 rfl) rfl
theorem q722 : (Jvm.Cond.instantiable "KnowDiskModel" (22 : Nat)) ∈ lw_all := lw_g (lw_at lw_m3 200 rfl) rfl
theorem q724 : (Jvm.Cond.instanceMethod ({ cls := "KnowDiskModel", name := "<init>", desc := "(I)V" } : Jvm.MethodName)) ∈ lw_all := lw_g (lw_at lw_m3 202 rfl) rfl
theorem q725 : (Jvm.Cond.code ({ cls := "KnowDiskModel", name := "<init>", desc := "(I)V" } : Jvm.MethodName) prog_6_method_1_code (3 : Nat) (Option.none : Option Jvm.ClassFile.FieldType)) ∈ lw_all := lw_g (lw_at lw_m3 203 rfl) rfl
theorem q726 : (Jvm.Cond.methodLink "KnowDiskModel" (1 : Nat) ({ cls := "java/lang/Object", name := "<init>", desc := "()V" } : Jvm.MethodName)) ∈ lw_all := lw_g (lw_at lw_m3 204 rfl) rfl
theorem q727 : (Jvm.Cond.constant "KnowDiskModel" (33 : Nat) (38400 : Int32)) ∈ lw_all := lw_g (lw_at lw_m3 205 rfl) rfl
theorem q728 : (Jvm.Cond.methodLink "KnowDiskModel" (57 : Nat) ({ cls := "KnowDiskModel", name := "begin", desc := "(IJ)V" } : Jvm.MethodName)) ∈ lw_all := lw_g (lw_at lw_m3 206 rfl) rfl
theorem q729 : (Jvm.Cond.privateMethod ({ cls := "KnowDiskModel", name := "begin", desc := "(IJ)V" } : Jvm.MethodName)) ∈ lw_tbl := lw_at lw_m3 207 rfl
theorem q730 : (Jvm.Cond.instanceMethod ({ cls := "KnowDiskModel", name := "begin", desc := "(IJ)V" } : Jvm.MethodName)) ∈ lw_all := lw_g (lw_at lw_m3 208 rfl) rfl
theorem q731 : (Jvm.Cond.code ({ cls := "KnowDiskModel", name := "begin", desc := "(IJ)V" } : Jvm.MethodName) prog_6_method_2_code (5 : Nat) (Option.none : Option Jvm.ClassFile.FieldType)) ∈ lw_all := lw_g (lw_at lw_m3 209 rfl) rfl
theorem q732 : (Jvm.Cond.fieldLink "KnowDiskModel" (53 : Nat) "KnowDiskModel" "count" "I") ∈ lw_all := lw_g (lw_at lw_m3 210 rfl) rfl
theorem q733 : (Jvm.Cond.fieldLink "KnowDiskModel" (7 : Nat) "KnowDiskModel" "runs" "Z") ∈ lw_all := lw_g (lw_at lw_m3 211 rfl) rfl
theorem q734 : (Jvm.Cond.fieldLink "KnowDiskModel" (117 : Nat) "KnowDiskModel" "full" "Z") ∈ lw_all := lw_g (lw_at lw_m3 212 rfl) rfl
theorem q735 : (Jvm.Cond.fieldLink "KnowDiskModel" (13 : Nat) "KnowDiskModel" "disk" "[I") ∈ lw_all := lw_g (lw_at lw_m3 213 rfl) rfl
theorem q736 : (Jvm.Cond.fieldLink "KnowDiskModel" (17 : Nat) "KnowDiskModel" "later" "[I") ∈ lw_all := lw_g (lw_at lw_m3 214 rfl) rfl
theorem q737 : (Jvm.Cond.fieldLink "KnowDiskModel" (20 : Nat) "KnowDiskModel" "open" "[I") ∈ lw_all := lw_g (lw_at lw_m3 215 rfl) rfl
theorem q738 : (Jvm.Cond.fieldLink "KnowDiskModel" (23 : Nat) "KnowDiskModel" "laid" "[Z") ∈ lw_all := lw_g (lw_at lw_m3 216 rfl) rfl
theorem q739 : (Jvm.Cond.fieldLink "KnowDiskModel" (27 : Nat) "KnowDiskModel" "places" "[I") ∈ lw_all := lw_g (lw_at lw_m3 217 rfl) rfl
theorem q740 : (Jvm.Cond.fieldLink "KnowDiskModel" (76 : Nat) "KnowDiskModel" "changed" "Z") ∈ lw_all := lw_g (lw_at lw_m3 218 rfl) rfl
theorem q741 : (Jvm.Cond.fieldLink "KnowDiskModel" (30 : Nat) "KnowDiskModel" "targets" "[I") ∈ lw_all := lw_g (lw_at lw_m3 219 rfl) rfl
theorem q742 : (Jvm.Cond.fieldLink "KnowDiskModel" (34 : Nat) "KnowDiskModel" "bytes" "[I") ∈ lw_all := lw_g (lw_at lw_m3 220 rfl) rfl
theorem q743 : (Jvm.Cond.fieldLink "KnowDiskModel" (70 : Nat) "KnowDiskModel" "first" "I") ∈ lw_all := lw_g (lw_at lw_m3 221 rfl) rfl
theorem q744 : (Jvm.Cond.fieldLink "KnowDiskModel" (73 : Nat) "KnowDiskModel" "behind" "I") ∈ lw_all := lw_g (lw_at lw_m3 222 rfl) rfl
theorem q745 : (Jvm.Cond.fieldLink "KnowDiskModel" (37 : Nat) "KnowDiskModel" "numbers" "[I") ∈ lw_all := lw_g (lw_at lw_m3 223 rfl) rfl
theorem q746 : (Jvm.Cond.fieldLink "KnowDiskModel" (40 : Nat) "KnowDiskModel" "sectors" "[J") ∈ lw_all := lw_g (lw_at lw_m3 224 rfl) rfl
theorem q747 : (Jvm.Cond.fieldLink "KnowDiskModel" (61 : Nat) "KnowDiskModel" "oldest" "I") ∈ lw_all := lw_g (lw_at lw_m3 225 rfl) rfl
theorem q748 : (Jvm.Cond.fieldLink "KnowDiskModel" (64 : Nat) "KnowDiskModel" "newest" "I") ∈ lw_all := lw_g (lw_at lw_m3 226 rfl) rfl
theorem q749 : (Jvm.Cond.fieldLink "KnowDiskModel" (44 : Nat) "KnowDiskModel" "keptNumbers" "[I") ∈ lw_all := lw_g (lw_at lw_m3 227 rfl) rfl
theorem q750 : (Jvm.Cond.fieldLink "KnowDiskModel" (47 : Nat) "KnowDiskModel" "keptSectors" "[J") ∈ lw_all := lw_g (lw_at lw_m3 228 rfl) rfl
theorem q751 : (Jvm.Cond.fieldLink "KnowDiskModel" (67 : Nat) "KnowDiskModel" "kept" "I") ∈ lw_all := lw_g (lw_at lw_m3 229 rfl) rfl
theorem q752 : (Jvm.Cond.fieldLink "KnowDiskModel" (168 : Nat) "KnowDiskModel" "thrown" "Z") ∈ lw_all := lw_g (lw_at lw_m3 230 rfl) rfl
theorem q753 : (Jvm.Cond.fieldLink "KnowDiskModel" (50 : Nat) "KnowDiskModel" "head" "[I") ∈ lw_all := lw_g (lw_at lw_m3 231 rfl) rfl
theorem q754 : (Jvm.Cond.laysFinal "KnowDiskModel" "KnowDiskModel" "count" "I") ∈ lw_all := lw_g (lw_at lw_m3 232 rfl) rfl
theorem q755 : (Jvm.Cond.soleField "KnowDiskModel" "count") ∈ lw_all := lw_g (lw_at lw_m3 233 rfl) rfl
theorem q756 : (Jvm.Cond.lays "KnowDiskModel" "KnowDiskModel" "runs" "Z") ∈ lw_all := lw_g (lw_at lw_m3 234 rfl) rfl
theorem q757 : (Jvm.Cond.soleField "KnowDiskModel" "runs") ∈ lw_all := lw_g (lw_at lw_m3 235 rfl) rfl
theorem q758 : (Jvm.Cond.lays "KnowDiskModel" "KnowDiskModel" "full" "Z") ∈ lw_all := lw_g (lw_at lw_m3 236 rfl) rfl
theorem q759 : (Jvm.Cond.soleField "KnowDiskModel" "full") ∈ lw_all := lw_g (lw_at lw_m3 237 rfl) rfl
theorem q760 : (Jvm.Cond.laysFinal "KnowDiskModel" "KnowDiskModel" "disk" "[I") ∈ lw_all := lw_g (lw_at lw_m3 238 rfl) rfl
theorem q761 : (Jvm.Cond.soleField "KnowDiskModel" "disk") ∈ lw_all := lw_g (lw_at lw_m3 239 rfl) rfl
theorem q762 : (Jvm.Cond.laysFinal "KnowDiskModel" "KnowDiskModel" "later" "[I") ∈ lw_all := lw_g (lw_at lw_m4 0 rfl) rfl
theorem q763 : (Jvm.Cond.soleField "KnowDiskModel" "later") ∈ lw_all := lw_g (lw_at lw_m4 1 rfl) rfl
theorem q764 : (Jvm.Cond.laysFinal "KnowDiskModel" "KnowDiskModel" "open" "[I") ∈ lw_all := lw_g (lw_at lw_m4 2 rfl) rfl
theorem q765 : (Jvm.Cond.soleField "KnowDiskModel" "open") ∈ lw_all := lw_g (lw_at lw_m4 3 rfl) rfl
theorem q766 : (Jvm.Cond.laysFinal "KnowDiskModel" "KnowDiskModel" "laid" "[Z") ∈ lw_all := lw_g (lw_at lw_m4 4 rfl) rfl
theorem q767 : (Jvm.Cond.soleField "KnowDiskModel" "laid") ∈ lw_all := lw_g (lw_at lw_m4 5 rfl) rfl
theorem q768 : (Jvm.Cond.laysFinal "KnowDiskModel" "KnowDiskModel" "places" "[I") ∈ lw_all := lw_g (lw_at lw_m4 6 rfl) rfl
theorem q769 : (Jvm.Cond.soleField "KnowDiskModel" "places") ∈ lw_all := lw_g (lw_at lw_m4 7 rfl) rfl
theorem q770 : (Jvm.Cond.lays "KnowDiskModel" "KnowDiskModel" "changed" "Z") ∈ lw_all := lw_g (lw_at lw_m4 8 rfl) rfl
theorem q771 : (Jvm.Cond.soleField "KnowDiskModel" "changed") ∈ lw_all := lw_g (lw_at lw_m4 9 rfl) rfl
theorem q772 : (Jvm.Cond.laysFinal "KnowDiskModel" "KnowDiskModel" "targets" "[I") ∈ lw_all := lw_g (lw_at lw_m4 10 rfl) rfl
theorem q773 : (Jvm.Cond.soleField "KnowDiskModel" "targets") ∈ lw_all := lw_g (lw_at lw_m4 11 rfl) rfl
theorem q774 : (Jvm.Cond.laysFinal "KnowDiskModel" "KnowDiskModel" "bytes" "[I") ∈ lw_all := lw_g (lw_at lw_m4 12 rfl) rfl
theorem q775 : (Jvm.Cond.soleField "KnowDiskModel" "bytes") ∈ lw_all := lw_g (lw_at lw_m4 13 rfl) rfl
theorem q776 : (Jvm.Cond.lays "KnowDiskModel" "KnowDiskModel" "first" "I") ∈ lw_all := lw_g (lw_at lw_m4 14 rfl) rfl
theorem q777 : (Jvm.Cond.soleField "KnowDiskModel" "first") ∈ lw_all := lw_g (lw_at lw_m4 15 rfl) rfl
theorem q778 : (Jvm.Cond.lays "KnowDiskModel" "KnowDiskModel" "behind" "I") ∈ lw_all := lw_g (lw_at lw_m4 16 rfl) rfl
theorem q779 : (Jvm.Cond.soleField "KnowDiskModel" "behind") ∈ lw_all := lw_g (lw_at lw_m4 17 rfl) rfl
theorem q780 : (Jvm.Cond.laysFinal "KnowDiskModel" "KnowDiskModel" "numbers" "[I") ∈ lw_all := lw_g (lw_at lw_m4 18 rfl) rfl
theorem q781 : (Jvm.Cond.soleField "KnowDiskModel" "numbers") ∈ lw_all := lw_g (lw_at lw_m4 19 rfl) rfl
theorem q782 : (Jvm.Cond.laysFinal "KnowDiskModel" "KnowDiskModel" "sectors" "[J") ∈ lw_all := lw_g (lw_at lw_m4 20 rfl) rfl
theorem q783 : (Jvm.Cond.soleField "KnowDiskModel" "sectors") ∈ lw_all := lw_g (lw_at lw_m4 21 rfl) rfl
theorem q784 : (Jvm.Cond.lays "KnowDiskModel" "KnowDiskModel" "oldest" "I") ∈ lw_all := lw_g (lw_at lw_m4 22 rfl) rfl
theorem q785 : (Jvm.Cond.soleField "KnowDiskModel" "oldest") ∈ lw_all := lw_g (lw_at lw_m4 23 rfl) rfl
theorem q786 : (Jvm.Cond.lays "KnowDiskModel" "KnowDiskModel" "newest" "I") ∈ lw_all := lw_g (lw_at lw_m4 24 rfl) rfl
theorem q787 : (Jvm.Cond.soleField "KnowDiskModel" "newest") ∈ lw_all := lw_g (lw_at lw_m4 25 rfl) rfl
theorem q788 : (Jvm.Cond.laysFinal "KnowDiskModel" "KnowDiskModel" "keptNumbers" "[I") ∈ lw_all := lw_g (lw_at lw_m4 26 rfl) rfl
theorem q789 : (Jvm.Cond.soleField "KnowDiskModel" "keptNumbers") ∈ lw_all := lw_g (lw_at lw_m4 27 rfl) rfl
theorem q790 : (Jvm.Cond.laysFinal "KnowDiskModel" "KnowDiskModel" "keptSectors" "[J") ∈ lw_all := lw_g (lw_at lw_m4 28 rfl) rfl
theorem q791 : (Jvm.Cond.soleField "KnowDiskModel" "keptSectors") ∈ lw_all := lw_g (lw_at lw_m4 29 rfl) rfl
theorem q792 : (Jvm.Cond.lays "KnowDiskModel" "KnowDiskModel" "kept" "I") ∈ lw_all := lw_g (lw_at lw_m4 30 rfl) rfl
theorem q793 : (Jvm.Cond.soleField "KnowDiskModel" "kept") ∈ lw_all := lw_g (lw_at lw_m4 31 rfl) rfl
theorem q794 : (Jvm.Cond.lays "KnowDiskModel" "KnowDiskModel" "thrown" "Z") ∈ lw_all := lw_g (lw_at lw_m4 32 rfl) rfl
theorem q795 : (Jvm.Cond.soleField "KnowDiskModel" "thrown") ∈ lw_all := lw_g (lw_at lw_m4 33 rfl) rfl
theorem q796 : (Jvm.Cond.laysFinal "KnowDiskModel" "KnowDiskModel" "head" "[I") ∈ lw_all := lw_g (lw_at lw_m4 34 rfl) rfl
theorem q797 : (Jvm.Cond.soleField "KnowDiskModel" "head") ∈ lw_all := lw_g (lw_at lw_m4 35 rfl) rfl
theorem q798 : (Jvm.Cond.superclass "KnowDiskModel" "java/lang/Object") ∈ lw_all := lw_g (lw_at lw_m4 36 rfl) rfl
theorem q802 : (Jvm.Cond.instanceMethod ({ cls := "KnowDiskModel", name := "page", desc := "(IIJ)I" } : Jvm.MethodName)) ∈ lw_all := lw_g (lw_at lw_m4 40 rfl) rfl
theorem q803 : (Jvm.Cond.selects "KnowDiskModel" ({ cls := "KnowDiskModel", name := "page", desc := "(IIJ)I" } : Jvm.MethodName) ({ cls := "KnowDiskModel", name := "page", desc := "(IIJ)I" } : Jvm.MethodName)) ∈ lw_all := lw_g (lw_at lw_m4 41 rfl) rfl
theorem q804 : (Jvm.Cond.code ({ cls := "KnowDiskModel", name := "page", desc := "(IIJ)I" } : Jvm.MethodName) prog_6_method_21_code (6 : Nat) (Option.some Jvm.ClassFile.FieldType.int)) ∈ lw_all := lw_g (lw_at lw_m4 42 rfl) rfl
theorem q805 : (Jvm.Cond.methodLink "KnowDiskModel" (128 : Nat) ({ cls := "KnowDiskModel", name := "isPage", desc := "(I)Z" } : Jvm.MethodName)) ∈ lw_all := lw_g (lw_at lw_m4 43 rfl) rfl
theorem q806 : (Jvm.Cond.privateMethod ({ cls := "KnowDiskModel", name := "isPage", desc := "(I)Z" } : Jvm.MethodName)) ∈ lw_tbl := lw_at lw_m4 44 rfl
theorem q807 : (Jvm.Cond.instanceMethod ({ cls := "KnowDiskModel", name := "isPage", desc := "(I)Z" } : Jvm.MethodName)) ∈ lw_all := lw_g (lw_at lw_m4 45 rfl) rfl
theorem q808 : (Jvm.Cond.code ({ cls := "KnowDiskModel", name := "isPage", desc := "(I)Z" } : Jvm.MethodName) prog_6_method_13_code (2 : Nat) (Option.some Jvm.ClassFile.FieldType.boolean)) ∈ lw_all := lw_g (lw_at lw_m4 46 rfl) rfl
theorem q809 : (Jvm.Cond.methodLink "KnowDiskModel" (131 : Nat) ({ cls := "KnowDiskModel", name := "kindOf", desc := "(I)I" } : Jvm.MethodName)) ∈ lw_all := lw_g (lw_at lw_m4 47 rfl) rfl
theorem q810 : (Jvm.Cond.privateMethod ({ cls := "KnowDiskModel", name := "kindOf", desc := "(I)I" } : Jvm.MethodName)) ∈ lw_tbl := lw_at lw_m4 48 rfl
theorem q811 : (Jvm.Cond.instanceMethod ({ cls := "KnowDiskModel", name := "kindOf", desc := "(I)I" } : Jvm.MethodName)) ∈ lw_all := lw_g (lw_at lw_m4 49 rfl) rfl
theorem q812 : (Jvm.Cond.code ({ cls := "KnowDiskModel", name := "kindOf", desc := "(I)I" } : Jvm.MethodName) prog_6_method_12_code (3 : Nat) (Option.some Jvm.ClassFile.FieldType.int)) ∈ lw_all := lw_g (lw_at lw_m4 50 rfl) rfl
theorem q813 : (Jvm.Cond.methodLink "KnowDiskModel" (97 : Nat) ({ cls := "KnowDiskModel", name := "byteOf", desc := "(II)I" } : Jvm.MethodName)) ∈ lw_all := lw_g (lw_at lw_m4 51 rfl) rfl
theorem q814 : (Jvm.Cond.privateMethod ({ cls := "KnowDiskModel", name := "byteOf", desc := "(II)I" } : Jvm.MethodName)) ∈ lw_tbl := lw_at lw_m4 52 rfl
theorem q815 : (Jvm.Cond.instanceMethod ({ cls := "KnowDiskModel", name := "byteOf", desc := "(II)I" } : Jvm.MethodName)) ∈ lw_all := lw_g (lw_at lw_m4 53 rfl) rfl
theorem q816 : (Jvm.Cond.code ({ cls := "KnowDiskModel", name := "byteOf", desc := "(II)I" } : Jvm.MethodName) prog_6_method_10_code (3 : Nat) (Option.some Jvm.ClassFile.FieldType.int)) ∈ lw_all := lw_g (lw_at lw_m4 54 rfl) rfl
theorem q817 : (Jvm.Cond.methodLink "KnowDiskModel" (135 : Nat) ({ cls := "KnowDiskModel", name := "freePage", desc := "()I" } : Jvm.MethodName)) ∈ lw_all := lw_g (lw_at lw_m4 55 rfl) rfl
theorem q818 : (Jvm.Cond.privateMethod ({ cls := "KnowDiskModel", name := "freePage", desc := "()I" } : Jvm.MethodName)) ∈ lw_tbl := lw_at lw_m4 56 rfl
theorem q819 : (Jvm.Cond.instanceMethod ({ cls := "KnowDiskModel", name := "freePage", desc := "()I" } : Jvm.MethodName)) ∈ lw_all := lw_g (lw_at lw_m4 57 rfl) rfl
theorem q820 : (Jvm.Cond.code ({ cls := "KnowDiskModel", name := "freePage", desc := "()I" } : Jvm.MethodName) prog_6_method_18_code (2 : Nat) (Option.some Jvm.ClassFile.FieldType.int)) ∈ lw_all := lw_g (lw_at lw_m4 58 rfl) rfl
theorem q821 : (Jvm.Cond.methodLink "KnowDiskModel" (138 : Nat) ({ cls := "KnowDiskModel", name := "valueOf", desc := "(I)J" } : Jvm.MethodName)) ∈ lw_all := lw_g (lw_at lw_m4 59 rfl) rfl
theorem q822 : (Jvm.Cond.privateMethod ({ cls := "KnowDiskModel", name := "valueOf", desc := "(I)J" } : Jvm.MethodName)) ∈ lw_tbl := lw_at lw_m4 60 rfl
theorem q823 : (Jvm.Cond.instanceMethod ({ cls := "KnowDiskModel", name := "valueOf", desc := "(I)J" } : Jvm.MethodName)) ∈ lw_all := lw_g (lw_at lw_m4 61 rfl) rfl
theorem q824 : (Jvm.Cond.code ({ cls := "KnowDiskModel", name := "valueOf", desc := "(I)J" } : Jvm.MethodName) prog_6_method_11_code (2 : Nat) (Option.some Jvm.ClassFile.FieldType.long)) ∈ lw_all := lw_g (lw_at lw_m4 62 rfl) rfl
theorem q825 : (Jvm.Cond.methodLink "KnowDiskModel" (93 : Nat) ({ cls := "KnowDiskModel", name := "wide", desc := "([II)J" } : Jvm.MethodName)) ∈ lw_all := lw_g (lw_at lw_m4 63 rfl) rfl
theorem q826 : (Jvm.Cond.static ({ cls := "KnowDiskModel", name := "wide", desc := "([II)J" } : Jvm.MethodName)) ∈ lw_all := lw_g (lw_at lw_m4 64 rfl) rfl
theorem q827 : (Jvm.Cond.code ({ cls := "KnowDiskModel", name := "wide", desc := "([II)J" } : Jvm.MethodName) prog_6_method_8_code (2 : Nat) (Option.some Jvm.ClassFile.FieldType.long)) ∈ lw_all := lw_g (lw_at lw_m4 65 rfl) rfl
theorem q828 : (Jvm.Cond.methodLink "KnowDiskModel" (88 : Nat) ({ cls := "KnowDiskModel", name := "number", desc := "([II)I" } : Jvm.MethodName)) ∈ lw_all := lw_g (lw_at lw_m4 66 rfl) rfl
theorem q829 : (Jvm.Cond.static ({ cls := "KnowDiskModel", name := "number", desc := "([II)I" } : Jvm.MethodName)) ∈ lw_all := lw_g (lw_at lw_m4 67 rfl) rfl
theorem q830 : (Jvm.Cond.code ({ cls := "KnowDiskModel", name := "number", desc := "([II)I" } : Jvm.MethodName) prog_6_method_3_code (2 : Nat) (Option.some Jvm.ClassFile.FieldType.int)) ∈ lw_all := lw_g (lw_at lw_m4 68 rfl) rfl
theorem q831 : (Jvm.Cond.constantLong "KnowDiskModel" (91 : Nat) (4294967295 : Int64)) ∈ lw_all := lw_g (lw_at lw_m4 69 rfl) rfl
theorem q832 : (Jvm.Cond.methodLink "KnowDiskModel" (142 : Nat) ({ cls := "KnowDiskModel", name := "turned", desc := "(J)J" } : Jvm.MethodName)) ∈ lw_all := lw_g (lw_at lw_m4 70 rfl) rfl
theorem q833 : (Jvm.Cond.static ({ cls := "KnowDiskModel", name := "turned", desc := "(J)J" } : Jvm.MethodName)) ∈ lw_all := lw_g (lw_at lw_m4 71 rfl) rfl
theorem q834 : (Jvm.Cond.code ({ cls := "KnowDiskModel", name := "turned", desc := "(J)J" } : Jvm.MethodName) prog_6_method_19_code (2 : Nat) (Option.some Jvm.ClassFile.FieldType.long)) ∈ lw_all := lw_g (lw_at lw_m4 72 rfl) rfl
theorem q835 : (Jvm.Cond.constantLong "KnowDiskModel" (111 : Nat) (25214903917 : Int64)) ∈ lw_all := lw_g (lw_at lw_m4 73 rfl) rfl
theorem q836 : (Jvm.Cond.methodLink "KnowDiskModel" (146 : Nat) ({ cls := "KnowDiskModel", name := "lay", desc := "(IIIJ)I" } : Jvm.MethodName)) ∈ lw_all := lw_g (lw_at lw_m4 74 rfl) rfl
theorem q837 : (Jvm.Cond.privateMethod ({ cls := "KnowDiskModel", name := "lay", desc := "(IIIJ)I" } : Jvm.MethodName)) ∈ lw_tbl := lw_at lw_m4 75 rfl
theorem q838 : (Jvm.Cond.instanceMethod ({ cls := "KnowDiskModel", name := "lay", desc := "(IIIJ)I" } : Jvm.MethodName)) ∈ lw_all := lw_g (lw_at lw_m4 76 rfl) rfl
theorem q839 : (Jvm.Cond.code ({ cls := "KnowDiskModel", name := "lay", desc := "(IIIJ)I" } : Jvm.MethodName) prog_6_method_20_code (8 : Nat) (Option.some Jvm.ClassFile.FieldType.int)) ∈ lw_all := lw_g (lw_at lw_m4 77 rfl) rfl
theorem q840 : (Jvm.Cond.methodLink "KnowDiskModel" (113 : Nat) ({ cls := "KnowDiskModel", name := "freeSector", desc := "()I" } : Jvm.MethodName)) ∈ lw_all := lw_g (lw_at lw_m4 78 rfl) rfl
theorem q841 : (Jvm.Cond.privateMethod ({ cls := "KnowDiskModel", name := "freeSector", desc := "()I" } : Jvm.MethodName)) ∈ lw_tbl := lw_at lw_m4 79 rfl
theorem q842 : (Jvm.Cond.instanceMethod ({ cls := "KnowDiskModel", name := "freeSector", desc := "()I" } : Jvm.MethodName)) ∈ lw_all := lw_g (lw_at lw_m4 80 rfl) rfl
theorem q843 : (Jvm.Cond.code ({ cls := "KnowDiskModel", name := "freeSector", desc := "()I" } : Jvm.MethodName) prog_6_method_17_code (2 : Nat) (Option.some Jvm.ClassFile.FieldType.int)) ∈ lw_all := lw_g (lw_at lw_m4 81 rfl) rfl
theorem q844 : (Jvm.Cond.methodLink "KnowDiskModel" (108 : Nat) ({ cls := "KnowDiskModel", name := "isHeld", desc := "(I)Z" } : Jvm.MethodName)) ∈ lw_all := lw_g (lw_at lw_m4 82 rfl) rfl
theorem q845 : (Jvm.Cond.privateMethod ({ cls := "KnowDiskModel", name := "isHeld", desc := "(I)Z" } : Jvm.MethodName)) ∈ lw_tbl := lw_at lw_m4 83 rfl
theorem q846 : (Jvm.Cond.instanceMethod ({ cls := "KnowDiskModel", name := "isHeld", desc := "(I)Z" } : Jvm.MethodName)) ∈ lw_all := lw_g (lw_at lw_m4 84 rfl) rfl
theorem q847 : (Jvm.Cond.code ({ cls := "KnowDiskModel", name := "isHeld", desc := "(I)Z" } : Jvm.MethodName) prog_6_method_16_code (4 : Nat) (Option.some Jvm.ClassFile.FieldType.boolean)) ∈ lw_all := lw_g (lw_at lw_m4 85 rfl) rfl
theorem q848 : (Jvm.Cond.methodLink "KnowDiskModel" (101 : Nat) ({ cls := "KnowDiskModel", name := "isOpen", desc := "(I)Z" } : Jvm.MethodName)) ∈ lw_all := lw_g (lw_at lw_m4 86 rfl) rfl
theorem q849 : (Jvm.Cond.privateMethod ({ cls := "KnowDiskModel", name := "isOpen", desc := "(I)Z" } : Jvm.MethodName)) ∈ lw_tbl := lw_at lw_m4 87 rfl
theorem q850 : (Jvm.Cond.instanceMethod ({ cls := "KnowDiskModel", name := "isOpen", desc := "(I)Z" } : Jvm.MethodName)) ∈ lw_all := lw_g (lw_at lw_m4 88 rfl) rfl
theorem q851 : (Jvm.Cond.code ({ cls := "KnowDiskModel", name := "isOpen", desc := "(I)Z" } : Jvm.MethodName) prog_6_method_14_code (4 : Nat) (Option.some Jvm.ClassFile.FieldType.boolean)) ∈ lw_all := lw_g (lw_at lw_m4 89 rfl) rfl
theorem q852 : (Jvm.Cond.methodLink "KnowDiskModel" (105 : Nat) ({ cls := "KnowDiskModel", name := "isWaiting", desc := "(I)Z" } : Jvm.MethodName)) ∈ lw_all := lw_g (lw_at lw_m4 90 rfl) rfl
theorem q853 : (Jvm.Cond.privateMethod ({ cls := "KnowDiskModel", name := "isWaiting", desc := "(I)Z" } : Jvm.MethodName)) ∈ lw_tbl := lw_at lw_m4 91 rfl
theorem q854 : (Jvm.Cond.instanceMethod ({ cls := "KnowDiskModel", name := "isWaiting", desc := "(I)Z" } : Jvm.MethodName)) ∈ lw_all := lw_g (lw_at lw_m4 92 rfl) rfl
theorem q855 : (Jvm.Cond.code ({ cls := "KnowDiskModel", name := "isWaiting", desc := "(I)Z" } : Jvm.MethodName) prog_6_method_15_code (4 : Nat) (Option.some Jvm.ClassFile.FieldType.boolean)) ∈ lw_all := lw_g (lw_at lw_m4 93 rfl) rfl
theorem q856 : (Jvm.Cond.methodLink "KnowDiskModel" (120 : Nat) ({ cls := "KnowDiskModel", name := "setWide", desc := "([IIJ)V" } : Jvm.MethodName)) ∈ lw_all := lw_g (lw_at lw_m4 94 rfl) rfl
theorem q857 : (Jvm.Cond.static ({ cls := "KnowDiskModel", name := "setWide", desc := "([IIJ)V" } : Jvm.MethodName)) ∈ lw_all := lw_g (lw_at lw_m4 95 rfl) rfl
theorem q858 : (Jvm.Cond.code ({ cls := "KnowDiskModel", name := "setWide", desc := "([IIJ)V" } : Jvm.MethodName) prog_6_method_9_code (4 : Nat) (Option.none : Option Jvm.ClassFile.FieldType)) ∈ lw_all := lw_g (lw_at lw_m4 96 rfl) rfl
theorem q859 : (Jvm.Cond.methodLink "KnowDiskModel" (84 : Nat) ({ cls := "KnowDiskModel", name := "set", desc := "([III)V" } : Jvm.MethodName)) ∈ lw_all := lw_g (lw_at lw_m4 97 rfl) rfl
theorem q860 : (Jvm.Cond.static ({ cls := "KnowDiskModel", name := "set", desc := "([III)V" } : Jvm.MethodName)) ∈ lw_all := lw_g (lw_at lw_m4 98 rfl) rfl
theorem q861 : (Jvm.Cond.code ({ cls := "KnowDiskModel", name := "set", desc := "([III)V" } : Jvm.MethodName) prog_6_method_4_code (4 : Nat) (Option.none : Option Jvm.ClassFile.FieldType)) ∈ lw_all := lw_g (lw_at lw_m4 99 rfl) rfl
theorem q862 : (Jvm.Cond.methodLink "KnowDiskModel" (124 : Nat) ({ cls := "KnowDiskModel", name := "close", desc := "([II)V" } : Jvm.MethodName)) ∈ lw_all := lw_g (lw_at lw_m4 100 rfl) rfl
theorem q863 : (Jvm.Cond.static ({ cls := "KnowDiskModel", name := "close", desc := "([II)V" } : Jvm.MethodName)) ∈ lw_all := lw_g (lw_at lw_m4 101 rfl) rfl
theorem q864 : (Jvm.Cond.code ({ cls := "KnowDiskModel", name := "close", desc := "([II)V" } : Jvm.MethodName) prog_6_method_6_code (2 : Nat) (Option.none : Option Jvm.ClassFile.FieldType)) ∈ lw_all := lw_g (lw_at lw_m4 102 rfl) rfl
theorem q865 : (Jvm.Cond.methodLink "KnowDiskModel" (80 : Nat) ({ cls := "KnowDiskModel", name := "sum", desc := "([II)I" } : Jvm.MethodName)) ∈ lw_all := lw_g (lw_at lw_m4 103 rfl) rfl
theorem q866 : (Jvm.Cond.static ({ cls := "KnowDiskModel", name := "sum", desc := "([II)I" } : Jvm.MethodName)) ∈ lw_all := lw_g (lw_at lw_m4 104 rfl) rfl
theorem q867 : (Jvm.Cond.code ({ cls := "KnowDiskModel", name := "sum", desc := "([II)I" } : Jvm.MethodName) prog_6_method_5_code (5 : Nat) (Option.some Jvm.ClassFile.FieldType.int)) ∈ lw_all := lw_g (lw_at lw_m4 105 rfl) rfl
theorem q868 : (Jvm.Cond.constant "KnowDiskModel" (79 : Nat) (-2048144777 : Int32)) ∈ lw_all := lw_g (lw_at lw_m4 106 rfl) rfl
theorem q870 : (Jvm.Cond.instanceMethod ({ cls := "KnowDiskModel", name := "derived", desc := "(I)I" } : Jvm.MethodName)) ∈ lw_all := lw_g (lw_at lw_m4 108 rfl) rfl
theorem q871 : (Jvm.Cond.selects "KnowDiskModel" ({ cls := "KnowDiskModel", name := "derived", desc := "(I)I" } : Jvm.MethodName) ({ cls := "KnowDiskModel", name := "derived", desc := "(I)I" } : Jvm.MethodName)) ∈ lw_all := lw_g (lw_at lw_m4 109 rfl) rfl
theorem q872 : (Jvm.Cond.code ({ cls := "KnowDiskModel", name := "derived", desc := "(I)I" } : Jvm.MethodName) prog_6_method_22_code (7 : Nat) (Option.some Jvm.ClassFile.FieldType.int)) ∈ lw_all := lw_g (lw_at lw_m4 110 rfl) rfl
theorem q873 : (Jvm.Cond.methodLink "KnowDiskModel" (150 : Nat) ({ cls := "KnowDiskModel", name := "isRight", desc := "([II)Z" } : Jvm.MethodName)) ∈ lw_all := lw_g (lw_at lw_m4 111 rfl) rfl
theorem q874 : (Jvm.Cond.static ({ cls := "KnowDiskModel", name := "isRight", desc := "([II)Z" } : Jvm.MethodName)) ∈ lw_all := lw_g (lw_at lw_m4 112 rfl) rfl
theorem q875 : (Jvm.Cond.code ({ cls := "KnowDiskModel", name := "isRight", desc := "([II)Z" } : Jvm.MethodName) prog_6_method_7_code (2 : Nat) (Option.some Jvm.ClassFile.FieldType.boolean)) ∈ lw_all := lw_g (lw_at lw_m4 113 rfl) rfl
theorem q877 : (Jvm.Cond.instanceMethod ({ cls := "KnowDiskModel", name := "commit", desc := "(I)I" } : Jvm.MethodName)) ∈ lw_all := lw_g (lw_at lw_m4 115 rfl) rfl
theorem q878 : (Jvm.Cond.selects "KnowDiskModel" ({ cls := "KnowDiskModel", name := "commit", desc := "(I)I" } : Jvm.MethodName) ({ cls := "KnowDiskModel", name := "commit", desc := "(I)I" } : Jvm.MethodName)) ∈ lw_all := lw_g (lw_at lw_m4 116 rfl) rfl
theorem q879 : (Jvm.Cond.code ({ cls := "KnowDiskModel", name := "commit", desc := "(I)I" } : Jvm.MethodName) prog_6_method_24_code (7 : Nat) (Option.some Jvm.ClassFile.FieldType.int)) ∈ lw_all := lw_g (lw_at lw_m4 117 rfl) rfl
theorem q880 : (Jvm.Cond.constant "KnowDiskModel" (154 : Nat) (1000000 : Int32)) ∈ lw_all := lw_g (lw_at lw_m4 118 rfl) rfl
theorem q881 : (Jvm.Cond.methodLink "KnowDiskModel" (155 : Nat) ({ cls := "KnowDiskModel", name := "queue", desc := "([III)V" } : Jvm.MethodName)) ∈ lw_all := lw_g (lw_at lw_m4 119 rfl) rfl
theorem q882 : (Jvm.Cond.privateMethod ({ cls := "KnowDiskModel", name := "queue", desc := "([III)V" } : Jvm.MethodName)) ∈ lw_tbl := lw_at lw_m4 120 rfl
theorem q883 : (Jvm.Cond.instanceMethod ({ cls := "KnowDiskModel", name := "queue", desc := "([III)V" } : Jvm.MethodName)) ∈ lw_all := lw_g (lw_at lw_m4 121 rfl) rfl
theorem q884 : (Jvm.Cond.code ({ cls := "KnowDiskModel", name := "queue", desc := "([III)V" } : Jvm.MethodName) prog_6_method_23_code (5 : Nat) (Option.none : Option Jvm.ClassFile.FieldType)) ∈ lw_all := lw_g (lw_at lw_m4 122 rfl) rfl
theorem q886 : (Jvm.Cond.instanceMethod ({ cls := "KnowDiskModel", name := "sync", desc := "()I" } : Jvm.MethodName)) ∈ lw_all := lw_g (lw_at lw_m4 124 rfl) rfl
theorem q887 : (Jvm.Cond.selects "KnowDiskModel" ({ cls := "KnowDiskModel", name := "sync", desc := "()I" } : Jvm.MethodName) ({ cls := "KnowDiskModel", name := "sync", desc := "()I" } : Jvm.MethodName)) ∈ lw_all := lw_g (lw_at lw_m4 125 rfl) rfl
theorem q888 : (Jvm.Cond.code ({ cls := "KnowDiskModel", name := "sync", desc := "()I" } : Jvm.MethodName) prog_6_method_27_code (1 : Nat) (Option.some Jvm.ClassFile.FieldType.int)) ∈ lw_all := lw_g (lw_at lw_m4 126 rfl) rfl
theorem q889 : (Jvm.Cond.methodLink "KnowDiskModel" (158 : Nat) ({ cls := "KnowDiskModel", name := "write", desc := "(I)V" } : Jvm.MethodName)) ∈ lw_all := lw_g (lw_at lw_m4 127 rfl) rfl
theorem q890 : (Jvm.Cond.privateMethod ({ cls := "KnowDiskModel", name := "write", desc := "(I)V" } : Jvm.MethodName)) ∈ lw_tbl := lw_at lw_m4 128 rfl
theorem q891 : (Jvm.Cond.instanceMethod ({ cls := "KnowDiskModel", name := "write", desc := "(I)V" } : Jvm.MethodName)) ∈ lw_all := lw_g (lw_at lw_m4 129 rfl) rfl
theorem q892 : (Jvm.Cond.code ({ cls := "KnowDiskModel", name := "write", desc := "(I)V" } : Jvm.MethodName) prog_6_method_25_code (3 : Nat) (Option.none : Option Jvm.ClassFile.FieldType)) ∈ lw_all := lw_g (lw_at lw_m4 130 rfl) rfl
theorem q893 : (Jvm.Cond.methodLink "KnowDiskModel" (162 : Nat) ({ cls := "KnowDiskModel", name := "settle", desc := "()V" } : Jvm.MethodName)) ∈ lw_all := lw_g (lw_at lw_m4 131 rfl) rfl
theorem q894 : (Jvm.Cond.privateMethod ({ cls := "KnowDiskModel", name := "settle", desc := "()V" } : Jvm.MethodName)) ∈ lw_tbl := lw_at lw_m4 132 rfl
theorem q895 : (Jvm.Cond.instanceMethod ({ cls := "KnowDiskModel", name := "settle", desc := "()V" } : Jvm.MethodName)) ∈ lw_all := lw_g (lw_at lw_m4 133 rfl) rfl
theorem q896 : (Jvm.Cond.code ({ cls := "KnowDiskModel", name := "settle", desc := "()V" } : Jvm.MethodName) prog_6_method_26_code (1 : Nat) (Option.none : Option Jvm.ClassFile.FieldType)) ∈ lw_all := lw_g (lw_at lw_m4 134 rfl) rfl
theorem q898 : (Jvm.Cond.instanceMethod ({ cls := "KnowDiskModel", name := "cut", desc := "(II)V" } : Jvm.MethodName)) ∈ lw_all := lw_g (lw_at lw_m4 136 rfl) rfl
theorem q899 : (Jvm.Cond.selects "KnowDiskModel" ({ cls := "KnowDiskModel", name := "cut", desc := "(II)V" } : Jvm.MethodName) ({ cls := "KnowDiskModel", name := "cut", desc := "(II)V" } : Jvm.MethodName)) ∈ lw_all := lw_g (lw_at lw_m4 137 rfl) rfl
theorem q900 : (Jvm.Cond.code ({ cls := "KnowDiskModel", name := "cut", desc := "(II)V" } : Jvm.MethodName) prog_6_method_28_code (4 : Nat) (Option.none : Option Jvm.ClassFile.FieldType)) ∈ lw_all := lw_g (lw_at lw_m4 138 rfl) rfl
theorem q902 : (Jvm.Cond.instanceMethod ({ cls := "KnowDiskModel", name := "start", desc := "()I" } : Jvm.MethodName)) ∈ lw_all := lw_g (lw_at lw_m4 140 rfl) rfl
theorem q903 : (Jvm.Cond.selects "KnowDiskModel" ({ cls := "KnowDiskModel", name := "start", desc := "()I" } : Jvm.MethodName) ({ cls := "KnowDiskModel", name := "start", desc := "()I" } : Jvm.MethodName)) ∈ lw_all := lw_g (lw_at lw_m4 141 rfl) rfl
theorem q904 : (Jvm.Cond.code ({ cls := "KnowDiskModel", name := "start", desc := "()I" } : Jvm.MethodName) prog_6_method_30_code (7 : Nat) (Option.some Jvm.ClassFile.FieldType.int)) ∈ lw_all := lw_g (lw_at lw_m4 142 rfl) rfl
theorem q905 : (Jvm.Cond.methodLink "KnowDiskModel" (165 : Nat) ({ cls := "KnowDiskModel", name := "isWhole", desc := "(I)Z" } : Jvm.MethodName)) ∈ lw_all := lw_g (lw_at lw_m4 143 rfl) rfl
theorem q906 : (Jvm.Cond.privateMethod ({ cls := "KnowDiskModel", name := "isWhole", desc := "(I)Z" } : Jvm.MethodName)) ∈ lw_tbl := lw_at lw_m4 144 rfl
theorem q907 : (Jvm.Cond.instanceMethod ({ cls := "KnowDiskModel", name := "isWhole", desc := "(I)Z" } : Jvm.MethodName)) ∈ lw_all := lw_g (lw_at lw_m4 145 rfl) rfl
theorem q908 : (Jvm.Cond.code ({ cls := "KnowDiskModel", name := "isWhole", desc := "(I)Z" } : Jvm.MethodName) prog_6_method_29_code (10 : Nat) (Option.some Jvm.ClassFile.FieldType.boolean)) ∈ lw_all := lw_g (lw_at lw_m4 146 rfl) rfl
theorem q910 : (Jvm.Cond.instanceMethod ({ cls := "KnowDiskModel", name := "at", desc := "(II)B" } : Jvm.MethodName)) ∈ lw_all := lw_g (lw_at lw_m4 148 rfl) rfl
theorem q911 : (Jvm.Cond.selects "KnowDiskModel" ({ cls := "KnowDiskModel", name := "at", desc := "(II)B" } : Jvm.MethodName) ({ cls := "KnowDiskModel", name := "at", desc := "(II)B" } : Jvm.MethodName)) ∈ lw_all := lw_g (lw_at lw_m4 149 rfl) rfl
theorem q912 : (Jvm.Cond.code ({ cls := "KnowDiskModel", name := "at", desc := "(II)B" } : Jvm.MethodName) prog_6_method_31_code (3 : Nat) (Option.some Jvm.ClassFile.FieldType.byte)) ∈ lw_all := lw_g (lw_at lw_m4 150 rfl) rfl
theorem q914 : (Jvm.Cond.instanceMethod ({ cls := "KnowDiskModel", name := "thrown", desc := "()I" } : Jvm.MethodName)) ∈ lw_all := lw_g (lw_at lw_m4 152 rfl) rfl
theorem q915 : (Jvm.Cond.selects "KnowDiskModel" ({ cls := "KnowDiskModel", name := "thrown", desc := "()I" } : Jvm.MethodName) ({ cls := "KnowDiskModel", name := "thrown", desc := "()I" } : Jvm.MethodName)) ∈ lw_all := lw_g (lw_at lw_m4 153 rfl) rfl
theorem q916 : (Jvm.Cond.code ({ cls := "KnowDiskModel", name := "thrown", desc := "()I" } : Jvm.MethodName) prog_6_method_32_code (1 : Nat) (Option.some Jvm.ClassFile.FieldType.int)) ∈ lw_all := lw_g (lw_at lw_m4 154 rfl) rfl
theorem q918 : (Jvm.Cond.instanceMethod ({ cls := "KnowDiskModel", name := "poke", desc := "(III)I" } : Jvm.MethodName)) ∈ lw_all := lw_g (lw_at lw_m4 156 rfl) rfl
theorem q919 : (Jvm.Cond.selects "KnowDiskModel" ({ cls := "KnowDiskModel", name := "poke", desc := "(III)I" } : Jvm.MethodName) ({ cls := "KnowDiskModel", name := "poke", desc := "(III)I" } : Jvm.MethodName)) ∈ lw_all := lw_g (lw_at lw_m4 157 rfl) rfl
theorem q920 : (Jvm.Cond.code ({ cls := "KnowDiskModel", name := "poke", desc := "(III)I" } : Jvm.MethodName) prog_6_method_33_code (5 : Nat) (Option.some Jvm.ClassFile.FieldType.int)) ∈ lw_all := lw_g (lw_at lw_m4 158 rfl) rfl
theorem q922 : (Jvm.Cond.instanceMethod ({ cls := "KnowDiskModel", name := "wrong", desc := "(I)I" } : Jvm.MethodName)) ∈ lw_all := lw_g (lw_at lw_m4 160 rfl) rfl
theorem q923 : (Jvm.Cond.selects "KnowDiskModel" ({ cls := "KnowDiskModel", name := "wrong", desc := "(I)I" } : Jvm.MethodName) ({ cls := "KnowDiskModel", name := "wrong", desc := "(I)I" } : Jvm.MethodName)) ∈ lw_all := lw_g (lw_at lw_m4 161 rfl) rfl
theorem q924 : (Jvm.Cond.code ({ cls := "KnowDiskModel", name := "wrong", desc := "(I)I" } : Jvm.MethodName) prog_6_method_34_code (5 : Nat) (Option.some Jvm.ClassFile.FieldType.int)) ∈ lw_all := lw_g (lw_at lw_m4 162 rfl) rfl
theorem q926 : (Jvm.Cond.instanceMethod ({ cls := "KnowDiskModel", name := "backup", desc := "(I)I" } : Jvm.MethodName)) ∈ lw_all := lw_g (lw_at lw_m4 164 rfl) rfl
theorem q927 : (Jvm.Cond.selects "KnowDiskModel" ({ cls := "KnowDiskModel", name := "backup", desc := "(I)I" } : Jvm.MethodName) ({ cls := "KnowDiskModel", name := "backup", desc := "(I)I" } : Jvm.MethodName)) ∈ lw_all := lw_g (lw_at lw_m4 165 rfl) rfl
theorem q928 : (Jvm.Cond.code ({ cls := "KnowDiskModel", name := "backup", desc := "(I)I" } : Jvm.MethodName) prog_6_method_36_code (2 : Nat) (Option.some Jvm.ClassFile.FieldType.int)) ∈ lw_all := lw_g (lw_at lw_m4 166 rfl) rfl
theorem q929 : (Jvm.Cond.methodLink "KnowDiskModel" (171 : Nat) ({ cls := "KnowDiskModel", name := "bits", desc := "(J)I" } : Jvm.MethodName)) ∈ lw_all := lw_g (lw_at lw_m4 167 rfl) rfl
theorem q930 : (Jvm.Cond.static ({ cls := "KnowDiskModel", name := "bits", desc := "(J)I" } : Jvm.MethodName)) ∈ lw_all := lw_g (lw_at lw_m4 168 rfl) rfl
theorem q931 : (Jvm.Cond.code ({ cls := "KnowDiskModel", name := "bits", desc := "(J)I" } : Jvm.MethodName) prog_6_method_35_code (4 : Nat) (Option.some Jvm.ClassFile.FieldType.int)) ∈ lw_all := lw_g (lw_at lw_m4 169 rfl) rfl
theorem q933 : (Jvm.Cond.instanceMethod ({ cls := "KnowDiskModel", name := "drop", desc := "(I)I" } : Jvm.MethodName)) ∈ lw_all := lw_g (lw_at lw_m4 171 rfl) rfl
theorem q934 : (Jvm.Cond.selects "KnowDiskModel" ({ cls := "KnowDiskModel", name := "drop", desc := "(I)I" } : Jvm.MethodName) ({ cls := "KnowDiskModel", name := "drop", desc := "(I)I" } : Jvm.MethodName)) ∈ lw_all := lw_g (lw_at lw_m4 172 rfl) rfl
theorem q935 : (Jvm.Cond.code ({ cls := "KnowDiskModel", name := "drop", desc := "(I)I" } : Jvm.MethodName) prog_6_method_38_code (5 : Nat) (Option.some Jvm.ClassFile.FieldType.int)) ∈ lw_all := lw_g (lw_at lw_m4 173 rfl) rfl
theorem q936 : (Jvm.Cond.methodLink "KnowDiskModel" (175 : Nat) ({ cls := "KnowDiskModel", name := "heldCount", desc := "()I" } : Jvm.MethodName)) ∈ lw_all := lw_g (lw_at lw_m4 174 rfl) rfl
theorem q937 : (Jvm.Cond.privateMethod ({ cls := "KnowDiskModel", name := "heldCount", desc := "()I" } : Jvm.MethodName)) ∈ lw_tbl := lw_at lw_m4 175 rfl
theorem q938 : (Jvm.Cond.instanceMethod ({ cls := "KnowDiskModel", name := "heldCount", desc := "()I" } : Jvm.MethodName)) ∈ lw_all := lw_g (lw_at lw_m4 176 rfl) rfl
theorem q939 : (Jvm.Cond.code ({ cls := "KnowDiskModel", name := "heldCount", desc := "()I" } : Jvm.MethodName) prog_6_method_37_code (3 : Nat) (Option.some Jvm.ClassFile.FieldType.int)) ∈ lw_all := lw_g (lw_at lw_m4 177 rfl) rfl
theorem q941 : (Jvm.Cond.instanceMethod ({ cls := "KnowDiskModel", name := "full", desc := "(Z)Z" } : Jvm.MethodName)) ∈ lw_all := lw_g (lw_at lw_m4 179 rfl) rfl
theorem q942 : (Jvm.Cond.selects "KnowDiskModel" ({ cls := "KnowDiskModel", name := "full", desc := "(Z)Z" } : Jvm.MethodName) ({ cls := "KnowDiskModel", name := "full", desc := "(Z)Z" } : Jvm.MethodName)) ∈ lw_all := lw_g (lw_at lw_m4 180 rfl) rfl
theorem q943 : (Jvm.Cond.code ({ cls := "KnowDiskModel", name := "full", desc := "(Z)Z" } : Jvm.MethodName) prog_6_method_39_code (3 : Nat) (Option.some Jvm.ClassFile.FieldType.boolean)) ∈ lw_all := lw_g (lw_at lw_m4 181 rfl) rfl
theorem q952 : (Jvm.Cond.castable "KnowDiskModel" "java/lang/Object") ∈ lw_tbl := lw_at lw_m4 190 rfl
theorem in_X3 : ∀ w ∈ wsX30, w ∈ lw_all := lw_in wsX30 [754, 756, 758, 760, 762, 764, 766, 768, 770, 772, 774, 776, 778, 780, 782, 784, 786, 788, 790, 792, 794, 796] (by decide +kernel) (by decide +kernel)
