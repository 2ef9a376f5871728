/-! QuarryOrdersModel -/
set_option maxRecDepth 100000
def RX2 : String := "QuarryOrdersModel"
def TX2 : u_T := fun k => match k with
  | 0 => ("QuarryOrdersModel", "s", "[I", true)
  | 1 => ("QuarryOrdersModel", "ahead", "[I", true)
  | 2 => ("QuarryOrdersModel", "history", "[I", true)
  | 3 => ("QuarryOrdersModel", "kept", "I", false)
  | 4 => ("QuarryOrdersModel", "slots", "[I", true)
  | 5 => ("QuarryOrdersModel", "isSaved", "[Z", true)
  | 6 => ("QuarryOrdersModel", "pad", "[I", true)
  | 7 => ("QuarryOrdersModel", "length", "I", false)
  | 8 => ("QuarryOrdersModel", "sorted", "[I", true)
  | 9 => ("QuarryOrdersModel", "position", "I", false)
  | 10 => ("QuarryOrdersModel", "isWrong", "Z", false)
  | _ => ("QuarryOrdersModel", "told", "[I", true)
def tyX2 : Nat → FieldType := fun k => match k with
  | 0 => .array .int
  | 1 => .array .int
  | 2 => .array .int
  | 3 => .int
  | 4 => .array .int
  | 5 => .array .boolean
  | 6 => .array .int
  | 7 => .int
  | 8 => .array .int
  | 9 => .int
  | 10 => .boolean
  | _ => .array .int
abbrev wsX20 : List Cond := u_ws RX2 TX2 12
theorem nmX2 : ∀ a, a < 12 → ∀ b, b < 12 → a ≠ b → (TX2 a).2.1 ≠ (TX2 b).2.1 := by decide +kernel
theorem tyX2_ok : ∀ k, k < 12 → parseFieldDescriptor (TX2 k).2.2.1 = some (tyX2 k) := by decide +kernel
abbrev cX2_init : ByteArray := prog_8_method_1_code
def yX2_init : MethodName := ⟨RX2, "<init>", "()V"⟩
def dkwX2_init_6 : List UInt8 := [184, 0, 35, 17, 39, 16, 79, 132, 1, 1, 167, 255, 209, 177]
abbrev dktX2_init_6 : List UInt8 := dkwX2_init_6 ++ []
def dkwX2_init_5 : List UInt8 := [17, 15, 160, 79, 42, 180, 0, 7, 27, 4, 184, 0, 35, 17, 31, 64, 79, 42, 180, 0, 7, 27, 5]
abbrev dktX2_init_5 : List UInt8 := dkwX2_init_5 ++ dktX2_init_6
def dkwX2_init_4 : List UInt8 := [180, 0, 7, 6, 8, 79, 3, 60, 27, 6, 162, 0, 48, 42, 180, 0, 7, 27, 3, 184, 0, 35]
abbrev dktX2_init_4 : List UInt8 := dkwX2_init_4 ++ dktX2_init_5
def dkwX2_init_3 : List UInt8 := [180, 0, 7, 3, 5, 79, 42, 180, 0, 7, 4, 16, 12, 79, 42, 180, 0, 7, 5, 16, 253, 79, 42]
abbrev dktX2_init_3 : List UInt8 := dkwX2_init_3 ++ dktX2_init_4
def dkwX2_init_2 : List UInt8 := [42, 16, 80, 188, 10, 181, 0, 26, 42, 6, 188, 10, 181, 0, 29, 42, 8, 188, 10, 181, 0, 32, 42]
abbrev dktX2_init_2 : List UInt8 := dkwX2_init_2 ++ dktX2_init_3
def dkwX2_init_1 : List UInt8 := [17, 7, 152, 188, 10, 181, 0, 16, 42, 17, 2, 136, 188, 10, 181, 0, 19, 42, 5, 188, 4, 181, 0, 22]
abbrev dktX2_init_1 : List UInt8 := dkwX2_init_1 ++ dktX2_init_2
def dkwX2_init_0 : List UInt8 := [42, 183, 0, 1, 42, 17, 1, 68, 188, 10, 181, 0, 7, 42, 17, 1, 68, 188, 10, 181, 0, 13, 42]
abbrev dktX2_init_0 : List UInt8 := dkwX2_init_0 ++ dktX2_init_1
theorem dksX2_init_0 : cX2_init.data.toList.drop 0 = dktX2_init_0 := by decide +kernel
theorem dksX2_init_1 : cX2_init.data.toList.drop 23 = dktX2_init_1 := dk_seg dksX2_init_0 23 rfl rfl
theorem dksX2_init_2 : cX2_init.data.toList.drop 47 = dktX2_init_2 := dk_seg dksX2_init_1 24 rfl rfl
theorem dksX2_init_3 : cX2_init.data.toList.drop 70 = dktX2_init_3 := dk_seg dksX2_init_2 23 rfl rfl
theorem dksX2_init_4 : cX2_init.data.toList.drop 93 = dktX2_init_4 := dk_seg dksX2_init_3 23 rfl rfl
theorem dksX2_init_5 : cX2_init.data.toList.drop 115 = dktX2_init_5 := dk_seg dksX2_init_4 22 rfl rfl
theorem dksX2_init_6 : cX2_init.data.toList.drop 138 = dktX2_init_6 := dk_seg dksX2_init_5 23 rfl rfl
theorem dX2_init_0 : decode cX2_init 0 = .ok (.aload_n 0, 1) := dk_42 (dk_at dksX2_init_0 0 rfl rfl)
theorem dX2_init_1 : decode cX2_init 1 = .ok (.invokespecial 1, 3) := dk_183 0 1 (dk_at dksX2_init_0 1 rfl rfl)
theorem dX2_init_4 : decode cX2_init 4 = .ok (.aload_n 0, 1) := dk_42 (dk_at dksX2_init_0 4 rfl rfl)
theorem dX2_init_5 : decode cX2_init 5 = .ok (.sipush 324, 3) := dk_17 1 68 (dk_at dksX2_init_0 5 rfl rfl)
theorem dX2_init_8 : decode cX2_init 8 = .ok (.newarray .int, 2) := dk_188_10 (dk_at dksX2_init_0 8 rfl rfl)
theorem dX2_init_10 : decode cX2_init 10 = .ok (.putfield 7, 3) := dk_181 0 7 (dk_at dksX2_init_0 10 rfl rfl)
theorem dX2_init_13 : decode cX2_init 13 = .ok (.aload_n 0, 1) := dk_42 (dk_at dksX2_init_0 13 rfl rfl)
theorem dX2_init_14 : decode cX2_init 14 = .ok (.sipush 324, 3) := dk_17 1 68 (dk_at dksX2_init_0 14 rfl rfl)
theorem dX2_init_17 : decode cX2_init 17 = .ok (.newarray .int, 2) := dk_188_10 (dk_at dksX2_init_0 17 rfl rfl)
theorem dX2_init_19 : decode cX2_init 19 = .ok (.putfield 13, 3) := dk_181 0 13 (dk_at dksX2_init_0 19 rfl rfl)
theorem dX2_init_22 : decode cX2_init 22 = .ok (.aload_n 0, 1) := dk_42 (dk_at dksX2_init_0 22 rfl rfl)
theorem dX2_init_23 : decode cX2_init 23 = .ok (.sipush 1944, 3) := dk_17 7 152 (dk_at dksX2_init_1 0 rfl rfl)
theorem dX2_init_26 : decode cX2_init 26 = .ok (.newarray .int, 2) := dk_188_10 (dk_at dksX2_init_1 3 rfl rfl)
theorem dX2_init_28 : decode cX2_init 28 = .ok (.putfield 16, 3) := dk_181 0 16 (dk_at dksX2_init_1 5 rfl rfl)
theorem dX2_init_31 : decode cX2_init 31 = .ok (.aload_n 0, 1) := dk_42 (dk_at dksX2_init_1 8 rfl rfl)
theorem dX2_init_32 : decode cX2_init 32 = .ok (.sipush 648, 3) := dk_17 2 136 (dk_at dksX2_init_1 9 rfl rfl)
theorem dX2_init_35 : decode cX2_init 35 = .ok (.newarray .int, 2) := dk_188_10 (dk_at dksX2_init_1 12 rfl rfl)
theorem dX2_init_37 : decode cX2_init 37 = .ok (.putfield 19, 3) := dk_181 0 19 (dk_at dksX2_init_1 14 rfl rfl)
theorem dX2_init_40 : decode cX2_init 40 = .ok (.aload_n 0, 1) := dk_42 (dk_at dksX2_init_1 17 rfl rfl)
theorem dX2_init_41 : decode cX2_init 41 = .ok (.iconst 2, 1) := dk_5 (dk_at dksX2_init_1 18 rfl rfl)
theorem dX2_init_42 : decode cX2_init 42 = .ok (.newarray .boolean, 2) := dk_188_4 (dk_at dksX2_init_1 19 rfl rfl)
theorem dX2_init_44 : decode cX2_init 44 = .ok (.putfield 22, 3) := dk_181 0 22 (dk_at dksX2_init_1 21 rfl rfl)
theorem dX2_init_47 : decode cX2_init 47 = .ok (.aload_n 0, 1) := dk_42 (dk_at dksX2_init_2 0 rfl rfl)
theorem dX2_init_48 : decode cX2_init 48 = .ok (.bipush 80, 2) := dk_16 80 (dk_at dksX2_init_2 1 rfl rfl)
theorem dX2_init_50 : decode cX2_init 50 = .ok (.newarray .int, 2) := dk_188_10 (dk_at dksX2_init_2 3 rfl rfl)
theorem dX2_init_52 : decode cX2_init 52 = .ok (.putfield 26, 3) := dk_181 0 26 (dk_at dksX2_init_2 5 rfl rfl)
theorem dX2_init_55 : decode cX2_init 55 = .ok (.aload_n 0, 1) := dk_42 (dk_at dksX2_init_2 8 rfl rfl)
theorem dX2_init_56 : decode cX2_init 56 = .ok (.iconst 3, 1) := dk_6 (dk_at dksX2_init_2 9 rfl rfl)
theorem dX2_init_57 : decode cX2_init 57 = .ok (.newarray .int, 2) := dk_188_10 (dk_at dksX2_init_2 10 rfl rfl)
theorem dX2_init_59 : decode cX2_init 59 = .ok (.putfield 29, 3) := dk_181 0 29 (dk_at dksX2_init_2 12 rfl rfl)
theorem dX2_init_62 : decode cX2_init 62 = .ok (.aload_n 0, 1) := dk_42 (dk_at dksX2_init_2 15 rfl rfl)
theorem dX2_init_63 : decode cX2_init 63 = .ok (.iconst 5, 1) := dk_8 (dk_at dksX2_init_2 16 rfl rfl)
theorem dX2_init_64 : decode cX2_init 64 = .ok (.newarray .int, 2) := dk_188_10 (dk_at dksX2_init_2 17 rfl rfl)
theorem dX2_init_66 : decode cX2_init 66 = .ok (.putfield 32, 3) := dk_181 0 32 (dk_at dksX2_init_2 19 rfl rfl)
theorem dX2_init_69 : decode cX2_init 69 = .ok (.aload_n 0, 1) := dk_42 (dk_at dksX2_init_2 22 rfl rfl)
theorem dX2_init_70 : decode cX2_init 70 = .ok (.getfield 7, 3) := dk_180 0 7 (dk_at dksX2_init_3 0 rfl rfl)
theorem dX2_init_73 : decode cX2_init 73 = .ok (.iconst 0, 1) := dk_3 (dk_at dksX2_init_3 3 rfl rfl)
theorem dX2_init_74 : decode cX2_init 74 = .ok (.iconst 2, 1) := dk_5 (dk_at dksX2_init_3 4 rfl rfl)
theorem dX2_init_75 : decode cX2_init 75 = .ok (.iastore, 1) := dk_79 (dk_at dksX2_init_3 5 rfl rfl)
theorem dX2_init_76 : decode cX2_init 76 = .ok (.aload_n 0, 1) := dk_42 (dk_at dksX2_init_3 6 rfl rfl)
theorem dX2_init_77 : decode cX2_init 77 = .ok (.getfield 7, 3) := dk_180 0 7 (dk_at dksX2_init_3 7 rfl rfl)
theorem dX2_init_80 : decode cX2_init 80 = .ok (.iconst 1, 1) := dk_4 (dk_at dksX2_init_3 10 rfl rfl)
theorem dX2_init_81 : decode cX2_init 81 = .ok (.bipush 12, 2) := dk_16 12 (dk_at dksX2_init_3 11 rfl rfl)
theorem dX2_init_83 : decode cX2_init 83 = .ok (.iastore, 1) := dk_79 (dk_at dksX2_init_3 13 rfl rfl)
theorem dX2_init_84 : decode cX2_init 84 = .ok (.aload_n 0, 1) := dk_42 (dk_at dksX2_init_3 14 rfl rfl)
theorem dX2_init_85 : decode cX2_init 85 = .ok (.getfield 7, 3) := dk_180 0 7 (dk_at dksX2_init_3 15 rfl rfl)
theorem dX2_init_88 : decode cX2_init 88 = .ok (.iconst 2, 1) := dk_5 (dk_at dksX2_init_3 18 rfl rfl)
theorem dX2_init_89 : decode cX2_init 89 = .ok (.bipush (-3), 2) := dk_16 253 (dk_at dksX2_init_3 19 rfl rfl)
theorem dX2_init_91 : decode cX2_init 91 = .ok (.iastore, 1) := dk_79 (dk_at dksX2_init_3 21 rfl rfl)
theorem dX2_init_92 : decode cX2_init 92 = .ok (.aload_n 0, 1) := dk_42 (dk_at dksX2_init_3 22 rfl rfl)
theorem dX2_init_93 : decode cX2_init 93 = .ok (.getfield 7, 3) := dk_180 0 7 (dk_at dksX2_init_4 0 rfl rfl)
theorem dX2_init_96 : decode cX2_init 96 = .ok (.iconst 3, 1) := dk_6 (dk_at dksX2_init_4 3 rfl rfl)
theorem dX2_init_97 : decode cX2_init 97 = .ok (.iconst 5, 1) := dk_8 (dk_at dksX2_init_4 4 rfl rfl)
theorem dX2_init_98 : decode cX2_init 98 = .ok (.iastore, 1) := dk_79 (dk_at dksX2_init_4 5 rfl rfl)
theorem dX2_init_99 : decode cX2_init 99 = .ok (.iconst 0, 1) := dk_3 (dk_at dksX2_init_4 6 rfl rfl)
theorem dX2_init_100 : decode cX2_init 100 = .ok (.istore_n 1, 1) := dk_60 (dk_at dksX2_init_4 7 rfl rfl)
theorem dX2_init_101 : decode cX2_init 101 = .ok (.iload_n 1, 1) := dk_27 (dk_at dksX2_init_4 8 rfl rfl)
theorem dX2_init_102 : decode cX2_init 102 = .ok (.iconst 3, 1) := dk_6 (dk_at dksX2_init_4 9 rfl rfl)
theorem dX2_init_103 : decode cX2_init 103 = .ok (.if_icmp .ge 48, 3) := dk_162 0 48 (dk_at dksX2_init_4 10 rfl rfl)
theorem dX2_init_106 : decode cX2_init 106 = .ok (.aload_n 0, 1) := dk_42 (dk_at dksX2_init_4 13 rfl rfl)
theorem dX2_init_107 : decode cX2_init 107 = .ok (.getfield 7, 3) := dk_180 0 7 (dk_at dksX2_init_4 14 rfl rfl)
theorem dX2_init_110 : decode cX2_init 110 = .ok (.iload_n 1, 1) := dk_27 (dk_at dksX2_init_4 17 rfl rfl)
theorem dX2_init_111 : decode cX2_init 111 = .ok (.iconst 0, 1) := dk_3 (dk_at dksX2_init_4 18 rfl rfl)
theorem dX2_init_112 : decode cX2_init 112 = .ok (.invokestatic 35, 3) := dk_184 0 35 (dk_at dksX2_init_4 19 rfl rfl)
theorem dX2_init_115 : decode cX2_init 115 = .ok (.sipush 4000, 3) := dk_17 15 160 (dk_at dksX2_init_5 0 rfl rfl)
theorem dX2_init_118 : decode cX2_init 118 = .ok (.iastore, 1) := dk_79 (dk_at dksX2_init_5 3 rfl rfl)
theorem dX2_init_119 : decode cX2_init 119 = .ok (.aload_n 0, 1) := dk_42 (dk_at dksX2_init_5 4 rfl rfl)
theorem dX2_init_120 : decode cX2_init 120 = .ok (.getfield 7, 3) := dk_180 0 7 (dk_at dksX2_init_5 5 rfl rfl)
theorem dX2_init_123 : decode cX2_init 123 = .ok (.iload_n 1, 1) := dk_27 (dk_at dksX2_init_5 8 rfl rfl)
theorem dX2_init_124 : decode cX2_init 124 = .ok (.iconst 1, 1) := dk_4 (dk_at dksX2_init_5 9 rfl rfl)
theorem dX2_init_125 : decode cX2_init 125 = .ok (.invokestatic 35, 3) := dk_184 0 35 (dk_at dksX2_init_5 10 rfl rfl)
theorem dX2_init_128 : decode cX2_init 128 = .ok (.sipush 8000, 3) := dk_17 31 64 (dk_at dksX2_init_5 13 rfl rfl)
theorem dX2_init_131 : decode cX2_init 131 = .ok (.iastore, 1) := dk_79 (dk_at dksX2_init_5 16 rfl rfl)
theorem dX2_init_132 : decode cX2_init 132 = .ok (.aload_n 0, 1) := dk_42 (dk_at dksX2_init_5 17 rfl rfl)
theorem dX2_init_133 : decode cX2_init 133 = .ok (.getfield 7, 3) := dk_180 0 7 (dk_at dksX2_init_5 18 rfl rfl)
theorem dX2_init_136 : decode cX2_init 136 = .ok (.iload_n 1, 1) := dk_27 (dk_at dksX2_init_5 21 rfl rfl)
theorem dX2_init_137 : decode cX2_init 137 = .ok (.iconst 2, 1) := dk_5 (dk_at dksX2_init_5 22 rfl rfl)
theorem dX2_init_138 : decode cX2_init 138 = .ok (.invokestatic 35, 3) := dk_184 0 35 (dk_at dksX2_init_6 0 rfl rfl)
theorem dX2_init_141 : decode cX2_init 141 = .ok (.sipush 10000, 3) := dk_17 39 16 (dk_at dksX2_init_6 3 rfl rfl)
theorem dX2_init_144 : decode cX2_init 144 = .ok (.iastore, 1) := dk_79 (dk_at dksX2_init_6 6 rfl rfl)
theorem dX2_init_145 : decode cX2_init 145 = .ok (.iinc 1 1, 3) := dk_132 1 1 (dk_at dksX2_init_6 7 rfl rfl)
theorem dX2_init_148 : decode cX2_init 148 = .ok (.goto (-47), 3) := dk_167 255 209 (dk_at dksX2_init_6 10 rfl rfl)
theorem dX2_init_151 : decode cX2_init 151 = .ok (.return_, 1) := dk_177 (dk_at dksX2_init_6 13 rfl rfl)
abbrev cX2_ofLorryAt : ByteArray := prog_8_method_9_code
def yX2_ofLorryAt : MethodName := ⟨RX2, "ofLorryAt", "(II)I"⟩
def dkwX2_ofLorryAt_0 : List UInt8 := [17, 1, 56, 7, 26, 104, 96, 27, 96, 172]
abbrev dktX2_ofLorryAt_0 : List UInt8 := dkwX2_ofLorryAt_0 ++ []
theorem dksX2_ofLorryAt_0 : cX2_ofLorryAt.data.toList.drop 0 = dktX2_ofLorryAt_0 := by decide +kernel
theorem dX2_ofLorryAt_0 : decode cX2_ofLorryAt 0 = .ok (.sipush 312, 3) := dk_17 1 56 (dk_at dksX2_ofLorryAt_0 0 rfl rfl)
theorem dX2_ofLorryAt_3 : decode cX2_ofLorryAt 3 = .ok (.iconst 4, 1) := dk_7 (dk_at dksX2_ofLorryAt_0 3 rfl rfl)
theorem dX2_ofLorryAt_4 : decode cX2_ofLorryAt 4 = .ok (.iload_n 0, 1) := dk_26 (dk_at dksX2_ofLorryAt_0 4 rfl rfl)
theorem dX2_ofLorryAt_5 : decode cX2_ofLorryAt 5 = .ok (.imul, 1) := dk_104 (dk_at dksX2_ofLorryAt_0 5 rfl rfl)
theorem dX2_ofLorryAt_6 : decode cX2_ofLorryAt 6 = .ok (.iadd, 1) := dk_96 (dk_at dksX2_ofLorryAt_0 6 rfl rfl)
theorem dX2_ofLorryAt_7 : decode cX2_ofLorryAt 7 = .ok (.iload_n 1, 1) := dk_27 (dk_at dksX2_ofLorryAt_0 7 rfl rfl)
theorem dX2_ofLorryAt_8 : decode cX2_ofLorryAt 8 = .ok (.iadd, 1) := dk_96 (dk_at dksX2_ofLorryAt_0 8 rfl rfl)
theorem dX2_ofLorryAt_9 : decode cX2_ofLorryAt 9 = .ok (.ireturn, 1) := dk_172 (dk_at dksX2_ofLorryAt_0 9 rfl rfl)
abbrev cX2_set : ByteArray := prog_8_method_43_code
def yX2_set : MethodName := ⟨RX2, "set", "(II)I"⟩
def dkwX2_set_3 : List UInt8 := [27, 28, 182, 0, 166, 16, 100, 96, 167, 0, 5, 16, 254, 172]
abbrev dktX2_set_3 : List UInt8 := dkwX2_set_3 ++ []
def dkwX2_set_2 : List UInt8 := [160, 0, 17, 28, 3, 16, 30, 184, 0, 39, 153, 0, 7, 4, 167, 0, 4, 3, 62, 29, 153, 0, 15, 42]
abbrev dktX2_set_2 : List UInt8 := dkwX2_set_2 ++ dktX2_set_3
def dkwX2_set_1 : List UInt8 := [184, 0, 39, 167, 0, 38, 27, 5, 160, 0, 13, 28, 16, 236, 3, 184, 0, 39, 167, 0, 23, 27, 6]
abbrev dktX2_set_1 : List UInt8 := dkwX2_set_1 ++ dktX2_set_2
def dkwX2_set_0 : List UInt8 := [27, 154, 0, 13, 28, 3, 16, 9, 184, 0, 39, 167, 0, 53, 27, 4, 160, 0, 13, 28, 4, 16, 99]
abbrev dktX2_set_0 : List UInt8 := dkwX2_set_0 ++ dktX2_set_1
theorem dksX2_set_0 : cX2_set.data.toList.drop 0 = dktX2_set_0 := by decide +kernel
theorem dksX2_set_1 : cX2_set.data.toList.drop 23 = dktX2_set_1 := dk_seg dksX2_set_0 23 rfl rfl
theorem dksX2_set_2 : cX2_set.data.toList.drop 46 = dktX2_set_2 := dk_seg dksX2_set_1 23 rfl rfl
theorem dksX2_set_3 : cX2_set.data.toList.drop 70 = dktX2_set_3 := dk_seg dksX2_set_2 24 rfl rfl
theorem dX2_set_0 : decode cX2_set 0 = .ok (.iload_n 1, 1) := dk_27 (dk_at dksX2_set_0 0 rfl rfl)
theorem dX2_set_1 : decode cX2_set 1 = .ok (.ifCond .ne 13, 3) := dk_154 0 13 (dk_at dksX2_set_0 1 rfl rfl)
theorem dX2_set_4 : decode cX2_set 4 = .ok (.iload_n 2, 1) := dk_28 (dk_at dksX2_set_0 4 rfl rfl)
theorem dX2_set_5 : decode cX2_set 5 = .ok (.iconst 0, 1) := dk_3 (dk_at dksX2_set_0 5 rfl rfl)
theorem dX2_set_6 : decode cX2_set 6 = .ok (.bipush 9, 2) := dk_16 9 (dk_at dksX2_set_0 6 rfl rfl)
theorem dX2_set_8 : decode cX2_set 8 = .ok (.invokestatic 39, 3) := dk_184 0 39 (dk_at dksX2_set_0 8 rfl rfl)
theorem dX2_set_11 : decode cX2_set 11 = .ok (.goto 53, 3) := dk_167 0 53 (dk_at dksX2_set_0 11 rfl rfl)
theorem dX2_set_14 : decode cX2_set 14 = .ok (.iload_n 1, 1) := dk_27 (dk_at dksX2_set_0 14 rfl rfl)
theorem dX2_set_15 : decode cX2_set 15 = .ok (.iconst 1, 1) := dk_4 (dk_at dksX2_set_0 15 rfl rfl)
theorem dX2_set_16 : decode cX2_set 16 = .ok (.if_icmp .ne 13, 3) := dk_160 0 13 (dk_at dksX2_set_0 16 rfl rfl)
theorem dX2_set_19 : decode cX2_set 19 = .ok (.iload_n 2, 1) := dk_28 (dk_at dksX2_set_0 19 rfl rfl)
theorem dX2_set_20 : decode cX2_set 20 = .ok (.iconst 1, 1) := dk_4 (dk_at dksX2_set_0 20 rfl rfl)
theorem dX2_set_21 : decode cX2_set 21 = .ok (.bipush 99, 2) := dk_16 99 (dk_at dksX2_set_0 21 rfl rfl)
theorem dX2_set_23 : decode cX2_set 23 = .ok (.invokestatic 39, 3) := dk_184 0 39 (dk_at dksX2_set_1 0 rfl rfl)
theorem dX2_set_26 : decode cX2_set 26 = .ok (.goto 38, 3) := dk_167 0 38 (dk_at dksX2_set_1 3 rfl rfl)
theorem dX2_set_29 : decode cX2_set 29 = .ok (.iload_n 1, 1) := dk_27 (dk_at dksX2_set_1 6 rfl rfl)
theorem dX2_set_30 : decode cX2_set 30 = .ok (.iconst 2, 1) := dk_5 (dk_at dksX2_set_1 7 rfl rfl)
theorem dX2_set_31 : decode cX2_set 31 = .ok (.if_icmp .ne 13, 3) := dk_160 0 13 (dk_at dksX2_set_1 8 rfl rfl)
theorem dX2_set_34 : decode cX2_set 34 = .ok (.iload_n 2, 1) := dk_28 (dk_at dksX2_set_1 11 rfl rfl)
theorem dX2_set_35 : decode cX2_set 35 = .ok (.bipush (-20), 2) := dk_16 236 (dk_at dksX2_set_1 12 rfl rfl)
theorem dX2_set_37 : decode cX2_set 37 = .ok (.iconst 0, 1) := dk_3 (dk_at dksX2_set_1 14 rfl rfl)
theorem dX2_set_38 : decode cX2_set 38 = .ok (.invokestatic 39, 3) := dk_184 0 39 (dk_at dksX2_set_1 15 rfl rfl)
theorem dX2_set_41 : decode cX2_set 41 = .ok (.goto 23, 3) := dk_167 0 23 (dk_at dksX2_set_1 18 rfl rfl)
theorem dX2_set_44 : decode cX2_set 44 = .ok (.iload_n 1, 1) := dk_27 (dk_at dksX2_set_1 21 rfl rfl)
theorem dX2_set_45 : decode cX2_set 45 = .ok (.iconst 3, 1) := dk_6 (dk_at dksX2_set_1 22 rfl rfl)
theorem dX2_set_46 : decode cX2_set 46 = .ok (.if_icmp .ne 17, 3) := dk_160 0 17 (dk_at dksX2_set_2 0 rfl rfl)
theorem dX2_set_49 : decode cX2_set 49 = .ok (.iload_n 2, 1) := dk_28 (dk_at dksX2_set_2 3 rfl rfl)
theorem dX2_set_50 : decode cX2_set 50 = .ok (.iconst 0, 1) := dk_3 (dk_at dksX2_set_2 4 rfl rfl)
theorem dX2_set_51 : decode cX2_set 51 = .ok (.bipush 30, 2) := dk_16 30 (dk_at dksX2_set_2 5 rfl rfl)
theorem dX2_set_53 : decode cX2_set 53 = .ok (.invokestatic 39, 3) := dk_184 0 39 (dk_at dksX2_set_2 7 rfl rfl)
theorem dX2_set_56 : decode cX2_set 56 = .ok (.ifCond .eq 7, 3) := dk_153 0 7 (dk_at dksX2_set_2 10 rfl rfl)
theorem dX2_set_59 : decode cX2_set 59 = .ok (.iconst 1, 1) := dk_4 (dk_at dksX2_set_2 13 rfl rfl)
theorem dX2_set_60 : decode cX2_set 60 = .ok (.goto 4, 3) := dk_167 0 4 (dk_at dksX2_set_2 14 rfl rfl)
theorem dX2_set_63 : decode cX2_set 63 = .ok (.iconst 0, 1) := dk_3 (dk_at dksX2_set_2 17 rfl rfl)
theorem dX2_set_64 : decode cX2_set 64 = .ok (.istore_n 3, 1) := dk_62 (dk_at dksX2_set_2 18 rfl rfl)
theorem dX2_set_65 : decode cX2_set 65 = .ok (.iload_n 3, 1) := dk_29 (dk_at dksX2_set_2 19 rfl rfl)
theorem dX2_set_66 : decode cX2_set 66 = .ok (.ifCond .eq 15, 3) := dk_153 0 15 (dk_at dksX2_set_2 20 rfl rfl)
theorem dX2_set_69 : decode cX2_set 69 = .ok (.aload_n 0, 1) := dk_42 (dk_at dksX2_set_2 23 rfl rfl)
theorem dX2_set_70 : decode cX2_set 70 = .ok (.iload_n 1, 1) := dk_27 (dk_at dksX2_set_3 0 rfl rfl)
theorem dX2_set_71 : decode cX2_set 71 = .ok (.iload_n 2, 1) := dk_28 (dk_at dksX2_set_3 1 rfl rfl)
theorem dX2_set_72 : decode cX2_set 72 = .ok (.invokevirtual 166, 3) := dk_182 0 166 (dk_at dksX2_set_3 2 rfl rfl)
theorem dX2_set_75 : decode cX2_set 75 = .ok (.bipush 100, 2) := dk_16 100 (dk_at dksX2_set_3 5 rfl rfl)
theorem dX2_set_77 : decode cX2_set 77 = .ok (.iadd, 1) := dk_96 (dk_at dksX2_set_3 7 rfl rfl)
theorem dX2_set_78 : decode cX2_set 78 = .ok (.goto 5, 3) := dk_167 0 5 (dk_at dksX2_set_3 8 rfl rfl)
theorem dX2_set_81 : decode cX2_set 81 = .ok (.bipush (-2), 2) := dk_16 254 (dk_at dksX2_set_3 11 rfl rfl)
theorem dX2_set_83 : decode cX2_set 83 = .ok (.ireturn, 1) := dk_172 (dk_at dksX2_set_3 13 rfl rfl)
abbrev cX2_in : ByteArray := prog_8_method_3_code
def yX2_in : MethodName := ⟨RX2, "in", "(III)Z"⟩
def dkwX2_in_0 : List UInt8 := [26, 27, 161, 0, 12, 26, 28, 163, 0, 7, 4, 167, 0, 4, 3, 172]
abbrev dktX2_in_0 : List UInt8 := dkwX2_in_0 ++ []
theorem dksX2_in_0 : cX2_in.data.toList.drop 0 = dktX2_in_0 := by decide +kernel
theorem dX2_in_0 : decode cX2_in 0 = .ok (.iload_n 0, 1) := dk_26 (dk_at dksX2_in_0 0 rfl rfl)
theorem dX2_in_1 : decode cX2_in 1 = .ok (.iload_n 1, 1) := dk_27 (dk_at dksX2_in_0 1 rfl rfl)
theorem dX2_in_2 : decode cX2_in 2 = .ok (.if_icmp .lt 12, 3) := dk_161 0 12 (dk_at dksX2_in_0 2 rfl rfl)
theorem dX2_in_5 : decode cX2_in 5 = .ok (.iload_n 0, 1) := dk_26 (dk_at dksX2_in_0 5 rfl rfl)
theorem dX2_in_6 : decode cX2_in 6 = .ok (.iload_n 2, 1) := dk_28 (dk_at dksX2_in_0 6 rfl rfl)
theorem dX2_in_7 : decode cX2_in 7 = .ok (.if_icmp .gt 7, 3) := dk_163 0 7 (dk_at dksX2_in_0 7 rfl rfl)
theorem dX2_in_10 : decode cX2_in 10 = .ok (.iconst 1, 1) := dk_4 (dk_at dksX2_in_0 10 rfl rfl)
theorem dX2_in_11 : decode cX2_in 11 = .ok (.goto 4, 3) := dk_167 0 4 (dk_at dksX2_in_0 11 rfl rfl)
theorem dX2_in_14 : decode cX2_in 14 = .ok (.iconst 0, 1) := dk_3 (dk_at dksX2_in_0 14 rfl rfl)
theorem dX2_in_15 : decode cX2_in 15 = .ok (.ireturn, 1) := dk_172 (dk_at dksX2_in_0 15 rfl rfl)
abbrev cX2_lays : ByteArray := prog_8_method_42_code
def yX2_lays : MethodName := ⟨RX2, "lays", "(II)I"⟩
def dkwX2_lays_0 : List UInt8 := [42, 182, 0, 156, 42, 182, 0, 163, 42, 180, 0, 7, 27, 46, 62, 42, 180, 0, 7, 27, 28, 79, 29, 172]
abbrev dktX2_lays_0 : List UInt8 := dkwX2_lays_0 ++ []
theorem dksX2_lays_0 : cX2_lays.data.toList.drop 0 = dktX2_lays_0 := by decide +kernel
theorem dX2_lays_0 : decode cX2_lays 0 = .ok (.aload_n 0, 1) := dk_42 (dk_at dksX2_lays_0 0 rfl rfl)
theorem dX2_lays_1 : decode cX2_lays 1 = .ok (.invokevirtual 156, 3) := dk_182 0 156 (dk_at dksX2_lays_0 1 rfl rfl)
theorem dX2_lays_4 : decode cX2_lays 4 = .ok (.aload_n 0, 1) := dk_42 (dk_at dksX2_lays_0 4 rfl rfl)
theorem dX2_lays_5 : decode cX2_lays 5 = .ok (.invokevirtual 163, 3) := dk_182 0 163 (dk_at dksX2_lays_0 5 rfl rfl)
theorem dX2_lays_8 : decode cX2_lays 8 = .ok (.aload_n 0, 1) := dk_42 (dk_at dksX2_lays_0 8 rfl rfl)
theorem dX2_lays_9 : decode cX2_lays 9 = .ok (.getfield 7, 3) := dk_180 0 7 (dk_at dksX2_lays_0 9 rfl rfl)
theorem dX2_lays_12 : decode cX2_lays 12 = .ok (.iload_n 1, 1) := dk_27 (dk_at dksX2_lays_0 12 rfl rfl)
theorem dX2_lays_13 : decode cX2_lays 13 = .ok (.iaload, 1) := dk_46 (dk_at dksX2_lays_0 13 rfl rfl)
theorem dX2_lays_14 : decode cX2_lays 14 = .ok (.istore_n 3, 1) := dk_62 (dk_at dksX2_lays_0 14 rfl rfl)
theorem dX2_lays_15 : decode cX2_lays 15 = .ok (.aload_n 0, 1) := dk_42 (dk_at dksX2_lays_0 15 rfl rfl)
theorem dX2_lays_16 : decode cX2_lays 16 = .ok (.getfield 7, 3) := dk_180 0 7 (dk_at dksX2_lays_0 16 rfl rfl)
theorem dX2_lays_19 : decode cX2_lays 19 = .ok (.iload_n 1, 1) := dk_27 (dk_at dksX2_lays_0 19 rfl rfl)
theorem dX2_lays_20 : decode cX2_lays 20 = .ok (.iload_n 2, 1) := dk_28 (dk_at dksX2_lays_0 20 rfl rfl)
theorem dX2_lays_21 : decode cX2_lays 21 = .ok (.iastore, 1) := dk_79 (dk_at dksX2_lays_0 21 rfl rfl)
theorem dX2_lays_22 : decode cX2_lays 22 = .ok (.iload_n 3, 1) := dk_29 (dk_at dksX2_lays_0 22 rfl rfl)
theorem dX2_lays_23 : decode cX2_lays 23 = .ok (.ireturn, 1) := dk_172 (dk_at dksX2_lays_0 23 rfl rfl)
abbrev cX2_looks : ByteArray := prog_8_method_10_code
def yX2_looks : MethodName := ⟨RX2, "looks", "()V"⟩
def dkwX2_looks_1 : List UInt8 := [167, 255, 234, 177]
abbrev dktX2_looks_1 : List UInt8 := dkwX2_looks_1 ++ []
def dkwX2_looks_0 : List UInt8 := [3, 60, 27, 17, 1, 68, 162, 0, 21, 42, 180, 0, 13, 27, 42, 180, 0, 7, 27, 46, 79, 132, 1, 1]
abbrev dktX2_looks_0 : List UInt8 := dkwX2_looks_0 ++ dktX2_looks_1
theorem dksX2_looks_0 : cX2_looks.data.toList.drop 0 = dktX2_looks_0 := by decide +kernel
theorem dksX2_looks_1 : cX2_looks.data.toList.drop 24 = dktX2_looks_1 := dk_seg dksX2_looks_0 24 rfl rfl
theorem dX2_looks_0 : decode cX2_looks 0 = .ok (.iconst 0, 1) := dk_3 (dk_at dksX2_looks_0 0 rfl rfl)
theorem dX2_looks_1 : decode cX2_looks 1 = .ok (.istore_n 1, 1) := dk_60 (dk_at dksX2_looks_0 1 rfl rfl)
theorem dX2_looks_2 : decode cX2_looks 2 = .ok (.iload_n 1, 1) := dk_27 (dk_at dksX2_looks_0 2 rfl rfl)
theorem dX2_looks_3 : decode cX2_looks 3 = .ok (.sipush 324, 3) := dk_17 1 68 (dk_at dksX2_looks_0 3 rfl rfl)
theorem dX2_looks_6 : decode cX2_looks 6 = .ok (.if_icmp .ge 21, 3) := dk_162 0 21 (dk_at dksX2_looks_0 6 rfl rfl)
theorem dX2_looks_9 : decode cX2_looks 9 = .ok (.aload_n 0, 1) := dk_42 (dk_at dksX2_looks_0 9 rfl rfl)
theorem dX2_looks_10 : decode cX2_looks 10 = .ok (.getfield 13, 3) := dk_180 0 13 (dk_at dksX2_looks_0 10 rfl rfl)
theorem dX2_looks_13 : decode cX2_looks 13 = .ok (.iload_n 1, 1) := dk_27 (dk_at dksX2_looks_0 13 rfl rfl)
theorem dX2_looks_14 : decode cX2_looks 14 = .ok (.aload_n 0, 1) := dk_42 (dk_at dksX2_looks_0 14 rfl rfl)
theorem dX2_looks_15 : decode cX2_looks 15 = .ok (.getfield 7, 3) := dk_180 0 7 (dk_at dksX2_looks_0 15 rfl rfl)
theorem dX2_looks_18 : decode cX2_looks 18 = .ok (.iload_n 1, 1) := dk_27 (dk_at dksX2_looks_0 18 rfl rfl)
theorem dX2_looks_19 : decode cX2_looks 19 = .ok (.iaload, 1) := dk_46 (dk_at dksX2_looks_0 19 rfl rfl)
theorem dX2_looks_20 : decode cX2_looks 20 = .ok (.iastore, 1) := dk_79 (dk_at dksX2_looks_0 20 rfl rfl)
theorem dX2_looks_21 : decode cX2_looks 21 = .ok (.iinc 1 1, 3) := dk_132 1 1 (dk_at dksX2_looks_0 21 rfl rfl)
theorem dX2_looks_24 : decode cX2_looks 24 = .ok (.goto (-22), 3) := dk_167 255 234 (dk_at dksX2_looks_1 0 rfl rfl)
theorem dX2_looks_27 : decode cX2_looks 27 = .ok (.return_, 1) := dk_177 (dk_at dksX2_looks_1 3 rfl rfl)
abbrev cX2_records : ByteArray := prog_8_method_11_code
def yX2_records : MethodName := ⟨RX2, "records", "()V"⟩
def dkwX2_records_4 : List UInt8 := [181, 0, 43, 177]
abbrev dktX2_records_4 : List UInt8 := dkwX2_records_4 ++ []
def dkwX2_records_3 : List UInt8 := [27, 96, 42, 180, 0, 13, 27, 46, 79, 132, 1, 1, 167, 255, 225, 42, 89, 180, 0, 43, 4, 96]
abbrev dktX2_records_3 : List UInt8 := dkwX2_records_3 ++ dktX2_records_4
def dkwX2_records_2 : List UInt8 := [181, 0, 43, 3, 60, 27, 17, 1, 68, 162, 0, 30, 42, 180, 0, 16, 17, 1, 68, 42, 180, 0, 43, 104]
abbrev dktX2_records_2 : List UInt8 := dkwX2_records_2 ++ dktX2_records_3
def dkwX2_records_1 : List UInt8 := [180, 0, 16, 27, 17, 1, 68, 96, 46, 79, 132, 1, 1, 167, 255, 230, 42, 89, 180, 0, 43, 4, 100]
abbrev dktX2_records_1 : List UInt8 := dkwX2_records_1 ++ dktX2_records_2
def dkwX2_records_0 : List UInt8 := [42, 180, 0, 43, 16, 6, 160, 0, 44, 3, 60, 27, 17, 6, 84, 162, 0, 25, 42, 180, 0, 16, 27, 42]
abbrev dktX2_records_0 : List UInt8 := dkwX2_records_0 ++ dktX2_records_1
theorem dksX2_records_0 : cX2_records.data.toList.drop 0 = dktX2_records_0 := by decide +kernel
theorem dksX2_records_1 : cX2_records.data.toList.drop 24 = dktX2_records_1 := dk_seg dksX2_records_0 24 rfl rfl
theorem dksX2_records_2 : cX2_records.data.toList.drop 47 = dktX2_records_2 := dk_seg dksX2_records_1 23 rfl rfl
theorem dksX2_records_3 : cX2_records.data.toList.drop 71 = dktX2_records_3 := dk_seg dksX2_records_2 24 rfl rfl
theorem dksX2_records_4 : cX2_records.data.toList.drop 93 = dktX2_records_4 := dk_seg dksX2_records_3 22 rfl rfl
theorem dX2_records_0 : decode cX2_records 0 = .ok (.aload_n 0, 1) := dk_42 (dk_at dksX2_records_0 0 rfl rfl)
theorem dX2_records_1 : decode cX2_records 1 = .ok (.getfield 43, 3) := dk_180 0 43 (dk_at dksX2_records_0 1 rfl rfl)
theorem dX2_records_4 : decode cX2_records 4 = .ok (.bipush 6, 2) := dk_16 6 (dk_at dksX2_records_0 4 rfl rfl)
theorem dX2_records_6 : decode cX2_records 6 = .ok (.if_icmp .ne 44, 3) := dk_160 0 44 (dk_at dksX2_records_0 6 rfl rfl)
theorem dX2_records_9 : decode cX2_records 9 = .ok (.iconst 0, 1) := dk_3 (dk_at dksX2_records_0 9 rfl rfl)
theorem dX2_records_10 : decode cX2_records 10 = .ok (.istore_n 1, 1) := dk_60 (dk_at dksX2_records_0 10 rfl rfl)
theorem dX2_records_11 : decode cX2_records 11 = .ok (.iload_n 1, 1) := dk_27 (dk_at dksX2_records_0 11 rfl rfl)
theorem dX2_records_12 : decode cX2_records 12 = .ok (.sipush 1620, 3) := dk_17 6 84 (dk_at dksX2_records_0 12 rfl rfl)
theorem dX2_records_15 : decode cX2_records 15 = .ok (.if_icmp .ge 25, 3) := dk_162 0 25 (dk_at dksX2_records_0 15 rfl rfl)
theorem dX2_records_18 : decode cX2_records 18 = .ok (.aload_n 0, 1) := dk_42 (dk_at dksX2_records_0 18 rfl rfl)
theorem dX2_records_19 : decode cX2_records 19 = .ok (.getfield 16, 3) := dk_180 0 16 (dk_at dksX2_records_0 19 rfl rfl)
theorem dX2_records_22 : decode cX2_records 22 = .ok (.iload_n 1, 1) := dk_27 (dk_at dksX2_records_0 22 rfl rfl)
theorem dX2_records_23 : decode cX2_records 23 = .ok (.aload_n 0, 1) := dk_42 (dk_at dksX2_records_0 23 rfl rfl)
theorem dX2_records_24 : decode cX2_records 24 = .ok (.getfield 16, 3) := dk_180 0 16 (dk_at dksX2_records_1 0 rfl rfl)
theorem dX2_records_27 : decode cX2_records 27 = .ok (.iload_n 1, 1) := dk_27 (dk_at dksX2_records_1 3 rfl rfl)
theorem dX2_records_28 : decode cX2_records 28 = .ok (.sipush 324, 3) := dk_17 1 68 (dk_at dksX2_records_1 4 rfl rfl)
theorem dX2_records_31 : decode cX2_records 31 = .ok (.iadd, 1) := dk_96 (dk_at dksX2_records_1 7 rfl rfl)
theorem dX2_records_32 : decode cX2_records 32 = .ok (.iaload, 1) := dk_46 (dk_at dksX2_records_1 8 rfl rfl)
theorem dX2_records_33 : decode cX2_records 33 = .ok (.iastore, 1) := dk_79 (dk_at dksX2_records_1 9 rfl rfl)
theorem dX2_records_34 : decode cX2_records 34 = .ok (.iinc 1 1, 3) := dk_132 1 1 (dk_at dksX2_records_1 10 rfl rfl)
theorem dX2_records_37 : decode cX2_records 37 = .ok (.goto (-26), 3) := dk_167 255 230 (dk_at dksX2_records_1 13 rfl rfl)
theorem dX2_records_40 : decode cX2_records 40 = .ok (.aload_n 0, 1) := dk_42 (dk_at dksX2_records_1 16 rfl rfl)
theorem dX2_records_41 : decode cX2_records 41 = .ok (.dup, 1) := dk_89 (dk_at dksX2_records_1 17 rfl rfl)
theorem dX2_records_42 : decode cX2_records 42 = .ok (.getfield 43, 3) := dk_180 0 43 (dk_at dksX2_records_1 18 rfl rfl)
theorem dX2_records_45 : decode cX2_records 45 = .ok (.iconst 1, 1) := dk_4 (dk_at dksX2_records_1 21 rfl rfl)
theorem dX2_records_46 : decode cX2_records 46 = .ok (.isub, 1) := dk_100 (dk_at dksX2_records_1 22 rfl rfl)
theorem dX2_records_47 : decode cX2_records 47 = .ok (.putfield 43, 3) := dk_181 0 43 (dk_at dksX2_records_2 0 rfl rfl)
theorem dX2_records_50 : decode cX2_records 50 = .ok (.iconst 0, 1) := dk_3 (dk_at dksX2_records_2 3 rfl rfl)
theorem dX2_records_51 : decode cX2_records 51 = .ok (.istore_n 1, 1) := dk_60 (dk_at dksX2_records_2 4 rfl rfl)
theorem dX2_records_52 : decode cX2_records 52 = .ok (.iload_n 1, 1) := dk_27 (dk_at dksX2_records_2 5 rfl rfl)
theorem dX2_records_53 : decode cX2_records 53 = .ok (.sipush 324, 3) := dk_17 1 68 (dk_at dksX2_records_2 6 rfl rfl)
theorem dX2_records_56 : decode cX2_records 56 = .ok (.if_icmp .ge 30, 3) := dk_162 0 30 (dk_at dksX2_records_2 9 rfl rfl)
theorem dX2_records_59 : decode cX2_records 59 = .ok (.aload_n 0, 1) := dk_42 (dk_at dksX2_records_2 12 rfl rfl)
theorem dX2_records_60 : decode cX2_records 60 = .ok (.getfield 16, 3) := dk_180 0 16 (dk_at dksX2_records_2 13 rfl rfl)
theorem dX2_records_63 : decode cX2_records 63 = .ok (.sipush 324, 3) := dk_17 1 68 (dk_at dksX2_records_2 16 rfl rfl)
theorem dX2_records_66 : decode cX2_records 66 = .ok (.aload_n 0, 1) := dk_42 (dk_at dksX2_records_2 19 rfl rfl)
theorem dX2_records_67 : decode cX2_records 67 = .ok (.getfield 43, 3) := dk_180 0 43 (dk_at dksX2_records_2 20 rfl rfl)
theorem dX2_records_70 : decode cX2_records 70 = .ok (.imul, 1) := dk_104 (dk_at dksX2_records_2 23 rfl rfl)
theorem dX2_records_71 : decode cX2_records 71 = .ok (.iload_n 1, 1) := dk_27 (dk_at dksX2_records_3 0 rfl rfl)
theorem dX2_records_72 : decode cX2_records 72 = .ok (.iadd, 1) := dk_96 (dk_at dksX2_records_3 1 rfl rfl)
theorem dX2_records_73 : decode cX2_records 73 = .ok (.aload_n 0, 1) := dk_42 (dk_at dksX2_records_3 2 rfl rfl)
theorem dX2_records_74 : decode cX2_records 74 = .ok (.getfield 13, 3) := dk_180 0 13 (dk_at dksX2_records_3 3 rfl rfl)
theorem dX2_records_77 : decode cX2_records 77 = .ok (.iload_n 1, 1) := dk_27 (dk_at dksX2_records_3 6 rfl rfl)
theorem dX2_records_78 : decode cX2_records 78 = .ok (.iaload, 1) := dk_46 (dk_at dksX2_records_3 7 rfl rfl)
theorem dX2_records_79 : decode cX2_records 79 = .ok (.iastore, 1) := dk_79 (dk_at dksX2_records_3 8 rfl rfl)
theorem dX2_records_80 : decode cX2_records 80 = .ok (.iinc 1 1, 3) := dk_132 1 1 (dk_at dksX2_records_3 9 rfl rfl)
theorem dX2_records_83 : decode cX2_records 83 = .ok (.goto (-31), 3) := dk_167 255 225 (dk_at dksX2_records_3 12 rfl rfl)
theorem dX2_records_86 : decode cX2_records 86 = .ok (.aload_n 0, 1) := dk_42 (dk_at dksX2_records_3 15 rfl rfl)
theorem dX2_records_87 : decode cX2_records 87 = .ok (.dup, 1) := dk_89 (dk_at dksX2_records_3 16 rfl rfl)
theorem dX2_records_88 : decode cX2_records 88 = .ok (.getfield 43, 3) := dk_180 0 43 (dk_at dksX2_records_3 17 rfl rfl)
theorem dX2_records_91 : decode cX2_records 91 = .ok (.iconst 1, 1) := dk_4 (dk_at dksX2_records_3 20 rfl rfl)
theorem dX2_records_92 : decode cX2_records 92 = .ok (.iadd, 1) := dk_96 (dk_at dksX2_records_3 21 rfl rfl)
theorem dX2_records_93 : decode cX2_records 93 = .ok (.putfield 43, 3) := dk_181 0 43 (dk_at dksX2_records_4 0 rfl rfl)
theorem dX2_records_96 : decode cX2_records 96 = .ok (.return_, 1) := dk_177 (dk_at dksX2_records_4 3 rfl rfl)
abbrev cX2_quarry : ByteArray := prog_8_method_44_code
def yX2_quarry : MethodName := ⟨RX2, "quarry", "(IIII)I"⟩
def dkwX2_quarry_0 : List UInt8 := [42, 16, 113, 27, 28, 29, 21, 4, 182, 0, 169, 172]
abbrev dktX2_quarry_0 : List UInt8 := dkwX2_quarry_0 ++ []
theorem dksX2_quarry_0 : cX2_quarry.data.toList.drop 0 = dktX2_quarry_0 := by decide +kernel
theorem dX2_quarry_0 : decode cX2_quarry 0 = .ok (.aload_n 0, 1) := dk_42 (dk_at dksX2_quarry_0 0 rfl rfl)
theorem dX2_quarry_1 : decode cX2_quarry 1 = .ok (.bipush 113, 2) := dk_16 113 (dk_at dksX2_quarry_0 1 rfl rfl)
theorem dX2_quarry_3 : decode cX2_quarry 3 = .ok (.iload_n 1, 1) := dk_27 (dk_at dksX2_quarry_0 3 rfl rfl)
theorem dX2_quarry_4 : decode cX2_quarry 4 = .ok (.iload_n 2, 1) := dk_28 (dk_at dksX2_quarry_0 4 rfl rfl)
theorem dX2_quarry_5 : decode cX2_quarry 5 = .ok (.iload_n 3, 1) := dk_29 (dk_at dksX2_quarry_0 5 rfl rfl)
theorem dX2_quarry_6 : decode cX2_quarry 6 = .ok (.iload 4, 2) := dk_21 4 (dk_at dksX2_quarry_0 6 rfl rfl)
theorem dX2_quarry_8 : decode cX2_quarry 8 = .ok (.invokevirtual 169, 3) := dk_182 0 169 (dk_at dksX2_quarry_0 8 rfl rfl)
theorem dX2_quarry_11 : decode cX2_quarry 11 = .ok (.ireturn, 1) := dk_172 (dk_at dksX2_quarry_0 11 rfl rfl)
abbrev cX2_tries : ByteArray := prog_8_method_41_code
def yX2_tries : MethodName := ⟨RX2, "tries", "(IIIII)I"⟩
def dkwX2_tries_1 : List UInt8 := [182, 0, 163, 21, 6, 172]
abbrev dktX2_tries_1 : List UInt8 := dkwX2_tries_1 ++ []
def dkwX2_tries_0 : List UInt8 := [42, 182, 0, 156, 42, 27, 28, 29, 21, 4, 21, 5, 182, 0, 159, 54, 6, 21, 6, 155, 0, 7, 42]
abbrev dktX2_tries_0 : List UInt8 := dkwX2_tries_0 ++ dktX2_tries_1
theorem dksX2_tries_0 : cX2_tries.data.toList.drop 0 = dktX2_tries_0 := by decide +kernel
theorem dksX2_tries_1 : cX2_tries.data.toList.drop 23 = dktX2_tries_1 := dk_seg dksX2_tries_0 23 rfl rfl
theorem dX2_tries_0 : decode cX2_tries 0 = .ok (.aload_n 0, 1) := dk_42 (dk_at dksX2_tries_0 0 rfl rfl)
theorem dX2_tries_1 : decode cX2_tries 1 = .ok (.invokevirtual 156, 3) := dk_182 0 156 (dk_at dksX2_tries_0 1 rfl rfl)
theorem dX2_tries_4 : decode cX2_tries 4 = .ok (.aload_n 0, 1) := dk_42 (dk_at dksX2_tries_0 4 rfl rfl)
theorem dX2_tries_5 : decode cX2_tries 5 = .ok (.iload_n 1, 1) := dk_27 (dk_at dksX2_tries_0 5 rfl rfl)
theorem dX2_tries_6 : decode cX2_tries 6 = .ok (.iload_n 2, 1) := dk_28 (dk_at dksX2_tries_0 6 rfl rfl)
theorem dX2_tries_7 : decode cX2_tries 7 = .ok (.iload_n 3, 1) := dk_29 (dk_at dksX2_tries_0 7 rfl rfl)
theorem dX2_tries_8 : decode cX2_tries 8 = .ok (.iload 4, 2) := dk_21 4 (dk_at dksX2_tries_0 8 rfl rfl)
theorem dX2_tries_10 : decode cX2_tries 10 = .ok (.iload 5, 2) := dk_21 5 (dk_at dksX2_tries_0 10 rfl rfl)
theorem dX2_tries_12 : decode cX2_tries 12 = .ok (.invokevirtual 159, 3) := dk_182 0 159 (dk_at dksX2_tries_0 12 rfl rfl)
theorem dX2_tries_15 : decode cX2_tries 15 = .ok (.istore 6, 2) := dk_54 6 (dk_at dksX2_tries_0 15 rfl rfl)
theorem dX2_tries_17 : decode cX2_tries 17 = .ok (.iload 6, 2) := dk_21 6 (dk_at dksX2_tries_0 17 rfl rfl)
theorem dX2_tries_19 : decode cX2_tries 19 = .ok (.ifCond .lt 7, 3) := dk_155 0 7 (dk_at dksX2_tries_0 19 rfl rfl)
theorem dX2_tries_22 : decode cX2_tries 22 = .ok (.aload_n 0, 1) := dk_42 (dk_at dksX2_tries_0 22 rfl rfl)
theorem dX2_tries_23 : decode cX2_tries 23 = .ok (.invokevirtual 163, 3) := dk_182 0 163 (dk_at dksX2_tries_1 0 rfl rfl)
theorem dX2_tries_26 : decode cX2_tries 26 = .ok (.iload 6, 2) := dk_21 6 (dk_at dksX2_tries_1 3 rfl rfl)
theorem dX2_tries_28 : decode cX2_tries 28 = .ok (.ireturn, 1) := dk_172 (dk_at dksX2_tries_1 5 rfl rfl)
abbrev cX2_does : ByteArray := prog_8_method_40_code
def yX2_does : MethodName := ⟨RX2, "does", "(IIIII)I"⟩
def dkwX2_does_4 : List UInt8 := [182, 0, 150, 172, 42, 28, 182, 0, 153, 172]
abbrev dktX2_does_4 : List UInt8 := dkwX2_does_4 ++ []
def dkwX2_does_3 : List UInt8 := [21, 4, 182, 0, 141, 172, 42, 28, 29, 182, 0, 144, 172, 42, 28, 29, 21, 4, 182, 0, 147, 172, 42, 28]
abbrev dktX2_does_3 : List UInt8 := dkwX2_does_3 ++ dktX2_does_4
def dkwX2_does_2 : List UInt8 := [42, 28, 29, 21, 4, 21, 5, 182, 0, 134, 172, 42, 28, 29, 21, 4, 182, 0, 137, 172, 42, 28, 29]
abbrev dktX2_does_2 : List UInt8 := dkwX2_does_2 ++ dktX2_does_3
def dkwX2_does_1 : List UInt8 := [170, 0, 0, 0, 0, 0, 126, 0, 0, 0, 99, 0, 0, 0, 113, 0, 0, 0, 86, 0, 0, 0, 126, 0, 0, 0, 126, 0, 0, 0, 126, 0, 0, 0, 104, 0, 0, 0, 126, 0, 0, 0, 126, 0, 0, 0, 126, 0, 0, 0, 126, 0, 0, 0, 111, 0, 0, 0, 126, 0, 0, 0, 120, 0, 0, 0, 95, 0, 0, 0, 126, 0, 0, 0, 75]
abbrev dktX2_does_1 : List UInt8 := dkwX2_does_1 ++ dktX2_does_2
def dkwX2_does_0 : List UInt8 := [27]
abbrev dktX2_does_0 : List UInt8 := dkwX2_does_0 ++ dktX2_does_1
theorem dksX2_does_0 : cX2_does.data.toList.drop 0 = dktX2_does_0 := by decide +kernel
theorem dksX2_does_1 : cX2_does.data.toList.drop 1 = dktX2_does_1 := dk_seg dksX2_does_0 1 rfl rfl
theorem dksX2_does_2 : cX2_does.data.toList.drop 76 = dktX2_does_2 := dk_seg dksX2_does_1 75 rfl rfl
theorem dksX2_does_3 : cX2_does.data.toList.drop 99 = dktX2_does_3 := dk_seg dksX2_does_2 23 rfl rfl
theorem dksX2_does_4 : cX2_does.data.toList.drop 123 = dktX2_does_4 := dk_seg dksX2_does_3 24 rfl rfl
theorem dX2_does_0 : decode cX2_does 0 = .ok (.iload_n 1, 1) := dk_27 (dk_at dksX2_does_0 0 rfl rfl)
theorem dX2_does_1 : decode cX2_does 1 = .ok (.tableswitch 126 99 113 #[86, 126, 126, 126, 104, 126, 126, 126, 126, 111, 126, 120, 95, 126, 75], 75) := by decide +kernel
theorem dX2_does_76 : decode cX2_does 76 = .ok (.aload_n 0, 1) := dk_42 (dk_at dksX2_does_2 0 rfl rfl)
theorem dX2_does_77 : decode cX2_does 77 = .ok (.iload_n 2, 1) := dk_28 (dk_at dksX2_does_2 1 rfl rfl)
theorem dX2_does_78 : decode cX2_does 78 = .ok (.iload_n 3, 1) := dk_29 (dk_at dksX2_does_2 2 rfl rfl)
theorem dX2_does_79 : decode cX2_does 79 = .ok (.iload 4, 2) := dk_21 4 (dk_at dksX2_does_2 3 rfl rfl)
theorem dX2_does_81 : decode cX2_does 81 = .ok (.iload 5, 2) := dk_21 5 (dk_at dksX2_does_2 5 rfl rfl)
theorem dX2_does_83 : decode cX2_does 83 = .ok (.invokevirtual 134, 3) := dk_182 0 134 (dk_at dksX2_does_2 7 rfl rfl)
theorem dX2_does_86 : decode cX2_does 86 = .ok (.ireturn, 1) := dk_172 (dk_at dksX2_does_2 10 rfl rfl)
theorem dX2_does_87 : decode cX2_does 87 = .ok (.aload_n 0, 1) := dk_42 (dk_at dksX2_does_2 11 rfl rfl)
theorem dX2_does_88 : decode cX2_does 88 = .ok (.iload_n 2, 1) := dk_28 (dk_at dksX2_does_2 12 rfl rfl)
theorem dX2_does_89 : decode cX2_does 89 = .ok (.iload_n 3, 1) := dk_29 (dk_at dksX2_does_2 13 rfl rfl)
theorem dX2_does_90 : decode cX2_does 90 = .ok (.iload 4, 2) := dk_21 4 (dk_at dksX2_does_2 14 rfl rfl)
theorem dX2_does_92 : decode cX2_does 92 = .ok (.invokevirtual 137, 3) := dk_182 0 137 (dk_at dksX2_does_2 16 rfl rfl)
theorem dX2_does_95 : decode cX2_does 95 = .ok (.ireturn, 1) := dk_172 (dk_at dksX2_does_2 19 rfl rfl)
theorem dX2_does_96 : decode cX2_does 96 = .ok (.aload_n 0, 1) := dk_42 (dk_at dksX2_does_2 20 rfl rfl)
theorem dX2_does_97 : decode cX2_does 97 = .ok (.iload_n 2, 1) := dk_28 (dk_at dksX2_does_2 21 rfl rfl)
theorem dX2_does_98 : decode cX2_does 98 = .ok (.iload_n 3, 1) := dk_29 (dk_at dksX2_does_2 22 rfl rfl)
theorem dX2_does_99 : decode cX2_does 99 = .ok (.iload 4, 2) := dk_21 4 (dk_at dksX2_does_3 0 rfl rfl)
theorem dX2_does_101 : decode cX2_does 101 = .ok (.invokevirtual 141, 3) := dk_182 0 141 (dk_at dksX2_does_3 2 rfl rfl)
theorem dX2_does_104 : decode cX2_does 104 = .ok (.ireturn, 1) := dk_172 (dk_at dksX2_does_3 5 rfl rfl)
theorem dX2_does_105 : decode cX2_does 105 = .ok (.aload_n 0, 1) := dk_42 (dk_at dksX2_does_3 6 rfl rfl)
theorem dX2_does_106 : decode cX2_does 106 = .ok (.iload_n 2, 1) := dk_28 (dk_at dksX2_does_3 7 rfl rfl)
theorem dX2_does_107 : decode cX2_does 107 = .ok (.iload_n 3, 1) := dk_29 (dk_at dksX2_does_3 8 rfl rfl)
theorem dX2_does_108 : decode cX2_does 108 = .ok (.invokevirtual 144, 3) := dk_182 0 144 (dk_at dksX2_does_3 9 rfl rfl)
theorem dX2_does_111 : decode cX2_does 111 = .ok (.ireturn, 1) := dk_172 (dk_at dksX2_does_3 12 rfl rfl)
theorem dX2_does_112 : decode cX2_does 112 = .ok (.aload_n 0, 1) := dk_42 (dk_at dksX2_does_3 13 rfl rfl)
theorem dX2_does_113 : decode cX2_does 113 = .ok (.iload_n 2, 1) := dk_28 (dk_at dksX2_does_3 14 rfl rfl)
theorem dX2_does_114 : decode cX2_does 114 = .ok (.iload_n 3, 1) := dk_29 (dk_at dksX2_does_3 15 rfl rfl)
theorem dX2_does_115 : decode cX2_does 115 = .ok (.iload 4, 2) := dk_21 4 (dk_at dksX2_does_3 16 rfl rfl)
theorem dX2_does_117 : decode cX2_does 117 = .ok (.invokevirtual 147, 3) := dk_182 0 147 (dk_at dksX2_does_3 18 rfl rfl)
theorem dX2_does_120 : decode cX2_does 120 = .ok (.ireturn, 1) := dk_172 (dk_at dksX2_does_3 21 rfl rfl)
theorem dX2_does_121 : decode cX2_does 121 = .ok (.aload_n 0, 1) := dk_42 (dk_at dksX2_does_3 22 rfl rfl)
theorem dX2_does_122 : decode cX2_does 122 = .ok (.iload_n 2, 1) := dk_28 (dk_at dksX2_does_3 23 rfl rfl)
theorem dX2_does_123 : decode cX2_does 123 = .ok (.invokevirtual 150, 3) := dk_182 0 150 (dk_at dksX2_does_4 0 rfl rfl)
theorem dX2_does_126 : decode cX2_does 126 = .ok (.ireturn, 1) := dk_172 (dk_at dksX2_does_4 3 rfl rfl)
theorem dX2_does_127 : decode cX2_does 127 = .ok (.aload_n 0, 1) := dk_42 (dk_at dksX2_does_4 4 rfl rfl)
theorem dX2_does_128 : decode cX2_does 128 = .ok (.iload_n 2, 1) := dk_28 (dk_at dksX2_does_4 5 rfl rfl)
theorem dX2_does_129 : decode cX2_does 129 = .ok (.invokevirtual 153, 3) := dk_182 0 153 (dk_at dksX2_does_4 6 rfl rfl)
theorem dX2_does_132 : decode cX2_does 132 = .ok (.ireturn, 1) := dk_172 (dk_at dksX2_does_4 9 rfl rfl)
abbrev cX2_quarries : ByteArray := prog_8_method_31_code
def yX2_quarries : MethodName := ⟨RX2, "quarries", "(IIII)I"⟩
def dkwX2_quarries_3 : List UInt8 := [6, 79, 42, 180, 0, 7, 16, 8, 92, 46, 42, 21, 5, 182, 0, 58, 96, 79, 21, 5, 172]
abbrev dktX2_quarries_3 : List UInt8 := dkwX2_quarries_3 ++ []
def dkwX2_quarries_2 : List UInt8 := [16, 252, 172, 42, 27, 28, 29, 21, 4, 182, 0, 54, 54, 5, 42, 180, 0, 7, 21, 5, 8, 184, 0, 47]
abbrev dktX2_quarries_2 : List UInt8 := dkwX2_quarries_2 ++ dktX2_quarries_3
def dkwX2_quarries_1 : List UInt8 := [16, 20, 16, 30, 184, 0, 39, 154, 0, 6, 16, 254, 172, 42, 180, 0, 7, 8, 46, 16, 24, 160, 0, 6]
abbrev dktX2_quarries_1 : List UInt8 := dkwX2_quarries_1 ++ dktX2_quarries_2
def dkwX2_quarries_0 : List UInt8 := [27, 184, 0, 97, 153, 0, 29, 28, 184, 0, 97, 153, 0, 22, 29, 184, 0, 97, 153, 0, 15, 21, 4]
abbrev dktX2_quarries_0 : List UInt8 := dkwX2_quarries_0 ++ dktX2_quarries_1
theorem dksX2_quarries_0 : cX2_quarries.data.toList.drop 0 = dktX2_quarries_0 := by decide +kernel
theorem dksX2_quarries_1 : cX2_quarries.data.toList.drop 23 = dktX2_quarries_1 := dk_seg dksX2_quarries_0 23 rfl rfl
theorem dksX2_quarries_2 : cX2_quarries.data.toList.drop 47 = dktX2_quarries_2 := dk_seg dksX2_quarries_1 24 rfl rfl
theorem dksX2_quarries_3 : cX2_quarries.data.toList.drop 71 = dktX2_quarries_3 := dk_seg dksX2_quarries_2 24 rfl rfl
theorem dX2_quarries_0 : decode cX2_quarries 0 = .ok (.iload_n 1, 1) := dk_27 (dk_at dksX2_quarries_0 0 rfl rfl)
theorem dX2_quarries_1 : decode cX2_quarries 1 = .ok (.invokestatic 97, 3) := dk_184 0 97 (dk_at dksX2_quarries_0 1 rfl rfl)
theorem dX2_quarries_4 : decode cX2_quarries 4 = .ok (.ifCond .eq 29, 3) := dk_153 0 29 (dk_at dksX2_quarries_0 4 rfl rfl)
theorem dX2_quarries_7 : decode cX2_quarries 7 = .ok (.iload_n 2, 1) := dk_28 (dk_at dksX2_quarries_0 7 rfl rfl)
theorem dX2_quarries_8 : decode cX2_quarries 8 = .ok (.invokestatic 97, 3) := dk_184 0 97 (dk_at dksX2_quarries_0 8 rfl rfl)
theorem dX2_quarries_11 : decode cX2_quarries 11 = .ok (.ifCond .eq 22, 3) := dk_153 0 22 (dk_at dksX2_quarries_0 11 rfl rfl)
theorem dX2_quarries_14 : decode cX2_quarries 14 = .ok (.iload_n 3, 1) := dk_29 (dk_at dksX2_quarries_0 14 rfl rfl)
theorem dX2_quarries_15 : decode cX2_quarries 15 = .ok (.invokestatic 97, 3) := dk_184 0 97 (dk_at dksX2_quarries_0 15 rfl rfl)
theorem dX2_quarries_18 : decode cX2_quarries 18 = .ok (.ifCond .eq 15, 3) := dk_153 0 15 (dk_at dksX2_quarries_0 18 rfl rfl)
theorem dX2_quarries_21 : decode cX2_quarries 21 = .ok (.iload 4, 2) := dk_21 4 (dk_at dksX2_quarries_0 21 rfl rfl)
theorem dX2_quarries_23 : decode cX2_quarries 23 = .ok (.bipush 20, 2) := dk_16 20 (dk_at dksX2_quarries_1 0 rfl rfl)
theorem dX2_quarries_25 : decode cX2_quarries 25 = .ok (.bipush 30, 2) := dk_16 30 (dk_at dksX2_quarries_1 2 rfl rfl)
theorem dX2_quarries_27 : decode cX2_quarries 27 = .ok (.invokestatic 39, 3) := dk_184 0 39 (dk_at dksX2_quarries_1 4 rfl rfl)
theorem dX2_quarries_30 : decode cX2_quarries 30 = .ok (.ifCond .ne 6, 3) := dk_154 0 6 (dk_at dksX2_quarries_1 7 rfl rfl)
theorem dX2_quarries_33 : decode cX2_quarries 33 = .ok (.bipush (-2), 2) := dk_16 254 (dk_at dksX2_quarries_1 10 rfl rfl)
theorem dX2_quarries_35 : decode cX2_quarries 35 = .ok (.ireturn, 1) := dk_172 (dk_at dksX2_quarries_1 12 rfl rfl)
theorem dX2_quarries_36 : decode cX2_quarries 36 = .ok (.aload_n 0, 1) := dk_42 (dk_at dksX2_quarries_1 13 rfl rfl)
theorem dX2_quarries_37 : decode cX2_quarries 37 = .ok (.getfield 7, 3) := dk_180 0 7 (dk_at dksX2_quarries_1 14 rfl rfl)
theorem dX2_quarries_40 : decode cX2_quarries 40 = .ok (.iconst 5, 1) := dk_8 (dk_at dksX2_quarries_1 17 rfl rfl)
theorem dX2_quarries_41 : decode cX2_quarries 41 = .ok (.iaload, 1) := dk_46 (dk_at dksX2_quarries_1 18 rfl rfl)
theorem dX2_quarries_42 : decode cX2_quarries 42 = .ok (.bipush 24, 2) := dk_16 24 (dk_at dksX2_quarries_1 19 rfl rfl)
theorem dX2_quarries_44 : decode cX2_quarries 44 = .ok (.if_icmp .ne 6, 3) := dk_160 0 6 (dk_at dksX2_quarries_1 21 rfl rfl)
theorem dX2_quarries_47 : decode cX2_quarries 47 = .ok (.bipush (-4), 2) := dk_16 252 (dk_at dksX2_quarries_2 0 rfl rfl)
theorem dX2_quarries_49 : decode cX2_quarries 49 = .ok (.ireturn, 1) := dk_172 (dk_at dksX2_quarries_2 2 rfl rfl)
theorem dX2_quarries_50 : decode cX2_quarries 50 = .ok (.aload_n 0, 1) := dk_42 (dk_at dksX2_quarries_2 3 rfl rfl)
theorem dX2_quarries_51 : decode cX2_quarries 51 = .ok (.iload_n 1, 1) := dk_27 (dk_at dksX2_quarries_2 4 rfl rfl)
theorem dX2_quarries_52 : decode cX2_quarries 52 = .ok (.iload_n 2, 1) := dk_28 (dk_at dksX2_quarries_2 5 rfl rfl)
theorem dX2_quarries_53 : decode cX2_quarries 53 = .ok (.iload_n 3, 1) := dk_29 (dk_at dksX2_quarries_2 6 rfl rfl)
theorem dX2_quarries_54 : decode cX2_quarries 54 = .ok (.iload 4, 2) := dk_21 4 (dk_at dksX2_quarries_2 7 rfl rfl)
theorem dX2_quarries_56 : decode cX2_quarries 56 = .ok (.invokevirtual 54, 3) := dk_182 0 54 (dk_at dksX2_quarries_2 9 rfl rfl)
theorem dX2_quarries_59 : decode cX2_quarries 59 = .ok (.istore 5, 2) := dk_54 5 (dk_at dksX2_quarries_2 12 rfl rfl)
theorem dX2_quarries_61 : decode cX2_quarries 61 = .ok (.aload_n 0, 1) := dk_42 (dk_at dksX2_quarries_2 14 rfl rfl)
theorem dX2_quarries_62 : decode cX2_quarries 62 = .ok (.getfield 7, 3) := dk_180 0 7 (dk_at dksX2_quarries_2 15 rfl rfl)
theorem dX2_quarries_65 : decode cX2_quarries 65 = .ok (.iload 5, 2) := dk_21 5 (dk_at dksX2_quarries_2 18 rfl rfl)
theorem dX2_quarries_67 : decode cX2_quarries 67 = .ok (.iconst 5, 1) := dk_8 (dk_at dksX2_quarries_2 20 rfl rfl)
theorem dX2_quarries_68 : decode cX2_quarries 68 = .ok (.invokestatic 47, 3) := dk_184 0 47 (dk_at dksX2_quarries_2 21 rfl rfl)
theorem dX2_quarries_71 : decode cX2_quarries 71 = .ok (.iconst 3, 1) := dk_6 (dk_at dksX2_quarries_3 0 rfl rfl)
theorem dX2_quarries_72 : decode cX2_quarries 72 = .ok (.iastore, 1) := dk_79 (dk_at dksX2_quarries_3 1 rfl rfl)
theorem dX2_quarries_73 : decode cX2_quarries 73 = .ok (.aload_n 0, 1) := dk_42 (dk_at dksX2_quarries_3 2 rfl rfl)
theorem dX2_quarries_74 : decode cX2_quarries 74 = .ok (.getfield 7, 3) := dk_180 0 7 (dk_at dksX2_quarries_3 3 rfl rfl)
theorem dX2_quarries_77 : decode cX2_quarries 77 = .ok (.bipush 8, 2) := dk_16 8 (dk_at dksX2_quarries_3 6 rfl rfl)
theorem dX2_quarries_79 : decode cX2_quarries 79 = .ok (.dup2, 1) := dk_92 (dk_at dksX2_quarries_3 8 rfl rfl)
theorem dX2_quarries_80 : decode cX2_quarries 80 = .ok (.iaload, 1) := dk_46 (dk_at dksX2_quarries_3 9 rfl rfl)
theorem dX2_quarries_81 : decode cX2_quarries 81 = .ok (.aload_n 0, 1) := dk_42 (dk_at dksX2_quarries_3 10 rfl rfl)
theorem dX2_quarries_82 : decode cX2_quarries 82 = .ok (.iload 5, 2) := dk_21 5 (dk_at dksX2_quarries_3 11 rfl rfl)
theorem dX2_quarries_84 : decode cX2_quarries 84 = .ok (.invokevirtual 58, 3) := dk_182 0 58 (dk_at dksX2_quarries_3 13 rfl rfl)
theorem dX2_quarries_87 : decode cX2_quarries 87 = .ok (.iadd, 1) := dk_96 (dk_at dksX2_quarries_3 16 rfl rfl)
theorem dX2_quarries_88 : decode cX2_quarries 88 = .ok (.iastore, 1) := dk_79 (dk_at dksX2_quarries_3 17 rfl rfl)
theorem dX2_quarries_89 : decode cX2_quarries 89 = .ok (.iload 5, 2) := dk_21 5 (dk_at dksX2_quarries_3 18 rfl rfl)
theorem dX2_quarries_91 : decode cX2_quarries 91 = .ok (.ireturn, 1) := dk_172 (dk_at dksX2_quarries_3 20 rfl rfl)
abbrev cX2_isSize : ByteArray := prog_8_method_16_code
def yX2_isSize : MethodName := ⟨RX2, "isSize", "(I)Z"⟩
def dkwX2_isSize_0 : List UInt8 := [26, 4, 17, 1, 44, 184, 0, 39, 172]
abbrev dktX2_isSize_0 : List UInt8 := dkwX2_isSize_0 ++ []
theorem dksX2_isSize_0 : cX2_isSize.data.toList.drop 0 = dktX2_isSize_0 := by decide +kernel
theorem dX2_isSize_0 : decode cX2_isSize 0 = .ok (.iload_n 0, 1) := dk_26 (dk_at dksX2_isSize_0 0 rfl rfl)
theorem dX2_isSize_1 : decode cX2_isSize 1 = .ok (.iconst 1, 1) := dk_4 (dk_at dksX2_isSize_0 1 rfl rfl)
theorem dX2_isSize_2 : decode cX2_isSize 2 = .ok (.sipush 300, 3) := dk_17 1 44 (dk_at dksX2_isSize_0 2 rfl rfl)
theorem dX2_isSize_5 : decode cX2_isSize 5 = .ok (.invokestatic 39, 3) := dk_184 0 39 (dk_at dksX2_isSize_0 5 rfl rfl)
theorem dX2_isSize_8 : decode cX2_isSize 8 = .ok (.ireturn, 1) := dk_172 (dk_at dksX2_isSize_0 8 rfl rfl)
abbrev cX2_newBlock : ByteArray := prog_8_method_17_code
def yX2_newBlock : MethodName := ⟨RX2, "newBlock", "(IIII)I"⟩
def dkwX2_newBlock_5 : List UInt8 := [184, 0, 47, 16, 250, 79, 42, 180, 0, 7, 21, 5, 16, 9, 184, 0, 47, 16, 250, 79, 21, 5, 172]
abbrev dktX2_newBlock_5 : List UInt8 := dkwX2_newBlock_5 ++ []
def dkwX2_newBlock_4 : List UInt8 := [79, 42, 180, 0, 7, 21, 5, 16, 7, 184, 0, 47, 16, 250, 79, 42, 180, 0, 7, 21, 5, 16, 8]
abbrev dktX2_newBlock_4 : List UInt8 := dkwX2_newBlock_4 ++ dktX2_newBlock_5
def dkwX2_newBlock_3 : List UInt8 := [42, 180, 0, 7, 21, 5, 5, 184, 0, 47, 29, 79, 42, 180, 0, 7, 21, 5, 6, 184, 0, 47, 21, 4]
abbrev dktX2_newBlock_3 : List UInt8 := dkwX2_newBlock_3 ++ dktX2_newBlock_4
def dkwX2_newBlock_2 : List UInt8 := [42, 180, 0, 7, 21, 5, 3, 184, 0, 47, 27, 79, 42, 180, 0, 7, 21, 5, 4, 184, 0, 47, 28, 79]
abbrev dktX2_newBlock_2 : List UInt8 := dkwX2_newBlock_2 ++ dktX2_newBlock_3
def dkwX2_newBlock_1 : List UInt8 := [16, 10, 162, 0, 22, 42, 180, 0, 7, 21, 5, 21, 6, 184, 0, 47, 3, 79, 132, 6, 1, 167, 255, 233]
abbrev dktX2_newBlock_1 : List UInt8 := dkwX2_newBlock_1 ++ dktX2_newBlock_2
def dkwX2_newBlock_0 : List UInt8 := [42, 180, 0, 7, 8, 46, 54, 5, 42, 180, 0, 7, 8, 92, 46, 4, 96, 79, 3, 54, 6, 21, 6]
abbrev dktX2_newBlock_0 : List UInt8 := dkwX2_newBlock_0 ++ dktX2_newBlock_1
theorem dksX2_newBlock_0 : cX2_newBlock.data.toList.drop 0 = dktX2_newBlock_0 := by decide +kernel
theorem dksX2_newBlock_1 : cX2_newBlock.data.toList.drop 23 = dktX2_newBlock_1 := dk_seg dksX2_newBlock_0 23 rfl rfl
theorem dksX2_newBlock_2 : cX2_newBlock.data.toList.drop 47 = dktX2_newBlock_2 := dk_seg dksX2_newBlock_1 24 rfl rfl
theorem dksX2_newBlock_3 : cX2_newBlock.data.toList.drop 71 = dktX2_newBlock_3 := dk_seg dksX2_newBlock_2 24 rfl rfl
theorem dksX2_newBlock_4 : cX2_newBlock.data.toList.drop 95 = dktX2_newBlock_4 := dk_seg dksX2_newBlock_3 24 rfl rfl
theorem dksX2_newBlock_5 : cX2_newBlock.data.toList.drop 118 = dktX2_newBlock_5 := dk_seg dksX2_newBlock_4 23 rfl rfl
theorem dX2_newBlock_0 : decode cX2_newBlock 0 = .ok (.aload_n 0, 1) := dk_42 (dk_at dksX2_newBlock_0 0 rfl rfl)
theorem dX2_newBlock_1 : decode cX2_newBlock 1 = .ok (.getfield 7, 3) := dk_180 0 7 (dk_at dksX2_newBlock_0 1 rfl rfl)
theorem dX2_newBlock_4 : decode cX2_newBlock 4 = .ok (.iconst 5, 1) := dk_8 (dk_at dksX2_newBlock_0 4 rfl rfl)
theorem dX2_newBlock_5 : decode cX2_newBlock 5 = .ok (.iaload, 1) := dk_46 (dk_at dksX2_newBlock_0 5 rfl rfl)
theorem dX2_newBlock_6 : decode cX2_newBlock 6 = .ok (.istore 5, 2) := dk_54 5 (dk_at dksX2_newBlock_0 6 rfl rfl)
theorem dX2_newBlock_8 : decode cX2_newBlock 8 = .ok (.aload_n 0, 1) := dk_42 (dk_at dksX2_newBlock_0 8 rfl rfl)
theorem dX2_newBlock_9 : decode cX2_newBlock 9 = .ok (.getfield 7, 3) := dk_180 0 7 (dk_at dksX2_newBlock_0 9 rfl rfl)
theorem dX2_newBlock_12 : decode cX2_newBlock 12 = .ok (.iconst 5, 1) := dk_8 (dk_at dksX2_newBlock_0 12 rfl rfl)
theorem dX2_newBlock_13 : decode cX2_newBlock 13 = .ok (.dup2, 1) := dk_92 (dk_at dksX2_newBlock_0 13 rfl rfl)
theorem dX2_newBlock_14 : decode cX2_newBlock 14 = .ok (.iaload, 1) := dk_46 (dk_at dksX2_newBlock_0 14 rfl rfl)
theorem dX2_newBlock_15 : decode cX2_newBlock 15 = .ok (.iconst 1, 1) := dk_4 (dk_at dksX2_newBlock_0 15 rfl rfl)
theorem dX2_newBlock_16 : decode cX2_newBlock 16 = .ok (.iadd, 1) := dk_96 (dk_at dksX2_newBlock_0 16 rfl rfl)
theorem dX2_newBlock_17 : decode cX2_newBlock 17 = .ok (.iastore, 1) := dk_79 (dk_at dksX2_newBlock_0 17 rfl rfl)
theorem dX2_newBlock_18 : decode cX2_newBlock 18 = .ok (.iconst 0, 1) := dk_3 (dk_at dksX2_newBlock_0 18 rfl rfl)
theorem dX2_newBlock_19 : decode cX2_newBlock 19 = .ok (.istore 6, 2) := dk_54 6 (dk_at dksX2_newBlock_0 19 rfl rfl)
theorem dX2_newBlock_21 : decode cX2_newBlock 21 = .ok (.iload 6, 2) := dk_21 6 (dk_at dksX2_newBlock_0 21 rfl rfl)
theorem dX2_newBlock_23 : decode cX2_newBlock 23 = .ok (.bipush 10, 2) := dk_16 10 (dk_at dksX2_newBlock_1 0 rfl rfl)
theorem dX2_newBlock_25 : decode cX2_newBlock 25 = .ok (.if_icmp .ge 22, 3) := dk_162 0 22 (dk_at dksX2_newBlock_1 2 rfl rfl)
theorem dX2_newBlock_28 : decode cX2_newBlock 28 = .ok (.aload_n 0, 1) := dk_42 (dk_at dksX2_newBlock_1 5 rfl rfl)
theorem dX2_newBlock_29 : decode cX2_newBlock 29 = .ok (.getfield 7, 3) := dk_180 0 7 (dk_at dksX2_newBlock_1 6 rfl rfl)
theorem dX2_newBlock_32 : decode cX2_newBlock 32 = .ok (.iload 5, 2) := dk_21 5 (dk_at dksX2_newBlock_1 9 rfl rfl)
theorem dX2_newBlock_34 : decode cX2_newBlock 34 = .ok (.iload 6, 2) := dk_21 6 (dk_at dksX2_newBlock_1 11 rfl rfl)
theorem dX2_newBlock_36 : decode cX2_newBlock 36 = .ok (.invokestatic 47, 3) := dk_184 0 47 (dk_at dksX2_newBlock_1 13 rfl rfl)
theorem dX2_newBlock_39 : decode cX2_newBlock 39 = .ok (.iconst 0, 1) := dk_3 (dk_at dksX2_newBlock_1 16 rfl rfl)
theorem dX2_newBlock_40 : decode cX2_newBlock 40 = .ok (.iastore, 1) := dk_79 (dk_at dksX2_newBlock_1 17 rfl rfl)
theorem dX2_newBlock_41 : decode cX2_newBlock 41 = .ok (.iinc 6 1, 3) := dk_132 6 1 (dk_at dksX2_newBlock_1 18 rfl rfl)
theorem dX2_newBlock_44 : decode cX2_newBlock 44 = .ok (.goto (-23), 3) := dk_167 255 233 (dk_at dksX2_newBlock_1 21 rfl rfl)
theorem dX2_newBlock_47 : decode cX2_newBlock 47 = .ok (.aload_n 0, 1) := dk_42 (dk_at dksX2_newBlock_2 0 rfl rfl)
theorem dX2_newBlock_48 : decode cX2_newBlock 48 = .ok (.getfield 7, 3) := dk_180 0 7 (dk_at dksX2_newBlock_2 1 rfl rfl)
theorem dX2_newBlock_51 : decode cX2_newBlock 51 = .ok (.iload 5, 2) := dk_21 5 (dk_at dksX2_newBlock_2 4 rfl rfl)
theorem dX2_newBlock_53 : decode cX2_newBlock 53 = .ok (.iconst 0, 1) := dk_3 (dk_at dksX2_newBlock_2 6 rfl rfl)
theorem dX2_newBlock_54 : decode cX2_newBlock 54 = .ok (.invokestatic 47, 3) := dk_184 0 47 (dk_at dksX2_newBlock_2 7 rfl rfl)
theorem dX2_newBlock_57 : decode cX2_newBlock 57 = .ok (.iload_n 1, 1) := dk_27 (dk_at dksX2_newBlock_2 10 rfl rfl)
theorem dX2_newBlock_58 : decode cX2_newBlock 58 = .ok (.iastore, 1) := dk_79 (dk_at dksX2_newBlock_2 11 rfl rfl)
theorem dX2_newBlock_59 : decode cX2_newBlock 59 = .ok (.aload_n 0, 1) := dk_42 (dk_at dksX2_newBlock_2 12 rfl rfl)
theorem dX2_newBlock_60 : decode cX2_newBlock 60 = .ok (.getfield 7, 3) := dk_180 0 7 (dk_at dksX2_newBlock_2 13 rfl rfl)
theorem dX2_newBlock_63 : decode cX2_newBlock 63 = .ok (.iload 5, 2) := dk_21 5 (dk_at dksX2_newBlock_2 16 rfl rfl)
theorem dX2_newBlock_65 : decode cX2_newBlock 65 = .ok (.iconst 1, 1) := dk_4 (dk_at dksX2_newBlock_2 18 rfl rfl)
theorem dX2_newBlock_66 : decode cX2_newBlock 66 = .ok (.invokestatic 47, 3) := dk_184 0 47 (dk_at dksX2_newBlock_2 19 rfl rfl)
theorem dX2_newBlock_69 : decode cX2_newBlock 69 = .ok (.iload_n 2, 1) := dk_28 (dk_at dksX2_newBlock_2 22 rfl rfl)
theorem dX2_newBlock_70 : decode cX2_newBlock 70 = .ok (.iastore, 1) := dk_79 (dk_at dksX2_newBlock_2 23 rfl rfl)
theorem dX2_newBlock_71 : decode cX2_newBlock 71 = .ok (.aload_n 0, 1) := dk_42 (dk_at dksX2_newBlock_3 0 rfl rfl)
theorem dX2_newBlock_72 : decode cX2_newBlock 72 = .ok (.getfield 7, 3) := dk_180 0 7 (dk_at dksX2_newBlock_3 1 rfl rfl)
theorem dX2_newBlock_75 : decode cX2_newBlock 75 = .ok (.iload 5, 2) := dk_21 5 (dk_at dksX2_newBlock_3 4 rfl rfl)
theorem dX2_newBlock_77 : decode cX2_newBlock 77 = .ok (.iconst 2, 1) := dk_5 (dk_at dksX2_newBlock_3 6 rfl rfl)
theorem dX2_newBlock_78 : decode cX2_newBlock 78 = .ok (.invokestatic 47, 3) := dk_184 0 47 (dk_at dksX2_newBlock_3 7 rfl rfl)
theorem dX2_newBlock_81 : decode cX2_newBlock 81 = .ok (.iload_n 3, 1) := dk_29 (dk_at dksX2_newBlock_3 10 rfl rfl)
theorem dX2_newBlock_82 : decode cX2_newBlock 82 = .ok (.iastore, 1) := dk_79 (dk_at dksX2_newBlock_3 11 rfl rfl)
theorem dX2_newBlock_83 : decode cX2_newBlock 83 = .ok (.aload_n 0, 1) := dk_42 (dk_at dksX2_newBlock_3 12 rfl rfl)
theorem dX2_newBlock_84 : decode cX2_newBlock 84 = .ok (.getfield 7, 3) := dk_180 0 7 (dk_at dksX2_newBlock_3 13 rfl rfl)
theorem dX2_newBlock_87 : decode cX2_newBlock 87 = .ok (.iload 5, 2) := dk_21 5 (dk_at dksX2_newBlock_3 16 rfl rfl)
theorem dX2_newBlock_89 : decode cX2_newBlock 89 = .ok (.iconst 3, 1) := dk_6 (dk_at dksX2_newBlock_3 18 rfl rfl)
theorem dX2_newBlock_90 : decode cX2_newBlock 90 = .ok (.invokestatic 47, 3) := dk_184 0 47 (dk_at dksX2_newBlock_3 19 rfl rfl)
theorem dX2_newBlock_93 : decode cX2_newBlock 93 = .ok (.iload 4, 2) := dk_21 4 (dk_at dksX2_newBlock_3 22 rfl rfl)
theorem dX2_newBlock_95 : decode cX2_newBlock 95 = .ok (.iastore, 1) := dk_79 (dk_at dksX2_newBlock_4 0 rfl rfl)
theorem dX2_newBlock_96 : decode cX2_newBlock 96 = .ok (.aload_n 0, 1) := dk_42 (dk_at dksX2_newBlock_4 1 rfl rfl)
theorem dX2_newBlock_97 : decode cX2_newBlock 97 = .ok (.getfield 7, 3) := dk_180 0 7 (dk_at dksX2_newBlock_4 2 rfl rfl)
theorem dX2_newBlock_100 : decode cX2_newBlock 100 = .ok (.iload 5, 2) := dk_21 5 (dk_at dksX2_newBlock_4 5 rfl rfl)
theorem dX2_newBlock_102 : decode cX2_newBlock 102 = .ok (.bipush 7, 2) := dk_16 7 (dk_at dksX2_newBlock_4 7 rfl rfl)
theorem dX2_newBlock_104 : decode cX2_newBlock 104 = .ok (.invokestatic 47, 3) := dk_184 0 47 (dk_at dksX2_newBlock_4 9 rfl rfl)
theorem dX2_newBlock_107 : decode cX2_newBlock 107 = .ok (.bipush (-6), 2) := dk_16 250 (dk_at dksX2_newBlock_4 12 rfl rfl)
theorem dX2_newBlock_109 : decode cX2_newBlock 109 = .ok (.iastore, 1) := dk_79 (dk_at dksX2_newBlock_4 14 rfl rfl)
theorem dX2_newBlock_110 : decode cX2_newBlock 110 = .ok (.aload_n 0, 1) := dk_42 (dk_at dksX2_newBlock_4 15 rfl rfl)
theorem dX2_newBlock_111 : decode cX2_newBlock 111 = .ok (.getfield 7, 3) := dk_180 0 7 (dk_at dksX2_newBlock_4 16 rfl rfl)
theorem dX2_newBlock_114 : decode cX2_newBlock 114 = .ok (.iload 5, 2) := dk_21 5 (dk_at dksX2_newBlock_4 19 rfl rfl)
theorem dX2_newBlock_116 : decode cX2_newBlock 116 = .ok (.bipush 8, 2) := dk_16 8 (dk_at dksX2_newBlock_4 21 rfl rfl)
theorem dX2_newBlock_118 : decode cX2_newBlock 118 = .ok (.invokestatic 47, 3) := dk_184 0 47 (dk_at dksX2_newBlock_5 0 rfl rfl)
theorem dX2_newBlock_121 : decode cX2_newBlock 121 = .ok (.bipush (-6), 2) := dk_16 250 (dk_at dksX2_newBlock_5 3 rfl rfl)
theorem dX2_newBlock_123 : decode cX2_newBlock 123 = .ok (.iastore, 1) := dk_79 (dk_at dksX2_newBlock_5 5 rfl rfl)
theorem dX2_newBlock_124 : decode cX2_newBlock 124 = .ok (.aload_n 0, 1) := dk_42 (dk_at dksX2_newBlock_5 6 rfl rfl)
theorem dX2_newBlock_125 : decode cX2_newBlock 125 = .ok (.getfield 7, 3) := dk_180 0 7 (dk_at dksX2_newBlock_5 7 rfl rfl)
theorem dX2_newBlock_128 : decode cX2_newBlock 128 = .ok (.iload 5, 2) := dk_21 5 (dk_at dksX2_newBlock_5 10 rfl rfl)
theorem dX2_newBlock_130 : decode cX2_newBlock 130 = .ok (.bipush 9, 2) := dk_16 9 (dk_at dksX2_newBlock_5 12 rfl rfl)
theorem dX2_newBlock_132 : decode cX2_newBlock 132 = .ok (.invokestatic 47, 3) := dk_184 0 47 (dk_at dksX2_newBlock_5 14 rfl rfl)
theorem dX2_newBlock_135 : decode cX2_newBlock 135 = .ok (.bipush (-6), 2) := dk_16 250 (dk_at dksX2_newBlock_5 17 rfl rfl)
theorem dX2_newBlock_137 : decode cX2_newBlock 137 = .ok (.iastore, 1) := dk_79 (dk_at dksX2_newBlock_5 19 rfl rfl)
theorem dX2_newBlock_138 : decode cX2_newBlock 138 = .ok (.iload 5, 2) := dk_21 5 (dk_at dksX2_newBlock_5 20 rfl rfl)
theorem dX2_newBlock_140 : decode cX2_newBlock 140 = .ok (.ireturn, 1) := dk_172 (dk_at dksX2_newBlock_5 22 rfl rfl)
abbrev cX2_at : ByteArray := prog_8_method_7_code
def yX2_at : MethodName := ⟨RX2, "at", "(II)I"⟩
def dkwX2_at_0 : List UInt8 := [16, 12, 16, 10, 26, 104, 96, 27, 96, 172]
abbrev dktX2_at_0 : List UInt8 := dkwX2_at_0 ++ []
theorem dksX2_at_0 : cX2_at.data.toList.drop 0 = dktX2_at_0 := by decide +kernel
theorem dX2_at_0 : decode cX2_at 0 = .ok (.bipush 12, 2) := dk_16 12 (dk_at dksX2_at_0 0 rfl rfl)
theorem dX2_at_2 : decode cX2_at 2 = .ok (.bipush 10, 2) := dk_16 10 (dk_at dksX2_at_0 2 rfl rfl)
theorem dX2_at_4 : decode cX2_at 4 = .ok (.iload_n 0, 1) := dk_26 (dk_at dksX2_at_0 4 rfl rfl)
theorem dX2_at_5 : decode cX2_at 5 = .ok (.imul, 1) := dk_104 (dk_at dksX2_at_0 5 rfl rfl)
theorem dX2_at_6 : decode cX2_at 6 = .ok (.iadd, 1) := dk_96 (dk_at dksX2_at_0 6 rfl rfl)
theorem dX2_at_7 : decode cX2_at 7 = .ok (.iload_n 1, 1) := dk_27 (dk_at dksX2_at_0 7 rfl rfl)
theorem dX2_at_8 : decode cX2_at 8 = .ok (.iadd, 1) := dk_96 (dk_at dksX2_at_0 8 rfl rfl)
theorem dX2_at_9 : decode cX2_at 9 = .ok (.ireturn, 1) := dk_172 (dk_at dksX2_at_0 9 rfl rfl)
abbrev cX2_weight : ByteArray := prog_8_method_12_code
def yX2_weight : MethodName := ⟨RX2, "weight", "(I)I"⟩
def dkwX2_weight_2 : List UInt8 := [108, 172]
abbrev dktX2_weight_2 : List UInt8 := dkwX2_weight_2 ++ []
def dkwX2_weight_1 : List UInt8 := [180, 0, 7, 27, 5, 184, 0, 47, 46, 104, 42, 180, 0, 7, 27, 6, 184, 0, 47, 46, 104, 17, 39, 16]
abbrev dktX2_weight_1 : List UInt8 := dkwX2_weight_1 ++ dktX2_weight_2
def dkwX2_weight_0 : List UInt8 := [42, 180, 0, 7, 27, 3, 184, 0, 47, 46, 42, 180, 0, 7, 27, 4, 184, 0, 47, 46, 104, 42]
abbrev dktX2_weight_0 : List UInt8 := dkwX2_weight_0 ++ dktX2_weight_1
theorem dksX2_weight_0 : cX2_weight.data.toList.drop 0 = dktX2_weight_0 := by decide +kernel
theorem dksX2_weight_1 : cX2_weight.data.toList.drop 22 = dktX2_weight_1 := dk_seg dksX2_weight_0 22 rfl rfl
theorem dksX2_weight_2 : cX2_weight.data.toList.drop 46 = dktX2_weight_2 := dk_seg dksX2_weight_1 24 rfl rfl
theorem dX2_weight_0 : decode cX2_weight 0 = .ok (.aload_n 0, 1) := dk_42 (dk_at dksX2_weight_0 0 rfl rfl)
theorem dX2_weight_1 : decode cX2_weight 1 = .ok (.getfield 7, 3) := dk_180 0 7 (dk_at dksX2_weight_0 1 rfl rfl)
theorem dX2_weight_4 : decode cX2_weight 4 = .ok (.iload_n 1, 1) := dk_27 (dk_at dksX2_weight_0 4 rfl rfl)
theorem dX2_weight_5 : decode cX2_weight 5 = .ok (.iconst 0, 1) := dk_3 (dk_at dksX2_weight_0 5 rfl rfl)
theorem dX2_weight_6 : decode cX2_weight 6 = .ok (.invokestatic 47, 3) := dk_184 0 47 (dk_at dksX2_weight_0 6 rfl rfl)
theorem dX2_weight_9 : decode cX2_weight 9 = .ok (.iaload, 1) := dk_46 (dk_at dksX2_weight_0 9 rfl rfl)
theorem dX2_weight_10 : decode cX2_weight 10 = .ok (.aload_n 0, 1) := dk_42 (dk_at dksX2_weight_0 10 rfl rfl)
theorem dX2_weight_11 : decode cX2_weight 11 = .ok (.getfield 7, 3) := dk_180 0 7 (dk_at dksX2_weight_0 11 rfl rfl)
theorem dX2_weight_14 : decode cX2_weight 14 = .ok (.iload_n 1, 1) := dk_27 (dk_at dksX2_weight_0 14 rfl rfl)
theorem dX2_weight_15 : decode cX2_weight 15 = .ok (.iconst 1, 1) := dk_4 (dk_at dksX2_weight_0 15 rfl rfl)
theorem dX2_weight_16 : decode cX2_weight 16 = .ok (.invokestatic 47, 3) := dk_184 0 47 (dk_at dksX2_weight_0 16 rfl rfl)
theorem dX2_weight_19 : decode cX2_weight 19 = .ok (.iaload, 1) := dk_46 (dk_at dksX2_weight_0 19 rfl rfl)
theorem dX2_weight_20 : decode cX2_weight 20 = .ok (.imul, 1) := dk_104 (dk_at dksX2_weight_0 20 rfl rfl)
theorem dX2_weight_21 : decode cX2_weight 21 = .ok (.aload_n 0, 1) := dk_42 (dk_at dksX2_weight_0 21 rfl rfl)
theorem dX2_weight_22 : decode cX2_weight 22 = .ok (.getfield 7, 3) := dk_180 0 7 (dk_at dksX2_weight_1 0 rfl rfl)
theorem dX2_weight_25 : decode cX2_weight 25 = .ok (.iload_n 1, 1) := dk_27 (dk_at dksX2_weight_1 3 rfl rfl)
theorem dX2_weight_26 : decode cX2_weight 26 = .ok (.iconst 2, 1) := dk_5 (dk_at dksX2_weight_1 4 rfl rfl)
theorem dX2_weight_27 : decode cX2_weight 27 = .ok (.invokestatic 47, 3) := dk_184 0 47 (dk_at dksX2_weight_1 5 rfl rfl)
theorem dX2_weight_30 : decode cX2_weight 30 = .ok (.iaload, 1) := dk_46 (dk_at dksX2_weight_1 8 rfl rfl)
theorem dX2_weight_31 : decode cX2_weight 31 = .ok (.imul, 1) := dk_104 (dk_at dksX2_weight_1 9 rfl rfl)
theorem dX2_weight_32 : decode cX2_weight 32 = .ok (.aload_n 0, 1) := dk_42 (dk_at dksX2_weight_1 10 rfl rfl)
theorem dX2_weight_33 : decode cX2_weight 33 = .ok (.getfield 7, 3) := dk_180 0 7 (dk_at dksX2_weight_1 11 rfl rfl)
theorem dX2_weight_36 : decode cX2_weight 36 = .ok (.iload_n 1, 1) := dk_27 (dk_at dksX2_weight_1 14 rfl rfl)
theorem dX2_weight_37 : decode cX2_weight 37 = .ok (.iconst 3, 1) := dk_6 (dk_at dksX2_weight_1 15 rfl rfl)
theorem dX2_weight_38 : decode cX2_weight 38 = .ok (.invokestatic 47, 3) := dk_184 0 47 (dk_at dksX2_weight_1 16 rfl rfl)
theorem dX2_weight_41 : decode cX2_weight 41 = .ok (.iaload, 1) := dk_46 (dk_at dksX2_weight_1 19 rfl rfl)
theorem dX2_weight_42 : decode cX2_weight 42 = .ok (.imul, 1) := dk_104 (dk_at dksX2_weight_1 20 rfl rfl)
theorem dX2_weight_43 : decode cX2_weight 43 = .ok (.sipush 10000, 3) := dk_17 39 16 (dk_at dksX2_weight_1 21 rfl rfl)
theorem dX2_weight_46 : decode cX2_weight 46 = .ok (.idiv, 1) := dk_108 (dk_at dksX2_weight_2 0 rfl rfl)
theorem dX2_weight_47 : decode cX2_weight 47 = .ok (.ireturn, 1) := dk_172 (dk_at dksX2_weight_2 1 rfl rfl)
abbrev cX2_cuts : ByteArray := prog_8_method_33_code
def yX2_cuts : MethodName := ⟨RX2, "cuts", "(III)I"⟩
def dkwX2_cuts_8 : List UInt8 := [21, 5, 172]
abbrev dktX2_cuts_8 : List UInt8 := dkwX2_cuts_8 ++ []
def dkwX2_cuts_7 : List UInt8 := [153, 0, 15, 42, 182, 0, 112, 7, 162, 0, 7, 4, 167, 0, 4, 3, 79, 132, 7, 1, 167, 255, 215]
abbrev dktX2_cuts_7 : List UInt8 := dkwX2_cuts_7 ++ dktX2_cuts_8
def dkwX2_cuts_6 : List UInt8 := [54, 7, 21, 7, 21, 5, 5, 96, 162, 0, 38, 42, 180, 0, 7, 21, 7, 7, 184, 0, 47, 21, 6]
abbrev dktX2_cuts_6 : List UInt8 := dkwX2_cuts_6 ++ dktX2_cuts_7
def dkwX2_cuts_5 : List UInt8 := [182, 0, 109, 42, 27, 28, 21, 4, 182, 0, 109, 42, 180, 0, 7, 27, 7, 184, 0, 47, 7, 79, 21, 5]
abbrev dktX2_cuts_5 : List UInt8 := dkwX2_cuts_5 ++ dktX2_cuts_6
def dkwX2_cuts_4 : List UInt8 := [182, 0, 50, 54, 6, 42, 180, 0, 7, 16, 9, 92, 46, 42, 27, 182, 0, 58, 96, 79, 42, 27, 28, 29]
abbrev dktX2_cuts_4 : List UInt8 := dkwX2_cuts_4 ++ dktX2_cuts_5
def dkwX2_cuts_3 : List UInt8 := [8, 46, 5, 96, 16, 24, 164, 0, 6, 16, 252, 172, 42, 180, 0, 7, 8, 46, 54, 5, 42, 27, 4]
abbrev dktX2_cuts_3 : List UInt8 := dkwX2_cuts_3 ++ dktX2_cuts_4
def dkwX2_cuts_2 : List UInt8 := [100, 54, 4, 42, 27, 182, 0, 106, 153, 0, 9, 21, 4, 4, 162, 0, 6, 16, 251, 172, 42, 180, 0, 7]
abbrev dktX2_cuts_2 : List UInt8 := dkwX2_cuts_2 ++ dktX2_cuts_3
def dkwX2_cuts_1 : List UInt8 := [154, 0, 6, 16, 254, 172, 42, 180, 0, 7, 27, 28, 184, 0, 47, 46, 29, 100, 42, 180, 0, 7, 3, 46]
abbrev dktX2_cuts_1 : List UInt8 := dkwX2_cuts_1 ++ dktX2_cuts_2
def dkwX2_cuts_0 : List UInt8 := [42, 27, 182, 0, 103, 154, 0, 5, 2, 172, 28, 3, 5, 184, 0, 39, 153, 0, 10, 29, 184, 0, 97]
abbrev dktX2_cuts_0 : List UInt8 := dkwX2_cuts_0 ++ dktX2_cuts_1
theorem dksX2_cuts_0 : cX2_cuts.data.toList.drop 0 = dktX2_cuts_0 := by decide +kernel
theorem dksX2_cuts_1 : cX2_cuts.data.toList.drop 23 = dktX2_cuts_1 := dk_seg dksX2_cuts_0 23 rfl rfl
theorem dksX2_cuts_2 : cX2_cuts.data.toList.drop 47 = dktX2_cuts_2 := dk_seg dksX2_cuts_1 24 rfl rfl
theorem dksX2_cuts_3 : cX2_cuts.data.toList.drop 71 = dktX2_cuts_3 := dk_seg dksX2_cuts_2 24 rfl rfl
theorem dksX2_cuts_4 : cX2_cuts.data.toList.drop 94 = dktX2_cuts_4 := dk_seg dksX2_cuts_3 23 rfl rfl
theorem dksX2_cuts_5 : cX2_cuts.data.toList.drop 118 = dktX2_cuts_5 := dk_seg dksX2_cuts_4 24 rfl rfl
theorem dksX2_cuts_6 : cX2_cuts.data.toList.drop 142 = dktX2_cuts_6 := dk_seg dksX2_cuts_5 24 rfl rfl
theorem dksX2_cuts_7 : cX2_cuts.data.toList.drop 165 = dktX2_cuts_7 := dk_seg dksX2_cuts_6 23 rfl rfl
theorem dksX2_cuts_8 : cX2_cuts.data.toList.drop 188 = dktX2_cuts_8 := dk_seg dksX2_cuts_7 23 rfl rfl
theorem dX2_cuts_0 : decode cX2_cuts 0 = .ok (.aload_n 0, 1) := dk_42 (dk_at dksX2_cuts_0 0 rfl rfl)
theorem dX2_cuts_1 : decode cX2_cuts 1 = .ok (.iload_n 1, 1) := dk_27 (dk_at dksX2_cuts_0 1 rfl rfl)
theorem dX2_cuts_2 : decode cX2_cuts 2 = .ok (.invokevirtual 103, 3) := dk_182 0 103 (dk_at dksX2_cuts_0 2 rfl rfl)
theorem dX2_cuts_5 : decode cX2_cuts 5 = .ok (.ifCond .ne 5, 3) := dk_154 0 5 (dk_at dksX2_cuts_0 5 rfl rfl)
theorem dX2_cuts_8 : decode cX2_cuts 8 = .ok (.iconst (-1), 1) := dk_2 (dk_at dksX2_cuts_0 8 rfl rfl)
theorem dX2_cuts_9 : decode cX2_cuts 9 = .ok (.ireturn, 1) := dk_172 (dk_at dksX2_cuts_0 9 rfl rfl)
theorem dX2_cuts_10 : decode cX2_cuts 10 = .ok (.iload_n 2, 1) := dk_28 (dk_at dksX2_cuts_0 10 rfl rfl)
theorem dX2_cuts_11 : decode cX2_cuts 11 = .ok (.iconst 0, 1) := dk_3 (dk_at dksX2_cuts_0 11 rfl rfl)
theorem dX2_cuts_12 : decode cX2_cuts 12 = .ok (.iconst 2, 1) := dk_5 (dk_at dksX2_cuts_0 12 rfl rfl)
theorem dX2_cuts_13 : decode cX2_cuts 13 = .ok (.invokestatic 39, 3) := dk_184 0 39 (dk_at dksX2_cuts_0 13 rfl rfl)
theorem dX2_cuts_16 : decode cX2_cuts 16 = .ok (.ifCond .eq 10, 3) := dk_153 0 10 (dk_at dksX2_cuts_0 16 rfl rfl)
theorem dX2_cuts_19 : decode cX2_cuts 19 = .ok (.iload_n 3, 1) := dk_29 (dk_at dksX2_cuts_0 19 rfl rfl)
theorem dX2_cuts_20 : decode cX2_cuts 20 = .ok (.invokestatic 97, 3) := dk_184 0 97 (dk_at dksX2_cuts_0 20 rfl rfl)
theorem dX2_cuts_23 : decode cX2_cuts 23 = .ok (.ifCond .ne 6, 3) := dk_154 0 6 (dk_at dksX2_cuts_1 0 rfl rfl)
theorem dX2_cuts_26 : decode cX2_cuts 26 = .ok (.bipush (-2), 2) := dk_16 254 (dk_at dksX2_cuts_1 3 rfl rfl)
theorem dX2_cuts_28 : decode cX2_cuts 28 = .ok (.ireturn, 1) := dk_172 (dk_at dksX2_cuts_1 5 rfl rfl)
theorem dX2_cuts_29 : decode cX2_cuts 29 = .ok (.aload_n 0, 1) := dk_42 (dk_at dksX2_cuts_1 6 rfl rfl)
theorem dX2_cuts_30 : decode cX2_cuts 30 = .ok (.getfield 7, 3) := dk_180 0 7 (dk_at dksX2_cuts_1 7 rfl rfl)
theorem dX2_cuts_33 : decode cX2_cuts 33 = .ok (.iload_n 1, 1) := dk_27 (dk_at dksX2_cuts_1 10 rfl rfl)
theorem dX2_cuts_34 : decode cX2_cuts 34 = .ok (.iload_n 2, 1) := dk_28 (dk_at dksX2_cuts_1 11 rfl rfl)
theorem dX2_cuts_35 : decode cX2_cuts 35 = .ok (.invokestatic 47, 3) := dk_184 0 47 (dk_at dksX2_cuts_1 12 rfl rfl)
theorem dX2_cuts_38 : decode cX2_cuts 38 = .ok (.iaload, 1) := dk_46 (dk_at dksX2_cuts_1 15 rfl rfl)
theorem dX2_cuts_39 : decode cX2_cuts 39 = .ok (.iload_n 3, 1) := dk_29 (dk_at dksX2_cuts_1 16 rfl rfl)
theorem dX2_cuts_40 : decode cX2_cuts 40 = .ok (.isub, 1) := dk_100 (dk_at dksX2_cuts_1 17 rfl rfl)
theorem dX2_cuts_41 : decode cX2_cuts 41 = .ok (.aload_n 0, 1) := dk_42 (dk_at dksX2_cuts_1 18 rfl rfl)
theorem dX2_cuts_42 : decode cX2_cuts 42 = .ok (.getfield 7, 3) := dk_180 0 7 (dk_at dksX2_cuts_1 19 rfl rfl)
theorem dX2_cuts_45 : decode cX2_cuts 45 = .ok (.iconst 0, 1) := dk_3 (dk_at dksX2_cuts_1 22 rfl rfl)
theorem dX2_cuts_46 : decode cX2_cuts 46 = .ok (.iaload, 1) := dk_46 (dk_at dksX2_cuts_1 23 rfl rfl)
theorem dX2_cuts_47 : decode cX2_cuts 47 = .ok (.isub, 1) := dk_100 (dk_at dksX2_cuts_2 0 rfl rfl)
theorem dX2_cuts_48 : decode cX2_cuts 48 = .ok (.istore 4, 2) := dk_54 4 (dk_at dksX2_cuts_2 1 rfl rfl)
theorem dX2_cuts_50 : decode cX2_cuts 50 = .ok (.aload_n 0, 1) := dk_42 (dk_at dksX2_cuts_2 3 rfl rfl)
theorem dX2_cuts_51 : decode cX2_cuts 51 = .ok (.iload_n 1, 1) := dk_27 (dk_at dksX2_cuts_2 4 rfl rfl)
theorem dX2_cuts_52 : decode cX2_cuts 52 = .ok (.invokevirtual 106, 3) := dk_182 0 106 (dk_at dksX2_cuts_2 5 rfl rfl)
theorem dX2_cuts_55 : decode cX2_cuts 55 = .ok (.ifCond .eq 9, 3) := dk_153 0 9 (dk_at dksX2_cuts_2 8 rfl rfl)
theorem dX2_cuts_58 : decode cX2_cuts 58 = .ok (.iload 4, 2) := dk_21 4 (dk_at dksX2_cuts_2 11 rfl rfl)
theorem dX2_cuts_60 : decode cX2_cuts 60 = .ok (.iconst 1, 1) := dk_4 (dk_at dksX2_cuts_2 13 rfl rfl)
theorem dX2_cuts_61 : decode cX2_cuts 61 = .ok (.if_icmp .ge 6, 3) := dk_162 0 6 (dk_at dksX2_cuts_2 14 rfl rfl)
theorem dX2_cuts_64 : decode cX2_cuts 64 = .ok (.bipush (-5), 2) := dk_16 251 (dk_at dksX2_cuts_2 17 rfl rfl)
theorem dX2_cuts_66 : decode cX2_cuts 66 = .ok (.ireturn, 1) := dk_172 (dk_at dksX2_cuts_2 19 rfl rfl)
theorem dX2_cuts_67 : decode cX2_cuts 67 = .ok (.aload_n 0, 1) := dk_42 (dk_at dksX2_cuts_2 20 rfl rfl)
theorem dX2_cuts_68 : decode cX2_cuts 68 = .ok (.getfield 7, 3) := dk_180 0 7 (dk_at dksX2_cuts_2 21 rfl rfl)
theorem dX2_cuts_71 : decode cX2_cuts 71 = .ok (.iconst 5, 1) := dk_8 (dk_at dksX2_cuts_3 0 rfl rfl)
theorem dX2_cuts_72 : decode cX2_cuts 72 = .ok (.iaload, 1) := dk_46 (dk_at dksX2_cuts_3 1 rfl rfl)
theorem dX2_cuts_73 : decode cX2_cuts 73 = .ok (.iconst 2, 1) := dk_5 (dk_at dksX2_cuts_3 2 rfl rfl)
theorem dX2_cuts_74 : decode cX2_cuts 74 = .ok (.iadd, 1) := dk_96 (dk_at dksX2_cuts_3 3 rfl rfl)
theorem dX2_cuts_75 : decode cX2_cuts 75 = .ok (.bipush 24, 2) := dk_16 24 (dk_at dksX2_cuts_3 4 rfl rfl)
theorem dX2_cuts_77 : decode cX2_cuts 77 = .ok (.if_icmp .le 6, 3) := dk_164 0 6 (dk_at dksX2_cuts_3 6 rfl rfl)
theorem dX2_cuts_80 : decode cX2_cuts 80 = .ok (.bipush (-4), 2) := dk_16 252 (dk_at dksX2_cuts_3 9 rfl rfl)
theorem dX2_cuts_82 : decode cX2_cuts 82 = .ok (.ireturn, 1) := dk_172 (dk_at dksX2_cuts_3 11 rfl rfl)
theorem dX2_cuts_83 : decode cX2_cuts 83 = .ok (.aload_n 0, 1) := dk_42 (dk_at dksX2_cuts_3 12 rfl rfl)
theorem dX2_cuts_84 : decode cX2_cuts 84 = .ok (.getfield 7, 3) := dk_180 0 7 (dk_at dksX2_cuts_3 13 rfl rfl)
theorem dX2_cuts_87 : decode cX2_cuts 87 = .ok (.iconst 5, 1) := dk_8 (dk_at dksX2_cuts_3 16 rfl rfl)
theorem dX2_cuts_88 : decode cX2_cuts 88 = .ok (.iaload, 1) := dk_46 (dk_at dksX2_cuts_3 17 rfl rfl)
theorem dX2_cuts_89 : decode cX2_cuts 89 = .ok (.istore 5, 2) := dk_54 5 (dk_at dksX2_cuts_3 18 rfl rfl)
theorem dX2_cuts_91 : decode cX2_cuts 91 = .ok (.aload_n 0, 1) := dk_42 (dk_at dksX2_cuts_3 20 rfl rfl)
theorem dX2_cuts_92 : decode cX2_cuts 92 = .ok (.iload_n 1, 1) := dk_27 (dk_at dksX2_cuts_3 21 rfl rfl)
theorem dX2_cuts_93 : decode cX2_cuts 93 = .ok (.iconst 1, 1) := dk_4 (dk_at dksX2_cuts_3 22 rfl rfl)
theorem dX2_cuts_94 : decode cX2_cuts 94 = .ok (.invokevirtual 50, 3) := dk_182 0 50 (dk_at dksX2_cuts_4 0 rfl rfl)
theorem dX2_cuts_97 : decode cX2_cuts 97 = .ok (.istore 6, 2) := dk_54 6 (dk_at dksX2_cuts_4 3 rfl rfl)
theorem dX2_cuts_99 : decode cX2_cuts 99 = .ok (.aload_n 0, 1) := dk_42 (dk_at dksX2_cuts_4 5 rfl rfl)
theorem dX2_cuts_100 : decode cX2_cuts 100 = .ok (.getfield 7, 3) := dk_180 0 7 (dk_at dksX2_cuts_4 6 rfl rfl)
theorem dX2_cuts_103 : decode cX2_cuts 103 = .ok (.bipush 9, 2) := dk_16 9 (dk_at dksX2_cuts_4 9 rfl rfl)
theorem dX2_cuts_105 : decode cX2_cuts 105 = .ok (.dup2, 1) := dk_92 (dk_at dksX2_cuts_4 11 rfl rfl)
theorem dX2_cuts_106 : decode cX2_cuts 106 = .ok (.iaload, 1) := dk_46 (dk_at dksX2_cuts_4 12 rfl rfl)
theorem dX2_cuts_107 : decode cX2_cuts 107 = .ok (.aload_n 0, 1) := dk_42 (dk_at dksX2_cuts_4 13 rfl rfl)
theorem dX2_cuts_108 : decode cX2_cuts 108 = .ok (.iload_n 1, 1) := dk_27 (dk_at dksX2_cuts_4 14 rfl rfl)
theorem dX2_cuts_109 : decode cX2_cuts 109 = .ok (.invokevirtual 58, 3) := dk_182 0 58 (dk_at dksX2_cuts_4 15 rfl rfl)
theorem dX2_cuts_112 : decode cX2_cuts 112 = .ok (.iadd, 1) := dk_96 (dk_at dksX2_cuts_4 18 rfl rfl)
theorem dX2_cuts_113 : decode cX2_cuts 113 = .ok (.iastore, 1) := dk_79 (dk_at dksX2_cuts_4 19 rfl rfl)
theorem dX2_cuts_114 : decode cX2_cuts 114 = .ok (.aload_n 0, 1) := dk_42 (dk_at dksX2_cuts_4 20 rfl rfl)
theorem dX2_cuts_115 : decode cX2_cuts 115 = .ok (.iload_n 1, 1) := dk_27 (dk_at dksX2_cuts_4 21 rfl rfl)
theorem dX2_cuts_116 : decode cX2_cuts 116 = .ok (.iload_n 2, 1) := dk_28 (dk_at dksX2_cuts_4 22 rfl rfl)
theorem dX2_cuts_117 : decode cX2_cuts 117 = .ok (.iload_n 3, 1) := dk_29 (dk_at dksX2_cuts_4 23 rfl rfl)
theorem dX2_cuts_118 : decode cX2_cuts 118 = .ok (.invokevirtual 109, 3) := dk_182 0 109 (dk_at dksX2_cuts_5 0 rfl rfl)
theorem dX2_cuts_121 : decode cX2_cuts 121 = .ok (.aload_n 0, 1) := dk_42 (dk_at dksX2_cuts_5 3 rfl rfl)
theorem dX2_cuts_122 : decode cX2_cuts 122 = .ok (.iload_n 1, 1) := dk_27 (dk_at dksX2_cuts_5 4 rfl rfl)
theorem dX2_cuts_123 : decode cX2_cuts 123 = .ok (.iload_n 2, 1) := dk_28 (dk_at dksX2_cuts_5 5 rfl rfl)
theorem dX2_cuts_124 : decode cX2_cuts 124 = .ok (.iload 4, 2) := dk_21 4 (dk_at dksX2_cuts_5 6 rfl rfl)
theorem dX2_cuts_126 : decode cX2_cuts 126 = .ok (.invokevirtual 109, 3) := dk_182 0 109 (dk_at dksX2_cuts_5 8 rfl rfl)
theorem dX2_cuts_129 : decode cX2_cuts 129 = .ok (.aload_n 0, 1) := dk_42 (dk_at dksX2_cuts_5 11 rfl rfl)
theorem dX2_cuts_130 : decode cX2_cuts 130 = .ok (.getfield 7, 3) := dk_180 0 7 (dk_at dksX2_cuts_5 12 rfl rfl)
theorem dX2_cuts_133 : decode cX2_cuts 133 = .ok (.iload_n 1, 1) := dk_27 (dk_at dksX2_cuts_5 15 rfl rfl)
theorem dX2_cuts_134 : decode cX2_cuts 134 = .ok (.iconst 4, 1) := dk_7 (dk_at dksX2_cuts_5 16 rfl rfl)
theorem dX2_cuts_135 : decode cX2_cuts 135 = .ok (.invokestatic 47, 3) := dk_184 0 47 (dk_at dksX2_cuts_5 17 rfl rfl)
theorem dX2_cuts_138 : decode cX2_cuts 138 = .ok (.iconst 4, 1) := dk_7 (dk_at dksX2_cuts_5 20 rfl rfl)
theorem dX2_cuts_139 : decode cX2_cuts 139 = .ok (.iastore, 1) := dk_79 (dk_at dksX2_cuts_5 21 rfl rfl)
theorem dX2_cuts_140 : decode cX2_cuts 140 = .ok (.iload 5, 2) := dk_21 5 (dk_at dksX2_cuts_5 22 rfl rfl)
theorem dX2_cuts_142 : decode cX2_cuts 142 = .ok (.istore 7, 2) := dk_54 7 (dk_at dksX2_cuts_6 0 rfl rfl)
theorem dX2_cuts_144 : decode cX2_cuts 144 = .ok (.iload 7, 2) := dk_21 7 (dk_at dksX2_cuts_6 2 rfl rfl)
theorem dX2_cuts_146 : decode cX2_cuts 146 = .ok (.iload 5, 2) := dk_21 5 (dk_at dksX2_cuts_6 4 rfl rfl)
theorem dX2_cuts_148 : decode cX2_cuts 148 = .ok (.iconst 2, 1) := dk_5 (dk_at dksX2_cuts_6 6 rfl rfl)
theorem dX2_cuts_149 : decode cX2_cuts 149 = .ok (.iadd, 1) := dk_96 (dk_at dksX2_cuts_6 7 rfl rfl)
theorem dX2_cuts_150 : decode cX2_cuts 150 = .ok (.if_icmp .ge 38, 3) := dk_162 0 38 (dk_at dksX2_cuts_6 8 rfl rfl)
theorem dX2_cuts_153 : decode cX2_cuts 153 = .ok (.aload_n 0, 1) := dk_42 (dk_at dksX2_cuts_6 11 rfl rfl)
theorem dX2_cuts_154 : decode cX2_cuts 154 = .ok (.getfield 7, 3) := dk_180 0 7 (dk_at dksX2_cuts_6 12 rfl rfl)
theorem dX2_cuts_157 : decode cX2_cuts 157 = .ok (.iload 7, 2) := dk_21 7 (dk_at dksX2_cuts_6 15 rfl rfl)
theorem dX2_cuts_159 : decode cX2_cuts 159 = .ok (.iconst 4, 1) := dk_7 (dk_at dksX2_cuts_6 17 rfl rfl)
theorem dX2_cuts_160 : decode cX2_cuts 160 = .ok (.invokestatic 47, 3) := dk_184 0 47 (dk_at dksX2_cuts_6 18 rfl rfl)
theorem dX2_cuts_163 : decode cX2_cuts 163 = .ok (.iload 6, 2) := dk_21 6 (dk_at dksX2_cuts_6 21 rfl rfl)
theorem dX2_cuts_165 : decode cX2_cuts 165 = .ok (.ifCond .eq 15, 3) := dk_153 0 15 (dk_at dksX2_cuts_7 0 rfl rfl)
theorem dX2_cuts_168 : decode cX2_cuts 168 = .ok (.aload_n 0, 1) := dk_42 (dk_at dksX2_cuts_7 3 rfl rfl)
theorem dX2_cuts_169 : decode cX2_cuts 169 = .ok (.invokevirtual 112, 3) := dk_182 0 112 (dk_at dksX2_cuts_7 4 rfl rfl)
theorem dX2_cuts_172 : decode cX2_cuts 172 = .ok (.iconst 4, 1) := dk_7 (dk_at dksX2_cuts_7 7 rfl rfl)
theorem dX2_cuts_173 : decode cX2_cuts 173 = .ok (.if_icmp .ge 7, 3) := dk_162 0 7 (dk_at dksX2_cuts_7 8 rfl rfl)
theorem dX2_cuts_176 : decode cX2_cuts 176 = .ok (.iconst 1, 1) := dk_4 (dk_at dksX2_cuts_7 11 rfl rfl)
theorem dX2_cuts_177 : decode cX2_cuts 177 = .ok (.goto 4, 3) := dk_167 0 4 (dk_at dksX2_cuts_7 12 rfl rfl)
theorem dX2_cuts_180 : decode cX2_cuts 180 = .ok (.iconst 0, 1) := dk_3 (dk_at dksX2_cuts_7 15 rfl rfl)
theorem dX2_cuts_181 : decode cX2_cuts 181 = .ok (.iastore, 1) := dk_79 (dk_at dksX2_cuts_7 16 rfl rfl)
theorem dX2_cuts_182 : decode cX2_cuts 182 = .ok (.iinc 7 1, 3) := dk_132 7 1 (dk_at dksX2_cuts_7 17 rfl rfl)
theorem dX2_cuts_185 : decode cX2_cuts 185 = .ok (.goto (-41), 3) := dk_167 255 215 (dk_at dksX2_cuts_7 20 rfl rfl)
theorem dX2_cuts_188 : decode cX2_cuts 188 = .ok (.iload 5, 2) := dk_21 5 (dk_at dksX2_cuts_8 0 rfl rfl)
theorem dX2_cuts_190 : decode cX2_cuts 190 = .ok (.ireturn, 1) := dk_172 (dk_at dksX2_cuts_8 2 rfl rfl)
abbrev cX2_isBlock : ByteArray := prog_8_method_4_code
def yX2_isBlock : MethodName := ⟨RX2, "isBlock", "(I)Z"⟩
def dkwX2_isBlock_0 : List UInt8 := [27, 3, 42, 180, 0, 7, 8, 46, 4, 100, 184, 0, 39, 172]
abbrev dktX2_isBlock_0 : List UInt8 := dkwX2_isBlock_0 ++ []
theorem dksX2_isBlock_0 : cX2_isBlock.data.toList.drop 0 = dktX2_isBlock_0 := by decide +kernel
theorem dX2_isBlock_0 : decode cX2_isBlock 0 = .ok (.iload_n 1, 1) := dk_27 (dk_at dksX2_isBlock_0 0 rfl rfl)
theorem dX2_isBlock_1 : decode cX2_isBlock 1 = .ok (.iconst 0, 1) := dk_3 (dk_at dksX2_isBlock_0 1 rfl rfl)
theorem dX2_isBlock_2 : decode cX2_isBlock 2 = .ok (.aload_n 0, 1) := dk_42 (dk_at dksX2_isBlock_0 2 rfl rfl)
theorem dX2_isBlock_3 : decode cX2_isBlock 3 = .ok (.getfield 7, 3) := dk_180 0 7 (dk_at dksX2_isBlock_0 3 rfl rfl)
theorem dX2_isBlock_6 : decode cX2_isBlock 6 = .ok (.iconst 5, 1) := dk_8 (dk_at dksX2_isBlock_0 6 rfl rfl)
theorem dX2_isBlock_7 : decode cX2_isBlock 7 = .ok (.iaload, 1) := dk_46 (dk_at dksX2_isBlock_0 7 rfl rfl)
theorem dX2_isBlock_8 : decode cX2_isBlock 8 = .ok (.iconst 1, 1) := dk_4 (dk_at dksX2_isBlock_0 8 rfl rfl)
theorem dX2_isBlock_9 : decode cX2_isBlock 9 = .ok (.isub, 1) := dk_100 (dk_at dksX2_isBlock_0 9 rfl rfl)
theorem dX2_isBlock_10 : decode cX2_isBlock 10 = .ok (.invokestatic 39, 3) := dk_184 0 39 (dk_at dksX2_isBlock_0 10 rfl rfl)
theorem dX2_isBlock_13 : decode cX2_isBlock 13 = .ok (.ireturn, 1) := dk_172 (dk_at dksX2_isBlock_0 13 rfl rfl)
abbrev cX2_canBeCut : ByteArray := prog_8_method_32_code
def yX2_canBeCut : MethodName := ⟨RX2, "canBeCut", "(I)Z"⟩
def dkwX2_canBeCut_1 : List UInt8 := [16, 7, 184, 0, 47, 46, 16, 250, 160, 0, 7, 4, 167, 0, 4, 3, 172]
abbrev dktX2_canBeCut_1 : List UInt8 := dkwX2_canBeCut_1 ++ []
def dkwX2_canBeCut_0 : List UInt8 := [42, 180, 0, 7, 16, 7, 46, 154, 0, 31, 42, 27, 182, 0, 100, 153, 0, 23, 42, 180, 0, 7, 27]
abbrev dktX2_canBeCut_0 : List UInt8 := dkwX2_canBeCut_0 ++ dktX2_canBeCut_1
theorem dksX2_canBeCut_0 : cX2_canBeCut.data.toList.drop 0 = dktX2_canBeCut_0 := by decide +kernel
theorem dksX2_canBeCut_1 : cX2_canBeCut.data.toList.drop 23 = dktX2_canBeCut_1 := dk_seg dksX2_canBeCut_0 23 rfl rfl
theorem dX2_canBeCut_0 : decode cX2_canBeCut 0 = .ok (.aload_n 0, 1) := dk_42 (dk_at dksX2_canBeCut_0 0 rfl rfl)
theorem dX2_canBeCut_1 : decode cX2_canBeCut 1 = .ok (.getfield 7, 3) := dk_180 0 7 (dk_at dksX2_canBeCut_0 1 rfl rfl)
theorem dX2_canBeCut_4 : decode cX2_canBeCut 4 = .ok (.bipush 7, 2) := dk_16 7 (dk_at dksX2_canBeCut_0 4 rfl rfl)
theorem dX2_canBeCut_6 : decode cX2_canBeCut 6 = .ok (.iaload, 1) := dk_46 (dk_at dksX2_canBeCut_0 6 rfl rfl)
theorem dX2_canBeCut_7 : decode cX2_canBeCut 7 = .ok (.ifCond .ne 31, 3) := dk_154 0 31 (dk_at dksX2_canBeCut_0 7 rfl rfl)
theorem dX2_canBeCut_10 : decode cX2_canBeCut 10 = .ok (.aload_n 0, 1) := dk_42 (dk_at dksX2_canBeCut_0 10 rfl rfl)
theorem dX2_canBeCut_11 : decode cX2_canBeCut 11 = .ok (.iload_n 1, 1) := dk_27 (dk_at dksX2_canBeCut_0 11 rfl rfl)
theorem dX2_canBeCut_12 : decode cX2_canBeCut 12 = .ok (.invokevirtual 100, 3) := dk_182 0 100 (dk_at dksX2_canBeCut_0 12 rfl rfl)
theorem dX2_canBeCut_15 : decode cX2_canBeCut 15 = .ok (.ifCond .eq 23, 3) := dk_153 0 23 (dk_at dksX2_canBeCut_0 15 rfl rfl)
theorem dX2_canBeCut_18 : decode cX2_canBeCut 18 = .ok (.aload_n 0, 1) := dk_42 (dk_at dksX2_canBeCut_0 18 rfl rfl)
theorem dX2_canBeCut_19 : decode cX2_canBeCut 19 = .ok (.getfield 7, 3) := dk_180 0 7 (dk_at dksX2_canBeCut_0 19 rfl rfl)
theorem dX2_canBeCut_22 : decode cX2_canBeCut 22 = .ok (.iload_n 1, 1) := dk_27 (dk_at dksX2_canBeCut_0 22 rfl rfl)
theorem dX2_canBeCut_23 : decode cX2_canBeCut 23 = .ok (.bipush 7, 2) := dk_16 7 (dk_at dksX2_canBeCut_1 0 rfl rfl)
theorem dX2_canBeCut_25 : decode cX2_canBeCut 25 = .ok (.invokestatic 47, 3) := dk_184 0 47 (dk_at dksX2_canBeCut_1 2 rfl rfl)
theorem dX2_canBeCut_28 : decode cX2_canBeCut 28 = .ok (.iaload, 1) := dk_46 (dk_at dksX2_canBeCut_1 5 rfl rfl)
theorem dX2_canBeCut_29 : decode cX2_canBeCut 29 = .ok (.bipush (-6), 2) := dk_16 250 (dk_at dksX2_canBeCut_1 6 rfl rfl)
theorem dX2_canBeCut_31 : decode cX2_canBeCut 31 = .ok (.if_icmp .ne 7, 3) := dk_160 0 7 (dk_at dksX2_canBeCut_1 8 rfl rfl)
theorem dX2_canBeCut_34 : decode cX2_canBeCut 34 = .ok (.iconst 1, 1) := dk_4 (dk_at dksX2_canBeCut_1 11 rfl rfl)
theorem dX2_canBeCut_35 : decode cX2_canBeCut 35 = .ok (.goto 4, 3) := dk_167 0 4 (dk_at dksX2_canBeCut_1 12 rfl rfl)
theorem dX2_canBeCut_38 : decode cX2_canBeCut 38 = .ok (.iconst 0, 1) := dk_3 (dk_at dksX2_canBeCut_1 15 rfl rfl)
theorem dX2_canBeCut_39 : decode cX2_canBeCut 39 = .ok (.ireturn, 1) := dk_172 (dk_at dksX2_canBeCut_1 16 rfl rfl)
abbrev cX2_isHere : ByteArray := prog_8_method_14_code
def yX2_isHere : MethodName := ⟨RX2, "isHere", "(I)Z"⟩
def dkwX2_isHere_0 : List UInt8 := [42, 27, 3, 182, 0, 50, 154, 0, 12, 42, 27, 4, 182, 0, 50, 153, 0, 7, 4, 167, 0, 4, 3, 172]
abbrev dktX2_isHere_0 : List UInt8 := dkwX2_isHere_0 ++ []
theorem dksX2_isHere_0 : cX2_isHere.data.toList.drop 0 = dktX2_isHere_0 := by decide +kernel
theorem dX2_isHere_0 : decode cX2_isHere 0 = .ok (.aload_n 0, 1) := dk_42 (dk_at dksX2_isHere_0 0 rfl rfl)
theorem dX2_isHere_1 : decode cX2_isHere 1 = .ok (.iload_n 1, 1) := dk_27 (dk_at dksX2_isHere_0 1 rfl rfl)
theorem dX2_isHere_2 : decode cX2_isHere 2 = .ok (.iconst 0, 1) := dk_3 (dk_at dksX2_isHere_0 2 rfl rfl)
theorem dX2_isHere_3 : decode cX2_isHere 3 = .ok (.invokevirtual 50, 3) := dk_182 0 50 (dk_at dksX2_isHere_0 3 rfl rfl)
theorem dX2_isHere_6 : decode cX2_isHere 6 = .ok (.ifCond .ne 12, 3) := dk_154 0 12 (dk_at dksX2_isHere_0 6 rfl rfl)
theorem dX2_isHere_9 : decode cX2_isHere 9 = .ok (.aload_n 0, 1) := dk_42 (dk_at dksX2_isHere_0 9 rfl rfl)
theorem dX2_isHere_10 : decode cX2_isHere 10 = .ok (.iload_n 1, 1) := dk_27 (dk_at dksX2_isHere_0 10 rfl rfl)
theorem dX2_isHere_11 : decode cX2_isHere 11 = .ok (.iconst 1, 1) := dk_4 (dk_at dksX2_isHere_0 11 rfl rfl)
theorem dX2_isHere_12 : decode cX2_isHere 12 = .ok (.invokevirtual 50, 3) := dk_182 0 50 (dk_at dksX2_isHere_0 12 rfl rfl)
theorem dX2_isHere_15 : decode cX2_isHere 15 = .ok (.ifCond .eq 7, 3) := dk_153 0 7 (dk_at dksX2_isHere_0 15 rfl rfl)
theorem dX2_isHere_18 : decode cX2_isHere 18 = .ok (.iconst 1, 1) := dk_4 (dk_at dksX2_isHere_0 18 rfl rfl)
theorem dX2_isHere_19 : decode cX2_isHere 19 = .ok (.goto 4, 3) := dk_167 0 4 (dk_at dksX2_isHere_0 19 rfl rfl)
theorem dX2_isHere_22 : decode cX2_isHere 22 = .ok (.iconst 0, 1) := dk_3 (dk_at dksX2_isHere_0 22 rfl rfl)
theorem dX2_isHere_23 : decode cX2_isHere 23 = .ok (.ireturn, 1) := dk_172 (dk_at dksX2_isHere_0 23 rfl rfl)
abbrev cX2_isAt : ByteArray := prog_8_method_13_code
def yX2_isAt : MethodName := ⟨RX2, "isAt", "(II)Z"⟩
def dkwX2_isAt_0 : List UInt8 := [42, 180, 0, 7, 27, 7, 184, 0, 47, 46, 28, 160, 0, 7, 4, 167, 0, 4, 3, 172]
abbrev dktX2_isAt_0 : List UInt8 := dkwX2_isAt_0 ++ []
theorem dksX2_isAt_0 : cX2_isAt.data.toList.drop 0 = dktX2_isAt_0 := by decide +kernel
theorem dX2_isAt_0 : decode cX2_isAt 0 = .ok (.aload_n 0, 1) := dk_42 (dk_at dksX2_isAt_0 0 rfl rfl)
theorem dX2_isAt_1 : decode cX2_isAt 1 = .ok (.getfield 7, 3) := dk_180 0 7 (dk_at dksX2_isAt_0 1 rfl rfl)
theorem dX2_isAt_4 : decode cX2_isAt 4 = .ok (.iload_n 1, 1) := dk_27 (dk_at dksX2_isAt_0 4 rfl rfl)
theorem dX2_isAt_5 : decode cX2_isAt 5 = .ok (.iconst 4, 1) := dk_7 (dk_at dksX2_isAt_0 5 rfl rfl)
theorem dX2_isAt_6 : decode cX2_isAt 6 = .ok (.invokestatic 47, 3) := dk_184 0 47 (dk_at dksX2_isAt_0 6 rfl rfl)
theorem dX2_isAt_9 : decode cX2_isAt 9 = .ok (.iaload, 1) := dk_46 (dk_at dksX2_isAt_0 9 rfl rfl)
theorem dX2_isAt_10 : decode cX2_isAt 10 = .ok (.iload_n 2, 1) := dk_28 (dk_at dksX2_isAt_0 10 rfl rfl)
theorem dX2_isAt_11 : decode cX2_isAt 11 = .ok (.if_icmp .ne 7, 3) := dk_160 0 7 (dk_at dksX2_isAt_0 11 rfl rfl)
theorem dX2_isAt_14 : decode cX2_isAt 14 = .ok (.iconst 1, 1) := dk_4 (dk_at dksX2_isAt_0 14 rfl rfl)
theorem dX2_isAt_15 : decode cX2_isAt 15 = .ok (.goto 4, 3) := dk_167 0 4 (dk_at dksX2_isAt_0 15 rfl rfl)
theorem dX2_isAt_18 : decode cX2_isAt 18 = .ok (.iconst 0, 1) := dk_3 (dk_at dksX2_isAt_0 18 rfl rfl)
theorem dX2_isAt_19 : decode cX2_isAt 19 = .ok (.ireturn, 1) := dk_172 (dk_at dksX2_isAt_0 19 rfl rfl)
abbrev cX2_part : ByteArray := prog_8_method_18_code
def yX2_part : MethodName := ⟨RX2, "part", "(III)V"⟩
def dkwX2_part_5 : List UInt8 := [42, 180, 0, 7, 16, 9, 92, 46, 42, 21, 4, 182, 0, 58, 100, 79, 177]
abbrev dktX2_part_5 : List UInt8 := dkwX2_part_5 ++ []
def dkwX2_part_4 : List UInt8 := [180, 0, 7, 27, 16, 6, 184, 0, 47, 46, 79, 42, 180, 0, 7, 21, 4, 16, 9, 184, 0, 47, 27, 79]
abbrev dktX2_part_4 : List UInt8 := dkwX2_part_4 ++ dktX2_part_5
def dkwX2_part_3 : List UInt8 := [180, 0, 7, 27, 8, 184, 0, 47, 46, 79, 42, 180, 0, 7, 21, 4, 16, 6, 184, 0, 47, 42]
abbrev dktX2_part_3 : List UInt8 := dkwX2_part_3 ++ dktX2_part_4
def dkwX2_part_2 : List UInt8 := [42, 180, 0, 7, 21, 4, 28, 184, 0, 47, 29, 79, 42, 180, 0, 7, 21, 4, 8, 184, 0, 47, 42]
abbrev dktX2_part_2 : List UInt8 := dkwX2_part_2 ++ dktX2_part_3
def dkwX2_part_1 : List UInt8 := [180, 0, 7, 27, 5, 184, 0, 47, 46, 42, 180, 0, 7, 27, 6, 184, 0, 47, 46, 182, 0, 54, 54, 4]
abbrev dktX2_part_1 : List UInt8 := dkwX2_part_1 ++ dktX2_part_2
def dkwX2_part_0 : List UInt8 := [42, 42, 180, 0, 7, 27, 3, 184, 0, 47, 46, 42, 180, 0, 7, 27, 4, 184, 0, 47, 46, 42]
abbrev dktX2_part_0 : List UInt8 := dkwX2_part_0 ++ dktX2_part_1
theorem dksX2_part_0 : cX2_part.data.toList.drop 0 = dktX2_part_0 := by decide +kernel
theorem dksX2_part_1 : cX2_part.data.toList.drop 22 = dktX2_part_1 := dk_seg dksX2_part_0 22 rfl rfl
theorem dksX2_part_2 : cX2_part.data.toList.drop 46 = dktX2_part_2 := dk_seg dksX2_part_1 24 rfl rfl
theorem dksX2_part_3 : cX2_part.data.toList.drop 69 = dktX2_part_3 := dk_seg dksX2_part_2 23 rfl rfl
theorem dksX2_part_4 : cX2_part.data.toList.drop 91 = dktX2_part_4 := dk_seg dksX2_part_3 22 rfl rfl
theorem dksX2_part_5 : cX2_part.data.toList.drop 115 = dktX2_part_5 := dk_seg dksX2_part_4 24 rfl rfl
theorem dX2_part_0 : decode cX2_part 0 = .ok (.aload_n 0, 1) := dk_42 (dk_at dksX2_part_0 0 rfl rfl)
theorem dX2_part_1 : decode cX2_part 1 = .ok (.aload_n 0, 1) := dk_42 (dk_at dksX2_part_0 1 rfl rfl)
theorem dX2_part_2 : decode cX2_part 2 = .ok (.getfield 7, 3) := dk_180 0 7 (dk_at dksX2_part_0 2 rfl rfl)
theorem dX2_part_5 : decode cX2_part 5 = .ok (.iload_n 1, 1) := dk_27 (dk_at dksX2_part_0 5 rfl rfl)
theorem dX2_part_6 : decode cX2_part 6 = .ok (.iconst 0, 1) := dk_3 (dk_at dksX2_part_0 6 rfl rfl)
theorem dX2_part_7 : decode cX2_part 7 = .ok (.invokestatic 47, 3) := dk_184 0 47 (dk_at dksX2_part_0 7 rfl rfl)
theorem dX2_part_10 : decode cX2_part 10 = .ok (.iaload, 1) := dk_46 (dk_at dksX2_part_0 10 rfl rfl)
theorem dX2_part_11 : decode cX2_part 11 = .ok (.aload_n 0, 1) := dk_42 (dk_at dksX2_part_0 11 rfl rfl)
theorem dX2_part_12 : decode cX2_part 12 = .ok (.getfield 7, 3) := dk_180 0 7 (dk_at dksX2_part_0 12 rfl rfl)
theorem dX2_part_15 : decode cX2_part 15 = .ok (.iload_n 1, 1) := dk_27 (dk_at dksX2_part_0 15 rfl rfl)
theorem dX2_part_16 : decode cX2_part 16 = .ok (.iconst 1, 1) := dk_4 (dk_at dksX2_part_0 16 rfl rfl)
theorem dX2_part_17 : decode cX2_part 17 = .ok (.invokestatic 47, 3) := dk_184 0 47 (dk_at dksX2_part_0 17 rfl rfl)
theorem dX2_part_20 : decode cX2_part 20 = .ok (.iaload, 1) := dk_46 (dk_at dksX2_part_0 20 rfl rfl)
theorem dX2_part_21 : decode cX2_part 21 = .ok (.aload_n 0, 1) := dk_42 (dk_at dksX2_part_0 21 rfl rfl)
theorem dX2_part_22 : decode cX2_part 22 = .ok (.getfield 7, 3) := dk_180 0 7 (dk_at dksX2_part_1 0 rfl rfl)
theorem dX2_part_25 : decode cX2_part 25 = .ok (.iload_n 1, 1) := dk_27 (dk_at dksX2_part_1 3 rfl rfl)
theorem dX2_part_26 : decode cX2_part 26 = .ok (.iconst 2, 1) := dk_5 (dk_at dksX2_part_1 4 rfl rfl)
theorem dX2_part_27 : decode cX2_part 27 = .ok (.invokestatic 47, 3) := dk_184 0 47 (dk_at dksX2_part_1 5 rfl rfl)
theorem dX2_part_30 : decode cX2_part 30 = .ok (.iaload, 1) := dk_46 (dk_at dksX2_part_1 8 rfl rfl)
theorem dX2_part_31 : decode cX2_part 31 = .ok (.aload_n 0, 1) := dk_42 (dk_at dksX2_part_1 9 rfl rfl)
theorem dX2_part_32 : decode cX2_part 32 = .ok (.getfield 7, 3) := dk_180 0 7 (dk_at dksX2_part_1 10 rfl rfl)
theorem dX2_part_35 : decode cX2_part 35 = .ok (.iload_n 1, 1) := dk_27 (dk_at dksX2_part_1 13 rfl rfl)
theorem dX2_part_36 : decode cX2_part 36 = .ok (.iconst 3, 1) := dk_6 (dk_at dksX2_part_1 14 rfl rfl)
theorem dX2_part_37 : decode cX2_part 37 = .ok (.invokestatic 47, 3) := dk_184 0 47 (dk_at dksX2_part_1 15 rfl rfl)
theorem dX2_part_40 : decode cX2_part 40 = .ok (.iaload, 1) := dk_46 (dk_at dksX2_part_1 18 rfl rfl)
theorem dX2_part_41 : decode cX2_part 41 = .ok (.invokevirtual 54, 3) := dk_182 0 54 (dk_at dksX2_part_1 19 rfl rfl)
theorem dX2_part_44 : decode cX2_part 44 = .ok (.istore 4, 2) := dk_54 4 (dk_at dksX2_part_1 22 rfl rfl)
theorem dX2_part_46 : decode cX2_part 46 = .ok (.aload_n 0, 1) := dk_42 (dk_at dksX2_part_2 0 rfl rfl)
theorem dX2_part_47 : decode cX2_part 47 = .ok (.getfield 7, 3) := dk_180 0 7 (dk_at dksX2_part_2 1 rfl rfl)
theorem dX2_part_50 : decode cX2_part 50 = .ok (.iload 4, 2) := dk_21 4 (dk_at dksX2_part_2 4 rfl rfl)
theorem dX2_part_52 : decode cX2_part 52 = .ok (.iload_n 2, 1) := dk_28 (dk_at dksX2_part_2 6 rfl rfl)
theorem dX2_part_53 : decode cX2_part 53 = .ok (.invokestatic 47, 3) := dk_184 0 47 (dk_at dksX2_part_2 7 rfl rfl)
theorem dX2_part_56 : decode cX2_part 56 = .ok (.iload_n 3, 1) := dk_29 (dk_at dksX2_part_2 10 rfl rfl)
theorem dX2_part_57 : decode cX2_part 57 = .ok (.iastore, 1) := dk_79 (dk_at dksX2_part_2 11 rfl rfl)
theorem dX2_part_58 : decode cX2_part 58 = .ok (.aload_n 0, 1) := dk_42 (dk_at dksX2_part_2 12 rfl rfl)
theorem dX2_part_59 : decode cX2_part 59 = .ok (.getfield 7, 3) := dk_180 0 7 (dk_at dksX2_part_2 13 rfl rfl)
theorem dX2_part_62 : decode cX2_part 62 = .ok (.iload 4, 2) := dk_21 4 (dk_at dksX2_part_2 16 rfl rfl)
theorem dX2_part_64 : decode cX2_part 64 = .ok (.iconst 5, 1) := dk_8 (dk_at dksX2_part_2 18 rfl rfl)
theorem dX2_part_65 : decode cX2_part 65 = .ok (.invokestatic 47, 3) := dk_184 0 47 (dk_at dksX2_part_2 19 rfl rfl)
theorem dX2_part_68 : decode cX2_part 68 = .ok (.aload_n 0, 1) := dk_42 (dk_at dksX2_part_2 22 rfl rfl)
theorem dX2_part_69 : decode cX2_part 69 = .ok (.getfield 7, 3) := dk_180 0 7 (dk_at dksX2_part_3 0 rfl rfl)
theorem dX2_part_72 : decode cX2_part 72 = .ok (.iload_n 1, 1) := dk_27 (dk_at dksX2_part_3 3 rfl rfl)
theorem dX2_part_73 : decode cX2_part 73 = .ok (.iconst 5, 1) := dk_8 (dk_at dksX2_part_3 4 rfl rfl)
theorem dX2_part_74 : decode cX2_part 74 = .ok (.invokestatic 47, 3) := dk_184 0 47 (dk_at dksX2_part_3 5 rfl rfl)
theorem dX2_part_77 : decode cX2_part 77 = .ok (.iaload, 1) := dk_46 (dk_at dksX2_part_3 8 rfl rfl)
theorem dX2_part_78 : decode cX2_part 78 = .ok (.iastore, 1) := dk_79 (dk_at dksX2_part_3 9 rfl rfl)
theorem dX2_part_79 : decode cX2_part 79 = .ok (.aload_n 0, 1) := dk_42 (dk_at dksX2_part_3 10 rfl rfl)
theorem dX2_part_80 : decode cX2_part 80 = .ok (.getfield 7, 3) := dk_180 0 7 (dk_at dksX2_part_3 11 rfl rfl)
theorem dX2_part_83 : decode cX2_part 83 = .ok (.iload 4, 2) := dk_21 4 (dk_at dksX2_part_3 14 rfl rfl)
theorem dX2_part_85 : decode cX2_part 85 = .ok (.bipush 6, 2) := dk_16 6 (dk_at dksX2_part_3 16 rfl rfl)
theorem dX2_part_87 : decode cX2_part 87 = .ok (.invokestatic 47, 3) := dk_184 0 47 (dk_at dksX2_part_3 18 rfl rfl)
theorem dX2_part_90 : decode cX2_part 90 = .ok (.aload_n 0, 1) := dk_42 (dk_at dksX2_part_3 21 rfl rfl)
theorem dX2_part_91 : decode cX2_part 91 = .ok (.getfield 7, 3) := dk_180 0 7 (dk_at dksX2_part_4 0 rfl rfl)
theorem dX2_part_94 : decode cX2_part 94 = .ok (.iload_n 1, 1) := dk_27 (dk_at dksX2_part_4 3 rfl rfl)
theorem dX2_part_95 : decode cX2_part 95 = .ok (.bipush 6, 2) := dk_16 6 (dk_at dksX2_part_4 4 rfl rfl)
theorem dX2_part_97 : decode cX2_part 97 = .ok (.invokestatic 47, 3) := dk_184 0 47 (dk_at dksX2_part_4 6 rfl rfl)
theorem dX2_part_100 : decode cX2_part 100 = .ok (.iaload, 1) := dk_46 (dk_at dksX2_part_4 9 rfl rfl)
theorem dX2_part_101 : decode cX2_part 101 = .ok (.iastore, 1) := dk_79 (dk_at dksX2_part_4 10 rfl rfl)
theorem dX2_part_102 : decode cX2_part 102 = .ok (.aload_n 0, 1) := dk_42 (dk_at dksX2_part_4 11 rfl rfl)
theorem dX2_part_103 : decode cX2_part 103 = .ok (.getfield 7, 3) := dk_180 0 7 (dk_at dksX2_part_4 12 rfl rfl)
theorem dX2_part_106 : decode cX2_part 106 = .ok (.iload 4, 2) := dk_21 4 (dk_at dksX2_part_4 15 rfl rfl)
theorem dX2_part_108 : decode cX2_part 108 = .ok (.bipush 9, 2) := dk_16 9 (dk_at dksX2_part_4 17 rfl rfl)
theorem dX2_part_110 : decode cX2_part 110 = .ok (.invokestatic 47, 3) := dk_184 0 47 (dk_at dksX2_part_4 19 rfl rfl)
theorem dX2_part_113 : decode cX2_part 113 = .ok (.iload_n 1, 1) := dk_27 (dk_at dksX2_part_4 22 rfl rfl)
theorem dX2_part_114 : decode cX2_part 114 = .ok (.iastore, 1) := dk_79 (dk_at dksX2_part_4 23 rfl rfl)
theorem dX2_part_115 : decode cX2_part 115 = .ok (.aload_n 0, 1) := dk_42 (dk_at dksX2_part_5 0 rfl rfl)
theorem dX2_part_116 : decode cX2_part 116 = .ok (.getfield 7, 3) := dk_180 0 7 (dk_at dksX2_part_5 1 rfl rfl)
theorem dX2_part_119 : decode cX2_part 119 = .ok (.bipush 9, 2) := dk_16 9 (dk_at dksX2_part_5 4 rfl rfl)
theorem dX2_part_121 : decode cX2_part 121 = .ok (.dup2, 1) := dk_92 (dk_at dksX2_part_5 6 rfl rfl)
theorem dX2_part_122 : decode cX2_part 122 = .ok (.iaload, 1) := dk_46 (dk_at dksX2_part_5 7 rfl rfl)
theorem dX2_part_123 : decode cX2_part 123 = .ok (.aload_n 0, 1) := dk_42 (dk_at dksX2_part_5 8 rfl rfl)
theorem dX2_part_124 : decode cX2_part 124 = .ok (.iload 4, 2) := dk_21 4 (dk_at dksX2_part_5 9 rfl rfl)
theorem dX2_part_126 : decode cX2_part 126 = .ok (.invokevirtual 58, 3) := dk_182 0 58 (dk_at dksX2_part_5 11 rfl rfl)
theorem dX2_part_129 : decode cX2_part 129 = .ok (.isub, 1) := dk_100 (dk_at dksX2_part_5 14 rfl rfl)
theorem dX2_part_130 : decode cX2_part 130 = .ok (.iastore, 1) := dk_79 (dk_at dksX2_part_5 15 rfl rfl)
theorem dX2_part_131 : decode cX2_part 131 = .ok (.return_, 1) := dk_177 (dk_at dksX2_part_5 16 rfl rfl)
abbrev cX2_underRoof : ByteArray := prog_8_method_15_code
def yX2_underRoof : MethodName := ⟨RX2, "underRoof", "()I"⟩
def dkwX2_underRoof_1 : List UInt8 := [4, 167, 0, 4, 3, 96, 60, 132, 2, 1, 167, 255, 226, 27, 172]
abbrev dktX2_underRoof_1 : List UInt8 := dkwX2_underRoof_1 ++ []
def dkwX2_underRoof_0 : List UInt8 := [3, 60, 3, 61, 28, 42, 180, 0, 7, 8, 46, 162, 0, 26, 27, 42, 28, 4, 182, 0, 50, 153, 0, 7]
abbrev dktX2_underRoof_0 : List UInt8 := dkwX2_underRoof_0 ++ dktX2_underRoof_1
theorem dksX2_underRoof_0 : cX2_underRoof.data.toList.drop 0 = dktX2_underRoof_0 := by decide +kernel
theorem dksX2_underRoof_1 : cX2_underRoof.data.toList.drop 24 = dktX2_underRoof_1 := dk_seg dksX2_underRoof_0 24 rfl rfl
theorem dX2_underRoof_0 : decode cX2_underRoof 0 = .ok (.iconst 0, 1) := dk_3 (dk_at dksX2_underRoof_0 0 rfl rfl)
theorem dX2_underRoof_1 : decode cX2_underRoof 1 = .ok (.istore_n 1, 1) := dk_60 (dk_at dksX2_underRoof_0 1 rfl rfl)
theorem dX2_underRoof_2 : decode cX2_underRoof 2 = .ok (.iconst 0, 1) := dk_3 (dk_at dksX2_underRoof_0 2 rfl rfl)
theorem dX2_underRoof_3 : decode cX2_underRoof 3 = .ok (.istore_n 2, 1) := dk_61 (dk_at dksX2_underRoof_0 3 rfl rfl)
theorem dX2_underRoof_4 : decode cX2_underRoof 4 = .ok (.iload_n 2, 1) := dk_28 (dk_at dksX2_underRoof_0 4 rfl rfl)
theorem dX2_underRoof_5 : decode cX2_underRoof 5 = .ok (.aload_n 0, 1) := dk_42 (dk_at dksX2_underRoof_0 5 rfl rfl)
theorem dX2_underRoof_6 : decode cX2_underRoof 6 = .ok (.getfield 7, 3) := dk_180 0 7 (dk_at dksX2_underRoof_0 6 rfl rfl)
theorem dX2_underRoof_9 : decode cX2_underRoof 9 = .ok (.iconst 5, 1) := dk_8 (dk_at dksX2_underRoof_0 9 rfl rfl)
theorem dX2_underRoof_10 : decode cX2_underRoof 10 = .ok (.iaload, 1) := dk_46 (dk_at dksX2_underRoof_0 10 rfl rfl)
theorem dX2_underRoof_11 : decode cX2_underRoof 11 = .ok (.if_icmp .ge 26, 3) := dk_162 0 26 (dk_at dksX2_underRoof_0 11 rfl rfl)
theorem dX2_underRoof_14 : decode cX2_underRoof 14 = .ok (.iload_n 1, 1) := dk_27 (dk_at dksX2_underRoof_0 14 rfl rfl)
theorem dX2_underRoof_15 : decode cX2_underRoof 15 = .ok (.aload_n 0, 1) := dk_42 (dk_at dksX2_underRoof_0 15 rfl rfl)
theorem dX2_underRoof_16 : decode cX2_underRoof 16 = .ok (.iload_n 2, 1) := dk_28 (dk_at dksX2_underRoof_0 16 rfl rfl)
theorem dX2_underRoof_17 : decode cX2_underRoof 17 = .ok (.iconst 1, 1) := dk_4 (dk_at dksX2_underRoof_0 17 rfl rfl)
theorem dX2_underRoof_18 : decode cX2_underRoof 18 = .ok (.invokevirtual 50, 3) := dk_182 0 50 (dk_at dksX2_underRoof_0 18 rfl rfl)
theorem dX2_underRoof_21 : decode cX2_underRoof 21 = .ok (.ifCond .eq 7, 3) := dk_153 0 7 (dk_at dksX2_underRoof_0 21 rfl rfl)
theorem dX2_underRoof_24 : decode cX2_underRoof 24 = .ok (.iconst 1, 1) := dk_4 (dk_at dksX2_underRoof_1 0 rfl rfl)
theorem dX2_underRoof_25 : decode cX2_underRoof 25 = .ok (.goto 4, 3) := dk_167 0 4 (dk_at dksX2_underRoof_1 1 rfl rfl)
theorem dX2_underRoof_28 : decode cX2_underRoof 28 = .ok (.iconst 0, 1) := dk_3 (dk_at dksX2_underRoof_1 4 rfl rfl)
theorem dX2_underRoof_29 : decode cX2_underRoof 29 = .ok (.iadd, 1) := dk_96 (dk_at dksX2_underRoof_1 5 rfl rfl)
theorem dX2_underRoof_30 : decode cX2_underRoof 30 = .ok (.istore_n 1, 1) := dk_60 (dk_at dksX2_underRoof_1 6 rfl rfl)
theorem dX2_underRoof_31 : decode cX2_underRoof 31 = .ok (.iinc 2 1, 3) := dk_132 2 1 (dk_at dksX2_underRoof_1 7 rfl rfl)
theorem dX2_underRoof_34 : decode cX2_underRoof 34 = .ok (.goto (-30), 3) := dk_167 255 226 (dk_at dksX2_underRoof_1 10 rfl rfl)
theorem dX2_underRoof_37 : decode cX2_underRoof 37 = .ok (.iload_n 1, 1) := dk_27 (dk_at dksX2_underRoof_1 13 rfl rfl)
theorem dX2_underRoof_38 : decode cX2_underRoof 38 = .ok (.ireturn, 1) := dk_172 (dk_at dksX2_underRoof_1 14 rfl rfl)
abbrev cX2_orders : ByteArray := prog_8_method_34_code
def yX2_orders : MethodName := ⟨RX2, "orders", "(III)I"⟩
def dkwX2_orders_5 : List UInt8 := [7, 184, 0, 66, 16, 250, 79, 42, 180, 0, 7, 21, 4, 8, 184, 0, 66, 16, 250, 79, 21, 4, 172]
abbrev dktX2_orders_5 : List UInt8 := dkwX2_orders_5 ++ []
def dkwX2_orders_4 : List UInt8 := [132, 5, 1, 167, 255, 228, 42, 180, 0, 7, 21, 4, 6, 184, 0, 66, 3, 79, 42, 180, 0, 7, 21, 4]
abbrev dktX2_orders_4 : List UInt8 := dkwX2_orders_4 ++ dktX2_orders_5
def dkwX2_orders_3 : List UInt8 := [162, 0, 28, 42, 180, 0, 7, 21, 4, 21, 5, 184, 0, 66, 42, 180, 0, 29, 21, 5, 46, 79]
abbrev dktX2_orders_3 : List UInt8 := dkwX2_orders_3 ++ dktX2_orders_4
def dkwX2_orders_2 : List UInt8 := [42, 180, 0, 7, 16, 6, 92, 46, 4, 96, 79, 42, 27, 28, 29, 182, 0, 62, 3, 54, 5, 21, 5, 6]
abbrev dktX2_orders_2 : List UInt8 := dkwX2_orders_2 ++ dktX2_orders_3
def dkwX2_orders_1 : List UInt8 := [42, 180, 0, 7, 16, 6, 46, 16, 10, 160, 0, 6, 16, 252, 172, 42, 180, 0, 7, 16, 6, 46, 54, 4]
abbrev dktX2_orders_1 : List UInt8 := dkwX2_orders_1 ++ dktX2_orders_2
def dkwX2_orders_0 : List UInt8 := [27, 184, 0, 97, 153, 0, 17, 28, 184, 0, 97, 153, 0, 10, 29, 184, 0, 97, 154, 0, 6, 16, 254, 172]
abbrev dktX2_orders_0 : List UInt8 := dkwX2_orders_0 ++ dktX2_orders_1
theorem dksX2_orders_0 : cX2_orders.data.toList.drop 0 = dktX2_orders_0 := by decide +kernel
theorem dksX2_orders_1 : cX2_orders.data.toList.drop 24 = dktX2_orders_1 := dk_seg dksX2_orders_0 24 rfl rfl
theorem dksX2_orders_2 : cX2_orders.data.toList.drop 48 = dktX2_orders_2 := dk_seg dksX2_orders_1 24 rfl rfl
theorem dksX2_orders_3 : cX2_orders.data.toList.drop 72 = dktX2_orders_3 := dk_seg dksX2_orders_2 24 rfl rfl
theorem dksX2_orders_4 : cX2_orders.data.toList.drop 94 = dktX2_orders_4 := dk_seg dksX2_orders_3 22 rfl rfl
theorem dksX2_orders_5 : cX2_orders.data.toList.drop 118 = dktX2_orders_5 := dk_seg dksX2_orders_4 24 rfl rfl
theorem dX2_orders_0 : decode cX2_orders 0 = .ok (.iload_n 1, 1) := dk_27 (dk_at dksX2_orders_0 0 rfl rfl)
theorem dX2_orders_1 : decode cX2_orders 1 = .ok (.invokestatic 97, 3) := dk_184 0 97 (dk_at dksX2_orders_0 1 rfl rfl)
theorem dX2_orders_4 : decode cX2_orders 4 = .ok (.ifCond .eq 17, 3) := dk_153 0 17 (dk_at dksX2_orders_0 4 rfl rfl)
theorem dX2_orders_7 : decode cX2_orders 7 = .ok (.iload_n 2, 1) := dk_28 (dk_at dksX2_orders_0 7 rfl rfl)
theorem dX2_orders_8 : decode cX2_orders 8 = .ok (.invokestatic 97, 3) := dk_184 0 97 (dk_at dksX2_orders_0 8 rfl rfl)
theorem dX2_orders_11 : decode cX2_orders 11 = .ok (.ifCond .eq 10, 3) := dk_153 0 10 (dk_at dksX2_orders_0 11 rfl rfl)
theorem dX2_orders_14 : decode cX2_orders 14 = .ok (.iload_n 3, 1) := dk_29 (dk_at dksX2_orders_0 14 rfl rfl)
theorem dX2_orders_15 : decode cX2_orders 15 = .ok (.invokestatic 97, 3) := dk_184 0 97 (dk_at dksX2_orders_0 15 rfl rfl)
theorem dX2_orders_18 : decode cX2_orders 18 = .ok (.ifCond .ne 6, 3) := dk_154 0 6 (dk_at dksX2_orders_0 18 rfl rfl)
theorem dX2_orders_21 : decode cX2_orders 21 = .ok (.bipush (-2), 2) := dk_16 254 (dk_at dksX2_orders_0 21 rfl rfl)
theorem dX2_orders_23 : decode cX2_orders 23 = .ok (.ireturn, 1) := dk_172 (dk_at dksX2_orders_0 23 rfl rfl)
theorem dX2_orders_24 : decode cX2_orders 24 = .ok (.aload_n 0, 1) := dk_42 (dk_at dksX2_orders_1 0 rfl rfl)
theorem dX2_orders_25 : decode cX2_orders 25 = .ok (.getfield 7, 3) := dk_180 0 7 (dk_at dksX2_orders_1 1 rfl rfl)
theorem dX2_orders_28 : decode cX2_orders 28 = .ok (.bipush 6, 2) := dk_16 6 (dk_at dksX2_orders_1 4 rfl rfl)
theorem dX2_orders_30 : decode cX2_orders 30 = .ok (.iaload, 1) := dk_46 (dk_at dksX2_orders_1 6 rfl rfl)
theorem dX2_orders_31 : decode cX2_orders 31 = .ok (.bipush 10, 2) := dk_16 10 (dk_at dksX2_orders_1 7 rfl rfl)
theorem dX2_orders_33 : decode cX2_orders 33 = .ok (.if_icmp .ne 6, 3) := dk_160 0 6 (dk_at dksX2_orders_1 9 rfl rfl)
theorem dX2_orders_36 : decode cX2_orders 36 = .ok (.bipush (-4), 2) := dk_16 252 (dk_at dksX2_orders_1 12 rfl rfl)
theorem dX2_orders_38 : decode cX2_orders 38 = .ok (.ireturn, 1) := dk_172 (dk_at dksX2_orders_1 14 rfl rfl)
theorem dX2_orders_39 : decode cX2_orders 39 = .ok (.aload_n 0, 1) := dk_42 (dk_at dksX2_orders_1 15 rfl rfl)
theorem dX2_orders_40 : decode cX2_orders 40 = .ok (.getfield 7, 3) := dk_180 0 7 (dk_at dksX2_orders_1 16 rfl rfl)
theorem dX2_orders_43 : decode cX2_orders 43 = .ok (.bipush 6, 2) := dk_16 6 (dk_at dksX2_orders_1 19 rfl rfl)
theorem dX2_orders_45 : decode cX2_orders 45 = .ok (.iaload, 1) := dk_46 (dk_at dksX2_orders_1 21 rfl rfl)
theorem dX2_orders_46 : decode cX2_orders 46 = .ok (.istore 4, 2) := dk_54 4 (dk_at dksX2_orders_1 22 rfl rfl)
theorem dX2_orders_48 : decode cX2_orders 48 = .ok (.aload_n 0, 1) := dk_42 (dk_at dksX2_orders_2 0 rfl rfl)
theorem dX2_orders_49 : decode cX2_orders 49 = .ok (.getfield 7, 3) := dk_180 0 7 (dk_at dksX2_orders_2 1 rfl rfl)
theorem dX2_orders_52 : decode cX2_orders 52 = .ok (.bipush 6, 2) := dk_16 6 (dk_at dksX2_orders_2 4 rfl rfl)
theorem dX2_orders_54 : decode cX2_orders 54 = .ok (.dup2, 1) := dk_92 (dk_at dksX2_orders_2 6 rfl rfl)
theorem dX2_orders_55 : decode cX2_orders 55 = .ok (.iaload, 1) := dk_46 (dk_at dksX2_orders_2 7 rfl rfl)
theorem dX2_orders_56 : decode cX2_orders 56 = .ok (.iconst 1, 1) := dk_4 (dk_at dksX2_orders_2 8 rfl rfl)
theorem dX2_orders_57 : decode cX2_orders 57 = .ok (.iadd, 1) := dk_96 (dk_at dksX2_orders_2 9 rfl rfl)
theorem dX2_orders_58 : decode cX2_orders 58 = .ok (.iastore, 1) := dk_79 (dk_at dksX2_orders_2 10 rfl rfl)
theorem dX2_orders_59 : decode cX2_orders 59 = .ok (.aload_n 0, 1) := dk_42 (dk_at dksX2_orders_2 11 rfl rfl)
theorem dX2_orders_60 : decode cX2_orders 60 = .ok (.iload_n 1, 1) := dk_27 (dk_at dksX2_orders_2 12 rfl rfl)
theorem dX2_orders_61 : decode cX2_orders 61 = .ok (.iload_n 2, 1) := dk_28 (dk_at dksX2_orders_2 13 rfl rfl)
theorem dX2_orders_62 : decode cX2_orders 62 = .ok (.iload_n 3, 1) := dk_29 (dk_at dksX2_orders_2 14 rfl rfl)
theorem dX2_orders_63 : decode cX2_orders 63 = .ok (.invokevirtual 62, 3) := dk_182 0 62 (dk_at dksX2_orders_2 15 rfl rfl)
theorem dX2_orders_66 : decode cX2_orders 66 = .ok (.iconst 0, 1) := dk_3 (dk_at dksX2_orders_2 18 rfl rfl)
theorem dX2_orders_67 : decode cX2_orders 67 = .ok (.istore 5, 2) := dk_54 5 (dk_at dksX2_orders_2 19 rfl rfl)
theorem dX2_orders_69 : decode cX2_orders 69 = .ok (.iload 5, 2) := dk_21 5 (dk_at dksX2_orders_2 21 rfl rfl)
theorem dX2_orders_71 : decode cX2_orders 71 = .ok (.iconst 3, 1) := dk_6 (dk_at dksX2_orders_2 23 rfl rfl)
theorem dX2_orders_72 : decode cX2_orders 72 = .ok (.if_icmp .ge 28, 3) := dk_162 0 28 (dk_at dksX2_orders_3 0 rfl rfl)
theorem dX2_orders_75 : decode cX2_orders 75 = .ok (.aload_n 0, 1) := dk_42 (dk_at dksX2_orders_3 3 rfl rfl)
theorem dX2_orders_76 : decode cX2_orders 76 = .ok (.getfield 7, 3) := dk_180 0 7 (dk_at dksX2_orders_3 4 rfl rfl)
theorem dX2_orders_79 : decode cX2_orders 79 = .ok (.iload 4, 2) := dk_21 4 (dk_at dksX2_orders_3 7 rfl rfl)
theorem dX2_orders_81 : decode cX2_orders 81 = .ok (.iload 5, 2) := dk_21 5 (dk_at dksX2_orders_3 9 rfl rfl)
theorem dX2_orders_83 : decode cX2_orders 83 = .ok (.invokestatic 66, 3) := dk_184 0 66 (dk_at dksX2_orders_3 11 rfl rfl)
theorem dX2_orders_86 : decode cX2_orders 86 = .ok (.aload_n 0, 1) := dk_42 (dk_at dksX2_orders_3 14 rfl rfl)
theorem dX2_orders_87 : decode cX2_orders 87 = .ok (.getfield 29, 3) := dk_180 0 29 (dk_at dksX2_orders_3 15 rfl rfl)
theorem dX2_orders_90 : decode cX2_orders 90 = .ok (.iload 5, 2) := dk_21 5 (dk_at dksX2_orders_3 18 rfl rfl)
theorem dX2_orders_92 : decode cX2_orders 92 = .ok (.iaload, 1) := dk_46 (dk_at dksX2_orders_3 20 rfl rfl)
theorem dX2_orders_93 : decode cX2_orders 93 = .ok (.iastore, 1) := dk_79 (dk_at dksX2_orders_3 21 rfl rfl)
theorem dX2_orders_94 : decode cX2_orders 94 = .ok (.iinc 5 1, 3) := dk_132 5 1 (dk_at dksX2_orders_4 0 rfl rfl)
theorem dX2_orders_97 : decode cX2_orders 97 = .ok (.goto (-28), 3) := dk_167 255 228 (dk_at dksX2_orders_4 3 rfl rfl)
theorem dX2_orders_100 : decode cX2_orders 100 = .ok (.aload_n 0, 1) := dk_42 (dk_at dksX2_orders_4 6 rfl rfl)
theorem dX2_orders_101 : decode cX2_orders 101 = .ok (.getfield 7, 3) := dk_180 0 7 (dk_at dksX2_orders_4 7 rfl rfl)
theorem dX2_orders_104 : decode cX2_orders 104 = .ok (.iload 4, 2) := dk_21 4 (dk_at dksX2_orders_4 10 rfl rfl)
theorem dX2_orders_106 : decode cX2_orders 106 = .ok (.iconst 3, 1) := dk_6 (dk_at dksX2_orders_4 12 rfl rfl)
theorem dX2_orders_107 : decode cX2_orders 107 = .ok (.invokestatic 66, 3) := dk_184 0 66 (dk_at dksX2_orders_4 13 rfl rfl)
theorem dX2_orders_110 : decode cX2_orders 110 = .ok (.iconst 0, 1) := dk_3 (dk_at dksX2_orders_4 16 rfl rfl)
theorem dX2_orders_111 : decode cX2_orders 111 = .ok (.iastore, 1) := dk_79 (dk_at dksX2_orders_4 17 rfl rfl)
theorem dX2_orders_112 : decode cX2_orders 112 = .ok (.aload_n 0, 1) := dk_42 (dk_at dksX2_orders_4 18 rfl rfl)
theorem dX2_orders_113 : decode cX2_orders 113 = .ok (.getfield 7, 3) := dk_180 0 7 (dk_at dksX2_orders_4 19 rfl rfl)
theorem dX2_orders_116 : decode cX2_orders 116 = .ok (.iload 4, 2) := dk_21 4 (dk_at dksX2_orders_4 22 rfl rfl)
theorem dX2_orders_118 : decode cX2_orders 118 = .ok (.iconst 4, 1) := dk_7 (dk_at dksX2_orders_5 0 rfl rfl)
theorem dX2_orders_119 : decode cX2_orders 119 = .ok (.invokestatic 66, 3) := dk_184 0 66 (dk_at dksX2_orders_5 1 rfl rfl)
theorem dX2_orders_122 : decode cX2_orders 122 = .ok (.bipush (-6), 2) := dk_16 250 (dk_at dksX2_orders_5 4 rfl rfl)
theorem dX2_orders_124 : decode cX2_orders 124 = .ok (.iastore, 1) := dk_79 (dk_at dksX2_orders_5 6 rfl rfl)
theorem dX2_orders_125 : decode cX2_orders 125 = .ok (.aload_n 0, 1) := dk_42 (dk_at dksX2_orders_5 7 rfl rfl)
theorem dX2_orders_126 : decode cX2_orders 126 = .ok (.getfield 7, 3) := dk_180 0 7 (dk_at dksX2_orders_5 8 rfl rfl)
theorem dX2_orders_129 : decode cX2_orders 129 = .ok (.iload 4, 2) := dk_21 4 (dk_at dksX2_orders_5 11 rfl rfl)
theorem dX2_orders_131 : decode cX2_orders 131 = .ok (.iconst 5, 1) := dk_8 (dk_at dksX2_orders_5 13 rfl rfl)
theorem dX2_orders_132 : decode cX2_orders 132 = .ok (.invokestatic 66, 3) := dk_184 0 66 (dk_at dksX2_orders_5 14 rfl rfl)
theorem dX2_orders_135 : decode cX2_orders 135 = .ok (.bipush (-6), 2) := dk_16 250 (dk_at dksX2_orders_5 17 rfl rfl)
theorem dX2_orders_137 : decode cX2_orders 137 = .ok (.iastore, 1) := dk_79 (dk_at dksX2_orders_5 19 rfl rfl)
theorem dX2_orders_138 : decode cX2_orders 138 = .ok (.iload 4, 2) := dk_21 4 (dk_at dksX2_orders_5 20 rfl rfl)
theorem dX2_orders_140 : decode cX2_orders 140 = .ok (.ireturn, 1) := dk_172 (dk_at dksX2_orders_5 22 rfl rfl)
abbrev cX2_sorts : ByteArray := prog_8_method_19_code
def yX2_sorts : MethodName := ⟨RX2, "sorts", "(III)V"⟩
def dkwX2_sorts_3 : List UInt8 := [180, 0, 29, 3, 46, 100, 42, 180, 0, 29, 5, 46, 100, 79, 177]
abbrev dktX2_sorts_3 : List UInt8 := dkwX2_sorts_3 ++ []
def dkwX2_sorts_2 : List UInt8 := [21, 5, 162, 0, 7, 29, 167, 0, 5, 21, 5, 79, 42, 180, 0, 29, 4, 27, 28, 96, 29, 96, 42]
abbrev dktX2_sorts_2 : List UInt8 := dkwX2_sorts_2 ++ dktX2_sorts_3
def dkwX2_sorts_1 : List UInt8 := [42, 180, 0, 29, 3, 29, 21, 4, 164, 0, 7, 29, 167, 0, 5, 21, 4, 79, 42, 180, 0, 29, 5, 29]
abbrev dktX2_sorts_1 : List UInt8 := dkwX2_sorts_1 ++ dktX2_sorts_2
def dkwX2_sorts_0 : List UInt8 := [27, 28, 164, 0, 7, 27, 167, 0, 4, 28, 54, 4, 27, 28, 164, 0, 7, 28, 167, 0, 4, 27, 54, 5]
abbrev dktX2_sorts_0 : List UInt8 := dkwX2_sorts_0 ++ dktX2_sorts_1
theorem dksX2_sorts_0 : cX2_sorts.data.toList.drop 0 = dktX2_sorts_0 := by decide +kernel
theorem dksX2_sorts_1 : cX2_sorts.data.toList.drop 24 = dktX2_sorts_1 := dk_seg dksX2_sorts_0 24 rfl rfl
theorem dksX2_sorts_2 : cX2_sorts.data.toList.drop 48 = dktX2_sorts_2 := dk_seg dksX2_sorts_1 24 rfl rfl
theorem dksX2_sorts_3 : cX2_sorts.data.toList.drop 71 = dktX2_sorts_3 := dk_seg dksX2_sorts_2 23 rfl rfl
theorem dX2_sorts_0 : decode cX2_sorts 0 = .ok (.iload_n 1, 1) := dk_27 (dk_at dksX2_sorts_0 0 rfl rfl)
theorem dX2_sorts_1 : decode cX2_sorts 1 = .ok (.iload_n 2, 1) := dk_28 (dk_at dksX2_sorts_0 1 rfl rfl)
theorem dX2_sorts_2 : decode cX2_sorts 2 = .ok (.if_icmp .le 7, 3) := dk_164 0 7 (dk_at dksX2_sorts_0 2 rfl rfl)
theorem dX2_sorts_5 : decode cX2_sorts 5 = .ok (.iload_n 1, 1) := dk_27 (dk_at dksX2_sorts_0 5 rfl rfl)
theorem dX2_sorts_6 : decode cX2_sorts 6 = .ok (.goto 4, 3) := dk_167 0 4 (dk_at dksX2_sorts_0 6 rfl rfl)
theorem dX2_sorts_9 : decode cX2_sorts 9 = .ok (.iload_n 2, 1) := dk_28 (dk_at dksX2_sorts_0 9 rfl rfl)
theorem dX2_sorts_10 : decode cX2_sorts 10 = .ok (.istore 4, 2) := dk_54 4 (dk_at dksX2_sorts_0 10 rfl rfl)
theorem dX2_sorts_12 : decode cX2_sorts 12 = .ok (.iload_n 1, 1) := dk_27 (dk_at dksX2_sorts_0 12 rfl rfl)
theorem dX2_sorts_13 : decode cX2_sorts 13 = .ok (.iload_n 2, 1) := dk_28 (dk_at dksX2_sorts_0 13 rfl rfl)
theorem dX2_sorts_14 : decode cX2_sorts 14 = .ok (.if_icmp .le 7, 3) := dk_164 0 7 (dk_at dksX2_sorts_0 14 rfl rfl)
theorem dX2_sorts_17 : decode cX2_sorts 17 = .ok (.iload_n 2, 1) := dk_28 (dk_at dksX2_sorts_0 17 rfl rfl)
theorem dX2_sorts_18 : decode cX2_sorts 18 = .ok (.goto 4, 3) := dk_167 0 4 (dk_at dksX2_sorts_0 18 rfl rfl)
theorem dX2_sorts_21 : decode cX2_sorts 21 = .ok (.iload_n 1, 1) := dk_27 (dk_at dksX2_sorts_0 21 rfl rfl)
theorem dX2_sorts_22 : decode cX2_sorts 22 = .ok (.istore 5, 2) := dk_54 5 (dk_at dksX2_sorts_0 22 rfl rfl)
theorem dX2_sorts_24 : decode cX2_sorts 24 = .ok (.aload_n 0, 1) := dk_42 (dk_at dksX2_sorts_1 0 rfl rfl)
theorem dX2_sorts_25 : decode cX2_sorts 25 = .ok (.getfield 29, 3) := dk_180 0 29 (dk_at dksX2_sorts_1 1 rfl rfl)
theorem dX2_sorts_28 : decode cX2_sorts 28 = .ok (.iconst 0, 1) := dk_3 (dk_at dksX2_sorts_1 4 rfl rfl)
theorem dX2_sorts_29 : decode cX2_sorts 29 = .ok (.iload_n 3, 1) := dk_29 (dk_at dksX2_sorts_1 5 rfl rfl)
theorem dX2_sorts_30 : decode cX2_sorts 30 = .ok (.iload 4, 2) := dk_21 4 (dk_at dksX2_sorts_1 6 rfl rfl)
theorem dX2_sorts_32 : decode cX2_sorts 32 = .ok (.if_icmp .le 7, 3) := dk_164 0 7 (dk_at dksX2_sorts_1 8 rfl rfl)
theorem dX2_sorts_35 : decode cX2_sorts 35 = .ok (.iload_n 3, 1) := dk_29 (dk_at dksX2_sorts_1 11 rfl rfl)
theorem dX2_sorts_36 : decode cX2_sorts 36 = .ok (.goto 5, 3) := dk_167 0 5 (dk_at dksX2_sorts_1 12 rfl rfl)
theorem dX2_sorts_39 : decode cX2_sorts 39 = .ok (.iload 4, 2) := dk_21 4 (dk_at dksX2_sorts_1 15 rfl rfl)
theorem dX2_sorts_41 : decode cX2_sorts 41 = .ok (.iastore, 1) := dk_79 (dk_at dksX2_sorts_1 17 rfl rfl)
theorem dX2_sorts_42 : decode cX2_sorts 42 = .ok (.aload_n 0, 1) := dk_42 (dk_at dksX2_sorts_1 18 rfl rfl)
theorem dX2_sorts_43 : decode cX2_sorts 43 = .ok (.getfield 29, 3) := dk_180 0 29 (dk_at dksX2_sorts_1 19 rfl rfl)
theorem dX2_sorts_46 : decode cX2_sorts 46 = .ok (.iconst 2, 1) := dk_5 (dk_at dksX2_sorts_1 22 rfl rfl)
theorem dX2_sorts_47 : decode cX2_sorts 47 = .ok (.iload_n 3, 1) := dk_29 (dk_at dksX2_sorts_1 23 rfl rfl)
theorem dX2_sorts_48 : decode cX2_sorts 48 = .ok (.iload 5, 2) := dk_21 5 (dk_at dksX2_sorts_2 0 rfl rfl)
theorem dX2_sorts_50 : decode cX2_sorts 50 = .ok (.if_icmp .ge 7, 3) := dk_162 0 7 (dk_at dksX2_sorts_2 2 rfl rfl)
theorem dX2_sorts_53 : decode cX2_sorts 53 = .ok (.iload_n 3, 1) := dk_29 (dk_at dksX2_sorts_2 5 rfl rfl)
theorem dX2_sorts_54 : decode cX2_sorts 54 = .ok (.goto 5, 3) := dk_167 0 5 (dk_at dksX2_sorts_2 6 rfl rfl)
theorem dX2_sorts_57 : decode cX2_sorts 57 = .ok (.iload 5, 2) := dk_21 5 (dk_at dksX2_sorts_2 9 rfl rfl)
theorem dX2_sorts_59 : decode cX2_sorts 59 = .ok (.iastore, 1) := dk_79 (dk_at dksX2_sorts_2 11 rfl rfl)
theorem dX2_sorts_60 : decode cX2_sorts 60 = .ok (.aload_n 0, 1) := dk_42 (dk_at dksX2_sorts_2 12 rfl rfl)
theorem dX2_sorts_61 : decode cX2_sorts 61 = .ok (.getfield 29, 3) := dk_180 0 29 (dk_at dksX2_sorts_2 13 rfl rfl)
theorem dX2_sorts_64 : decode cX2_sorts 64 = .ok (.iconst 1, 1) := dk_4 (dk_at dksX2_sorts_2 16 rfl rfl)
theorem dX2_sorts_65 : decode cX2_sorts 65 = .ok (.iload_n 1, 1) := dk_27 (dk_at dksX2_sorts_2 17 rfl rfl)
theorem dX2_sorts_66 : decode cX2_sorts 66 = .ok (.iload_n 2, 1) := dk_28 (dk_at dksX2_sorts_2 18 rfl rfl)
theorem dX2_sorts_67 : decode cX2_sorts 67 = .ok (.iadd, 1) := dk_96 (dk_at dksX2_sorts_2 19 rfl rfl)
theorem dX2_sorts_68 : decode cX2_sorts 68 = .ok (.iload_n 3, 1) := dk_29 (dk_at dksX2_sorts_2 20 rfl rfl)
theorem dX2_sorts_69 : decode cX2_sorts 69 = .ok (.iadd, 1) := dk_96 (dk_at dksX2_sorts_2 21 rfl rfl)
theorem dX2_sorts_70 : decode cX2_sorts 70 = .ok (.aload_n 0, 1) := dk_42 (dk_at dksX2_sorts_2 22 rfl rfl)
theorem dX2_sorts_71 : decode cX2_sorts 71 = .ok (.getfield 29, 3) := dk_180 0 29 (dk_at dksX2_sorts_3 0 rfl rfl)
theorem dX2_sorts_74 : decode cX2_sorts 74 = .ok (.iconst 0, 1) := dk_3 (dk_at dksX2_sorts_3 3 rfl rfl)
theorem dX2_sorts_75 : decode cX2_sorts 75 = .ok (.iaload, 1) := dk_46 (dk_at dksX2_sorts_3 4 rfl rfl)
theorem dX2_sorts_76 : decode cX2_sorts 76 = .ok (.isub, 1) := dk_100 (dk_at dksX2_sorts_3 5 rfl rfl)
theorem dX2_sorts_77 : decode cX2_sorts 77 = .ok (.aload_n 0, 1) := dk_42 (dk_at dksX2_sorts_3 6 rfl rfl)
theorem dX2_sorts_78 : decode cX2_sorts 78 = .ok (.getfield 29, 3) := dk_180 0 29 (dk_at dksX2_sorts_3 7 rfl rfl)
theorem dX2_sorts_81 : decode cX2_sorts 81 = .ok (.iconst 2, 1) := dk_5 (dk_at dksX2_sorts_3 10 rfl rfl)
theorem dX2_sorts_82 : decode cX2_sorts 82 = .ok (.iaload, 1) := dk_46 (dk_at dksX2_sorts_3 11 rfl rfl)
theorem dX2_sorts_83 : decode cX2_sorts 83 = .ok (.isub, 1) := dk_100 (dk_at dksX2_sorts_3 12 rfl rfl)
theorem dX2_sorts_84 : decode cX2_sorts 84 = .ok (.iastore, 1) := dk_79 (dk_at dksX2_sorts_3 13 rfl rfl)
theorem dX2_sorts_85 : decode cX2_sorts 85 = .ok (.return_, 1) := dk_177 (dk_at dksX2_sorts_3 14 rfl rfl)
abbrev cX2_ofOrderAt : ByteArray := prog_8_method_8_code
def yX2_ofOrderAt : MethodName := ⟨RX2, "ofOrderAt", "(II)I"⟩
def dkwX2_ofOrderAt_0 : List UInt8 := [17, 0, 252, 16, 6, 26, 104, 96, 27, 96, 172]
abbrev dktX2_ofOrderAt_0 : List UInt8 := dkwX2_ofOrderAt_0 ++ []
theorem dksX2_ofOrderAt_0 : cX2_ofOrderAt.data.toList.drop 0 = dktX2_ofOrderAt_0 := by decide +kernel
theorem dX2_ofOrderAt_0 : decode cX2_ofOrderAt 0 = .ok (.sipush 252, 3) := dk_17 0 252 (dk_at dksX2_ofOrderAt_0 0 rfl rfl)
theorem dX2_ofOrderAt_3 : decode cX2_ofOrderAt 3 = .ok (.bipush 6, 2) := dk_16 6 (dk_at dksX2_ofOrderAt_0 3 rfl rfl)
theorem dX2_ofOrderAt_5 : decode cX2_ofOrderAt 5 = .ok (.iload_n 0, 1) := dk_26 (dk_at dksX2_ofOrderAt_0 5 rfl rfl)
theorem dX2_ofOrderAt_6 : decode cX2_ofOrderAt 6 = .ok (.imul, 1) := dk_104 (dk_at dksX2_ofOrderAt_0 6 rfl rfl)
theorem dX2_ofOrderAt_7 : decode cX2_ofOrderAt 7 = .ok (.iadd, 1) := dk_96 (dk_at dksX2_ofOrderAt_0 7 rfl rfl)
theorem dX2_ofOrderAt_8 : decode cX2_ofOrderAt 8 = .ok (.iload_n 1, 1) := dk_27 (dk_at dksX2_ofOrderAt_0 8 rfl rfl)
theorem dX2_ofOrderAt_9 : decode cX2_ofOrderAt 9 = .ok (.iadd, 1) := dk_96 (dk_at dksX2_ofOrderAt_0 9 rfl rfl)
theorem dX2_ofOrderAt_10 : decode cX2_ofOrderAt 10 = .ok (.ireturn, 1) := dk_172 (dk_at dksX2_ofOrderAt_0 10 rfl rfl)
abbrev cX2_gives : ByteArray := prog_8_method_35_code
def yX2_gives : MethodName := ⟨RX2, "gives", "(II)I"⟩
def dkwX2_gives_2 : List UInt8 := [184, 0, 66, 28, 79, 42, 180, 0, 7, 28, 16, 7, 184, 0, 47, 27, 79, 42, 27, 28, 182, 0, 72, 172]
abbrev dktX2_gives_2 : List UInt8 := dkwX2_gives_2 ++ []
def dkwX2_gives_1 : List UInt8 := [154, 0, 6, 16, 251, 172, 42, 180, 0, 7, 27, 6, 184, 0, 66, 4, 79, 42, 180, 0, 7, 27, 7]
abbrev dktX2_gives_1 : List UInt8 := dkwX2_gives_1 ++ dktX2_gives_2
def dkwX2_gives_0 : List UInt8 := [42, 27, 182, 0, 116, 153, 0, 11, 42, 28, 182, 0, 103, 154, 0, 5, 2, 172, 42, 27, 28, 182, 0, 119]
abbrev dktX2_gives_0 : List UInt8 := dkwX2_gives_0 ++ dktX2_gives_1
theorem dksX2_gives_0 : cX2_gives.data.toList.drop 0 = dktX2_gives_0 := by decide +kernel
theorem dksX2_gives_1 : cX2_gives.data.toList.drop 24 = dktX2_gives_1 := dk_seg dksX2_gives_0 24 rfl rfl
theorem dksX2_gives_2 : cX2_gives.data.toList.drop 47 = dktX2_gives_2 := dk_seg dksX2_gives_1 23 rfl rfl
theorem dX2_gives_0 : decode cX2_gives 0 = .ok (.aload_n 0, 1) := dk_42 (dk_at dksX2_gives_0 0 rfl rfl)
theorem dX2_gives_1 : decode cX2_gives 1 = .ok (.iload_n 1, 1) := dk_27 (dk_at dksX2_gives_0 1 rfl rfl)
theorem dX2_gives_2 : decode cX2_gives 2 = .ok (.invokevirtual 116, 3) := dk_182 0 116 (dk_at dksX2_gives_0 2 rfl rfl)
theorem dX2_gives_5 : decode cX2_gives 5 = .ok (.ifCond .eq 11, 3) := dk_153 0 11 (dk_at dksX2_gives_0 5 rfl rfl)
theorem dX2_gives_8 : decode cX2_gives 8 = .ok (.aload_n 0, 1) := dk_42 (dk_at dksX2_gives_0 8 rfl rfl)
theorem dX2_gives_9 : decode cX2_gives 9 = .ok (.iload_n 2, 1) := dk_28 (dk_at dksX2_gives_0 9 rfl rfl)
theorem dX2_gives_10 : decode cX2_gives 10 = .ok (.invokevirtual 103, 3) := dk_182 0 103 (dk_at dksX2_gives_0 10 rfl rfl)
theorem dX2_gives_13 : decode cX2_gives 13 = .ok (.ifCond .ne 5, 3) := dk_154 0 5 (dk_at dksX2_gives_0 13 rfl rfl)
theorem dX2_gives_16 : decode cX2_gives 16 = .ok (.iconst (-1), 1) := dk_2 (dk_at dksX2_gives_0 16 rfl rfl)
theorem dX2_gives_17 : decode cX2_gives 17 = .ok (.ireturn, 1) := dk_172 (dk_at dksX2_gives_0 17 rfl rfl)
theorem dX2_gives_18 : decode cX2_gives 18 = .ok (.aload_n 0, 1) := dk_42 (dk_at dksX2_gives_0 18 rfl rfl)
theorem dX2_gives_19 : decode cX2_gives 19 = .ok (.iload_n 1, 1) := dk_27 (dk_at dksX2_gives_0 19 rfl rfl)
theorem dX2_gives_20 : decode cX2_gives 20 = .ok (.iload_n 2, 1) := dk_28 (dk_at dksX2_gives_0 20 rfl rfl)
theorem dX2_gives_21 : decode cX2_gives 21 = .ok (.invokevirtual 119, 3) := dk_182 0 119 (dk_at dksX2_gives_0 21 rfl rfl)
theorem dX2_gives_24 : decode cX2_gives 24 = .ok (.ifCond .ne 6, 3) := dk_154 0 6 (dk_at dksX2_gives_1 0 rfl rfl)
theorem dX2_gives_27 : decode cX2_gives 27 = .ok (.bipush (-5), 2) := dk_16 251 (dk_at dksX2_gives_1 3 rfl rfl)
theorem dX2_gives_29 : decode cX2_gives 29 = .ok (.ireturn, 1) := dk_172 (dk_at dksX2_gives_1 5 rfl rfl)
theorem dX2_gives_30 : decode cX2_gives 30 = .ok (.aload_n 0, 1) := dk_42 (dk_at dksX2_gives_1 6 rfl rfl)
theorem dX2_gives_31 : decode cX2_gives 31 = .ok (.getfield 7, 3) := dk_180 0 7 (dk_at dksX2_gives_1 7 rfl rfl)
theorem dX2_gives_34 : decode cX2_gives 34 = .ok (.iload_n 1, 1) := dk_27 (dk_at dksX2_gives_1 10 rfl rfl)
theorem dX2_gives_35 : decode cX2_gives 35 = .ok (.iconst 3, 1) := dk_6 (dk_at dksX2_gives_1 11 rfl rfl)
theorem dX2_gives_36 : decode cX2_gives 36 = .ok (.invokestatic 66, 3) := dk_184 0 66 (dk_at dksX2_gives_1 12 rfl rfl)
theorem dX2_gives_39 : decode cX2_gives 39 = .ok (.iconst 1, 1) := dk_4 (dk_at dksX2_gives_1 15 rfl rfl)
theorem dX2_gives_40 : decode cX2_gives 40 = .ok (.iastore, 1) := dk_79 (dk_at dksX2_gives_1 16 rfl rfl)
theorem dX2_gives_41 : decode cX2_gives 41 = .ok (.aload_n 0, 1) := dk_42 (dk_at dksX2_gives_1 17 rfl rfl)
theorem dX2_gives_42 : decode cX2_gives 42 = .ok (.getfield 7, 3) := dk_180 0 7 (dk_at dksX2_gives_1 18 rfl rfl)
theorem dX2_gives_45 : decode cX2_gives 45 = .ok (.iload_n 1, 1) := dk_27 (dk_at dksX2_gives_1 21 rfl rfl)
theorem dX2_gives_46 : decode cX2_gives 46 = .ok (.iconst 4, 1) := dk_7 (dk_at dksX2_gives_1 22 rfl rfl)
theorem dX2_gives_47 : decode cX2_gives 47 = .ok (.invokestatic 66, 3) := dk_184 0 66 (dk_at dksX2_gives_2 0 rfl rfl)
theorem dX2_gives_50 : decode cX2_gives 50 = .ok (.iload_n 2, 1) := dk_28 (dk_at dksX2_gives_2 3 rfl rfl)
theorem dX2_gives_51 : decode cX2_gives 51 = .ok (.iastore, 1) := dk_79 (dk_at dksX2_gives_2 4 rfl rfl)
theorem dX2_gives_52 : decode cX2_gives 52 = .ok (.aload_n 0, 1) := dk_42 (dk_at dksX2_gives_2 5 rfl rfl)
theorem dX2_gives_53 : decode cX2_gives 53 = .ok (.getfield 7, 3) := dk_180 0 7 (dk_at dksX2_gives_2 6 rfl rfl)
theorem dX2_gives_56 : decode cX2_gives 56 = .ok (.iload_n 2, 1) := dk_28 (dk_at dksX2_gives_2 9 rfl rfl)
theorem dX2_gives_57 : decode cX2_gives 57 = .ok (.bipush 7, 2) := dk_16 7 (dk_at dksX2_gives_2 10 rfl rfl)
theorem dX2_gives_59 : decode cX2_gives 59 = .ok (.invokestatic 47, 3) := dk_184 0 47 (dk_at dksX2_gives_2 12 rfl rfl)
theorem dX2_gives_62 : decode cX2_gives 62 = .ok (.iload_n 1, 1) := dk_27 (dk_at dksX2_gives_2 15 rfl rfl)
theorem dX2_gives_63 : decode cX2_gives 63 = .ok (.iastore, 1) := dk_79 (dk_at dksX2_gives_2 16 rfl rfl)
theorem dX2_gives_64 : decode cX2_gives 64 = .ok (.aload_n 0, 1) := dk_42 (dk_at dksX2_gives_2 17 rfl rfl)
theorem dX2_gives_65 : decode cX2_gives 65 = .ok (.iload_n 1, 1) := dk_27 (dk_at dksX2_gives_2 18 rfl rfl)
theorem dX2_gives_66 : decode cX2_gives 66 = .ok (.iload_n 2, 1) := dk_28 (dk_at dksX2_gives_2 19 rfl rfl)
theorem dX2_gives_67 : decode cX2_gives 67 = .ok (.invokevirtual 72, 3) := dk_182 0 72 (dk_at dksX2_gives_2 20 rfl rfl)
theorem dX2_gives_70 : decode cX2_gives 70 = .ok (.ireturn, 1) := dk_172 (dk_at dksX2_gives_2 23 rfl rfl)
abbrev cX2_isOrder : ByteArray := prog_8_method_5_code
def yX2_isOrder : MethodName := ⟨RX2, "isOrder", "(I)Z"⟩
def dkwX2_isOrder_0 : List UInt8 := [27, 3, 42, 180, 0, 7, 16, 6, 46, 4, 100, 184, 0, 39, 172]
abbrev dktX2_isOrder_0 : List UInt8 := dkwX2_isOrder_0 ++ []
theorem dksX2_isOrder_0 : cX2_isOrder.data.toList.drop 0 = dktX2_isOrder_0 := by decide +kernel
theorem dX2_isOrder_0 : decode cX2_isOrder 0 = .ok (.iload_n 1, 1) := dk_27 (dk_at dksX2_isOrder_0 0 rfl rfl)
theorem dX2_isOrder_1 : decode cX2_isOrder 1 = .ok (.iconst 0, 1) := dk_3 (dk_at dksX2_isOrder_0 1 rfl rfl)
theorem dX2_isOrder_2 : decode cX2_isOrder 2 = .ok (.aload_n 0, 1) := dk_42 (dk_at dksX2_isOrder_0 2 rfl rfl)
theorem dX2_isOrder_3 : decode cX2_isOrder 3 = .ok (.getfield 7, 3) := dk_180 0 7 (dk_at dksX2_isOrder_0 3 rfl rfl)
theorem dX2_isOrder_6 : decode cX2_isOrder 6 = .ok (.bipush 6, 2) := dk_16 6 (dk_at dksX2_isOrder_0 6 rfl rfl)
theorem dX2_isOrder_8 : decode cX2_isOrder 8 = .ok (.iaload, 1) := dk_46 (dk_at dksX2_isOrder_0 8 rfl rfl)
theorem dX2_isOrder_9 : decode cX2_isOrder 9 = .ok (.iconst 1, 1) := dk_4 (dk_at dksX2_isOrder_0 9 rfl rfl)
theorem dX2_isOrder_10 : decode cX2_isOrder 10 = .ok (.isub, 1) := dk_100 (dk_at dksX2_isOrder_0 10 rfl rfl)
theorem dX2_isOrder_11 : decode cX2_isOrder 11 = .ok (.invokestatic 39, 3) := dk_184 0 39 (dk_at dksX2_isOrder_0 11 rfl rfl)
theorem dX2_isOrder_14 : decode cX2_isOrder 14 = .ok (.ireturn, 1) := dk_172 (dk_at dksX2_isOrder_0 14 rfl rfl)
abbrev cX2_canGive : ByteArray := prog_8_method_22_code
def yX2_canGive : MethodName := ⟨RX2, "canGive", "(II)Z"⟩
def dkwX2_canGive_3 : List UInt8 := [167, 0, 4, 3, 172]
abbrev dktX2_canGive_3 : List UInt8 := dkwX2_canGive_3 ++ []
def dkwX2_canGive_2 : List UInt8 := [184, 0, 66, 46, 154, 0, 22, 29, 153, 0, 18, 42, 27, 28, 182, 0, 72, 16, 250, 159, 0, 7, 4]
abbrev dktX2_canGive_2 : List UInt8 := dkwX2_canGive_2 ++ dktX2_canGive_3
def dkwX2_canGive_1 : List UInt8 := [154, 0, 16, 42, 28, 7, 182, 0, 50, 154, 0, 7, 4, 167, 0, 4, 3, 62, 42, 180, 0, 7, 27, 6]
abbrev dktX2_canGive_1 : List UInt8 := dkwX2_canGive_1 ++ dktX2_canGive_2
def dkwX2_canGive_0 : List UInt8 := [42, 180, 0, 7, 28, 16, 7, 184, 0, 47, 46, 16, 250, 160, 0, 25, 42, 28, 6, 182, 0, 50]
abbrev dktX2_canGive_0 : List UInt8 := dkwX2_canGive_0 ++ dktX2_canGive_1
theorem dksX2_canGive_0 : cX2_canGive.data.toList.drop 0 = dktX2_canGive_0 := by decide +kernel
theorem dksX2_canGive_1 : cX2_canGive.data.toList.drop 22 = dktX2_canGive_1 := dk_seg dksX2_canGive_0 22 rfl rfl
theorem dksX2_canGive_2 : cX2_canGive.data.toList.drop 46 = dktX2_canGive_2 := dk_seg dksX2_canGive_1 24 rfl rfl
theorem dksX2_canGive_3 : cX2_canGive.data.toList.drop 69 = dktX2_canGive_3 := dk_seg dksX2_canGive_2 23 rfl rfl
theorem dX2_canGive_0 : decode cX2_canGive 0 = .ok (.aload_n 0, 1) := dk_42 (dk_at dksX2_canGive_0 0 rfl rfl)
theorem dX2_canGive_1 : decode cX2_canGive 1 = .ok (.getfield 7, 3) := dk_180 0 7 (dk_at dksX2_canGive_0 1 rfl rfl)
theorem dX2_canGive_4 : decode cX2_canGive 4 = .ok (.iload_n 2, 1) := dk_28 (dk_at dksX2_canGive_0 4 rfl rfl)
theorem dX2_canGive_5 : decode cX2_canGive 5 = .ok (.bipush 7, 2) := dk_16 7 (dk_at dksX2_canGive_0 5 rfl rfl)
theorem dX2_canGive_7 : decode cX2_canGive 7 = .ok (.invokestatic 47, 3) := dk_184 0 47 (dk_at dksX2_canGive_0 7 rfl rfl)
theorem dX2_canGive_10 : decode cX2_canGive 10 = .ok (.iaload, 1) := dk_46 (dk_at dksX2_canGive_0 10 rfl rfl)
theorem dX2_canGive_11 : decode cX2_canGive 11 = .ok (.bipush (-6), 2) := dk_16 250 (dk_at dksX2_canGive_0 11 rfl rfl)
theorem dX2_canGive_13 : decode cX2_canGive 13 = .ok (.if_icmp .ne 25, 3) := dk_160 0 25 (dk_at dksX2_canGive_0 13 rfl rfl)
theorem dX2_canGive_16 : decode cX2_canGive 16 = .ok (.aload_n 0, 1) := dk_42 (dk_at dksX2_canGive_0 16 rfl rfl)
theorem dX2_canGive_17 : decode cX2_canGive 17 = .ok (.iload_n 2, 1) := dk_28 (dk_at dksX2_canGive_0 17 rfl rfl)
theorem dX2_canGive_18 : decode cX2_canGive 18 = .ok (.iconst 3, 1) := dk_6 (dk_at dksX2_canGive_0 18 rfl rfl)
theorem dX2_canGive_19 : decode cX2_canGive 19 = .ok (.invokevirtual 50, 3) := dk_182 0 50 (dk_at dksX2_canGive_0 19 rfl rfl)
theorem dX2_canGive_22 : decode cX2_canGive 22 = .ok (.ifCond .ne 16, 3) := dk_154 0 16 (dk_at dksX2_canGive_1 0 rfl rfl)
theorem dX2_canGive_25 : decode cX2_canGive 25 = .ok (.aload_n 0, 1) := dk_42 (dk_at dksX2_canGive_1 3 rfl rfl)
theorem dX2_canGive_26 : decode cX2_canGive 26 = .ok (.iload_n 2, 1) := dk_28 (dk_at dksX2_canGive_1 4 rfl rfl)
theorem dX2_canGive_27 : decode cX2_canGive 27 = .ok (.iconst 4, 1) := dk_7 (dk_at dksX2_canGive_1 5 rfl rfl)
theorem dX2_canGive_28 : decode cX2_canGive 28 = .ok (.invokevirtual 50, 3) := dk_182 0 50 (dk_at dksX2_canGive_1 6 rfl rfl)
theorem dX2_canGive_31 : decode cX2_canGive 31 = .ok (.ifCond .ne 7, 3) := dk_154 0 7 (dk_at dksX2_canGive_1 9 rfl rfl)
theorem dX2_canGive_34 : decode cX2_canGive 34 = .ok (.iconst 1, 1) := dk_4 (dk_at dksX2_canGive_1 12 rfl rfl)
theorem dX2_canGive_35 : decode cX2_canGive 35 = .ok (.goto 4, 3) := dk_167 0 4 (dk_at dksX2_canGive_1 13 rfl rfl)
theorem dX2_canGive_38 : decode cX2_canGive 38 = .ok (.iconst 0, 1) := dk_3 (dk_at dksX2_canGive_1 16 rfl rfl)
theorem dX2_canGive_39 : decode cX2_canGive 39 = .ok (.istore_n 3, 1) := dk_62 (dk_at dksX2_canGive_1 17 rfl rfl)
theorem dX2_canGive_40 : decode cX2_canGive 40 = .ok (.aload_n 0, 1) := dk_42 (dk_at dksX2_canGive_1 18 rfl rfl)
theorem dX2_canGive_41 : decode cX2_canGive 41 = .ok (.getfield 7, 3) := dk_180 0 7 (dk_at dksX2_canGive_1 19 rfl rfl)
theorem dX2_canGive_44 : decode cX2_canGive 44 = .ok (.iload_n 1, 1) := dk_27 (dk_at dksX2_canGive_1 22 rfl rfl)
theorem dX2_canGive_45 : decode cX2_canGive 45 = .ok (.iconst 3, 1) := dk_6 (dk_at dksX2_canGive_1 23 rfl rfl)
theorem dX2_canGive_46 : decode cX2_canGive 46 = .ok (.invokestatic 66, 3) := dk_184 0 66 (dk_at dksX2_canGive_2 0 rfl rfl)
theorem dX2_canGive_49 : decode cX2_canGive 49 = .ok (.iaload, 1) := dk_46 (dk_at dksX2_canGive_2 3 rfl rfl)
theorem dX2_canGive_50 : decode cX2_canGive 50 = .ok (.ifCond .ne 22, 3) := dk_154 0 22 (dk_at dksX2_canGive_2 4 rfl rfl)
theorem dX2_canGive_53 : decode cX2_canGive 53 = .ok (.iload_n 3, 1) := dk_29 (dk_at dksX2_canGive_2 7 rfl rfl)
theorem dX2_canGive_54 : decode cX2_canGive 54 = .ok (.ifCond .eq 18, 3) := dk_153 0 18 (dk_at dksX2_canGive_2 8 rfl rfl)
theorem dX2_canGive_57 : decode cX2_canGive 57 = .ok (.aload_n 0, 1) := dk_42 (dk_at dksX2_canGive_2 11 rfl rfl)
theorem dX2_canGive_58 : decode cX2_canGive 58 = .ok (.iload_n 1, 1) := dk_27 (dk_at dksX2_canGive_2 12 rfl rfl)
theorem dX2_canGive_59 : decode cX2_canGive 59 = .ok (.iload_n 2, 1) := dk_28 (dk_at dksX2_canGive_2 13 rfl rfl)
theorem dX2_canGive_60 : decode cX2_canGive 60 = .ok (.invokevirtual 72, 3) := dk_182 0 72 (dk_at dksX2_canGive_2 14 rfl rfl)
theorem dX2_canGive_63 : decode cX2_canGive 63 = .ok (.bipush (-6), 2) := dk_16 250 (dk_at dksX2_canGive_2 17 rfl rfl)
theorem dX2_canGive_65 : decode cX2_canGive 65 = .ok (.if_icmp .eq 7, 3) := dk_159 0 7 (dk_at dksX2_canGive_2 19 rfl rfl)
theorem dX2_canGive_68 : decode cX2_canGive 68 = .ok (.iconst 1, 1) := dk_4 (dk_at dksX2_canGive_2 22 rfl rfl)
theorem dX2_canGive_69 : decode cX2_canGive 69 = .ok (.goto 4, 3) := dk_167 0 4 (dk_at dksX2_canGive_3 0 rfl rfl)
theorem dX2_canGive_72 : decode cX2_canGive 72 = .ok (.iconst 0, 1) := dk_3 (dk_at dksX2_canGive_3 3 rfl rfl)
theorem dX2_canGive_73 : decode cX2_canGive 73 = .ok (.ireturn, 1) := dk_172 (dk_at dksX2_canGive_3 4 rfl rfl)
abbrev cX2_excessOf : ByteArray := prog_8_method_21_code
def yX2_excessOf : MethodName := ⟨RX2, "excessOf", "(II)I"⟩
def dkwX2_excessOf_2 : List UInt8 := [5, 184, 0, 47, 46, 182, 0, 69, 172]
abbrev dktX2_excessOf_2 : List UInt8 := dkwX2_excessOf_2 ++ []
def dkwX2_excessOf_1 : List UInt8 := [180, 0, 7, 28, 3, 184, 0, 47, 46, 42, 180, 0, 7, 28, 4, 184, 0, 47, 46, 42, 180, 0, 7, 28]
abbrev dktX2_excessOf_1 : List UInt8 := dkwX2_excessOf_1 ++ dktX2_excessOf_2
def dkwX2_excessOf_0 : List UInt8 := [42, 180, 0, 7, 28, 16, 6, 184, 0, 47, 46, 4, 160, 0, 8, 16, 250, 167, 0, 38, 42, 27, 42]
abbrev dktX2_excessOf_0 : List UInt8 := dkwX2_excessOf_0 ++ dktX2_excessOf_1
theorem dksX2_excessOf_0 : cX2_excessOf.data.toList.drop 0 = dktX2_excessOf_0 := by decide +kernel
theorem dksX2_excessOf_1 : cX2_excessOf.data.toList.drop 23 = dktX2_excessOf_1 := dk_seg dksX2_excessOf_0 23 rfl rfl
theorem dksX2_excessOf_2 : cX2_excessOf.data.toList.drop 47 = dktX2_excessOf_2 := dk_seg dksX2_excessOf_1 24 rfl rfl
theorem dX2_excessOf_0 : decode cX2_excessOf 0 = .ok (.aload_n 0, 1) := dk_42 (dk_at dksX2_excessOf_0 0 rfl rfl)
theorem dX2_excessOf_1 : decode cX2_excessOf 1 = .ok (.getfield 7, 3) := dk_180 0 7 (dk_at dksX2_excessOf_0 1 rfl rfl)
theorem dX2_excessOf_4 : decode cX2_excessOf 4 = .ok (.iload_n 2, 1) := dk_28 (dk_at dksX2_excessOf_0 4 rfl rfl)
theorem dX2_excessOf_5 : decode cX2_excessOf 5 = .ok (.bipush 6, 2) := dk_16 6 (dk_at dksX2_excessOf_0 5 rfl rfl)
theorem dX2_excessOf_7 : decode cX2_excessOf 7 = .ok (.invokestatic 47, 3) := dk_184 0 47 (dk_at dksX2_excessOf_0 7 rfl rfl)
theorem dX2_excessOf_10 : decode cX2_excessOf 10 = .ok (.iaload, 1) := dk_46 (dk_at dksX2_excessOf_0 10 rfl rfl)
theorem dX2_excessOf_11 : decode cX2_excessOf 11 = .ok (.iconst 1, 1) := dk_4 (dk_at dksX2_excessOf_0 11 rfl rfl)
theorem dX2_excessOf_12 : decode cX2_excessOf 12 = .ok (.if_icmp .ne 8, 3) := dk_160 0 8 (dk_at dksX2_excessOf_0 12 rfl rfl)
theorem dX2_excessOf_15 : decode cX2_excessOf 15 = .ok (.bipush (-6), 2) := dk_16 250 (dk_at dksX2_excessOf_0 15 rfl rfl)
theorem dX2_excessOf_17 : decode cX2_excessOf 17 = .ok (.goto 38, 3) := dk_167 0 38 (dk_at dksX2_excessOf_0 17 rfl rfl)
theorem dX2_excessOf_20 : decode cX2_excessOf 20 = .ok (.aload_n 0, 1) := dk_42 (dk_at dksX2_excessOf_0 20 rfl rfl)
theorem dX2_excessOf_21 : decode cX2_excessOf 21 = .ok (.iload_n 1, 1) := dk_27 (dk_at dksX2_excessOf_0 21 rfl rfl)
theorem dX2_excessOf_22 : decode cX2_excessOf 22 = .ok (.aload_n 0, 1) := dk_42 (dk_at dksX2_excessOf_0 22 rfl rfl)
theorem dX2_excessOf_23 : decode cX2_excessOf 23 = .ok (.getfield 7, 3) := dk_180 0 7 (dk_at dksX2_excessOf_1 0 rfl rfl)
theorem dX2_excessOf_26 : decode cX2_excessOf 26 = .ok (.iload_n 2, 1) := dk_28 (dk_at dksX2_excessOf_1 3 rfl rfl)
theorem dX2_excessOf_27 : decode cX2_excessOf 27 = .ok (.iconst 0, 1) := dk_3 (dk_at dksX2_excessOf_1 4 rfl rfl)
theorem dX2_excessOf_28 : decode cX2_excessOf 28 = .ok (.invokestatic 47, 3) := dk_184 0 47 (dk_at dksX2_excessOf_1 5 rfl rfl)
theorem dX2_excessOf_31 : decode cX2_excessOf 31 = .ok (.iaload, 1) := dk_46 (dk_at dksX2_excessOf_1 8 rfl rfl)
theorem dX2_excessOf_32 : decode cX2_excessOf 32 = .ok (.aload_n 0, 1) := dk_42 (dk_at dksX2_excessOf_1 9 rfl rfl)
theorem dX2_excessOf_33 : decode cX2_excessOf 33 = .ok (.getfield 7, 3) := dk_180 0 7 (dk_at dksX2_excessOf_1 10 rfl rfl)
theorem dX2_excessOf_36 : decode cX2_excessOf 36 = .ok (.iload_n 2, 1) := dk_28 (dk_at dksX2_excessOf_1 13 rfl rfl)
theorem dX2_excessOf_37 : decode cX2_excessOf 37 = .ok (.iconst 1, 1) := dk_4 (dk_at dksX2_excessOf_1 14 rfl rfl)
theorem dX2_excessOf_38 : decode cX2_excessOf 38 = .ok (.invokestatic 47, 3) := dk_184 0 47 (dk_at dksX2_excessOf_1 15 rfl rfl)
theorem dX2_excessOf_41 : decode cX2_excessOf 41 = .ok (.iaload, 1) := dk_46 (dk_at dksX2_excessOf_1 18 rfl rfl)
theorem dX2_excessOf_42 : decode cX2_excessOf 42 = .ok (.aload_n 0, 1) := dk_42 (dk_at dksX2_excessOf_1 19 rfl rfl)
theorem dX2_excessOf_43 : decode cX2_excessOf 43 = .ok (.getfield 7, 3) := dk_180 0 7 (dk_at dksX2_excessOf_1 20 rfl rfl)
theorem dX2_excessOf_46 : decode cX2_excessOf 46 = .ok (.iload_n 2, 1) := dk_28 (dk_at dksX2_excessOf_1 23 rfl rfl)
theorem dX2_excessOf_47 : decode cX2_excessOf 47 = .ok (.iconst 2, 1) := dk_5 (dk_at dksX2_excessOf_2 0 rfl rfl)
theorem dX2_excessOf_48 : decode cX2_excessOf 48 = .ok (.invokestatic 47, 3) := dk_184 0 47 (dk_at dksX2_excessOf_2 1 rfl rfl)
theorem dX2_excessOf_51 : decode cX2_excessOf 51 = .ok (.iaload, 1) := dk_46 (dk_at dksX2_excessOf_2 4 rfl rfl)
theorem dX2_excessOf_52 : decode cX2_excessOf 52 = .ok (.invokevirtual 69, 3) := dk_182 0 69 (dk_at dksX2_excessOf_2 5 rfl rfl)
theorem dX2_excessOf_55 : decode cX2_excessOf 55 = .ok (.ireturn, 1) := dk_172 (dk_at dksX2_excessOf_2 8 rfl rfl)
abbrev cX2_excess : ByteArray := prog_8_method_20_code
def yX2_excess : MethodName := ⟨RX2, "excess", "(IIII)I"⟩
def dkwX2_excess_4 : List UInt8 := [167, 0, 5, 16, 250, 172]
abbrev dktX2_excess_4 : List UInt8 := dkwX2_excess_4 ++ []
def dkwX2_excess_3 : List UInt8 := [54, 6, 21, 5, 21, 8, 96, 54, 5, 132, 7, 1, 167, 255, 192, 21, 6, 153, 0, 8, 21, 5]
abbrev dktX2_excess_3 : List UInt8 := dkwX2_excess_3 ++ dktX2_excess_4
def dkwX2_excess_2 : List UInt8 := [153, 0, 22, 21, 8, 3, 42, 180, 0, 7, 6, 46, 184, 0, 39, 153, 0, 7, 4, 167, 0, 4, 3]
abbrev dktX2_excess_2 : List UInt8 := dkwX2_excess_2 ++ dktX2_excess_3
def dkwX2_excess_1 : List UInt8 := [180, 0, 29, 21, 7, 46, 42, 180, 0, 7, 27, 21, 7, 184, 0, 66, 46, 100, 54, 8, 21, 6]
abbrev dktX2_excess_1 : List UInt8 := dkwX2_excess_1 ++ dktX2_excess_2
def dkwX2_excess_0 : List UInt8 := [42, 28, 29, 21, 4, 182, 0, 62, 3, 54, 5, 4, 54, 6, 3, 54, 7, 21, 7, 6, 162, 0, 64, 42]
abbrev dktX2_excess_0 : List UInt8 := dkwX2_excess_0 ++ dktX2_excess_1
theorem dksX2_excess_0 : cX2_excess.data.toList.drop 0 = dktX2_excess_0 := by decide +kernel
theorem dksX2_excess_1 : cX2_excess.data.toList.drop 24 = dktX2_excess_1 := dk_seg dksX2_excess_0 24 rfl rfl
theorem dksX2_excess_2 : cX2_excess.data.toList.drop 46 = dktX2_excess_2 := dk_seg dksX2_excess_1 22 rfl rfl
theorem dksX2_excess_3 : cX2_excess.data.toList.drop 69 = dktX2_excess_3 := dk_seg dksX2_excess_2 23 rfl rfl
theorem dksX2_excess_4 : cX2_excess.data.toList.drop 91 = dktX2_excess_4 := dk_seg dksX2_excess_3 22 rfl rfl
theorem dX2_excess_0 : decode cX2_excess 0 = .ok (.aload_n 0, 1) := dk_42 (dk_at dksX2_excess_0 0 rfl rfl)
theorem dX2_excess_1 : decode cX2_excess 1 = .ok (.iload_n 2, 1) := dk_28 (dk_at dksX2_excess_0 1 rfl rfl)
theorem dX2_excess_2 : decode cX2_excess 2 = .ok (.iload_n 3, 1) := dk_29 (dk_at dksX2_excess_0 2 rfl rfl)
theorem dX2_excess_3 : decode cX2_excess 3 = .ok (.iload 4, 2) := dk_21 4 (dk_at dksX2_excess_0 3 rfl rfl)
theorem dX2_excess_5 : decode cX2_excess 5 = .ok (.invokevirtual 62, 3) := dk_182 0 62 (dk_at dksX2_excess_0 5 rfl rfl)
theorem dX2_excess_8 : decode cX2_excess 8 = .ok (.iconst 0, 1) := dk_3 (dk_at dksX2_excess_0 8 rfl rfl)
theorem dX2_excess_9 : decode cX2_excess 9 = .ok (.istore 5, 2) := dk_54 5 (dk_at dksX2_excess_0 9 rfl rfl)
theorem dX2_excess_11 : decode cX2_excess 11 = .ok (.iconst 1, 1) := dk_4 (dk_at dksX2_excess_0 11 rfl rfl)
theorem dX2_excess_12 : decode cX2_excess 12 = .ok (.istore 6, 2) := dk_54 6 (dk_at dksX2_excess_0 12 rfl rfl)
theorem dX2_excess_14 : decode cX2_excess 14 = .ok (.iconst 0, 1) := dk_3 (dk_at dksX2_excess_0 14 rfl rfl)
theorem dX2_excess_15 : decode cX2_excess 15 = .ok (.istore 7, 2) := dk_54 7 (dk_at dksX2_excess_0 15 rfl rfl)
theorem dX2_excess_17 : decode cX2_excess 17 = .ok (.iload 7, 2) := dk_21 7 (dk_at dksX2_excess_0 17 rfl rfl)
theorem dX2_excess_19 : decode cX2_excess 19 = .ok (.iconst 3, 1) := dk_6 (dk_at dksX2_excess_0 19 rfl rfl)
theorem dX2_excess_20 : decode cX2_excess 20 = .ok (.if_icmp .ge 64, 3) := dk_162 0 64 (dk_at dksX2_excess_0 20 rfl rfl)
theorem dX2_excess_23 : decode cX2_excess 23 = .ok (.aload_n 0, 1) := dk_42 (dk_at dksX2_excess_0 23 rfl rfl)
theorem dX2_excess_24 : decode cX2_excess 24 = .ok (.getfield 29, 3) := dk_180 0 29 (dk_at dksX2_excess_1 0 rfl rfl)
theorem dX2_excess_27 : decode cX2_excess 27 = .ok (.iload 7, 2) := dk_21 7 (dk_at dksX2_excess_1 3 rfl rfl)
theorem dX2_excess_29 : decode cX2_excess 29 = .ok (.iaload, 1) := dk_46 (dk_at dksX2_excess_1 5 rfl rfl)
theorem dX2_excess_30 : decode cX2_excess 30 = .ok (.aload_n 0, 1) := dk_42 (dk_at dksX2_excess_1 6 rfl rfl)
theorem dX2_excess_31 : decode cX2_excess 31 = .ok (.getfield 7, 3) := dk_180 0 7 (dk_at dksX2_excess_1 7 rfl rfl)
theorem dX2_excess_34 : decode cX2_excess 34 = .ok (.iload_n 1, 1) := dk_27 (dk_at dksX2_excess_1 10 rfl rfl)
theorem dX2_excess_35 : decode cX2_excess 35 = .ok (.iload 7, 2) := dk_21 7 (dk_at dksX2_excess_1 11 rfl rfl)
theorem dX2_excess_37 : decode cX2_excess 37 = .ok (.invokestatic 66, 3) := dk_184 0 66 (dk_at dksX2_excess_1 13 rfl rfl)
theorem dX2_excess_40 : decode cX2_excess 40 = .ok (.iaload, 1) := dk_46 (dk_at dksX2_excess_1 16 rfl rfl)
theorem dX2_excess_41 : decode cX2_excess 41 = .ok (.isub, 1) := dk_100 (dk_at dksX2_excess_1 17 rfl rfl)
theorem dX2_excess_42 : decode cX2_excess 42 = .ok (.istore 8, 2) := dk_54 8 (dk_at dksX2_excess_1 18 rfl rfl)
theorem dX2_excess_44 : decode cX2_excess 44 = .ok (.iload 6, 2) := dk_21 6 (dk_at dksX2_excess_1 20 rfl rfl)
theorem dX2_excess_46 : decode cX2_excess 46 = .ok (.ifCond .eq 22, 3) := dk_153 0 22 (dk_at dksX2_excess_2 0 rfl rfl)
theorem dX2_excess_49 : decode cX2_excess 49 = .ok (.iload 8, 2) := dk_21 8 (dk_at dksX2_excess_2 3 rfl rfl)
theorem dX2_excess_51 : decode cX2_excess 51 = .ok (.iconst 0, 1) := dk_3 (dk_at dksX2_excess_2 5 rfl rfl)
theorem dX2_excess_52 : decode cX2_excess 52 = .ok (.aload_n 0, 1) := dk_42 (dk_at dksX2_excess_2 6 rfl rfl)
theorem dX2_excess_53 : decode cX2_excess 53 = .ok (.getfield 7, 3) := dk_180 0 7 (dk_at dksX2_excess_2 7 rfl rfl)
theorem dX2_excess_56 : decode cX2_excess 56 = .ok (.iconst 3, 1) := dk_6 (dk_at dksX2_excess_2 10 rfl rfl)
theorem dX2_excess_57 : decode cX2_excess 57 = .ok (.iaload, 1) := dk_46 (dk_at dksX2_excess_2 11 rfl rfl)
theorem dX2_excess_58 : decode cX2_excess 58 = .ok (.invokestatic 39, 3) := dk_184 0 39 (dk_at dksX2_excess_2 12 rfl rfl)
theorem dX2_excess_61 : decode cX2_excess 61 = .ok (.ifCond .eq 7, 3) := dk_153 0 7 (dk_at dksX2_excess_2 15 rfl rfl)
theorem dX2_excess_64 : decode cX2_excess 64 = .ok (.iconst 1, 1) := dk_4 (dk_at dksX2_excess_2 18 rfl rfl)
theorem dX2_excess_65 : decode cX2_excess 65 = .ok (.goto 4, 3) := dk_167 0 4 (dk_at dksX2_excess_2 19 rfl rfl)
theorem dX2_excess_68 : decode cX2_excess 68 = .ok (.iconst 0, 1) := dk_3 (dk_at dksX2_excess_2 22 rfl rfl)
theorem dX2_excess_69 : decode cX2_excess 69 = .ok (.istore 6, 2) := dk_54 6 (dk_at dksX2_excess_3 0 rfl rfl)
theorem dX2_excess_71 : decode cX2_excess 71 = .ok (.iload 5, 2) := dk_21 5 (dk_at dksX2_excess_3 2 rfl rfl)
theorem dX2_excess_73 : decode cX2_excess 73 = .ok (.iload 8, 2) := dk_21 8 (dk_at dksX2_excess_3 4 rfl rfl)
theorem dX2_excess_75 : decode cX2_excess 75 = .ok (.iadd, 1) := dk_96 (dk_at dksX2_excess_3 6 rfl rfl)
theorem dX2_excess_76 : decode cX2_excess 76 = .ok (.istore 5, 2) := dk_54 5 (dk_at dksX2_excess_3 7 rfl rfl)
theorem dX2_excess_78 : decode cX2_excess 78 = .ok (.iinc 7 1, 3) := dk_132 7 1 (dk_at dksX2_excess_3 9 rfl rfl)
theorem dX2_excess_81 : decode cX2_excess 81 = .ok (.goto (-64), 3) := dk_167 255 192 (dk_at dksX2_excess_3 12 rfl rfl)
theorem dX2_excess_84 : decode cX2_excess 84 = .ok (.iload 6, 2) := dk_21 6 (dk_at dksX2_excess_3 15 rfl rfl)
theorem dX2_excess_86 : decode cX2_excess 86 = .ok (.ifCond .eq 8, 3) := dk_153 0 8 (dk_at dksX2_excess_3 17 rfl rfl)
theorem dX2_excess_89 : decode cX2_excess 89 = .ok (.iload 5, 2) := dk_21 5 (dk_at dksX2_excess_3 20 rfl rfl)
theorem dX2_excess_91 : decode cX2_excess 91 = .ok (.goto 5, 3) := dk_167 0 5 (dk_at dksX2_excess_4 0 rfl rfl)
theorem dX2_excess_94 : decode cX2_excess 94 = .ok (.bipush (-6), 2) := dk_16 250 (dk_at dksX2_excess_4 3 rfl rfl)
theorem dX2_excess_96 : decode cX2_excess 96 = .ok (.ireturn, 1) := dk_172 (dk_at dksX2_excess_4 5 rfl rfl)
abbrev cX2_loads : ByteArray := prog_8_method_36_code
def yX2_loads : MethodName := ⟨RX2, "loads", "(III)I"⟩
def dkwX2_loads_3 : List UInt8 := [29, 96, 79, 42, 28, 182, 0, 90, 172]
abbrev dktX2_loads_3 : List UInt8 := dkwX2_loads_3 ++ []
def dkwX2_loads_2 : List UInt8 := [42, 180, 0, 7, 27, 7, 184, 0, 47, 5, 79, 42, 180, 0, 7, 27, 16, 8, 184, 0, 47, 8, 28, 104]
abbrev dktX2_loads_2 : List UInt8 := dkwX2_loads_2 ++ dktX2_loads_3
def dkwX2_loads_1 : List UInt8 := [2, 172, 42, 27, 182, 0, 100, 153, 0, 14, 42, 28, 29, 182, 0, 75, 16, 250, 159, 0, 6, 16, 251, 172]
abbrev dktX2_loads_1 : List UInt8 := dkwX2_loads_1 ++ dktX2_loads_2
def dkwX2_loads_0 : List UInt8 := [42, 27, 182, 0, 103, 153, 0, 19, 28, 184, 0, 122, 153, 0, 12, 29, 3, 7, 184, 0, 39, 154, 0, 5]
abbrev dktX2_loads_0 : List UInt8 := dkwX2_loads_0 ++ dktX2_loads_1
theorem dksX2_loads_0 : cX2_loads.data.toList.drop 0 = dktX2_loads_0 := by decide +kernel
theorem dksX2_loads_1 : cX2_loads.data.toList.drop 24 = dktX2_loads_1 := dk_seg dksX2_loads_0 24 rfl rfl
theorem dksX2_loads_2 : cX2_loads.data.toList.drop 48 = dktX2_loads_2 := dk_seg dksX2_loads_1 24 rfl rfl
theorem dksX2_loads_3 : cX2_loads.data.toList.drop 72 = dktX2_loads_3 := dk_seg dksX2_loads_2 24 rfl rfl
theorem dX2_loads_0 : decode cX2_loads 0 = .ok (.aload_n 0, 1) := dk_42 (dk_at dksX2_loads_0 0 rfl rfl)
theorem dX2_loads_1 : decode cX2_loads 1 = .ok (.iload_n 1, 1) := dk_27 (dk_at dksX2_loads_0 1 rfl rfl)
theorem dX2_loads_2 : decode cX2_loads 2 = .ok (.invokevirtual 103, 3) := dk_182 0 103 (dk_at dksX2_loads_0 2 rfl rfl)
theorem dX2_loads_5 : decode cX2_loads 5 = .ok (.ifCond .eq 19, 3) := dk_153 0 19 (dk_at dksX2_loads_0 5 rfl rfl)
theorem dX2_loads_8 : decode cX2_loads 8 = .ok (.iload_n 2, 1) := dk_28 (dk_at dksX2_loads_0 8 rfl rfl)
theorem dX2_loads_9 : decode cX2_loads 9 = .ok (.invokestatic 122, 3) := dk_184 0 122 (dk_at dksX2_loads_0 9 rfl rfl)
theorem dX2_loads_12 : decode cX2_loads 12 = .ok (.ifCond .eq 12, 3) := dk_153 0 12 (dk_at dksX2_loads_0 12 rfl rfl)
theorem dX2_loads_15 : decode cX2_loads 15 = .ok (.iload_n 3, 1) := dk_29 (dk_at dksX2_loads_0 15 rfl rfl)
theorem dX2_loads_16 : decode cX2_loads 16 = .ok (.iconst 0, 1) := dk_3 (dk_at dksX2_loads_0 16 rfl rfl)
theorem dX2_loads_17 : decode cX2_loads 17 = .ok (.iconst 4, 1) := dk_7 (dk_at dksX2_loads_0 17 rfl rfl)
theorem dX2_loads_18 : decode cX2_loads 18 = .ok (.invokestatic 39, 3) := dk_184 0 39 (dk_at dksX2_loads_0 18 rfl rfl)
theorem dX2_loads_21 : decode cX2_loads 21 = .ok (.ifCond .ne 5, 3) := dk_154 0 5 (dk_at dksX2_loads_0 21 rfl rfl)
theorem dX2_loads_24 : decode cX2_loads 24 = .ok (.iconst (-1), 1) := dk_2 (dk_at dksX2_loads_1 0 rfl rfl)
theorem dX2_loads_25 : decode cX2_loads 25 = .ok (.ireturn, 1) := dk_172 (dk_at dksX2_loads_1 1 rfl rfl)
theorem dX2_loads_26 : decode cX2_loads 26 = .ok (.aload_n 0, 1) := dk_42 (dk_at dksX2_loads_1 2 rfl rfl)
theorem dX2_loads_27 : decode cX2_loads 27 = .ok (.iload_n 1, 1) := dk_27 (dk_at dksX2_loads_1 3 rfl rfl)
theorem dX2_loads_28 : decode cX2_loads 28 = .ok (.invokevirtual 100, 3) := dk_182 0 100 (dk_at dksX2_loads_1 4 rfl rfl)
theorem dX2_loads_31 : decode cX2_loads 31 = .ok (.ifCond .eq 14, 3) := dk_153 0 14 (dk_at dksX2_loads_1 7 rfl rfl)
theorem dX2_loads_34 : decode cX2_loads 34 = .ok (.aload_n 0, 1) := dk_42 (dk_at dksX2_loads_1 10 rfl rfl)
theorem dX2_loads_35 : decode cX2_loads 35 = .ok (.iload_n 2, 1) := dk_28 (dk_at dksX2_loads_1 11 rfl rfl)
theorem dX2_loads_36 : decode cX2_loads 36 = .ok (.iload_n 3, 1) := dk_29 (dk_at dksX2_loads_1 12 rfl rfl)
theorem dX2_loads_37 : decode cX2_loads 37 = .ok (.invokevirtual 75, 3) := dk_182 0 75 (dk_at dksX2_loads_1 13 rfl rfl)
theorem dX2_loads_40 : decode cX2_loads 40 = .ok (.bipush (-6), 2) := dk_16 250 (dk_at dksX2_loads_1 16 rfl rfl)
theorem dX2_loads_42 : decode cX2_loads 42 = .ok (.if_icmp .eq 6, 3) := dk_159 0 6 (dk_at dksX2_loads_1 18 rfl rfl)
theorem dX2_loads_45 : decode cX2_loads 45 = .ok (.bipush (-5), 2) := dk_16 251 (dk_at dksX2_loads_1 21 rfl rfl)
theorem dX2_loads_47 : decode cX2_loads 47 = .ok (.ireturn, 1) := dk_172 (dk_at dksX2_loads_1 23 rfl rfl)
theorem dX2_loads_48 : decode cX2_loads 48 = .ok (.aload_n 0, 1) := dk_42 (dk_at dksX2_loads_2 0 rfl rfl)
theorem dX2_loads_49 : decode cX2_loads 49 = .ok (.getfield 7, 3) := dk_180 0 7 (dk_at dksX2_loads_2 1 rfl rfl)
theorem dX2_loads_52 : decode cX2_loads 52 = .ok (.iload_n 1, 1) := dk_27 (dk_at dksX2_loads_2 4 rfl rfl)
theorem dX2_loads_53 : decode cX2_loads 53 = .ok (.iconst 4, 1) := dk_7 (dk_at dksX2_loads_2 5 rfl rfl)
theorem dX2_loads_54 : decode cX2_loads 54 = .ok (.invokestatic 47, 3) := dk_184 0 47 (dk_at dksX2_loads_2 6 rfl rfl)
theorem dX2_loads_57 : decode cX2_loads 57 = .ok (.iconst 2, 1) := dk_5 (dk_at dksX2_loads_2 9 rfl rfl)
theorem dX2_loads_58 : decode cX2_loads 58 = .ok (.iastore, 1) := dk_79 (dk_at dksX2_loads_2 10 rfl rfl)
theorem dX2_loads_59 : decode cX2_loads 59 = .ok (.aload_n 0, 1) := dk_42 (dk_at dksX2_loads_2 11 rfl rfl)
theorem dX2_loads_60 : decode cX2_loads 60 = .ok (.getfield 7, 3) := dk_180 0 7 (dk_at dksX2_loads_2 12 rfl rfl)
theorem dX2_loads_63 : decode cX2_loads 63 = .ok (.iload_n 1, 1) := dk_27 (dk_at dksX2_loads_2 15 rfl rfl)
theorem dX2_loads_64 : decode cX2_loads 64 = .ok (.bipush 8, 2) := dk_16 8 (dk_at dksX2_loads_2 16 rfl rfl)
theorem dX2_loads_66 : decode cX2_loads 66 = .ok (.invokestatic 47, 3) := dk_184 0 47 (dk_at dksX2_loads_2 18 rfl rfl)
theorem dX2_loads_69 : decode cX2_loads 69 = .ok (.iconst 5, 1) := dk_8 (dk_at dksX2_loads_2 21 rfl rfl)
theorem dX2_loads_70 : decode cX2_loads 70 = .ok (.iload_n 2, 1) := dk_28 (dk_at dksX2_loads_2 22 rfl rfl)
theorem dX2_loads_71 : decode cX2_loads 71 = .ok (.imul, 1) := dk_104 (dk_at dksX2_loads_2 23 rfl rfl)
theorem dX2_loads_72 : decode cX2_loads 72 = .ok (.iload_n 3, 1) := dk_29 (dk_at dksX2_loads_3 0 rfl rfl)
theorem dX2_loads_73 : decode cX2_loads 73 = .ok (.iadd, 1) := dk_96 (dk_at dksX2_loads_3 1 rfl rfl)
theorem dX2_loads_74 : decode cX2_loads 74 = .ok (.iastore, 1) := dk_79 (dk_at dksX2_loads_3 2 rfl rfl)
theorem dX2_loads_75 : decode cX2_loads 75 = .ok (.aload_n 0, 1) := dk_42 (dk_at dksX2_loads_3 3 rfl rfl)
theorem dX2_loads_76 : decode cX2_loads 76 = .ok (.iload_n 2, 1) := dk_28 (dk_at dksX2_loads_3 4 rfl rfl)
theorem dX2_loads_77 : decode cX2_loads 77 = .ok (.invokevirtual 90, 3) := dk_182 0 90 (dk_at dksX2_loads_3 5 rfl rfl)
theorem dX2_loads_80 : decode cX2_loads 80 = .ok (.ireturn, 1) := dk_172 (dk_at dksX2_loads_3 8 rfl rfl)
abbrev cX2_isLorry : ByteArray := prog_8_method_6_code
def yX2_isLorry : MethodName := ⟨RX2, "isLorry", "(I)Z"⟩
def dkwX2_isLorry_0 : List UInt8 := [26, 3, 5, 184, 0, 39, 172]
abbrev dktX2_isLorry_0 : List UInt8 := dkwX2_isLorry_0 ++ []
theorem dksX2_isLorry_0 : cX2_isLorry.data.toList.drop 0 = dktX2_isLorry_0 := by decide +kernel
theorem dX2_isLorry_0 : decode cX2_isLorry 0 = .ok (.iload_n 0, 1) := dk_26 (dk_at dksX2_isLorry_0 0 rfl rfl)
theorem dX2_isLorry_1 : decode cX2_isLorry 1 = .ok (.iconst 0, 1) := dk_3 (dk_at dksX2_isLorry_0 1 rfl rfl)
theorem dX2_isLorry_2 : decode cX2_isLorry 2 = .ok (.iconst 2, 1) := dk_5 (dk_at dksX2_isLorry_0 2 rfl rfl)
theorem dX2_isLorry_3 : decode cX2_isLorry 3 = .ok (.invokestatic 39, 3) := dk_184 0 39 (dk_at dksX2_isLorry_0 3 rfl rfl)
theorem dX2_isLorry_6 : decode cX2_isLorry 6 = .ok (.ireturn, 1) := dk_172 (dk_at dksX2_isLorry_0 6 rfl rfl)
abbrev cX2_blockAt : ByteArray := prog_8_method_23_code
def yX2_blockAt : MethodName := ⟨RX2, "blockAt", "(II)I"⟩
def dkwX2_blockAt_2 : List UInt8 := [167, 255, 215, 29, 172]
abbrev dktX2_blockAt_2 : List UInt8 := dkwX2_blockAt_2 ++ []
def dkwX2_blockAt_1 : List UInt8 := [16, 8, 184, 0, 47, 46, 8, 27, 104, 28, 96, 160, 0, 8, 21, 4, 167, 0, 4, 29, 62, 132, 4, 1]
abbrev dktX2_blockAt_1 : List UInt8 := dkwX2_blockAt_1 ++ dktX2_blockAt_2
def dkwX2_blockAt_0 : List UInt8 := [16, 250, 62, 3, 54, 4, 21, 4, 42, 180, 0, 7, 8, 46, 162, 0, 36, 42, 180, 0, 7, 21, 4]
abbrev dktX2_blockAt_0 : List UInt8 := dkwX2_blockAt_0 ++ dktX2_blockAt_1
theorem dksX2_blockAt_0 : cX2_blockAt.data.toList.drop 0 = dktX2_blockAt_0 := by decide +kernel
theorem dksX2_blockAt_1 : cX2_blockAt.data.toList.drop 23 = dktX2_blockAt_1 := dk_seg dksX2_blockAt_0 23 rfl rfl
theorem dksX2_blockAt_2 : cX2_blockAt.data.toList.drop 47 = dktX2_blockAt_2 := dk_seg dksX2_blockAt_1 24 rfl rfl
theorem dX2_blockAt_0 : decode cX2_blockAt 0 = .ok (.bipush (-6), 2) := dk_16 250 (dk_at dksX2_blockAt_0 0 rfl rfl)
theorem dX2_blockAt_2 : decode cX2_blockAt 2 = .ok (.istore_n 3, 1) := dk_62 (dk_at dksX2_blockAt_0 2 rfl rfl)
theorem dX2_blockAt_3 : decode cX2_blockAt 3 = .ok (.iconst 0, 1) := dk_3 (dk_at dksX2_blockAt_0 3 rfl rfl)
theorem dX2_blockAt_4 : decode cX2_blockAt 4 = .ok (.istore 4, 2) := dk_54 4 (dk_at dksX2_blockAt_0 4 rfl rfl)
theorem dX2_blockAt_6 : decode cX2_blockAt 6 = .ok (.iload 4, 2) := dk_21 4 (dk_at dksX2_blockAt_0 6 rfl rfl)
theorem dX2_blockAt_8 : decode cX2_blockAt 8 = .ok (.aload_n 0, 1) := dk_42 (dk_at dksX2_blockAt_0 8 rfl rfl)
theorem dX2_blockAt_9 : decode cX2_blockAt 9 = .ok (.getfield 7, 3) := dk_180 0 7 (dk_at dksX2_blockAt_0 9 rfl rfl)
theorem dX2_blockAt_12 : decode cX2_blockAt 12 = .ok (.iconst 5, 1) := dk_8 (dk_at dksX2_blockAt_0 12 rfl rfl)
theorem dX2_blockAt_13 : decode cX2_blockAt 13 = .ok (.iaload, 1) := dk_46 (dk_at dksX2_blockAt_0 13 rfl rfl)
theorem dX2_blockAt_14 : decode cX2_blockAt 14 = .ok (.if_icmp .ge 36, 3) := dk_162 0 36 (dk_at dksX2_blockAt_0 14 rfl rfl)
theorem dX2_blockAt_17 : decode cX2_blockAt 17 = .ok (.aload_n 0, 1) := dk_42 (dk_at dksX2_blockAt_0 17 rfl rfl)
theorem dX2_blockAt_18 : decode cX2_blockAt 18 = .ok (.getfield 7, 3) := dk_180 0 7 (dk_at dksX2_blockAt_0 18 rfl rfl)
theorem dX2_blockAt_21 : decode cX2_blockAt 21 = .ok (.iload 4, 2) := dk_21 4 (dk_at dksX2_blockAt_0 21 rfl rfl)
theorem dX2_blockAt_23 : decode cX2_blockAt 23 = .ok (.bipush 8, 2) := dk_16 8 (dk_at dksX2_blockAt_1 0 rfl rfl)
theorem dX2_blockAt_25 : decode cX2_blockAt 25 = .ok (.invokestatic 47, 3) := dk_184 0 47 (dk_at dksX2_blockAt_1 2 rfl rfl)
theorem dX2_blockAt_28 : decode cX2_blockAt 28 = .ok (.iaload, 1) := dk_46 (dk_at dksX2_blockAt_1 5 rfl rfl)
theorem dX2_blockAt_29 : decode cX2_blockAt 29 = .ok (.iconst 5, 1) := dk_8 (dk_at dksX2_blockAt_1 6 rfl rfl)
theorem dX2_blockAt_30 : decode cX2_blockAt 30 = .ok (.iload_n 1, 1) := dk_27 (dk_at dksX2_blockAt_1 7 rfl rfl)
theorem dX2_blockAt_31 : decode cX2_blockAt 31 = .ok (.imul, 1) := dk_104 (dk_at dksX2_blockAt_1 8 rfl rfl)
theorem dX2_blockAt_32 : decode cX2_blockAt 32 = .ok (.iload_n 2, 1) := dk_28 (dk_at dksX2_blockAt_1 9 rfl rfl)
theorem dX2_blockAt_33 : decode cX2_blockAt 33 = .ok (.iadd, 1) := dk_96 (dk_at dksX2_blockAt_1 10 rfl rfl)
theorem dX2_blockAt_34 : decode cX2_blockAt 34 = .ok (.if_icmp .ne 8, 3) := dk_160 0 8 (dk_at dksX2_blockAt_1 11 rfl rfl)
theorem dX2_blockAt_37 : decode cX2_blockAt 37 = .ok (.iload 4, 2) := dk_21 4 (dk_at dksX2_blockAt_1 14 rfl rfl)
theorem dX2_blockAt_39 : decode cX2_blockAt 39 = .ok (.goto 4, 3) := dk_167 0 4 (dk_at dksX2_blockAt_1 16 rfl rfl)
theorem dX2_blockAt_42 : decode cX2_blockAt 42 = .ok (.iload_n 3, 1) := dk_29 (dk_at dksX2_blockAt_1 19 rfl rfl)
theorem dX2_blockAt_43 : decode cX2_blockAt 43 = .ok (.istore_n 3, 1) := dk_62 (dk_at dksX2_blockAt_1 20 rfl rfl)
theorem dX2_blockAt_44 : decode cX2_blockAt 44 = .ok (.iinc 4 1, 3) := dk_132 4 1 (dk_at dksX2_blockAt_1 21 rfl rfl)
theorem dX2_blockAt_47 : decode cX2_blockAt 47 = .ok (.goto (-41), 3) := dk_167 255 215 (dk_at dksX2_blockAt_2 0 rfl rfl)
theorem dX2_blockAt_50 : decode cX2_blockAt 50 = .ok (.iload_n 3, 1) := dk_29 (dk_at dksX2_blockAt_2 3 rfl rfl)
theorem dX2_blockAt_51 : decode cX2_blockAt 51 = .ok (.ireturn, 1) := dk_172 (dk_at dksX2_blockAt_2 4 rfl rfl)
abbrev cX2_loadOf : ByteArray := prog_8_method_24_code
def yX2_loadOf : MethodName := ⟨RX2, "loadOf", "(I)I"⟩
def dkwX2_loadOf_1 : List UInt8 := [167, 0, 13, 42, 42, 27, 29, 182, 0, 75, 182, 0, 58, 96, 61, 132, 3, 1, 167, 255, 220, 28, 172]
abbrev dktX2_loadOf_1 : List UInt8 := dkwX2_loadOf_1 ++ []
def dkwX2_loadOf_0 : List UInt8 := [3, 61, 3, 62, 29, 8, 162, 0, 37, 28, 42, 27, 29, 182, 0, 75, 16, 250, 160, 0, 7, 3]
abbrev dktX2_loadOf_0 : List UInt8 := dkwX2_loadOf_0 ++ dktX2_loadOf_1
theorem dksX2_loadOf_0 : cX2_loadOf.data.toList.drop 0 = dktX2_loadOf_0 := by decide +kernel
theorem dksX2_loadOf_1 : cX2_loadOf.data.toList.drop 22 = dktX2_loadOf_1 := dk_seg dksX2_loadOf_0 22 rfl rfl
theorem dX2_loadOf_0 : decode cX2_loadOf 0 = .ok (.iconst 0, 1) := dk_3 (dk_at dksX2_loadOf_0 0 rfl rfl)
theorem dX2_loadOf_1 : decode cX2_loadOf 1 = .ok (.istore_n 2, 1) := dk_61 (dk_at dksX2_loadOf_0 1 rfl rfl)
theorem dX2_loadOf_2 : decode cX2_loadOf 2 = .ok (.iconst 0, 1) := dk_3 (dk_at dksX2_loadOf_0 2 rfl rfl)
theorem dX2_loadOf_3 : decode cX2_loadOf 3 = .ok (.istore_n 3, 1) := dk_62 (dk_at dksX2_loadOf_0 3 rfl rfl)
theorem dX2_loadOf_4 : decode cX2_loadOf 4 = .ok (.iload_n 3, 1) := dk_29 (dk_at dksX2_loadOf_0 4 rfl rfl)
theorem dX2_loadOf_5 : decode cX2_loadOf 5 = .ok (.iconst 5, 1) := dk_8 (dk_at dksX2_loadOf_0 5 rfl rfl)
theorem dX2_loadOf_6 : decode cX2_loadOf 6 = .ok (.if_icmp .ge 37, 3) := dk_162 0 37 (dk_at dksX2_loadOf_0 6 rfl rfl)
theorem dX2_loadOf_9 : decode cX2_loadOf 9 = .ok (.iload_n 2, 1) := dk_28 (dk_at dksX2_loadOf_0 9 rfl rfl)
theorem dX2_loadOf_10 : decode cX2_loadOf 10 = .ok (.aload_n 0, 1) := dk_42 (dk_at dksX2_loadOf_0 10 rfl rfl)
theorem dX2_loadOf_11 : decode cX2_loadOf 11 = .ok (.iload_n 1, 1) := dk_27 (dk_at dksX2_loadOf_0 11 rfl rfl)
theorem dX2_loadOf_12 : decode cX2_loadOf 12 = .ok (.iload_n 3, 1) := dk_29 (dk_at dksX2_loadOf_0 12 rfl rfl)
theorem dX2_loadOf_13 : decode cX2_loadOf 13 = .ok (.invokevirtual 75, 3) := dk_182 0 75 (dk_at dksX2_loadOf_0 13 rfl rfl)
theorem dX2_loadOf_16 : decode cX2_loadOf 16 = .ok (.bipush (-6), 2) := dk_16 250 (dk_at dksX2_loadOf_0 16 rfl rfl)
theorem dX2_loadOf_18 : decode cX2_loadOf 18 = .ok (.if_icmp .ne 7, 3) := dk_160 0 7 (dk_at dksX2_loadOf_0 18 rfl rfl)
theorem dX2_loadOf_21 : decode cX2_loadOf 21 = .ok (.iconst 0, 1) := dk_3 (dk_at dksX2_loadOf_0 21 rfl rfl)
theorem dX2_loadOf_22 : decode cX2_loadOf 22 = .ok (.goto 13, 3) := dk_167 0 13 (dk_at dksX2_loadOf_1 0 rfl rfl)
theorem dX2_loadOf_25 : decode cX2_loadOf 25 = .ok (.aload_n 0, 1) := dk_42 (dk_at dksX2_loadOf_1 3 rfl rfl)
theorem dX2_loadOf_26 : decode cX2_loadOf 26 = .ok (.aload_n 0, 1) := dk_42 (dk_at dksX2_loadOf_1 4 rfl rfl)
theorem dX2_loadOf_27 : decode cX2_loadOf 27 = .ok (.iload_n 1, 1) := dk_27 (dk_at dksX2_loadOf_1 5 rfl rfl)
theorem dX2_loadOf_28 : decode cX2_loadOf 28 = .ok (.iload_n 3, 1) := dk_29 (dk_at dksX2_loadOf_1 6 rfl rfl)
theorem dX2_loadOf_29 : decode cX2_loadOf 29 = .ok (.invokevirtual 75, 3) := dk_182 0 75 (dk_at dksX2_loadOf_1 7 rfl rfl)
theorem dX2_loadOf_32 : decode cX2_loadOf 32 = .ok (.invokevirtual 58, 3) := dk_182 0 58 (dk_at dksX2_loadOf_1 10 rfl rfl)
theorem dX2_loadOf_35 : decode cX2_loadOf 35 = .ok (.iadd, 1) := dk_96 (dk_at dksX2_loadOf_1 13 rfl rfl)
theorem dX2_loadOf_36 : decode cX2_loadOf 36 = .ok (.istore_n 2, 1) := dk_61 (dk_at dksX2_loadOf_1 14 rfl rfl)
theorem dX2_loadOf_37 : decode cX2_loadOf 37 = .ok (.iinc 3 1, 3) := dk_132 3 1 (dk_at dksX2_loadOf_1 15 rfl rfl)
theorem dX2_loadOf_40 : decode cX2_loadOf 40 = .ok (.goto (-36), 3) := dk_167 255 220 (dk_at dksX2_loadOf_1 18 rfl rfl)
theorem dX2_loadOf_43 : decode cX2_loadOf 43 = .ok (.iload_n 2, 1) := dk_28 (dk_at dksX2_loadOf_1 21 rfl rfl)
theorem dX2_loadOf_44 : decode cX2_loadOf 44 = .ok (.ireturn, 1) := dk_172 (dk_at dksX2_loadOf_1 22 rfl rfl)
abbrev cX2_nights : ByteArray := prog_8_method_39_code
def yX2_nights : MethodName := ⟨RX2, "nights", "(I)I"⟩
def dkwX2_nights_8 : List UInt8 := [132, 3, 1, 167, 255, 124, 42, 180, 0, 7, 7, 92, 46, 4, 96, 79, 28, 172]
abbrev dktX2_nights_8 : List UInt8 := dkwX2_nights_8 ++ []
def dkwX2_nights_7 : List UInt8 := [182, 0, 50, 154, 0, 16, 42, 29, 7, 182, 0, 50, 154, 0, 7, 4, 167, 0, 4, 3, 100, 79]
abbrev dktX2_nights_7 : List UInt8 := dkwX2_nights_7 ++ dktX2_nights_8
def dkwX2_nights_6 : List UInt8 := [29, 8, 184, 0, 47, 92, 46, 42, 180, 0, 7, 29, 8, 184, 0, 47, 46, 158, 0, 25, 42, 29, 6]
abbrev dktX2_nights_6 : List UInt8 := dkwX2_nights_6 ++ dktX2_nights_7
def dkwX2_nights_5 : List UInt8 := [16, 6, 184, 0, 47, 46, 79, 28, 21, 4, 153, 0, 7, 4, 167, 0, 4, 3, 96, 61, 42, 180, 0, 7]
abbrev dktX2_nights_5 : List UInt8 := dkwX2_nights_5 ++ dktX2_nights_6
def dkwX2_nights_4 : List UInt8 := [180, 0, 7, 29, 16, 6, 184, 0, 47, 21, 4, 153, 0, 7, 4, 167, 0, 14, 42, 180, 0, 7, 29]
abbrev dktX2_nights_4 : List UInt8 := dkwX2_nights_4 ++ dktX2_nights_5
def dkwX2_nights_3 : List UInt8 := [16, 7, 46, 4, 160, 0, 15, 42, 29, 182, 0, 131, 153, 0, 7, 4, 167, 0, 4, 3, 54, 4, 42]
abbrev dktX2_nights_3 : List UInt8 := dkwX2_nights_3 ++ dktX2_nights_4
def dkwX2_nights_2 : List UInt8 := [167, 0, 4, 3, 79, 3, 61, 3, 62, 29, 42, 180, 0, 7, 8, 46, 162, 0, 128, 42, 180, 0, 7]
abbrev dktX2_nights_2 : List UInt8 := dkwX2_nights_2 ++ dktX2_nights_3
def dkwX2_nights_1 : List UInt8 := [160, 0, 6, 16, 251, 172, 42, 180, 0, 7, 16, 7, 27, 42, 180, 0, 7, 5, 46, 163, 0, 7, 4]
abbrev dktX2_nights_1 : List UInt8 := dkwX2_nights_1 ++ dktX2_nights_2
def dkwX2_nights_0 : List UInt8 := [27, 16, 216, 16, 40, 184, 0, 39, 154, 0, 6, 16, 254, 172, 42, 180, 0, 7, 7, 46, 17, 3, 231]
abbrev dktX2_nights_0 : List UInt8 := dkwX2_nights_0 ++ dktX2_nights_1
theorem dksX2_nights_0 : cX2_nights.data.toList.drop 0 = dktX2_nights_0 := by decide +kernel
theorem dksX2_nights_1 : cX2_nights.data.toList.drop 23 = dktX2_nights_1 := dk_seg dksX2_nights_0 23 rfl rfl
theorem dksX2_nights_2 : cX2_nights.data.toList.drop 46 = dktX2_nights_2 := dk_seg dksX2_nights_1 23 rfl rfl
theorem dksX2_nights_3 : cX2_nights.data.toList.drop 69 = dktX2_nights_3 := dk_seg dksX2_nights_2 23 rfl rfl
theorem dksX2_nights_4 : cX2_nights.data.toList.drop 92 = dktX2_nights_4 := dk_seg dksX2_nights_3 23 rfl rfl
theorem dksX2_nights_5 : cX2_nights.data.toList.drop 115 = dktX2_nights_5 := dk_seg dksX2_nights_4 23 rfl rfl
theorem dksX2_nights_6 : cX2_nights.data.toList.drop 139 = dktX2_nights_6 := dk_seg dksX2_nights_5 24 rfl rfl
theorem dksX2_nights_7 : cX2_nights.data.toList.drop 162 = dktX2_nights_7 := dk_seg dksX2_nights_6 23 rfl rfl
theorem dksX2_nights_8 : cX2_nights.data.toList.drop 184 = dktX2_nights_8 := dk_seg dksX2_nights_7 22 rfl rfl
theorem dX2_nights_0 : decode cX2_nights 0 = .ok (.iload_n 1, 1) := dk_27 (dk_at dksX2_nights_0 0 rfl rfl)
theorem dX2_nights_1 : decode cX2_nights 1 = .ok (.bipush (-40), 2) := dk_16 216 (dk_at dksX2_nights_0 1 rfl rfl)
theorem dX2_nights_3 : decode cX2_nights 3 = .ok (.bipush 40, 2) := dk_16 40 (dk_at dksX2_nights_0 3 rfl rfl)
theorem dX2_nights_5 : decode cX2_nights 5 = .ok (.invokestatic 39, 3) := dk_184 0 39 (dk_at dksX2_nights_0 5 rfl rfl)
theorem dX2_nights_8 : decode cX2_nights 8 = .ok (.ifCond .ne 6, 3) := dk_154 0 6 (dk_at dksX2_nights_0 8 rfl rfl)
theorem dX2_nights_11 : decode cX2_nights 11 = .ok (.bipush (-2), 2) := dk_16 254 (dk_at dksX2_nights_0 11 rfl rfl)
theorem dX2_nights_13 : decode cX2_nights 13 = .ok (.ireturn, 1) := dk_172 (dk_at dksX2_nights_0 13 rfl rfl)
theorem dX2_nights_14 : decode cX2_nights 14 = .ok (.aload_n 0, 1) := dk_42 (dk_at dksX2_nights_0 14 rfl rfl)
theorem dX2_nights_15 : decode cX2_nights 15 = .ok (.getfield 7, 3) := dk_180 0 7 (dk_at dksX2_nights_0 15 rfl rfl)
theorem dX2_nights_18 : decode cX2_nights 18 = .ok (.iconst 4, 1) := dk_7 (dk_at dksX2_nights_0 18 rfl rfl)
theorem dX2_nights_19 : decode cX2_nights 19 = .ok (.iaload, 1) := dk_46 (dk_at dksX2_nights_0 19 rfl rfl)
theorem dX2_nights_20 : decode cX2_nights 20 = .ok (.sipush 999, 3) := dk_17 3 231 (dk_at dksX2_nights_0 20 rfl rfl)
theorem dX2_nights_23 : decode cX2_nights 23 = .ok (.if_icmp .ne 6, 3) := dk_160 0 6 (dk_at dksX2_nights_1 0 rfl rfl)
theorem dX2_nights_26 : decode cX2_nights 26 = .ok (.bipush (-5), 2) := dk_16 251 (dk_at dksX2_nights_1 3 rfl rfl)
theorem dX2_nights_28 : decode cX2_nights 28 = .ok (.ireturn, 1) := dk_172 (dk_at dksX2_nights_1 5 rfl rfl)
theorem dX2_nights_29 : decode cX2_nights 29 = .ok (.aload_n 0, 1) := dk_42 (dk_at dksX2_nights_1 6 rfl rfl)
theorem dX2_nights_30 : decode cX2_nights 30 = .ok (.getfield 7, 3) := dk_180 0 7 (dk_at dksX2_nights_1 7 rfl rfl)
theorem dX2_nights_33 : decode cX2_nights 33 = .ok (.bipush 7, 2) := dk_16 7 (dk_at dksX2_nights_1 10 rfl rfl)
theorem dX2_nights_35 : decode cX2_nights 35 = .ok (.iload_n 1, 1) := dk_27 (dk_at dksX2_nights_1 12 rfl rfl)
theorem dX2_nights_36 : decode cX2_nights 36 = .ok (.aload_n 0, 1) := dk_42 (dk_at dksX2_nights_1 13 rfl rfl)
theorem dX2_nights_37 : decode cX2_nights 37 = .ok (.getfield 7, 3) := dk_180 0 7 (dk_at dksX2_nights_1 14 rfl rfl)
theorem dX2_nights_40 : decode cX2_nights 40 = .ok (.iconst 2, 1) := dk_5 (dk_at dksX2_nights_1 17 rfl rfl)
theorem dX2_nights_41 : decode cX2_nights 41 = .ok (.iaload, 1) := dk_46 (dk_at dksX2_nights_1 18 rfl rfl)
theorem dX2_nights_42 : decode cX2_nights 42 = .ok (.if_icmp .gt 7, 3) := dk_163 0 7 (dk_at dksX2_nights_1 19 rfl rfl)
theorem dX2_nights_45 : decode cX2_nights 45 = .ok (.iconst 1, 1) := dk_4 (dk_at dksX2_nights_1 22 rfl rfl)
theorem dX2_nights_46 : decode cX2_nights 46 = .ok (.goto 4, 3) := dk_167 0 4 (dk_at dksX2_nights_2 0 rfl rfl)
theorem dX2_nights_49 : decode cX2_nights 49 = .ok (.iconst 0, 1) := dk_3 (dk_at dksX2_nights_2 3 rfl rfl)
theorem dX2_nights_50 : decode cX2_nights 50 = .ok (.iastore, 1) := dk_79 (dk_at dksX2_nights_2 4 rfl rfl)
theorem dX2_nights_51 : decode cX2_nights 51 = .ok (.iconst 0, 1) := dk_3 (dk_at dksX2_nights_2 5 rfl rfl)
theorem dX2_nights_52 : decode cX2_nights 52 = .ok (.istore_n 2, 1) := dk_61 (dk_at dksX2_nights_2 6 rfl rfl)
theorem dX2_nights_53 : decode cX2_nights 53 = .ok (.iconst 0, 1) := dk_3 (dk_at dksX2_nights_2 7 rfl rfl)
theorem dX2_nights_54 : decode cX2_nights 54 = .ok (.istore_n 3, 1) := dk_62 (dk_at dksX2_nights_2 8 rfl rfl)
theorem dX2_nights_55 : decode cX2_nights 55 = .ok (.iload_n 3, 1) := dk_29 (dk_at dksX2_nights_2 9 rfl rfl)
theorem dX2_nights_56 : decode cX2_nights 56 = .ok (.aload_n 0, 1) := dk_42 (dk_at dksX2_nights_2 10 rfl rfl)
theorem dX2_nights_57 : decode cX2_nights 57 = .ok (.getfield 7, 3) := dk_180 0 7 (dk_at dksX2_nights_2 11 rfl rfl)
theorem dX2_nights_60 : decode cX2_nights 60 = .ok (.iconst 5, 1) := dk_8 (dk_at dksX2_nights_2 14 rfl rfl)
theorem dX2_nights_61 : decode cX2_nights 61 = .ok (.iaload, 1) := dk_46 (dk_at dksX2_nights_2 15 rfl rfl)
theorem dX2_nights_62 : decode cX2_nights 62 = .ok (.if_icmp .ge 128, 3) := dk_162 0 128 (dk_at dksX2_nights_2 16 rfl rfl)
theorem dX2_nights_65 : decode cX2_nights 65 = .ok (.aload_n 0, 1) := dk_42 (dk_at dksX2_nights_2 19 rfl rfl)
theorem dX2_nights_66 : decode cX2_nights 66 = .ok (.getfield 7, 3) := dk_180 0 7 (dk_at dksX2_nights_2 20 rfl rfl)
theorem dX2_nights_69 : decode cX2_nights 69 = .ok (.bipush 7, 2) := dk_16 7 (dk_at dksX2_nights_3 0 rfl rfl)
theorem dX2_nights_71 : decode cX2_nights 71 = .ok (.iaload, 1) := dk_46 (dk_at dksX2_nights_3 2 rfl rfl)
theorem dX2_nights_72 : decode cX2_nights 72 = .ok (.iconst 1, 1) := dk_4 (dk_at dksX2_nights_3 3 rfl rfl)
theorem dX2_nights_73 : decode cX2_nights 73 = .ok (.if_icmp .ne 15, 3) := dk_160 0 15 (dk_at dksX2_nights_3 4 rfl rfl)
theorem dX2_nights_76 : decode cX2_nights 76 = .ok (.aload_n 0, 1) := dk_42 (dk_at dksX2_nights_3 7 rfl rfl)
theorem dX2_nights_77 : decode cX2_nights 77 = .ok (.iload_n 3, 1) := dk_29 (dk_at dksX2_nights_3 8 rfl rfl)
theorem dX2_nights_78 : decode cX2_nights 78 = .ok (.invokevirtual 131, 3) := dk_182 0 131 (dk_at dksX2_nights_3 9 rfl rfl)
theorem dX2_nights_81 : decode cX2_nights 81 = .ok (.ifCond .eq 7, 3) := dk_153 0 7 (dk_at dksX2_nights_3 12 rfl rfl)
theorem dX2_nights_84 : decode cX2_nights 84 = .ok (.iconst 1, 1) := dk_4 (dk_at dksX2_nights_3 15 rfl rfl)
theorem dX2_nights_85 : decode cX2_nights 85 = .ok (.goto 4, 3) := dk_167 0 4 (dk_at dksX2_nights_3 16 rfl rfl)
theorem dX2_nights_88 : decode cX2_nights 88 = .ok (.iconst 0, 1) := dk_3 (dk_at dksX2_nights_3 19 rfl rfl)
theorem dX2_nights_89 : decode cX2_nights 89 = .ok (.istore 4, 2) := dk_54 4 (dk_at dksX2_nights_3 20 rfl rfl)
theorem dX2_nights_91 : decode cX2_nights 91 = .ok (.aload_n 0, 1) := dk_42 (dk_at dksX2_nights_3 22 rfl rfl)
theorem dX2_nights_92 : decode cX2_nights 92 = .ok (.getfield 7, 3) := dk_180 0 7 (dk_at dksX2_nights_4 0 rfl rfl)
theorem dX2_nights_95 : decode cX2_nights 95 = .ok (.iload_n 3, 1) := dk_29 (dk_at dksX2_nights_4 3 rfl rfl)
theorem dX2_nights_96 : decode cX2_nights 96 = .ok (.bipush 6, 2) := dk_16 6 (dk_at dksX2_nights_4 4 rfl rfl)
theorem dX2_nights_98 : decode cX2_nights 98 = .ok (.invokestatic 47, 3) := dk_184 0 47 (dk_at dksX2_nights_4 6 rfl rfl)
theorem dX2_nights_101 : decode cX2_nights 101 = .ok (.iload 4, 2) := dk_21 4 (dk_at dksX2_nights_4 9 rfl rfl)
theorem dX2_nights_103 : decode cX2_nights 103 = .ok (.ifCond .eq 7, 3) := dk_153 0 7 (dk_at dksX2_nights_4 11 rfl rfl)
theorem dX2_nights_106 : decode cX2_nights 106 = .ok (.iconst 1, 1) := dk_4 (dk_at dksX2_nights_4 14 rfl rfl)
theorem dX2_nights_107 : decode cX2_nights 107 = .ok (.goto 14, 3) := dk_167 0 14 (dk_at dksX2_nights_4 15 rfl rfl)
theorem dX2_nights_110 : decode cX2_nights 110 = .ok (.aload_n 0, 1) := dk_42 (dk_at dksX2_nights_4 18 rfl rfl)
theorem dX2_nights_111 : decode cX2_nights 111 = .ok (.getfield 7, 3) := dk_180 0 7 (dk_at dksX2_nights_4 19 rfl rfl)
theorem dX2_nights_114 : decode cX2_nights 114 = .ok (.iload_n 3, 1) := dk_29 (dk_at dksX2_nights_4 22 rfl rfl)
theorem dX2_nights_115 : decode cX2_nights 115 = .ok (.bipush 6, 2) := dk_16 6 (dk_at dksX2_nights_5 0 rfl rfl)
theorem dX2_nights_117 : decode cX2_nights 117 = .ok (.invokestatic 47, 3) := dk_184 0 47 (dk_at dksX2_nights_5 2 rfl rfl)
theorem dX2_nights_120 : decode cX2_nights 120 = .ok (.iaload, 1) := dk_46 (dk_at dksX2_nights_5 5 rfl rfl)
theorem dX2_nights_121 : decode cX2_nights 121 = .ok (.iastore, 1) := dk_79 (dk_at dksX2_nights_5 6 rfl rfl)
theorem dX2_nights_122 : decode cX2_nights 122 = .ok (.iload_n 2, 1) := dk_28 (dk_at dksX2_nights_5 7 rfl rfl)
theorem dX2_nights_123 : decode cX2_nights 123 = .ok (.iload 4, 2) := dk_21 4 (dk_at dksX2_nights_5 8 rfl rfl)
theorem dX2_nights_125 : decode cX2_nights 125 = .ok (.ifCond .eq 7, 3) := dk_153 0 7 (dk_at dksX2_nights_5 10 rfl rfl)
theorem dX2_nights_128 : decode cX2_nights 128 = .ok (.iconst 1, 1) := dk_4 (dk_at dksX2_nights_5 13 rfl rfl)
theorem dX2_nights_129 : decode cX2_nights 129 = .ok (.goto 4, 3) := dk_167 0 4 (dk_at dksX2_nights_5 14 rfl rfl)
theorem dX2_nights_132 : decode cX2_nights 132 = .ok (.iconst 0, 1) := dk_3 (dk_at dksX2_nights_5 17 rfl rfl)
theorem dX2_nights_133 : decode cX2_nights 133 = .ok (.iadd, 1) := dk_96 (dk_at dksX2_nights_5 18 rfl rfl)
theorem dX2_nights_134 : decode cX2_nights 134 = .ok (.istore_n 2, 1) := dk_61 (dk_at dksX2_nights_5 19 rfl rfl)
theorem dX2_nights_135 : decode cX2_nights 135 = .ok (.aload_n 0, 1) := dk_42 (dk_at dksX2_nights_5 20 rfl rfl)
theorem dX2_nights_136 : decode cX2_nights 136 = .ok (.getfield 7, 3) := dk_180 0 7 (dk_at dksX2_nights_5 21 rfl rfl)
theorem dX2_nights_139 : decode cX2_nights 139 = .ok (.iload_n 3, 1) := dk_29 (dk_at dksX2_nights_6 0 rfl rfl)
theorem dX2_nights_140 : decode cX2_nights 140 = .ok (.iconst 5, 1) := dk_8 (dk_at dksX2_nights_6 1 rfl rfl)
theorem dX2_nights_141 : decode cX2_nights 141 = .ok (.invokestatic 47, 3) := dk_184 0 47 (dk_at dksX2_nights_6 2 rfl rfl)
theorem dX2_nights_144 : decode cX2_nights 144 = .ok (.dup2, 1) := dk_92 (dk_at dksX2_nights_6 5 rfl rfl)
theorem dX2_nights_145 : decode cX2_nights 145 = .ok (.iaload, 1) := dk_46 (dk_at dksX2_nights_6 6 rfl rfl)
theorem dX2_nights_146 : decode cX2_nights 146 = .ok (.aload_n 0, 1) := dk_42 (dk_at dksX2_nights_6 7 rfl rfl)
theorem dX2_nights_147 : decode cX2_nights 147 = .ok (.getfield 7, 3) := dk_180 0 7 (dk_at dksX2_nights_6 8 rfl rfl)
theorem dX2_nights_150 : decode cX2_nights 150 = .ok (.iload_n 3, 1) := dk_29 (dk_at dksX2_nights_6 11 rfl rfl)
theorem dX2_nights_151 : decode cX2_nights 151 = .ok (.iconst 5, 1) := dk_8 (dk_at dksX2_nights_6 12 rfl rfl)
theorem dX2_nights_152 : decode cX2_nights 152 = .ok (.invokestatic 47, 3) := dk_184 0 47 (dk_at dksX2_nights_6 13 rfl rfl)
theorem dX2_nights_155 : decode cX2_nights 155 = .ok (.iaload, 1) := dk_46 (dk_at dksX2_nights_6 16 rfl rfl)
theorem dX2_nights_156 : decode cX2_nights 156 = .ok (.ifCond .le 25, 3) := dk_158 0 25 (dk_at dksX2_nights_6 17 rfl rfl)
theorem dX2_nights_159 : decode cX2_nights 159 = .ok (.aload_n 0, 1) := dk_42 (dk_at dksX2_nights_6 20 rfl rfl)
theorem dX2_nights_160 : decode cX2_nights 160 = .ok (.iload_n 3, 1) := dk_29 (dk_at dksX2_nights_6 21 rfl rfl)
theorem dX2_nights_161 : decode cX2_nights 161 = .ok (.iconst 3, 1) := dk_6 (dk_at dksX2_nights_6 22 rfl rfl)
theorem dX2_nights_162 : decode cX2_nights 162 = .ok (.invokevirtual 50, 3) := dk_182 0 50 (dk_at dksX2_nights_7 0 rfl rfl)
theorem dX2_nights_165 : decode cX2_nights 165 = .ok (.ifCond .ne 16, 3) := dk_154 0 16 (dk_at dksX2_nights_7 3 rfl rfl)
theorem dX2_nights_168 : decode cX2_nights 168 = .ok (.aload_n 0, 1) := dk_42 (dk_at dksX2_nights_7 6 rfl rfl)
theorem dX2_nights_169 : decode cX2_nights 169 = .ok (.iload_n 3, 1) := dk_29 (dk_at dksX2_nights_7 7 rfl rfl)
theorem dX2_nights_170 : decode cX2_nights 170 = .ok (.iconst 4, 1) := dk_7 (dk_at dksX2_nights_7 8 rfl rfl)
theorem dX2_nights_171 : decode cX2_nights 171 = .ok (.invokevirtual 50, 3) := dk_182 0 50 (dk_at dksX2_nights_7 9 rfl rfl)
theorem dX2_nights_174 : decode cX2_nights 174 = .ok (.ifCond .ne 7, 3) := dk_154 0 7 (dk_at dksX2_nights_7 12 rfl rfl)
theorem dX2_nights_177 : decode cX2_nights 177 = .ok (.iconst 1, 1) := dk_4 (dk_at dksX2_nights_7 15 rfl rfl)
theorem dX2_nights_178 : decode cX2_nights 178 = .ok (.goto 4, 3) := dk_167 0 4 (dk_at dksX2_nights_7 16 rfl rfl)
theorem dX2_nights_181 : decode cX2_nights 181 = .ok (.iconst 0, 1) := dk_3 (dk_at dksX2_nights_7 19 rfl rfl)
theorem dX2_nights_182 : decode cX2_nights 182 = .ok (.isub, 1) := dk_100 (dk_at dksX2_nights_7 20 rfl rfl)
theorem dX2_nights_183 : decode cX2_nights 183 = .ok (.iastore, 1) := dk_79 (dk_at dksX2_nights_7 21 rfl rfl)
theorem dX2_nights_184 : decode cX2_nights 184 = .ok (.iinc 3 1, 3) := dk_132 3 1 (dk_at dksX2_nights_8 0 rfl rfl)
theorem dX2_nights_187 : decode cX2_nights 187 = .ok (.goto (-132), 3) := dk_167 255 124 (dk_at dksX2_nights_8 3 rfl rfl)
theorem dX2_nights_190 : decode cX2_nights 190 = .ok (.aload_n 0, 1) := dk_42 (dk_at dksX2_nights_8 6 rfl rfl)
theorem dX2_nights_191 : decode cX2_nights 191 = .ok (.getfield 7, 3) := dk_180 0 7 (dk_at dksX2_nights_8 7 rfl rfl)
theorem dX2_nights_194 : decode cX2_nights 194 = .ok (.iconst 4, 1) := dk_7 (dk_at dksX2_nights_8 10 rfl rfl)
theorem dX2_nights_195 : decode cX2_nights 195 = .ok (.dup2, 1) := dk_92 (dk_at dksX2_nights_8 11 rfl rfl)
theorem dX2_nights_196 : decode cX2_nights 196 = .ok (.iaload, 1) := dk_46 (dk_at dksX2_nights_8 12 rfl rfl)
theorem dX2_nights_197 : decode cX2_nights 197 = .ok (.iconst 1, 1) := dk_4 (dk_at dksX2_nights_8 13 rfl rfl)
theorem dX2_nights_198 : decode cX2_nights 198 = .ok (.iadd, 1) := dk_96 (dk_at dksX2_nights_8 14 rfl rfl)
theorem dX2_nights_199 : decode cX2_nights 199 = .ok (.iastore, 1) := dk_79 (dk_at dksX2_nights_8 15 rfl rfl)
theorem dX2_nights_200 : decode cX2_nights 200 = .ok (.iload_n 2, 1) := dk_28 (dk_at dksX2_nights_8 16 rfl rfl)
theorem dX2_nights_201 : decode cX2_nights 201 = .ok (.ireturn, 1) := dk_172 (dk_at dksX2_nights_8 17 rfl rfl)
abbrev cX2_wouldCrack : ByteArray := prog_8_method_38_code
def yX2_wouldCrack : MethodName := ⟨RX2, "wouldCrack", "(I)Z"⟩
def dkwX2_wouldCrack_1 : List UInt8 := [180, 0, 7, 27, 16, 6, 184, 0, 47, 46, 154, 0, 7, 4, 167, 0, 4, 3, 172]
abbrev dktX2_wouldCrack_1 : List UInt8 := dkwX2_wouldCrack_1 ++ []
def dkwX2_wouldCrack_0 : List UInt8 := [42, 27, 3, 182, 0, 50, 153, 0, 34, 42, 180, 0, 7, 27, 8, 184, 0, 47, 46, 158, 0, 21, 42]
abbrev dktX2_wouldCrack_0 : List UInt8 := dkwX2_wouldCrack_0 ++ dktX2_wouldCrack_1
theorem dksX2_wouldCrack_0 : cX2_wouldCrack.data.toList.drop 0 = dktX2_wouldCrack_0 := by decide +kernel
theorem dksX2_wouldCrack_1 : cX2_wouldCrack.data.toList.drop 23 = dktX2_wouldCrack_1 := dk_seg dksX2_wouldCrack_0 23 rfl rfl
theorem dX2_wouldCrack_0 : decode cX2_wouldCrack 0 = .ok (.aload_n 0, 1) := dk_42 (dk_at dksX2_wouldCrack_0 0 rfl rfl)
theorem dX2_wouldCrack_1 : decode cX2_wouldCrack 1 = .ok (.iload_n 1, 1) := dk_27 (dk_at dksX2_wouldCrack_0 1 rfl rfl)
theorem dX2_wouldCrack_2 : decode cX2_wouldCrack 2 = .ok (.iconst 0, 1) := dk_3 (dk_at dksX2_wouldCrack_0 2 rfl rfl)
theorem dX2_wouldCrack_3 : decode cX2_wouldCrack 3 = .ok (.invokevirtual 50, 3) := dk_182 0 50 (dk_at dksX2_wouldCrack_0 3 rfl rfl)
theorem dX2_wouldCrack_6 : decode cX2_wouldCrack 6 = .ok (.ifCond .eq 34, 3) := dk_153 0 34 (dk_at dksX2_wouldCrack_0 6 rfl rfl)
theorem dX2_wouldCrack_9 : decode cX2_wouldCrack 9 = .ok (.aload_n 0, 1) := dk_42 (dk_at dksX2_wouldCrack_0 9 rfl rfl)
theorem dX2_wouldCrack_10 : decode cX2_wouldCrack 10 = .ok (.getfield 7, 3) := dk_180 0 7 (dk_at dksX2_wouldCrack_0 10 rfl rfl)
theorem dX2_wouldCrack_13 : decode cX2_wouldCrack 13 = .ok (.iload_n 1, 1) := dk_27 (dk_at dksX2_wouldCrack_0 13 rfl rfl)
theorem dX2_wouldCrack_14 : decode cX2_wouldCrack 14 = .ok (.iconst 5, 1) := dk_8 (dk_at dksX2_wouldCrack_0 14 rfl rfl)
theorem dX2_wouldCrack_15 : decode cX2_wouldCrack 15 = .ok (.invokestatic 47, 3) := dk_184 0 47 (dk_at dksX2_wouldCrack_0 15 rfl rfl)
theorem dX2_wouldCrack_18 : decode cX2_wouldCrack 18 = .ok (.iaload, 1) := dk_46 (dk_at dksX2_wouldCrack_0 18 rfl rfl)
theorem dX2_wouldCrack_19 : decode cX2_wouldCrack 19 = .ok (.ifCond .le 21, 3) := dk_158 0 21 (dk_at dksX2_wouldCrack_0 19 rfl rfl)
theorem dX2_wouldCrack_22 : decode cX2_wouldCrack 22 = .ok (.aload_n 0, 1) := dk_42 (dk_at dksX2_wouldCrack_0 22 rfl rfl)
theorem dX2_wouldCrack_23 : decode cX2_wouldCrack 23 = .ok (.getfield 7, 3) := dk_180 0 7 (dk_at dksX2_wouldCrack_1 0 rfl rfl)
theorem dX2_wouldCrack_26 : decode cX2_wouldCrack 26 = .ok (.iload_n 1, 1) := dk_27 (dk_at dksX2_wouldCrack_1 3 rfl rfl)
theorem dX2_wouldCrack_27 : decode cX2_wouldCrack 27 = .ok (.bipush 6, 2) := dk_16 6 (dk_at dksX2_wouldCrack_1 4 rfl rfl)
theorem dX2_wouldCrack_29 : decode cX2_wouldCrack 29 = .ok (.invokestatic 47, 3) := dk_184 0 47 (dk_at dksX2_wouldCrack_1 6 rfl rfl)
theorem dX2_wouldCrack_32 : decode cX2_wouldCrack 32 = .ok (.iaload, 1) := dk_46 (dk_at dksX2_wouldCrack_1 9 rfl rfl)
theorem dX2_wouldCrack_33 : decode cX2_wouldCrack 33 = .ok (.ifCond .ne 7, 3) := dk_154 0 7 (dk_at dksX2_wouldCrack_1 10 rfl rfl)
theorem dX2_wouldCrack_36 : decode cX2_wouldCrack 36 = .ok (.iconst 1, 1) := dk_4 (dk_at dksX2_wouldCrack_1 13 rfl rfl)
theorem dX2_wouldCrack_37 : decode cX2_wouldCrack 37 = .ok (.goto 4, 3) := dk_167 0 4 (dk_at dksX2_wouldCrack_1 14 rfl rfl)
theorem dX2_wouldCrack_40 : decode cX2_wouldCrack 40 = .ok (.iconst 0, 1) := dk_3 (dk_at dksX2_wouldCrack_1 17 rfl rfl)
theorem dX2_wouldCrack_41 : decode cX2_wouldCrack 41 = .ok (.ireturn, 1) := dk_172 (dk_at dksX2_wouldCrack_1 18 rfl rfl)
abbrev cX2_leaves : ByteArray := prog_8_method_37_code
def yX2_leaves : MethodName := ⟨RX2, "leaves", "(I)I"⟩
def dkwX2_leaves_3 : List UInt8 := [46, 28, 96, 79, 42, 180, 0, 7, 27, 6, 184, 0, 35, 92, 46, 4, 96, 79, 28, 172]
abbrev dktX2_leaves_3 : List UInt8 := dkwX2_leaves_3 ++ []
def dkwX2_leaves_2 : List UInt8 := [167, 0, 9, 42, 21, 4, 182, 0, 128, 96, 61, 132, 3, 1, 167, 255, 220, 42, 180, 0, 7, 16, 11, 92]
abbrev dktX2_leaves_2 : List UInt8 := dkwX2_leaves_2 ++ dktX2_leaves_3
def dkwX2_leaves_1 : List UInt8 := [29, 8, 162, 0, 37, 42, 27, 29, 182, 0, 75, 54, 4, 28, 21, 4, 16, 250, 160, 0, 7, 3]
abbrev dktX2_leaves_1 : List UInt8 := dkwX2_leaves_1 ++ dktX2_leaves_2
def dkwX2_leaves_0 : List UInt8 := [27, 184, 0, 122, 154, 0, 5, 2, 172, 42, 27, 182, 0, 125, 158, 0, 6, 16, 251, 172, 3, 61, 3, 62]
abbrev dktX2_leaves_0 : List UInt8 := dkwX2_leaves_0 ++ dktX2_leaves_1
theorem dksX2_leaves_0 : cX2_leaves.data.toList.drop 0 = dktX2_leaves_0 := by decide +kernel
theorem dksX2_leaves_1 : cX2_leaves.data.toList.drop 24 = dktX2_leaves_1 := dk_seg dksX2_leaves_0 24 rfl rfl
theorem dksX2_leaves_2 : cX2_leaves.data.toList.drop 46 = dktX2_leaves_2 := dk_seg dksX2_leaves_1 22 rfl rfl
theorem dksX2_leaves_3 : cX2_leaves.data.toList.drop 70 = dktX2_leaves_3 := dk_seg dksX2_leaves_2 24 rfl rfl
theorem dX2_leaves_0 : decode cX2_leaves 0 = .ok (.iload_n 1, 1) := dk_27 (dk_at dksX2_leaves_0 0 rfl rfl)
theorem dX2_leaves_1 : decode cX2_leaves 1 = .ok (.invokestatic 122, 3) := dk_184 0 122 (dk_at dksX2_leaves_0 1 rfl rfl)
theorem dX2_leaves_4 : decode cX2_leaves 4 = .ok (.ifCond .ne 5, 3) := dk_154 0 5 (dk_at dksX2_leaves_0 4 rfl rfl)
theorem dX2_leaves_7 : decode cX2_leaves 7 = .ok (.iconst (-1), 1) := dk_2 (dk_at dksX2_leaves_0 7 rfl rfl)
theorem dX2_leaves_8 : decode cX2_leaves 8 = .ok (.ireturn, 1) := dk_172 (dk_at dksX2_leaves_0 8 rfl rfl)
theorem dX2_leaves_9 : decode cX2_leaves 9 = .ok (.aload_n 0, 1) := dk_42 (dk_at dksX2_leaves_0 9 rfl rfl)
theorem dX2_leaves_10 : decode cX2_leaves 10 = .ok (.iload_n 1, 1) := dk_27 (dk_at dksX2_leaves_0 10 rfl rfl)
theorem dX2_leaves_11 : decode cX2_leaves 11 = .ok (.invokevirtual 125, 3) := dk_182 0 125 (dk_at dksX2_leaves_0 11 rfl rfl)
theorem dX2_leaves_14 : decode cX2_leaves 14 = .ok (.ifCond .le 6, 3) := dk_158 0 6 (dk_at dksX2_leaves_0 14 rfl rfl)
theorem dX2_leaves_17 : decode cX2_leaves 17 = .ok (.bipush (-5), 2) := dk_16 251 (dk_at dksX2_leaves_0 17 rfl rfl)
theorem dX2_leaves_19 : decode cX2_leaves 19 = .ok (.ireturn, 1) := dk_172 (dk_at dksX2_leaves_0 19 rfl rfl)
theorem dX2_leaves_20 : decode cX2_leaves 20 = .ok (.iconst 0, 1) := dk_3 (dk_at dksX2_leaves_0 20 rfl rfl)
theorem dX2_leaves_21 : decode cX2_leaves 21 = .ok (.istore_n 2, 1) := dk_61 (dk_at dksX2_leaves_0 21 rfl rfl)
theorem dX2_leaves_22 : decode cX2_leaves 22 = .ok (.iconst 0, 1) := dk_3 (dk_at dksX2_leaves_0 22 rfl rfl)
theorem dX2_leaves_23 : decode cX2_leaves 23 = .ok (.istore_n 3, 1) := dk_62 (dk_at dksX2_leaves_0 23 rfl rfl)
theorem dX2_leaves_24 : decode cX2_leaves 24 = .ok (.iload_n 3, 1) := dk_29 (dk_at dksX2_leaves_1 0 rfl rfl)
theorem dX2_leaves_25 : decode cX2_leaves 25 = .ok (.iconst 5, 1) := dk_8 (dk_at dksX2_leaves_1 1 rfl rfl)
theorem dX2_leaves_26 : decode cX2_leaves 26 = .ok (.if_icmp .ge 37, 3) := dk_162 0 37 (dk_at dksX2_leaves_1 2 rfl rfl)
theorem dX2_leaves_29 : decode cX2_leaves 29 = .ok (.aload_n 0, 1) := dk_42 (dk_at dksX2_leaves_1 5 rfl rfl)
theorem dX2_leaves_30 : decode cX2_leaves 30 = .ok (.iload_n 1, 1) := dk_27 (dk_at dksX2_leaves_1 6 rfl rfl)
theorem dX2_leaves_31 : decode cX2_leaves 31 = .ok (.iload_n 3, 1) := dk_29 (dk_at dksX2_leaves_1 7 rfl rfl)
theorem dX2_leaves_32 : decode cX2_leaves 32 = .ok (.invokevirtual 75, 3) := dk_182 0 75 (dk_at dksX2_leaves_1 8 rfl rfl)
theorem dX2_leaves_35 : decode cX2_leaves 35 = .ok (.istore 4, 2) := dk_54 4 (dk_at dksX2_leaves_1 11 rfl rfl)
theorem dX2_leaves_37 : decode cX2_leaves 37 = .ok (.iload_n 2, 1) := dk_28 (dk_at dksX2_leaves_1 13 rfl rfl)
theorem dX2_leaves_38 : decode cX2_leaves 38 = .ok (.iload 4, 2) := dk_21 4 (dk_at dksX2_leaves_1 14 rfl rfl)
theorem dX2_leaves_40 : decode cX2_leaves 40 = .ok (.bipush (-6), 2) := dk_16 250 (dk_at dksX2_leaves_1 16 rfl rfl)
theorem dX2_leaves_42 : decode cX2_leaves 42 = .ok (.if_icmp .ne 7, 3) := dk_160 0 7 (dk_at dksX2_leaves_1 18 rfl rfl)
theorem dX2_leaves_45 : decode cX2_leaves 45 = .ok (.iconst 0, 1) := dk_3 (dk_at dksX2_leaves_1 21 rfl rfl)
theorem dX2_leaves_46 : decode cX2_leaves 46 = .ok (.goto 9, 3) := dk_167 0 9 (dk_at dksX2_leaves_2 0 rfl rfl)
theorem dX2_leaves_49 : decode cX2_leaves 49 = .ok (.aload_n 0, 1) := dk_42 (dk_at dksX2_leaves_2 3 rfl rfl)
theorem dX2_leaves_50 : decode cX2_leaves 50 = .ok (.iload 4, 2) := dk_21 4 (dk_at dksX2_leaves_2 4 rfl rfl)
theorem dX2_leaves_52 : decode cX2_leaves 52 = .ok (.invokevirtual 128, 3) := dk_182 0 128 (dk_at dksX2_leaves_2 6 rfl rfl)
theorem dX2_leaves_55 : decode cX2_leaves 55 = .ok (.iadd, 1) := dk_96 (dk_at dksX2_leaves_2 9 rfl rfl)
theorem dX2_leaves_56 : decode cX2_leaves 56 = .ok (.istore_n 2, 1) := dk_61 (dk_at dksX2_leaves_2 10 rfl rfl)
theorem dX2_leaves_57 : decode cX2_leaves 57 = .ok (.iinc 3 1, 3) := dk_132 3 1 (dk_at dksX2_leaves_2 11 rfl rfl)
theorem dX2_leaves_60 : decode cX2_leaves 60 = .ok (.goto (-36), 3) := dk_167 255 220 (dk_at dksX2_leaves_2 14 rfl rfl)
theorem dX2_leaves_63 : decode cX2_leaves 63 = .ok (.aload_n 0, 1) := dk_42 (dk_at dksX2_leaves_2 17 rfl rfl)
theorem dX2_leaves_64 : decode cX2_leaves 64 = .ok (.getfield 7, 3) := dk_180 0 7 (dk_at dksX2_leaves_2 18 rfl rfl)
theorem dX2_leaves_67 : decode cX2_leaves 67 = .ok (.bipush 11, 2) := dk_16 11 (dk_at dksX2_leaves_2 21 rfl rfl)
theorem dX2_leaves_69 : decode cX2_leaves 69 = .ok (.dup2, 1) := dk_92 (dk_at dksX2_leaves_2 23 rfl rfl)
theorem dX2_leaves_70 : decode cX2_leaves 70 = .ok (.iaload, 1) := dk_46 (dk_at dksX2_leaves_3 0 rfl rfl)
theorem dX2_leaves_71 : decode cX2_leaves 71 = .ok (.iload_n 2, 1) := dk_28 (dk_at dksX2_leaves_3 1 rfl rfl)
theorem dX2_leaves_72 : decode cX2_leaves 72 = .ok (.iadd, 1) := dk_96 (dk_at dksX2_leaves_3 2 rfl rfl)
theorem dX2_leaves_73 : decode cX2_leaves 73 = .ok (.iastore, 1) := dk_79 (dk_at dksX2_leaves_3 3 rfl rfl)
theorem dX2_leaves_74 : decode cX2_leaves 74 = .ok (.aload_n 0, 1) := dk_42 (dk_at dksX2_leaves_3 4 rfl rfl)
theorem dX2_leaves_75 : decode cX2_leaves 75 = .ok (.getfield 7, 3) := dk_180 0 7 (dk_at dksX2_leaves_3 5 rfl rfl)
theorem dX2_leaves_78 : decode cX2_leaves 78 = .ok (.iload_n 1, 1) := dk_27 (dk_at dksX2_leaves_3 8 rfl rfl)
theorem dX2_leaves_79 : decode cX2_leaves 79 = .ok (.iconst 3, 1) := dk_6 (dk_at dksX2_leaves_3 9 rfl rfl)
theorem dX2_leaves_80 : decode cX2_leaves 80 = .ok (.invokestatic 35, 3) := dk_184 0 35 (dk_at dksX2_leaves_3 10 rfl rfl)
theorem dX2_leaves_83 : decode cX2_leaves 83 = .ok (.dup2, 1) := dk_92 (dk_at dksX2_leaves_3 13 rfl rfl)
theorem dX2_leaves_84 : decode cX2_leaves 84 = .ok (.iaload, 1) := dk_46 (dk_at dksX2_leaves_3 14 rfl rfl)
theorem dX2_leaves_85 : decode cX2_leaves 85 = .ok (.iconst 1, 1) := dk_4 (dk_at dksX2_leaves_3 15 rfl rfl)
theorem dX2_leaves_86 : decode cX2_leaves 86 = .ok (.iadd, 1) := dk_96 (dk_at dksX2_leaves_3 16 rfl rfl)
theorem dX2_leaves_87 : decode cX2_leaves 87 = .ok (.iastore, 1) := dk_79 (dk_at dksX2_leaves_3 17 rfl rfl)
theorem dX2_leaves_88 : decode cX2_leaves 88 = .ok (.iload_n 2, 1) := dk_28 (dk_at dksX2_leaves_3 18 rfl rfl)
theorem dX2_leaves_89 : decode cX2_leaves 89 = .ok (.ireturn, 1) := dk_172 (dk_at dksX2_leaves_3 19 rfl rfl)
abbrev cX2_whyNot : ByteArray := prog_8_method_29_code
def yX2_whyNot : MethodName := ⟨RX2, "whyNot", "(I)I"⟩
def dkwX2_whyNot_3 : List UInt8 := [182, 0, 93, 42, 180, 0, 7, 27, 4, 184, 0, 35, 46, 134, 149, 158, 0, 7, 8, 167, 0, 4, 3, 172]
abbrev dktX2_whyNot_3 : List UInt8 := dkwX2_whyNot_3 ++ []
def dkwX2_whyNot_2 : List UInt8 := [42, 180, 0, 7, 27, 3, 184, 0, 35, 46, 134, 149, 158, 0, 7, 7, 167, 0, 29, 42, 27, 4]
abbrev dktX2_whyNot_2 : List UInt8 := dkwX2_whyNot_2 ++ dktX2_whyNot_3
def dkwX2_whyNot_1 : List UInt8 := [182, 0, 90, 42, 180, 0, 7, 27, 5, 184, 0, 35, 46, 164, 0, 5, 6, 172, 42, 27, 3, 182, 0, 93]
abbrev dktX2_whyNot_1 : List UInt8 := dkwX2_whyNot_1 ++ dktX2_whyNot_2
def dkwX2_whyNot_0 : List UInt8 := [42, 27, 182, 0, 83, 154, 0, 5, 4, 172, 42, 27, 182, 0, 86, 153, 0, 5, 5, 172, 42, 27]
abbrev dktX2_whyNot_0 : List UInt8 := dkwX2_whyNot_0 ++ dktX2_whyNot_1
theorem dksX2_whyNot_0 : cX2_whyNot.data.toList.drop 0 = dktX2_whyNot_0 := by decide +kernel
theorem dksX2_whyNot_1 : cX2_whyNot.data.toList.drop 22 = dktX2_whyNot_1 := dk_seg dksX2_whyNot_0 22 rfl rfl
theorem dksX2_whyNot_2 : cX2_whyNot.data.toList.drop 46 = dktX2_whyNot_2 := dk_seg dksX2_whyNot_1 24 rfl rfl
theorem dksX2_whyNot_3 : cX2_whyNot.data.toList.drop 68 = dktX2_whyNot_3 := dk_seg dksX2_whyNot_2 22 rfl rfl
theorem dX2_whyNot_0 : decode cX2_whyNot 0 = .ok (.aload_n 0, 1) := dk_42 (dk_at dksX2_whyNot_0 0 rfl rfl)
theorem dX2_whyNot_1 : decode cX2_whyNot 1 = .ok (.iload_n 1, 1) := dk_27 (dk_at dksX2_whyNot_0 1 rfl rfl)
theorem dX2_whyNot_2 : decode cX2_whyNot 2 = .ok (.invokevirtual 83, 3) := dk_182 0 83 (dk_at dksX2_whyNot_0 2 rfl rfl)
theorem dX2_whyNot_5 : decode cX2_whyNot 5 = .ok (.ifCond .ne 5, 3) := dk_154 0 5 (dk_at dksX2_whyNot_0 5 rfl rfl)
theorem dX2_whyNot_8 : decode cX2_whyNot 8 = .ok (.iconst 1, 1) := dk_4 (dk_at dksX2_whyNot_0 8 rfl rfl)
theorem dX2_whyNot_9 : decode cX2_whyNot 9 = .ok (.ireturn, 1) := dk_172 (dk_at dksX2_whyNot_0 9 rfl rfl)
theorem dX2_whyNot_10 : decode cX2_whyNot 10 = .ok (.aload_n 0, 1) := dk_42 (dk_at dksX2_whyNot_0 10 rfl rfl)
theorem dX2_whyNot_11 : decode cX2_whyNot 11 = .ok (.iload_n 1, 1) := dk_27 (dk_at dksX2_whyNot_0 11 rfl rfl)
theorem dX2_whyNot_12 : decode cX2_whyNot 12 = .ok (.invokevirtual 86, 3) := dk_182 0 86 (dk_at dksX2_whyNot_0 12 rfl rfl)
theorem dX2_whyNot_15 : decode cX2_whyNot 15 = .ok (.ifCond .eq 5, 3) := dk_153 0 5 (dk_at dksX2_whyNot_0 15 rfl rfl)
theorem dX2_whyNot_18 : decode cX2_whyNot 18 = .ok (.iconst 2, 1) := dk_5 (dk_at dksX2_whyNot_0 18 rfl rfl)
theorem dX2_whyNot_19 : decode cX2_whyNot 19 = .ok (.ireturn, 1) := dk_172 (dk_at dksX2_whyNot_0 19 rfl rfl)
theorem dX2_whyNot_20 : decode cX2_whyNot 20 = .ok (.aload_n 0, 1) := dk_42 (dk_at dksX2_whyNot_0 20 rfl rfl)
theorem dX2_whyNot_21 : decode cX2_whyNot 21 = .ok (.iload_n 1, 1) := dk_27 (dk_at dksX2_whyNot_0 21 rfl rfl)
theorem dX2_whyNot_22 : decode cX2_whyNot 22 = .ok (.invokevirtual 90, 3) := dk_182 0 90 (dk_at dksX2_whyNot_1 0 rfl rfl)
theorem dX2_whyNot_25 : decode cX2_whyNot 25 = .ok (.aload_n 0, 1) := dk_42 (dk_at dksX2_whyNot_1 3 rfl rfl)
theorem dX2_whyNot_26 : decode cX2_whyNot 26 = .ok (.getfield 7, 3) := dk_180 0 7 (dk_at dksX2_whyNot_1 4 rfl rfl)
theorem dX2_whyNot_29 : decode cX2_whyNot 29 = .ok (.iload_n 1, 1) := dk_27 (dk_at dksX2_whyNot_1 7 rfl rfl)
theorem dX2_whyNot_30 : decode cX2_whyNot 30 = .ok (.iconst 2, 1) := dk_5 (dk_at dksX2_whyNot_1 8 rfl rfl)
theorem dX2_whyNot_31 : decode cX2_whyNot 31 = .ok (.invokestatic 35, 3) := dk_184 0 35 (dk_at dksX2_whyNot_1 9 rfl rfl)
theorem dX2_whyNot_34 : decode cX2_whyNot 34 = .ok (.iaload, 1) := dk_46 (dk_at dksX2_whyNot_1 12 rfl rfl)
theorem dX2_whyNot_35 : decode cX2_whyNot 35 = .ok (.if_icmp .le 5, 3) := dk_164 0 5 (dk_at dksX2_whyNot_1 13 rfl rfl)
theorem dX2_whyNot_38 : decode cX2_whyNot 38 = .ok (.iconst 3, 1) := dk_6 (dk_at dksX2_whyNot_1 16 rfl rfl)
theorem dX2_whyNot_39 : decode cX2_whyNot 39 = .ok (.ireturn, 1) := dk_172 (dk_at dksX2_whyNot_1 17 rfl rfl)
theorem dX2_whyNot_40 : decode cX2_whyNot 40 = .ok (.aload_n 0, 1) := dk_42 (dk_at dksX2_whyNot_1 18 rfl rfl)
theorem dX2_whyNot_41 : decode cX2_whyNot 41 = .ok (.iload_n 1, 1) := dk_27 (dk_at dksX2_whyNot_1 19 rfl rfl)
theorem dX2_whyNot_42 : decode cX2_whyNot 42 = .ok (.iconst 0, 1) := dk_3 (dk_at dksX2_whyNot_1 20 rfl rfl)
theorem dX2_whyNot_43 : decode cX2_whyNot 43 = .ok (.invokevirtual 93, 3) := dk_182 0 93 (dk_at dksX2_whyNot_1 21 rfl rfl)
theorem dX2_whyNot_46 : decode cX2_whyNot 46 = .ok (.aload_n 0, 1) := dk_42 (dk_at dksX2_whyNot_2 0 rfl rfl)
theorem dX2_whyNot_47 : decode cX2_whyNot 47 = .ok (.getfield 7, 3) := dk_180 0 7 (dk_at dksX2_whyNot_2 1 rfl rfl)
theorem dX2_whyNot_50 : decode cX2_whyNot 50 = .ok (.iload_n 1, 1) := dk_27 (dk_at dksX2_whyNot_2 4 rfl rfl)
theorem dX2_whyNot_51 : decode cX2_whyNot 51 = .ok (.iconst 0, 1) := dk_3 (dk_at dksX2_whyNot_2 5 rfl rfl)
theorem dX2_whyNot_52 : decode cX2_whyNot 52 = .ok (.invokestatic 35, 3) := dk_184 0 35 (dk_at dksX2_whyNot_2 6 rfl rfl)
theorem dX2_whyNot_55 : decode cX2_whyNot 55 = .ok (.iaload, 1) := dk_46 (dk_at dksX2_whyNot_2 9 rfl rfl)
theorem dX2_whyNot_56 : decode cX2_whyNot 56 = .ok (.i2f, 1) := dk_134 (dk_at dksX2_whyNot_2 10 rfl rfl)
theorem dX2_whyNot_57 : decode cX2_whyNot 57 = .ok (.fcmp .l, 1) := dk_149 (dk_at dksX2_whyNot_2 11 rfl rfl)
theorem dX2_whyNot_58 : decode cX2_whyNot 58 = .ok (.ifCond .le 7, 3) := dk_158 0 7 (dk_at dksX2_whyNot_2 12 rfl rfl)
theorem dX2_whyNot_61 : decode cX2_whyNot 61 = .ok (.iconst 4, 1) := dk_7 (dk_at dksX2_whyNot_2 15 rfl rfl)
theorem dX2_whyNot_62 : decode cX2_whyNot 62 = .ok (.goto 29, 3) := dk_167 0 29 (dk_at dksX2_whyNot_2 16 rfl rfl)
theorem dX2_whyNot_65 : decode cX2_whyNot 65 = .ok (.aload_n 0, 1) := dk_42 (dk_at dksX2_whyNot_2 19 rfl rfl)
theorem dX2_whyNot_66 : decode cX2_whyNot 66 = .ok (.iload_n 1, 1) := dk_27 (dk_at dksX2_whyNot_2 20 rfl rfl)
theorem dX2_whyNot_67 : decode cX2_whyNot 67 = .ok (.iconst 1, 1) := dk_4 (dk_at dksX2_whyNot_2 21 rfl rfl)
theorem dX2_whyNot_68 : decode cX2_whyNot 68 = .ok (.invokevirtual 93, 3) := dk_182 0 93 (dk_at dksX2_whyNot_3 0 rfl rfl)
theorem dX2_whyNot_71 : decode cX2_whyNot 71 = .ok (.aload_n 0, 1) := dk_42 (dk_at dksX2_whyNot_3 3 rfl rfl)
theorem dX2_whyNot_72 : decode cX2_whyNot 72 = .ok (.getfield 7, 3) := dk_180 0 7 (dk_at dksX2_whyNot_3 4 rfl rfl)
theorem dX2_whyNot_75 : decode cX2_whyNot 75 = .ok (.iload_n 1, 1) := dk_27 (dk_at dksX2_whyNot_3 7 rfl rfl)
theorem dX2_whyNot_76 : decode cX2_whyNot 76 = .ok (.iconst 1, 1) := dk_4 (dk_at dksX2_whyNot_3 8 rfl rfl)
theorem dX2_whyNot_77 : decode cX2_whyNot 77 = .ok (.invokestatic 35, 3) := dk_184 0 35 (dk_at dksX2_whyNot_3 9 rfl rfl)
theorem dX2_whyNot_80 : decode cX2_whyNot 80 = .ok (.iaload, 1) := dk_46 (dk_at dksX2_whyNot_3 12 rfl rfl)
theorem dX2_whyNot_81 : decode cX2_whyNot 81 = .ok (.i2f, 1) := dk_134 (dk_at dksX2_whyNot_3 13 rfl rfl)
theorem dX2_whyNot_82 : decode cX2_whyNot 82 = .ok (.fcmp .l, 1) := dk_149 (dk_at dksX2_whyNot_3 14 rfl rfl)
theorem dX2_whyNot_83 : decode cX2_whyNot 83 = .ok (.ifCond .le 7, 3) := dk_158 0 7 (dk_at dksX2_whyNot_3 15 rfl rfl)
theorem dX2_whyNot_86 : decode cX2_whyNot 86 = .ok (.iconst 5, 1) := dk_8 (dk_at dksX2_whyNot_3 18 rfl rfl)
theorem dX2_whyNot_87 : decode cX2_whyNot 87 = .ok (.goto 4, 3) := dk_167 0 4 (dk_at dksX2_whyNot_3 19 rfl rfl)
theorem dX2_whyNot_90 : decode cX2_whyNot 90 = .ok (.iconst 0, 1) := dk_3 (dk_at dksX2_whyNot_3 22 rfl rfl)
theorem dX2_whyNot_91 : decode cX2_whyNot 91 = .ok (.ireturn, 1) := dk_172 (dk_at dksX2_whyNot_3 23 rfl rfl)
abbrev cX2_blocksOn : ByteArray := prog_8_method_28_code
def yX2_blocksOn : MethodName := ⟨RX2, "blocksOn", "(I)I"⟩
def dkwX2_blocksOn_1 : List UInt8 := [167, 0, 11, 4, 42, 27, 29, 182, 0, 75, 120, 128, 61, 132, 3, 1, 167, 255, 222, 28, 172]
abbrev dktX2_blocksOn_1 : List UInt8 := dkwX2_blocksOn_1 ++ []
def dkwX2_blocksOn_0 : List UInt8 := [3, 61, 3, 62, 29, 8, 162, 0, 35, 28, 42, 27, 29, 182, 0, 75, 16, 250, 160, 0, 7, 3]
abbrev dktX2_blocksOn_0 : List UInt8 := dkwX2_blocksOn_0 ++ dktX2_blocksOn_1
theorem dksX2_blocksOn_0 : cX2_blocksOn.data.toList.drop 0 = dktX2_blocksOn_0 := by decide +kernel
theorem dksX2_blocksOn_1 : cX2_blocksOn.data.toList.drop 22 = dktX2_blocksOn_1 := dk_seg dksX2_blocksOn_0 22 rfl rfl
theorem dX2_blocksOn_0 : decode cX2_blocksOn 0 = .ok (.iconst 0, 1) := dk_3 (dk_at dksX2_blocksOn_0 0 rfl rfl)
theorem dX2_blocksOn_1 : decode cX2_blocksOn 1 = .ok (.istore_n 2, 1) := dk_61 (dk_at dksX2_blocksOn_0 1 rfl rfl)
theorem dX2_blocksOn_2 : decode cX2_blocksOn 2 = .ok (.iconst 0, 1) := dk_3 (dk_at dksX2_blocksOn_0 2 rfl rfl)
theorem dX2_blocksOn_3 : decode cX2_blocksOn 3 = .ok (.istore_n 3, 1) := dk_62 (dk_at dksX2_blocksOn_0 3 rfl rfl)
theorem dX2_blocksOn_4 : decode cX2_blocksOn 4 = .ok (.iload_n 3, 1) := dk_29 (dk_at dksX2_blocksOn_0 4 rfl rfl)
theorem dX2_blocksOn_5 : decode cX2_blocksOn 5 = .ok (.iconst 5, 1) := dk_8 (dk_at dksX2_blocksOn_0 5 rfl rfl)
theorem dX2_blocksOn_6 : decode cX2_blocksOn 6 = .ok (.if_icmp .ge 35, 3) := dk_162 0 35 (dk_at dksX2_blocksOn_0 6 rfl rfl)
theorem dX2_blocksOn_9 : decode cX2_blocksOn 9 = .ok (.iload_n 2, 1) := dk_28 (dk_at dksX2_blocksOn_0 9 rfl rfl)
theorem dX2_blocksOn_10 : decode cX2_blocksOn 10 = .ok (.aload_n 0, 1) := dk_42 (dk_at dksX2_blocksOn_0 10 rfl rfl)
theorem dX2_blocksOn_11 : decode cX2_blocksOn 11 = .ok (.iload_n 1, 1) := dk_27 (dk_at dksX2_blocksOn_0 11 rfl rfl)
theorem dX2_blocksOn_12 : decode cX2_blocksOn 12 = .ok (.iload_n 3, 1) := dk_29 (dk_at dksX2_blocksOn_0 12 rfl rfl)
theorem dX2_blocksOn_13 : decode cX2_blocksOn 13 = .ok (.invokevirtual 75, 3) := dk_182 0 75 (dk_at dksX2_blocksOn_0 13 rfl rfl)
theorem dX2_blocksOn_16 : decode cX2_blocksOn 16 = .ok (.bipush (-6), 2) := dk_16 250 (dk_at dksX2_blocksOn_0 16 rfl rfl)
theorem dX2_blocksOn_18 : decode cX2_blocksOn 18 = .ok (.if_icmp .ne 7, 3) := dk_160 0 7 (dk_at dksX2_blocksOn_0 18 rfl rfl)
theorem dX2_blocksOn_21 : decode cX2_blocksOn 21 = .ok (.iconst 0, 1) := dk_3 (dk_at dksX2_blocksOn_0 21 rfl rfl)
theorem dX2_blocksOn_22 : decode cX2_blocksOn 22 = .ok (.goto 11, 3) := dk_167 0 11 (dk_at dksX2_blocksOn_1 0 rfl rfl)
theorem dX2_blocksOn_25 : decode cX2_blocksOn 25 = .ok (.iconst 1, 1) := dk_4 (dk_at dksX2_blocksOn_1 3 rfl rfl)
theorem dX2_blocksOn_26 : decode cX2_blocksOn 26 = .ok (.aload_n 0, 1) := dk_42 (dk_at dksX2_blocksOn_1 4 rfl rfl)
theorem dX2_blocksOn_27 : decode cX2_blocksOn 27 = .ok (.iload_n 1, 1) := dk_27 (dk_at dksX2_blocksOn_1 5 rfl rfl)
theorem dX2_blocksOn_28 : decode cX2_blocksOn 28 = .ok (.iload_n 3, 1) := dk_29 (dk_at dksX2_blocksOn_1 6 rfl rfl)
theorem dX2_blocksOn_29 : decode cX2_blocksOn 29 = .ok (.invokevirtual 75, 3) := dk_182 0 75 (dk_at dksX2_blocksOn_1 7 rfl rfl)
theorem dX2_blocksOn_32 : decode cX2_blocksOn 32 = .ok (.ishl, 1) := dk_120 (dk_at dksX2_blocksOn_1 10 rfl rfl)
theorem dX2_blocksOn_33 : decode cX2_blocksOn 33 = .ok (.ior, 1) := dk_128 (dk_at dksX2_blocksOn_1 11 rfl rfl)
theorem dX2_blocksOn_34 : decode cX2_blocksOn 34 = .ok (.istore_n 2, 1) := dk_61 (dk_at dksX2_blocksOn_1 12 rfl rfl)
theorem dX2_blocksOn_35 : decode cX2_blocksOn 35 = .ok (.iinc 3 1, 3) := dk_132 3 1 (dk_at dksX2_blocksOn_1 13 rfl rfl)
theorem dX2_blocksOn_38 : decode cX2_blocksOn 38 = .ok (.goto (-34), 3) := dk_167 255 222 (dk_at dksX2_blocksOn_1 16 rfl rfl)
theorem dX2_blocksOn_41 : decode cX2_blocksOn 41 = .ok (.iload_n 2, 1) := dk_28 (dk_at dksX2_blocksOn_1 19 rfl rfl)
theorem dX2_blocksOn_42 : decode cX2_blocksOn 42 = .ok (.ireturn, 1) := dk_172 (dk_at dksX2_blocksOn_1 20 rfl rfl)
abbrev cX2_hasCracked : ByteArray := prog_8_method_27_code
def yX2_hasCracked : MethodName := ⟨RX2, "hasCracked", "(I)Z"⟩
def dkwX2_hasCracked_2 : List UInt8 := [167, 0, 4, 3, 61, 132, 3, 1, 167, 255, 207, 28, 172]
abbrev dktX2_hasCracked_2 : List UInt8 := dkwX2_hasCracked_2 ++ []
def dkwX2_hasCracked_1 : List UInt8 := [16, 250, 159, 0, 23, 42, 180, 0, 7, 21, 4, 16, 6, 184, 0, 47, 46, 4, 160, 0, 7, 4]
abbrev dktX2_hasCracked_1 : List UInt8 := dkwX2_hasCracked_1 ++ dktX2_hasCracked_2
def dkwX2_hasCracked_0 : List UInt8 := [3, 61, 3, 62, 29, 8, 162, 0, 50, 42, 27, 29, 182, 0, 75, 54, 4, 28, 154, 0, 26, 21, 4]
abbrev dktX2_hasCracked_0 : List UInt8 := dkwX2_hasCracked_0 ++ dktX2_hasCracked_1
theorem dksX2_hasCracked_0 : cX2_hasCracked.data.toList.drop 0 = dktX2_hasCracked_0 := by decide +kernel
theorem dksX2_hasCracked_1 : cX2_hasCracked.data.toList.drop 23 = dktX2_hasCracked_1 := dk_seg dksX2_hasCracked_0 23 rfl rfl
theorem dksX2_hasCracked_2 : cX2_hasCracked.data.toList.drop 45 = dktX2_hasCracked_2 := dk_seg dksX2_hasCracked_1 22 rfl rfl
theorem dX2_hasCracked_0 : decode cX2_hasCracked 0 = .ok (.iconst 0, 1) := dk_3 (dk_at dksX2_hasCracked_0 0 rfl rfl)
theorem dX2_hasCracked_1 : decode cX2_hasCracked 1 = .ok (.istore_n 2, 1) := dk_61 (dk_at dksX2_hasCracked_0 1 rfl rfl)
theorem dX2_hasCracked_2 : decode cX2_hasCracked 2 = .ok (.iconst 0, 1) := dk_3 (dk_at dksX2_hasCracked_0 2 rfl rfl)
theorem dX2_hasCracked_3 : decode cX2_hasCracked 3 = .ok (.istore_n 3, 1) := dk_62 (dk_at dksX2_hasCracked_0 3 rfl rfl)
theorem dX2_hasCracked_4 : decode cX2_hasCracked 4 = .ok (.iload_n 3, 1) := dk_29 (dk_at dksX2_hasCracked_0 4 rfl rfl)
theorem dX2_hasCracked_5 : decode cX2_hasCracked 5 = .ok (.iconst 5, 1) := dk_8 (dk_at dksX2_hasCracked_0 5 rfl rfl)
theorem dX2_hasCracked_6 : decode cX2_hasCracked 6 = .ok (.if_icmp .ge 50, 3) := dk_162 0 50 (dk_at dksX2_hasCracked_0 6 rfl rfl)
theorem dX2_hasCracked_9 : decode cX2_hasCracked 9 = .ok (.aload_n 0, 1) := dk_42 (dk_at dksX2_hasCracked_0 9 rfl rfl)
theorem dX2_hasCracked_10 : decode cX2_hasCracked 10 = .ok (.iload_n 1, 1) := dk_27 (dk_at dksX2_hasCracked_0 10 rfl rfl)
theorem dX2_hasCracked_11 : decode cX2_hasCracked 11 = .ok (.iload_n 3, 1) := dk_29 (dk_at dksX2_hasCracked_0 11 rfl rfl)
theorem dX2_hasCracked_12 : decode cX2_hasCracked 12 = .ok (.invokevirtual 75, 3) := dk_182 0 75 (dk_at dksX2_hasCracked_0 12 rfl rfl)
theorem dX2_hasCracked_15 : decode cX2_hasCracked 15 = .ok (.istore 4, 2) := dk_54 4 (dk_at dksX2_hasCracked_0 15 rfl rfl)
theorem dX2_hasCracked_17 : decode cX2_hasCracked 17 = .ok (.iload_n 2, 1) := dk_28 (dk_at dksX2_hasCracked_0 17 rfl rfl)
theorem dX2_hasCracked_18 : decode cX2_hasCracked 18 = .ok (.ifCond .ne 26, 3) := dk_154 0 26 (dk_at dksX2_hasCracked_0 18 rfl rfl)
theorem dX2_hasCracked_21 : decode cX2_hasCracked 21 = .ok (.iload 4, 2) := dk_21 4 (dk_at dksX2_hasCracked_0 21 rfl rfl)
theorem dX2_hasCracked_23 : decode cX2_hasCracked 23 = .ok (.bipush (-6), 2) := dk_16 250 (dk_at dksX2_hasCracked_1 0 rfl rfl)
theorem dX2_hasCracked_25 : decode cX2_hasCracked 25 = .ok (.if_icmp .eq 23, 3) := dk_159 0 23 (dk_at dksX2_hasCracked_1 2 rfl rfl)
theorem dX2_hasCracked_28 : decode cX2_hasCracked 28 = .ok (.aload_n 0, 1) := dk_42 (dk_at dksX2_hasCracked_1 5 rfl rfl)
theorem dX2_hasCracked_29 : decode cX2_hasCracked 29 = .ok (.getfield 7, 3) := dk_180 0 7 (dk_at dksX2_hasCracked_1 6 rfl rfl)
theorem dX2_hasCracked_32 : decode cX2_hasCracked 32 = .ok (.iload 4, 2) := dk_21 4 (dk_at dksX2_hasCracked_1 9 rfl rfl)
theorem dX2_hasCracked_34 : decode cX2_hasCracked 34 = .ok (.bipush 6, 2) := dk_16 6 (dk_at dksX2_hasCracked_1 11 rfl rfl)
theorem dX2_hasCracked_36 : decode cX2_hasCracked 36 = .ok (.invokestatic 47, 3) := dk_184 0 47 (dk_at dksX2_hasCracked_1 13 rfl rfl)
theorem dX2_hasCracked_39 : decode cX2_hasCracked 39 = .ok (.iaload, 1) := dk_46 (dk_at dksX2_hasCracked_1 16 rfl rfl)
theorem dX2_hasCracked_40 : decode cX2_hasCracked 40 = .ok (.iconst 1, 1) := dk_4 (dk_at dksX2_hasCracked_1 17 rfl rfl)
theorem dX2_hasCracked_41 : decode cX2_hasCracked 41 = .ok (.if_icmp .ne 7, 3) := dk_160 0 7 (dk_at dksX2_hasCracked_1 18 rfl rfl)
theorem dX2_hasCracked_44 : decode cX2_hasCracked 44 = .ok (.iconst 1, 1) := dk_4 (dk_at dksX2_hasCracked_1 21 rfl rfl)
theorem dX2_hasCracked_45 : decode cX2_hasCracked 45 = .ok (.goto 4, 3) := dk_167 0 4 (dk_at dksX2_hasCracked_2 0 rfl rfl)
theorem dX2_hasCracked_48 : decode cX2_hasCracked 48 = .ok (.iconst 0, 1) := dk_3 (dk_at dksX2_hasCracked_2 3 rfl rfl)
theorem dX2_hasCracked_49 : decode cX2_hasCracked 49 = .ok (.istore_n 2, 1) := dk_61 (dk_at dksX2_hasCracked_2 4 rfl rfl)
theorem dX2_hasCracked_50 : decode cX2_hasCracked 50 = .ok (.iinc 3 1, 3) := dk_132 3 1 (dk_at dksX2_hasCracked_2 5 rfl rfl)
theorem dX2_hasCracked_53 : decode cX2_hasCracked 53 = .ok (.goto (-49), 3) := dk_167 255 207 (dk_at dksX2_hasCracked_2 8 rfl rfl)
theorem dX2_hasCracked_56 : decode cX2_hasCracked 56 = .ok (.iload_n 2, 1) := dk_28 (dk_at dksX2_hasCracked_2 11 rfl rfl)
theorem dX2_hasCracked_57 : decode cX2_hasCracked 57 = .ok (.ireturn, 1) := dk_172 (dk_at dksX2_hasCracked_2 12 rfl rfl)
abbrev cX2_axleNow : ByteArray := prog_8_method_26_code
def yX2_axleNow : MethodName := ⟨RX2, "axleNow", "(IZ)F"⟩
def dkwX2_axleNow_0 : List UInt8 := [42, 27, 28, 16, 250, 16, 250, 182, 0, 79, 174]
abbrev dktX2_axleNow_0 : List UInt8 := dkwX2_axleNow_0 ++ []
theorem dksX2_axleNow_0 : cX2_axleNow.data.toList.drop 0 = dktX2_axleNow_0 := by decide +kernel
theorem dX2_axleNow_0 : decode cX2_axleNow 0 = .ok (.aload_n 0, 1) := dk_42 (dk_at dksX2_axleNow_0 0 rfl rfl)
theorem dX2_axleNow_1 : decode cX2_axleNow 1 = .ok (.iload_n 1, 1) := dk_27 (dk_at dksX2_axleNow_0 1 rfl rfl)
theorem dX2_axleNow_2 : decode cX2_axleNow 2 = .ok (.iload_n 2, 1) := dk_28 (dk_at dksX2_axleNow_0 2 rfl rfl)
theorem dX2_axleNow_3 : decode cX2_axleNow 3 = .ok (.bipush (-6), 2) := dk_16 250 (dk_at dksX2_axleNow_0 3 rfl rfl)
theorem dX2_axleNow_5 : decode cX2_axleNow 5 = .ok (.bipush (-6), 2) := dk_16 250 (dk_at dksX2_axleNow_0 5 rfl rfl)
theorem dX2_axleNow_7 : decode cX2_axleNow 7 = .ok (.invokevirtual 79, 3) := dk_182 0 79 (dk_at dksX2_axleNow_0 7 rfl rfl)
theorem dX2_axleNow_10 : decode cX2_axleNow 10 = .ok (.freturn, 1) := dk_174 (dk_at dksX2_axleNow_0 10 rfl rfl)
abbrev cX2_axle : ByteArray := prog_8_method_25_code
def yX2_axle : MethodName := ⟨RX2, "axle", "(IZII)F"⟩
def dkwX2_axle_3 : List UInt8 := [18, 78, 110, 98, 56, 5, 132, 6, 1, 167, 255, 184, 23, 5, 174]
abbrev dktX2_axle_3 : List UInt8 := dkwX2_axle_3 ++ []
def dkwX2_axle_2 : List UInt8 := [23, 5, 42, 21, 7, 182, 0, 58, 134, 28, 153, 0, 8, 21, 6, 167, 0, 7, 7, 21, 6, 100, 134, 106]
abbrev dktX2_axle_2 : List UInt8 := dkwX2_axle_2 ++ dktX2_axle_3
def dkwX2_axle_1 : List UInt8 := [159, 0, 7, 29, 167, 0, 10, 42, 27, 21, 6, 182, 0, 75, 54, 7, 21, 7, 16, 250, 159, 0, 33]
abbrev dktX2_axle_1 : List UInt8 := dkwX2_axle_1 ++ dktX2_axle_2
def dkwX2_axle_0 : List UInt8 := [11, 56, 5, 3, 54, 6, 21, 6, 8, 162, 0, 72, 21, 6, 21, 4, 160, 0, 13, 29, 16, 250]
abbrev dktX2_axle_0 : List UInt8 := dkwX2_axle_0 ++ dktX2_axle_1
theorem dksX2_axle_0 : cX2_axle.data.toList.drop 0 = dktX2_axle_0 := by decide +kernel
theorem dksX2_axle_1 : cX2_axle.data.toList.drop 22 = dktX2_axle_1 := dk_seg dksX2_axle_0 22 rfl rfl
theorem dksX2_axle_2 : cX2_axle.data.toList.drop 45 = dktX2_axle_2 := dk_seg dksX2_axle_1 23 rfl rfl
theorem dksX2_axle_3 : cX2_axle.data.toList.drop 69 = dktX2_axle_3 := dk_seg dksX2_axle_2 24 rfl rfl
theorem dX2_axle_0 : decode cX2_axle 0 = .ok (.fconst 0, 1) := dk_11 (dk_at dksX2_axle_0 0 rfl rfl)
theorem dX2_axle_1 : decode cX2_axle 1 = .ok (.fstore 5, 2) := dk_56 5 (dk_at dksX2_axle_0 1 rfl rfl)
theorem dX2_axle_3 : decode cX2_axle 3 = .ok (.iconst 0, 1) := dk_3 (dk_at dksX2_axle_0 3 rfl rfl)
theorem dX2_axle_4 : decode cX2_axle 4 = .ok (.istore 6, 2) := dk_54 6 (dk_at dksX2_axle_0 4 rfl rfl)
theorem dX2_axle_6 : decode cX2_axle 6 = .ok (.iload 6, 2) := dk_21 6 (dk_at dksX2_axle_0 6 rfl rfl)
theorem dX2_axle_8 : decode cX2_axle 8 = .ok (.iconst 5, 1) := dk_8 (dk_at dksX2_axle_0 8 rfl rfl)
theorem dX2_axle_9 : decode cX2_axle 9 = .ok (.if_icmp .ge 72, 3) := dk_162 0 72 (dk_at dksX2_axle_0 9 rfl rfl)
theorem dX2_axle_12 : decode cX2_axle 12 = .ok (.iload 6, 2) := dk_21 6 (dk_at dksX2_axle_0 12 rfl rfl)
theorem dX2_axle_14 : decode cX2_axle 14 = .ok (.iload 4, 2) := dk_21 4 (dk_at dksX2_axle_0 14 rfl rfl)
theorem dX2_axle_16 : decode cX2_axle 16 = .ok (.if_icmp .ne 13, 3) := dk_160 0 13 (dk_at dksX2_axle_0 16 rfl rfl)
theorem dX2_axle_19 : decode cX2_axle 19 = .ok (.iload_n 3, 1) := dk_29 (dk_at dksX2_axle_0 19 rfl rfl)
theorem dX2_axle_20 : decode cX2_axle 20 = .ok (.bipush (-6), 2) := dk_16 250 (dk_at dksX2_axle_0 20 rfl rfl)
theorem dX2_axle_22 : decode cX2_axle 22 = .ok (.if_icmp .eq 7, 3) := dk_159 0 7 (dk_at dksX2_axle_1 0 rfl rfl)
theorem dX2_axle_25 : decode cX2_axle 25 = .ok (.iload_n 3, 1) := dk_29 (dk_at dksX2_axle_1 3 rfl rfl)
theorem dX2_axle_26 : decode cX2_axle 26 = .ok (.goto 10, 3) := dk_167 0 10 (dk_at dksX2_axle_1 4 rfl rfl)
theorem dX2_axle_29 : decode cX2_axle 29 = .ok (.aload_n 0, 1) := dk_42 (dk_at dksX2_axle_1 7 rfl rfl)
theorem dX2_axle_30 : decode cX2_axle 30 = .ok (.iload_n 1, 1) := dk_27 (dk_at dksX2_axle_1 8 rfl rfl)
theorem dX2_axle_31 : decode cX2_axle 31 = .ok (.iload 6, 2) := dk_21 6 (dk_at dksX2_axle_1 9 rfl rfl)
theorem dX2_axle_33 : decode cX2_axle 33 = .ok (.invokevirtual 75, 3) := dk_182 0 75 (dk_at dksX2_axle_1 11 rfl rfl)
theorem dX2_axle_36 : decode cX2_axle 36 = .ok (.istore 7, 2) := dk_54 7 (dk_at dksX2_axle_1 14 rfl rfl)
theorem dX2_axle_38 : decode cX2_axle 38 = .ok (.iload 7, 2) := dk_21 7 (dk_at dksX2_axle_1 16 rfl rfl)
theorem dX2_axle_40 : decode cX2_axle 40 = .ok (.bipush (-6), 2) := dk_16 250 (dk_at dksX2_axle_1 18 rfl rfl)
theorem dX2_axle_42 : decode cX2_axle 42 = .ok (.if_icmp .eq 33, 3) := dk_159 0 33 (dk_at dksX2_axle_1 20 rfl rfl)
theorem dX2_axle_45 : decode cX2_axle 45 = .ok (.fload 5, 2) := dk_23 5 (dk_at dksX2_axle_2 0 rfl rfl)
theorem dX2_axle_47 : decode cX2_axle 47 = .ok (.aload_n 0, 1) := dk_42 (dk_at dksX2_axle_2 2 rfl rfl)
theorem dX2_axle_48 : decode cX2_axle 48 = .ok (.iload 7, 2) := dk_21 7 (dk_at dksX2_axle_2 3 rfl rfl)
theorem dX2_axle_50 : decode cX2_axle 50 = .ok (.invokevirtual 58, 3) := dk_182 0 58 (dk_at dksX2_axle_2 5 rfl rfl)
theorem dX2_axle_53 : decode cX2_axle 53 = .ok (.i2f, 1) := dk_134 (dk_at dksX2_axle_2 8 rfl rfl)
theorem dX2_axle_54 : decode cX2_axle 54 = .ok (.iload_n 2, 1) := dk_28 (dk_at dksX2_axle_2 9 rfl rfl)
theorem dX2_axle_55 : decode cX2_axle 55 = .ok (.ifCond .eq 8, 3) := dk_153 0 8 (dk_at dksX2_axle_2 10 rfl rfl)
theorem dX2_axle_58 : decode cX2_axle 58 = .ok (.iload 6, 2) := dk_21 6 (dk_at dksX2_axle_2 13 rfl rfl)
theorem dX2_axle_60 : decode cX2_axle 60 = .ok (.goto 7, 3) := dk_167 0 7 (dk_at dksX2_axle_2 15 rfl rfl)
theorem dX2_axle_63 : decode cX2_axle 63 = .ok (.iconst 4, 1) := dk_7 (dk_at dksX2_axle_2 18 rfl rfl)
theorem dX2_axle_64 : decode cX2_axle 64 = .ok (.iload 6, 2) := dk_21 6 (dk_at dksX2_axle_2 19 rfl rfl)
theorem dX2_axle_66 : decode cX2_axle 66 = .ok (.isub, 1) := dk_100 (dk_at dksX2_axle_2 21 rfl rfl)
theorem dX2_axle_67 : decode cX2_axle 67 = .ok (.i2f, 1) := dk_134 (dk_at dksX2_axle_2 22 rfl rfl)
theorem dX2_axle_68 : decode cX2_axle 68 = .ok (.fmul, 1) := dk_106 (dk_at dksX2_axle_2 23 rfl rfl)
theorem dX2_axle_69 : decode cX2_axle 69 = .ok (.ldc 78, 2) := dk_18 78 (dk_at dksX2_axle_3 0 rfl rfl)
theorem dX2_axle_71 : decode cX2_axle 71 = .ok (.fdiv, 1) := dk_110 (dk_at dksX2_axle_3 2 rfl rfl)
theorem dX2_axle_72 : decode cX2_axle 72 = .ok (.fadd, 1) := dk_98 (dk_at dksX2_axle_3 3 rfl rfl)
theorem dX2_axle_73 : decode cX2_axle 73 = .ok (.fstore 5, 2) := dk_56 5 (dk_at dksX2_axle_3 4 rfl rfl)
theorem dX2_axle_75 : decode cX2_axle 75 = .ok (.iinc 6 1, 3) := dk_132 6 1 (dk_at dksX2_axle_3 6 rfl rfl)
theorem dX2_axle_78 : decode cX2_axle 78 = .ok (.goto (-72), 3) := dk_167 255 184 (dk_at dksX2_axle_3 9 rfl rfl)
theorem dX2_axle_81 : decode cX2_axle 81 = .ok (.fload 5, 2) := dk_23 5 (dk_at dksX2_axle_3 12 rfl rfl)
theorem dX2_axle_83 : decode cX2_axle 83 = .ok (.freturn, 1) := dk_174 (dk_at dksX2_axle_3 14 rfl rfl)
abbrev cX2_delivers : ByteArray := prog_8_method_30_code
def yX2_delivers : MethodName := ⟨RX2, "delivers", "(I)I"⟩
def dkwX2_delivers_4 : List UInt8 := [5, 79, 42, 180, 0, 7, 28, 8, 184, 0, 66, 29, 79, 29, 172]
abbrev dktX2_delivers_4 : List UInt8 := dkwX2_delivers_4 ++ []
def dkwX2_delivers_3 : List UInt8 := [92, 46, 42, 27, 182, 0, 58, 96, 79, 28, 16, 250, 159, 0, 25, 42, 180, 0, 7, 28, 6, 184, 0, 66]
abbrev dktX2_delivers_3 : List UInt8 := dkwX2_delivers_3 ++ dktX2_delivers_4
def dkwX2_delivers_2 : List UInt8 := [184, 0, 47, 6, 79, 42, 180, 0, 7, 27, 16, 8, 184, 0, 47, 16, 250, 79, 42, 180, 0, 7, 16, 10]
abbrev dktX2_delivers_2 : List UInt8 := dkwX2_delivers_2 ++ dktX2_delivers_3
def dkwX2_delivers_1 : List UInt8 := [180, 0, 7, 4, 46, 42, 27, 182, 0, 58, 16, 99, 96, 16, 100, 108, 104, 62, 42, 180, 0, 7, 27, 7]
abbrev dktX2_delivers_1 : List UInt8 := dkwX2_delivers_1 ++ dktX2_delivers_2
def dkwX2_delivers_0 : List UInt8 := [42, 180, 0, 7, 27, 16, 7, 184, 0, 47, 46, 61, 28, 16, 250, 160, 0, 7, 3, 167, 0, 21, 42]
abbrev dktX2_delivers_0 : List UInt8 := dkwX2_delivers_0 ++ dktX2_delivers_1
theorem dksX2_delivers_0 : cX2_delivers.data.toList.drop 0 = dktX2_delivers_0 := by decide +kernel
theorem dksX2_delivers_1 : cX2_delivers.data.toList.drop 23 = dktX2_delivers_1 := dk_seg dksX2_delivers_0 23 rfl rfl
theorem dksX2_delivers_2 : cX2_delivers.data.toList.drop 47 = dktX2_delivers_2 := dk_seg dksX2_delivers_1 24 rfl rfl
theorem dksX2_delivers_3 : cX2_delivers.data.toList.drop 71 = dktX2_delivers_3 := dk_seg dksX2_delivers_2 24 rfl rfl
theorem dksX2_delivers_4 : cX2_delivers.data.toList.drop 95 = dktX2_delivers_4 := dk_seg dksX2_delivers_3 24 rfl rfl
theorem dX2_delivers_0 : decode cX2_delivers 0 = .ok (.aload_n 0, 1) := dk_42 (dk_at dksX2_delivers_0 0 rfl rfl)
theorem dX2_delivers_1 : decode cX2_delivers 1 = .ok (.getfield 7, 3) := dk_180 0 7 (dk_at dksX2_delivers_0 1 rfl rfl)
theorem dX2_delivers_4 : decode cX2_delivers 4 = .ok (.iload_n 1, 1) := dk_27 (dk_at dksX2_delivers_0 4 rfl rfl)
theorem dX2_delivers_5 : decode cX2_delivers 5 = .ok (.bipush 7, 2) := dk_16 7 (dk_at dksX2_delivers_0 5 rfl rfl)
theorem dX2_delivers_7 : decode cX2_delivers 7 = .ok (.invokestatic 47, 3) := dk_184 0 47 (dk_at dksX2_delivers_0 7 rfl rfl)
theorem dX2_delivers_10 : decode cX2_delivers 10 = .ok (.iaload, 1) := dk_46 (dk_at dksX2_delivers_0 10 rfl rfl)
theorem dX2_delivers_11 : decode cX2_delivers 11 = .ok (.istore_n 2, 1) := dk_61 (dk_at dksX2_delivers_0 11 rfl rfl)
theorem dX2_delivers_12 : decode cX2_delivers 12 = .ok (.iload_n 2, 1) := dk_28 (dk_at dksX2_delivers_0 12 rfl rfl)
theorem dX2_delivers_13 : decode cX2_delivers 13 = .ok (.bipush (-6), 2) := dk_16 250 (dk_at dksX2_delivers_0 13 rfl rfl)
theorem dX2_delivers_15 : decode cX2_delivers 15 = .ok (.if_icmp .ne 7, 3) := dk_160 0 7 (dk_at dksX2_delivers_0 15 rfl rfl)
theorem dX2_delivers_18 : decode cX2_delivers 18 = .ok (.iconst 0, 1) := dk_3 (dk_at dksX2_delivers_0 18 rfl rfl)
theorem dX2_delivers_19 : decode cX2_delivers 19 = .ok (.goto 21, 3) := dk_167 0 21 (dk_at dksX2_delivers_0 19 rfl rfl)
theorem dX2_delivers_22 : decode cX2_delivers 22 = .ok (.aload_n 0, 1) := dk_42 (dk_at dksX2_delivers_0 22 rfl rfl)
theorem dX2_delivers_23 : decode cX2_delivers 23 = .ok (.getfield 7, 3) := dk_180 0 7 (dk_at dksX2_delivers_1 0 rfl rfl)
theorem dX2_delivers_26 : decode cX2_delivers 26 = .ok (.iconst 1, 1) := dk_4 (dk_at dksX2_delivers_1 3 rfl rfl)
theorem dX2_delivers_27 : decode cX2_delivers 27 = .ok (.iaload, 1) := dk_46 (dk_at dksX2_delivers_1 4 rfl rfl)
theorem dX2_delivers_28 : decode cX2_delivers 28 = .ok (.aload_n 0, 1) := dk_42 (dk_at dksX2_delivers_1 5 rfl rfl)
theorem dX2_delivers_29 : decode cX2_delivers 29 = .ok (.iload_n 1, 1) := dk_27 (dk_at dksX2_delivers_1 6 rfl rfl)
theorem dX2_delivers_30 : decode cX2_delivers 30 = .ok (.invokevirtual 58, 3) := dk_182 0 58 (dk_at dksX2_delivers_1 7 rfl rfl)
theorem dX2_delivers_33 : decode cX2_delivers 33 = .ok (.bipush 99, 2) := dk_16 99 (dk_at dksX2_delivers_1 10 rfl rfl)
theorem dX2_delivers_35 : decode cX2_delivers 35 = .ok (.iadd, 1) := dk_96 (dk_at dksX2_delivers_1 12 rfl rfl)
theorem dX2_delivers_36 : decode cX2_delivers 36 = .ok (.bipush 100, 2) := dk_16 100 (dk_at dksX2_delivers_1 13 rfl rfl)
theorem dX2_delivers_38 : decode cX2_delivers 38 = .ok (.idiv, 1) := dk_108 (dk_at dksX2_delivers_1 15 rfl rfl)
theorem dX2_delivers_39 : decode cX2_delivers 39 = .ok (.imul, 1) := dk_104 (dk_at dksX2_delivers_1 16 rfl rfl)
theorem dX2_delivers_40 : decode cX2_delivers 40 = .ok (.istore_n 3, 1) := dk_62 (dk_at dksX2_delivers_1 17 rfl rfl)
theorem dX2_delivers_41 : decode cX2_delivers 41 = .ok (.aload_n 0, 1) := dk_42 (dk_at dksX2_delivers_1 18 rfl rfl)
theorem dX2_delivers_42 : decode cX2_delivers 42 = .ok (.getfield 7, 3) := dk_180 0 7 (dk_at dksX2_delivers_1 19 rfl rfl)
theorem dX2_delivers_45 : decode cX2_delivers 45 = .ok (.iload_n 1, 1) := dk_27 (dk_at dksX2_delivers_1 22 rfl rfl)
theorem dX2_delivers_46 : decode cX2_delivers 46 = .ok (.iconst 4, 1) := dk_7 (dk_at dksX2_delivers_1 23 rfl rfl)
theorem dX2_delivers_47 : decode cX2_delivers 47 = .ok (.invokestatic 47, 3) := dk_184 0 47 (dk_at dksX2_delivers_2 0 rfl rfl)
theorem dX2_delivers_50 : decode cX2_delivers 50 = .ok (.iconst 3, 1) := dk_6 (dk_at dksX2_delivers_2 3 rfl rfl)
theorem dX2_delivers_51 : decode cX2_delivers 51 = .ok (.iastore, 1) := dk_79 (dk_at dksX2_delivers_2 4 rfl rfl)
theorem dX2_delivers_52 : decode cX2_delivers 52 = .ok (.aload_n 0, 1) := dk_42 (dk_at dksX2_delivers_2 5 rfl rfl)
theorem dX2_delivers_53 : decode cX2_delivers 53 = .ok (.getfield 7, 3) := dk_180 0 7 (dk_at dksX2_delivers_2 6 rfl rfl)
theorem dX2_delivers_56 : decode cX2_delivers 56 = .ok (.iload_n 1, 1) := dk_27 (dk_at dksX2_delivers_2 9 rfl rfl)
theorem dX2_delivers_57 : decode cX2_delivers 57 = .ok (.bipush 8, 2) := dk_16 8 (dk_at dksX2_delivers_2 10 rfl rfl)
theorem dX2_delivers_59 : decode cX2_delivers 59 = .ok (.invokestatic 47, 3) := dk_184 0 47 (dk_at dksX2_delivers_2 12 rfl rfl)
theorem dX2_delivers_62 : decode cX2_delivers 62 = .ok (.bipush (-6), 2) := dk_16 250 (dk_at dksX2_delivers_2 15 rfl rfl)
theorem dX2_delivers_64 : decode cX2_delivers 64 = .ok (.iastore, 1) := dk_79 (dk_at dksX2_delivers_2 17 rfl rfl)
theorem dX2_delivers_65 : decode cX2_delivers 65 = .ok (.aload_n 0, 1) := dk_42 (dk_at dksX2_delivers_2 18 rfl rfl)
theorem dX2_delivers_66 : decode cX2_delivers 66 = .ok (.getfield 7, 3) := dk_180 0 7 (dk_at dksX2_delivers_2 19 rfl rfl)
theorem dX2_delivers_69 : decode cX2_delivers 69 = .ok (.bipush 10, 2) := dk_16 10 (dk_at dksX2_delivers_2 22 rfl rfl)
theorem dX2_delivers_71 : decode cX2_delivers 71 = .ok (.dup2, 1) := dk_92 (dk_at dksX2_delivers_3 0 rfl rfl)
theorem dX2_delivers_72 : decode cX2_delivers 72 = .ok (.iaload, 1) := dk_46 (dk_at dksX2_delivers_3 1 rfl rfl)
theorem dX2_delivers_73 : decode cX2_delivers 73 = .ok (.aload_n 0, 1) := dk_42 (dk_at dksX2_delivers_3 2 rfl rfl)
theorem dX2_delivers_74 : decode cX2_delivers 74 = .ok (.iload_n 1, 1) := dk_27 (dk_at dksX2_delivers_3 3 rfl rfl)
theorem dX2_delivers_75 : decode cX2_delivers 75 = .ok (.invokevirtual 58, 3) := dk_182 0 58 (dk_at dksX2_delivers_3 4 rfl rfl)
theorem dX2_delivers_78 : decode cX2_delivers 78 = .ok (.iadd, 1) := dk_96 (dk_at dksX2_delivers_3 7 rfl rfl)
theorem dX2_delivers_79 : decode cX2_delivers 79 = .ok (.iastore, 1) := dk_79 (dk_at dksX2_delivers_3 8 rfl rfl)
theorem dX2_delivers_80 : decode cX2_delivers 80 = .ok (.iload_n 2, 1) := dk_28 (dk_at dksX2_delivers_3 9 rfl rfl)
theorem dX2_delivers_81 : decode cX2_delivers 81 = .ok (.bipush (-6), 2) := dk_16 250 (dk_at dksX2_delivers_3 10 rfl rfl)
theorem dX2_delivers_83 : decode cX2_delivers 83 = .ok (.if_icmp .eq 25, 3) := dk_159 0 25 (dk_at dksX2_delivers_3 12 rfl rfl)
theorem dX2_delivers_86 : decode cX2_delivers 86 = .ok (.aload_n 0, 1) := dk_42 (dk_at dksX2_delivers_3 15 rfl rfl)
theorem dX2_delivers_87 : decode cX2_delivers 87 = .ok (.getfield 7, 3) := dk_180 0 7 (dk_at dksX2_delivers_3 16 rfl rfl)
theorem dX2_delivers_90 : decode cX2_delivers 90 = .ok (.iload_n 2, 1) := dk_28 (dk_at dksX2_delivers_3 19 rfl rfl)
theorem dX2_delivers_91 : decode cX2_delivers 91 = .ok (.iconst 3, 1) := dk_6 (dk_at dksX2_delivers_3 20 rfl rfl)
theorem dX2_delivers_92 : decode cX2_delivers 92 = .ok (.invokestatic 66, 3) := dk_184 0 66 (dk_at dksX2_delivers_3 21 rfl rfl)
theorem dX2_delivers_95 : decode cX2_delivers 95 = .ok (.iconst 2, 1) := dk_5 (dk_at dksX2_delivers_4 0 rfl rfl)
theorem dX2_delivers_96 : decode cX2_delivers 96 = .ok (.iastore, 1) := dk_79 (dk_at dksX2_delivers_4 1 rfl rfl)
theorem dX2_delivers_97 : decode cX2_delivers 97 = .ok (.aload_n 0, 1) := dk_42 (dk_at dksX2_delivers_4 2 rfl rfl)
theorem dX2_delivers_98 : decode cX2_delivers 98 = .ok (.getfield 7, 3) := dk_180 0 7 (dk_at dksX2_delivers_4 3 rfl rfl)
theorem dX2_delivers_101 : decode cX2_delivers 101 = .ok (.iload_n 2, 1) := dk_28 (dk_at dksX2_delivers_4 6 rfl rfl)
theorem dX2_delivers_102 : decode cX2_delivers 102 = .ok (.iconst 5, 1) := dk_8 (dk_at dksX2_delivers_4 7 rfl rfl)
theorem dX2_delivers_103 : decode cX2_delivers 103 = .ok (.invokestatic 66, 3) := dk_184 0 66 (dk_at dksX2_delivers_4 8 rfl rfl)
theorem dX2_delivers_106 : decode cX2_delivers 106 = .ok (.iload_n 3, 1) := dk_29 (dk_at dksX2_delivers_4 11 rfl rfl)
theorem dX2_delivers_107 : decode cX2_delivers 107 = .ok (.iastore, 1) := dk_79 (dk_at dksX2_delivers_4 12 rfl rfl)
theorem dX2_delivers_108 : decode cX2_delivers 108 = .ok (.iload_n 3, 1) := dk_29 (dk_at dksX2_delivers_4 13 rfl rfl)
theorem dX2_delivers_109 : decode cX2_delivers 109 = .ok (.ireturn, 1) := dk_172 (dk_at dksX2_delivers_4 14 rfl rfl)
abbrev cX2_cut : ByteArray := prog_8_method_45_code
def yX2_cut : MethodName := ⟨RX2, "cut", "(III)I"⟩
def dkwX2_cut_0 : List UInt8 := [42, 16, 99, 27, 28, 29, 3, 182, 0, 169, 172]
abbrev dktX2_cut_0 : List UInt8 := dkwX2_cut_0 ++ []
theorem dksX2_cut_0 : cX2_cut.data.toList.drop 0 = dktX2_cut_0 := by decide +kernel
theorem dX2_cut_0 : decode cX2_cut 0 = .ok (.aload_n 0, 1) := dk_42 (dk_at dksX2_cut_0 0 rfl rfl)
theorem dX2_cut_1 : decode cX2_cut 1 = .ok (.bipush 99, 2) := dk_16 99 (dk_at dksX2_cut_0 1 rfl rfl)
theorem dX2_cut_3 : decode cX2_cut 3 = .ok (.iload_n 1, 1) := dk_27 (dk_at dksX2_cut_0 3 rfl rfl)
theorem dX2_cut_4 : decode cX2_cut 4 = .ok (.iload_n 2, 1) := dk_28 (dk_at dksX2_cut_0 4 rfl rfl)
theorem dX2_cut_5 : decode cX2_cut 5 = .ok (.iload_n 3, 1) := dk_29 (dk_at dksX2_cut_0 5 rfl rfl)
theorem dX2_cut_6 : decode cX2_cut 6 = .ok (.iconst 0, 1) := dk_3 (dk_at dksX2_cut_0 6 rfl rfl)
theorem dX2_cut_7 : decode cX2_cut 7 = .ok (.invokevirtual 169, 3) := dk_182 0 169 (dk_at dksX2_cut_0 7 rfl rfl)
theorem dX2_cut_10 : decode cX2_cut 10 = .ok (.ireturn, 1) := dk_172 (dk_at dksX2_cut_0 10 rfl rfl)
abbrev cX2_shelter : ByteArray := prog_8_method_46_code
def yX2_shelter : MethodName := ⟨RX2, "shelter", "(I)I"⟩
def dkwX2_shelter_3 : List UInt8 := [4, 172]
abbrev dktX2_shelter_3 : List UInt8 := dkwX2_shelter_3 ++ []
def dkwX2_shelter_2 : List UInt8 := [184, 0, 47, 28, 153, 0, 7, 3, 167, 0, 4, 4, 182, 0, 166, 62, 28, 153, 0, 7, 3, 167, 0, 4]
abbrev dktX2_shelter_2 : List UInt8 := dkwX2_shelter_2 ++ dktX2_shelter_3
def dkwX2_shelter_1 : List UInt8 := [182, 0, 50, 61, 28, 154, 0, 14, 42, 182, 0, 112, 7, 160, 0, 6, 16, 252, 172, 42, 27, 7]
abbrev dktX2_shelter_1 : List UInt8 := dkwX2_shelter_1 ++ dktX2_shelter_2
def dkwX2_shelter_0 : List UInt8 := [42, 27, 182, 0, 103, 154, 0, 5, 2, 172, 42, 27, 182, 0, 100, 154, 0, 6, 16, 251, 172, 42, 27, 4]
abbrev dktX2_shelter_0 : List UInt8 := dkwX2_shelter_0 ++ dktX2_shelter_1
theorem dksX2_shelter_0 : cX2_shelter.data.toList.drop 0 = dktX2_shelter_0 := by decide +kernel
theorem dksX2_shelter_1 : cX2_shelter.data.toList.drop 24 = dktX2_shelter_1 := dk_seg dksX2_shelter_0 24 rfl rfl
theorem dksX2_shelter_2 : cX2_shelter.data.toList.drop 46 = dktX2_shelter_2 := dk_seg dksX2_shelter_1 22 rfl rfl
theorem dksX2_shelter_3 : cX2_shelter.data.toList.drop 70 = dktX2_shelter_3 := dk_seg dksX2_shelter_2 24 rfl rfl
theorem dX2_shelter_0 : decode cX2_shelter 0 = .ok (.aload_n 0, 1) := dk_42 (dk_at dksX2_shelter_0 0 rfl rfl)
theorem dX2_shelter_1 : decode cX2_shelter 1 = .ok (.iload_n 1, 1) := dk_27 (dk_at dksX2_shelter_0 1 rfl rfl)
theorem dX2_shelter_2 : decode cX2_shelter 2 = .ok (.invokevirtual 103, 3) := dk_182 0 103 (dk_at dksX2_shelter_0 2 rfl rfl)
theorem dX2_shelter_5 : decode cX2_shelter 5 = .ok (.ifCond .ne 5, 3) := dk_154 0 5 (dk_at dksX2_shelter_0 5 rfl rfl)
theorem dX2_shelter_8 : decode cX2_shelter 8 = .ok (.iconst (-1), 1) := dk_2 (dk_at dksX2_shelter_0 8 rfl rfl)
theorem dX2_shelter_9 : decode cX2_shelter 9 = .ok (.ireturn, 1) := dk_172 (dk_at dksX2_shelter_0 9 rfl rfl)
theorem dX2_shelter_10 : decode cX2_shelter 10 = .ok (.aload_n 0, 1) := dk_42 (dk_at dksX2_shelter_0 10 rfl rfl)
theorem dX2_shelter_11 : decode cX2_shelter 11 = .ok (.iload_n 1, 1) := dk_27 (dk_at dksX2_shelter_0 11 rfl rfl)
theorem dX2_shelter_12 : decode cX2_shelter 12 = .ok (.invokevirtual 100, 3) := dk_182 0 100 (dk_at dksX2_shelter_0 12 rfl rfl)
theorem dX2_shelter_15 : decode cX2_shelter 15 = .ok (.ifCond .ne 6, 3) := dk_154 0 6 (dk_at dksX2_shelter_0 15 rfl rfl)
theorem dX2_shelter_18 : decode cX2_shelter 18 = .ok (.bipush (-5), 2) := dk_16 251 (dk_at dksX2_shelter_0 18 rfl rfl)
theorem dX2_shelter_20 : decode cX2_shelter 20 = .ok (.ireturn, 1) := dk_172 (dk_at dksX2_shelter_0 20 rfl rfl)
theorem dX2_shelter_21 : decode cX2_shelter 21 = .ok (.aload_n 0, 1) := dk_42 (dk_at dksX2_shelter_0 21 rfl rfl)
theorem dX2_shelter_22 : decode cX2_shelter 22 = .ok (.iload_n 1, 1) := dk_27 (dk_at dksX2_shelter_0 22 rfl rfl)
theorem dX2_shelter_23 : decode cX2_shelter 23 = .ok (.iconst 1, 1) := dk_4 (dk_at dksX2_shelter_0 23 rfl rfl)
theorem dX2_shelter_24 : decode cX2_shelter 24 = .ok (.invokevirtual 50, 3) := dk_182 0 50 (dk_at dksX2_shelter_1 0 rfl rfl)
theorem dX2_shelter_27 : decode cX2_shelter 27 = .ok (.istore_n 2, 1) := dk_61 (dk_at dksX2_shelter_1 3 rfl rfl)
theorem dX2_shelter_28 : decode cX2_shelter 28 = .ok (.iload_n 2, 1) := dk_28 (dk_at dksX2_shelter_1 4 rfl rfl)
theorem dX2_shelter_29 : decode cX2_shelter 29 = .ok (.ifCond .ne 14, 3) := dk_154 0 14 (dk_at dksX2_shelter_1 5 rfl rfl)
theorem dX2_shelter_32 : decode cX2_shelter 32 = .ok (.aload_n 0, 1) := dk_42 (dk_at dksX2_shelter_1 8 rfl rfl)
theorem dX2_shelter_33 : decode cX2_shelter 33 = .ok (.invokevirtual 112, 3) := dk_182 0 112 (dk_at dksX2_shelter_1 9 rfl rfl)
theorem dX2_shelter_36 : decode cX2_shelter 36 = .ok (.iconst 4, 1) := dk_7 (dk_at dksX2_shelter_1 12 rfl rfl)
theorem dX2_shelter_37 : decode cX2_shelter 37 = .ok (.if_icmp .ne 6, 3) := dk_160 0 6 (dk_at dksX2_shelter_1 13 rfl rfl)
theorem dX2_shelter_40 : decode cX2_shelter 40 = .ok (.bipush (-4), 2) := dk_16 252 (dk_at dksX2_shelter_1 16 rfl rfl)
theorem dX2_shelter_42 : decode cX2_shelter 42 = .ok (.ireturn, 1) := dk_172 (dk_at dksX2_shelter_1 18 rfl rfl)
theorem dX2_shelter_43 : decode cX2_shelter 43 = .ok (.aload_n 0, 1) := dk_42 (dk_at dksX2_shelter_1 19 rfl rfl)
theorem dX2_shelter_44 : decode cX2_shelter 44 = .ok (.iload_n 1, 1) := dk_27 (dk_at dksX2_shelter_1 20 rfl rfl)
theorem dX2_shelter_45 : decode cX2_shelter 45 = .ok (.iconst 4, 1) := dk_7 (dk_at dksX2_shelter_1 21 rfl rfl)
theorem dX2_shelter_46 : decode cX2_shelter 46 = .ok (.invokestatic 47, 3) := dk_184 0 47 (dk_at dksX2_shelter_2 0 rfl rfl)
theorem dX2_shelter_49 : decode cX2_shelter 49 = .ok (.iload_n 2, 1) := dk_28 (dk_at dksX2_shelter_2 3 rfl rfl)
theorem dX2_shelter_50 : decode cX2_shelter 50 = .ok (.ifCond .eq 7, 3) := dk_153 0 7 (dk_at dksX2_shelter_2 4 rfl rfl)
theorem dX2_shelter_53 : decode cX2_shelter 53 = .ok (.iconst 0, 1) := dk_3 (dk_at dksX2_shelter_2 7 rfl rfl)
theorem dX2_shelter_54 : decode cX2_shelter 54 = .ok (.goto 4, 3) := dk_167 0 4 (dk_at dksX2_shelter_2 8 rfl rfl)
theorem dX2_shelter_57 : decode cX2_shelter 57 = .ok (.iconst 1, 1) := dk_4 (dk_at dksX2_shelter_2 11 rfl rfl)
theorem dX2_shelter_58 : decode cX2_shelter 58 = .ok (.invokevirtual 166, 3) := dk_182 0 166 (dk_at dksX2_shelter_2 12 rfl rfl)
theorem dX2_shelter_61 : decode cX2_shelter 61 = .ok (.istore_n 3, 1) := dk_62 (dk_at dksX2_shelter_2 15 rfl rfl)
theorem dX2_shelter_62 : decode cX2_shelter 62 = .ok (.iload_n 2, 1) := dk_28 (dk_at dksX2_shelter_2 16 rfl rfl)
theorem dX2_shelter_63 : decode cX2_shelter 63 = .ok (.ifCond .eq 7, 3) := dk_153 0 7 (dk_at dksX2_shelter_2 17 rfl rfl)
theorem dX2_shelter_66 : decode cX2_shelter 66 = .ok (.iconst 0, 1) := dk_3 (dk_at dksX2_shelter_2 20 rfl rfl)
theorem dX2_shelter_67 : decode cX2_shelter 67 = .ok (.goto 4, 3) := dk_167 0 4 (dk_at dksX2_shelter_2 21 rfl rfl)
theorem dX2_shelter_70 : decode cX2_shelter 70 = .ok (.iconst 1, 1) := dk_4 (dk_at dksX2_shelter_3 0 rfl rfl)
theorem dX2_shelter_71 : decode cX2_shelter 71 = .ok (.ireturn, 1) := dk_172 (dk_at dksX2_shelter_3 1 rfl rfl)
abbrev cX2_order : ByteArray := prog_8_method_47_code
def yX2_order : MethodName := ⟨RX2, "order", "(III)I"⟩
def dkwX2_order_0 : List UInt8 := [42, 16, 111, 27, 28, 29, 3, 182, 0, 169, 172]
abbrev dktX2_order_0 : List UInt8 := dkwX2_order_0 ++ []
theorem dksX2_order_0 : cX2_order.data.toList.drop 0 = dktX2_order_0 := by decide +kernel
theorem dX2_order_0 : decode cX2_order 0 = .ok (.aload_n 0, 1) := dk_42 (dk_at dksX2_order_0 0 rfl rfl)
theorem dX2_order_1 : decode cX2_order 1 = .ok (.bipush 111, 2) := dk_16 111 (dk_at dksX2_order_0 1 rfl rfl)
theorem dX2_order_3 : decode cX2_order 3 = .ok (.iload_n 1, 1) := dk_27 (dk_at dksX2_order_0 3 rfl rfl)
theorem dX2_order_4 : decode cX2_order 4 = .ok (.iload_n 2, 1) := dk_28 (dk_at dksX2_order_0 4 rfl rfl)
theorem dX2_order_5 : decode cX2_order 5 = .ok (.iload_n 3, 1) := dk_29 (dk_at dksX2_order_0 5 rfl rfl)
theorem dX2_order_6 : decode cX2_order 6 = .ok (.iconst 0, 1) := dk_3 (dk_at dksX2_order_0 6 rfl rfl)
theorem dX2_order_7 : decode cX2_order 7 = .ok (.invokevirtual 169, 3) := dk_182 0 169 (dk_at dksX2_order_0 7 rfl rfl)
theorem dX2_order_10 : decode cX2_order 10 = .ok (.ireturn, 1) := dk_172 (dk_at dksX2_order_0 10 rfl rfl)
abbrev cX2_give : ByteArray := prog_8_method_48_code
def yX2_give : MethodName := ⟨RX2, "give", "(II)I"⟩
def dkwX2_give_0 : List UInt8 := [42, 16, 103, 27, 28, 3, 3, 182, 0, 169, 172]
abbrev dktX2_give_0 : List UInt8 := dkwX2_give_0 ++ []
theorem dksX2_give_0 : cX2_give.data.toList.drop 0 = dktX2_give_0 := by decide +kernel
theorem dX2_give_0 : decode cX2_give 0 = .ok (.aload_n 0, 1) := dk_42 (dk_at dksX2_give_0 0 rfl rfl)
theorem dX2_give_1 : decode cX2_give 1 = .ok (.bipush 103, 2) := dk_16 103 (dk_at dksX2_give_0 1 rfl rfl)
theorem dX2_give_3 : decode cX2_give 3 = .ok (.iload_n 1, 1) := dk_27 (dk_at dksX2_give_0 3 rfl rfl)
theorem dX2_give_4 : decode cX2_give 4 = .ok (.iload_n 2, 1) := dk_28 (dk_at dksX2_give_0 4 rfl rfl)
theorem dX2_give_5 : decode cX2_give 5 = .ok (.iconst 0, 1) := dk_3 (dk_at dksX2_give_0 5 rfl rfl)
theorem dX2_give_6 : decode cX2_give 6 = .ok (.iconst 0, 1) := dk_3 (dk_at dksX2_give_0 6 rfl rfl)
theorem dX2_give_7 : decode cX2_give 7 = .ok (.invokevirtual 169, 3) := dk_182 0 169 (dk_at dksX2_give_0 7 rfl rfl)
theorem dX2_give_10 : decode cX2_give 10 = .ok (.ireturn, 1) := dk_172 (dk_at dksX2_give_0 10 rfl rfl)
abbrev cX2_takeBack : ByteArray := prog_8_method_49_code
def yX2_takeBack : MethodName := ⟨RX2, "takeBack", "(I)I"⟩
def dkwX2_takeBack_3 : List UInt8 := [16, 250, 79, 29, 172]
abbrev dktX2_takeBack_3 : List UInt8 := dkwX2_takeBack_3 ++ []
def dkwX2_takeBack_2 : List UInt8 := [62, 42, 180, 0, 7, 27, 7, 184, 0, 66, 16, 250, 79, 42, 180, 0, 7, 29, 16, 7, 184, 0, 47]
abbrev dktX2_takeBack_2 : List UInt8 := dkwX2_takeBack_2 ++ dktX2_takeBack_3
def dkwX2_takeBack_1 : List UInt8 := [16, 251, 172, 42, 27, 6, 184, 0, 66, 3, 182, 0, 166, 61, 42, 180, 0, 7, 27, 7, 184, 0, 66, 46]
abbrev dktX2_takeBack_1 : List UInt8 := dkwX2_takeBack_1 ++ dktX2_takeBack_2
def dkwX2_takeBack_0 : List UInt8 := [42, 27, 182, 0, 116, 154, 0, 5, 2, 172, 42, 180, 0, 7, 27, 6, 184, 0, 66, 46, 4, 159, 0, 6]
abbrev dktX2_takeBack_0 : List UInt8 := dkwX2_takeBack_0 ++ dktX2_takeBack_1
theorem dksX2_takeBack_0 : cX2_takeBack.data.toList.drop 0 = dktX2_takeBack_0 := by decide +kernel
theorem dksX2_takeBack_1 : cX2_takeBack.data.toList.drop 24 = dktX2_takeBack_1 := dk_seg dksX2_takeBack_0 24 rfl rfl
theorem dksX2_takeBack_2 : cX2_takeBack.data.toList.drop 48 = dktX2_takeBack_2 := dk_seg dksX2_takeBack_1 24 rfl rfl
theorem dksX2_takeBack_3 : cX2_takeBack.data.toList.drop 71 = dktX2_takeBack_3 := dk_seg dksX2_takeBack_2 23 rfl rfl
theorem dX2_takeBack_0 : decode cX2_takeBack 0 = .ok (.aload_n 0, 1) := dk_42 (dk_at dksX2_takeBack_0 0 rfl rfl)
theorem dX2_takeBack_1 : decode cX2_takeBack 1 = .ok (.iload_n 1, 1) := dk_27 (dk_at dksX2_takeBack_0 1 rfl rfl)
theorem dX2_takeBack_2 : decode cX2_takeBack 2 = .ok (.invokevirtual 116, 3) := dk_182 0 116 (dk_at dksX2_takeBack_0 2 rfl rfl)
theorem dX2_takeBack_5 : decode cX2_takeBack 5 = .ok (.ifCond .ne 5, 3) := dk_154 0 5 (dk_at dksX2_takeBack_0 5 rfl rfl)
theorem dX2_takeBack_8 : decode cX2_takeBack 8 = .ok (.iconst (-1), 1) := dk_2 (dk_at dksX2_takeBack_0 8 rfl rfl)
theorem dX2_takeBack_9 : decode cX2_takeBack 9 = .ok (.ireturn, 1) := dk_172 (dk_at dksX2_takeBack_0 9 rfl rfl)
theorem dX2_takeBack_10 : decode cX2_takeBack 10 = .ok (.aload_n 0, 1) := dk_42 (dk_at dksX2_takeBack_0 10 rfl rfl)
theorem dX2_takeBack_11 : decode cX2_takeBack 11 = .ok (.getfield 7, 3) := dk_180 0 7 (dk_at dksX2_takeBack_0 11 rfl rfl)
theorem dX2_takeBack_14 : decode cX2_takeBack 14 = .ok (.iload_n 1, 1) := dk_27 (dk_at dksX2_takeBack_0 14 rfl rfl)
theorem dX2_takeBack_15 : decode cX2_takeBack 15 = .ok (.iconst 3, 1) := dk_6 (dk_at dksX2_takeBack_0 15 rfl rfl)
theorem dX2_takeBack_16 : decode cX2_takeBack 16 = .ok (.invokestatic 66, 3) := dk_184 0 66 (dk_at dksX2_takeBack_0 16 rfl rfl)
theorem dX2_takeBack_19 : decode cX2_takeBack 19 = .ok (.iaload, 1) := dk_46 (dk_at dksX2_takeBack_0 19 rfl rfl)
theorem dX2_takeBack_20 : decode cX2_takeBack 20 = .ok (.iconst 1, 1) := dk_4 (dk_at dksX2_takeBack_0 20 rfl rfl)
theorem dX2_takeBack_21 : decode cX2_takeBack 21 = .ok (.if_icmp .eq 6, 3) := dk_159 0 6 (dk_at dksX2_takeBack_0 21 rfl rfl)
theorem dX2_takeBack_24 : decode cX2_takeBack 24 = .ok (.bipush (-5), 2) := dk_16 251 (dk_at dksX2_takeBack_1 0 rfl rfl)
theorem dX2_takeBack_26 : decode cX2_takeBack 26 = .ok (.ireturn, 1) := dk_172 (dk_at dksX2_takeBack_1 2 rfl rfl)
theorem dX2_takeBack_27 : decode cX2_takeBack 27 = .ok (.aload_n 0, 1) := dk_42 (dk_at dksX2_takeBack_1 3 rfl rfl)
theorem dX2_takeBack_28 : decode cX2_takeBack 28 = .ok (.iload_n 1, 1) := dk_27 (dk_at dksX2_takeBack_1 4 rfl rfl)
theorem dX2_takeBack_29 : decode cX2_takeBack 29 = .ok (.iconst 3, 1) := dk_6 (dk_at dksX2_takeBack_1 5 rfl rfl)
theorem dX2_takeBack_30 : decode cX2_takeBack 30 = .ok (.invokestatic 66, 3) := dk_184 0 66 (dk_at dksX2_takeBack_1 6 rfl rfl)
theorem dX2_takeBack_33 : decode cX2_takeBack 33 = .ok (.iconst 0, 1) := dk_3 (dk_at dksX2_takeBack_1 9 rfl rfl)
theorem dX2_takeBack_34 : decode cX2_takeBack 34 = .ok (.invokevirtual 166, 3) := dk_182 0 166 (dk_at dksX2_takeBack_1 10 rfl rfl)
theorem dX2_takeBack_37 : decode cX2_takeBack 37 = .ok (.istore_n 2, 1) := dk_61 (dk_at dksX2_takeBack_1 13 rfl rfl)
theorem dX2_takeBack_38 : decode cX2_takeBack 38 = .ok (.aload_n 0, 1) := dk_42 (dk_at dksX2_takeBack_1 14 rfl rfl)
theorem dX2_takeBack_39 : decode cX2_takeBack 39 = .ok (.getfield 7, 3) := dk_180 0 7 (dk_at dksX2_takeBack_1 15 rfl rfl)
theorem dX2_takeBack_42 : decode cX2_takeBack 42 = .ok (.iload_n 1, 1) := dk_27 (dk_at dksX2_takeBack_1 18 rfl rfl)
theorem dX2_takeBack_43 : decode cX2_takeBack 43 = .ok (.iconst 4, 1) := dk_7 (dk_at dksX2_takeBack_1 19 rfl rfl)
theorem dX2_takeBack_44 : decode cX2_takeBack 44 = .ok (.invokestatic 66, 3) := dk_184 0 66 (dk_at dksX2_takeBack_1 20 rfl rfl)
theorem dX2_takeBack_47 : decode cX2_takeBack 47 = .ok (.iaload, 1) := dk_46 (dk_at dksX2_takeBack_1 23 rfl rfl)
theorem dX2_takeBack_48 : decode cX2_takeBack 48 = .ok (.istore_n 3, 1) := dk_62 (dk_at dksX2_takeBack_2 0 rfl rfl)
theorem dX2_takeBack_49 : decode cX2_takeBack 49 = .ok (.aload_n 0, 1) := dk_42 (dk_at dksX2_takeBack_2 1 rfl rfl)
theorem dX2_takeBack_50 : decode cX2_takeBack 50 = .ok (.getfield 7, 3) := dk_180 0 7 (dk_at dksX2_takeBack_2 2 rfl rfl)
theorem dX2_takeBack_53 : decode cX2_takeBack 53 = .ok (.iload_n 1, 1) := dk_27 (dk_at dksX2_takeBack_2 5 rfl rfl)
theorem dX2_takeBack_54 : decode cX2_takeBack 54 = .ok (.iconst 4, 1) := dk_7 (dk_at dksX2_takeBack_2 6 rfl rfl)
theorem dX2_takeBack_55 : decode cX2_takeBack 55 = .ok (.invokestatic 66, 3) := dk_184 0 66 (dk_at dksX2_takeBack_2 7 rfl rfl)
theorem dX2_takeBack_58 : decode cX2_takeBack 58 = .ok (.bipush (-6), 2) := dk_16 250 (dk_at dksX2_takeBack_2 10 rfl rfl)
theorem dX2_takeBack_60 : decode cX2_takeBack 60 = .ok (.iastore, 1) := dk_79 (dk_at dksX2_takeBack_2 12 rfl rfl)
theorem dX2_takeBack_61 : decode cX2_takeBack 61 = .ok (.aload_n 0, 1) := dk_42 (dk_at dksX2_takeBack_2 13 rfl rfl)
theorem dX2_takeBack_62 : decode cX2_takeBack 62 = .ok (.getfield 7, 3) := dk_180 0 7 (dk_at dksX2_takeBack_2 14 rfl rfl)
theorem dX2_takeBack_65 : decode cX2_takeBack 65 = .ok (.iload_n 3, 1) := dk_29 (dk_at dksX2_takeBack_2 17 rfl rfl)
theorem dX2_takeBack_66 : decode cX2_takeBack 66 = .ok (.bipush 7, 2) := dk_16 7 (dk_at dksX2_takeBack_2 18 rfl rfl)
theorem dX2_takeBack_68 : decode cX2_takeBack 68 = .ok (.invokestatic 47, 3) := dk_184 0 47 (dk_at dksX2_takeBack_2 20 rfl rfl)
theorem dX2_takeBack_71 : decode cX2_takeBack 71 = .ok (.bipush (-6), 2) := dk_16 250 (dk_at dksX2_takeBack_3 0 rfl rfl)
theorem dX2_takeBack_73 : decode cX2_takeBack 73 = .ok (.iastore, 1) := dk_79 (dk_at dksX2_takeBack_3 2 rfl rfl)
theorem dX2_takeBack_74 : decode cX2_takeBack 74 = .ok (.iload_n 3, 1) := dk_29 (dk_at dksX2_takeBack_3 3 rfl rfl)
theorem dX2_takeBack_75 : decode cX2_takeBack 75 = .ok (.ireturn, 1) := dk_172 (dk_at dksX2_takeBack_3 4 rfl rfl)
abbrev cX2_limits : ByteArray := prog_8_method_50_code
def yX2_limits : MethodName := ⟨RX2, "limits", "(IIII)I"⟩
def dkwX2_limits_3 : List UInt8 := [42, 180, 0, 7, 27, 5, 184, 0, 35, 21, 4, 79, 4, 172]
abbrev dktX2_limits_3 : List UInt8 := dkwX2_limits_3 ++ []
def dkwX2_limits_2 : List UInt8 := [172, 42, 27, 3, 184, 0, 35, 28, 182, 0, 166, 54, 5, 42, 180, 0, 7, 27, 4, 184, 0, 35, 29, 79]
abbrev dktX2_limits_2 : List UInt8 := dkwX2_limits_2 ++ dktX2_limits_3
def dkwX2_limits_1 : List UInt8 := [17, 117, 48, 184, 0, 39, 153, 0, 16, 21, 4, 16, 100, 17, 117, 48, 184, 0, 39, 154, 0, 6, 16, 254]
abbrev dktX2_limits_1 : List UInt8 := dkwX2_limits_1 ++ dktX2_limits_2
def dkwX2_limits_0 : List UInt8 := [27, 184, 0, 122, 154, 0, 5, 2, 172, 28, 16, 100, 17, 117, 48, 184, 0, 39, 153, 0, 28, 29, 16, 100]
abbrev dktX2_limits_0 : List UInt8 := dkwX2_limits_0 ++ dktX2_limits_1
theorem dksX2_limits_0 : cX2_limits.data.toList.drop 0 = dktX2_limits_0 := by decide +kernel
theorem dksX2_limits_1 : cX2_limits.data.toList.drop 24 = dktX2_limits_1 := dk_seg dksX2_limits_0 24 rfl rfl
theorem dksX2_limits_2 : cX2_limits.data.toList.drop 48 = dktX2_limits_2 := dk_seg dksX2_limits_1 24 rfl rfl
theorem dksX2_limits_3 : cX2_limits.data.toList.drop 72 = dktX2_limits_3 := dk_seg dksX2_limits_2 24 rfl rfl
theorem dX2_limits_0 : decode cX2_limits 0 = .ok (.iload_n 1, 1) := dk_27 (dk_at dksX2_limits_0 0 rfl rfl)
theorem dX2_limits_1 : decode cX2_limits 1 = .ok (.invokestatic 122, 3) := dk_184 0 122 (dk_at dksX2_limits_0 1 rfl rfl)
theorem dX2_limits_4 : decode cX2_limits 4 = .ok (.ifCond .ne 5, 3) := dk_154 0 5 (dk_at dksX2_limits_0 4 rfl rfl)
theorem dX2_limits_7 : decode cX2_limits 7 = .ok (.iconst (-1), 1) := dk_2 (dk_at dksX2_limits_0 7 rfl rfl)
theorem dX2_limits_8 : decode cX2_limits 8 = .ok (.ireturn, 1) := dk_172 (dk_at dksX2_limits_0 8 rfl rfl)
theorem dX2_limits_9 : decode cX2_limits 9 = .ok (.iload_n 2, 1) := dk_28 (dk_at dksX2_limits_0 9 rfl rfl)
theorem dX2_limits_10 : decode cX2_limits 10 = .ok (.bipush 100, 2) := dk_16 100 (dk_at dksX2_limits_0 10 rfl rfl)
theorem dX2_limits_12 : decode cX2_limits 12 = .ok (.sipush 30000, 3) := dk_17 117 48 (dk_at dksX2_limits_0 12 rfl rfl)
theorem dX2_limits_15 : decode cX2_limits 15 = .ok (.invokestatic 39, 3) := dk_184 0 39 (dk_at dksX2_limits_0 15 rfl rfl)
theorem dX2_limits_18 : decode cX2_limits 18 = .ok (.ifCond .eq 28, 3) := dk_153 0 28 (dk_at dksX2_limits_0 18 rfl rfl)
theorem dX2_limits_21 : decode cX2_limits 21 = .ok (.iload_n 3, 1) := dk_29 (dk_at dksX2_limits_0 21 rfl rfl)
theorem dX2_limits_22 : decode cX2_limits 22 = .ok (.bipush 100, 2) := dk_16 100 (dk_at dksX2_limits_0 22 rfl rfl)
theorem dX2_limits_24 : decode cX2_limits 24 = .ok (.sipush 30000, 3) := dk_17 117 48 (dk_at dksX2_limits_1 0 rfl rfl)
theorem dX2_limits_27 : decode cX2_limits 27 = .ok (.invokestatic 39, 3) := dk_184 0 39 (dk_at dksX2_limits_1 3 rfl rfl)
theorem dX2_limits_30 : decode cX2_limits 30 = .ok (.ifCond .eq 16, 3) := dk_153 0 16 (dk_at dksX2_limits_1 6 rfl rfl)
theorem dX2_limits_33 : decode cX2_limits 33 = .ok (.iload 4, 2) := dk_21 4 (dk_at dksX2_limits_1 9 rfl rfl)
theorem dX2_limits_35 : decode cX2_limits 35 = .ok (.bipush 100, 2) := dk_16 100 (dk_at dksX2_limits_1 11 rfl rfl)
theorem dX2_limits_37 : decode cX2_limits 37 = .ok (.sipush 30000, 3) := dk_17 117 48 (dk_at dksX2_limits_1 13 rfl rfl)
theorem dX2_limits_40 : decode cX2_limits 40 = .ok (.invokestatic 39, 3) := dk_184 0 39 (dk_at dksX2_limits_1 16 rfl rfl)
theorem dX2_limits_43 : decode cX2_limits 43 = .ok (.ifCond .ne 6, 3) := dk_154 0 6 (dk_at dksX2_limits_1 19 rfl rfl)
theorem dX2_limits_46 : decode cX2_limits 46 = .ok (.bipush (-2), 2) := dk_16 254 (dk_at dksX2_limits_1 22 rfl rfl)
theorem dX2_limits_48 : decode cX2_limits 48 = .ok (.ireturn, 1) := dk_172 (dk_at dksX2_limits_2 0 rfl rfl)
theorem dX2_limits_49 : decode cX2_limits 49 = .ok (.aload_n 0, 1) := dk_42 (dk_at dksX2_limits_2 1 rfl rfl)
theorem dX2_limits_50 : decode cX2_limits 50 = .ok (.iload_n 1, 1) := dk_27 (dk_at dksX2_limits_2 2 rfl rfl)
theorem dX2_limits_51 : decode cX2_limits 51 = .ok (.iconst 0, 1) := dk_3 (dk_at dksX2_limits_2 3 rfl rfl)
theorem dX2_limits_52 : decode cX2_limits 52 = .ok (.invokestatic 35, 3) := dk_184 0 35 (dk_at dksX2_limits_2 4 rfl rfl)
theorem dX2_limits_55 : decode cX2_limits 55 = .ok (.iload_n 2, 1) := dk_28 (dk_at dksX2_limits_2 7 rfl rfl)
theorem dX2_limits_56 : decode cX2_limits 56 = .ok (.invokevirtual 166, 3) := dk_182 0 166 (dk_at dksX2_limits_2 8 rfl rfl)
theorem dX2_limits_59 : decode cX2_limits 59 = .ok (.istore 5, 2) := dk_54 5 (dk_at dksX2_limits_2 11 rfl rfl)
theorem dX2_limits_61 : decode cX2_limits 61 = .ok (.aload_n 0, 1) := dk_42 (dk_at dksX2_limits_2 13 rfl rfl)
theorem dX2_limits_62 : decode cX2_limits 62 = .ok (.getfield 7, 3) := dk_180 0 7 (dk_at dksX2_limits_2 14 rfl rfl)
theorem dX2_limits_65 : decode cX2_limits 65 = .ok (.iload_n 1, 1) := dk_27 (dk_at dksX2_limits_2 17 rfl rfl)
theorem dX2_limits_66 : decode cX2_limits 66 = .ok (.iconst 1, 1) := dk_4 (dk_at dksX2_limits_2 18 rfl rfl)
theorem dX2_limits_67 : decode cX2_limits 67 = .ok (.invokestatic 35, 3) := dk_184 0 35 (dk_at dksX2_limits_2 19 rfl rfl)
theorem dX2_limits_70 : decode cX2_limits 70 = .ok (.iload_n 3, 1) := dk_29 (dk_at dksX2_limits_2 22 rfl rfl)
theorem dX2_limits_71 : decode cX2_limits 71 = .ok (.iastore, 1) := dk_79 (dk_at dksX2_limits_2 23 rfl rfl)
theorem dX2_limits_72 : decode cX2_limits 72 = .ok (.aload_n 0, 1) := dk_42 (dk_at dksX2_limits_3 0 rfl rfl)
theorem dX2_limits_73 : decode cX2_limits 73 = .ok (.getfield 7, 3) := dk_180 0 7 (dk_at dksX2_limits_3 1 rfl rfl)
theorem dX2_limits_76 : decode cX2_limits 76 = .ok (.iload_n 1, 1) := dk_27 (dk_at dksX2_limits_3 4 rfl rfl)
theorem dX2_limits_77 : decode cX2_limits 77 = .ok (.iconst 2, 1) := dk_5 (dk_at dksX2_limits_3 5 rfl rfl)
theorem dX2_limits_78 : decode cX2_limits 78 = .ok (.invokestatic 35, 3) := dk_184 0 35 (dk_at dksX2_limits_3 6 rfl rfl)
theorem dX2_limits_81 : decode cX2_limits 81 = .ok (.iload 4, 2) := dk_21 4 (dk_at dksX2_limits_3 9 rfl rfl)
theorem dX2_limits_83 : decode cX2_limits 83 = .ok (.iastore, 1) := dk_79 (dk_at dksX2_limits_3 11 rfl rfl)
theorem dX2_limits_84 : decode cX2_limits 84 = .ok (.iconst 1, 1) := dk_4 (dk_at dksX2_limits_3 12 rfl rfl)
theorem dX2_limits_85 : decode cX2_limits 85 = .ok (.ireturn, 1) := dk_172 (dk_at dksX2_limits_3 13 rfl rfl)
abbrev cX2_load : ByteArray := prog_8_method_51_code
def yX2_load : MethodName := ⟨RX2, "load", "(III)I"⟩
def dkwX2_load_0 : List UInt8 := [42, 16, 108, 27, 28, 29, 3, 182, 0, 169, 172]
abbrev dktX2_load_0 : List UInt8 := dkwX2_load_0 ++ []
theorem dksX2_load_0 : cX2_load.data.toList.drop 0 = dktX2_load_0 := by decide +kernel
theorem dX2_load_0 : decode cX2_load 0 = .ok (.aload_n 0, 1) := dk_42 (dk_at dksX2_load_0 0 rfl rfl)
theorem dX2_load_1 : decode cX2_load 1 = .ok (.bipush 108, 2) := dk_16 108 (dk_at dksX2_load_0 1 rfl rfl)
theorem dX2_load_3 : decode cX2_load 3 = .ok (.iload_n 1, 1) := dk_27 (dk_at dksX2_load_0 3 rfl rfl)
theorem dX2_load_4 : decode cX2_load 4 = .ok (.iload_n 2, 1) := dk_28 (dk_at dksX2_load_0 4 rfl rfl)
theorem dX2_load_5 : decode cX2_load 5 = .ok (.iload_n 3, 1) := dk_29 (dk_at dksX2_load_0 5 rfl rfl)
theorem dX2_load_6 : decode cX2_load 6 = .ok (.iconst 0, 1) := dk_3 (dk_at dksX2_load_0 6 rfl rfl)
theorem dX2_load_7 : decode cX2_load 7 = .ok (.invokevirtual 169, 3) := dk_182 0 169 (dk_at dksX2_load_0 7 rfl rfl)
theorem dX2_load_10 : decode cX2_load 10 = .ok (.ireturn, 1) := dk_172 (dk_at dksX2_load_0 10 rfl rfl)
abbrev cX2_unload : ByteArray := prog_8_method_52_code
def yX2_unload : MethodName := ⟨RX2, "unload", "(I)I"⟩
def dkwX2_unload_2 : List UInt8 := [8, 108, 182, 0, 90, 172]
abbrev dktX2_unload_2 : List UInt8 := dkwX2_unload_2 ++ []
def dkwX2_unload_1 : List UInt8 := [16, 8, 184, 0, 47, 16, 250, 182, 0, 166, 61, 42, 180, 0, 7, 27, 7, 184, 0, 47, 3, 79, 42, 28]
abbrev dktX2_unload_1 : List UInt8 := dkwX2_unload_1 ++ dktX2_unload_2
def dkwX2_unload_0 : List UInt8 := [42, 27, 182, 0, 103, 154, 0, 5, 2, 172, 42, 27, 5, 182, 0, 50, 154, 0, 6, 16, 251, 172, 42, 27]
abbrev dktX2_unload_0 : List UInt8 := dkwX2_unload_0 ++ dktX2_unload_1
theorem dksX2_unload_0 : cX2_unload.data.toList.drop 0 = dktX2_unload_0 := by decide +kernel
theorem dksX2_unload_1 : cX2_unload.data.toList.drop 24 = dktX2_unload_1 := dk_seg dksX2_unload_0 24 rfl rfl
theorem dksX2_unload_2 : cX2_unload.data.toList.drop 48 = dktX2_unload_2 := dk_seg dksX2_unload_1 24 rfl rfl
theorem dX2_unload_0 : decode cX2_unload 0 = .ok (.aload_n 0, 1) := dk_42 (dk_at dksX2_unload_0 0 rfl rfl)
theorem dX2_unload_1 : decode cX2_unload 1 = .ok (.iload_n 1, 1) := dk_27 (dk_at dksX2_unload_0 1 rfl rfl)
theorem dX2_unload_2 : decode cX2_unload 2 = .ok (.invokevirtual 103, 3) := dk_182 0 103 (dk_at dksX2_unload_0 2 rfl rfl)
theorem dX2_unload_5 : decode cX2_unload 5 = .ok (.ifCond .ne 5, 3) := dk_154 0 5 (dk_at dksX2_unload_0 5 rfl rfl)
theorem dX2_unload_8 : decode cX2_unload 8 = .ok (.iconst (-1), 1) := dk_2 (dk_at dksX2_unload_0 8 rfl rfl)
theorem dX2_unload_9 : decode cX2_unload 9 = .ok (.ireturn, 1) := dk_172 (dk_at dksX2_unload_0 9 rfl rfl)
theorem dX2_unload_10 : decode cX2_unload 10 = .ok (.aload_n 0, 1) := dk_42 (dk_at dksX2_unload_0 10 rfl rfl)
theorem dX2_unload_11 : decode cX2_unload 11 = .ok (.iload_n 1, 1) := dk_27 (dk_at dksX2_unload_0 11 rfl rfl)
theorem dX2_unload_12 : decode cX2_unload 12 = .ok (.iconst 2, 1) := dk_5 (dk_at dksX2_unload_0 12 rfl rfl)
theorem dX2_unload_13 : decode cX2_unload 13 = .ok (.invokevirtual 50, 3) := dk_182 0 50 (dk_at dksX2_unload_0 13 rfl rfl)
theorem dX2_unload_16 : decode cX2_unload 16 = .ok (.ifCond .ne 6, 3) := dk_154 0 6 (dk_at dksX2_unload_0 16 rfl rfl)
theorem dX2_unload_19 : decode cX2_unload 19 = .ok (.bipush (-5), 2) := dk_16 251 (dk_at dksX2_unload_0 19 rfl rfl)
theorem dX2_unload_21 : decode cX2_unload 21 = .ok (.ireturn, 1) := dk_172 (dk_at dksX2_unload_0 21 rfl rfl)
theorem dX2_unload_22 : decode cX2_unload 22 = .ok (.aload_n 0, 1) := dk_42 (dk_at dksX2_unload_0 22 rfl rfl)
theorem dX2_unload_23 : decode cX2_unload 23 = .ok (.iload_n 1, 1) := dk_27 (dk_at dksX2_unload_0 23 rfl rfl)
theorem dX2_unload_24 : decode cX2_unload 24 = .ok (.bipush 8, 2) := dk_16 8 (dk_at dksX2_unload_1 0 rfl rfl)
theorem dX2_unload_26 : decode cX2_unload 26 = .ok (.invokestatic 47, 3) := dk_184 0 47 (dk_at dksX2_unload_1 2 rfl rfl)
theorem dX2_unload_29 : decode cX2_unload 29 = .ok (.bipush (-6), 2) := dk_16 250 (dk_at dksX2_unload_1 5 rfl rfl)
theorem dX2_unload_31 : decode cX2_unload 31 = .ok (.invokevirtual 166, 3) := dk_182 0 166 (dk_at dksX2_unload_1 7 rfl rfl)
theorem dX2_unload_34 : decode cX2_unload 34 = .ok (.istore_n 2, 1) := dk_61 (dk_at dksX2_unload_1 10 rfl rfl)
theorem dX2_unload_35 : decode cX2_unload 35 = .ok (.aload_n 0, 1) := dk_42 (dk_at dksX2_unload_1 11 rfl rfl)
theorem dX2_unload_36 : decode cX2_unload 36 = .ok (.getfield 7, 3) := dk_180 0 7 (dk_at dksX2_unload_1 12 rfl rfl)
theorem dX2_unload_39 : decode cX2_unload 39 = .ok (.iload_n 1, 1) := dk_27 (dk_at dksX2_unload_1 15 rfl rfl)
theorem dX2_unload_40 : decode cX2_unload 40 = .ok (.iconst 4, 1) := dk_7 (dk_at dksX2_unload_1 16 rfl rfl)
theorem dX2_unload_41 : decode cX2_unload 41 = .ok (.invokestatic 47, 3) := dk_184 0 47 (dk_at dksX2_unload_1 17 rfl rfl)
theorem dX2_unload_44 : decode cX2_unload 44 = .ok (.iconst 0, 1) := dk_3 (dk_at dksX2_unload_1 20 rfl rfl)
theorem dX2_unload_45 : decode cX2_unload 45 = .ok (.iastore, 1) := dk_79 (dk_at dksX2_unload_1 21 rfl rfl)
theorem dX2_unload_46 : decode cX2_unload 46 = .ok (.aload_n 0, 1) := dk_42 (dk_at dksX2_unload_1 22 rfl rfl)
theorem dX2_unload_47 : decode cX2_unload 47 = .ok (.iload_n 2, 1) := dk_28 (dk_at dksX2_unload_1 23 rfl rfl)
theorem dX2_unload_48 : decode cX2_unload 48 = .ok (.iconst 5, 1) := dk_8 (dk_at dksX2_unload_2 0 rfl rfl)
theorem dX2_unload_49 : decode cX2_unload 49 = .ok (.idiv, 1) := dk_108 (dk_at dksX2_unload_2 1 rfl rfl)
theorem dX2_unload_50 : decode cX2_unload 50 = .ok (.invokevirtual 90, 3) := dk_182 0 90 (dk_at dksX2_unload_2 2 rfl rfl)
theorem dX2_unload_53 : decode cX2_unload 53 = .ok (.ireturn, 1) := dk_172 (dk_at dksX2_unload_2 5 rfl rfl)
abbrev cX2_leave : ByteArray := prog_8_method_53_code
def yX2_leave : MethodName := ⟨RX2, "leave", "(I)I"⟩
def dkwX2_leave_0 : List UInt8 := [42, 16, 100, 27, 3, 3, 3, 182, 0, 169, 172]
abbrev dktX2_leave_0 : List UInt8 := dkwX2_leave_0 ++ []
theorem dksX2_leave_0 : cX2_leave.data.toList.drop 0 = dktX2_leave_0 := by decide +kernel
theorem dX2_leave_0 : decode cX2_leave 0 = .ok (.aload_n 0, 1) := dk_42 (dk_at dksX2_leave_0 0 rfl rfl)
theorem dX2_leave_1 : decode cX2_leave 1 = .ok (.bipush 100, 2) := dk_16 100 (dk_at dksX2_leave_0 1 rfl rfl)
theorem dX2_leave_3 : decode cX2_leave 3 = .ok (.iload_n 1, 1) := dk_27 (dk_at dksX2_leave_0 3 rfl rfl)
theorem dX2_leave_4 : decode cX2_leave 4 = .ok (.iconst 0, 1) := dk_3 (dk_at dksX2_leave_0 4 rfl rfl)
theorem dX2_leave_5 : decode cX2_leave 5 = .ok (.iconst 0, 1) := dk_3 (dk_at dksX2_leave_0 5 rfl rfl)
theorem dX2_leave_6 : decode cX2_leave 6 = .ok (.iconst 0, 1) := dk_3 (dk_at dksX2_leave_0 6 rfl rfl)
theorem dX2_leave_7 : decode cX2_leave 7 = .ok (.invokevirtual 169, 3) := dk_182 0 169 (dk_at dksX2_leave_0 7 rfl rfl)
theorem dX2_leave_10 : decode cX2_leave 10 = .ok (.ireturn, 1) := dk_172 (dk_at dksX2_leave_0 10 rfl rfl)
abbrev cX2_night : ByteArray := prog_8_method_54_code
def yX2_night : MethodName := ⟨RX2, "night", "(I)I"⟩
def dkwX2_night_0 : List UInt8 := [42, 16, 110, 27, 3, 3, 3, 182, 0, 169, 172]
abbrev dktX2_night_0 : List UInt8 := dkwX2_night_0 ++ []
theorem dksX2_night_0 : cX2_night.data.toList.drop 0 = dktX2_night_0 := by decide +kernel
theorem dX2_night_0 : decode cX2_night 0 = .ok (.aload_n 0, 1) := dk_42 (dk_at dksX2_night_0 0 rfl rfl)
theorem dX2_night_1 : decode cX2_night 1 = .ok (.bipush 110, 2) := dk_16 110 (dk_at dksX2_night_0 1 rfl rfl)
theorem dX2_night_3 : decode cX2_night 3 = .ok (.iload_n 1, 1) := dk_27 (dk_at dksX2_night_0 3 rfl rfl)
theorem dX2_night_4 : decode cX2_night 4 = .ok (.iconst 0, 1) := dk_3 (dk_at dksX2_night_0 4 rfl rfl)
theorem dX2_night_5 : decode cX2_night 5 = .ok (.iconst 0, 1) := dk_3 (dk_at dksX2_night_0 5 rfl rfl)
theorem dX2_night_6 : decode cX2_night 6 = .ok (.iconst 0, 1) := dk_3 (dk_at dksX2_night_0 6 rfl rfl)
theorem dX2_night_7 : decode cX2_night 7 = .ok (.invokevirtual 169, 3) := dk_182 0 169 (dk_at dksX2_night_0 7 rfl rfl)
theorem dX2_night_10 : decode cX2_night 10 = .ok (.ireturn, 1) := dk_172 (dk_at dksX2_night_0 10 rfl rfl)
abbrev cX2_of : ByteArray := prog_8_method_55_code
def yX2_of : MethodName := ⟨RX2, "of", "(II)I"⟩
def dkwX2_of_3 : List UInt8 := [16, 254, 172]
abbrev dktX2_of_3 : List UInt8 := dkwX2_of_3 ++ []
def dkwX2_of_2 : List UInt8 := [16, 10, 184, 0, 39, 153, 0, 18, 42, 180, 0, 7, 27, 28, 4, 100, 184, 0, 47, 46, 167, 0, 5]
abbrev dktX2_of_2 : List UInt8 := dkwX2_of_2 ++ dktX2_of_3
def dkwX2_of_1 : List UInt8 := [3, 6, 184, 0, 39, 153, 0, 16, 42, 180, 0, 7, 27, 28, 184, 0, 47, 46, 167, 0, 30, 28, 8]
abbrev dktX2_of_1 : List UInt8 := dkwX2_of_1 ++ dktX2_of_2
def dkwX2_of_0 : List UInt8 := [42, 27, 182, 0, 103, 154, 0, 5, 2, 172, 28, 7, 160, 0, 11, 42, 27, 182, 0, 58, 167, 0, 52, 28]
abbrev dktX2_of_0 : List UInt8 := dkwX2_of_0 ++ dktX2_of_1
theorem dksX2_of_0 : cX2_of.data.toList.drop 0 = dktX2_of_0 := by decide +kernel
theorem dksX2_of_1 : cX2_of.data.toList.drop 24 = dktX2_of_1 := dk_seg dksX2_of_0 24 rfl rfl
theorem dksX2_of_2 : cX2_of.data.toList.drop 47 = dktX2_of_2 := dk_seg dksX2_of_1 23 rfl rfl
theorem dksX2_of_3 : cX2_of.data.toList.drop 70 = dktX2_of_3 := dk_seg dksX2_of_2 23 rfl rfl
theorem dX2_of_0 : decode cX2_of 0 = .ok (.aload_n 0, 1) := dk_42 (dk_at dksX2_of_0 0 rfl rfl)
theorem dX2_of_1 : decode cX2_of 1 = .ok (.iload_n 1, 1) := dk_27 (dk_at dksX2_of_0 1 rfl rfl)
theorem dX2_of_2 : decode cX2_of 2 = .ok (.invokevirtual 103, 3) := dk_182 0 103 (dk_at dksX2_of_0 2 rfl rfl)
theorem dX2_of_5 : decode cX2_of 5 = .ok (.ifCond .ne 5, 3) := dk_154 0 5 (dk_at dksX2_of_0 5 rfl rfl)
theorem dX2_of_8 : decode cX2_of 8 = .ok (.iconst (-1), 1) := dk_2 (dk_at dksX2_of_0 8 rfl rfl)
theorem dX2_of_9 : decode cX2_of 9 = .ok (.ireturn, 1) := dk_172 (dk_at dksX2_of_0 9 rfl rfl)
theorem dX2_of_10 : decode cX2_of 10 = .ok (.iload_n 2, 1) := dk_28 (dk_at dksX2_of_0 10 rfl rfl)
theorem dX2_of_11 : decode cX2_of 11 = .ok (.iconst 4, 1) := dk_7 (dk_at dksX2_of_0 11 rfl rfl)
theorem dX2_of_12 : decode cX2_of 12 = .ok (.if_icmp .ne 11, 3) := dk_160 0 11 (dk_at dksX2_of_0 12 rfl rfl)
theorem dX2_of_15 : decode cX2_of 15 = .ok (.aload_n 0, 1) := dk_42 (dk_at dksX2_of_0 15 rfl rfl)
theorem dX2_of_16 : decode cX2_of 16 = .ok (.iload_n 1, 1) := dk_27 (dk_at dksX2_of_0 16 rfl rfl)
theorem dX2_of_17 : decode cX2_of 17 = .ok (.invokevirtual 58, 3) := dk_182 0 58 (dk_at dksX2_of_0 17 rfl rfl)
theorem dX2_of_20 : decode cX2_of 20 = .ok (.goto 52, 3) := dk_167 0 52 (dk_at dksX2_of_0 20 rfl rfl)
theorem dX2_of_23 : decode cX2_of 23 = .ok (.iload_n 2, 1) := dk_28 (dk_at dksX2_of_0 23 rfl rfl)
theorem dX2_of_24 : decode cX2_of 24 = .ok (.iconst 0, 1) := dk_3 (dk_at dksX2_of_1 0 rfl rfl)
theorem dX2_of_25 : decode cX2_of 25 = .ok (.iconst 3, 1) := dk_6 (dk_at dksX2_of_1 1 rfl rfl)
theorem dX2_of_26 : decode cX2_of 26 = .ok (.invokestatic 39, 3) := dk_184 0 39 (dk_at dksX2_of_1 2 rfl rfl)
theorem dX2_of_29 : decode cX2_of 29 = .ok (.ifCond .eq 16, 3) := dk_153 0 16 (dk_at dksX2_of_1 5 rfl rfl)
theorem dX2_of_32 : decode cX2_of 32 = .ok (.aload_n 0, 1) := dk_42 (dk_at dksX2_of_1 8 rfl rfl)
theorem dX2_of_33 : decode cX2_of 33 = .ok (.getfield 7, 3) := dk_180 0 7 (dk_at dksX2_of_1 9 rfl rfl)
theorem dX2_of_36 : decode cX2_of 36 = .ok (.iload_n 1, 1) := dk_27 (dk_at dksX2_of_1 12 rfl rfl)
theorem dX2_of_37 : decode cX2_of 37 = .ok (.iload_n 2, 1) := dk_28 (dk_at dksX2_of_1 13 rfl rfl)
theorem dX2_of_38 : decode cX2_of 38 = .ok (.invokestatic 47, 3) := dk_184 0 47 (dk_at dksX2_of_1 14 rfl rfl)
theorem dX2_of_41 : decode cX2_of 41 = .ok (.iaload, 1) := dk_46 (dk_at dksX2_of_1 17 rfl rfl)
theorem dX2_of_42 : decode cX2_of 42 = .ok (.goto 30, 3) := dk_167 0 30 (dk_at dksX2_of_1 18 rfl rfl)
theorem dX2_of_45 : decode cX2_of 45 = .ok (.iload_n 2, 1) := dk_28 (dk_at dksX2_of_1 21 rfl rfl)
theorem dX2_of_46 : decode cX2_of 46 = .ok (.iconst 5, 1) := dk_8 (dk_at dksX2_of_1 22 rfl rfl)
theorem dX2_of_47 : decode cX2_of 47 = .ok (.bipush 10, 2) := dk_16 10 (dk_at dksX2_of_2 0 rfl rfl)
theorem dX2_of_49 : decode cX2_of 49 = .ok (.invokestatic 39, 3) := dk_184 0 39 (dk_at dksX2_of_2 2 rfl rfl)
theorem dX2_of_52 : decode cX2_of 52 = .ok (.ifCond .eq 18, 3) := dk_153 0 18 (dk_at dksX2_of_2 5 rfl rfl)
theorem dX2_of_55 : decode cX2_of 55 = .ok (.aload_n 0, 1) := dk_42 (dk_at dksX2_of_2 8 rfl rfl)
theorem dX2_of_56 : decode cX2_of 56 = .ok (.getfield 7, 3) := dk_180 0 7 (dk_at dksX2_of_2 9 rfl rfl)
theorem dX2_of_59 : decode cX2_of 59 = .ok (.iload_n 1, 1) := dk_27 (dk_at dksX2_of_2 12 rfl rfl)
theorem dX2_of_60 : decode cX2_of 60 = .ok (.iload_n 2, 1) := dk_28 (dk_at dksX2_of_2 13 rfl rfl)
theorem dX2_of_61 : decode cX2_of 61 = .ok (.iconst 1, 1) := dk_4 (dk_at dksX2_of_2 14 rfl rfl)
theorem dX2_of_62 : decode cX2_of 62 = .ok (.isub, 1) := dk_100 (dk_at dksX2_of_2 15 rfl rfl)
theorem dX2_of_63 : decode cX2_of 63 = .ok (.invokestatic 47, 3) := dk_184 0 47 (dk_at dksX2_of_2 16 rfl rfl)
theorem dX2_of_66 : decode cX2_of 66 = .ok (.iaload, 1) := dk_46 (dk_at dksX2_of_2 19 rfl rfl)
theorem dX2_of_67 : decode cX2_of 67 = .ok (.goto 5, 3) := dk_167 0 5 (dk_at dksX2_of_2 20 rfl rfl)
theorem dX2_of_70 : decode cX2_of 70 = .ok (.bipush (-2), 2) := dk_16 254 (dk_at dksX2_of_3 0 rfl rfl)
theorem dX2_of_72 : decode cX2_of 72 = .ok (.ireturn, 1) := dk_172 (dk_at dksX2_of_3 2 rfl rfl)
abbrev cX2_ofOrder : ByteArray := prog_8_method_57_code
def yX2_ofOrder : MethodName := ⟨RX2, "ofOrder", "(II)I"⟩
def dkwX2_ofOrder_2 : List UInt8 := [172]
abbrev dktX2_ofOrder_2 : List UInt8 := dkwX2_ofOrder_2 ++ []
def dkwX2_ofOrder_1 : List UInt8 := [28, 184, 0, 66, 46, 167, 0, 19, 28, 16, 6, 160, 0, 11, 42, 27, 182, 0, 172, 167, 0, 5, 16, 254]
abbrev dktX2_ofOrder_1 : List UInt8 := dkwX2_ofOrder_1 ++ dktX2_ofOrder_2
def dkwX2_ofOrder_0 : List UInt8 := [42, 27, 182, 0, 116, 154, 0, 5, 2, 172, 28, 3, 8, 184, 0, 39, 153, 0, 16, 42, 180, 0, 7, 27]
abbrev dktX2_ofOrder_0 : List UInt8 := dkwX2_ofOrder_0 ++ dktX2_ofOrder_1
theorem dksX2_ofOrder_0 : cX2_ofOrder.data.toList.drop 0 = dktX2_ofOrder_0 := by decide +kernel
theorem dksX2_ofOrder_1 : cX2_ofOrder.data.toList.drop 24 = dktX2_ofOrder_1 := dk_seg dksX2_ofOrder_0 24 rfl rfl
theorem dksX2_ofOrder_2 : cX2_ofOrder.data.toList.drop 48 = dktX2_ofOrder_2 := dk_seg dksX2_ofOrder_1 24 rfl rfl
theorem dX2_ofOrder_0 : decode cX2_ofOrder 0 = .ok (.aload_n 0, 1) := dk_42 (dk_at dksX2_ofOrder_0 0 rfl rfl)
theorem dX2_ofOrder_1 : decode cX2_ofOrder 1 = .ok (.iload_n 1, 1) := dk_27 (dk_at dksX2_ofOrder_0 1 rfl rfl)
theorem dX2_ofOrder_2 : decode cX2_ofOrder 2 = .ok (.invokevirtual 116, 3) := dk_182 0 116 (dk_at dksX2_ofOrder_0 2 rfl rfl)
theorem dX2_ofOrder_5 : decode cX2_ofOrder 5 = .ok (.ifCond .ne 5, 3) := dk_154 0 5 (dk_at dksX2_ofOrder_0 5 rfl rfl)
theorem dX2_ofOrder_8 : decode cX2_ofOrder 8 = .ok (.iconst (-1), 1) := dk_2 (dk_at dksX2_ofOrder_0 8 rfl rfl)
theorem dX2_ofOrder_9 : decode cX2_ofOrder 9 = .ok (.ireturn, 1) := dk_172 (dk_at dksX2_ofOrder_0 9 rfl rfl)
theorem dX2_ofOrder_10 : decode cX2_ofOrder 10 = .ok (.iload_n 2, 1) := dk_28 (dk_at dksX2_ofOrder_0 10 rfl rfl)
theorem dX2_ofOrder_11 : decode cX2_ofOrder 11 = .ok (.iconst 0, 1) := dk_3 (dk_at dksX2_ofOrder_0 11 rfl rfl)
theorem dX2_ofOrder_12 : decode cX2_ofOrder 12 = .ok (.iconst 5, 1) := dk_8 (dk_at dksX2_ofOrder_0 12 rfl rfl)
theorem dX2_ofOrder_13 : decode cX2_ofOrder 13 = .ok (.invokestatic 39, 3) := dk_184 0 39 (dk_at dksX2_ofOrder_0 13 rfl rfl)
theorem dX2_ofOrder_16 : decode cX2_ofOrder 16 = .ok (.ifCond .eq 16, 3) := dk_153 0 16 (dk_at dksX2_ofOrder_0 16 rfl rfl)
theorem dX2_ofOrder_19 : decode cX2_ofOrder 19 = .ok (.aload_n 0, 1) := dk_42 (dk_at dksX2_ofOrder_0 19 rfl rfl)
theorem dX2_ofOrder_20 : decode cX2_ofOrder 20 = .ok (.getfield 7, 3) := dk_180 0 7 (dk_at dksX2_ofOrder_0 20 rfl rfl)
theorem dX2_ofOrder_23 : decode cX2_ofOrder 23 = .ok (.iload_n 1, 1) := dk_27 (dk_at dksX2_ofOrder_0 23 rfl rfl)
theorem dX2_ofOrder_24 : decode cX2_ofOrder 24 = .ok (.iload_n 2, 1) := dk_28 (dk_at dksX2_ofOrder_1 0 rfl rfl)
theorem dX2_ofOrder_25 : decode cX2_ofOrder 25 = .ok (.invokestatic 66, 3) := dk_184 0 66 (dk_at dksX2_ofOrder_1 1 rfl rfl)
theorem dX2_ofOrder_28 : decode cX2_ofOrder 28 = .ok (.iaload, 1) := dk_46 (dk_at dksX2_ofOrder_1 4 rfl rfl)
theorem dX2_ofOrder_29 : decode cX2_ofOrder 29 = .ok (.goto 19, 3) := dk_167 0 19 (dk_at dksX2_ofOrder_1 5 rfl rfl)
theorem dX2_ofOrder_32 : decode cX2_ofOrder 32 = .ok (.iload_n 2, 1) := dk_28 (dk_at dksX2_ofOrder_1 8 rfl rfl)
theorem dX2_ofOrder_33 : decode cX2_ofOrder 33 = .ok (.bipush 6, 2) := dk_16 6 (dk_at dksX2_ofOrder_1 9 rfl rfl)
theorem dX2_ofOrder_35 : decode cX2_ofOrder 35 = .ok (.if_icmp .ne 11, 3) := dk_160 0 11 (dk_at dksX2_ofOrder_1 11 rfl rfl)
theorem dX2_ofOrder_38 : decode cX2_ofOrder 38 = .ok (.aload_n 0, 1) := dk_42 (dk_at dksX2_ofOrder_1 14 rfl rfl)
theorem dX2_ofOrder_39 : decode cX2_ofOrder 39 = .ok (.iload_n 1, 1) := dk_27 (dk_at dksX2_ofOrder_1 15 rfl rfl)
theorem dX2_ofOrder_40 : decode cX2_ofOrder 40 = .ok (.invokevirtual 172, 3) := dk_182 0 172 (dk_at dksX2_ofOrder_1 16 rfl rfl)
theorem dX2_ofOrder_43 : decode cX2_ofOrder 43 = .ok (.goto 5, 3) := dk_167 0 5 (dk_at dksX2_ofOrder_1 19 rfl rfl)
theorem dX2_ofOrder_46 : decode cX2_ofOrder 46 = .ok (.bipush (-2), 2) := dk_16 254 (dk_at dksX2_ofOrder_1 22 rfl rfl)
theorem dX2_ofOrder_48 : decode cX2_ofOrder 48 = .ok (.ireturn, 1) := dk_172 (dk_at dksX2_ofOrder_2 0 rfl rfl)
abbrev cX2_couldBeGiven : ByteArray := prog_8_method_56_code
def yX2_couldBeGiven : MethodName := ⟨RX2, "couldBeGiven", "(I)I"⟩
def dkwX2_couldBeGiven_1 : List UInt8 := [4, 29, 120, 167, 0, 4, 3, 128, 61, 132, 3, 1, 167, 255, 224, 28, 172]
abbrev dktX2_couldBeGiven_1 : List UInt8 := dkwX2_couldBeGiven_1 ++ []
def dkwX2_couldBeGiven_0 : List UInt8 := [3, 61, 3, 62, 29, 42, 180, 0, 7, 8, 46, 162, 0, 28, 28, 42, 27, 29, 182, 0, 119, 153, 0, 9]
abbrev dktX2_couldBeGiven_0 : List UInt8 := dkwX2_couldBeGiven_0 ++ dktX2_couldBeGiven_1
theorem dksX2_couldBeGiven_0 : cX2_couldBeGiven.data.toList.drop 0 = dktX2_couldBeGiven_0 := by decide +kernel
theorem dksX2_couldBeGiven_1 : cX2_couldBeGiven.data.toList.drop 24 = dktX2_couldBeGiven_1 := dk_seg dksX2_couldBeGiven_0 24 rfl rfl
theorem dX2_couldBeGiven_0 : decode cX2_couldBeGiven 0 = .ok (.iconst 0, 1) := dk_3 (dk_at dksX2_couldBeGiven_0 0 rfl rfl)
theorem dX2_couldBeGiven_1 : decode cX2_couldBeGiven 1 = .ok (.istore_n 2, 1) := dk_61 (dk_at dksX2_couldBeGiven_0 1 rfl rfl)
theorem dX2_couldBeGiven_2 : decode cX2_couldBeGiven 2 = .ok (.iconst 0, 1) := dk_3 (dk_at dksX2_couldBeGiven_0 2 rfl rfl)
theorem dX2_couldBeGiven_3 : decode cX2_couldBeGiven 3 = .ok (.istore_n 3, 1) := dk_62 (dk_at dksX2_couldBeGiven_0 3 rfl rfl)
theorem dX2_couldBeGiven_4 : decode cX2_couldBeGiven 4 = .ok (.iload_n 3, 1) := dk_29 (dk_at dksX2_couldBeGiven_0 4 rfl rfl)
theorem dX2_couldBeGiven_5 : decode cX2_couldBeGiven 5 = .ok (.aload_n 0, 1) := dk_42 (dk_at dksX2_couldBeGiven_0 5 rfl rfl)
theorem dX2_couldBeGiven_6 : decode cX2_couldBeGiven 6 = .ok (.getfield 7, 3) := dk_180 0 7 (dk_at dksX2_couldBeGiven_0 6 rfl rfl)
theorem dX2_couldBeGiven_9 : decode cX2_couldBeGiven 9 = .ok (.iconst 5, 1) := dk_8 (dk_at dksX2_couldBeGiven_0 9 rfl rfl)
theorem dX2_couldBeGiven_10 : decode cX2_couldBeGiven 10 = .ok (.iaload, 1) := dk_46 (dk_at dksX2_couldBeGiven_0 10 rfl rfl)
theorem dX2_couldBeGiven_11 : decode cX2_couldBeGiven 11 = .ok (.if_icmp .ge 28, 3) := dk_162 0 28 (dk_at dksX2_couldBeGiven_0 11 rfl rfl)
theorem dX2_couldBeGiven_14 : decode cX2_couldBeGiven 14 = .ok (.iload_n 2, 1) := dk_28 (dk_at dksX2_couldBeGiven_0 14 rfl rfl)
theorem dX2_couldBeGiven_15 : decode cX2_couldBeGiven 15 = .ok (.aload_n 0, 1) := dk_42 (dk_at dksX2_couldBeGiven_0 15 rfl rfl)
theorem dX2_couldBeGiven_16 : decode cX2_couldBeGiven 16 = .ok (.iload_n 1, 1) := dk_27 (dk_at dksX2_couldBeGiven_0 16 rfl rfl)
theorem dX2_couldBeGiven_17 : decode cX2_couldBeGiven 17 = .ok (.iload_n 3, 1) := dk_29 (dk_at dksX2_couldBeGiven_0 17 rfl rfl)
theorem dX2_couldBeGiven_18 : decode cX2_couldBeGiven 18 = .ok (.invokevirtual 119, 3) := dk_182 0 119 (dk_at dksX2_couldBeGiven_0 18 rfl rfl)
theorem dX2_couldBeGiven_21 : decode cX2_couldBeGiven 21 = .ok (.ifCond .eq 9, 3) := dk_153 0 9 (dk_at dksX2_couldBeGiven_0 21 rfl rfl)
theorem dX2_couldBeGiven_24 : decode cX2_couldBeGiven 24 = .ok (.iconst 1, 1) := dk_4 (dk_at dksX2_couldBeGiven_1 0 rfl rfl)
theorem dX2_couldBeGiven_25 : decode cX2_couldBeGiven 25 = .ok (.iload_n 3, 1) := dk_29 (dk_at dksX2_couldBeGiven_1 1 rfl rfl)
theorem dX2_couldBeGiven_26 : decode cX2_couldBeGiven 26 = .ok (.ishl, 1) := dk_120 (dk_at dksX2_couldBeGiven_1 2 rfl rfl)
theorem dX2_couldBeGiven_27 : decode cX2_couldBeGiven 27 = .ok (.goto 4, 3) := dk_167 0 4 (dk_at dksX2_couldBeGiven_1 3 rfl rfl)
theorem dX2_couldBeGiven_30 : decode cX2_couldBeGiven 30 = .ok (.iconst 0, 1) := dk_3 (dk_at dksX2_couldBeGiven_1 6 rfl rfl)
theorem dX2_couldBeGiven_31 : decode cX2_couldBeGiven 31 = .ok (.ior, 1) := dk_128 (dk_at dksX2_couldBeGiven_1 7 rfl rfl)
theorem dX2_couldBeGiven_32 : decode cX2_couldBeGiven 32 = .ok (.istore_n 2, 1) := dk_61 (dk_at dksX2_couldBeGiven_1 8 rfl rfl)
theorem dX2_couldBeGiven_33 : decode cX2_couldBeGiven 33 = .ok (.iinc 3 1, 3) := dk_132 3 1 (dk_at dksX2_couldBeGiven_1 9 rfl rfl)
theorem dX2_couldBeGiven_36 : decode cX2_couldBeGiven 36 = .ok (.goto (-32), 3) := dk_167 255 224 (dk_at dksX2_couldBeGiven_1 12 rfl rfl)
theorem dX2_couldBeGiven_39 : decode cX2_couldBeGiven 39 = .ok (.iload_n 2, 1) := dk_28 (dk_at dksX2_couldBeGiven_1 15 rfl rfl)
theorem dX2_couldBeGiven_40 : decode cX2_couldBeGiven 40 = .ok (.ireturn, 1) := dk_172 (dk_at dksX2_couldBeGiven_1 16 rfl rfl)
abbrev cX2_ofLorry : ByteArray := prog_8_method_59_code
def yX2_ofLorry : MethodName := ⟨RX2, "ofLorry", "(II)I"⟩
def dkwX2_ofLorry_3 : List UInt8 := [172, 42, 27, 182, 0, 83, 172, 42, 180, 0, 7, 27, 28, 7, 100, 184, 0, 35, 46, 172, 16, 254, 172]
abbrev dktX2_ofLorry_3 : List UInt8 := dkwX2_ofLorry_3 ++ []
def dkwX2_ofLorry_2 : List UInt8 := [42, 27, 182, 0, 90, 172, 42, 27, 28, 5, 160, 0, 7, 4, 167, 0, 4, 3, 182, 0, 93, 184, 0, 178]
abbrev dktX2_ofLorry_2 : List UInt8 := dkwX2_ofLorry_2 ++ dktX2_ofLorry_3
def dkwX2_ofLorry_1 : List UInt8 := [170, 0, 0, 0, 0, 90, 0, 0, 0, 0, 0, 0, 0, 7, 0, 0, 0, 46, 0, 0, 0, 52, 0, 0, 0, 52, 0, 0, 0, 71, 0, 0, 0, 77, 0, 0, 0, 77, 0, 0, 0, 77, 0, 0, 0, 77]
abbrev dktX2_ofLorry_1 : List UInt8 := dkwX2_ofLorry_1 ++ dktX2_ofLorry_2
def dkwX2_ofLorry_0 : List UInt8 := [27, 184, 0, 122, 154, 0, 5, 2, 172, 28]
abbrev dktX2_ofLorry_0 : List UInt8 := dkwX2_ofLorry_0 ++ dktX2_ofLorry_1
theorem dksX2_ofLorry_0 : cX2_ofLorry.data.toList.drop 0 = dktX2_ofLorry_0 := by decide +kernel
theorem dksX2_ofLorry_1 : cX2_ofLorry.data.toList.drop 10 = dktX2_ofLorry_1 := dk_seg dksX2_ofLorry_0 10 rfl rfl
theorem dksX2_ofLorry_2 : cX2_ofLorry.data.toList.drop 56 = dktX2_ofLorry_2 := dk_seg dksX2_ofLorry_1 46 rfl rfl
theorem dksX2_ofLorry_3 : cX2_ofLorry.data.toList.drop 80 = dktX2_ofLorry_3 := dk_seg dksX2_ofLorry_2 24 rfl rfl
theorem dX2_ofLorry_0 : decode cX2_ofLorry 0 = .ok (.iload_n 1, 1) := dk_27 (dk_at dksX2_ofLorry_0 0 rfl rfl)
theorem dX2_ofLorry_1 : decode cX2_ofLorry 1 = .ok (.invokestatic 122, 3) := dk_184 0 122 (dk_at dksX2_ofLorry_0 1 rfl rfl)
theorem dX2_ofLorry_4 : decode cX2_ofLorry 4 = .ok (.ifCond .ne 5, 3) := dk_154 0 5 (dk_at dksX2_ofLorry_0 4 rfl rfl)
theorem dX2_ofLorry_7 : decode cX2_ofLorry 7 = .ok (.iconst (-1), 1) := dk_2 (dk_at dksX2_ofLorry_0 7 rfl rfl)
theorem dX2_ofLorry_8 : decode cX2_ofLorry 8 = .ok (.ireturn, 1) := dk_172 (dk_at dksX2_ofLorry_0 8 rfl rfl)
theorem dX2_ofLorry_9 : decode cX2_ofLorry 9 = .ok (.iload_n 2, 1) := dk_28 (dk_at dksX2_ofLorry_0 9 rfl rfl)
theorem dX2_ofLorry_10 : decode cX2_ofLorry 10 = .ok (.tableswitch 90 0 7 #[46, 52, 52, 71, 77, 77, 77, 77], 46) := by decide +kernel
theorem dX2_ofLorry_56 : decode cX2_ofLorry 56 = .ok (.aload_n 0, 1) := dk_42 (dk_at dksX2_ofLorry_2 0 rfl rfl)
theorem dX2_ofLorry_57 : decode cX2_ofLorry 57 = .ok (.iload_n 1, 1) := dk_27 (dk_at dksX2_ofLorry_2 1 rfl rfl)
theorem dX2_ofLorry_58 : decode cX2_ofLorry 58 = .ok (.invokevirtual 90, 3) := dk_182 0 90 (dk_at dksX2_ofLorry_2 2 rfl rfl)
theorem dX2_ofLorry_61 : decode cX2_ofLorry 61 = .ok (.ireturn, 1) := dk_172 (dk_at dksX2_ofLorry_2 5 rfl rfl)
theorem dX2_ofLorry_62 : decode cX2_ofLorry 62 = .ok (.aload_n 0, 1) := dk_42 (dk_at dksX2_ofLorry_2 6 rfl rfl)
theorem dX2_ofLorry_63 : decode cX2_ofLorry 63 = .ok (.iload_n 1, 1) := dk_27 (dk_at dksX2_ofLorry_2 7 rfl rfl)
theorem dX2_ofLorry_64 : decode cX2_ofLorry 64 = .ok (.iload_n 2, 1) := dk_28 (dk_at dksX2_ofLorry_2 8 rfl rfl)
theorem dX2_ofLorry_65 : decode cX2_ofLorry 65 = .ok (.iconst 2, 1) := dk_5 (dk_at dksX2_ofLorry_2 9 rfl rfl)
theorem dX2_ofLorry_66 : decode cX2_ofLorry 66 = .ok (.if_icmp .ne 7, 3) := dk_160 0 7 (dk_at dksX2_ofLorry_2 10 rfl rfl)
theorem dX2_ofLorry_69 : decode cX2_ofLorry 69 = .ok (.iconst 1, 1) := dk_4 (dk_at dksX2_ofLorry_2 13 rfl rfl)
theorem dX2_ofLorry_70 : decode cX2_ofLorry 70 = .ok (.goto 4, 3) := dk_167 0 4 (dk_at dksX2_ofLorry_2 14 rfl rfl)
theorem dX2_ofLorry_73 : decode cX2_ofLorry 73 = .ok (.iconst 0, 1) := dk_3 (dk_at dksX2_ofLorry_2 17 rfl rfl)
theorem dX2_ofLorry_74 : decode cX2_ofLorry 74 = .ok (.invokevirtual 93, 3) := dk_182 0 93 (dk_at dksX2_ofLorry_2 18 rfl rfl)
theorem dX2_ofLorry_77 : decode cX2_ofLorry 77 = .ok (.invokestatic 178, 3) := dk_184 0 178 (dk_at dksX2_ofLorry_2 21 rfl rfl)
theorem dX2_ofLorry_80 : decode cX2_ofLorry 80 = .ok (.ireturn, 1) := dk_172 (dk_at dksX2_ofLorry_3 0 rfl rfl)
theorem dX2_ofLorry_81 : decode cX2_ofLorry 81 = .ok (.aload_n 0, 1) := dk_42 (dk_at dksX2_ofLorry_3 1 rfl rfl)
theorem dX2_ofLorry_82 : decode cX2_ofLorry 82 = .ok (.iload_n 1, 1) := dk_27 (dk_at dksX2_ofLorry_3 2 rfl rfl)
theorem dX2_ofLorry_83 : decode cX2_ofLorry 83 = .ok (.invokevirtual 83, 3) := dk_182 0 83 (dk_at dksX2_ofLorry_3 3 rfl rfl)
theorem dX2_ofLorry_86 : decode cX2_ofLorry 86 = .ok (.ireturn, 1) := dk_172 (dk_at dksX2_ofLorry_3 6 rfl rfl)
theorem dX2_ofLorry_87 : decode cX2_ofLorry 87 = .ok (.aload_n 0, 1) := dk_42 (dk_at dksX2_ofLorry_3 7 rfl rfl)
theorem dX2_ofLorry_88 : decode cX2_ofLorry 88 = .ok (.getfield 7, 3) := dk_180 0 7 (dk_at dksX2_ofLorry_3 8 rfl rfl)
theorem dX2_ofLorry_91 : decode cX2_ofLorry 91 = .ok (.iload_n 1, 1) := dk_27 (dk_at dksX2_ofLorry_3 11 rfl rfl)
theorem dX2_ofLorry_92 : decode cX2_ofLorry 92 = .ok (.iload_n 2, 1) := dk_28 (dk_at dksX2_ofLorry_3 12 rfl rfl)
theorem dX2_ofLorry_93 : decode cX2_ofLorry 93 = .ok (.iconst 4, 1) := dk_7 (dk_at dksX2_ofLorry_3 13 rfl rfl)
theorem dX2_ofLorry_94 : decode cX2_ofLorry 94 = .ok (.isub, 1) := dk_100 (dk_at dksX2_ofLorry_3 14 rfl rfl)
theorem dX2_ofLorry_95 : decode cX2_ofLorry 95 = .ok (.invokestatic 35, 3) := dk_184 0 35 (dk_at dksX2_ofLorry_3 15 rfl rfl)
theorem dX2_ofLorry_98 : decode cX2_ofLorry 98 = .ok (.iaload, 1) := dk_46 (dk_at dksX2_ofLorry_3 18 rfl rfl)
theorem dX2_ofLorry_99 : decode cX2_ofLorry 99 = .ok (.ireturn, 1) := dk_172 (dk_at dksX2_ofLorry_3 19 rfl rfl)
theorem dX2_ofLorry_100 : decode cX2_ofLorry 100 = .ok (.bipush (-2), 2) := dk_16 254 (dk_at dksX2_ofLorry_3 20 rfl rfl)
theorem dX2_ofLorry_102 : decode cX2_ofLorry 102 = .ok (.ireturn, 1) := dk_172 (dk_at dksX2_ofLorry_3 22 rfl rfl)
abbrev cX2_floatBits : ByteArray := prog_8_method_58_code
def yX2_floatBits : MethodName := ⟨RX2, "floatBits", "(F)I"⟩
def dkwX2_floatBits_2 : List UInt8 := [18, 176, 104, 36, 12, 102, 18, 177, 106, 139, 96, 172]
abbrev dktX2_floatBits_2 : List UInt8 := dkwX2_floatBits_2 ++ []
def dkwX2_floatBits_1 : List UInt8 := [132, 1, 255, 167, 255, 243, 36, 13, 149, 155, 0, 14, 36, 18, 175, 106, 69, 132, 1, 1, 167, 255, 242, 27]
abbrev dktX2_floatBits_1 : List UInt8 := dkwX2_floatBits_1 ++ dktX2_floatBits_2
def dkwX2_floatBits_0 : List UInt8 := [34, 11, 149, 154, 0, 5, 3, 172, 16, 127, 60, 34, 69, 36, 12, 150, 156, 0, 13, 36, 13, 106, 69]
abbrev dktX2_floatBits_0 : List UInt8 := dkwX2_floatBits_0 ++ dktX2_floatBits_1
theorem dksX2_floatBits_0 : cX2_floatBits.data.toList.drop 0 = dktX2_floatBits_0 := by decide +kernel
theorem dksX2_floatBits_1 : cX2_floatBits.data.toList.drop 23 = dktX2_floatBits_1 := dk_seg dksX2_floatBits_0 23 rfl rfl
theorem dksX2_floatBits_2 : cX2_floatBits.data.toList.drop 47 = dktX2_floatBits_2 := dk_seg dksX2_floatBits_1 24 rfl rfl
theorem dX2_floatBits_0 : decode cX2_floatBits 0 = .ok (.fload_n 0, 1) := dk_34 (dk_at dksX2_floatBits_0 0 rfl rfl)
theorem dX2_floatBits_1 : decode cX2_floatBits 1 = .ok (.fconst 0, 1) := dk_11 (dk_at dksX2_floatBits_0 1 rfl rfl)
theorem dX2_floatBits_2 : decode cX2_floatBits 2 = .ok (.fcmp .l, 1) := dk_149 (dk_at dksX2_floatBits_0 2 rfl rfl)
theorem dX2_floatBits_3 : decode cX2_floatBits 3 = .ok (.ifCond .ne 5, 3) := dk_154 0 5 (dk_at dksX2_floatBits_0 3 rfl rfl)
theorem dX2_floatBits_6 : decode cX2_floatBits 6 = .ok (.iconst 0, 1) := dk_3 (dk_at dksX2_floatBits_0 6 rfl rfl)
theorem dX2_floatBits_7 : decode cX2_floatBits 7 = .ok (.ireturn, 1) := dk_172 (dk_at dksX2_floatBits_0 7 rfl rfl)
theorem dX2_floatBits_8 : decode cX2_floatBits 8 = .ok (.bipush 127, 2) := dk_16 127 (dk_at dksX2_floatBits_0 8 rfl rfl)
theorem dX2_floatBits_10 : decode cX2_floatBits 10 = .ok (.istore_n 1, 1) := dk_60 (dk_at dksX2_floatBits_0 10 rfl rfl)
theorem dX2_floatBits_11 : decode cX2_floatBits 11 = .ok (.fload_n 0, 1) := dk_34 (dk_at dksX2_floatBits_0 11 rfl rfl)
theorem dX2_floatBits_12 : decode cX2_floatBits 12 = .ok (.fstore_n 2, 1) := dk_69 (dk_at dksX2_floatBits_0 12 rfl rfl)
theorem dX2_floatBits_13 : decode cX2_floatBits 13 = .ok (.fload_n 2, 1) := dk_36 (dk_at dksX2_floatBits_0 13 rfl rfl)
theorem dX2_floatBits_14 : decode cX2_floatBits 14 = .ok (.fconst 1, 1) := dk_12 (dk_at dksX2_floatBits_0 14 rfl rfl)
theorem dX2_floatBits_15 : decode cX2_floatBits 15 = .ok (.fcmp .g, 1) := dk_150 (dk_at dksX2_floatBits_0 15 rfl rfl)
theorem dX2_floatBits_16 : decode cX2_floatBits 16 = .ok (.ifCond .ge 13, 3) := dk_156 0 13 (dk_at dksX2_floatBits_0 16 rfl rfl)
theorem dX2_floatBits_19 : decode cX2_floatBits 19 = .ok (.fload_n 2, 1) := dk_36 (dk_at dksX2_floatBits_0 19 rfl rfl)
theorem dX2_floatBits_20 : decode cX2_floatBits 20 = .ok (.fconst 2, 1) := dk_13 (dk_at dksX2_floatBits_0 20 rfl rfl)
theorem dX2_floatBits_21 : decode cX2_floatBits 21 = .ok (.fmul, 1) := dk_106 (dk_at dksX2_floatBits_0 21 rfl rfl)
theorem dX2_floatBits_22 : decode cX2_floatBits 22 = .ok (.fstore_n 2, 1) := dk_69 (dk_at dksX2_floatBits_0 22 rfl rfl)
theorem dX2_floatBits_23 : decode cX2_floatBits 23 = .ok (.iinc 1 (-1), 3) := dk_132 1 255 (dk_at dksX2_floatBits_1 0 rfl rfl)
theorem dX2_floatBits_26 : decode cX2_floatBits 26 = .ok (.goto (-13), 3) := dk_167 255 243 (dk_at dksX2_floatBits_1 3 rfl rfl)
theorem dX2_floatBits_29 : decode cX2_floatBits 29 = .ok (.fload_n 2, 1) := dk_36 (dk_at dksX2_floatBits_1 6 rfl rfl)
theorem dX2_floatBits_30 : decode cX2_floatBits 30 = .ok (.fconst 2, 1) := dk_13 (dk_at dksX2_floatBits_1 7 rfl rfl)
theorem dX2_floatBits_31 : decode cX2_floatBits 31 = .ok (.fcmp .l, 1) := dk_149 (dk_at dksX2_floatBits_1 8 rfl rfl)
theorem dX2_floatBits_32 : decode cX2_floatBits 32 = .ok (.ifCond .lt 14, 3) := dk_155 0 14 (dk_at dksX2_floatBits_1 9 rfl rfl)
theorem dX2_floatBits_35 : decode cX2_floatBits 35 = .ok (.fload_n 2, 1) := dk_36 (dk_at dksX2_floatBits_1 12 rfl rfl)
theorem dX2_floatBits_36 : decode cX2_floatBits 36 = .ok (.ldc 175, 2) := dk_18 175 (dk_at dksX2_floatBits_1 13 rfl rfl)
theorem dX2_floatBits_38 : decode cX2_floatBits 38 = .ok (.fmul, 1) := dk_106 (dk_at dksX2_floatBits_1 15 rfl rfl)
theorem dX2_floatBits_39 : decode cX2_floatBits 39 = .ok (.fstore_n 2, 1) := dk_69 (dk_at dksX2_floatBits_1 16 rfl rfl)
theorem dX2_floatBits_40 : decode cX2_floatBits 40 = .ok (.iinc 1 1, 3) := dk_132 1 1 (dk_at dksX2_floatBits_1 17 rfl rfl)
theorem dX2_floatBits_43 : decode cX2_floatBits 43 = .ok (.goto (-14), 3) := dk_167 255 242 (dk_at dksX2_floatBits_1 20 rfl rfl)
theorem dX2_floatBits_46 : decode cX2_floatBits 46 = .ok (.iload_n 1, 1) := dk_27 (dk_at dksX2_floatBits_1 23 rfl rfl)
theorem dX2_floatBits_47 : decode cX2_floatBits 47 = .ok (.ldc 176, 2) := dk_18 176 (dk_at dksX2_floatBits_2 0 rfl rfl)
theorem dX2_floatBits_49 : decode cX2_floatBits 49 = .ok (.imul, 1) := dk_104 (dk_at dksX2_floatBits_2 2 rfl rfl)
theorem dX2_floatBits_50 : decode cX2_floatBits 50 = .ok (.fload_n 2, 1) := dk_36 (dk_at dksX2_floatBits_2 3 rfl rfl)
theorem dX2_floatBits_51 : decode cX2_floatBits 51 = .ok (.fconst 1, 1) := dk_12 (dk_at dksX2_floatBits_2 4 rfl rfl)
theorem dX2_floatBits_52 : decode cX2_floatBits 52 = .ok (.fsub, 1) := dk_102 (dk_at dksX2_floatBits_2 5 rfl rfl)
theorem dX2_floatBits_53 : decode cX2_floatBits 53 = .ok (.ldc 177, 2) := dk_18 177 (dk_at dksX2_floatBits_2 6 rfl rfl)
theorem dX2_floatBits_55 : decode cX2_floatBits 55 = .ok (.fmul, 1) := dk_106 (dk_at dksX2_floatBits_2 8 rfl rfl)
theorem dX2_floatBits_56 : decode cX2_floatBits 56 = .ok (.f2i, 1) := dk_139 (dk_at dksX2_floatBits_2 9 rfl rfl)
theorem dX2_floatBits_57 : decode cX2_floatBits 57 = .ok (.iadd, 1) := dk_96 (dk_at dksX2_floatBits_2 10 rfl rfl)
theorem dX2_floatBits_58 : decode cX2_floatBits 58 = .ok (.ireturn, 1) := dk_172 (dk_at dksX2_floatBits_2 11 rfl rfl)
abbrev cX2_count : ByteArray := prog_8_method_62_code
def yX2_count : MethodName := ⟨RX2, "count", "(I)I"⟩
def dkwX2_count_5 : List UInt8 := [16, 100, 96, 172, 42, 180, 0, 7, 6, 46, 172, 42, 180, 0, 189, 172, 42, 180, 0, 43, 172, 16, 254, 172]
abbrev dktX2_count_5 : List UInt8 := dkwX2_count_5 ++ []
def dkwX2_count_4 : List UInt8 := [100, 46, 172, 42, 180, 0, 7, 4, 46, 172, 42, 180, 0, 7, 3, 46, 172, 42, 180, 0, 7, 5, 46]
abbrev dktX2_count_4 : List UInt8 := dkwX2_count_4 ++ dktX2_count_5
def dkwX2_count_3 : List UInt8 := [42, 180, 0, 7, 16, 8, 46, 172, 42, 4, 182, 0, 186, 172, 42, 180, 0, 7, 16, 9, 27, 96, 16, 8]
abbrev dktX2_count_3 : List UInt8 := dkwX2_count_3 ++ dktX2_count_4
def dkwX2_count_2 : List UInt8 := [42, 180, 0, 7, 7, 27, 96, 46, 172, 42, 27, 8, 160, 0, 7, 4, 167, 0, 4, 3, 182, 0, 182, 172]
abbrev dktX2_count_2 : List UInt8 := dkwX2_count_2 ++ dktX2_count_3
def dkwX2_count_1 : List UInt8 := [170, 0, 0, 0, 0, 0, 175, 0, 0, 0, 0, 0, 0, 0, 16, 0, 0, 0, 83, 0, 0, 0, 83, 0, 0, 0, 83, 0, 0, 0, 83, 0, 0, 0, 92, 0, 0, 0, 92, 0, 0, 0, 107, 0, 0, 0, 115, 0, 0, 0, 121, 0, 0, 0, 121, 0, 0, 0, 121, 0, 0, 0, 134, 0, 0, 0, 141, 0, 0, 0, 148, 0, 0, 0, 158, 0, 0, 0, 165, 0, 0, 0, 170]
abbrev dktX2_count_1 : List UInt8 := dkwX2_count_1 ++ dktX2_count_2
def dkwX2_count_0 : List UInt8 := [27]
abbrev dktX2_count_0 : List UInt8 := dkwX2_count_0 ++ dktX2_count_1
theorem dksX2_count_0 : cX2_count.data.toList.drop 0 = dktX2_count_0 := by decide +kernel
theorem dksX2_count_1 : cX2_count.data.toList.drop 1 = dktX2_count_1 := dk_seg dksX2_count_0 1 rfl rfl
theorem dksX2_count_2 : cX2_count.data.toList.drop 84 = dktX2_count_2 := dk_seg dksX2_count_1 83 rfl rfl
theorem dksX2_count_3 : cX2_count.data.toList.drop 108 = dktX2_count_3 := dk_seg dksX2_count_2 24 rfl rfl
theorem dksX2_count_4 : cX2_count.data.toList.drop 132 = dktX2_count_4 := dk_seg dksX2_count_3 24 rfl rfl
theorem dksX2_count_5 : cX2_count.data.toList.drop 155 = dktX2_count_5 := dk_seg dksX2_count_4 23 rfl rfl
theorem dX2_count_0 : decode cX2_count 0 = .ok (.iload_n 1, 1) := dk_27 (dk_at dksX2_count_0 0 rfl rfl)
theorem dX2_count_1 : decode cX2_count 1 = .ok (.tableswitch 175 0 16 #[83, 83, 83, 83, 92, 92, 107, 115, 121, 121, 121, 134, 141, 148, 158, 165, 170], 83) := by decide +kernel
theorem dX2_count_84 : decode cX2_count 84 = .ok (.aload_n 0, 1) := dk_42 (dk_at dksX2_count_2 0 rfl rfl)
theorem dX2_count_85 : decode cX2_count 85 = .ok (.getfield 7, 3) := dk_180 0 7 (dk_at dksX2_count_2 1 rfl rfl)
theorem dX2_count_88 : decode cX2_count 88 = .ok (.iconst 4, 1) := dk_7 (dk_at dksX2_count_2 4 rfl rfl)
theorem dX2_count_89 : decode cX2_count 89 = .ok (.iload_n 1, 1) := dk_27 (dk_at dksX2_count_2 5 rfl rfl)
theorem dX2_count_90 : decode cX2_count 90 = .ok (.iadd, 1) := dk_96 (dk_at dksX2_count_2 6 rfl rfl)
theorem dX2_count_91 : decode cX2_count 91 = .ok (.iaload, 1) := dk_46 (dk_at dksX2_count_2 7 rfl rfl)
theorem dX2_count_92 : decode cX2_count 92 = .ok (.ireturn, 1) := dk_172 (dk_at dksX2_count_2 8 rfl rfl)
theorem dX2_count_93 : decode cX2_count 93 = .ok (.aload_n 0, 1) := dk_42 (dk_at dksX2_count_2 9 rfl rfl)
theorem dX2_count_94 : decode cX2_count 94 = .ok (.iload_n 1, 1) := dk_27 (dk_at dksX2_count_2 10 rfl rfl)
theorem dX2_count_95 : decode cX2_count 95 = .ok (.iconst 5, 1) := dk_8 (dk_at dksX2_count_2 11 rfl rfl)
theorem dX2_count_96 : decode cX2_count 96 = .ok (.if_icmp .ne 7, 3) := dk_160 0 7 (dk_at dksX2_count_2 12 rfl rfl)
theorem dX2_count_99 : decode cX2_count 99 = .ok (.iconst 1, 1) := dk_4 (dk_at dksX2_count_2 15 rfl rfl)
theorem dX2_count_100 : decode cX2_count 100 = .ok (.goto 4, 3) := dk_167 0 4 (dk_at dksX2_count_2 16 rfl rfl)
theorem dX2_count_103 : decode cX2_count 103 = .ok (.iconst 0, 1) := dk_3 (dk_at dksX2_count_2 19 rfl rfl)
theorem dX2_count_104 : decode cX2_count 104 = .ok (.invokevirtual 182, 3) := dk_182 0 182 (dk_at dksX2_count_2 20 rfl rfl)
theorem dX2_count_107 : decode cX2_count 107 = .ok (.ireturn, 1) := dk_172 (dk_at dksX2_count_2 23 rfl rfl)
theorem dX2_count_108 : decode cX2_count 108 = .ok (.aload_n 0, 1) := dk_42 (dk_at dksX2_count_3 0 rfl rfl)
theorem dX2_count_109 : decode cX2_count 109 = .ok (.getfield 7, 3) := dk_180 0 7 (dk_at dksX2_count_3 1 rfl rfl)
theorem dX2_count_112 : decode cX2_count 112 = .ok (.bipush 8, 2) := dk_16 8 (dk_at dksX2_count_3 4 rfl rfl)
theorem dX2_count_114 : decode cX2_count 114 = .ok (.iaload, 1) := dk_46 (dk_at dksX2_count_3 6 rfl rfl)
theorem dX2_count_115 : decode cX2_count 115 = .ok (.ireturn, 1) := dk_172 (dk_at dksX2_count_3 7 rfl rfl)
theorem dX2_count_116 : decode cX2_count 116 = .ok (.aload_n 0, 1) := dk_42 (dk_at dksX2_count_3 8 rfl rfl)
theorem dX2_count_117 : decode cX2_count 117 = .ok (.iconst 1, 1) := dk_4 (dk_at dksX2_count_3 9 rfl rfl)
theorem dX2_count_118 : decode cX2_count 118 = .ok (.invokevirtual 186, 3) := dk_182 0 186 (dk_at dksX2_count_3 10 rfl rfl)
theorem dX2_count_121 : decode cX2_count 121 = .ok (.ireturn, 1) := dk_172 (dk_at dksX2_count_3 13 rfl rfl)
theorem dX2_count_122 : decode cX2_count 122 = .ok (.aload_n 0, 1) := dk_42 (dk_at dksX2_count_3 14 rfl rfl)
theorem dX2_count_123 : decode cX2_count 123 = .ok (.getfield 7, 3) := dk_180 0 7 (dk_at dksX2_count_3 15 rfl rfl)
theorem dX2_count_126 : decode cX2_count 126 = .ok (.bipush 9, 2) := dk_16 9 (dk_at dksX2_count_3 18 rfl rfl)
theorem dX2_count_128 : decode cX2_count 128 = .ok (.iload_n 1, 1) := dk_27 (dk_at dksX2_count_3 20 rfl rfl)
theorem dX2_count_129 : decode cX2_count 129 = .ok (.iadd, 1) := dk_96 (dk_at dksX2_count_3 21 rfl rfl)
theorem dX2_count_130 : decode cX2_count 130 = .ok (.bipush 8, 2) := dk_16 8 (dk_at dksX2_count_3 22 rfl rfl)
theorem dX2_count_132 : decode cX2_count 132 = .ok (.isub, 1) := dk_100 (dk_at dksX2_count_4 0 rfl rfl)
theorem dX2_count_133 : decode cX2_count 133 = .ok (.iaload, 1) := dk_46 (dk_at dksX2_count_4 1 rfl rfl)
theorem dX2_count_134 : decode cX2_count 134 = .ok (.ireturn, 1) := dk_172 (dk_at dksX2_count_4 2 rfl rfl)
theorem dX2_count_135 : decode cX2_count 135 = .ok (.aload_n 0, 1) := dk_42 (dk_at dksX2_count_4 3 rfl rfl)
theorem dX2_count_136 : decode cX2_count 136 = .ok (.getfield 7, 3) := dk_180 0 7 (dk_at dksX2_count_4 4 rfl rfl)
theorem dX2_count_139 : decode cX2_count 139 = .ok (.iconst 1, 1) := dk_4 (dk_at dksX2_count_4 7 rfl rfl)
theorem dX2_count_140 : decode cX2_count 140 = .ok (.iaload, 1) := dk_46 (dk_at dksX2_count_4 8 rfl rfl)
theorem dX2_count_141 : decode cX2_count 141 = .ok (.ireturn, 1) := dk_172 (dk_at dksX2_count_4 9 rfl rfl)
theorem dX2_count_142 : decode cX2_count 142 = .ok (.aload_n 0, 1) := dk_42 (dk_at dksX2_count_4 10 rfl rfl)
theorem dX2_count_143 : decode cX2_count 143 = .ok (.getfield 7, 3) := dk_180 0 7 (dk_at dksX2_count_4 11 rfl rfl)
theorem dX2_count_146 : decode cX2_count 146 = .ok (.iconst 0, 1) := dk_3 (dk_at dksX2_count_4 14 rfl rfl)
theorem dX2_count_147 : decode cX2_count 147 = .ok (.iaload, 1) := dk_46 (dk_at dksX2_count_4 15 rfl rfl)
theorem dX2_count_148 : decode cX2_count 148 = .ok (.ireturn, 1) := dk_172 (dk_at dksX2_count_4 16 rfl rfl)
theorem dX2_count_149 : decode cX2_count 149 = .ok (.aload_n 0, 1) := dk_42 (dk_at dksX2_count_4 17 rfl rfl)
theorem dX2_count_150 : decode cX2_count 150 = .ok (.getfield 7, 3) := dk_180 0 7 (dk_at dksX2_count_4 18 rfl rfl)
theorem dX2_count_153 : decode cX2_count 153 = .ok (.iconst 2, 1) := dk_5 (dk_at dksX2_count_4 21 rfl rfl)
theorem dX2_count_154 : decode cX2_count 154 = .ok (.iaload, 1) := dk_46 (dk_at dksX2_count_4 22 rfl rfl)
theorem dX2_count_155 : decode cX2_count 155 = .ok (.bipush 100, 2) := dk_16 100 (dk_at dksX2_count_5 0 rfl rfl)
theorem dX2_count_157 : decode cX2_count 157 = .ok (.iadd, 1) := dk_96 (dk_at dksX2_count_5 2 rfl rfl)
theorem dX2_count_158 : decode cX2_count 158 = .ok (.ireturn, 1) := dk_172 (dk_at dksX2_count_5 3 rfl rfl)
theorem dX2_count_159 : decode cX2_count 159 = .ok (.aload_n 0, 1) := dk_42 (dk_at dksX2_count_5 4 rfl rfl)
theorem dX2_count_160 : decode cX2_count 160 = .ok (.getfield 7, 3) := dk_180 0 7 (dk_at dksX2_count_5 5 rfl rfl)
theorem dX2_count_163 : decode cX2_count 163 = .ok (.iconst 3, 1) := dk_6 (dk_at dksX2_count_5 8 rfl rfl)
theorem dX2_count_164 : decode cX2_count 164 = .ok (.iaload, 1) := dk_46 (dk_at dksX2_count_5 9 rfl rfl)
theorem dX2_count_165 : decode cX2_count 165 = .ok (.ireturn, 1) := dk_172 (dk_at dksX2_count_5 10 rfl rfl)
theorem dX2_count_166 : decode cX2_count 166 = .ok (.aload_n 0, 1) := dk_42 (dk_at dksX2_count_5 11 rfl rfl)
theorem dX2_count_167 : decode cX2_count 167 = .ok (.getfield 189, 3) := dk_180 0 189 (dk_at dksX2_count_5 12 rfl rfl)
theorem dX2_count_170 : decode cX2_count 170 = .ok (.ireturn, 1) := dk_172 (dk_at dksX2_count_5 15 rfl rfl)
theorem dX2_count_171 : decode cX2_count 171 = .ok (.aload_n 0, 1) := dk_42 (dk_at dksX2_count_5 16 rfl rfl)
theorem dX2_count_172 : decode cX2_count 172 = .ok (.getfield 43, 3) := dk_180 0 43 (dk_at dksX2_count_5 17 rfl rfl)
theorem dX2_count_175 : decode cX2_count 175 = .ok (.ireturn, 1) := dk_172 (dk_at dksX2_count_5 20 rfl rfl)
theorem dX2_count_176 : decode cX2_count 176 = .ok (.bipush (-2), 2) := dk_16 254 (dk_at dksX2_count_5 21 rfl rfl)
theorem dX2_count_178 : decode cX2_count 178 = .ok (.ireturn, 1) := dk_172 (dk_at dksX2_count_5 23 rfl rfl)
abbrev cX2_setOf : ByteArray := prog_8_method_60_code
def yX2_setOf : MethodName := ⟨RX2, "setOf", "(Z)I"⟩
def dkwX2_setOf_3 : List UInt8 := [128, 61, 132, 3, 1, 167, 255, 184, 28, 172]
abbrev dktX2_setOf_3 : List UInt8 := dkwX2_setOf_3 ++ []
def dkwX2_setOf_2 : List UInt8 := [167, 0, 9, 42, 29, 4, 182, 0, 50, 54, 4, 28, 21, 4, 153, 0, 9, 4, 29, 120, 167, 0, 4, 3]
abbrev dktX2_setOf_2 : List UInt8 := dkwX2_setOf_2 ++ dktX2_setOf_3
def dkwX2_setOf_1 : List UInt8 := [16, 6, 184, 0, 47, 46, 4, 160, 0, 16, 42, 29, 7, 182, 0, 50, 154, 0, 7, 4, 167, 0, 13, 3]
abbrev dktX2_setOf_1 : List UInt8 := dkwX2_setOf_1 ++ dktX2_setOf_2
def dkwX2_setOf_0 : List UInt8 := [3, 61, 3, 62, 29, 42, 180, 0, 7, 8, 46, 162, 0, 68, 27, 153, 0, 35, 42, 180, 0, 7, 29]
abbrev dktX2_setOf_0 : List UInt8 := dkwX2_setOf_0 ++ dktX2_setOf_1
theorem dksX2_setOf_0 : cX2_setOf.data.toList.drop 0 = dktX2_setOf_0 := by decide +kernel
theorem dksX2_setOf_1 : cX2_setOf.data.toList.drop 23 = dktX2_setOf_1 := dk_seg dksX2_setOf_0 23 rfl rfl
theorem dksX2_setOf_2 : cX2_setOf.data.toList.drop 47 = dktX2_setOf_2 := dk_seg dksX2_setOf_1 24 rfl rfl
theorem dksX2_setOf_3 : cX2_setOf.data.toList.drop 71 = dktX2_setOf_3 := dk_seg dksX2_setOf_2 24 rfl rfl
theorem dX2_setOf_0 : decode cX2_setOf 0 = .ok (.iconst 0, 1) := dk_3 (dk_at dksX2_setOf_0 0 rfl rfl)
theorem dX2_setOf_1 : decode cX2_setOf 1 = .ok (.istore_n 2, 1) := dk_61 (dk_at dksX2_setOf_0 1 rfl rfl)
theorem dX2_setOf_2 : decode cX2_setOf 2 = .ok (.iconst 0, 1) := dk_3 (dk_at dksX2_setOf_0 2 rfl rfl)
theorem dX2_setOf_3 : decode cX2_setOf 3 = .ok (.istore_n 3, 1) := dk_62 (dk_at dksX2_setOf_0 3 rfl rfl)
theorem dX2_setOf_4 : decode cX2_setOf 4 = .ok (.iload_n 3, 1) := dk_29 (dk_at dksX2_setOf_0 4 rfl rfl)
theorem dX2_setOf_5 : decode cX2_setOf 5 = .ok (.aload_n 0, 1) := dk_42 (dk_at dksX2_setOf_0 5 rfl rfl)
theorem dX2_setOf_6 : decode cX2_setOf 6 = .ok (.getfield 7, 3) := dk_180 0 7 (dk_at dksX2_setOf_0 6 rfl rfl)
theorem dX2_setOf_9 : decode cX2_setOf 9 = .ok (.iconst 5, 1) := dk_8 (dk_at dksX2_setOf_0 9 rfl rfl)
theorem dX2_setOf_10 : decode cX2_setOf 10 = .ok (.iaload, 1) := dk_46 (dk_at dksX2_setOf_0 10 rfl rfl)
theorem dX2_setOf_11 : decode cX2_setOf 11 = .ok (.if_icmp .ge 68, 3) := dk_162 0 68 (dk_at dksX2_setOf_0 11 rfl rfl)
theorem dX2_setOf_14 : decode cX2_setOf 14 = .ok (.iload_n 1, 1) := dk_27 (dk_at dksX2_setOf_0 14 rfl rfl)
theorem dX2_setOf_15 : decode cX2_setOf 15 = .ok (.ifCond .eq 35, 3) := dk_153 0 35 (dk_at dksX2_setOf_0 15 rfl rfl)
theorem dX2_setOf_18 : decode cX2_setOf 18 = .ok (.aload_n 0, 1) := dk_42 (dk_at dksX2_setOf_0 18 rfl rfl)
theorem dX2_setOf_19 : decode cX2_setOf 19 = .ok (.getfield 7, 3) := dk_180 0 7 (dk_at dksX2_setOf_0 19 rfl rfl)
theorem dX2_setOf_22 : decode cX2_setOf 22 = .ok (.iload_n 3, 1) := dk_29 (dk_at dksX2_setOf_0 22 rfl rfl)
theorem dX2_setOf_23 : decode cX2_setOf 23 = .ok (.bipush 6, 2) := dk_16 6 (dk_at dksX2_setOf_1 0 rfl rfl)
theorem dX2_setOf_25 : decode cX2_setOf 25 = .ok (.invokestatic 47, 3) := dk_184 0 47 (dk_at dksX2_setOf_1 2 rfl rfl)
theorem dX2_setOf_28 : decode cX2_setOf 28 = .ok (.iaload, 1) := dk_46 (dk_at dksX2_setOf_1 5 rfl rfl)
theorem dX2_setOf_29 : decode cX2_setOf 29 = .ok (.iconst 1, 1) := dk_4 (dk_at dksX2_setOf_1 6 rfl rfl)
theorem dX2_setOf_30 : decode cX2_setOf 30 = .ok (.if_icmp .ne 16, 3) := dk_160 0 16 (dk_at dksX2_setOf_1 7 rfl rfl)
theorem dX2_setOf_33 : decode cX2_setOf 33 = .ok (.aload_n 0, 1) := dk_42 (dk_at dksX2_setOf_1 10 rfl rfl)
theorem dX2_setOf_34 : decode cX2_setOf 34 = .ok (.iload_n 3, 1) := dk_29 (dk_at dksX2_setOf_1 11 rfl rfl)
theorem dX2_setOf_35 : decode cX2_setOf 35 = .ok (.iconst 4, 1) := dk_7 (dk_at dksX2_setOf_1 12 rfl rfl)
theorem dX2_setOf_36 : decode cX2_setOf 36 = .ok (.invokevirtual 50, 3) := dk_182 0 50 (dk_at dksX2_setOf_1 13 rfl rfl)
theorem dX2_setOf_39 : decode cX2_setOf 39 = .ok (.ifCond .ne 7, 3) := dk_154 0 7 (dk_at dksX2_setOf_1 16 rfl rfl)
theorem dX2_setOf_42 : decode cX2_setOf 42 = .ok (.iconst 1, 1) := dk_4 (dk_at dksX2_setOf_1 19 rfl rfl)
theorem dX2_setOf_43 : decode cX2_setOf 43 = .ok (.goto 13, 3) := dk_167 0 13 (dk_at dksX2_setOf_1 20 rfl rfl)
theorem dX2_setOf_46 : decode cX2_setOf 46 = .ok (.iconst 0, 1) := dk_3 (dk_at dksX2_setOf_1 23 rfl rfl)
theorem dX2_setOf_47 : decode cX2_setOf 47 = .ok (.goto 9, 3) := dk_167 0 9 (dk_at dksX2_setOf_2 0 rfl rfl)
theorem dX2_setOf_50 : decode cX2_setOf 50 = .ok (.aload_n 0, 1) := dk_42 (dk_at dksX2_setOf_2 3 rfl rfl)
theorem dX2_setOf_51 : decode cX2_setOf 51 = .ok (.iload_n 3, 1) := dk_29 (dk_at dksX2_setOf_2 4 rfl rfl)
theorem dX2_setOf_52 : decode cX2_setOf 52 = .ok (.iconst 1, 1) := dk_4 (dk_at dksX2_setOf_2 5 rfl rfl)
theorem dX2_setOf_53 : decode cX2_setOf 53 = .ok (.invokevirtual 50, 3) := dk_182 0 50 (dk_at dksX2_setOf_2 6 rfl rfl)
theorem dX2_setOf_56 : decode cX2_setOf 56 = .ok (.istore 4, 2) := dk_54 4 (dk_at dksX2_setOf_2 9 rfl rfl)
theorem dX2_setOf_58 : decode cX2_setOf 58 = .ok (.iload_n 2, 1) := dk_28 (dk_at dksX2_setOf_2 11 rfl rfl)
theorem dX2_setOf_59 : decode cX2_setOf 59 = .ok (.iload 4, 2) := dk_21 4 (dk_at dksX2_setOf_2 12 rfl rfl)
theorem dX2_setOf_61 : decode cX2_setOf 61 = .ok (.ifCond .eq 9, 3) := dk_153 0 9 (dk_at dksX2_setOf_2 14 rfl rfl)
theorem dX2_setOf_64 : decode cX2_setOf 64 = .ok (.iconst 1, 1) := dk_4 (dk_at dksX2_setOf_2 17 rfl rfl)
theorem dX2_setOf_65 : decode cX2_setOf 65 = .ok (.iload_n 3, 1) := dk_29 (dk_at dksX2_setOf_2 18 rfl rfl)
theorem dX2_setOf_66 : decode cX2_setOf 66 = .ok (.ishl, 1) := dk_120 (dk_at dksX2_setOf_2 19 rfl rfl)
theorem dX2_setOf_67 : decode cX2_setOf 67 = .ok (.goto 4, 3) := dk_167 0 4 (dk_at dksX2_setOf_2 20 rfl rfl)
theorem dX2_setOf_70 : decode cX2_setOf 70 = .ok (.iconst 0, 1) := dk_3 (dk_at dksX2_setOf_2 23 rfl rfl)
theorem dX2_setOf_71 : decode cX2_setOf 71 = .ok (.ior, 1) := dk_128 (dk_at dksX2_setOf_3 0 rfl rfl)
theorem dX2_setOf_72 : decode cX2_setOf 72 = .ok (.istore_n 2, 1) := dk_61 (dk_at dksX2_setOf_3 1 rfl rfl)
theorem dX2_setOf_73 : decode cX2_setOf 73 = .ok (.iinc 3 1, 3) := dk_132 3 1 (dk_at dksX2_setOf_3 2 rfl rfl)
theorem dX2_setOf_76 : decode cX2_setOf 76 = .ok (.goto (-72), 3) := dk_167 255 184 (dk_at dksX2_setOf_3 5 rfl rfl)
theorem dX2_setOf_79 : decode cX2_setOf 79 = .ok (.iload_n 2, 1) := dk_28 (dk_at dksX2_setOf_3 8 rfl rfl)
theorem dX2_setOf_80 : decode cX2_setOf 80 = .ok (.ireturn, 1) := dk_172 (dk_at dksX2_setOf_3 9 rfl rfl)
abbrev cX2_notCut : ByteArray := prog_8_method_61_code
def yX2_notCut : MethodName := ⟨RX2, "notCut", "(Z)I"⟩
def dkwX2_notCut_2 : List UInt8 := [167, 255, 214, 28, 172]
abbrev dktX2_notCut_2 : List UInt8 := dkwX2_notCut_2 ++ []
def dkwX2_notCut_1 : List UInt8 := [3, 167, 0, 16, 27, 153, 0, 11, 42, 29, 182, 0, 58, 167, 0, 4, 4, 96, 61, 132, 3, 1]
abbrev dktX2_notCut_1 : List UInt8 := dkwX2_notCut_1 ++ dktX2_notCut_2
def dkwX2_notCut_0 : List UInt8 := [3, 61, 3, 62, 29, 42, 180, 0, 7, 8, 46, 162, 0, 38, 28, 42, 29, 7, 182, 0, 50, 153, 0, 7]
abbrev dktX2_notCut_0 : List UInt8 := dkwX2_notCut_0 ++ dktX2_notCut_1
theorem dksX2_notCut_0 : cX2_notCut.data.toList.drop 0 = dktX2_notCut_0 := by decide +kernel
theorem dksX2_notCut_1 : cX2_notCut.data.toList.drop 24 = dktX2_notCut_1 := dk_seg dksX2_notCut_0 24 rfl rfl
theorem dksX2_notCut_2 : cX2_notCut.data.toList.drop 46 = dktX2_notCut_2 := dk_seg dksX2_notCut_1 22 rfl rfl
theorem dX2_notCut_0 : decode cX2_notCut 0 = .ok (.iconst 0, 1) := dk_3 (dk_at dksX2_notCut_0 0 rfl rfl)
theorem dX2_notCut_1 : decode cX2_notCut 1 = .ok (.istore_n 2, 1) := dk_61 (dk_at dksX2_notCut_0 1 rfl rfl)
theorem dX2_notCut_2 : decode cX2_notCut 2 = .ok (.iconst 0, 1) := dk_3 (dk_at dksX2_notCut_0 2 rfl rfl)
theorem dX2_notCut_3 : decode cX2_notCut 3 = .ok (.istore_n 3, 1) := dk_62 (dk_at dksX2_notCut_0 3 rfl rfl)
theorem dX2_notCut_4 : decode cX2_notCut 4 = .ok (.iload_n 3, 1) := dk_29 (dk_at dksX2_notCut_0 4 rfl rfl)
theorem dX2_notCut_5 : decode cX2_notCut 5 = .ok (.aload_n 0, 1) := dk_42 (dk_at dksX2_notCut_0 5 rfl rfl)
theorem dX2_notCut_6 : decode cX2_notCut 6 = .ok (.getfield 7, 3) := dk_180 0 7 (dk_at dksX2_notCut_0 6 rfl rfl)
theorem dX2_notCut_9 : decode cX2_notCut 9 = .ok (.iconst 5, 1) := dk_8 (dk_at dksX2_notCut_0 9 rfl rfl)
theorem dX2_notCut_10 : decode cX2_notCut 10 = .ok (.iaload, 1) := dk_46 (dk_at dksX2_notCut_0 10 rfl rfl)
theorem dX2_notCut_11 : decode cX2_notCut 11 = .ok (.if_icmp .ge 38, 3) := dk_162 0 38 (dk_at dksX2_notCut_0 11 rfl rfl)
theorem dX2_notCut_14 : decode cX2_notCut 14 = .ok (.iload_n 2, 1) := dk_28 (dk_at dksX2_notCut_0 14 rfl rfl)
theorem dX2_notCut_15 : decode cX2_notCut 15 = .ok (.aload_n 0, 1) := dk_42 (dk_at dksX2_notCut_0 15 rfl rfl)
theorem dX2_notCut_16 : decode cX2_notCut 16 = .ok (.iload_n 3, 1) := dk_29 (dk_at dksX2_notCut_0 16 rfl rfl)
theorem dX2_notCut_17 : decode cX2_notCut 17 = .ok (.iconst 4, 1) := dk_7 (dk_at dksX2_notCut_0 17 rfl rfl)
theorem dX2_notCut_18 : decode cX2_notCut 18 = .ok (.invokevirtual 50, 3) := dk_182 0 50 (dk_at dksX2_notCut_0 18 rfl rfl)
theorem dX2_notCut_21 : decode cX2_notCut 21 = .ok (.ifCond .eq 7, 3) := dk_153 0 7 (dk_at dksX2_notCut_0 21 rfl rfl)
theorem dX2_notCut_24 : decode cX2_notCut 24 = .ok (.iconst 0, 1) := dk_3 (dk_at dksX2_notCut_1 0 rfl rfl)
theorem dX2_notCut_25 : decode cX2_notCut 25 = .ok (.goto 16, 3) := dk_167 0 16 (dk_at dksX2_notCut_1 1 rfl rfl)
theorem dX2_notCut_28 : decode cX2_notCut 28 = .ok (.iload_n 1, 1) := dk_27 (dk_at dksX2_notCut_1 4 rfl rfl)
theorem dX2_notCut_29 : decode cX2_notCut 29 = .ok (.ifCond .eq 11, 3) := dk_153 0 11 (dk_at dksX2_notCut_1 5 rfl rfl)
theorem dX2_notCut_32 : decode cX2_notCut 32 = .ok (.aload_n 0, 1) := dk_42 (dk_at dksX2_notCut_1 8 rfl rfl)
theorem dX2_notCut_33 : decode cX2_notCut 33 = .ok (.iload_n 3, 1) := dk_29 (dk_at dksX2_notCut_1 9 rfl rfl)
theorem dX2_notCut_34 : decode cX2_notCut 34 = .ok (.invokevirtual 58, 3) := dk_182 0 58 (dk_at dksX2_notCut_1 10 rfl rfl)
theorem dX2_notCut_37 : decode cX2_notCut 37 = .ok (.goto 4, 3) := dk_167 0 4 (dk_at dksX2_notCut_1 13 rfl rfl)
theorem dX2_notCut_40 : decode cX2_notCut 40 = .ok (.iconst 1, 1) := dk_4 (dk_at dksX2_notCut_1 16 rfl rfl)
theorem dX2_notCut_41 : decode cX2_notCut 41 = .ok (.iadd, 1) := dk_96 (dk_at dksX2_notCut_1 17 rfl rfl)
theorem dX2_notCut_42 : decode cX2_notCut 42 = .ok (.istore_n 2, 1) := dk_61 (dk_at dksX2_notCut_1 18 rfl rfl)
theorem dX2_notCut_43 : decode cX2_notCut 43 = .ok (.iinc 3 1, 3) := dk_132 3 1 (dk_at dksX2_notCut_1 19 rfl rfl)
theorem dX2_notCut_46 : decode cX2_notCut 46 = .ok (.goto (-42), 3) := dk_167 255 214 (dk_at dksX2_notCut_2 0 rfl rfl)
theorem dX2_notCut_49 : decode cX2_notCut 49 = .ok (.iload_n 2, 1) := dk_28 (dk_at dksX2_notCut_2 3 rfl rfl)
theorem dX2_notCut_50 : decode cX2_notCut 50 = .ok (.ireturn, 1) := dk_172 (dk_at dksX2_notCut_2 4 rfl rfl)
abbrev cX2_meanWeight : ByteArray := prog_8_method_64_code
def yX2_meanWeight : MethodName := ⟨RX2, "meanWeight", "()J"⟩
def dkwX2_meanWeight_1 : List UInt8 := [184, 0, 202, 173]
abbrev dktX2_meanWeight_1 : List UInt8 := dkwX2_meanWeight_1 ++ []
def dkwX2_meanWeight_0 : List UInt8 := [42, 3, 182, 0, 186, 60, 27, 154, 0, 7, 9, 167, 0, 15, 42, 4, 182, 0, 186, 135, 27, 135, 111]
abbrev dktX2_meanWeight_0 : List UInt8 := dkwX2_meanWeight_0 ++ dktX2_meanWeight_1
theorem dksX2_meanWeight_0 : cX2_meanWeight.data.toList.drop 0 = dktX2_meanWeight_0 := by decide +kernel
theorem dksX2_meanWeight_1 : cX2_meanWeight.data.toList.drop 23 = dktX2_meanWeight_1 := dk_seg dksX2_meanWeight_0 23 rfl rfl
theorem dX2_meanWeight_0 : decode cX2_meanWeight 0 = .ok (.aload_n 0, 1) := dk_42 (dk_at dksX2_meanWeight_0 0 rfl rfl)
theorem dX2_meanWeight_1 : decode cX2_meanWeight 1 = .ok (.iconst 0, 1) := dk_3 (dk_at dksX2_meanWeight_0 1 rfl rfl)
theorem dX2_meanWeight_2 : decode cX2_meanWeight 2 = .ok (.invokevirtual 186, 3) := dk_182 0 186 (dk_at dksX2_meanWeight_0 2 rfl rfl)
theorem dX2_meanWeight_5 : decode cX2_meanWeight 5 = .ok (.istore_n 1, 1) := dk_60 (dk_at dksX2_meanWeight_0 5 rfl rfl)
theorem dX2_meanWeight_6 : decode cX2_meanWeight 6 = .ok (.iload_n 1, 1) := dk_27 (dk_at dksX2_meanWeight_0 6 rfl rfl)
theorem dX2_meanWeight_7 : decode cX2_meanWeight 7 = .ok (.ifCond .ne 7, 3) := dk_154 0 7 (dk_at dksX2_meanWeight_0 7 rfl rfl)
theorem dX2_meanWeight_10 : decode cX2_meanWeight 10 = .ok (.lconst 0, 1) := dk_9 (dk_at dksX2_meanWeight_0 10 rfl rfl)
theorem dX2_meanWeight_11 : decode cX2_meanWeight 11 = .ok (.goto 15, 3) := dk_167 0 15 (dk_at dksX2_meanWeight_0 11 rfl rfl)
theorem dX2_meanWeight_14 : decode cX2_meanWeight 14 = .ok (.aload_n 0, 1) := dk_42 (dk_at dksX2_meanWeight_0 14 rfl rfl)
theorem dX2_meanWeight_15 : decode cX2_meanWeight 15 = .ok (.iconst 1, 1) := dk_4 (dk_at dksX2_meanWeight_0 15 rfl rfl)
theorem dX2_meanWeight_16 : decode cX2_meanWeight 16 = .ok (.invokevirtual 186, 3) := dk_182 0 186 (dk_at dksX2_meanWeight_0 16 rfl rfl)
theorem dX2_meanWeight_19 : decode cX2_meanWeight 19 = .ok (.i2d, 1) := dk_135 (dk_at dksX2_meanWeight_0 19 rfl rfl)
theorem dX2_meanWeight_20 : decode cX2_meanWeight 20 = .ok (.iload_n 1, 1) := dk_27 (dk_at dksX2_meanWeight_0 20 rfl rfl)
theorem dX2_meanWeight_21 : decode cX2_meanWeight 21 = .ok (.i2d, 1) := dk_135 (dk_at dksX2_meanWeight_0 21 rfl rfl)
theorem dX2_meanWeight_22 : decode cX2_meanWeight 22 = .ok (.ddiv, 1) := dk_111 (dk_at dksX2_meanWeight_0 22 rfl rfl)
theorem dX2_meanWeight_23 : decode cX2_meanWeight 23 = .ok (.invokestatic 202, 3) := dk_184 0 202 (dk_at dksX2_meanWeight_1 0 rfl rfl)
theorem dX2_meanWeight_26 : decode cX2_meanWeight 26 = .ok (.lreturn, 1) := dk_173 (dk_at dksX2_meanWeight_1 3 rfl rfl)
abbrev cX2_bitsOf : ByteArray := prog_8_method_63_code
def yX2_bitsOf : MethodName := ⟨RX2, "bitsOf", "(D)J"⟩
def dkwX2_bitsOf_3 : List UInt8 := [20, 0, 200, 107, 143, 97, 173]
abbrev dktX2_bitsOf_3 : List UInt8 := dkwX2_bitsOf_3 ++ []
def dkwX2_bitsOf_2 : List UInt8 := [20, 0, 196, 107, 57, 4, 32, 10, 97, 65, 167, 255, 235, 32, 20, 0, 198, 105, 24, 4, 15, 103]
abbrev dktX2_bitsOf_2 : List UInt8 := dkwX2_bitsOf_2 ++ dktX2_bitsOf_3
def dkwX2_bitsOf_1 : List UInt8 := [20, 0, 194, 107, 57, 4, 32, 10, 101, 65, 167, 255, 237, 24, 4, 20, 0, 194, 151, 155, 0, 18, 24, 4]
abbrev dktX2_bitsOf_1 : List UInt8 := dkwX2_bitsOf_1 ++ dktX2_bitsOf_2
def dkwX2_bitsOf_0 : List UInt8 := [38, 14, 151, 154, 0, 5, 9, 173, 20, 0, 192, 65, 38, 57, 4, 24, 4, 15, 152, 156, 0, 18, 24, 4]
abbrev dktX2_bitsOf_0 : List UInt8 := dkwX2_bitsOf_0 ++ dktX2_bitsOf_1
theorem dksX2_bitsOf_0 : cX2_bitsOf.data.toList.drop 0 = dktX2_bitsOf_0 := by decide +kernel
theorem dksX2_bitsOf_1 : cX2_bitsOf.data.toList.drop 24 = dktX2_bitsOf_1 := dk_seg dksX2_bitsOf_0 24 rfl rfl
theorem dksX2_bitsOf_2 : cX2_bitsOf.data.toList.drop 48 = dktX2_bitsOf_2 := dk_seg dksX2_bitsOf_1 24 rfl rfl
theorem dksX2_bitsOf_3 : cX2_bitsOf.data.toList.drop 70 = dktX2_bitsOf_3 := dk_seg dksX2_bitsOf_2 22 rfl rfl
theorem dX2_bitsOf_0 : decode cX2_bitsOf 0 = .ok (.dload_n 0, 1) := dk_38 (dk_at dksX2_bitsOf_0 0 rfl rfl)
theorem dX2_bitsOf_1 : decode cX2_bitsOf 1 = .ok (.dconst 0, 1) := dk_14 (dk_at dksX2_bitsOf_0 1 rfl rfl)
theorem dX2_bitsOf_2 : decode cX2_bitsOf 2 = .ok (.dcmp .l, 1) := dk_151 (dk_at dksX2_bitsOf_0 2 rfl rfl)
theorem dX2_bitsOf_3 : decode cX2_bitsOf 3 = .ok (.ifCond .ne 5, 3) := dk_154 0 5 (dk_at dksX2_bitsOf_0 3 rfl rfl)
theorem dX2_bitsOf_6 : decode cX2_bitsOf 6 = .ok (.lconst 0, 1) := dk_9 (dk_at dksX2_bitsOf_0 6 rfl rfl)
theorem dX2_bitsOf_7 : decode cX2_bitsOf 7 = .ok (.lreturn, 1) := dk_173 (dk_at dksX2_bitsOf_0 7 rfl rfl)
theorem dX2_bitsOf_8 : decode cX2_bitsOf 8 = .ok (.ldc2_w 192, 3) := dk_20 0 192 (dk_at dksX2_bitsOf_0 8 rfl rfl)
theorem dX2_bitsOf_11 : decode cX2_bitsOf 11 = .ok (.lstore_n 2, 1) := dk_65 (dk_at dksX2_bitsOf_0 11 rfl rfl)
theorem dX2_bitsOf_12 : decode cX2_bitsOf 12 = .ok (.dload_n 0, 1) := dk_38 (dk_at dksX2_bitsOf_0 12 rfl rfl)
theorem dX2_bitsOf_13 : decode cX2_bitsOf 13 = .ok (.dstore 4, 2) := dk_57 4 (dk_at dksX2_bitsOf_0 13 rfl rfl)
theorem dX2_bitsOf_15 : decode cX2_bitsOf 15 = .ok (.dload 4, 2) := dk_24 4 (dk_at dksX2_bitsOf_0 15 rfl rfl)
theorem dX2_bitsOf_17 : decode cX2_bitsOf 17 = .ok (.dconst 1, 1) := dk_15 (dk_at dksX2_bitsOf_0 17 rfl rfl)
theorem dX2_bitsOf_18 : decode cX2_bitsOf 18 = .ok (.dcmp .g, 1) := dk_152 (dk_at dksX2_bitsOf_0 18 rfl rfl)
theorem dX2_bitsOf_19 : decode cX2_bitsOf 19 = .ok (.ifCond .ge 18, 3) := dk_156 0 18 (dk_at dksX2_bitsOf_0 19 rfl rfl)
theorem dX2_bitsOf_22 : decode cX2_bitsOf 22 = .ok (.dload 4, 2) := dk_24 4 (dk_at dksX2_bitsOf_0 22 rfl rfl)
theorem dX2_bitsOf_24 : decode cX2_bitsOf 24 = .ok (.ldc2_w 194, 3) := dk_20 0 194 (dk_at dksX2_bitsOf_1 0 rfl rfl)
theorem dX2_bitsOf_27 : decode cX2_bitsOf 27 = .ok (.dmul, 1) := dk_107 (dk_at dksX2_bitsOf_1 3 rfl rfl)
theorem dX2_bitsOf_28 : decode cX2_bitsOf 28 = .ok (.dstore 4, 2) := dk_57 4 (dk_at dksX2_bitsOf_1 4 rfl rfl)
theorem dX2_bitsOf_30 : decode cX2_bitsOf 30 = .ok (.lload_n 2, 1) := dk_32 (dk_at dksX2_bitsOf_1 6 rfl rfl)
theorem dX2_bitsOf_31 : decode cX2_bitsOf 31 = .ok (.lconst 1, 1) := dk_10 (dk_at dksX2_bitsOf_1 7 rfl rfl)
theorem dX2_bitsOf_32 : decode cX2_bitsOf 32 = .ok (.lsub, 1) := dk_101 (dk_at dksX2_bitsOf_1 8 rfl rfl)
theorem dX2_bitsOf_33 : decode cX2_bitsOf 33 = .ok (.lstore_n 2, 1) := dk_65 (dk_at dksX2_bitsOf_1 9 rfl rfl)
theorem dX2_bitsOf_34 : decode cX2_bitsOf 34 = .ok (.goto (-19), 3) := dk_167 255 237 (dk_at dksX2_bitsOf_1 10 rfl rfl)
theorem dX2_bitsOf_37 : decode cX2_bitsOf 37 = .ok (.dload 4, 2) := dk_24 4 (dk_at dksX2_bitsOf_1 13 rfl rfl)
theorem dX2_bitsOf_39 : decode cX2_bitsOf 39 = .ok (.ldc2_w 194, 3) := dk_20 0 194 (dk_at dksX2_bitsOf_1 15 rfl rfl)
theorem dX2_bitsOf_42 : decode cX2_bitsOf 42 = .ok (.dcmp .l, 1) := dk_151 (dk_at dksX2_bitsOf_1 18 rfl rfl)
theorem dX2_bitsOf_43 : decode cX2_bitsOf 43 = .ok (.ifCond .lt 18, 3) := dk_155 0 18 (dk_at dksX2_bitsOf_1 19 rfl rfl)
theorem dX2_bitsOf_46 : decode cX2_bitsOf 46 = .ok (.dload 4, 2) := dk_24 4 (dk_at dksX2_bitsOf_1 22 rfl rfl)
theorem dX2_bitsOf_48 : decode cX2_bitsOf 48 = .ok (.ldc2_w 196, 3) := dk_20 0 196 (dk_at dksX2_bitsOf_2 0 rfl rfl)
theorem dX2_bitsOf_51 : decode cX2_bitsOf 51 = .ok (.dmul, 1) := dk_107 (dk_at dksX2_bitsOf_2 3 rfl rfl)
theorem dX2_bitsOf_52 : decode cX2_bitsOf 52 = .ok (.dstore 4, 2) := dk_57 4 (dk_at dksX2_bitsOf_2 4 rfl rfl)
theorem dX2_bitsOf_54 : decode cX2_bitsOf 54 = .ok (.lload_n 2, 1) := dk_32 (dk_at dksX2_bitsOf_2 6 rfl rfl)
theorem dX2_bitsOf_55 : decode cX2_bitsOf 55 = .ok (.lconst 1, 1) := dk_10 (dk_at dksX2_bitsOf_2 7 rfl rfl)
theorem dX2_bitsOf_56 : decode cX2_bitsOf 56 = .ok (.ladd, 1) := dk_97 (dk_at dksX2_bitsOf_2 8 rfl rfl)
theorem dX2_bitsOf_57 : decode cX2_bitsOf 57 = .ok (.lstore_n 2, 1) := dk_65 (dk_at dksX2_bitsOf_2 9 rfl rfl)
theorem dX2_bitsOf_58 : decode cX2_bitsOf 58 = .ok (.goto (-21), 3) := dk_167 255 235 (dk_at dksX2_bitsOf_2 10 rfl rfl)
theorem dX2_bitsOf_61 : decode cX2_bitsOf 61 = .ok (.lload_n 2, 1) := dk_32 (dk_at dksX2_bitsOf_2 13 rfl rfl)
theorem dX2_bitsOf_62 : decode cX2_bitsOf 62 = .ok (.ldc2_w 198, 3) := dk_20 0 198 (dk_at dksX2_bitsOf_2 14 rfl rfl)
theorem dX2_bitsOf_65 : decode cX2_bitsOf 65 = .ok (.lmul, 1) := dk_105 (dk_at dksX2_bitsOf_2 17 rfl rfl)
theorem dX2_bitsOf_66 : decode cX2_bitsOf 66 = .ok (.dload 4, 2) := dk_24 4 (dk_at dksX2_bitsOf_2 18 rfl rfl)
theorem dX2_bitsOf_68 : decode cX2_bitsOf 68 = .ok (.dconst 1, 1) := dk_15 (dk_at dksX2_bitsOf_2 20 rfl rfl)
theorem dX2_bitsOf_69 : decode cX2_bitsOf 69 = .ok (.dsub, 1) := dk_103 (dk_at dksX2_bitsOf_2 21 rfl rfl)
theorem dX2_bitsOf_70 : decode cX2_bitsOf 70 = .ok (.ldc2_w 200, 3) := dk_20 0 200 (dk_at dksX2_bitsOf_3 0 rfl rfl)
theorem dX2_bitsOf_73 : decode cX2_bitsOf 73 = .ok (.dmul, 1) := dk_107 (dk_at dksX2_bitsOf_3 3 rfl rfl)
theorem dX2_bitsOf_74 : decode cX2_bitsOf 74 = .ok (.d2l, 1) := dk_143 (dk_at dksX2_bitsOf_3 4 rfl rfl)
theorem dX2_bitsOf_75 : decode cX2_bitsOf 75 = .ok (.ladd, 1) := dk_97 (dk_at dksX2_bitsOf_3 5 rfl rfl)
theorem dX2_bitsOf_76 : decode cX2_bitsOf 76 = .ok (.lreturn, 1) := dk_173 (dk_at dksX2_bitsOf_3 6 rfl rfl)
abbrev cX2_why : ByteArray := prog_8_method_65_code
def yX2_why : MethodName := ⟨RX2, "why", "(I)I"⟩
def dkwX2_why_0 : List UInt8 := [27, 184, 0, 122, 153, 0, 11, 42, 27, 182, 0, 125, 167, 0, 4, 2, 172]
abbrev dktX2_why_0 : List UInt8 := dkwX2_why_0 ++ []
theorem dksX2_why_0 : cX2_why.data.toList.drop 0 = dktX2_why_0 := by decide +kernel
theorem dX2_why_0 : decode cX2_why 0 = .ok (.iload_n 1, 1) := dk_27 (dk_at dksX2_why_0 0 rfl rfl)
theorem dX2_why_1 : decode cX2_why 1 = .ok (.invokestatic 122, 3) := dk_184 0 122 (dk_at dksX2_why_0 1 rfl rfl)
theorem dX2_why_4 : decode cX2_why 4 = .ok (.ifCond .eq 11, 3) := dk_153 0 11 (dk_at dksX2_why_0 4 rfl rfl)
theorem dX2_why_7 : decode cX2_why 7 = .ok (.aload_n 0, 1) := dk_42 (dk_at dksX2_why_0 7 rfl rfl)
theorem dX2_why_8 : decode cX2_why 8 = .ok (.iload_n 1, 1) := dk_27 (dk_at dksX2_why_0 8 rfl rfl)
theorem dX2_why_9 : decode cX2_why 9 = .ok (.invokevirtual 125, 3) := dk_182 0 125 (dk_at dksX2_why_0 9 rfl rfl)
theorem dX2_why_12 : decode cX2_why 12 = .ok (.goto 4, 3) := dk_167 0 4 (dk_at dksX2_why_0 12 rfl rfl)
theorem dX2_why_15 : decode cX2_why 15 = .ok (.iconst (-1), 1) := dk_2 (dk_at dksX2_why_0 15 rfl rfl)
theorem dX2_why_16 : decode cX2_why 16 = .ok (.ireturn, 1) := dk_172 (dk_at dksX2_why_0 16 rfl rfl)
abbrev cX2_bestBlock : ByteArray := prog_8_method_66_code
def yX2_bestBlock : MethodName := ⟨RX2, "bestBlock", "(I)I"⟩
def dkwX2_bestBlock_3 : List UInt8 := [163, 0, 7, 29, 167, 0, 4, 28, 61, 132, 3, 255, 167, 255, 213, 28, 172]
abbrev dktX2_bestBlock_3 : List UInt8 := dkwX2_bestBlock_3 ++ []
def dkwX2_bestBlock_2 : List UInt8 := [182, 0, 119, 153, 0, 28, 28, 16, 250, 159, 0, 18, 42, 27, 29, 182, 0, 72, 42, 27, 28, 182, 0, 72]
abbrev dktX2_bestBlock_2 : List UInt8 := dkwX2_bestBlock_2 ++ dktX2_bestBlock_3
def dkwX2_bestBlock_1 : List UInt8 := [16, 251, 172, 16, 250, 61, 42, 180, 0, 7, 8, 46, 4, 100, 62, 29, 155, 0, 45, 42, 27, 29]
abbrev dktX2_bestBlock_1 : List UInt8 := dkwX2_bestBlock_1 ++ dktX2_bestBlock_2
def dkwX2_bestBlock_0 : List UInt8 := [42, 27, 182, 0, 116, 154, 0, 5, 2, 172, 42, 180, 0, 7, 27, 6, 184, 0, 66, 46, 153, 0, 6]
abbrev dktX2_bestBlock_0 : List UInt8 := dkwX2_bestBlock_0 ++ dktX2_bestBlock_1
theorem dksX2_bestBlock_0 : cX2_bestBlock.data.toList.drop 0 = dktX2_bestBlock_0 := by decide +kernel
theorem dksX2_bestBlock_1 : cX2_bestBlock.data.toList.drop 23 = dktX2_bestBlock_1 := dk_seg dksX2_bestBlock_0 23 rfl rfl
theorem dksX2_bestBlock_2 : cX2_bestBlock.data.toList.drop 45 = dktX2_bestBlock_2 := dk_seg dksX2_bestBlock_1 22 rfl rfl
theorem dksX2_bestBlock_3 : cX2_bestBlock.data.toList.drop 69 = dktX2_bestBlock_3 := dk_seg dksX2_bestBlock_2 24 rfl rfl
theorem dX2_bestBlock_0 : decode cX2_bestBlock 0 = .ok (.aload_n 0, 1) := dk_42 (dk_at dksX2_bestBlock_0 0 rfl rfl)
theorem dX2_bestBlock_1 : decode cX2_bestBlock 1 = .ok (.iload_n 1, 1) := dk_27 (dk_at dksX2_bestBlock_0 1 rfl rfl)
theorem dX2_bestBlock_2 : decode cX2_bestBlock 2 = .ok (.invokevirtual 116, 3) := dk_182 0 116 (dk_at dksX2_bestBlock_0 2 rfl rfl)
theorem dX2_bestBlock_5 : decode cX2_bestBlock 5 = .ok (.ifCond .ne 5, 3) := dk_154 0 5 (dk_at dksX2_bestBlock_0 5 rfl rfl)
theorem dX2_bestBlock_8 : decode cX2_bestBlock 8 = .ok (.iconst (-1), 1) := dk_2 (dk_at dksX2_bestBlock_0 8 rfl rfl)
theorem dX2_bestBlock_9 : decode cX2_bestBlock 9 = .ok (.ireturn, 1) := dk_172 (dk_at dksX2_bestBlock_0 9 rfl rfl)
theorem dX2_bestBlock_10 : decode cX2_bestBlock 10 = .ok (.aload_n 0, 1) := dk_42 (dk_at dksX2_bestBlock_0 10 rfl rfl)
theorem dX2_bestBlock_11 : decode cX2_bestBlock 11 = .ok (.getfield 7, 3) := dk_180 0 7 (dk_at dksX2_bestBlock_0 11 rfl rfl)
theorem dX2_bestBlock_14 : decode cX2_bestBlock 14 = .ok (.iload_n 1, 1) := dk_27 (dk_at dksX2_bestBlock_0 14 rfl rfl)
theorem dX2_bestBlock_15 : decode cX2_bestBlock 15 = .ok (.iconst 3, 1) := dk_6 (dk_at dksX2_bestBlock_0 15 rfl rfl)
theorem dX2_bestBlock_16 : decode cX2_bestBlock 16 = .ok (.invokestatic 66, 3) := dk_184 0 66 (dk_at dksX2_bestBlock_0 16 rfl rfl)
theorem dX2_bestBlock_19 : decode cX2_bestBlock 19 = .ok (.iaload, 1) := dk_46 (dk_at dksX2_bestBlock_0 19 rfl rfl)
theorem dX2_bestBlock_20 : decode cX2_bestBlock 20 = .ok (.ifCond .eq 6, 3) := dk_153 0 6 (dk_at dksX2_bestBlock_0 20 rfl rfl)
theorem dX2_bestBlock_23 : decode cX2_bestBlock 23 = .ok (.bipush (-5), 2) := dk_16 251 (dk_at dksX2_bestBlock_1 0 rfl rfl)
theorem dX2_bestBlock_25 : decode cX2_bestBlock 25 = .ok (.ireturn, 1) := dk_172 (dk_at dksX2_bestBlock_1 2 rfl rfl)
theorem dX2_bestBlock_26 : decode cX2_bestBlock 26 = .ok (.bipush (-6), 2) := dk_16 250 (dk_at dksX2_bestBlock_1 3 rfl rfl)
theorem dX2_bestBlock_28 : decode cX2_bestBlock 28 = .ok (.istore_n 2, 1) := dk_61 (dk_at dksX2_bestBlock_1 5 rfl rfl)
theorem dX2_bestBlock_29 : decode cX2_bestBlock 29 = .ok (.aload_n 0, 1) := dk_42 (dk_at dksX2_bestBlock_1 6 rfl rfl)
theorem dX2_bestBlock_30 : decode cX2_bestBlock 30 = .ok (.getfield 7, 3) := dk_180 0 7 (dk_at dksX2_bestBlock_1 7 rfl rfl)
theorem dX2_bestBlock_33 : decode cX2_bestBlock 33 = .ok (.iconst 5, 1) := dk_8 (dk_at dksX2_bestBlock_1 10 rfl rfl)
theorem dX2_bestBlock_34 : decode cX2_bestBlock 34 = .ok (.iaload, 1) := dk_46 (dk_at dksX2_bestBlock_1 11 rfl rfl)
theorem dX2_bestBlock_35 : decode cX2_bestBlock 35 = .ok (.iconst 1, 1) := dk_4 (dk_at dksX2_bestBlock_1 12 rfl rfl)
theorem dX2_bestBlock_36 : decode cX2_bestBlock 36 = .ok (.isub, 1) := dk_100 (dk_at dksX2_bestBlock_1 13 rfl rfl)
theorem dX2_bestBlock_37 : decode cX2_bestBlock 37 = .ok (.istore_n 3, 1) := dk_62 (dk_at dksX2_bestBlock_1 14 rfl rfl)
theorem dX2_bestBlock_38 : decode cX2_bestBlock 38 = .ok (.iload_n 3, 1) := dk_29 (dk_at dksX2_bestBlock_1 15 rfl rfl)
theorem dX2_bestBlock_39 : decode cX2_bestBlock 39 = .ok (.ifCond .lt 45, 3) := dk_155 0 45 (dk_at dksX2_bestBlock_1 16 rfl rfl)
theorem dX2_bestBlock_42 : decode cX2_bestBlock 42 = .ok (.aload_n 0, 1) := dk_42 (dk_at dksX2_bestBlock_1 19 rfl rfl)
theorem dX2_bestBlock_43 : decode cX2_bestBlock 43 = .ok (.iload_n 1, 1) := dk_27 (dk_at dksX2_bestBlock_1 20 rfl rfl)
theorem dX2_bestBlock_44 : decode cX2_bestBlock 44 = .ok (.iload_n 3, 1) := dk_29 (dk_at dksX2_bestBlock_1 21 rfl rfl)
theorem dX2_bestBlock_45 : decode cX2_bestBlock 45 = .ok (.invokevirtual 119, 3) := dk_182 0 119 (dk_at dksX2_bestBlock_2 0 rfl rfl)
theorem dX2_bestBlock_48 : decode cX2_bestBlock 48 = .ok (.ifCond .eq 28, 3) := dk_153 0 28 (dk_at dksX2_bestBlock_2 3 rfl rfl)
theorem dX2_bestBlock_51 : decode cX2_bestBlock 51 = .ok (.iload_n 2, 1) := dk_28 (dk_at dksX2_bestBlock_2 6 rfl rfl)
theorem dX2_bestBlock_52 : decode cX2_bestBlock 52 = .ok (.bipush (-6), 2) := dk_16 250 (dk_at dksX2_bestBlock_2 7 rfl rfl)
theorem dX2_bestBlock_54 : decode cX2_bestBlock 54 = .ok (.if_icmp .eq 18, 3) := dk_159 0 18 (dk_at dksX2_bestBlock_2 9 rfl rfl)
theorem dX2_bestBlock_57 : decode cX2_bestBlock 57 = .ok (.aload_n 0, 1) := dk_42 (dk_at dksX2_bestBlock_2 12 rfl rfl)
theorem dX2_bestBlock_58 : decode cX2_bestBlock 58 = .ok (.iload_n 1, 1) := dk_27 (dk_at dksX2_bestBlock_2 13 rfl rfl)
theorem dX2_bestBlock_59 : decode cX2_bestBlock 59 = .ok (.iload_n 3, 1) := dk_29 (dk_at dksX2_bestBlock_2 14 rfl rfl)
theorem dX2_bestBlock_60 : decode cX2_bestBlock 60 = .ok (.invokevirtual 72, 3) := dk_182 0 72 (dk_at dksX2_bestBlock_2 15 rfl rfl)
theorem dX2_bestBlock_63 : decode cX2_bestBlock 63 = .ok (.aload_n 0, 1) := dk_42 (dk_at dksX2_bestBlock_2 18 rfl rfl)
theorem dX2_bestBlock_64 : decode cX2_bestBlock 64 = .ok (.iload_n 1, 1) := dk_27 (dk_at dksX2_bestBlock_2 19 rfl rfl)
theorem dX2_bestBlock_65 : decode cX2_bestBlock 65 = .ok (.iload_n 2, 1) := dk_28 (dk_at dksX2_bestBlock_2 20 rfl rfl)
theorem dX2_bestBlock_66 : decode cX2_bestBlock 66 = .ok (.invokevirtual 72, 3) := dk_182 0 72 (dk_at dksX2_bestBlock_2 21 rfl rfl)
theorem dX2_bestBlock_69 : decode cX2_bestBlock 69 = .ok (.if_icmp .gt 7, 3) := dk_163 0 7 (dk_at dksX2_bestBlock_3 0 rfl rfl)
theorem dX2_bestBlock_72 : decode cX2_bestBlock 72 = .ok (.iload_n 3, 1) := dk_29 (dk_at dksX2_bestBlock_3 3 rfl rfl)
theorem dX2_bestBlock_73 : decode cX2_bestBlock 73 = .ok (.goto 4, 3) := dk_167 0 4 (dk_at dksX2_bestBlock_3 4 rfl rfl)
theorem dX2_bestBlock_76 : decode cX2_bestBlock 76 = .ok (.iload_n 2, 1) := dk_28 (dk_at dksX2_bestBlock_3 7 rfl rfl)
theorem dX2_bestBlock_77 : decode cX2_bestBlock 77 = .ok (.istore_n 2, 1) := dk_61 (dk_at dksX2_bestBlock_3 8 rfl rfl)
theorem dX2_bestBlock_78 : decode cX2_bestBlock 78 = .ok (.iinc 3 (-1), 3) := dk_132 3 255 (dk_at dksX2_bestBlock_3 9 rfl rfl)
theorem dX2_bestBlock_81 : decode cX2_bestBlock 81 = .ok (.goto (-43), 3) := dk_167 255 213 (dk_at dksX2_bestBlock_3 12 rfl rfl)
theorem dX2_bestBlock_84 : decode cX2_bestBlock 84 = .ok (.iload_n 2, 1) := dk_28 (dk_at dksX2_bestBlock_3 15 rfl rfl)
theorem dX2_bestBlock_85 : decode cX2_bestBlock 85 = .ok (.ireturn, 1) := dk_172 (dk_at dksX2_bestBlock_3 16 rfl rfl)
abbrev cX2_fittingCut : ByteArray := prog_8_method_68_code
def yX2_fittingCut : MethodName := ⟨RX2, "fittingCut", "(III)I"⟩
def dkwX2_fittingCut_4 : List UInt8 := [17, 1, 44, 112, 96, 172, 132, 4, 1, 167, 255, 200, 16, 250, 172]
abbrev dktX2_fittingCut_4 : List UInt8 := dkwX2_fittingCut_4 ++ []
def dkwX2_fittingCut_3 : List UInt8 := [182, 0, 206, 153, 0, 25, 29, 154, 0, 12, 21, 4, 17, 1, 44, 108, 167, 0, 11, 4, 21, 4]
abbrev dktX2_fittingCut_3 : List UInt8 := dkwX2_fittingCut_3 ++ dktX2_fittingCut_4
def dkwX2_fittingCut_2 : List UInt8 := [17, 3, 132, 162, 0, 54, 42, 27, 28, 21, 4, 17, 1, 44, 108, 4, 21, 4, 17, 1, 44, 112, 96]
abbrev dktX2_fittingCut_2 : List UInt8 := dkwX2_fittingCut_2 ++ dktX2_fittingCut_3
def dkwX2_fittingCut_1 : List UInt8 := [154, 0, 6, 16, 254, 172, 42, 28, 182, 0, 106, 154, 0, 6, 16, 251, 172, 3, 54, 4, 21, 4]
abbrev dktX2_fittingCut_1 : List UInt8 := dkwX2_fittingCut_1 ++ dktX2_fittingCut_2
def dkwX2_fittingCut_0 : List UInt8 := [42, 27, 182, 0, 116, 153, 0, 11, 42, 28, 182, 0, 103, 154, 0, 5, 2, 172, 29, 3, 4, 184, 0, 39]
abbrev dktX2_fittingCut_0 : List UInt8 := dkwX2_fittingCut_0 ++ dktX2_fittingCut_1
theorem dksX2_fittingCut_0 : cX2_fittingCut.data.toList.drop 0 = dktX2_fittingCut_0 := by decide +kernel
theorem dksX2_fittingCut_1 : cX2_fittingCut.data.toList.drop 24 = dktX2_fittingCut_1 := dk_seg dksX2_fittingCut_0 24 rfl rfl
theorem dksX2_fittingCut_2 : cX2_fittingCut.data.toList.drop 46 = dktX2_fittingCut_2 := dk_seg dksX2_fittingCut_1 22 rfl rfl
theorem dksX2_fittingCut_3 : cX2_fittingCut.data.toList.drop 69 = dktX2_fittingCut_3 := dk_seg dksX2_fittingCut_2 23 rfl rfl
theorem dksX2_fittingCut_4 : cX2_fittingCut.data.toList.drop 91 = dktX2_fittingCut_4 := dk_seg dksX2_fittingCut_3 22 rfl rfl
theorem dX2_fittingCut_0 : decode cX2_fittingCut 0 = .ok (.aload_n 0, 1) := dk_42 (dk_at dksX2_fittingCut_0 0 rfl rfl)
theorem dX2_fittingCut_1 : decode cX2_fittingCut 1 = .ok (.iload_n 1, 1) := dk_27 (dk_at dksX2_fittingCut_0 1 rfl rfl)
theorem dX2_fittingCut_2 : decode cX2_fittingCut 2 = .ok (.invokevirtual 116, 3) := dk_182 0 116 (dk_at dksX2_fittingCut_0 2 rfl rfl)
theorem dX2_fittingCut_5 : decode cX2_fittingCut 5 = .ok (.ifCond .eq 11, 3) := dk_153 0 11 (dk_at dksX2_fittingCut_0 5 rfl rfl)
theorem dX2_fittingCut_8 : decode cX2_fittingCut 8 = .ok (.aload_n 0, 1) := dk_42 (dk_at dksX2_fittingCut_0 8 rfl rfl)
theorem dX2_fittingCut_9 : decode cX2_fittingCut 9 = .ok (.iload_n 2, 1) := dk_28 (dk_at dksX2_fittingCut_0 9 rfl rfl)
theorem dX2_fittingCut_10 : decode cX2_fittingCut 10 = .ok (.invokevirtual 103, 3) := dk_182 0 103 (dk_at dksX2_fittingCut_0 10 rfl rfl)
theorem dX2_fittingCut_13 : decode cX2_fittingCut 13 = .ok (.ifCond .ne 5, 3) := dk_154 0 5 (dk_at dksX2_fittingCut_0 13 rfl rfl)
theorem dX2_fittingCut_16 : decode cX2_fittingCut 16 = .ok (.iconst (-1), 1) := dk_2 (dk_at dksX2_fittingCut_0 16 rfl rfl)
theorem dX2_fittingCut_17 : decode cX2_fittingCut 17 = .ok (.ireturn, 1) := dk_172 (dk_at dksX2_fittingCut_0 17 rfl rfl)
theorem dX2_fittingCut_18 : decode cX2_fittingCut 18 = .ok (.iload_n 3, 1) := dk_29 (dk_at dksX2_fittingCut_0 18 rfl rfl)
theorem dX2_fittingCut_19 : decode cX2_fittingCut 19 = .ok (.iconst 0, 1) := dk_3 (dk_at dksX2_fittingCut_0 19 rfl rfl)
theorem dX2_fittingCut_20 : decode cX2_fittingCut 20 = .ok (.iconst 1, 1) := dk_4 (dk_at dksX2_fittingCut_0 20 rfl rfl)
theorem dX2_fittingCut_21 : decode cX2_fittingCut 21 = .ok (.invokestatic 39, 3) := dk_184 0 39 (dk_at dksX2_fittingCut_0 21 rfl rfl)
theorem dX2_fittingCut_24 : decode cX2_fittingCut 24 = .ok (.ifCond .ne 6, 3) := dk_154 0 6 (dk_at dksX2_fittingCut_1 0 rfl rfl)
theorem dX2_fittingCut_27 : decode cX2_fittingCut 27 = .ok (.bipush (-2), 2) := dk_16 254 (dk_at dksX2_fittingCut_1 3 rfl rfl)
theorem dX2_fittingCut_29 : decode cX2_fittingCut 29 = .ok (.ireturn, 1) := dk_172 (dk_at dksX2_fittingCut_1 5 rfl rfl)
theorem dX2_fittingCut_30 : decode cX2_fittingCut 30 = .ok (.aload_n 0, 1) := dk_42 (dk_at dksX2_fittingCut_1 6 rfl rfl)
theorem dX2_fittingCut_31 : decode cX2_fittingCut 31 = .ok (.iload_n 2, 1) := dk_28 (dk_at dksX2_fittingCut_1 7 rfl rfl)
theorem dX2_fittingCut_32 : decode cX2_fittingCut 32 = .ok (.invokevirtual 106, 3) := dk_182 0 106 (dk_at dksX2_fittingCut_1 8 rfl rfl)
theorem dX2_fittingCut_35 : decode cX2_fittingCut 35 = .ok (.ifCond .ne 6, 3) := dk_154 0 6 (dk_at dksX2_fittingCut_1 11 rfl rfl)
theorem dX2_fittingCut_38 : decode cX2_fittingCut 38 = .ok (.bipush (-5), 2) := dk_16 251 (dk_at dksX2_fittingCut_1 14 rfl rfl)
theorem dX2_fittingCut_40 : decode cX2_fittingCut 40 = .ok (.ireturn, 1) := dk_172 (dk_at dksX2_fittingCut_1 16 rfl rfl)
theorem dX2_fittingCut_41 : decode cX2_fittingCut 41 = .ok (.iconst 0, 1) := dk_3 (dk_at dksX2_fittingCut_1 17 rfl rfl)
theorem dX2_fittingCut_42 : decode cX2_fittingCut 42 = .ok (.istore 4, 2) := dk_54 4 (dk_at dksX2_fittingCut_1 18 rfl rfl)
theorem dX2_fittingCut_44 : decode cX2_fittingCut 44 = .ok (.iload 4, 2) := dk_21 4 (dk_at dksX2_fittingCut_1 20 rfl rfl)
theorem dX2_fittingCut_46 : decode cX2_fittingCut 46 = .ok (.sipush 900, 3) := dk_17 3 132 (dk_at dksX2_fittingCut_2 0 rfl rfl)
theorem dX2_fittingCut_49 : decode cX2_fittingCut 49 = .ok (.if_icmp .ge 54, 3) := dk_162 0 54 (dk_at dksX2_fittingCut_2 3 rfl rfl)
theorem dX2_fittingCut_52 : decode cX2_fittingCut 52 = .ok (.aload_n 0, 1) := dk_42 (dk_at dksX2_fittingCut_2 6 rfl rfl)
theorem dX2_fittingCut_53 : decode cX2_fittingCut 53 = .ok (.iload_n 1, 1) := dk_27 (dk_at dksX2_fittingCut_2 7 rfl rfl)
theorem dX2_fittingCut_54 : decode cX2_fittingCut 54 = .ok (.iload_n 2, 1) := dk_28 (dk_at dksX2_fittingCut_2 8 rfl rfl)
theorem dX2_fittingCut_55 : decode cX2_fittingCut 55 = .ok (.iload 4, 2) := dk_21 4 (dk_at dksX2_fittingCut_2 9 rfl rfl)
theorem dX2_fittingCut_57 : decode cX2_fittingCut 57 = .ok (.sipush 300, 3) := dk_17 1 44 (dk_at dksX2_fittingCut_2 11 rfl rfl)
theorem dX2_fittingCut_60 : decode cX2_fittingCut 60 = .ok (.idiv, 1) := dk_108 (dk_at dksX2_fittingCut_2 14 rfl rfl)
theorem dX2_fittingCut_61 : decode cX2_fittingCut 61 = .ok (.iconst 1, 1) := dk_4 (dk_at dksX2_fittingCut_2 15 rfl rfl)
theorem dX2_fittingCut_62 : decode cX2_fittingCut 62 = .ok (.iload 4, 2) := dk_21 4 (dk_at dksX2_fittingCut_2 16 rfl rfl)
theorem dX2_fittingCut_64 : decode cX2_fittingCut 64 = .ok (.sipush 300, 3) := dk_17 1 44 (dk_at dksX2_fittingCut_2 18 rfl rfl)
theorem dX2_fittingCut_67 : decode cX2_fittingCut 67 = .ok (.irem, 1) := dk_112 (dk_at dksX2_fittingCut_2 21 rfl rfl)
theorem dX2_fittingCut_68 : decode cX2_fittingCut 68 = .ok (.iadd, 1) := dk_96 (dk_at dksX2_fittingCut_2 22 rfl rfl)
theorem dX2_fittingCut_69 : decode cX2_fittingCut 69 = .ok (.invokevirtual 206, 3) := dk_182 0 206 (dk_at dksX2_fittingCut_3 0 rfl rfl)
theorem dX2_fittingCut_72 : decode cX2_fittingCut 72 = .ok (.ifCond .eq 25, 3) := dk_153 0 25 (dk_at dksX2_fittingCut_3 3 rfl rfl)
theorem dX2_fittingCut_75 : decode cX2_fittingCut 75 = .ok (.iload_n 3, 1) := dk_29 (dk_at dksX2_fittingCut_3 6 rfl rfl)
theorem dX2_fittingCut_76 : decode cX2_fittingCut 76 = .ok (.ifCond .ne 12, 3) := dk_154 0 12 (dk_at dksX2_fittingCut_3 7 rfl rfl)
theorem dX2_fittingCut_79 : decode cX2_fittingCut 79 = .ok (.iload 4, 2) := dk_21 4 (dk_at dksX2_fittingCut_3 10 rfl rfl)
theorem dX2_fittingCut_81 : decode cX2_fittingCut 81 = .ok (.sipush 300, 3) := dk_17 1 44 (dk_at dksX2_fittingCut_3 12 rfl rfl)
theorem dX2_fittingCut_84 : decode cX2_fittingCut 84 = .ok (.idiv, 1) := dk_108 (dk_at dksX2_fittingCut_3 15 rfl rfl)
theorem dX2_fittingCut_85 : decode cX2_fittingCut 85 = .ok (.goto 11, 3) := dk_167 0 11 (dk_at dksX2_fittingCut_3 16 rfl rfl)
theorem dX2_fittingCut_88 : decode cX2_fittingCut 88 = .ok (.iconst 1, 1) := dk_4 (dk_at dksX2_fittingCut_3 19 rfl rfl)
theorem dX2_fittingCut_89 : decode cX2_fittingCut 89 = .ok (.iload 4, 2) := dk_21 4 (dk_at dksX2_fittingCut_3 20 rfl rfl)
theorem dX2_fittingCut_91 : decode cX2_fittingCut 91 = .ok (.sipush 300, 3) := dk_17 1 44 (dk_at dksX2_fittingCut_4 0 rfl rfl)
theorem dX2_fittingCut_94 : decode cX2_fittingCut 94 = .ok (.irem, 1) := dk_112 (dk_at dksX2_fittingCut_4 3 rfl rfl)
theorem dX2_fittingCut_95 : decode cX2_fittingCut 95 = .ok (.iadd, 1) := dk_96 (dk_at dksX2_fittingCut_4 4 rfl rfl)
theorem dX2_fittingCut_96 : decode cX2_fittingCut 96 = .ok (.ireturn, 1) := dk_172 (dk_at dksX2_fittingCut_4 5 rfl rfl)
theorem dX2_fittingCut_97 : decode cX2_fittingCut 97 = .ok (.iinc 4 1, 3) := dk_132 4 1 (dk_at dksX2_fittingCut_4 6 rfl rfl)
theorem dX2_fittingCut_100 : decode cX2_fittingCut 100 = .ok (.goto (-56), 3) := dk_167 255 200 (dk_at dksX2_fittingCut_4 9 rfl rfl)
theorem dX2_fittingCut_103 : decode cX2_fittingCut 103 = .ok (.bipush (-6), 2) := dk_16 250 (dk_at dksX2_fittingCut_4 12 rfl rfl)
theorem dX2_fittingCut_105 : decode cX2_fittingCut 105 = .ok (.ireturn, 1) := dk_172 (dk_at dksX2_fittingCut_4 14 rfl rfl)
abbrev cX2_isFitting : ByteArray := prog_8_method_67_code
def yX2_isFitting : MethodName := ⟨RX2, "isFitting", "(IIII)Z"⟩
def dkwX2_isFitting_5 : List UInt8 := [21, 5, 21, 6, 21, 7, 182, 0, 69, 16, 250, 159, 0, 7, 4, 167, 0, 4, 3, 172]
abbrev dktX2_isFitting_5 : List UInt8 := dkwX2_isFitting_5 ++ []
def dkwX2_isFitting_4 : List UInt8 := [3, 54, 8, 21, 8, 153, 0, 37, 42, 180, 0, 7, 28, 16, 6, 184, 0, 47, 46, 154, 0, 23, 42, 27]
abbrev dktX2_isFitting_4 : List UInt8 := dkwX2_isFitting_4 ++ dktX2_isFitting_5
def dkwX2_isFitting_3 : List UInt8 := [28, 29, 184, 0, 47, 46, 21, 4, 100, 42, 180, 0, 7, 3, 46, 100, 4, 161, 0, 7, 4, 167, 0, 4]
abbrev dktX2_isFitting_3 : List UInt8 := dkwX2_isFitting_3 ++ dktX2_isFitting_4
def dkwX2_isFitting_2 : List UInt8 := [160, 0, 8, 21, 4, 167, 0, 13, 42, 180, 0, 7, 28, 5, 184, 0, 47, 46, 54, 7, 42, 180, 0, 7]
abbrev dktX2_isFitting_2 : List UInt8 := dkwX2_isFitting_2 ++ dktX2_isFitting_3
def dkwX2_isFitting_1 : List UInt8 := [160, 0, 8, 21, 4, 167, 0, 13, 42, 180, 0, 7, 28, 4, 184, 0, 47, 46, 54, 6, 29, 5]
abbrev dktX2_isFitting_1 : List UInt8 := dkwX2_isFitting_1 ++ dktX2_isFitting_2
def dkwX2_isFitting_0 : List UInt8 := [29, 154, 0, 8, 21, 4, 167, 0, 13, 42, 180, 0, 7, 28, 3, 184, 0, 47, 46, 54, 5, 29, 4]
abbrev dktX2_isFitting_0 : List UInt8 := dkwX2_isFitting_0 ++ dktX2_isFitting_1
theorem dksX2_isFitting_0 : cX2_isFitting.data.toList.drop 0 = dktX2_isFitting_0 := by decide +kernel
theorem dksX2_isFitting_1 : cX2_isFitting.data.toList.drop 23 = dktX2_isFitting_1 := dk_seg dksX2_isFitting_0 23 rfl rfl
theorem dksX2_isFitting_2 : cX2_isFitting.data.toList.drop 45 = dktX2_isFitting_2 := dk_seg dksX2_isFitting_1 22 rfl rfl
theorem dksX2_isFitting_3 : cX2_isFitting.data.toList.drop 69 = dktX2_isFitting_3 := dk_seg dksX2_isFitting_2 24 rfl rfl
theorem dksX2_isFitting_4 : cX2_isFitting.data.toList.drop 93 = dktX2_isFitting_4 := dk_seg dksX2_isFitting_3 24 rfl rfl
theorem dksX2_isFitting_5 : cX2_isFitting.data.toList.drop 117 = dktX2_isFitting_5 := dk_seg dksX2_isFitting_4 24 rfl rfl
theorem dX2_isFitting_0 : decode cX2_isFitting 0 = .ok (.iload_n 3, 1) := dk_29 (dk_at dksX2_isFitting_0 0 rfl rfl)
theorem dX2_isFitting_1 : decode cX2_isFitting 1 = .ok (.ifCond .ne 8, 3) := dk_154 0 8 (dk_at dksX2_isFitting_0 1 rfl rfl)
theorem dX2_isFitting_4 : decode cX2_isFitting 4 = .ok (.iload 4, 2) := dk_21 4 (dk_at dksX2_isFitting_0 4 rfl rfl)
theorem dX2_isFitting_6 : decode cX2_isFitting 6 = .ok (.goto 13, 3) := dk_167 0 13 (dk_at dksX2_isFitting_0 6 rfl rfl)
theorem dX2_isFitting_9 : decode cX2_isFitting 9 = .ok (.aload_n 0, 1) := dk_42 (dk_at dksX2_isFitting_0 9 rfl rfl)
theorem dX2_isFitting_10 : decode cX2_isFitting 10 = .ok (.getfield 7, 3) := dk_180 0 7 (dk_at dksX2_isFitting_0 10 rfl rfl)
theorem dX2_isFitting_13 : decode cX2_isFitting 13 = .ok (.iload_n 2, 1) := dk_28 (dk_at dksX2_isFitting_0 13 rfl rfl)
theorem dX2_isFitting_14 : decode cX2_isFitting 14 = .ok (.iconst 0, 1) := dk_3 (dk_at dksX2_isFitting_0 14 rfl rfl)
theorem dX2_isFitting_15 : decode cX2_isFitting 15 = .ok (.invokestatic 47, 3) := dk_184 0 47 (dk_at dksX2_isFitting_0 15 rfl rfl)
theorem dX2_isFitting_18 : decode cX2_isFitting 18 = .ok (.iaload, 1) := dk_46 (dk_at dksX2_isFitting_0 18 rfl rfl)
theorem dX2_isFitting_19 : decode cX2_isFitting 19 = .ok (.istore 5, 2) := dk_54 5 (dk_at dksX2_isFitting_0 19 rfl rfl)
theorem dX2_isFitting_21 : decode cX2_isFitting 21 = .ok (.iload_n 3, 1) := dk_29 (dk_at dksX2_isFitting_0 21 rfl rfl)
theorem dX2_isFitting_22 : decode cX2_isFitting 22 = .ok (.iconst 1, 1) := dk_4 (dk_at dksX2_isFitting_0 22 rfl rfl)
theorem dX2_isFitting_23 : decode cX2_isFitting 23 = .ok (.if_icmp .ne 8, 3) := dk_160 0 8 (dk_at dksX2_isFitting_1 0 rfl rfl)
theorem dX2_isFitting_26 : decode cX2_isFitting 26 = .ok (.iload 4, 2) := dk_21 4 (dk_at dksX2_isFitting_1 3 rfl rfl)
theorem dX2_isFitting_28 : decode cX2_isFitting 28 = .ok (.goto 13, 3) := dk_167 0 13 (dk_at dksX2_isFitting_1 5 rfl rfl)
theorem dX2_isFitting_31 : decode cX2_isFitting 31 = .ok (.aload_n 0, 1) := dk_42 (dk_at dksX2_isFitting_1 8 rfl rfl)
theorem dX2_isFitting_32 : decode cX2_isFitting 32 = .ok (.getfield 7, 3) := dk_180 0 7 (dk_at dksX2_isFitting_1 9 rfl rfl)
theorem dX2_isFitting_35 : decode cX2_isFitting 35 = .ok (.iload_n 2, 1) := dk_28 (dk_at dksX2_isFitting_1 12 rfl rfl)
theorem dX2_isFitting_36 : decode cX2_isFitting 36 = .ok (.iconst 1, 1) := dk_4 (dk_at dksX2_isFitting_1 13 rfl rfl)
theorem dX2_isFitting_37 : decode cX2_isFitting 37 = .ok (.invokestatic 47, 3) := dk_184 0 47 (dk_at dksX2_isFitting_1 14 rfl rfl)
theorem dX2_isFitting_40 : decode cX2_isFitting 40 = .ok (.iaload, 1) := dk_46 (dk_at dksX2_isFitting_1 17 rfl rfl)
theorem dX2_isFitting_41 : decode cX2_isFitting 41 = .ok (.istore 6, 2) := dk_54 6 (dk_at dksX2_isFitting_1 18 rfl rfl)
theorem dX2_isFitting_43 : decode cX2_isFitting 43 = .ok (.iload_n 3, 1) := dk_29 (dk_at dksX2_isFitting_1 20 rfl rfl)
theorem dX2_isFitting_44 : decode cX2_isFitting 44 = .ok (.iconst 2, 1) := dk_5 (dk_at dksX2_isFitting_1 21 rfl rfl)
theorem dX2_isFitting_45 : decode cX2_isFitting 45 = .ok (.if_icmp .ne 8, 3) := dk_160 0 8 (dk_at dksX2_isFitting_2 0 rfl rfl)
theorem dX2_isFitting_48 : decode cX2_isFitting 48 = .ok (.iload 4, 2) := dk_21 4 (dk_at dksX2_isFitting_2 3 rfl rfl)
theorem dX2_isFitting_50 : decode cX2_isFitting 50 = .ok (.goto 13, 3) := dk_167 0 13 (dk_at dksX2_isFitting_2 5 rfl rfl)
theorem dX2_isFitting_53 : decode cX2_isFitting 53 = .ok (.aload_n 0, 1) := dk_42 (dk_at dksX2_isFitting_2 8 rfl rfl)
theorem dX2_isFitting_54 : decode cX2_isFitting 54 = .ok (.getfield 7, 3) := dk_180 0 7 (dk_at dksX2_isFitting_2 9 rfl rfl)
theorem dX2_isFitting_57 : decode cX2_isFitting 57 = .ok (.iload_n 2, 1) := dk_28 (dk_at dksX2_isFitting_2 12 rfl rfl)
theorem dX2_isFitting_58 : decode cX2_isFitting 58 = .ok (.iconst 2, 1) := dk_5 (dk_at dksX2_isFitting_2 13 rfl rfl)
theorem dX2_isFitting_59 : decode cX2_isFitting 59 = .ok (.invokestatic 47, 3) := dk_184 0 47 (dk_at dksX2_isFitting_2 14 rfl rfl)
theorem dX2_isFitting_62 : decode cX2_isFitting 62 = .ok (.iaload, 1) := dk_46 (dk_at dksX2_isFitting_2 17 rfl rfl)
theorem dX2_isFitting_63 : decode cX2_isFitting 63 = .ok (.istore 7, 2) := dk_54 7 (dk_at dksX2_isFitting_2 18 rfl rfl)
theorem dX2_isFitting_65 : decode cX2_isFitting 65 = .ok (.aload_n 0, 1) := dk_42 (dk_at dksX2_isFitting_2 20 rfl rfl)
theorem dX2_isFitting_66 : decode cX2_isFitting 66 = .ok (.getfield 7, 3) := dk_180 0 7 (dk_at dksX2_isFitting_2 21 rfl rfl)
theorem dX2_isFitting_69 : decode cX2_isFitting 69 = .ok (.iload_n 2, 1) := dk_28 (dk_at dksX2_isFitting_3 0 rfl rfl)
theorem dX2_isFitting_70 : decode cX2_isFitting 70 = .ok (.iload_n 3, 1) := dk_29 (dk_at dksX2_isFitting_3 1 rfl rfl)
theorem dX2_isFitting_71 : decode cX2_isFitting 71 = .ok (.invokestatic 47, 3) := dk_184 0 47 (dk_at dksX2_isFitting_3 2 rfl rfl)
theorem dX2_isFitting_74 : decode cX2_isFitting 74 = .ok (.iaload, 1) := dk_46 (dk_at dksX2_isFitting_3 5 rfl rfl)
theorem dX2_isFitting_75 : decode cX2_isFitting 75 = .ok (.iload 4, 2) := dk_21 4 (dk_at dksX2_isFitting_3 6 rfl rfl)
theorem dX2_isFitting_77 : decode cX2_isFitting 77 = .ok (.isub, 1) := dk_100 (dk_at dksX2_isFitting_3 8 rfl rfl)
theorem dX2_isFitting_78 : decode cX2_isFitting 78 = .ok (.aload_n 0, 1) := dk_42 (dk_at dksX2_isFitting_3 9 rfl rfl)
theorem dX2_isFitting_79 : decode cX2_isFitting 79 = .ok (.getfield 7, 3) := dk_180 0 7 (dk_at dksX2_isFitting_3 10 rfl rfl)
theorem dX2_isFitting_82 : decode cX2_isFitting 82 = .ok (.iconst 0, 1) := dk_3 (dk_at dksX2_isFitting_3 13 rfl rfl)
theorem dX2_isFitting_83 : decode cX2_isFitting 83 = .ok (.iaload, 1) := dk_46 (dk_at dksX2_isFitting_3 14 rfl rfl)
theorem dX2_isFitting_84 : decode cX2_isFitting 84 = .ok (.isub, 1) := dk_100 (dk_at dksX2_isFitting_3 15 rfl rfl)
theorem dX2_isFitting_85 : decode cX2_isFitting 85 = .ok (.iconst 1, 1) := dk_4 (dk_at dksX2_isFitting_3 16 rfl rfl)
theorem dX2_isFitting_86 : decode cX2_isFitting 86 = .ok (.if_icmp .lt 7, 3) := dk_161 0 7 (dk_at dksX2_isFitting_3 17 rfl rfl)
theorem dX2_isFitting_89 : decode cX2_isFitting 89 = .ok (.iconst 1, 1) := dk_4 (dk_at dksX2_isFitting_3 20 rfl rfl)
theorem dX2_isFitting_90 : decode cX2_isFitting 90 = .ok (.goto 4, 3) := dk_167 0 4 (dk_at dksX2_isFitting_3 21 rfl rfl)
theorem dX2_isFitting_93 : decode cX2_isFitting 93 = .ok (.iconst 0, 1) := dk_3 (dk_at dksX2_isFitting_4 0 rfl rfl)
theorem dX2_isFitting_94 : decode cX2_isFitting 94 = .ok (.istore 8, 2) := dk_54 8 (dk_at dksX2_isFitting_4 1 rfl rfl)
theorem dX2_isFitting_96 : decode cX2_isFitting 96 = .ok (.iload 8, 2) := dk_21 8 (dk_at dksX2_isFitting_4 3 rfl rfl)
theorem dX2_isFitting_98 : decode cX2_isFitting 98 = .ok (.ifCond .eq 37, 3) := dk_153 0 37 (dk_at dksX2_isFitting_4 5 rfl rfl)
theorem dX2_isFitting_101 : decode cX2_isFitting 101 = .ok (.aload_n 0, 1) := dk_42 (dk_at dksX2_isFitting_4 8 rfl rfl)
theorem dX2_isFitting_102 : decode cX2_isFitting 102 = .ok (.getfield 7, 3) := dk_180 0 7 (dk_at dksX2_isFitting_4 9 rfl rfl)
theorem dX2_isFitting_105 : decode cX2_isFitting 105 = .ok (.iload_n 2, 1) := dk_28 (dk_at dksX2_isFitting_4 12 rfl rfl)
theorem dX2_isFitting_106 : decode cX2_isFitting 106 = .ok (.bipush 6, 2) := dk_16 6 (dk_at dksX2_isFitting_4 13 rfl rfl)
theorem dX2_isFitting_108 : decode cX2_isFitting 108 = .ok (.invokestatic 47, 3) := dk_184 0 47 (dk_at dksX2_isFitting_4 15 rfl rfl)
theorem dX2_isFitting_111 : decode cX2_isFitting 111 = .ok (.iaload, 1) := dk_46 (dk_at dksX2_isFitting_4 18 rfl rfl)
theorem dX2_isFitting_112 : decode cX2_isFitting 112 = .ok (.ifCond .ne 23, 3) := dk_154 0 23 (dk_at dksX2_isFitting_4 19 rfl rfl)
theorem dX2_isFitting_115 : decode cX2_isFitting 115 = .ok (.aload_n 0, 1) := dk_42 (dk_at dksX2_isFitting_4 22 rfl rfl)
theorem dX2_isFitting_116 : decode cX2_isFitting 116 = .ok (.iload_n 1, 1) := dk_27 (dk_at dksX2_isFitting_4 23 rfl rfl)
theorem dX2_isFitting_117 : decode cX2_isFitting 117 = .ok (.iload 5, 2) := dk_21 5 (dk_at dksX2_isFitting_5 0 rfl rfl)
theorem dX2_isFitting_119 : decode cX2_isFitting 119 = .ok (.iload 6, 2) := dk_21 6 (dk_at dksX2_isFitting_5 2 rfl rfl)
theorem dX2_isFitting_121 : decode cX2_isFitting 121 = .ok (.iload 7, 2) := dk_21 7 (dk_at dksX2_isFitting_5 4 rfl rfl)
theorem dX2_isFitting_123 : decode cX2_isFitting 123 = .ok (.invokevirtual 69, 3) := dk_182 0 69 (dk_at dksX2_isFitting_5 6 rfl rfl)
theorem dX2_isFitting_126 : decode cX2_isFitting 126 = .ok (.bipush (-6), 2) := dk_16 250 (dk_at dksX2_isFitting_5 9 rfl rfl)
theorem dX2_isFitting_128 : decode cX2_isFitting 128 = .ok (.if_icmp .eq 7, 3) := dk_159 0 7 (dk_at dksX2_isFitting_5 11 rfl rfl)
theorem dX2_isFitting_131 : decode cX2_isFitting 131 = .ok (.iconst 1, 1) := dk_4 (dk_at dksX2_isFitting_5 14 rfl rfl)
theorem dX2_isFitting_132 : decode cX2_isFitting 132 = .ok (.goto 4, 3) := dk_167 0 4 (dk_at dksX2_isFitting_5 15 rfl rfl)
theorem dX2_isFitting_135 : decode cX2_isFitting 135 = .ok (.iconst 0, 1) := dk_3 (dk_at dksX2_isFitting_5 18 rfl rfl)
theorem dX2_isFitting_136 : decode cX2_isFitting 136 = .ok (.ireturn, 1) := dk_172 (dk_at dksX2_isFitting_5 19 rfl rfl)
abbrev cX2_ifFrost : ByteArray := prog_8_method_69_code
def yX2_ifFrost : MethodName := ⟨RX2, "ifFrost", "()I"⟩
def dkwX2_ifFrost_1 : List UInt8 := [28, 120, 167, 0, 4, 3, 128, 60, 132, 2, 1, 167, 255, 225, 27, 172]
abbrev dktX2_ifFrost_1 : List UInt8 := dkwX2_ifFrost_1 ++ []
def dkwX2_ifFrost_0 : List UInt8 := [3, 60, 3, 61, 28, 42, 180, 0, 7, 8, 46, 162, 0, 27, 27, 42, 28, 182, 0, 131, 153, 0, 9, 4]
abbrev dktX2_ifFrost_0 : List UInt8 := dkwX2_ifFrost_0 ++ dktX2_ifFrost_1
theorem dksX2_ifFrost_0 : cX2_ifFrost.data.toList.drop 0 = dktX2_ifFrost_0 := by decide +kernel
theorem dksX2_ifFrost_1 : cX2_ifFrost.data.toList.drop 24 = dktX2_ifFrost_1 := dk_seg dksX2_ifFrost_0 24 rfl rfl
theorem dX2_ifFrost_0 : decode cX2_ifFrost 0 = .ok (.iconst 0, 1) := dk_3 (dk_at dksX2_ifFrost_0 0 rfl rfl)
theorem dX2_ifFrost_1 : decode cX2_ifFrost 1 = .ok (.istore_n 1, 1) := dk_60 (dk_at dksX2_ifFrost_0 1 rfl rfl)
theorem dX2_ifFrost_2 : decode cX2_ifFrost 2 = .ok (.iconst 0, 1) := dk_3 (dk_at dksX2_ifFrost_0 2 rfl rfl)
theorem dX2_ifFrost_3 : decode cX2_ifFrost 3 = .ok (.istore_n 2, 1) := dk_61 (dk_at dksX2_ifFrost_0 3 rfl rfl)
theorem dX2_ifFrost_4 : decode cX2_ifFrost 4 = .ok (.iload_n 2, 1) := dk_28 (dk_at dksX2_ifFrost_0 4 rfl rfl)
theorem dX2_ifFrost_5 : decode cX2_ifFrost 5 = .ok (.aload_n 0, 1) := dk_42 (dk_at dksX2_ifFrost_0 5 rfl rfl)
theorem dX2_ifFrost_6 : decode cX2_ifFrost 6 = .ok (.getfield 7, 3) := dk_180 0 7 (dk_at dksX2_ifFrost_0 6 rfl rfl)
theorem dX2_ifFrost_9 : decode cX2_ifFrost 9 = .ok (.iconst 5, 1) := dk_8 (dk_at dksX2_ifFrost_0 9 rfl rfl)
theorem dX2_ifFrost_10 : decode cX2_ifFrost 10 = .ok (.iaload, 1) := dk_46 (dk_at dksX2_ifFrost_0 10 rfl rfl)
theorem dX2_ifFrost_11 : decode cX2_ifFrost 11 = .ok (.if_icmp .ge 27, 3) := dk_162 0 27 (dk_at dksX2_ifFrost_0 11 rfl rfl)
theorem dX2_ifFrost_14 : decode cX2_ifFrost 14 = .ok (.iload_n 1, 1) := dk_27 (dk_at dksX2_ifFrost_0 14 rfl rfl)
theorem dX2_ifFrost_15 : decode cX2_ifFrost 15 = .ok (.aload_n 0, 1) := dk_42 (dk_at dksX2_ifFrost_0 15 rfl rfl)
theorem dX2_ifFrost_16 : decode cX2_ifFrost 16 = .ok (.iload_n 2, 1) := dk_28 (dk_at dksX2_ifFrost_0 16 rfl rfl)
theorem dX2_ifFrost_17 : decode cX2_ifFrost 17 = .ok (.invokevirtual 131, 3) := dk_182 0 131 (dk_at dksX2_ifFrost_0 17 rfl rfl)
theorem dX2_ifFrost_20 : decode cX2_ifFrost 20 = .ok (.ifCond .eq 9, 3) := dk_153 0 9 (dk_at dksX2_ifFrost_0 20 rfl rfl)
theorem dX2_ifFrost_23 : decode cX2_ifFrost 23 = .ok (.iconst 1, 1) := dk_4 (dk_at dksX2_ifFrost_0 23 rfl rfl)
theorem dX2_ifFrost_24 : decode cX2_ifFrost 24 = .ok (.iload_n 2, 1) := dk_28 (dk_at dksX2_ifFrost_1 0 rfl rfl)
theorem dX2_ifFrost_25 : decode cX2_ifFrost 25 = .ok (.ishl, 1) := dk_120 (dk_at dksX2_ifFrost_1 1 rfl rfl)
theorem dX2_ifFrost_26 : decode cX2_ifFrost 26 = .ok (.goto 4, 3) := dk_167 0 4 (dk_at dksX2_ifFrost_1 2 rfl rfl)
theorem dX2_ifFrost_29 : decode cX2_ifFrost 29 = .ok (.iconst 0, 1) := dk_3 (dk_at dksX2_ifFrost_1 5 rfl rfl)
theorem dX2_ifFrost_30 : decode cX2_ifFrost 30 = .ok (.ior, 1) := dk_128 (dk_at dksX2_ifFrost_1 6 rfl rfl)
theorem dX2_ifFrost_31 : decode cX2_ifFrost 31 = .ok (.istore_n 1, 1) := dk_60 (dk_at dksX2_ifFrost_1 7 rfl rfl)
theorem dX2_ifFrost_32 : decode cX2_ifFrost 32 = .ok (.iinc 2 1, 3) := dk_132 2 1 (dk_at dksX2_ifFrost_1 8 rfl rfl)
theorem dX2_ifFrost_35 : decode cX2_ifFrost 35 = .ok (.goto (-31), 3) := dk_167 255 225 (dk_at dksX2_ifFrost_1 11 rfl rfl)
theorem dX2_ifFrost_38 : decode cX2_ifFrost 38 = .ok (.iload_n 1, 1) := dk_27 (dk_at dksX2_ifFrost_1 14 rfl rfl)
theorem dX2_ifFrost_39 : decode cX2_ifFrost 39 = .ok (.ireturn, 1) := dk_172 (dk_at dksX2_ifFrost_1 15 rfl rfl)
abbrev cX2_bestPlace : ByteArray := prog_8_method_71_code
def yX2_bestPlace : MethodName := ⟨RX2, "bestPlace", "(II)I"⟩
def dkwX2_bestPlace_4 : List UInt8 := [62, 132, 4, 255, 167, 255, 192, 29, 172]
abbrev dktX2_bestPlace_4 : List UInt8 := dkwX2_bestPlace_4 ++ []
def dkwX2_bestPlace_3 : List UInt8 := [27, 28, 21, 4, 182, 0, 210, 42, 27, 28, 29, 182, 0, 210, 150, 157, 0, 8, 21, 4, 167, 0, 4, 29]
abbrev dktX2_bestPlace_3 : List UInt8 := dkwX2_bestPlace_3 ++ dktX2_bestPlace_4
def dkwX2_bestPlace_2 : List UInt8 := [16, 250, 160, 0, 7, 4, 167, 0, 4, 3, 54, 5, 21, 5, 153, 0, 33, 29, 16, 250, 159, 0, 22, 42]
abbrev dktX2_bestPlace_2 : List UInt8 := dkwX2_bestPlace_2 ++ dktX2_bestPlace_3
def dkwX2_bestPlace_1 : List UInt8 := [154, 0, 6, 16, 251, 172, 16, 250, 62, 7, 54, 4, 21, 4, 155, 0, 65, 42, 28, 21, 4, 182, 0, 75]
abbrev dktX2_bestPlace_1 : List UInt8 := dkwX2_bestPlace_1 ++ dktX2_bestPlace_2
def dkwX2_bestPlace_0 : List UInt8 := [42, 27, 182, 0, 103, 153, 0, 10, 28, 184, 0, 122, 154, 0, 5, 2, 172, 42, 27, 182, 0, 100]
abbrev dktX2_bestPlace_0 : List UInt8 := dkwX2_bestPlace_0 ++ dktX2_bestPlace_1
theorem dksX2_bestPlace_0 : cX2_bestPlace.data.toList.drop 0 = dktX2_bestPlace_0 := by decide +kernel
theorem dksX2_bestPlace_1 : cX2_bestPlace.data.toList.drop 22 = dktX2_bestPlace_1 := dk_seg dksX2_bestPlace_0 22 rfl rfl
theorem dksX2_bestPlace_2 : cX2_bestPlace.data.toList.drop 46 = dktX2_bestPlace_2 := dk_seg dksX2_bestPlace_1 24 rfl rfl
theorem dksX2_bestPlace_3 : cX2_bestPlace.data.toList.drop 70 = dktX2_bestPlace_3 := dk_seg dksX2_bestPlace_2 24 rfl rfl
theorem dksX2_bestPlace_4 : cX2_bestPlace.data.toList.drop 94 = dktX2_bestPlace_4 := dk_seg dksX2_bestPlace_3 24 rfl rfl
theorem dX2_bestPlace_0 : decode cX2_bestPlace 0 = .ok (.aload_n 0, 1) := dk_42 (dk_at dksX2_bestPlace_0 0 rfl rfl)
theorem dX2_bestPlace_1 : decode cX2_bestPlace 1 = .ok (.iload_n 1, 1) := dk_27 (dk_at dksX2_bestPlace_0 1 rfl rfl)
theorem dX2_bestPlace_2 : decode cX2_bestPlace 2 = .ok (.invokevirtual 103, 3) := dk_182 0 103 (dk_at dksX2_bestPlace_0 2 rfl rfl)
theorem dX2_bestPlace_5 : decode cX2_bestPlace 5 = .ok (.ifCond .eq 10, 3) := dk_153 0 10 (dk_at dksX2_bestPlace_0 5 rfl rfl)
theorem dX2_bestPlace_8 : decode cX2_bestPlace 8 = .ok (.iload_n 2, 1) := dk_28 (dk_at dksX2_bestPlace_0 8 rfl rfl)
theorem dX2_bestPlace_9 : decode cX2_bestPlace 9 = .ok (.invokestatic 122, 3) := dk_184 0 122 (dk_at dksX2_bestPlace_0 9 rfl rfl)
theorem dX2_bestPlace_12 : decode cX2_bestPlace 12 = .ok (.ifCond .ne 5, 3) := dk_154 0 5 (dk_at dksX2_bestPlace_0 12 rfl rfl)
theorem dX2_bestPlace_15 : decode cX2_bestPlace 15 = .ok (.iconst (-1), 1) := dk_2 (dk_at dksX2_bestPlace_0 15 rfl rfl)
theorem dX2_bestPlace_16 : decode cX2_bestPlace 16 = .ok (.ireturn, 1) := dk_172 (dk_at dksX2_bestPlace_0 16 rfl rfl)
theorem dX2_bestPlace_17 : decode cX2_bestPlace 17 = .ok (.aload_n 0, 1) := dk_42 (dk_at dksX2_bestPlace_0 17 rfl rfl)
theorem dX2_bestPlace_18 : decode cX2_bestPlace 18 = .ok (.iload_n 1, 1) := dk_27 (dk_at dksX2_bestPlace_0 18 rfl rfl)
theorem dX2_bestPlace_19 : decode cX2_bestPlace 19 = .ok (.invokevirtual 100, 3) := dk_182 0 100 (dk_at dksX2_bestPlace_0 19 rfl rfl)
theorem dX2_bestPlace_22 : decode cX2_bestPlace 22 = .ok (.ifCond .ne 6, 3) := dk_154 0 6 (dk_at dksX2_bestPlace_1 0 rfl rfl)
theorem dX2_bestPlace_25 : decode cX2_bestPlace 25 = .ok (.bipush (-5), 2) := dk_16 251 (dk_at dksX2_bestPlace_1 3 rfl rfl)
theorem dX2_bestPlace_27 : decode cX2_bestPlace 27 = .ok (.ireturn, 1) := dk_172 (dk_at dksX2_bestPlace_1 5 rfl rfl)
theorem dX2_bestPlace_28 : decode cX2_bestPlace 28 = .ok (.bipush (-6), 2) := dk_16 250 (dk_at dksX2_bestPlace_1 6 rfl rfl)
theorem dX2_bestPlace_30 : decode cX2_bestPlace 30 = .ok (.istore_n 3, 1) := dk_62 (dk_at dksX2_bestPlace_1 8 rfl rfl)
theorem dX2_bestPlace_31 : decode cX2_bestPlace 31 = .ok (.iconst 4, 1) := dk_7 (dk_at dksX2_bestPlace_1 9 rfl rfl)
theorem dX2_bestPlace_32 : decode cX2_bestPlace 32 = .ok (.istore 4, 2) := dk_54 4 (dk_at dksX2_bestPlace_1 10 rfl rfl)
theorem dX2_bestPlace_34 : decode cX2_bestPlace 34 = .ok (.iload 4, 2) := dk_21 4 (dk_at dksX2_bestPlace_1 12 rfl rfl)
theorem dX2_bestPlace_36 : decode cX2_bestPlace 36 = .ok (.ifCond .lt 65, 3) := dk_155 0 65 (dk_at dksX2_bestPlace_1 14 rfl rfl)
theorem dX2_bestPlace_39 : decode cX2_bestPlace 39 = .ok (.aload_n 0, 1) := dk_42 (dk_at dksX2_bestPlace_1 17 rfl rfl)
theorem dX2_bestPlace_40 : decode cX2_bestPlace 40 = .ok (.iload_n 2, 1) := dk_28 (dk_at dksX2_bestPlace_1 18 rfl rfl)
theorem dX2_bestPlace_41 : decode cX2_bestPlace 41 = .ok (.iload 4, 2) := dk_21 4 (dk_at dksX2_bestPlace_1 19 rfl rfl)
theorem dX2_bestPlace_43 : decode cX2_bestPlace 43 = .ok (.invokevirtual 75, 3) := dk_182 0 75 (dk_at dksX2_bestPlace_1 21 rfl rfl)
theorem dX2_bestPlace_46 : decode cX2_bestPlace 46 = .ok (.bipush (-6), 2) := dk_16 250 (dk_at dksX2_bestPlace_2 0 rfl rfl)
theorem dX2_bestPlace_48 : decode cX2_bestPlace 48 = .ok (.if_icmp .ne 7, 3) := dk_160 0 7 (dk_at dksX2_bestPlace_2 2 rfl rfl)
theorem dX2_bestPlace_51 : decode cX2_bestPlace 51 = .ok (.iconst 1, 1) := dk_4 (dk_at dksX2_bestPlace_2 5 rfl rfl)
theorem dX2_bestPlace_52 : decode cX2_bestPlace 52 = .ok (.goto 4, 3) := dk_167 0 4 (dk_at dksX2_bestPlace_2 6 rfl rfl)
theorem dX2_bestPlace_55 : decode cX2_bestPlace 55 = .ok (.iconst 0, 1) := dk_3 (dk_at dksX2_bestPlace_2 9 rfl rfl)
theorem dX2_bestPlace_56 : decode cX2_bestPlace 56 = .ok (.istore 5, 2) := dk_54 5 (dk_at dksX2_bestPlace_2 10 rfl rfl)
theorem dX2_bestPlace_58 : decode cX2_bestPlace 58 = .ok (.iload 5, 2) := dk_21 5 (dk_at dksX2_bestPlace_2 12 rfl rfl)
theorem dX2_bestPlace_60 : decode cX2_bestPlace 60 = .ok (.ifCond .eq 33, 3) := dk_153 0 33 (dk_at dksX2_bestPlace_2 14 rfl rfl)
theorem dX2_bestPlace_63 : decode cX2_bestPlace 63 = .ok (.iload_n 3, 1) := dk_29 (dk_at dksX2_bestPlace_2 17 rfl rfl)
theorem dX2_bestPlace_64 : decode cX2_bestPlace 64 = .ok (.bipush (-6), 2) := dk_16 250 (dk_at dksX2_bestPlace_2 18 rfl rfl)
theorem dX2_bestPlace_66 : decode cX2_bestPlace 66 = .ok (.if_icmp .eq 22, 3) := dk_159 0 22 (dk_at dksX2_bestPlace_2 20 rfl rfl)
theorem dX2_bestPlace_69 : decode cX2_bestPlace 69 = .ok (.aload_n 0, 1) := dk_42 (dk_at dksX2_bestPlace_2 23 rfl rfl)
theorem dX2_bestPlace_70 : decode cX2_bestPlace 70 = .ok (.iload_n 1, 1) := dk_27 (dk_at dksX2_bestPlace_3 0 rfl rfl)
theorem dX2_bestPlace_71 : decode cX2_bestPlace 71 = .ok (.iload_n 2, 1) := dk_28 (dk_at dksX2_bestPlace_3 1 rfl rfl)
theorem dX2_bestPlace_72 : decode cX2_bestPlace 72 = .ok (.iload 4, 2) := dk_21 4 (dk_at dksX2_bestPlace_3 2 rfl rfl)
theorem dX2_bestPlace_74 : decode cX2_bestPlace 74 = .ok (.invokevirtual 210, 3) := dk_182 0 210 (dk_at dksX2_bestPlace_3 4 rfl rfl)
theorem dX2_bestPlace_77 : decode cX2_bestPlace 77 = .ok (.aload_n 0, 1) := dk_42 (dk_at dksX2_bestPlace_3 7 rfl rfl)
theorem dX2_bestPlace_78 : decode cX2_bestPlace 78 = .ok (.iload_n 1, 1) := dk_27 (dk_at dksX2_bestPlace_3 8 rfl rfl)
theorem dX2_bestPlace_79 : decode cX2_bestPlace 79 = .ok (.iload_n 2, 1) := dk_28 (dk_at dksX2_bestPlace_3 9 rfl rfl)
theorem dX2_bestPlace_80 : decode cX2_bestPlace 80 = .ok (.iload_n 3, 1) := dk_29 (dk_at dksX2_bestPlace_3 10 rfl rfl)
theorem dX2_bestPlace_81 : decode cX2_bestPlace 81 = .ok (.invokevirtual 210, 3) := dk_182 0 210 (dk_at dksX2_bestPlace_3 11 rfl rfl)
theorem dX2_bestPlace_84 : decode cX2_bestPlace 84 = .ok (.fcmp .g, 1) := dk_150 (dk_at dksX2_bestPlace_3 14 rfl rfl)
theorem dX2_bestPlace_85 : decode cX2_bestPlace 85 = .ok (.ifCond .gt 8, 3) := dk_157 0 8 (dk_at dksX2_bestPlace_3 15 rfl rfl)
theorem dX2_bestPlace_88 : decode cX2_bestPlace 88 = .ok (.iload 4, 2) := dk_21 4 (dk_at dksX2_bestPlace_3 18 rfl rfl)
theorem dX2_bestPlace_90 : decode cX2_bestPlace 90 = .ok (.goto 4, 3) := dk_167 0 4 (dk_at dksX2_bestPlace_3 20 rfl rfl)
theorem dX2_bestPlace_93 : decode cX2_bestPlace 93 = .ok (.iload_n 3, 1) := dk_29 (dk_at dksX2_bestPlace_3 23 rfl rfl)
theorem dX2_bestPlace_94 : decode cX2_bestPlace 94 = .ok (.istore_n 3, 1) := dk_62 (dk_at dksX2_bestPlace_4 0 rfl rfl)
theorem dX2_bestPlace_95 : decode cX2_bestPlace 95 = .ok (.iinc 4 (-1), 3) := dk_132 4 255 (dk_at dksX2_bestPlace_4 1 rfl rfl)
theorem dX2_bestPlace_98 : decode cX2_bestPlace 98 = .ok (.goto (-64), 3) := dk_167 255 192 (dk_at dksX2_bestPlace_4 4 rfl rfl)
theorem dX2_bestPlace_101 : decode cX2_bestPlace 101 = .ok (.iload_n 3, 1) := dk_29 (dk_at dksX2_bestPlace_4 7 rfl rfl)
theorem dX2_bestPlace_102 : decode cX2_bestPlace 102 = .ok (.ireturn, 1) := dk_172 (dk_at dksX2_bestPlace_4 8 rfl rfl)
abbrev cX2_share : ByteArray := prog_8_method_70_code
def yX2_share : MethodName := ⟨RX2, "share", "(III)F"⟩
def dkwX2_share_2 : List UInt8 := [149, 158, 0, 8, 23, 4, 167, 0, 5, 23, 5, 174]
abbrev dktX2_share_2 : List UInt8 := dkwX2_share_2 ++ []
def dkwX2_share_1 : List UInt8 := [4, 27, 29, 182, 0, 79, 42, 180, 0, 7, 28, 4, 184, 0, 35, 46, 134, 110, 56, 5, 23, 4, 23, 5]
abbrev dktX2_share_1 : List UInt8 := dkwX2_share_1 ++ dktX2_share_2
def dkwX2_share_0 : List UInt8 := [42, 28, 3, 27, 29, 182, 0, 79, 42, 180, 0, 7, 28, 3, 184, 0, 35, 46, 134, 110, 56, 4, 42, 28]
abbrev dktX2_share_0 : List UInt8 := dkwX2_share_0 ++ dktX2_share_1
theorem dksX2_share_0 : cX2_share.data.toList.drop 0 = dktX2_share_0 := by decide +kernel
theorem dksX2_share_1 : cX2_share.data.toList.drop 24 = dktX2_share_1 := dk_seg dksX2_share_0 24 rfl rfl
theorem dksX2_share_2 : cX2_share.data.toList.drop 48 = dktX2_share_2 := dk_seg dksX2_share_1 24 rfl rfl
theorem dX2_share_0 : decode cX2_share 0 = .ok (.aload_n 0, 1) := dk_42 (dk_at dksX2_share_0 0 rfl rfl)
theorem dX2_share_1 : decode cX2_share 1 = .ok (.iload_n 2, 1) := dk_28 (dk_at dksX2_share_0 1 rfl rfl)
theorem dX2_share_2 : decode cX2_share 2 = .ok (.iconst 0, 1) := dk_3 (dk_at dksX2_share_0 2 rfl rfl)
theorem dX2_share_3 : decode cX2_share 3 = .ok (.iload_n 1, 1) := dk_27 (dk_at dksX2_share_0 3 rfl rfl)
theorem dX2_share_4 : decode cX2_share 4 = .ok (.iload_n 3, 1) := dk_29 (dk_at dksX2_share_0 4 rfl rfl)
theorem dX2_share_5 : decode cX2_share 5 = .ok (.invokevirtual 79, 3) := dk_182 0 79 (dk_at dksX2_share_0 5 rfl rfl)
theorem dX2_share_8 : decode cX2_share 8 = .ok (.aload_n 0, 1) := dk_42 (dk_at dksX2_share_0 8 rfl rfl)
theorem dX2_share_9 : decode cX2_share 9 = .ok (.getfield 7, 3) := dk_180 0 7 (dk_at dksX2_share_0 9 rfl rfl)
theorem dX2_share_12 : decode cX2_share 12 = .ok (.iload_n 2, 1) := dk_28 (dk_at dksX2_share_0 12 rfl rfl)
theorem dX2_share_13 : decode cX2_share 13 = .ok (.iconst 0, 1) := dk_3 (dk_at dksX2_share_0 13 rfl rfl)
theorem dX2_share_14 : decode cX2_share 14 = .ok (.invokestatic 35, 3) := dk_184 0 35 (dk_at dksX2_share_0 14 rfl rfl)
theorem dX2_share_17 : decode cX2_share 17 = .ok (.iaload, 1) := dk_46 (dk_at dksX2_share_0 17 rfl rfl)
theorem dX2_share_18 : decode cX2_share 18 = .ok (.i2f, 1) := dk_134 (dk_at dksX2_share_0 18 rfl rfl)
theorem dX2_share_19 : decode cX2_share 19 = .ok (.fdiv, 1) := dk_110 (dk_at dksX2_share_0 19 rfl rfl)
theorem dX2_share_20 : decode cX2_share 20 = .ok (.fstore 4, 2) := dk_56 4 (dk_at dksX2_share_0 20 rfl rfl)
theorem dX2_share_22 : decode cX2_share 22 = .ok (.aload_n 0, 1) := dk_42 (dk_at dksX2_share_0 22 rfl rfl)
theorem dX2_share_23 : decode cX2_share 23 = .ok (.iload_n 2, 1) := dk_28 (dk_at dksX2_share_0 23 rfl rfl)
theorem dX2_share_24 : decode cX2_share 24 = .ok (.iconst 1, 1) := dk_4 (dk_at dksX2_share_1 0 rfl rfl)
theorem dX2_share_25 : decode cX2_share 25 = .ok (.iload_n 1, 1) := dk_27 (dk_at dksX2_share_1 1 rfl rfl)
theorem dX2_share_26 : decode cX2_share 26 = .ok (.iload_n 3, 1) := dk_29 (dk_at dksX2_share_1 2 rfl rfl)
theorem dX2_share_27 : decode cX2_share 27 = .ok (.invokevirtual 79, 3) := dk_182 0 79 (dk_at dksX2_share_1 3 rfl rfl)
theorem dX2_share_30 : decode cX2_share 30 = .ok (.aload_n 0, 1) := dk_42 (dk_at dksX2_share_1 6 rfl rfl)
theorem dX2_share_31 : decode cX2_share 31 = .ok (.getfield 7, 3) := dk_180 0 7 (dk_at dksX2_share_1 7 rfl rfl)
theorem dX2_share_34 : decode cX2_share 34 = .ok (.iload_n 2, 1) := dk_28 (dk_at dksX2_share_1 10 rfl rfl)
theorem dX2_share_35 : decode cX2_share 35 = .ok (.iconst 1, 1) := dk_4 (dk_at dksX2_share_1 11 rfl rfl)
theorem dX2_share_36 : decode cX2_share 36 = .ok (.invokestatic 35, 3) := dk_184 0 35 (dk_at dksX2_share_1 12 rfl rfl)
theorem dX2_share_39 : decode cX2_share 39 = .ok (.iaload, 1) := dk_46 (dk_at dksX2_share_1 15 rfl rfl)
theorem dX2_share_40 : decode cX2_share 40 = .ok (.i2f, 1) := dk_134 (dk_at dksX2_share_1 16 rfl rfl)
theorem dX2_share_41 : decode cX2_share 41 = .ok (.fdiv, 1) := dk_110 (dk_at dksX2_share_1 17 rfl rfl)
theorem dX2_share_42 : decode cX2_share 42 = .ok (.fstore 5, 2) := dk_56 5 (dk_at dksX2_share_1 18 rfl rfl)
theorem dX2_share_44 : decode cX2_share 44 = .ok (.fload 4, 2) := dk_23 4 (dk_at dksX2_share_1 20 rfl rfl)
theorem dX2_share_46 : decode cX2_share 46 = .ok (.fload 5, 2) := dk_23 5 (dk_at dksX2_share_1 22 rfl rfl)
theorem dX2_share_48 : decode cX2_share 48 = .ok (.fcmp .l, 1) := dk_149 (dk_at dksX2_share_2 0 rfl rfl)
theorem dX2_share_49 : decode cX2_share 49 = .ok (.ifCond .le 8, 3) := dk_158 0 8 (dk_at dksX2_share_2 1 rfl rfl)
theorem dX2_share_52 : decode cX2_share 52 = .ok (.fload 4, 2) := dk_23 4 (dk_at dksX2_share_2 4 rfl rfl)
theorem dX2_share_54 : decode cX2_share 54 = .ok (.goto 5, 3) := dk_167 0 5 (dk_at dksX2_share_2 6 rfl rfl)
theorem dX2_share_57 : decode cX2_share 57 = .ok (.fload 5, 2) := dk_23 5 (dk_at dksX2_share_2 9 rfl rfl)
theorem dX2_share_59 : decode cX2_share 59 = .ok (.freturn, 1) := dk_174 (dk_at dksX2_share_2 11 rfl rfl)
abbrev cX2_put : ByteArray := prog_8_method_72_code
def yX2_put : MethodName := ⟨RX2, "put", "(J)I"⟩
def dkwX2_put_7 : List UInt8 := [167, 255, 219, 42, 89, 180, 0, 189, 29, 96, 181, 0, 189, 42, 180, 0, 189, 172]
abbrev dktX2_put_7 : List UInt8 := dkwX2_put_7 ++ []
def dkwX2_put_6 : List UInt8 := [96, 4, 100, 21, 5, 100, 31, 16, 8, 21, 5, 104, 125, 20, 0, 214, 127, 136, 79, 132, 5, 1]
abbrev dktX2_put_6 : List UInt8 := dkwX2_put_6 ++ dktX2_put_7
def dkwX2_put_5 : List UInt8 := [164, 0, 6, 16, 252, 172, 3, 54, 5, 21, 5, 29, 162, 0, 37, 42, 180, 0, 26, 42, 180, 0, 189, 29]
abbrev dktX2_put_5 : List UInt8 := dkwX2_put_5 ++ dktX2_put_6
def dkwX2_put_4 : List UInt8 := [96, 62, 132, 5, 1, 167, 255, 166, 21, 4, 153, 0, 6, 16, 254, 172, 42, 180, 0, 189, 29, 96, 16, 80]
abbrev dktX2_put_4 : List UInt8 := dkwX2_put_4 ++ dktX2_put_5
def dkwX2_put_3 : List UInt8 := [184, 0, 39, 154, 0, 7, 4, 167, 0, 4, 3, 54, 4, 29, 21, 7, 153, 0, 7, 3, 167, 0, 4, 4]
abbrev dktX2_put_3 : List UInt8 := dkwX2_put_3 ++ dktX2_put_4
def dkwX2_put_2 : List UInt8 := [4, 167, 0, 4, 3, 54, 7, 21, 4, 154, 0, 20, 21, 7, 154, 0, 19, 21, 6, 16, 33, 16, 126]
abbrev dktX2_put_2 : List UInt8 := dkwX2_put_2 ++ dktX2_put_3
def dkwX2_put_1 : List UInt8 := [20, 0, 214, 127, 136, 54, 6, 21, 5, 158, 0, 19, 31, 16, 8, 21, 5, 104, 125, 9, 148, 154, 0, 7]
abbrev dktX2_put_1 : List UInt8 := dkwX2_put_1 ++ dktX2_put_2
def dkwX2_put_0 : List UInt8 := [3, 62, 3, 54, 4, 3, 54, 5, 21, 5, 16, 8, 162, 0, 89, 31, 16, 8, 21, 5, 104, 125]
abbrev dktX2_put_0 : List UInt8 := dkwX2_put_0 ++ dktX2_put_1
theorem dksX2_put_0 : cX2_put.data.toList.drop 0 = dktX2_put_0 := by decide +kernel
theorem dksX2_put_1 : cX2_put.data.toList.drop 22 = dktX2_put_1 := dk_seg dksX2_put_0 22 rfl rfl
theorem dksX2_put_2 : cX2_put.data.toList.drop 46 = dktX2_put_2 := dk_seg dksX2_put_1 24 rfl rfl
theorem dksX2_put_3 : cX2_put.data.toList.drop 69 = dktX2_put_3 := dk_seg dksX2_put_2 23 rfl rfl
theorem dksX2_put_4 : cX2_put.data.toList.drop 93 = dktX2_put_4 := dk_seg dksX2_put_3 24 rfl rfl
theorem dksX2_put_5 : cX2_put.data.toList.drop 117 = dktX2_put_5 := dk_seg dksX2_put_4 24 rfl rfl
theorem dksX2_put_6 : cX2_put.data.toList.drop 141 = dktX2_put_6 := dk_seg dksX2_put_5 24 rfl rfl
theorem dksX2_put_7 : cX2_put.data.toList.drop 163 = dktX2_put_7 := dk_seg dksX2_put_6 22 rfl rfl
theorem dX2_put_0 : decode cX2_put 0 = .ok (.iconst 0, 1) := dk_3 (dk_at dksX2_put_0 0 rfl rfl)
theorem dX2_put_1 : decode cX2_put 1 = .ok (.istore_n 3, 1) := dk_62 (dk_at dksX2_put_0 1 rfl rfl)
theorem dX2_put_2 : decode cX2_put 2 = .ok (.iconst 0, 1) := dk_3 (dk_at dksX2_put_0 2 rfl rfl)
theorem dX2_put_3 : decode cX2_put 3 = .ok (.istore 4, 2) := dk_54 4 (dk_at dksX2_put_0 3 rfl rfl)
theorem dX2_put_5 : decode cX2_put 5 = .ok (.iconst 0, 1) := dk_3 (dk_at dksX2_put_0 5 rfl rfl)
theorem dX2_put_6 : decode cX2_put 6 = .ok (.istore 5, 2) := dk_54 5 (dk_at dksX2_put_0 6 rfl rfl)
theorem dX2_put_8 : decode cX2_put 8 = .ok (.iload 5, 2) := dk_21 5 (dk_at dksX2_put_0 8 rfl rfl)
theorem dX2_put_10 : decode cX2_put 10 = .ok (.bipush 8, 2) := dk_16 8 (dk_at dksX2_put_0 10 rfl rfl)
theorem dX2_put_12 : decode cX2_put 12 = .ok (.if_icmp .ge 89, 3) := dk_162 0 89 (dk_at dksX2_put_0 12 rfl rfl)
theorem dX2_put_15 : decode cX2_put 15 = .ok (.lload_n 1, 1) := dk_31 (dk_at dksX2_put_0 15 rfl rfl)
theorem dX2_put_16 : decode cX2_put 16 = .ok (.bipush 8, 2) := dk_16 8 (dk_at dksX2_put_0 16 rfl rfl)
theorem dX2_put_18 : decode cX2_put 18 = .ok (.iload 5, 2) := dk_21 5 (dk_at dksX2_put_0 18 rfl rfl)
theorem dX2_put_20 : decode cX2_put 20 = .ok (.imul, 1) := dk_104 (dk_at dksX2_put_0 20 rfl rfl)
theorem dX2_put_21 : decode cX2_put 21 = .ok (.lushr, 1) := dk_125 (dk_at dksX2_put_0 21 rfl rfl)
theorem dX2_put_22 : decode cX2_put 22 = .ok (.ldc2_w 214, 3) := dk_20 0 214 (dk_at dksX2_put_1 0 rfl rfl)
theorem dX2_put_25 : decode cX2_put 25 = .ok (.land, 1) := dk_127 (dk_at dksX2_put_1 3 rfl rfl)
theorem dX2_put_26 : decode cX2_put 26 = .ok (.l2i, 1) := dk_136 (dk_at dksX2_put_1 4 rfl rfl)
theorem dX2_put_27 : decode cX2_put 27 = .ok (.istore 6, 2) := dk_54 6 (dk_at dksX2_put_1 5 rfl rfl)
theorem dX2_put_29 : decode cX2_put 29 = .ok (.iload 5, 2) := dk_21 5 (dk_at dksX2_put_1 7 rfl rfl)
theorem dX2_put_31 : decode cX2_put 31 = .ok (.ifCond .le 19, 3) := dk_158 0 19 (dk_at dksX2_put_1 9 rfl rfl)
theorem dX2_put_34 : decode cX2_put 34 = .ok (.lload_n 1, 1) := dk_31 (dk_at dksX2_put_1 12 rfl rfl)
theorem dX2_put_35 : decode cX2_put 35 = .ok (.bipush 8, 2) := dk_16 8 (dk_at dksX2_put_1 13 rfl rfl)
theorem dX2_put_37 : decode cX2_put 37 = .ok (.iload 5, 2) := dk_21 5 (dk_at dksX2_put_1 15 rfl rfl)
theorem dX2_put_39 : decode cX2_put 39 = .ok (.imul, 1) := dk_104 (dk_at dksX2_put_1 17 rfl rfl)
theorem dX2_put_40 : decode cX2_put 40 = .ok (.lushr, 1) := dk_125 (dk_at dksX2_put_1 18 rfl rfl)
theorem dX2_put_41 : decode cX2_put 41 = .ok (.lconst 0, 1) := dk_9 (dk_at dksX2_put_1 19 rfl rfl)
theorem dX2_put_42 : decode cX2_put 42 = .ok (.lcmp, 1) := dk_148 (dk_at dksX2_put_1 20 rfl rfl)
theorem dX2_put_43 : decode cX2_put 43 = .ok (.ifCond .ne 7, 3) := dk_154 0 7 (dk_at dksX2_put_1 21 rfl rfl)
theorem dX2_put_46 : decode cX2_put 46 = .ok (.iconst 1, 1) := dk_4 (dk_at dksX2_put_2 0 rfl rfl)
theorem dX2_put_47 : decode cX2_put 47 = .ok (.goto 4, 3) := dk_167 0 4 (dk_at dksX2_put_2 1 rfl rfl)
theorem dX2_put_50 : decode cX2_put 50 = .ok (.iconst 0, 1) := dk_3 (dk_at dksX2_put_2 4 rfl rfl)
theorem dX2_put_51 : decode cX2_put 51 = .ok (.istore 7, 2) := dk_54 7 (dk_at dksX2_put_2 5 rfl rfl)
theorem dX2_put_53 : decode cX2_put 53 = .ok (.iload 4, 2) := dk_21 4 (dk_at dksX2_put_2 7 rfl rfl)
theorem dX2_put_55 : decode cX2_put 55 = .ok (.ifCond .ne 20, 3) := dk_154 0 20 (dk_at dksX2_put_2 9 rfl rfl)
theorem dX2_put_58 : decode cX2_put 58 = .ok (.iload 7, 2) := dk_21 7 (dk_at dksX2_put_2 12 rfl rfl)
theorem dX2_put_60 : decode cX2_put 60 = .ok (.ifCond .ne 19, 3) := dk_154 0 19 (dk_at dksX2_put_2 14 rfl rfl)
theorem dX2_put_63 : decode cX2_put 63 = .ok (.iload 6, 2) := dk_21 6 (dk_at dksX2_put_2 17 rfl rfl)
theorem dX2_put_65 : decode cX2_put 65 = .ok (.bipush 33, 2) := dk_16 33 (dk_at dksX2_put_2 19 rfl rfl)
theorem dX2_put_67 : decode cX2_put 67 = .ok (.bipush 126, 2) := dk_16 126 (dk_at dksX2_put_2 21 rfl rfl)
theorem dX2_put_69 : decode cX2_put 69 = .ok (.invokestatic 39, 3) := dk_184 0 39 (dk_at dksX2_put_3 0 rfl rfl)
theorem dX2_put_72 : decode cX2_put 72 = .ok (.ifCond .ne 7, 3) := dk_154 0 7 (dk_at dksX2_put_3 3 rfl rfl)
theorem dX2_put_75 : decode cX2_put 75 = .ok (.iconst 1, 1) := dk_4 (dk_at dksX2_put_3 6 rfl rfl)
theorem dX2_put_76 : decode cX2_put 76 = .ok (.goto 4, 3) := dk_167 0 4 (dk_at dksX2_put_3 7 rfl rfl)
theorem dX2_put_79 : decode cX2_put 79 = .ok (.iconst 0, 1) := dk_3 (dk_at dksX2_put_3 10 rfl rfl)
theorem dX2_put_80 : decode cX2_put 80 = .ok (.istore 4, 2) := dk_54 4 (dk_at dksX2_put_3 11 rfl rfl)
theorem dX2_put_82 : decode cX2_put 82 = .ok (.iload_n 3, 1) := dk_29 (dk_at dksX2_put_3 13 rfl rfl)
theorem dX2_put_83 : decode cX2_put 83 = .ok (.iload 7, 2) := dk_21 7 (dk_at dksX2_put_3 14 rfl rfl)
theorem dX2_put_85 : decode cX2_put 85 = .ok (.ifCond .eq 7, 3) := dk_153 0 7 (dk_at dksX2_put_3 16 rfl rfl)
theorem dX2_put_88 : decode cX2_put 88 = .ok (.iconst 0, 1) := dk_3 (dk_at dksX2_put_3 19 rfl rfl)
theorem dX2_put_89 : decode cX2_put 89 = .ok (.goto 4, 3) := dk_167 0 4 (dk_at dksX2_put_3 20 rfl rfl)
theorem dX2_put_92 : decode cX2_put 92 = .ok (.iconst 1, 1) := dk_4 (dk_at dksX2_put_3 23 rfl rfl)
theorem dX2_put_93 : decode cX2_put 93 = .ok (.iadd, 1) := dk_96 (dk_at dksX2_put_4 0 rfl rfl)
theorem dX2_put_94 : decode cX2_put 94 = .ok (.istore_n 3, 1) := dk_62 (dk_at dksX2_put_4 1 rfl rfl)
theorem dX2_put_95 : decode cX2_put 95 = .ok (.iinc 5 1, 3) := dk_132 5 1 (dk_at dksX2_put_4 2 rfl rfl)
theorem dX2_put_98 : decode cX2_put 98 = .ok (.goto (-90), 3) := dk_167 255 166 (dk_at dksX2_put_4 5 rfl rfl)
theorem dX2_put_101 : decode cX2_put 101 = .ok (.iload 4, 2) := dk_21 4 (dk_at dksX2_put_4 8 rfl rfl)
theorem dX2_put_103 : decode cX2_put 103 = .ok (.ifCond .eq 6, 3) := dk_153 0 6 (dk_at dksX2_put_4 10 rfl rfl)
theorem dX2_put_106 : decode cX2_put 106 = .ok (.bipush (-2), 2) := dk_16 254 (dk_at dksX2_put_4 13 rfl rfl)
theorem dX2_put_108 : decode cX2_put 108 = .ok (.ireturn, 1) := dk_172 (dk_at dksX2_put_4 15 rfl rfl)
theorem dX2_put_109 : decode cX2_put 109 = .ok (.aload_n 0, 1) := dk_42 (dk_at dksX2_put_4 16 rfl rfl)
theorem dX2_put_110 : decode cX2_put 110 = .ok (.getfield 189, 3) := dk_180 0 189 (dk_at dksX2_put_4 17 rfl rfl)
theorem dX2_put_113 : decode cX2_put 113 = .ok (.iload_n 3, 1) := dk_29 (dk_at dksX2_put_4 20 rfl rfl)
theorem dX2_put_114 : decode cX2_put 114 = .ok (.iadd, 1) := dk_96 (dk_at dksX2_put_4 21 rfl rfl)
theorem dX2_put_115 : decode cX2_put 115 = .ok (.bipush 80, 2) := dk_16 80 (dk_at dksX2_put_4 22 rfl rfl)
theorem dX2_put_117 : decode cX2_put 117 = .ok (.if_icmp .le 6, 3) := dk_164 0 6 (dk_at dksX2_put_5 0 rfl rfl)
theorem dX2_put_120 : decode cX2_put 120 = .ok (.bipush (-4), 2) := dk_16 252 (dk_at dksX2_put_5 3 rfl rfl)
theorem dX2_put_122 : decode cX2_put 122 = .ok (.ireturn, 1) := dk_172 (dk_at dksX2_put_5 5 rfl rfl)
theorem dX2_put_123 : decode cX2_put 123 = .ok (.iconst 0, 1) := dk_3 (dk_at dksX2_put_5 6 rfl rfl)
theorem dX2_put_124 : decode cX2_put 124 = .ok (.istore 5, 2) := dk_54 5 (dk_at dksX2_put_5 7 rfl rfl)
theorem dX2_put_126 : decode cX2_put 126 = .ok (.iload 5, 2) := dk_21 5 (dk_at dksX2_put_5 9 rfl rfl)
theorem dX2_put_128 : decode cX2_put 128 = .ok (.iload_n 3, 1) := dk_29 (dk_at dksX2_put_5 11 rfl rfl)
theorem dX2_put_129 : decode cX2_put 129 = .ok (.if_icmp .ge 37, 3) := dk_162 0 37 (dk_at dksX2_put_5 12 rfl rfl)
theorem dX2_put_132 : decode cX2_put 132 = .ok (.aload_n 0, 1) := dk_42 (dk_at dksX2_put_5 15 rfl rfl)
theorem dX2_put_133 : decode cX2_put 133 = .ok (.getfield 26, 3) := dk_180 0 26 (dk_at dksX2_put_5 16 rfl rfl)
theorem dX2_put_136 : decode cX2_put 136 = .ok (.aload_n 0, 1) := dk_42 (dk_at dksX2_put_5 19 rfl rfl)
theorem dX2_put_137 : decode cX2_put 137 = .ok (.getfield 189, 3) := dk_180 0 189 (dk_at dksX2_put_5 20 rfl rfl)
theorem dX2_put_140 : decode cX2_put 140 = .ok (.iload_n 3, 1) := dk_29 (dk_at dksX2_put_5 23 rfl rfl)
theorem dX2_put_141 : decode cX2_put 141 = .ok (.iadd, 1) := dk_96 (dk_at dksX2_put_6 0 rfl rfl)
theorem dX2_put_142 : decode cX2_put 142 = .ok (.iconst 1, 1) := dk_4 (dk_at dksX2_put_6 1 rfl rfl)
theorem dX2_put_143 : decode cX2_put 143 = .ok (.isub, 1) := dk_100 (dk_at dksX2_put_6 2 rfl rfl)
theorem dX2_put_144 : decode cX2_put 144 = .ok (.iload 5, 2) := dk_21 5 (dk_at dksX2_put_6 3 rfl rfl)
theorem dX2_put_146 : decode cX2_put 146 = .ok (.isub, 1) := dk_100 (dk_at dksX2_put_6 5 rfl rfl)
theorem dX2_put_147 : decode cX2_put 147 = .ok (.lload_n 1, 1) := dk_31 (dk_at dksX2_put_6 6 rfl rfl)
theorem dX2_put_148 : decode cX2_put 148 = .ok (.bipush 8, 2) := dk_16 8 (dk_at dksX2_put_6 7 rfl rfl)
theorem dX2_put_150 : decode cX2_put 150 = .ok (.iload 5, 2) := dk_21 5 (dk_at dksX2_put_6 9 rfl rfl)
theorem dX2_put_152 : decode cX2_put 152 = .ok (.imul, 1) := dk_104 (dk_at dksX2_put_6 11 rfl rfl)
theorem dX2_put_153 : decode cX2_put 153 = .ok (.lushr, 1) := dk_125 (dk_at dksX2_put_6 12 rfl rfl)
theorem dX2_put_154 : decode cX2_put 154 = .ok (.ldc2_w 214, 3) := dk_20 0 214 (dk_at dksX2_put_6 13 rfl rfl)
theorem dX2_put_157 : decode cX2_put 157 = .ok (.land, 1) := dk_127 (dk_at dksX2_put_6 16 rfl rfl)
theorem dX2_put_158 : decode cX2_put 158 = .ok (.l2i, 1) := dk_136 (dk_at dksX2_put_6 17 rfl rfl)
theorem dX2_put_159 : decode cX2_put 159 = .ok (.iastore, 1) := dk_79 (dk_at dksX2_put_6 18 rfl rfl)
theorem dX2_put_160 : decode cX2_put 160 = .ok (.iinc 5 1, 3) := dk_132 5 1 (dk_at dksX2_put_6 19 rfl rfl)
theorem dX2_put_163 : decode cX2_put 163 = .ok (.goto (-37), 3) := dk_167 255 219 (dk_at dksX2_put_7 0 rfl rfl)
theorem dX2_put_166 : decode cX2_put 166 = .ok (.aload_n 0, 1) := dk_42 (dk_at dksX2_put_7 3 rfl rfl)
theorem dX2_put_167 : decode cX2_put 167 = .ok (.dup, 1) := dk_89 (dk_at dksX2_put_7 4 rfl rfl)
theorem dX2_put_168 : decode cX2_put 168 = .ok (.getfield 189, 3) := dk_180 0 189 (dk_at dksX2_put_7 5 rfl rfl)
theorem dX2_put_171 : decode cX2_put 171 = .ok (.iload_n 3, 1) := dk_29 (dk_at dksX2_put_7 8 rfl rfl)
theorem dX2_put_172 : decode cX2_put 172 = .ok (.iadd, 1) := dk_96 (dk_at dksX2_put_7 9 rfl rfl)
theorem dX2_put_173 : decode cX2_put 173 = .ok (.putfield 189, 3) := dk_181 0 189 (dk_at dksX2_put_7 10 rfl rfl)
theorem dX2_put_176 : decode cX2_put 176 = .ok (.aload_n 0, 1) := dk_42 (dk_at dksX2_put_7 13 rfl rfl)
theorem dX2_put_177 : decode cX2_put 177 = .ok (.getfield 189, 3) := dk_180 0 189 (dk_at dksX2_put_7 14 rfl rfl)
theorem dX2_put_180 : decode cX2_put 180 = .ok (.ireturn, 1) := dk_172 (dk_at dksX2_put_7 17 rfl rfl)
abbrev cX2_wipe : ByteArray := prog_8_method_73_code
def yX2_wipe : MethodName := ⟨RX2, "wipe", "()I"⟩
def dkwX2_wipe_0 : List UInt8 := [42, 180, 0, 189, 60, 42, 3, 181, 0, 189, 27, 172]
abbrev dktX2_wipe_0 : List UInt8 := dkwX2_wipe_0 ++ []
theorem dksX2_wipe_0 : cX2_wipe.data.toList.drop 0 = dktX2_wipe_0 := by decide +kernel
theorem dX2_wipe_0 : decode cX2_wipe 0 = .ok (.aload_n 0, 1) := dk_42 (dk_at dksX2_wipe_0 0 rfl rfl)
theorem dX2_wipe_1 : decode cX2_wipe 1 = .ok (.getfield 189, 3) := dk_180 0 189 (dk_at dksX2_wipe_0 1 rfl rfl)
theorem dX2_wipe_4 : decode cX2_wipe 4 = .ok (.istore_n 1, 1) := dk_60 (dk_at dksX2_wipe_0 4 rfl rfl)
theorem dX2_wipe_5 : decode cX2_wipe 5 = .ok (.aload_n 0, 1) := dk_42 (dk_at dksX2_wipe_0 5 rfl rfl)
theorem dX2_wipe_6 : decode cX2_wipe 6 = .ok (.iconst 0, 1) := dk_3 (dk_at dksX2_wipe_0 6 rfl rfl)
theorem dX2_wipe_7 : decode cX2_wipe 7 = .ok (.putfield 189, 3) := dk_181 0 189 (dk_at dksX2_wipe_0 7 rfl rfl)
theorem dX2_wipe_10 : decode cX2_wipe 10 = .ok (.iload_n 1, 1) := dk_27 (dk_at dksX2_wipe_0 10 rfl rfl)
theorem dX2_wipe_11 : decode cX2_wipe 11 = .ok (.ireturn, 1) := dk_172 (dk_at dksX2_wipe_0 11 rfl rfl)
abbrev cX2_fault : ByteArray := prog_8_method_80_code
def yX2_fault : MethodName := ⟨RX2, "fault", "()I"⟩
def dkwX2_fault_0 : List UInt8 := [42, 3, 182, 0, 238, 60, 42, 180, 0, 216, 153, 0, 10, 42, 180, 0, 220, 167, 0, 5, 16, 250, 172]
abbrev dktX2_fault_0 : List UInt8 := dkwX2_fault_0 ++ []
theorem dksX2_fault_0 : cX2_fault.data.toList.drop 0 = dktX2_fault_0 := by decide +kernel
theorem dX2_fault_0 : decode cX2_fault 0 = .ok (.aload_n 0, 1) := dk_42 (dk_at dksX2_fault_0 0 rfl rfl)
theorem dX2_fault_1 : decode cX2_fault 1 = .ok (.iconst 0, 1) := dk_3 (dk_at dksX2_fault_0 1 rfl rfl)
theorem dX2_fault_2 : decode cX2_fault 2 = .ok (.invokevirtual 238, 3) := dk_182 0 238 (dk_at dksX2_fault_0 2 rfl rfl)
theorem dX2_fault_5 : decode cX2_fault 5 = .ok (.istore_n 1, 1) := dk_60 (dk_at dksX2_fault_0 5 rfl rfl)
theorem dX2_fault_6 : decode cX2_fault 6 = .ok (.aload_n 0, 1) := dk_42 (dk_at dksX2_fault_0 6 rfl rfl)
theorem dX2_fault_7 : decode cX2_fault 7 = .ok (.getfield 216, 3) := dk_180 0 216 (dk_at dksX2_fault_0 7 rfl rfl)
theorem dX2_fault_10 : decode cX2_fault 10 = .ok (.ifCond .eq 10, 3) := dk_153 0 10 (dk_at dksX2_fault_0 10 rfl rfl)
theorem dX2_fault_13 : decode cX2_fault 13 = .ok (.aload_n 0, 1) := dk_42 (dk_at dksX2_fault_0 13 rfl rfl)
theorem dX2_fault_14 : decode cX2_fault 14 = .ok (.getfield 220, 3) := dk_180 0 220 (dk_at dksX2_fault_0 14 rfl rfl)
theorem dX2_fault_17 : decode cX2_fault 17 = .ok (.goto 5, 3) := dk_167 0 5 (dk_at dksX2_fault_0 17 rfl rfl)
theorem dX2_fault_20 : decode cX2_fault 20 = .ok (.bipush (-6), 2) := dk_16 250 (dk_at dksX2_fault_0 20 rfl rfl)
theorem dX2_fault_22 : decode cX2_fault 22 = .ok (.ireturn, 1) := dk_172 (dk_at dksX2_fault_0 22 rfl rfl)
abbrev cX2_goes : ByteArray := prog_8_method_79_code
def yX2_goes : MethodName := ⟨RX2, "goes", "(Z)I"⟩
def dkwX2_goes_6 : List UInt8 := [167, 255, 131, 28, 172]
abbrev dktX2_goes_6 : List UInt8 := dkwX2_goes_6 ++ []
def dkwX2_goes_5 : List UInt8 := [42, 16, 59, 16, 59, 182, 0, 223, 54, 5, 42, 180, 0, 216, 154, 0, 7, 4, 167, 0, 4, 3, 62]
abbrev dktX2_goes_5 : List UInt8 := dkwX2_goes_5 ++ dktX2_goes_6
def dkwX2_goes_4 : List UInt8 := [154, 0, 18, 42, 180, 0, 220, 42, 180, 0, 189, 162, 0, 7, 4, 167, 0, 4, 3, 62, 29, 153, 0, 26]
abbrev dktX2_goes_4 : List UInt8 := dkwX2_goes_4 ++ dktX2_goes_5
def dkwX2_goes_3 : List UInt8 := [28, 21, 4, 153, 0, 7, 4, 167, 0, 4, 3, 96, 61, 21, 4, 153, 0, 25, 42, 180, 0, 216]
abbrev dktX2_goes_3 : List UInt8 := dkwX2_goes_3 ++ dktX2_goes_4
def dkwX2_goes_2 : List UInt8 := [180, 0, 32, 6, 46, 42, 180, 0, 32, 7, 46, 182, 0, 159, 155, 0, 7, 4, 167, 0, 4, 3, 54, 4]
abbrev dktX2_goes_2 : List UInt8 := dkwX2_goes_2 ++ dktX2_goes_3
def dkwX2_goes_1 : List UInt8 := [153, 0, 40, 42, 42, 180, 0, 32, 3, 46, 42, 180, 0, 32, 4, 46, 42, 180, 0, 32, 5, 46, 42]
abbrev dktX2_goes_1 : List UInt8 := dkwX2_goes_1 ++ dktX2_goes_2
def dkwX2_goes_0 : List UInt8 := [42, 3, 181, 0, 220, 42, 3, 181, 0, 216, 3, 61, 4, 62, 29, 153, 0, 127, 42, 182, 0, 235, 27]
abbrev dktX2_goes_0 : List UInt8 := dkwX2_goes_0 ++ dktX2_goes_1
theorem dksX2_goes_0 : cX2_goes.data.toList.drop 0 = dktX2_goes_0 := by decide +kernel
theorem dksX2_goes_1 : cX2_goes.data.toList.drop 23 = dktX2_goes_1 := dk_seg dksX2_goes_0 23 rfl rfl
theorem dksX2_goes_2 : cX2_goes.data.toList.drop 46 = dktX2_goes_2 := dk_seg dksX2_goes_1 23 rfl rfl
theorem dksX2_goes_3 : cX2_goes.data.toList.drop 70 = dktX2_goes_3 := dk_seg dksX2_goes_2 24 rfl rfl
theorem dksX2_goes_4 : cX2_goes.data.toList.drop 92 = dktX2_goes_4 := dk_seg dksX2_goes_3 22 rfl rfl
theorem dksX2_goes_5 : cX2_goes.data.toList.drop 116 = dktX2_goes_5 := dk_seg dksX2_goes_4 24 rfl rfl
theorem dksX2_goes_6 : cX2_goes.data.toList.drop 139 = dktX2_goes_6 := dk_seg dksX2_goes_5 23 rfl rfl
theorem dX2_goes_0 : decode cX2_goes 0 = .ok (.aload_n 0, 1) := dk_42 (dk_at dksX2_goes_0 0 rfl rfl)
theorem dX2_goes_1 : decode cX2_goes 1 = .ok (.iconst 0, 1) := dk_3 (dk_at dksX2_goes_0 1 rfl rfl)
theorem dX2_goes_2 : decode cX2_goes 2 = .ok (.putfield 220, 3) := dk_181 0 220 (dk_at dksX2_goes_0 2 rfl rfl)
theorem dX2_goes_5 : decode cX2_goes 5 = .ok (.aload_n 0, 1) := dk_42 (dk_at dksX2_goes_0 5 rfl rfl)
theorem dX2_goes_6 : decode cX2_goes 6 = .ok (.iconst 0, 1) := dk_3 (dk_at dksX2_goes_0 6 rfl rfl)
theorem dX2_goes_7 : decode cX2_goes 7 = .ok (.putfield 216, 3) := dk_181 0 216 (dk_at dksX2_goes_0 7 rfl rfl)
theorem dX2_goes_10 : decode cX2_goes 10 = .ok (.iconst 0, 1) := dk_3 (dk_at dksX2_goes_0 10 rfl rfl)
theorem dX2_goes_11 : decode cX2_goes 11 = .ok (.istore_n 2, 1) := dk_61 (dk_at dksX2_goes_0 11 rfl rfl)
theorem dX2_goes_12 : decode cX2_goes 12 = .ok (.iconst 1, 1) := dk_4 (dk_at dksX2_goes_0 12 rfl rfl)
theorem dX2_goes_13 : decode cX2_goes 13 = .ok (.istore_n 3, 1) := dk_62 (dk_at dksX2_goes_0 13 rfl rfl)
theorem dX2_goes_14 : decode cX2_goes 14 = .ok (.iload_n 3, 1) := dk_29 (dk_at dksX2_goes_0 14 rfl rfl)
theorem dX2_goes_15 : decode cX2_goes 15 = .ok (.ifCond .eq 127, 3) := dk_153 0 127 (dk_at dksX2_goes_0 15 rfl rfl)
theorem dX2_goes_18 : decode cX2_goes 18 = .ok (.aload_n 0, 1) := dk_42 (dk_at dksX2_goes_0 18 rfl rfl)
theorem dX2_goes_19 : decode cX2_goes 19 = .ok (.invokevirtual 235, 3) := dk_182 0 235 (dk_at dksX2_goes_0 19 rfl rfl)
theorem dX2_goes_22 : decode cX2_goes 22 = .ok (.iload_n 1, 1) := dk_27 (dk_at dksX2_goes_0 22 rfl rfl)
theorem dX2_goes_23 : decode cX2_goes 23 = .ok (.ifCond .eq 40, 3) := dk_153 0 40 (dk_at dksX2_goes_1 0 rfl rfl)
theorem dX2_goes_26 : decode cX2_goes 26 = .ok (.aload_n 0, 1) := dk_42 (dk_at dksX2_goes_1 3 rfl rfl)
theorem dX2_goes_27 : decode cX2_goes 27 = .ok (.aload_n 0, 1) := dk_42 (dk_at dksX2_goes_1 4 rfl rfl)
theorem dX2_goes_28 : decode cX2_goes 28 = .ok (.getfield 32, 3) := dk_180 0 32 (dk_at dksX2_goes_1 5 rfl rfl)
theorem dX2_goes_31 : decode cX2_goes 31 = .ok (.iconst 0, 1) := dk_3 (dk_at dksX2_goes_1 8 rfl rfl)
theorem dX2_goes_32 : decode cX2_goes 32 = .ok (.iaload, 1) := dk_46 (dk_at dksX2_goes_1 9 rfl rfl)
theorem dX2_goes_33 : decode cX2_goes 33 = .ok (.aload_n 0, 1) := dk_42 (dk_at dksX2_goes_1 10 rfl rfl)
theorem dX2_goes_34 : decode cX2_goes 34 = .ok (.getfield 32, 3) := dk_180 0 32 (dk_at dksX2_goes_1 11 rfl rfl)
theorem dX2_goes_37 : decode cX2_goes 37 = .ok (.iconst 1, 1) := dk_4 (dk_at dksX2_goes_1 14 rfl rfl)
theorem dX2_goes_38 : decode cX2_goes 38 = .ok (.iaload, 1) := dk_46 (dk_at dksX2_goes_1 15 rfl rfl)
theorem dX2_goes_39 : decode cX2_goes 39 = .ok (.aload_n 0, 1) := dk_42 (dk_at dksX2_goes_1 16 rfl rfl)
theorem dX2_goes_40 : decode cX2_goes 40 = .ok (.getfield 32, 3) := dk_180 0 32 (dk_at dksX2_goes_1 17 rfl rfl)
theorem dX2_goes_43 : decode cX2_goes 43 = .ok (.iconst 2, 1) := dk_5 (dk_at dksX2_goes_1 20 rfl rfl)
theorem dX2_goes_44 : decode cX2_goes 44 = .ok (.iaload, 1) := dk_46 (dk_at dksX2_goes_1 21 rfl rfl)
theorem dX2_goes_45 : decode cX2_goes 45 = .ok (.aload_n 0, 1) := dk_42 (dk_at dksX2_goes_1 22 rfl rfl)
theorem dX2_goes_46 : decode cX2_goes 46 = .ok (.getfield 32, 3) := dk_180 0 32 (dk_at dksX2_goes_2 0 rfl rfl)
theorem dX2_goes_49 : decode cX2_goes 49 = .ok (.iconst 3, 1) := dk_6 (dk_at dksX2_goes_2 3 rfl rfl)
theorem dX2_goes_50 : decode cX2_goes 50 = .ok (.iaload, 1) := dk_46 (dk_at dksX2_goes_2 4 rfl rfl)
theorem dX2_goes_51 : decode cX2_goes 51 = .ok (.aload_n 0, 1) := dk_42 (dk_at dksX2_goes_2 5 rfl rfl)
theorem dX2_goes_52 : decode cX2_goes 52 = .ok (.getfield 32, 3) := dk_180 0 32 (dk_at dksX2_goes_2 6 rfl rfl)
theorem dX2_goes_55 : decode cX2_goes 55 = .ok (.iconst 4, 1) := dk_7 (dk_at dksX2_goes_2 9 rfl rfl)
theorem dX2_goes_56 : decode cX2_goes 56 = .ok (.iaload, 1) := dk_46 (dk_at dksX2_goes_2 10 rfl rfl)
theorem dX2_goes_57 : decode cX2_goes 57 = .ok (.invokevirtual 159, 3) := dk_182 0 159 (dk_at dksX2_goes_2 11 rfl rfl)
theorem dX2_goes_60 : decode cX2_goes 60 = .ok (.ifCond .lt 7, 3) := dk_155 0 7 (dk_at dksX2_goes_2 14 rfl rfl)
theorem dX2_goes_63 : decode cX2_goes 63 = .ok (.iconst 1, 1) := dk_4 (dk_at dksX2_goes_2 17 rfl rfl)
theorem dX2_goes_64 : decode cX2_goes 64 = .ok (.goto 4, 3) := dk_167 0 4 (dk_at dksX2_goes_2 18 rfl rfl)
theorem dX2_goes_67 : decode cX2_goes 67 = .ok (.iconst 0, 1) := dk_3 (dk_at dksX2_goes_2 21 rfl rfl)
theorem dX2_goes_68 : decode cX2_goes 68 = .ok (.istore 4, 2) := dk_54 4 (dk_at dksX2_goes_2 22 rfl rfl)
theorem dX2_goes_70 : decode cX2_goes 70 = .ok (.iload_n 2, 1) := dk_28 (dk_at dksX2_goes_3 0 rfl rfl)
theorem dX2_goes_71 : decode cX2_goes 71 = .ok (.iload 4, 2) := dk_21 4 (dk_at dksX2_goes_3 1 rfl rfl)
theorem dX2_goes_73 : decode cX2_goes 73 = .ok (.ifCond .eq 7, 3) := dk_153 0 7 (dk_at dksX2_goes_3 3 rfl rfl)
theorem dX2_goes_76 : decode cX2_goes 76 = .ok (.iconst 1, 1) := dk_4 (dk_at dksX2_goes_3 6 rfl rfl)
theorem dX2_goes_77 : decode cX2_goes 77 = .ok (.goto 4, 3) := dk_167 0 4 (dk_at dksX2_goes_3 7 rfl rfl)
theorem dX2_goes_80 : decode cX2_goes 80 = .ok (.iconst 0, 1) := dk_3 (dk_at dksX2_goes_3 10 rfl rfl)
theorem dX2_goes_81 : decode cX2_goes 81 = .ok (.iadd, 1) := dk_96 (dk_at dksX2_goes_3 11 rfl rfl)
theorem dX2_goes_82 : decode cX2_goes 82 = .ok (.istore_n 2, 1) := dk_61 (dk_at dksX2_goes_3 12 rfl rfl)
theorem dX2_goes_83 : decode cX2_goes 83 = .ok (.iload 4, 2) := dk_21 4 (dk_at dksX2_goes_3 13 rfl rfl)
theorem dX2_goes_85 : decode cX2_goes 85 = .ok (.ifCond .eq 25, 3) := dk_153 0 25 (dk_at dksX2_goes_3 15 rfl rfl)
theorem dX2_goes_88 : decode cX2_goes 88 = .ok (.aload_n 0, 1) := dk_42 (dk_at dksX2_goes_3 18 rfl rfl)
theorem dX2_goes_89 : decode cX2_goes 89 = .ok (.getfield 216, 3) := dk_180 0 216 (dk_at dksX2_goes_3 19 rfl rfl)
theorem dX2_goes_92 : decode cX2_goes 92 = .ok (.ifCond .ne 18, 3) := dk_154 0 18 (dk_at dksX2_goes_4 0 rfl rfl)
theorem dX2_goes_95 : decode cX2_goes 95 = .ok (.aload_n 0, 1) := dk_42 (dk_at dksX2_goes_4 3 rfl rfl)
theorem dX2_goes_96 : decode cX2_goes 96 = .ok (.getfield 220, 3) := dk_180 0 220 (dk_at dksX2_goes_4 4 rfl rfl)
theorem dX2_goes_99 : decode cX2_goes 99 = .ok (.aload_n 0, 1) := dk_42 (dk_at dksX2_goes_4 7 rfl rfl)
theorem dX2_goes_100 : decode cX2_goes 100 = .ok (.getfield 189, 3) := dk_180 0 189 (dk_at dksX2_goes_4 8 rfl rfl)
theorem dX2_goes_103 : decode cX2_goes 103 = .ok (.if_icmp .ge 7, 3) := dk_162 0 7 (dk_at dksX2_goes_4 11 rfl rfl)
theorem dX2_goes_106 : decode cX2_goes 106 = .ok (.iconst 1, 1) := dk_4 (dk_at dksX2_goes_4 14 rfl rfl)
theorem dX2_goes_107 : decode cX2_goes 107 = .ok (.goto 4, 3) := dk_167 0 4 (dk_at dksX2_goes_4 15 rfl rfl)
theorem dX2_goes_110 : decode cX2_goes 110 = .ok (.iconst 0, 1) := dk_3 (dk_at dksX2_goes_4 18 rfl rfl)
theorem dX2_goes_111 : decode cX2_goes 111 = .ok (.istore_n 3, 1) := dk_62 (dk_at dksX2_goes_4 19 rfl rfl)
theorem dX2_goes_112 : decode cX2_goes 112 = .ok (.iload_n 3, 1) := dk_29 (dk_at dksX2_goes_4 20 rfl rfl)
theorem dX2_goes_113 : decode cX2_goes 113 = .ok (.ifCond .eq 26, 3) := dk_153 0 26 (dk_at dksX2_goes_4 21 rfl rfl)
theorem dX2_goes_116 : decode cX2_goes 116 = .ok (.aload_n 0, 1) := dk_42 (dk_at dksX2_goes_5 0 rfl rfl)
theorem dX2_goes_117 : decode cX2_goes 117 = .ok (.bipush 59, 2) := dk_16 59 (dk_at dksX2_goes_5 1 rfl rfl)
theorem dX2_goes_119 : decode cX2_goes 119 = .ok (.bipush 59, 2) := dk_16 59 (dk_at dksX2_goes_5 3 rfl rfl)
theorem dX2_goes_121 : decode cX2_goes 121 = .ok (.invokevirtual 223, 3) := dk_182 0 223 (dk_at dksX2_goes_5 5 rfl rfl)
theorem dX2_goes_124 : decode cX2_goes 124 = .ok (.istore 5, 2) := dk_54 5 (dk_at dksX2_goes_5 8 rfl rfl)
theorem dX2_goes_126 : decode cX2_goes 126 = .ok (.aload_n 0, 1) := dk_42 (dk_at dksX2_goes_5 10 rfl rfl)
theorem dX2_goes_127 : decode cX2_goes 127 = .ok (.getfield 216, 3) := dk_180 0 216 (dk_at dksX2_goes_5 11 rfl rfl)
theorem dX2_goes_130 : decode cX2_goes 130 = .ok (.ifCond .ne 7, 3) := dk_154 0 7 (dk_at dksX2_goes_5 14 rfl rfl)
theorem dX2_goes_133 : decode cX2_goes 133 = .ok (.iconst 1, 1) := dk_4 (dk_at dksX2_goes_5 17 rfl rfl)
theorem dX2_goes_134 : decode cX2_goes 134 = .ok (.goto 4, 3) := dk_167 0 4 (dk_at dksX2_goes_5 18 rfl rfl)
theorem dX2_goes_137 : decode cX2_goes 137 = .ok (.iconst 0, 1) := dk_3 (dk_at dksX2_goes_5 21 rfl rfl)
theorem dX2_goes_138 : decode cX2_goes 138 = .ok (.istore_n 3, 1) := dk_62 (dk_at dksX2_goes_5 22 rfl rfl)
theorem dX2_goes_139 : decode cX2_goes 139 = .ok (.goto (-125), 3) := dk_167 255 131 (dk_at dksX2_goes_6 0 rfl rfl)
theorem dX2_goes_142 : decode cX2_goes 142 = .ok (.iload_n 2, 1) := dk_28 (dk_at dksX2_goes_6 3 rfl rfl)
theorem dX2_goes_143 : decode cX2_goes 143 = .ok (.ireturn, 1) := dk_172 (dk_at dksX2_goes_6 4 rfl rfl)
abbrev cX2_readOrder : ByteArray := prog_8_method_78_code
def yX2_readOrder : MethodName := ⟨RX2, "readOrder", "()V"⟩
def dkwX2_readOrder_15 : List UInt8 := [167, 0, 11, 42, 16, 48, 16, 57, 182, 0, 223, 79, 177]
abbrev dktX2_readOrder_15 : List UInt8 := dkwX2_readOrder_15 ++ []
def dkwX2_readOrder_14 : List UInt8 := [16, 57, 182, 0, 223, 79, 42, 180, 0, 32, 6, 27, 16, 99, 160, 0, 12, 42, 16, 64, 182, 0, 232]
abbrev dktX2_readOrder_14 : List UInt8 := dkwX2_readOrder_14 ++ dktX2_readOrder_15
def dkwX2_readOrder_13 : List UInt8 := [27, 16, 108, 160, 0, 56, 42, 16, 46, 16, 46, 182, 0, 223, 54, 4, 42, 180, 0, 32, 5, 42, 16, 48]
abbrev dktX2_readOrder_13 : List UInt8 := dkwX2_readOrder_13 ++ dktX2_readOrder_14
def dkwX2_readOrder_12 : List UInt8 := [160, 0, 18, 42, 180, 0, 32, 5, 42, 16, 61, 182, 0, 232, 79, 167, 0, 68, 27, 16, 99, 159, 0, 9]
abbrev dktX2_readOrder_12 : List UInt8 := dkwX2_readOrder_12 ++ dktX2_readOrder_13
def dkwX2_readOrder_11 : List UInt8 := [16, 113, 160, 0, 12, 42, 16, 42, 182, 0, 232, 167, 0, 4, 3, 79, 167, 0, 89, 27, 16, 103]
abbrev dktX2_readOrder_11 : List UInt8 := dkwX2_readOrder_11 ++ dktX2_readOrder_12
def dkwX2_readOrder_10 : List UInt8 := [16, 120, 182, 0, 232, 79, 42, 180, 0, 32, 6, 42, 16, 120, 182, 0, 232, 79, 42, 180, 0, 32, 7, 27]
abbrev dktX2_readOrder_10 : List UInt8 := dkwX2_readOrder_10 ++ dktX2_readOrder_11
def dkwX2_readOrder_9 : List UInt8 := [180, 0, 32, 4, 46, 79, 27, 16, 113, 159, 0, 9, 27, 16, 111, 160, 0, 52, 42, 180, 0, 32, 5, 42]
abbrev dktX2_readOrder_9 : List UInt8 := dkwX2_readOrder_9 ++ dktX2_readOrder_10
def dkwX2_readOrder_8 : List UInt8 := [182, 0, 229, 79, 42, 180, 0, 32, 4, 29, 153, 0, 13, 42, 180, 0, 32, 4, 46, 116, 167, 0, 9, 42]
abbrev dktX2_readOrder_8 : List UInt8 := dkwX2_readOrder_8 ++ dktX2_readOrder_9
def dkwX2_readOrder_7 : List UInt8 := [42, 180, 0, 32, 4, 27, 16, 100, 160, 0, 14, 42, 16, 48, 16, 57, 182, 0, 223, 167, 0, 7, 42]
abbrev dktX2_readOrder_7 : List UInt8 := dkwX2_readOrder_7 ++ dktX2_readOrder_8
def dkwX2_readOrder_6 : List UInt8 := [4, 167, 0, 4, 3, 62, 42, 89, 180, 0, 220, 29, 153, 0, 7, 4, 167, 0, 4, 3, 96, 181, 0, 220]
abbrev dktX2_readOrder_6 : List UInt8 := dkwX2_readOrder_6 ++ dktX2_readOrder_7
def dkwX2_readOrder_5 : List UInt8 := [42, 180, 0, 32, 3, 27, 79, 27, 16, 110, 160, 0, 18, 42, 16, 45, 16, 45, 182, 0, 226, 153, 0, 7]
abbrev dktX2_readOrder_5 : List UInt8 := dkwX2_readOrder_5 ++ dktX2_readOrder_6
def dkwX2_readOrder_4 : List UInt8 := [181, 0, 216, 42, 89, 180, 0, 220, 42, 180, 0, 216, 153, 0, 7, 3, 167, 0, 4, 4, 96, 181, 0, 220]
abbrev dktX2_readOrder_4 : List UInt8 := dkwX2_readOrder_4 ++ dktX2_readOrder_5
def dkwX2_readOrder_3 : List UInt8 := [167, 0, 4, 3, 61, 42, 42, 180, 0, 216, 154, 0, 7, 28, 154, 0, 7, 4, 167, 0, 4, 3]
abbrev dktX2_readOrder_3 : List UInt8 := dkwX2_readOrder_3 ++ dktX2_readOrder_4
def dkwX2_readOrder_2 : List UInt8 := [159, 0, 21, 27, 16, 108, 159, 0, 15, 27, 16, 110, 159, 0, 9, 27, 16, 100, 160, 0, 7, 4]
abbrev dktX2_readOrder_2 : List UInt8 := dkwX2_readOrder_2 ++ dktX2_readOrder_3
def dkwX2_readOrder_1 : List UInt8 := [60, 27, 16, 113, 159, 0, 39, 27, 16, 99, 159, 0, 33, 27, 16, 111, 159, 0, 27, 27, 16, 103]
abbrev dktX2_readOrder_1 : List UInt8 := dkwX2_readOrder_1 ++ dktX2_readOrder_2
def dkwX2_readOrder_0 : List UInt8 := [42, 180, 0, 220, 42, 180, 0, 189, 162, 0, 15, 42, 180, 0, 26, 42, 180, 0, 220, 46, 167, 0, 4, 3]
abbrev dktX2_readOrder_0 : List UInt8 := dkwX2_readOrder_0 ++ dktX2_readOrder_1
theorem dksX2_readOrder_0 : cX2_readOrder.data.toList.drop 0 = dktX2_readOrder_0 := by decide +kernel
theorem dksX2_readOrder_1 : cX2_readOrder.data.toList.drop 24 = dktX2_readOrder_1 := dk_seg dksX2_readOrder_0 24 rfl rfl
theorem dksX2_readOrder_2 : cX2_readOrder.data.toList.drop 46 = dktX2_readOrder_2 := dk_seg dksX2_readOrder_1 22 rfl rfl
theorem dksX2_readOrder_3 : cX2_readOrder.data.toList.drop 68 = dktX2_readOrder_3 := dk_seg dksX2_readOrder_2 22 rfl rfl
theorem dksX2_readOrder_4 : cX2_readOrder.data.toList.drop 90 = dktX2_readOrder_4 := dk_seg dksX2_readOrder_3 22 rfl rfl
theorem dksX2_readOrder_5 : cX2_readOrder.data.toList.drop 114 = dktX2_readOrder_5 := dk_seg dksX2_readOrder_4 24 rfl rfl
theorem dksX2_readOrder_6 : cX2_readOrder.data.toList.drop 138 = dktX2_readOrder_6 := dk_seg dksX2_readOrder_5 24 rfl rfl
theorem dksX2_readOrder_7 : cX2_readOrder.data.toList.drop 162 = dktX2_readOrder_7 := dk_seg dksX2_readOrder_6 24 rfl rfl
theorem dksX2_readOrder_8 : cX2_readOrder.data.toList.drop 185 = dktX2_readOrder_8 := dk_seg dksX2_readOrder_7 23 rfl rfl
theorem dksX2_readOrder_9 : cX2_readOrder.data.toList.drop 209 = dktX2_readOrder_9 := dk_seg dksX2_readOrder_8 24 rfl rfl
theorem dksX2_readOrder_10 : cX2_readOrder.data.toList.drop 233 = dktX2_readOrder_10 := dk_seg dksX2_readOrder_9 24 rfl rfl
theorem dksX2_readOrder_11 : cX2_readOrder.data.toList.drop 257 = dktX2_readOrder_11 := dk_seg dksX2_readOrder_10 24 rfl rfl
theorem dksX2_readOrder_12 : cX2_readOrder.data.toList.drop 279 = dktX2_readOrder_12 := dk_seg dksX2_readOrder_11 22 rfl rfl
theorem dksX2_readOrder_13 : cX2_readOrder.data.toList.drop 303 = dktX2_readOrder_13 := dk_seg dksX2_readOrder_12 24 rfl rfl
theorem dksX2_readOrder_14 : cX2_readOrder.data.toList.drop 327 = dktX2_readOrder_14 := dk_seg dksX2_readOrder_13 24 rfl rfl
theorem dksX2_readOrder_15 : cX2_readOrder.data.toList.drop 350 = dktX2_readOrder_15 := dk_seg dksX2_readOrder_14 23 rfl rfl
theorem dX2_readOrder_0 : decode cX2_readOrder 0 = .ok (.aload_n 0, 1) := dk_42 (dk_at dksX2_readOrder_0 0 rfl rfl)
theorem dX2_readOrder_1 : decode cX2_readOrder 1 = .ok (.getfield 220, 3) := dk_180 0 220 (dk_at dksX2_readOrder_0 1 rfl rfl)
theorem dX2_readOrder_4 : decode cX2_readOrder 4 = .ok (.aload_n 0, 1) := dk_42 (dk_at dksX2_readOrder_0 4 rfl rfl)
theorem dX2_readOrder_5 : decode cX2_readOrder 5 = .ok (.getfield 189, 3) := dk_180 0 189 (dk_at dksX2_readOrder_0 5 rfl rfl)
theorem dX2_readOrder_8 : decode cX2_readOrder 8 = .ok (.if_icmp .ge 15, 3) := dk_162 0 15 (dk_at dksX2_readOrder_0 8 rfl rfl)
theorem dX2_readOrder_11 : decode cX2_readOrder 11 = .ok (.aload_n 0, 1) := dk_42 (dk_at dksX2_readOrder_0 11 rfl rfl)
theorem dX2_readOrder_12 : decode cX2_readOrder 12 = .ok (.getfield 26, 3) := dk_180 0 26 (dk_at dksX2_readOrder_0 12 rfl rfl)
theorem dX2_readOrder_15 : decode cX2_readOrder 15 = .ok (.aload_n 0, 1) := dk_42 (dk_at dksX2_readOrder_0 15 rfl rfl)
theorem dX2_readOrder_16 : decode cX2_readOrder 16 = .ok (.getfield 220, 3) := dk_180 0 220 (dk_at dksX2_readOrder_0 16 rfl rfl)
theorem dX2_readOrder_19 : decode cX2_readOrder 19 = .ok (.iaload, 1) := dk_46 (dk_at dksX2_readOrder_0 19 rfl rfl)
theorem dX2_readOrder_20 : decode cX2_readOrder 20 = .ok (.goto 4, 3) := dk_167 0 4 (dk_at dksX2_readOrder_0 20 rfl rfl)
theorem dX2_readOrder_23 : decode cX2_readOrder 23 = .ok (.iconst 0, 1) := dk_3 (dk_at dksX2_readOrder_0 23 rfl rfl)
theorem dX2_readOrder_24 : decode cX2_readOrder 24 = .ok (.istore_n 1, 1) := dk_60 (dk_at dksX2_readOrder_1 0 rfl rfl)
theorem dX2_readOrder_25 : decode cX2_readOrder 25 = .ok (.iload_n 1, 1) := dk_27 (dk_at dksX2_readOrder_1 1 rfl rfl)
theorem dX2_readOrder_26 : decode cX2_readOrder 26 = .ok (.bipush 113, 2) := dk_16 113 (dk_at dksX2_readOrder_1 2 rfl rfl)
theorem dX2_readOrder_28 : decode cX2_readOrder 28 = .ok (.if_icmp .eq 39, 3) := dk_159 0 39 (dk_at dksX2_readOrder_1 4 rfl rfl)
theorem dX2_readOrder_31 : decode cX2_readOrder 31 = .ok (.iload_n 1, 1) := dk_27 (dk_at dksX2_readOrder_1 7 rfl rfl)
theorem dX2_readOrder_32 : decode cX2_readOrder 32 = .ok (.bipush 99, 2) := dk_16 99 (dk_at dksX2_readOrder_1 8 rfl rfl)
theorem dX2_readOrder_34 : decode cX2_readOrder 34 = .ok (.if_icmp .eq 33, 3) := dk_159 0 33 (dk_at dksX2_readOrder_1 10 rfl rfl)
theorem dX2_readOrder_37 : decode cX2_readOrder 37 = .ok (.iload_n 1, 1) := dk_27 (dk_at dksX2_readOrder_1 13 rfl rfl)
theorem dX2_readOrder_38 : decode cX2_readOrder 38 = .ok (.bipush 111, 2) := dk_16 111 (dk_at dksX2_readOrder_1 14 rfl rfl)
theorem dX2_readOrder_40 : decode cX2_readOrder 40 = .ok (.if_icmp .eq 27, 3) := dk_159 0 27 (dk_at dksX2_readOrder_1 16 rfl rfl)
theorem dX2_readOrder_43 : decode cX2_readOrder 43 = .ok (.iload_n 1, 1) := dk_27 (dk_at dksX2_readOrder_1 19 rfl rfl)
theorem dX2_readOrder_44 : decode cX2_readOrder 44 = .ok (.bipush 103, 2) := dk_16 103 (dk_at dksX2_readOrder_1 20 rfl rfl)
theorem dX2_readOrder_46 : decode cX2_readOrder 46 = .ok (.if_icmp .eq 21, 3) := dk_159 0 21 (dk_at dksX2_readOrder_2 0 rfl rfl)
theorem dX2_readOrder_49 : decode cX2_readOrder 49 = .ok (.iload_n 1, 1) := dk_27 (dk_at dksX2_readOrder_2 3 rfl rfl)
theorem dX2_readOrder_50 : decode cX2_readOrder 50 = .ok (.bipush 108, 2) := dk_16 108 (dk_at dksX2_readOrder_2 4 rfl rfl)
theorem dX2_readOrder_52 : decode cX2_readOrder 52 = .ok (.if_icmp .eq 15, 3) := dk_159 0 15 (dk_at dksX2_readOrder_2 6 rfl rfl)
theorem dX2_readOrder_55 : decode cX2_readOrder 55 = .ok (.iload_n 1, 1) := dk_27 (dk_at dksX2_readOrder_2 9 rfl rfl)
theorem dX2_readOrder_56 : decode cX2_readOrder 56 = .ok (.bipush 110, 2) := dk_16 110 (dk_at dksX2_readOrder_2 10 rfl rfl)
theorem dX2_readOrder_58 : decode cX2_readOrder 58 = .ok (.if_icmp .eq 9, 3) := dk_159 0 9 (dk_at dksX2_readOrder_2 12 rfl rfl)
theorem dX2_readOrder_61 : decode cX2_readOrder 61 = .ok (.iload_n 1, 1) := dk_27 (dk_at dksX2_readOrder_2 15 rfl rfl)
theorem dX2_readOrder_62 : decode cX2_readOrder 62 = .ok (.bipush 100, 2) := dk_16 100 (dk_at dksX2_readOrder_2 16 rfl rfl)
theorem dX2_readOrder_64 : decode cX2_readOrder 64 = .ok (.if_icmp .ne 7, 3) := dk_160 0 7 (dk_at dksX2_readOrder_2 18 rfl rfl)
theorem dX2_readOrder_67 : decode cX2_readOrder 67 = .ok (.iconst 1, 1) := dk_4 (dk_at dksX2_readOrder_2 21 rfl rfl)
theorem dX2_readOrder_68 : decode cX2_readOrder 68 = .ok (.goto 4, 3) := dk_167 0 4 (dk_at dksX2_readOrder_3 0 rfl rfl)
theorem dX2_readOrder_71 : decode cX2_readOrder 71 = .ok (.iconst 0, 1) := dk_3 (dk_at dksX2_readOrder_3 3 rfl rfl)
theorem dX2_readOrder_72 : decode cX2_readOrder 72 = .ok (.istore_n 2, 1) := dk_61 (dk_at dksX2_readOrder_3 4 rfl rfl)
theorem dX2_readOrder_73 : decode cX2_readOrder 73 = .ok (.aload_n 0, 1) := dk_42 (dk_at dksX2_readOrder_3 5 rfl rfl)
theorem dX2_readOrder_74 : decode cX2_readOrder 74 = .ok (.aload_n 0, 1) := dk_42 (dk_at dksX2_readOrder_3 6 rfl rfl)
theorem dX2_readOrder_75 : decode cX2_readOrder 75 = .ok (.getfield 216, 3) := dk_180 0 216 (dk_at dksX2_readOrder_3 7 rfl rfl)
theorem dX2_readOrder_78 : decode cX2_readOrder 78 = .ok (.ifCond .ne 7, 3) := dk_154 0 7 (dk_at dksX2_readOrder_3 10 rfl rfl)
theorem dX2_readOrder_81 : decode cX2_readOrder 81 = .ok (.iload_n 2, 1) := dk_28 (dk_at dksX2_readOrder_3 13 rfl rfl)
theorem dX2_readOrder_82 : decode cX2_readOrder 82 = .ok (.ifCond .ne 7, 3) := dk_154 0 7 (dk_at dksX2_readOrder_3 14 rfl rfl)
theorem dX2_readOrder_85 : decode cX2_readOrder 85 = .ok (.iconst 1, 1) := dk_4 (dk_at dksX2_readOrder_3 17 rfl rfl)
theorem dX2_readOrder_86 : decode cX2_readOrder 86 = .ok (.goto 4, 3) := dk_167 0 4 (dk_at dksX2_readOrder_3 18 rfl rfl)
theorem dX2_readOrder_89 : decode cX2_readOrder 89 = .ok (.iconst 0, 1) := dk_3 (dk_at dksX2_readOrder_3 21 rfl rfl)
theorem dX2_readOrder_90 : decode cX2_readOrder 90 = .ok (.putfield 216, 3) := dk_181 0 216 (dk_at dksX2_readOrder_4 0 rfl rfl)
theorem dX2_readOrder_93 : decode cX2_readOrder 93 = .ok (.aload_n 0, 1) := dk_42 (dk_at dksX2_readOrder_4 3 rfl rfl)
theorem dX2_readOrder_94 : decode cX2_readOrder 94 = .ok (.dup, 1) := dk_89 (dk_at dksX2_readOrder_4 4 rfl rfl)
theorem dX2_readOrder_95 : decode cX2_readOrder 95 = .ok (.getfield 220, 3) := dk_180 0 220 (dk_at dksX2_readOrder_4 5 rfl rfl)
theorem dX2_readOrder_98 : decode cX2_readOrder 98 = .ok (.aload_n 0, 1) := dk_42 (dk_at dksX2_readOrder_4 8 rfl rfl)
theorem dX2_readOrder_99 : decode cX2_readOrder 99 = .ok (.getfield 216, 3) := dk_180 0 216 (dk_at dksX2_readOrder_4 9 rfl rfl)
theorem dX2_readOrder_102 : decode cX2_readOrder 102 = .ok (.ifCond .eq 7, 3) := dk_153 0 7 (dk_at dksX2_readOrder_4 12 rfl rfl)
theorem dX2_readOrder_105 : decode cX2_readOrder 105 = .ok (.iconst 0, 1) := dk_3 (dk_at dksX2_readOrder_4 15 rfl rfl)
theorem dX2_readOrder_106 : decode cX2_readOrder 106 = .ok (.goto 4, 3) := dk_167 0 4 (dk_at dksX2_readOrder_4 16 rfl rfl)
theorem dX2_readOrder_109 : decode cX2_readOrder 109 = .ok (.iconst 1, 1) := dk_4 (dk_at dksX2_readOrder_4 19 rfl rfl)
theorem dX2_readOrder_110 : decode cX2_readOrder 110 = .ok (.iadd, 1) := dk_96 (dk_at dksX2_readOrder_4 20 rfl rfl)
theorem dX2_readOrder_111 : decode cX2_readOrder 111 = .ok (.putfield 220, 3) := dk_181 0 220 (dk_at dksX2_readOrder_4 21 rfl rfl)
theorem dX2_readOrder_114 : decode cX2_readOrder 114 = .ok (.aload_n 0, 1) := dk_42 (dk_at dksX2_readOrder_5 0 rfl rfl)
theorem dX2_readOrder_115 : decode cX2_readOrder 115 = .ok (.getfield 32, 3) := dk_180 0 32 (dk_at dksX2_readOrder_5 1 rfl rfl)
theorem dX2_readOrder_118 : decode cX2_readOrder 118 = .ok (.iconst 0, 1) := dk_3 (dk_at dksX2_readOrder_5 4 rfl rfl)
theorem dX2_readOrder_119 : decode cX2_readOrder 119 = .ok (.iload_n 1, 1) := dk_27 (dk_at dksX2_readOrder_5 5 rfl rfl)
theorem dX2_readOrder_120 : decode cX2_readOrder 120 = .ok (.iastore, 1) := dk_79 (dk_at dksX2_readOrder_5 6 rfl rfl)
theorem dX2_readOrder_121 : decode cX2_readOrder 121 = .ok (.iload_n 1, 1) := dk_27 (dk_at dksX2_readOrder_5 7 rfl rfl)
theorem dX2_readOrder_122 : decode cX2_readOrder 122 = .ok (.bipush 110, 2) := dk_16 110 (dk_at dksX2_readOrder_5 8 rfl rfl)
theorem dX2_readOrder_124 : decode cX2_readOrder 124 = .ok (.if_icmp .ne 18, 3) := dk_160 0 18 (dk_at dksX2_readOrder_5 10 rfl rfl)
theorem dX2_readOrder_127 : decode cX2_readOrder 127 = .ok (.aload_n 0, 1) := dk_42 (dk_at dksX2_readOrder_5 13 rfl rfl)
theorem dX2_readOrder_128 : decode cX2_readOrder 128 = .ok (.bipush 45, 2) := dk_16 45 (dk_at dksX2_readOrder_5 14 rfl rfl)
theorem dX2_readOrder_130 : decode cX2_readOrder 130 = .ok (.bipush 45, 2) := dk_16 45 (dk_at dksX2_readOrder_5 16 rfl rfl)
theorem dX2_readOrder_132 : decode cX2_readOrder 132 = .ok (.invokevirtual 226, 3) := dk_182 0 226 (dk_at dksX2_readOrder_5 18 rfl rfl)
theorem dX2_readOrder_135 : decode cX2_readOrder 135 = .ok (.ifCond .eq 7, 3) := dk_153 0 7 (dk_at dksX2_readOrder_5 21 rfl rfl)
theorem dX2_readOrder_138 : decode cX2_readOrder 138 = .ok (.iconst 1, 1) := dk_4 (dk_at dksX2_readOrder_6 0 rfl rfl)
theorem dX2_readOrder_139 : decode cX2_readOrder 139 = .ok (.goto 4, 3) := dk_167 0 4 (dk_at dksX2_readOrder_6 1 rfl rfl)
theorem dX2_readOrder_142 : decode cX2_readOrder 142 = .ok (.iconst 0, 1) := dk_3 (dk_at dksX2_readOrder_6 4 rfl rfl)
theorem dX2_readOrder_143 : decode cX2_readOrder 143 = .ok (.istore_n 3, 1) := dk_62 (dk_at dksX2_readOrder_6 5 rfl rfl)
theorem dX2_readOrder_144 : decode cX2_readOrder 144 = .ok (.aload_n 0, 1) := dk_42 (dk_at dksX2_readOrder_6 6 rfl rfl)
theorem dX2_readOrder_145 : decode cX2_readOrder 145 = .ok (.dup, 1) := dk_89 (dk_at dksX2_readOrder_6 7 rfl rfl)
theorem dX2_readOrder_146 : decode cX2_readOrder 146 = .ok (.getfield 220, 3) := dk_180 0 220 (dk_at dksX2_readOrder_6 8 rfl rfl)
theorem dX2_readOrder_149 : decode cX2_readOrder 149 = .ok (.iload_n 3, 1) := dk_29 (dk_at dksX2_readOrder_6 11 rfl rfl)
theorem dX2_readOrder_150 : decode cX2_readOrder 150 = .ok (.ifCond .eq 7, 3) := dk_153 0 7 (dk_at dksX2_readOrder_6 12 rfl rfl)
theorem dX2_readOrder_153 : decode cX2_readOrder 153 = .ok (.iconst 1, 1) := dk_4 (dk_at dksX2_readOrder_6 15 rfl rfl)
theorem dX2_readOrder_154 : decode cX2_readOrder 154 = .ok (.goto 4, 3) := dk_167 0 4 (dk_at dksX2_readOrder_6 16 rfl rfl)
theorem dX2_readOrder_157 : decode cX2_readOrder 157 = .ok (.iconst 0, 1) := dk_3 (dk_at dksX2_readOrder_6 19 rfl rfl)
theorem dX2_readOrder_158 : decode cX2_readOrder 158 = .ok (.iadd, 1) := dk_96 (dk_at dksX2_readOrder_6 20 rfl rfl)
theorem dX2_readOrder_159 : decode cX2_readOrder 159 = .ok (.putfield 220, 3) := dk_181 0 220 (dk_at dksX2_readOrder_6 21 rfl rfl)
theorem dX2_readOrder_162 : decode cX2_readOrder 162 = .ok (.aload_n 0, 1) := dk_42 (dk_at dksX2_readOrder_7 0 rfl rfl)
theorem dX2_readOrder_163 : decode cX2_readOrder 163 = .ok (.getfield 32, 3) := dk_180 0 32 (dk_at dksX2_readOrder_7 1 rfl rfl)
theorem dX2_readOrder_166 : decode cX2_readOrder 166 = .ok (.iconst 1, 1) := dk_4 (dk_at dksX2_readOrder_7 4 rfl rfl)
theorem dX2_readOrder_167 : decode cX2_readOrder 167 = .ok (.iload_n 1, 1) := dk_27 (dk_at dksX2_readOrder_7 5 rfl rfl)
theorem dX2_readOrder_168 : decode cX2_readOrder 168 = .ok (.bipush 100, 2) := dk_16 100 (dk_at dksX2_readOrder_7 6 rfl rfl)
theorem dX2_readOrder_170 : decode cX2_readOrder 170 = .ok (.if_icmp .ne 14, 3) := dk_160 0 14 (dk_at dksX2_readOrder_7 8 rfl rfl)
theorem dX2_readOrder_173 : decode cX2_readOrder 173 = .ok (.aload_n 0, 1) := dk_42 (dk_at dksX2_readOrder_7 11 rfl rfl)
theorem dX2_readOrder_174 : decode cX2_readOrder 174 = .ok (.bipush 48, 2) := dk_16 48 (dk_at dksX2_readOrder_7 12 rfl rfl)
theorem dX2_readOrder_176 : decode cX2_readOrder 176 = .ok (.bipush 57, 2) := dk_16 57 (dk_at dksX2_readOrder_7 14 rfl rfl)
theorem dX2_readOrder_178 : decode cX2_readOrder 178 = .ok (.invokevirtual 223, 3) := dk_182 0 223 (dk_at dksX2_readOrder_7 16 rfl rfl)
theorem dX2_readOrder_181 : decode cX2_readOrder 181 = .ok (.goto 7, 3) := dk_167 0 7 (dk_at dksX2_readOrder_7 19 rfl rfl)
theorem dX2_readOrder_184 : decode cX2_readOrder 184 = .ok (.aload_n 0, 1) := dk_42 (dk_at dksX2_readOrder_7 22 rfl rfl)
theorem dX2_readOrder_185 : decode cX2_readOrder 185 = .ok (.invokevirtual 229, 3) := dk_182 0 229 (dk_at dksX2_readOrder_8 0 rfl rfl)
theorem dX2_readOrder_188 : decode cX2_readOrder 188 = .ok (.iastore, 1) := dk_79 (dk_at dksX2_readOrder_8 3 rfl rfl)
theorem dX2_readOrder_189 : decode cX2_readOrder 189 = .ok (.aload_n 0, 1) := dk_42 (dk_at dksX2_readOrder_8 4 rfl rfl)
theorem dX2_readOrder_190 : decode cX2_readOrder 190 = .ok (.getfield 32, 3) := dk_180 0 32 (dk_at dksX2_readOrder_8 5 rfl rfl)
theorem dX2_readOrder_193 : decode cX2_readOrder 193 = .ok (.iconst 1, 1) := dk_4 (dk_at dksX2_readOrder_8 8 rfl rfl)
theorem dX2_readOrder_194 : decode cX2_readOrder 194 = .ok (.iload_n 3, 1) := dk_29 (dk_at dksX2_readOrder_8 9 rfl rfl)
theorem dX2_readOrder_195 : decode cX2_readOrder 195 = .ok (.ifCond .eq 13, 3) := dk_153 0 13 (dk_at dksX2_readOrder_8 10 rfl rfl)
theorem dX2_readOrder_198 : decode cX2_readOrder 198 = .ok (.aload_n 0, 1) := dk_42 (dk_at dksX2_readOrder_8 13 rfl rfl)
theorem dX2_readOrder_199 : decode cX2_readOrder 199 = .ok (.getfield 32, 3) := dk_180 0 32 (dk_at dksX2_readOrder_8 14 rfl rfl)
theorem dX2_readOrder_202 : decode cX2_readOrder 202 = .ok (.iconst 1, 1) := dk_4 (dk_at dksX2_readOrder_8 17 rfl rfl)
theorem dX2_readOrder_203 : decode cX2_readOrder 203 = .ok (.iaload, 1) := dk_46 (dk_at dksX2_readOrder_8 18 rfl rfl)
theorem dX2_readOrder_204 : decode cX2_readOrder 204 = .ok (.ineg, 1) := dk_116 (dk_at dksX2_readOrder_8 19 rfl rfl)
theorem dX2_readOrder_205 : decode cX2_readOrder 205 = .ok (.goto 9, 3) := dk_167 0 9 (dk_at dksX2_readOrder_8 20 rfl rfl)
theorem dX2_readOrder_208 : decode cX2_readOrder 208 = .ok (.aload_n 0, 1) := dk_42 (dk_at dksX2_readOrder_8 23 rfl rfl)
theorem dX2_readOrder_209 : decode cX2_readOrder 209 = .ok (.getfield 32, 3) := dk_180 0 32 (dk_at dksX2_readOrder_9 0 rfl rfl)
theorem dX2_readOrder_212 : decode cX2_readOrder 212 = .ok (.iconst 1, 1) := dk_4 (dk_at dksX2_readOrder_9 3 rfl rfl)
theorem dX2_readOrder_213 : decode cX2_readOrder 213 = .ok (.iaload, 1) := dk_46 (dk_at dksX2_readOrder_9 4 rfl rfl)
theorem dX2_readOrder_214 : decode cX2_readOrder 214 = .ok (.iastore, 1) := dk_79 (dk_at dksX2_readOrder_9 5 rfl rfl)
theorem dX2_readOrder_215 : decode cX2_readOrder 215 = .ok (.iload_n 1, 1) := dk_27 (dk_at dksX2_readOrder_9 6 rfl rfl)
theorem dX2_readOrder_216 : decode cX2_readOrder 216 = .ok (.bipush 113, 2) := dk_16 113 (dk_at dksX2_readOrder_9 7 rfl rfl)
theorem dX2_readOrder_218 : decode cX2_readOrder 218 = .ok (.if_icmp .eq 9, 3) := dk_159 0 9 (dk_at dksX2_readOrder_9 9 rfl rfl)
theorem dX2_readOrder_221 : decode cX2_readOrder 221 = .ok (.iload_n 1, 1) := dk_27 (dk_at dksX2_readOrder_9 12 rfl rfl)
theorem dX2_readOrder_222 : decode cX2_readOrder 222 = .ok (.bipush 111, 2) := dk_16 111 (dk_at dksX2_readOrder_9 13 rfl rfl)
theorem dX2_readOrder_224 : decode cX2_readOrder 224 = .ok (.if_icmp .ne 52, 3) := dk_160 0 52 (dk_at dksX2_readOrder_9 15 rfl rfl)
theorem dX2_readOrder_227 : decode cX2_readOrder 227 = .ok (.aload_n 0, 1) := dk_42 (dk_at dksX2_readOrder_9 18 rfl rfl)
theorem dX2_readOrder_228 : decode cX2_readOrder 228 = .ok (.getfield 32, 3) := dk_180 0 32 (dk_at dksX2_readOrder_9 19 rfl rfl)
theorem dX2_readOrder_231 : decode cX2_readOrder 231 = .ok (.iconst 2, 1) := dk_5 (dk_at dksX2_readOrder_9 22 rfl rfl)
theorem dX2_readOrder_232 : decode cX2_readOrder 232 = .ok (.aload_n 0, 1) := dk_42 (dk_at dksX2_readOrder_9 23 rfl rfl)
theorem dX2_readOrder_233 : decode cX2_readOrder 233 = .ok (.bipush 120, 2) := dk_16 120 (dk_at dksX2_readOrder_10 0 rfl rfl)
theorem dX2_readOrder_235 : decode cX2_readOrder 235 = .ok (.invokevirtual 232, 3) := dk_182 0 232 (dk_at dksX2_readOrder_10 2 rfl rfl)
theorem dX2_readOrder_238 : decode cX2_readOrder 238 = .ok (.iastore, 1) := dk_79 (dk_at dksX2_readOrder_10 5 rfl rfl)
theorem dX2_readOrder_239 : decode cX2_readOrder 239 = .ok (.aload_n 0, 1) := dk_42 (dk_at dksX2_readOrder_10 6 rfl rfl)
theorem dX2_readOrder_240 : decode cX2_readOrder 240 = .ok (.getfield 32, 3) := dk_180 0 32 (dk_at dksX2_readOrder_10 7 rfl rfl)
theorem dX2_readOrder_243 : decode cX2_readOrder 243 = .ok (.iconst 3, 1) := dk_6 (dk_at dksX2_readOrder_10 10 rfl rfl)
theorem dX2_readOrder_244 : decode cX2_readOrder 244 = .ok (.aload_n 0, 1) := dk_42 (dk_at dksX2_readOrder_10 11 rfl rfl)
theorem dX2_readOrder_245 : decode cX2_readOrder 245 = .ok (.bipush 120, 2) := dk_16 120 (dk_at dksX2_readOrder_10 12 rfl rfl)
theorem dX2_readOrder_247 : decode cX2_readOrder 247 = .ok (.invokevirtual 232, 3) := dk_182 0 232 (dk_at dksX2_readOrder_10 14 rfl rfl)
theorem dX2_readOrder_250 : decode cX2_readOrder 250 = .ok (.iastore, 1) := dk_79 (dk_at dksX2_readOrder_10 17 rfl rfl)
theorem dX2_readOrder_251 : decode cX2_readOrder 251 = .ok (.aload_n 0, 1) := dk_42 (dk_at dksX2_readOrder_10 18 rfl rfl)
theorem dX2_readOrder_252 : decode cX2_readOrder 252 = .ok (.getfield 32, 3) := dk_180 0 32 (dk_at dksX2_readOrder_10 19 rfl rfl)
theorem dX2_readOrder_255 : decode cX2_readOrder 255 = .ok (.iconst 4, 1) := dk_7 (dk_at dksX2_readOrder_10 22 rfl rfl)
theorem dX2_readOrder_256 : decode cX2_readOrder 256 = .ok (.iload_n 1, 1) := dk_27 (dk_at dksX2_readOrder_10 23 rfl rfl)
theorem dX2_readOrder_257 : decode cX2_readOrder 257 = .ok (.bipush 113, 2) := dk_16 113 (dk_at dksX2_readOrder_11 0 rfl rfl)
theorem dX2_readOrder_259 : decode cX2_readOrder 259 = .ok (.if_icmp .ne 12, 3) := dk_160 0 12 (dk_at dksX2_readOrder_11 2 rfl rfl)
theorem dX2_readOrder_262 : decode cX2_readOrder 262 = .ok (.aload_n 0, 1) := dk_42 (dk_at dksX2_readOrder_11 5 rfl rfl)
theorem dX2_readOrder_263 : decode cX2_readOrder 263 = .ok (.bipush 42, 2) := dk_16 42 (dk_at dksX2_readOrder_11 6 rfl rfl)
theorem dX2_readOrder_265 : decode cX2_readOrder 265 = .ok (.invokevirtual 232, 3) := dk_182 0 232 (dk_at dksX2_readOrder_11 8 rfl rfl)
theorem dX2_readOrder_268 : decode cX2_readOrder 268 = .ok (.goto 4, 3) := dk_167 0 4 (dk_at dksX2_readOrder_11 11 rfl rfl)
theorem dX2_readOrder_271 : decode cX2_readOrder 271 = .ok (.iconst 0, 1) := dk_3 (dk_at dksX2_readOrder_11 14 rfl rfl)
theorem dX2_readOrder_272 : decode cX2_readOrder 272 = .ok (.iastore, 1) := dk_79 (dk_at dksX2_readOrder_11 15 rfl rfl)
theorem dX2_readOrder_273 : decode cX2_readOrder 273 = .ok (.goto 89, 3) := dk_167 0 89 (dk_at dksX2_readOrder_11 16 rfl rfl)
theorem dX2_readOrder_276 : decode cX2_readOrder 276 = .ok (.iload_n 1, 1) := dk_27 (dk_at dksX2_readOrder_11 19 rfl rfl)
theorem dX2_readOrder_277 : decode cX2_readOrder 277 = .ok (.bipush 103, 2) := dk_16 103 (dk_at dksX2_readOrder_11 20 rfl rfl)
theorem dX2_readOrder_279 : decode cX2_readOrder 279 = .ok (.if_icmp .ne 18, 3) := dk_160 0 18 (dk_at dksX2_readOrder_12 0 rfl rfl)
theorem dX2_readOrder_282 : decode cX2_readOrder 282 = .ok (.aload_n 0, 1) := dk_42 (dk_at dksX2_readOrder_12 3 rfl rfl)
theorem dX2_readOrder_283 : decode cX2_readOrder 283 = .ok (.getfield 32, 3) := dk_180 0 32 (dk_at dksX2_readOrder_12 4 rfl rfl)
theorem dX2_readOrder_286 : decode cX2_readOrder 286 = .ok (.iconst 2, 1) := dk_5 (dk_at dksX2_readOrder_12 7 rfl rfl)
theorem dX2_readOrder_287 : decode cX2_readOrder 287 = .ok (.aload_n 0, 1) := dk_42 (dk_at dksX2_readOrder_12 8 rfl rfl)
theorem dX2_readOrder_288 : decode cX2_readOrder 288 = .ok (.bipush 61, 2) := dk_16 61 (dk_at dksX2_readOrder_12 9 rfl rfl)
theorem dX2_readOrder_290 : decode cX2_readOrder 290 = .ok (.invokevirtual 232, 3) := dk_182 0 232 (dk_at dksX2_readOrder_12 11 rfl rfl)
theorem dX2_readOrder_293 : decode cX2_readOrder 293 = .ok (.iastore, 1) := dk_79 (dk_at dksX2_readOrder_12 14 rfl rfl)
theorem dX2_readOrder_294 : decode cX2_readOrder 294 = .ok (.goto 68, 3) := dk_167 0 68 (dk_at dksX2_readOrder_12 15 rfl rfl)
theorem dX2_readOrder_297 : decode cX2_readOrder 297 = .ok (.iload_n 1, 1) := dk_27 (dk_at dksX2_readOrder_12 18 rfl rfl)
theorem dX2_readOrder_298 : decode cX2_readOrder 298 = .ok (.bipush 99, 2) := dk_16 99 (dk_at dksX2_readOrder_12 19 rfl rfl)
theorem dX2_readOrder_300 : decode cX2_readOrder 300 = .ok (.if_icmp .eq 9, 3) := dk_159 0 9 (dk_at dksX2_readOrder_12 21 rfl rfl)
theorem dX2_readOrder_303 : decode cX2_readOrder 303 = .ok (.iload_n 1, 1) := dk_27 (dk_at dksX2_readOrder_13 0 rfl rfl)
theorem dX2_readOrder_304 : decode cX2_readOrder 304 = .ok (.bipush 108, 2) := dk_16 108 (dk_at dksX2_readOrder_13 1 rfl rfl)
theorem dX2_readOrder_306 : decode cX2_readOrder 306 = .ok (.if_icmp .ne 56, 3) := dk_160 0 56 (dk_at dksX2_readOrder_13 3 rfl rfl)
theorem dX2_readOrder_309 : decode cX2_readOrder 309 = .ok (.aload_n 0, 1) := dk_42 (dk_at dksX2_readOrder_13 6 rfl rfl)
theorem dX2_readOrder_310 : decode cX2_readOrder 310 = .ok (.bipush 46, 2) := dk_16 46 (dk_at dksX2_readOrder_13 7 rfl rfl)
theorem dX2_readOrder_312 : decode cX2_readOrder 312 = .ok (.bipush 46, 2) := dk_16 46 (dk_at dksX2_readOrder_13 9 rfl rfl)
theorem dX2_readOrder_314 : decode cX2_readOrder 314 = .ok (.invokevirtual 223, 3) := dk_182 0 223 (dk_at dksX2_readOrder_13 11 rfl rfl)
theorem dX2_readOrder_317 : decode cX2_readOrder 317 = .ok (.istore 4, 2) := dk_54 4 (dk_at dksX2_readOrder_13 14 rfl rfl)
theorem dX2_readOrder_319 : decode cX2_readOrder 319 = .ok (.aload_n 0, 1) := dk_42 (dk_at dksX2_readOrder_13 16 rfl rfl)
theorem dX2_readOrder_320 : decode cX2_readOrder 320 = .ok (.getfield 32, 3) := dk_180 0 32 (dk_at dksX2_readOrder_13 17 rfl rfl)
theorem dX2_readOrder_323 : decode cX2_readOrder 323 = .ok (.iconst 2, 1) := dk_5 (dk_at dksX2_readOrder_13 20 rfl rfl)
theorem dX2_readOrder_324 : decode cX2_readOrder 324 = .ok (.aload_n 0, 1) := dk_42 (dk_at dksX2_readOrder_13 21 rfl rfl)
theorem dX2_readOrder_325 : decode cX2_readOrder 325 = .ok (.bipush 48, 2) := dk_16 48 (dk_at dksX2_readOrder_13 22 rfl rfl)
theorem dX2_readOrder_327 : decode cX2_readOrder 327 = .ok (.bipush 57, 2) := dk_16 57 (dk_at dksX2_readOrder_14 0 rfl rfl)
theorem dX2_readOrder_329 : decode cX2_readOrder 329 = .ok (.invokevirtual 223, 3) := dk_182 0 223 (dk_at dksX2_readOrder_14 2 rfl rfl)
theorem dX2_readOrder_332 : decode cX2_readOrder 332 = .ok (.iastore, 1) := dk_79 (dk_at dksX2_readOrder_14 5 rfl rfl)
theorem dX2_readOrder_333 : decode cX2_readOrder 333 = .ok (.aload_n 0, 1) := dk_42 (dk_at dksX2_readOrder_14 6 rfl rfl)
theorem dX2_readOrder_334 : decode cX2_readOrder 334 = .ok (.getfield 32, 3) := dk_180 0 32 (dk_at dksX2_readOrder_14 7 rfl rfl)
theorem dX2_readOrder_337 : decode cX2_readOrder 337 = .ok (.iconst 3, 1) := dk_6 (dk_at dksX2_readOrder_14 10 rfl rfl)
theorem dX2_readOrder_338 : decode cX2_readOrder 338 = .ok (.iload_n 1, 1) := dk_27 (dk_at dksX2_readOrder_14 11 rfl rfl)
theorem dX2_readOrder_339 : decode cX2_readOrder 339 = .ok (.bipush 99, 2) := dk_16 99 (dk_at dksX2_readOrder_14 12 rfl rfl)
theorem dX2_readOrder_341 : decode cX2_readOrder 341 = .ok (.if_icmp .ne 12, 3) := dk_160 0 12 (dk_at dksX2_readOrder_14 14 rfl rfl)
theorem dX2_readOrder_344 : decode cX2_readOrder 344 = .ok (.aload_n 0, 1) := dk_42 (dk_at dksX2_readOrder_14 17 rfl rfl)
theorem dX2_readOrder_345 : decode cX2_readOrder 345 = .ok (.bipush 64, 2) := dk_16 64 (dk_at dksX2_readOrder_14 18 rfl rfl)
theorem dX2_readOrder_347 : decode cX2_readOrder 347 = .ok (.invokevirtual 232, 3) := dk_182 0 232 (dk_at dksX2_readOrder_14 20 rfl rfl)
theorem dX2_readOrder_350 : decode cX2_readOrder 350 = .ok (.goto 11, 3) := dk_167 0 11 (dk_at dksX2_readOrder_15 0 rfl rfl)
theorem dX2_readOrder_353 : decode cX2_readOrder 353 = .ok (.aload_n 0, 1) := dk_42 (dk_at dksX2_readOrder_15 3 rfl rfl)
theorem dX2_readOrder_354 : decode cX2_readOrder 354 = .ok (.bipush 48, 2) := dk_16 48 (dk_at dksX2_readOrder_15 4 rfl rfl)
theorem dX2_readOrder_356 : decode cX2_readOrder 356 = .ok (.bipush 57, 2) := dk_16 57 (dk_at dksX2_readOrder_15 6 rfl rfl)
theorem dX2_readOrder_358 : decode cX2_readOrder 358 = .ok (.invokevirtual 223, 3) := dk_182 0 223 (dk_at dksX2_readOrder_15 8 rfl rfl)
theorem dX2_readOrder_361 : decode cX2_readOrder 361 = .ok (.iastore, 1) := dk_79 (dk_at dksX2_readOrder_15 11 rfl rfl)
theorem dX2_readOrder_362 : decode cX2_readOrder 362 = .ok (.return_, 1) := dk_177 (dk_at dksX2_readOrder_15 12 rfl rfl)
abbrev cX2_isNext : ByteArray := prog_8_method_74_code
def yX2_isNext : MethodName := ⟨RX2, "isNext", "(II)Z"⟩
def dkwX2_isNext_1 : List UInt8 := [180, 0, 220, 46, 27, 28, 184, 0, 39, 153, 0, 7, 4, 167, 0, 4, 3, 172]
abbrev dktX2_isNext_1 : List UInt8 := dkwX2_isNext_1 ++ []
def dkwX2_isNext_0 : List UInt8 := [42, 180, 0, 216, 154, 0, 35, 42, 180, 0, 220, 42, 180, 0, 189, 162, 0, 24, 42, 180, 0, 26, 42]
abbrev dktX2_isNext_0 : List UInt8 := dkwX2_isNext_0 ++ dktX2_isNext_1
theorem dksX2_isNext_0 : cX2_isNext.data.toList.drop 0 = dktX2_isNext_0 := by decide +kernel
theorem dksX2_isNext_1 : cX2_isNext.data.toList.drop 23 = dktX2_isNext_1 := dk_seg dksX2_isNext_0 23 rfl rfl
theorem dX2_isNext_0 : decode cX2_isNext 0 = .ok (.aload_n 0, 1) := dk_42 (dk_at dksX2_isNext_0 0 rfl rfl)
theorem dX2_isNext_1 : decode cX2_isNext 1 = .ok (.getfield 216, 3) := dk_180 0 216 (dk_at dksX2_isNext_0 1 rfl rfl)
theorem dX2_isNext_4 : decode cX2_isNext 4 = .ok (.ifCond .ne 35, 3) := dk_154 0 35 (dk_at dksX2_isNext_0 4 rfl rfl)
theorem dX2_isNext_7 : decode cX2_isNext 7 = .ok (.aload_n 0, 1) := dk_42 (dk_at dksX2_isNext_0 7 rfl rfl)
theorem dX2_isNext_8 : decode cX2_isNext 8 = .ok (.getfield 220, 3) := dk_180 0 220 (dk_at dksX2_isNext_0 8 rfl rfl)
theorem dX2_isNext_11 : decode cX2_isNext 11 = .ok (.aload_n 0, 1) := dk_42 (dk_at dksX2_isNext_0 11 rfl rfl)
theorem dX2_isNext_12 : decode cX2_isNext 12 = .ok (.getfield 189, 3) := dk_180 0 189 (dk_at dksX2_isNext_0 12 rfl rfl)
theorem dX2_isNext_15 : decode cX2_isNext 15 = .ok (.if_icmp .ge 24, 3) := dk_162 0 24 (dk_at dksX2_isNext_0 15 rfl rfl)
theorem dX2_isNext_18 : decode cX2_isNext 18 = .ok (.aload_n 0, 1) := dk_42 (dk_at dksX2_isNext_0 18 rfl rfl)
theorem dX2_isNext_19 : decode cX2_isNext 19 = .ok (.getfield 26, 3) := dk_180 0 26 (dk_at dksX2_isNext_0 19 rfl rfl)
theorem dX2_isNext_22 : decode cX2_isNext 22 = .ok (.aload_n 0, 1) := dk_42 (dk_at dksX2_isNext_0 22 rfl rfl)
theorem dX2_isNext_23 : decode cX2_isNext 23 = .ok (.getfield 220, 3) := dk_180 0 220 (dk_at dksX2_isNext_1 0 rfl rfl)
theorem dX2_isNext_26 : decode cX2_isNext 26 = .ok (.iaload, 1) := dk_46 (dk_at dksX2_isNext_1 3 rfl rfl)
theorem dX2_isNext_27 : decode cX2_isNext 27 = .ok (.iload_n 1, 1) := dk_27 (dk_at dksX2_isNext_1 4 rfl rfl)
theorem dX2_isNext_28 : decode cX2_isNext 28 = .ok (.iload_n 2, 1) := dk_28 (dk_at dksX2_isNext_1 5 rfl rfl)
theorem dX2_isNext_29 : decode cX2_isNext 29 = .ok (.invokestatic 39, 3) := dk_184 0 39 (dk_at dksX2_isNext_1 6 rfl rfl)
theorem dX2_isNext_32 : decode cX2_isNext 32 = .ok (.ifCond .eq 7, 3) := dk_153 0 7 (dk_at dksX2_isNext_1 9 rfl rfl)
theorem dX2_isNext_35 : decode cX2_isNext 35 = .ok (.iconst 1, 1) := dk_4 (dk_at dksX2_isNext_1 12 rfl rfl)
theorem dX2_isNext_36 : decode cX2_isNext 36 = .ok (.goto 4, 3) := dk_167 0 4 (dk_at dksX2_isNext_1 13 rfl rfl)
theorem dX2_isNext_39 : decode cX2_isNext 39 = .ok (.iconst 0, 1) := dk_3 (dk_at dksX2_isNext_1 16 rfl rfl)
theorem dX2_isNext_40 : decode cX2_isNext 40 = .ok (.ireturn, 1) := dk_172 (dk_at dksX2_isNext_1 17 rfl rfl)
abbrev cX2_takes : ByteArray := prog_8_method_75_code
def yX2_takes : MethodName := ⟨RX2, "takes", "(II)I"⟩
def dkwX2_takes_3 : List UInt8 := [29, 27, 100, 172]
abbrev dktX2_takes_3 : List UInt8 := dkwX2_takes_3 ++ []
def dkwX2_takes_2 : List UInt8 := [181, 0, 216, 42, 89, 180, 0, 220, 42, 180, 0, 216, 153, 0, 7, 3, 167, 0, 4, 4, 96, 181, 0, 220]
abbrev dktX2_takes_2 : List UInt8 := dkwX2_takes_2 ++ dktX2_takes_3
def dkwX2_takes_1 : List UInt8 := [62, 42, 42, 180, 0, 216, 154, 0, 12, 29, 27, 28, 184, 0, 39, 154, 0, 7, 4, 167, 0, 4, 3]
abbrev dktX2_takes_1 : List UInt8 := dkwX2_takes_1 ++ dktX2_takes_2
def dkwX2_takes_0 : List UInt8 := [42, 180, 0, 220, 42, 180, 0, 189, 162, 0, 15, 42, 180, 0, 26, 42, 180, 0, 220, 46, 167, 0, 4, 3]
abbrev dktX2_takes_0 : List UInt8 := dkwX2_takes_0 ++ dktX2_takes_1
theorem dksX2_takes_0 : cX2_takes.data.toList.drop 0 = dktX2_takes_0 := by decide +kernel
theorem dksX2_takes_1 : cX2_takes.data.toList.drop 24 = dktX2_takes_1 := dk_seg dksX2_takes_0 24 rfl rfl
theorem dksX2_takes_2 : cX2_takes.data.toList.drop 47 = dktX2_takes_2 := dk_seg dksX2_takes_1 23 rfl rfl
theorem dksX2_takes_3 : cX2_takes.data.toList.drop 71 = dktX2_takes_3 := dk_seg dksX2_takes_2 24 rfl rfl
theorem dX2_takes_0 : decode cX2_takes 0 = .ok (.aload_n 0, 1) := dk_42 (dk_at dksX2_takes_0 0 rfl rfl)
theorem dX2_takes_1 : decode cX2_takes 1 = .ok (.getfield 220, 3) := dk_180 0 220 (dk_at dksX2_takes_0 1 rfl rfl)
theorem dX2_takes_4 : decode cX2_takes 4 = .ok (.aload_n 0, 1) := dk_42 (dk_at dksX2_takes_0 4 rfl rfl)
theorem dX2_takes_5 : decode cX2_takes 5 = .ok (.getfield 189, 3) := dk_180 0 189 (dk_at dksX2_takes_0 5 rfl rfl)
theorem dX2_takes_8 : decode cX2_takes 8 = .ok (.if_icmp .ge 15, 3) := dk_162 0 15 (dk_at dksX2_takes_0 8 rfl rfl)
theorem dX2_takes_11 : decode cX2_takes 11 = .ok (.aload_n 0, 1) := dk_42 (dk_at dksX2_takes_0 11 rfl rfl)
theorem dX2_takes_12 : decode cX2_takes 12 = .ok (.getfield 26, 3) := dk_180 0 26 (dk_at dksX2_takes_0 12 rfl rfl)
theorem dX2_takes_15 : decode cX2_takes 15 = .ok (.aload_n 0, 1) := dk_42 (dk_at dksX2_takes_0 15 rfl rfl)
theorem dX2_takes_16 : decode cX2_takes 16 = .ok (.getfield 220, 3) := dk_180 0 220 (dk_at dksX2_takes_0 16 rfl rfl)
theorem dX2_takes_19 : decode cX2_takes 19 = .ok (.iaload, 1) := dk_46 (dk_at dksX2_takes_0 19 rfl rfl)
theorem dX2_takes_20 : decode cX2_takes 20 = .ok (.goto 4, 3) := dk_167 0 4 (dk_at dksX2_takes_0 20 rfl rfl)
theorem dX2_takes_23 : decode cX2_takes 23 = .ok (.iconst 0, 1) := dk_3 (dk_at dksX2_takes_0 23 rfl rfl)
theorem dX2_takes_24 : decode cX2_takes 24 = .ok (.istore_n 3, 1) := dk_62 (dk_at dksX2_takes_1 0 rfl rfl)
theorem dX2_takes_25 : decode cX2_takes 25 = .ok (.aload_n 0, 1) := dk_42 (dk_at dksX2_takes_1 1 rfl rfl)
theorem dX2_takes_26 : decode cX2_takes 26 = .ok (.aload_n 0, 1) := dk_42 (dk_at dksX2_takes_1 2 rfl rfl)
theorem dX2_takes_27 : decode cX2_takes 27 = .ok (.getfield 216, 3) := dk_180 0 216 (dk_at dksX2_takes_1 3 rfl rfl)
theorem dX2_takes_30 : decode cX2_takes 30 = .ok (.ifCond .ne 12, 3) := dk_154 0 12 (dk_at dksX2_takes_1 6 rfl rfl)
theorem dX2_takes_33 : decode cX2_takes 33 = .ok (.iload_n 3, 1) := dk_29 (dk_at dksX2_takes_1 9 rfl rfl)
theorem dX2_takes_34 : decode cX2_takes 34 = .ok (.iload_n 1, 1) := dk_27 (dk_at dksX2_takes_1 10 rfl rfl)
theorem dX2_takes_35 : decode cX2_takes 35 = .ok (.iload_n 2, 1) := dk_28 (dk_at dksX2_takes_1 11 rfl rfl)
theorem dX2_takes_36 : decode cX2_takes 36 = .ok (.invokestatic 39, 3) := dk_184 0 39 (dk_at dksX2_takes_1 12 rfl rfl)
theorem dX2_takes_39 : decode cX2_takes 39 = .ok (.ifCond .ne 7, 3) := dk_154 0 7 (dk_at dksX2_takes_1 15 rfl rfl)
theorem dX2_takes_42 : decode cX2_takes 42 = .ok (.iconst 1, 1) := dk_4 (dk_at dksX2_takes_1 18 rfl rfl)
theorem dX2_takes_43 : decode cX2_takes 43 = .ok (.goto 4, 3) := dk_167 0 4 (dk_at dksX2_takes_1 19 rfl rfl)
theorem dX2_takes_46 : decode cX2_takes 46 = .ok (.iconst 0, 1) := dk_3 (dk_at dksX2_takes_1 22 rfl rfl)
theorem dX2_takes_47 : decode cX2_takes 47 = .ok (.putfield 216, 3) := dk_181 0 216 (dk_at dksX2_takes_2 0 rfl rfl)
theorem dX2_takes_50 : decode cX2_takes 50 = .ok (.aload_n 0, 1) := dk_42 (dk_at dksX2_takes_2 3 rfl rfl)
theorem dX2_takes_51 : decode cX2_takes 51 = .ok (.dup, 1) := dk_89 (dk_at dksX2_takes_2 4 rfl rfl)
theorem dX2_takes_52 : decode cX2_takes 52 = .ok (.getfield 220, 3) := dk_180 0 220 (dk_at dksX2_takes_2 5 rfl rfl)
theorem dX2_takes_55 : decode cX2_takes 55 = .ok (.aload_n 0, 1) := dk_42 (dk_at dksX2_takes_2 8 rfl rfl)
theorem dX2_takes_56 : decode cX2_takes 56 = .ok (.getfield 216, 3) := dk_180 0 216 (dk_at dksX2_takes_2 9 rfl rfl)
theorem dX2_takes_59 : decode cX2_takes 59 = .ok (.ifCond .eq 7, 3) := dk_153 0 7 (dk_at dksX2_takes_2 12 rfl rfl)
theorem dX2_takes_62 : decode cX2_takes 62 = .ok (.iconst 0, 1) := dk_3 (dk_at dksX2_takes_2 15 rfl rfl)
theorem dX2_takes_63 : decode cX2_takes 63 = .ok (.goto 4, 3) := dk_167 0 4 (dk_at dksX2_takes_2 16 rfl rfl)
theorem dX2_takes_66 : decode cX2_takes 66 = .ok (.iconst 1, 1) := dk_4 (dk_at dksX2_takes_2 19 rfl rfl)
theorem dX2_takes_67 : decode cX2_takes 67 = .ok (.iadd, 1) := dk_96 (dk_at dksX2_takes_2 20 rfl rfl)
theorem dX2_takes_68 : decode cX2_takes 68 = .ok (.putfield 220, 3) := dk_181 0 220 (dk_at dksX2_takes_2 21 rfl rfl)
theorem dX2_takes_71 : decode cX2_takes 71 = .ok (.iload_n 3, 1) := dk_29 (dk_at dksX2_takes_3 0 rfl rfl)
theorem dX2_takes_72 : decode cX2_takes 72 = .ok (.iload_n 1, 1) := dk_27 (dk_at dksX2_takes_3 1 rfl rfl)
theorem dX2_takes_73 : decode cX2_takes 73 = .ok (.isub, 1) := dk_100 (dk_at dksX2_takes_3 2 rfl rfl)
theorem dX2_takes_74 : decode cX2_takes 74 = .ok (.ireturn, 1) := dk_172 (dk_at dksX2_takes_3 3 rfl rfl)
abbrev cX2_takesNumber : ByteArray := prog_8_method_76_code
def yX2_takesNumber : MethodName := ⟨RX2, "takesNumber", "()I"⟩
def dkwX2_takesNumber_2 : List UInt8 := [132, 2, 1, 167, 255, 219, 27, 172]
abbrev dktX2_takesNumber_2 : List UInt8 := dkwX2_takesNumber_2 ++ []
def dkwX2_takesNumber_1 : List UInt8 := [16, 57, 182, 0, 226, 153, 0, 23, 16, 10, 27, 104, 42, 16, 48, 16, 57, 182, 0, 223, 96, 60]
abbrev dktX2_takesNumber_1 : List UInt8 := dkwX2_takesNumber_1 ++ dktX2_takesNumber_2
def dkwX2_takesNumber_0 : List UInt8 := [42, 16, 48, 16, 57, 182, 0, 223, 60, 3, 61, 28, 5, 162, 0, 38, 27, 158, 0, 34, 42, 16, 48]
abbrev dktX2_takesNumber_0 : List UInt8 := dkwX2_takesNumber_0 ++ dktX2_takesNumber_1
theorem dksX2_takesNumber_0 : cX2_takesNumber.data.toList.drop 0 = dktX2_takesNumber_0 := by decide +kernel
theorem dksX2_takesNumber_1 : cX2_takesNumber.data.toList.drop 23 = dktX2_takesNumber_1 := dk_seg dksX2_takesNumber_0 23 rfl rfl
theorem dksX2_takesNumber_2 : cX2_takesNumber.data.toList.drop 45 = dktX2_takesNumber_2 := dk_seg dksX2_takesNumber_1 22 rfl rfl
theorem dX2_takesNumber_0 : decode cX2_takesNumber 0 = .ok (.aload_n 0, 1) := dk_42 (dk_at dksX2_takesNumber_0 0 rfl rfl)
theorem dX2_takesNumber_1 : decode cX2_takesNumber 1 = .ok (.bipush 48, 2) := dk_16 48 (dk_at dksX2_takesNumber_0 1 rfl rfl)
theorem dX2_takesNumber_3 : decode cX2_takesNumber 3 = .ok (.bipush 57, 2) := dk_16 57 (dk_at dksX2_takesNumber_0 3 rfl rfl)
theorem dX2_takesNumber_5 : decode cX2_takesNumber 5 = .ok (.invokevirtual 223, 3) := dk_182 0 223 (dk_at dksX2_takesNumber_0 5 rfl rfl)
theorem dX2_takesNumber_8 : decode cX2_takesNumber 8 = .ok (.istore_n 1, 1) := dk_60 (dk_at dksX2_takesNumber_0 8 rfl rfl)
theorem dX2_takesNumber_9 : decode cX2_takesNumber 9 = .ok (.iconst 0, 1) := dk_3 (dk_at dksX2_takesNumber_0 9 rfl rfl)
theorem dX2_takesNumber_10 : decode cX2_takesNumber 10 = .ok (.istore_n 2, 1) := dk_61 (dk_at dksX2_takesNumber_0 10 rfl rfl)
theorem dX2_takesNumber_11 : decode cX2_takesNumber 11 = .ok (.iload_n 2, 1) := dk_28 (dk_at dksX2_takesNumber_0 11 rfl rfl)
theorem dX2_takesNumber_12 : decode cX2_takesNumber 12 = .ok (.iconst 2, 1) := dk_5 (dk_at dksX2_takesNumber_0 12 rfl rfl)
theorem dX2_takesNumber_13 : decode cX2_takesNumber 13 = .ok (.if_icmp .ge 38, 3) := dk_162 0 38 (dk_at dksX2_takesNumber_0 13 rfl rfl)
theorem dX2_takesNumber_16 : decode cX2_takesNumber 16 = .ok (.iload_n 1, 1) := dk_27 (dk_at dksX2_takesNumber_0 16 rfl rfl)
theorem dX2_takesNumber_17 : decode cX2_takesNumber 17 = .ok (.ifCond .le 34, 3) := dk_158 0 34 (dk_at dksX2_takesNumber_0 17 rfl rfl)
theorem dX2_takesNumber_20 : decode cX2_takesNumber 20 = .ok (.aload_n 0, 1) := dk_42 (dk_at dksX2_takesNumber_0 20 rfl rfl)
theorem dX2_takesNumber_21 : decode cX2_takesNumber 21 = .ok (.bipush 48, 2) := dk_16 48 (dk_at dksX2_takesNumber_0 21 rfl rfl)
theorem dX2_takesNumber_23 : decode cX2_takesNumber 23 = .ok (.bipush 57, 2) := dk_16 57 (dk_at dksX2_takesNumber_1 0 rfl rfl)
theorem dX2_takesNumber_25 : decode cX2_takesNumber 25 = .ok (.invokevirtual 226, 3) := dk_182 0 226 (dk_at dksX2_takesNumber_1 2 rfl rfl)
theorem dX2_takesNumber_28 : decode cX2_takesNumber 28 = .ok (.ifCond .eq 23, 3) := dk_153 0 23 (dk_at dksX2_takesNumber_1 5 rfl rfl)
theorem dX2_takesNumber_31 : decode cX2_takesNumber 31 = .ok (.bipush 10, 2) := dk_16 10 (dk_at dksX2_takesNumber_1 8 rfl rfl)
theorem dX2_takesNumber_33 : decode cX2_takesNumber 33 = .ok (.iload_n 1, 1) := dk_27 (dk_at dksX2_takesNumber_1 10 rfl rfl)
theorem dX2_takesNumber_34 : decode cX2_takesNumber 34 = .ok (.imul, 1) := dk_104 (dk_at dksX2_takesNumber_1 11 rfl rfl)
theorem dX2_takesNumber_35 : decode cX2_takesNumber 35 = .ok (.aload_n 0, 1) := dk_42 (dk_at dksX2_takesNumber_1 12 rfl rfl)
theorem dX2_takesNumber_36 : decode cX2_takesNumber 36 = .ok (.bipush 48, 2) := dk_16 48 (dk_at dksX2_takesNumber_1 13 rfl rfl)
theorem dX2_takesNumber_38 : decode cX2_takesNumber 38 = .ok (.bipush 57, 2) := dk_16 57 (dk_at dksX2_takesNumber_1 15 rfl rfl)
theorem dX2_takesNumber_40 : decode cX2_takesNumber 40 = .ok (.invokevirtual 223, 3) := dk_182 0 223 (dk_at dksX2_takesNumber_1 17 rfl rfl)
theorem dX2_takesNumber_43 : decode cX2_takesNumber 43 = .ok (.iadd, 1) := dk_96 (dk_at dksX2_takesNumber_1 20 rfl rfl)
theorem dX2_takesNumber_44 : decode cX2_takesNumber 44 = .ok (.istore_n 1, 1) := dk_60 (dk_at dksX2_takesNumber_1 21 rfl rfl)
theorem dX2_takesNumber_45 : decode cX2_takesNumber 45 = .ok (.iinc 2 1, 3) := dk_132 2 1 (dk_at dksX2_takesNumber_2 0 rfl rfl)
theorem dX2_takesNumber_48 : decode cX2_takesNumber 48 = .ok (.goto (-37), 3) := dk_167 255 219 (dk_at dksX2_takesNumber_2 3 rfl rfl)
theorem dX2_takesNumber_51 : decode cX2_takesNumber 51 = .ok (.iload_n 1, 1) := dk_27 (dk_at dksX2_takesNumber_2 6 rfl rfl)
theorem dX2_takesNumber_52 : decode cX2_takesNumber 52 = .ok (.ireturn, 1) := dk_172 (dk_at dksX2_takesNumber_2 7 rfl rfl)
abbrev cX2_takesBehind : ByteArray := prog_8_method_77_code
def yX2_takesBehind : MethodName := ⟨RX2, "takesBehind", "(I)I"⟩
def dkwX2_takesBehind_0 : List UInt8 := [42, 27, 27, 182, 0, 223, 61, 42, 182, 0, 229, 172]
abbrev dktX2_takesBehind_0 : List UInt8 := dkwX2_takesBehind_0 ++ []
theorem dksX2_takesBehind_0 : cX2_takesBehind.data.toList.drop 0 = dktX2_takesBehind_0 := by decide +kernel
theorem dX2_takesBehind_0 : decode cX2_takesBehind 0 = .ok (.aload_n 0, 1) := dk_42 (dk_at dksX2_takesBehind_0 0 rfl rfl)
theorem dX2_takesBehind_1 : decode cX2_takesBehind 1 = .ok (.iload_n 1, 1) := dk_27 (dk_at dksX2_takesBehind_0 1 rfl rfl)
theorem dX2_takesBehind_2 : decode cX2_takesBehind 2 = .ok (.iload_n 1, 1) := dk_27 (dk_at dksX2_takesBehind_0 2 rfl rfl)
theorem dX2_takesBehind_3 : decode cX2_takesBehind 3 = .ok (.invokevirtual 223, 3) := dk_182 0 223 (dk_at dksX2_takesBehind_0 3 rfl rfl)
theorem dX2_takesBehind_6 : decode cX2_takesBehind 6 = .ok (.istore_n 2, 1) := dk_61 (dk_at dksX2_takesBehind_0 6 rfl rfl)
theorem dX2_takesBehind_7 : decode cX2_takesBehind 7 = .ok (.aload_n 0, 1) := dk_42 (dk_at dksX2_takesBehind_0 7 rfl rfl)
theorem dX2_takesBehind_8 : decode cX2_takesBehind 8 = .ok (.invokevirtual 229, 3) := dk_182 0 229 (dk_at dksX2_takesBehind_0 8 rfl rfl)
theorem dX2_takesBehind_11 : decode cX2_takesBehind 11 = .ok (.ireturn, 1) := dk_172 (dk_at dksX2_takesBehind_0 11 rfl rfl)
abbrev cX2_carryOut : ByteArray := prog_8_method_81_code
def yX2_carryOut : MethodName := ⟨RX2, "carryOut", "()I"⟩
def dkwX2_carryOut_1 : List UInt8 := [42, 4, 182, 0, 238, 61, 42, 3, 181, 0, 189, 28, 172]
abbrev dktX2_carryOut_1 : List UInt8 := dkwX2_carryOut_1 ++ []
def dkwX2_carryOut_0 : List UInt8 := [42, 3, 182, 0, 238, 60, 42, 180, 0, 216, 153, 0, 6, 16, 253, 172, 42, 182, 0, 156, 42, 182, 0, 163]
abbrev dktX2_carryOut_0 : List UInt8 := dkwX2_carryOut_0 ++ dktX2_carryOut_1
theorem dksX2_carryOut_0 : cX2_carryOut.data.toList.drop 0 = dktX2_carryOut_0 := by decide +kernel
theorem dksX2_carryOut_1 : cX2_carryOut.data.toList.drop 24 = dktX2_carryOut_1 := dk_seg dksX2_carryOut_0 24 rfl rfl
theorem dX2_carryOut_0 : decode cX2_carryOut 0 = .ok (.aload_n 0, 1) := dk_42 (dk_at dksX2_carryOut_0 0 rfl rfl)
theorem dX2_carryOut_1 : decode cX2_carryOut 1 = .ok (.iconst 0, 1) := dk_3 (dk_at dksX2_carryOut_0 1 rfl rfl)
theorem dX2_carryOut_2 : decode cX2_carryOut 2 = .ok (.invokevirtual 238, 3) := dk_182 0 238 (dk_at dksX2_carryOut_0 2 rfl rfl)
theorem dX2_carryOut_5 : decode cX2_carryOut 5 = .ok (.istore_n 1, 1) := dk_60 (dk_at dksX2_carryOut_0 5 rfl rfl)
theorem dX2_carryOut_6 : decode cX2_carryOut 6 = .ok (.aload_n 0, 1) := dk_42 (dk_at dksX2_carryOut_0 6 rfl rfl)
theorem dX2_carryOut_7 : decode cX2_carryOut 7 = .ok (.getfield 216, 3) := dk_180 0 216 (dk_at dksX2_carryOut_0 7 rfl rfl)
theorem dX2_carryOut_10 : decode cX2_carryOut 10 = .ok (.ifCond .eq 6, 3) := dk_153 0 6 (dk_at dksX2_carryOut_0 10 rfl rfl)
theorem dX2_carryOut_13 : decode cX2_carryOut 13 = .ok (.bipush (-3), 2) := dk_16 253 (dk_at dksX2_carryOut_0 13 rfl rfl)
theorem dX2_carryOut_15 : decode cX2_carryOut 15 = .ok (.ireturn, 1) := dk_172 (dk_at dksX2_carryOut_0 15 rfl rfl)
theorem dX2_carryOut_16 : decode cX2_carryOut 16 = .ok (.aload_n 0, 1) := dk_42 (dk_at dksX2_carryOut_0 16 rfl rfl)
theorem dX2_carryOut_17 : decode cX2_carryOut 17 = .ok (.invokevirtual 156, 3) := dk_182 0 156 (dk_at dksX2_carryOut_0 17 rfl rfl)
theorem dX2_carryOut_20 : decode cX2_carryOut 20 = .ok (.aload_n 0, 1) := dk_42 (dk_at dksX2_carryOut_0 20 rfl rfl)
theorem dX2_carryOut_21 : decode cX2_carryOut 21 = .ok (.invokevirtual 163, 3) := dk_182 0 163 (dk_at dksX2_carryOut_0 21 rfl rfl)
theorem dX2_carryOut_24 : decode cX2_carryOut 24 = .ok (.aload_n 0, 1) := dk_42 (dk_at dksX2_carryOut_1 0 rfl rfl)
theorem dX2_carryOut_25 : decode cX2_carryOut 25 = .ok (.iconst 1, 1) := dk_4 (dk_at dksX2_carryOut_1 1 rfl rfl)
theorem dX2_carryOut_26 : decode cX2_carryOut 26 = .ok (.invokevirtual 238, 3) := dk_182 0 238 (dk_at dksX2_carryOut_1 2 rfl rfl)
theorem dX2_carryOut_29 : decode cX2_carryOut 29 = .ok (.istore_n 2, 1) := dk_61 (dk_at dksX2_carryOut_1 5 rfl rfl)
theorem dX2_carryOut_30 : decode cX2_carryOut 30 = .ok (.aload_n 0, 1) := dk_42 (dk_at dksX2_carryOut_1 6 rfl rfl)
theorem dX2_carryOut_31 : decode cX2_carryOut 31 = .ok (.iconst 0, 1) := dk_3 (dk_at dksX2_carryOut_1 7 rfl rfl)
theorem dX2_carryOut_32 : decode cX2_carryOut 32 = .ok (.putfield 189, 3) := dk_181 0 189 (dk_at dksX2_carryOut_1 8 rfl rfl)
theorem dX2_carryOut_35 : decode cX2_carryOut 35 = .ok (.iload_n 2, 1) := dk_28 (dk_at dksX2_carryOut_1 11 rfl rfl)
theorem dX2_carryOut_36 : decode cX2_carryOut 36 = .ok (.ireturn, 1) := dk_172 (dk_at dksX2_carryOut_1 12 rfl rfl)
abbrev cX2_undo : ByteArray := prog_8_method_82_code
def yX2_undo : MethodName := ⟨RX2, "undo", "()I"⟩
def dkwX2_undo_2 : List UInt8 := [96, 46, 79, 132, 1, 1, 167, 255, 225, 42, 180, 0, 43, 172]
abbrev dktX2_undo_2 : List UInt8 := dkwX2_undo_2 ++ []
def dkwX2_undo_1 : List UInt8 := [17, 1, 68, 162, 0, 30, 42, 180, 0, 7, 27, 42, 180, 0, 16, 17, 1, 68, 42, 180, 0, 43, 104, 27]
abbrev dktX2_undo_1 : List UInt8 := dkwX2_undo_1 ++ dktX2_undo_2
def dkwX2_undo_0 : List UInt8 := [42, 180, 0, 43, 154, 0, 6, 16, 251, 172, 42, 89, 180, 0, 43, 4, 100, 181, 0, 43, 3, 60, 27]
abbrev dktX2_undo_0 : List UInt8 := dkwX2_undo_0 ++ dktX2_undo_1
theorem dksX2_undo_0 : cX2_undo.data.toList.drop 0 = dktX2_undo_0 := by decide +kernel
theorem dksX2_undo_1 : cX2_undo.data.toList.drop 23 = dktX2_undo_1 := dk_seg dksX2_undo_0 23 rfl rfl
theorem dksX2_undo_2 : cX2_undo.data.toList.drop 47 = dktX2_undo_2 := dk_seg dksX2_undo_1 24 rfl rfl
theorem dX2_undo_0 : decode cX2_undo 0 = .ok (.aload_n 0, 1) := dk_42 (dk_at dksX2_undo_0 0 rfl rfl)
theorem dX2_undo_1 : decode cX2_undo 1 = .ok (.getfield 43, 3) := dk_180 0 43 (dk_at dksX2_undo_0 1 rfl rfl)
theorem dX2_undo_4 : decode cX2_undo 4 = .ok (.ifCond .ne 6, 3) := dk_154 0 6 (dk_at dksX2_undo_0 4 rfl rfl)
theorem dX2_undo_7 : decode cX2_undo 7 = .ok (.bipush (-5), 2) := dk_16 251 (dk_at dksX2_undo_0 7 rfl rfl)
theorem dX2_undo_9 : decode cX2_undo 9 = .ok (.ireturn, 1) := dk_172 (dk_at dksX2_undo_0 9 rfl rfl)
theorem dX2_undo_10 : decode cX2_undo 10 = .ok (.aload_n 0, 1) := dk_42 (dk_at dksX2_undo_0 10 rfl rfl)
theorem dX2_undo_11 : decode cX2_undo 11 = .ok (.dup, 1) := dk_89 (dk_at dksX2_undo_0 11 rfl rfl)
theorem dX2_undo_12 : decode cX2_undo 12 = .ok (.getfield 43, 3) := dk_180 0 43 (dk_at dksX2_undo_0 12 rfl rfl)
theorem dX2_undo_15 : decode cX2_undo 15 = .ok (.iconst 1, 1) := dk_4 (dk_at dksX2_undo_0 15 rfl rfl)
theorem dX2_undo_16 : decode cX2_undo 16 = .ok (.isub, 1) := dk_100 (dk_at dksX2_undo_0 16 rfl rfl)
theorem dX2_undo_17 : decode cX2_undo 17 = .ok (.putfield 43, 3) := dk_181 0 43 (dk_at dksX2_undo_0 17 rfl rfl)
theorem dX2_undo_20 : decode cX2_undo 20 = .ok (.iconst 0, 1) := dk_3 (dk_at dksX2_undo_0 20 rfl rfl)
theorem dX2_undo_21 : decode cX2_undo 21 = .ok (.istore_n 1, 1) := dk_60 (dk_at dksX2_undo_0 21 rfl rfl)
theorem dX2_undo_22 : decode cX2_undo 22 = .ok (.iload_n 1, 1) := dk_27 (dk_at dksX2_undo_0 22 rfl rfl)
theorem dX2_undo_23 : decode cX2_undo 23 = .ok (.sipush 324, 3) := dk_17 1 68 (dk_at dksX2_undo_1 0 rfl rfl)
theorem dX2_undo_26 : decode cX2_undo 26 = .ok (.if_icmp .ge 30, 3) := dk_162 0 30 (dk_at dksX2_undo_1 3 rfl rfl)
theorem dX2_undo_29 : decode cX2_undo 29 = .ok (.aload_n 0, 1) := dk_42 (dk_at dksX2_undo_1 6 rfl rfl)
theorem dX2_undo_30 : decode cX2_undo 30 = .ok (.getfield 7, 3) := dk_180 0 7 (dk_at dksX2_undo_1 7 rfl rfl)
theorem dX2_undo_33 : decode cX2_undo 33 = .ok (.iload_n 1, 1) := dk_27 (dk_at dksX2_undo_1 10 rfl rfl)
theorem dX2_undo_34 : decode cX2_undo 34 = .ok (.aload_n 0, 1) := dk_42 (dk_at dksX2_undo_1 11 rfl rfl)
theorem dX2_undo_35 : decode cX2_undo 35 = .ok (.getfield 16, 3) := dk_180 0 16 (dk_at dksX2_undo_1 12 rfl rfl)
theorem dX2_undo_38 : decode cX2_undo 38 = .ok (.sipush 324, 3) := dk_17 1 68 (dk_at dksX2_undo_1 15 rfl rfl)
theorem dX2_undo_41 : decode cX2_undo 41 = .ok (.aload_n 0, 1) := dk_42 (dk_at dksX2_undo_1 18 rfl rfl)
theorem dX2_undo_42 : decode cX2_undo 42 = .ok (.getfield 43, 3) := dk_180 0 43 (dk_at dksX2_undo_1 19 rfl rfl)
theorem dX2_undo_45 : decode cX2_undo 45 = .ok (.imul, 1) := dk_104 (dk_at dksX2_undo_1 22 rfl rfl)
theorem dX2_undo_46 : decode cX2_undo 46 = .ok (.iload_n 1, 1) := dk_27 (dk_at dksX2_undo_1 23 rfl rfl)
theorem dX2_undo_47 : decode cX2_undo 47 = .ok (.iadd, 1) := dk_96 (dk_at dksX2_undo_2 0 rfl rfl)
theorem dX2_undo_48 : decode cX2_undo 48 = .ok (.iaload, 1) := dk_46 (dk_at dksX2_undo_2 1 rfl rfl)
theorem dX2_undo_49 : decode cX2_undo 49 = .ok (.iastore, 1) := dk_79 (dk_at dksX2_undo_2 2 rfl rfl)
theorem dX2_undo_50 : decode cX2_undo 50 = .ok (.iinc 1 1, 3) := dk_132 1 1 (dk_at dksX2_undo_2 3 rfl rfl)
theorem dX2_undo_53 : decode cX2_undo 53 = .ok (.goto (-31), 3) := dk_167 255 225 (dk_at dksX2_undo_2 6 rfl rfl)
theorem dX2_undo_56 : decode cX2_undo 56 = .ok (.aload_n 0, 1) := dk_42 (dk_at dksX2_undo_2 9 rfl rfl)
theorem dX2_undo_57 : decode cX2_undo 57 = .ok (.getfield 43, 3) := dk_180 0 43 (dk_at dksX2_undo_2 10 rfl rfl)
theorem dX2_undo_60 : decode cX2_undo 60 = .ok (.ireturn, 1) := dk_172 (dk_at dksX2_undo_2 13 rfl rfl)
abbrev cX2_save : ByteArray := prog_8_method_83_code
def yX2_save : MethodName := ⟨RX2, "save", "(I)I"⟩
def dkwX2_save_2 : List UInt8 := [180, 0, 22, 27, 4, 84, 42, 180, 0, 7, 8, 46, 172]
abbrev dktX2_save_2 : List UInt8 := dkwX2_save_2 ++ []
def dkwX2_save_1 : List UInt8 := [180, 0, 19, 17, 1, 68, 27, 104, 28, 96, 42, 180, 0, 7, 28, 46, 79, 132, 2, 1, 167, 255, 228, 42]
abbrev dktX2_save_1 : List UInt8 := dkwX2_save_1 ++ dktX2_save_2
def dkwX2_save_0 : List UInt8 := [27, 3, 4, 184, 0, 39, 154, 0, 6, 16, 254, 172, 3, 61, 28, 17, 1, 68, 162, 0, 27, 42]
abbrev dktX2_save_0 : List UInt8 := dkwX2_save_0 ++ dktX2_save_1
theorem dksX2_save_0 : cX2_save.data.toList.drop 0 = dktX2_save_0 := by decide +kernel
theorem dksX2_save_1 : cX2_save.data.toList.drop 22 = dktX2_save_1 := dk_seg dksX2_save_0 22 rfl rfl
theorem dksX2_save_2 : cX2_save.data.toList.drop 46 = dktX2_save_2 := dk_seg dksX2_save_1 24 rfl rfl
theorem dX2_save_0 : decode cX2_save 0 = .ok (.iload_n 1, 1) := dk_27 (dk_at dksX2_save_0 0 rfl rfl)
theorem dX2_save_1 : decode cX2_save 1 = .ok (.iconst 0, 1) := dk_3 (dk_at dksX2_save_0 1 rfl rfl)
theorem dX2_save_2 : decode cX2_save 2 = .ok (.iconst 1, 1) := dk_4 (dk_at dksX2_save_0 2 rfl rfl)
theorem dX2_save_3 : decode cX2_save 3 = .ok (.invokestatic 39, 3) := dk_184 0 39 (dk_at dksX2_save_0 3 rfl rfl)
theorem dX2_save_6 : decode cX2_save 6 = .ok (.ifCond .ne 6, 3) := dk_154 0 6 (dk_at dksX2_save_0 6 rfl rfl)
theorem dX2_save_9 : decode cX2_save 9 = .ok (.bipush (-2), 2) := dk_16 254 (dk_at dksX2_save_0 9 rfl rfl)
theorem dX2_save_11 : decode cX2_save 11 = .ok (.ireturn, 1) := dk_172 (dk_at dksX2_save_0 11 rfl rfl)
theorem dX2_save_12 : decode cX2_save 12 = .ok (.iconst 0, 1) := dk_3 (dk_at dksX2_save_0 12 rfl rfl)
theorem dX2_save_13 : decode cX2_save 13 = .ok (.istore_n 2, 1) := dk_61 (dk_at dksX2_save_0 13 rfl rfl)
theorem dX2_save_14 : decode cX2_save 14 = .ok (.iload_n 2, 1) := dk_28 (dk_at dksX2_save_0 14 rfl rfl)
theorem dX2_save_15 : decode cX2_save 15 = .ok (.sipush 324, 3) := dk_17 1 68 (dk_at dksX2_save_0 15 rfl rfl)
theorem dX2_save_18 : decode cX2_save 18 = .ok (.if_icmp .ge 27, 3) := dk_162 0 27 (dk_at dksX2_save_0 18 rfl rfl)
theorem dX2_save_21 : decode cX2_save 21 = .ok (.aload_n 0, 1) := dk_42 (dk_at dksX2_save_0 21 rfl rfl)
theorem dX2_save_22 : decode cX2_save 22 = .ok (.getfield 19, 3) := dk_180 0 19 (dk_at dksX2_save_1 0 rfl rfl)
theorem dX2_save_25 : decode cX2_save 25 = .ok (.sipush 324, 3) := dk_17 1 68 (dk_at dksX2_save_1 3 rfl rfl)
theorem dX2_save_28 : decode cX2_save 28 = .ok (.iload_n 1, 1) := dk_27 (dk_at dksX2_save_1 6 rfl rfl)
theorem dX2_save_29 : decode cX2_save 29 = .ok (.imul, 1) := dk_104 (dk_at dksX2_save_1 7 rfl rfl)
theorem dX2_save_30 : decode cX2_save 30 = .ok (.iload_n 2, 1) := dk_28 (dk_at dksX2_save_1 8 rfl rfl)
theorem dX2_save_31 : decode cX2_save 31 = .ok (.iadd, 1) := dk_96 (dk_at dksX2_save_1 9 rfl rfl)
theorem dX2_save_32 : decode cX2_save 32 = .ok (.aload_n 0, 1) := dk_42 (dk_at dksX2_save_1 10 rfl rfl)
theorem dX2_save_33 : decode cX2_save 33 = .ok (.getfield 7, 3) := dk_180 0 7 (dk_at dksX2_save_1 11 rfl rfl)
theorem dX2_save_36 : decode cX2_save 36 = .ok (.iload_n 2, 1) := dk_28 (dk_at dksX2_save_1 14 rfl rfl)
theorem dX2_save_37 : decode cX2_save 37 = .ok (.iaload, 1) := dk_46 (dk_at dksX2_save_1 15 rfl rfl)
theorem dX2_save_38 : decode cX2_save 38 = .ok (.iastore, 1) := dk_79 (dk_at dksX2_save_1 16 rfl rfl)
theorem dX2_save_39 : decode cX2_save 39 = .ok (.iinc 2 1, 3) := dk_132 2 1 (dk_at dksX2_save_1 17 rfl rfl)
theorem dX2_save_42 : decode cX2_save 42 = .ok (.goto (-28), 3) := dk_167 255 228 (dk_at dksX2_save_1 20 rfl rfl)
theorem dX2_save_45 : decode cX2_save 45 = .ok (.aload_n 0, 1) := dk_42 (dk_at dksX2_save_1 23 rfl rfl)
theorem dX2_save_46 : decode cX2_save 46 = .ok (.getfield 22, 3) := dk_180 0 22 (dk_at dksX2_save_2 0 rfl rfl)
theorem dX2_save_49 : decode cX2_save 49 = .ok (.iload_n 1, 1) := dk_27 (dk_at dksX2_save_2 3 rfl rfl)
theorem dX2_save_50 : decode cX2_save 50 = .ok (.iconst 1, 1) := dk_4 (dk_at dksX2_save_2 4 rfl rfl)
theorem dX2_save_51 : decode cX2_save 51 = .ok (.bastore, 1) := dk_84 (dk_at dksX2_save_2 5 rfl rfl)
theorem dX2_save_52 : decode cX2_save 52 = .ok (.aload_n 0, 1) := dk_42 (dk_at dksX2_save_2 6 rfl rfl)
theorem dX2_save_53 : decode cX2_save 53 = .ok (.getfield 7, 3) := dk_180 0 7 (dk_at dksX2_save_2 7 rfl rfl)
theorem dX2_save_56 : decode cX2_save 56 = .ok (.iconst 5, 1) := dk_8 (dk_at dksX2_save_2 10 rfl rfl)
theorem dX2_save_57 : decode cX2_save 57 = .ok (.iaload, 1) := dk_46 (dk_at dksX2_save_2 11 rfl rfl)
theorem dX2_save_58 : decode cX2_save 58 = .ok (.ireturn, 1) := dk_172 (dk_at dksX2_save_2 12 rfl rfl)
abbrev cX2_restore : ByteArray := prog_8_method_84_code
def yX2_restore : MethodName := ⟨RX2, "restore", "(I)I"⟩
def dkwX2_restore_3 : List UInt8 := [172]
abbrev dktX2_restore_3 : List UInt8 := dkwX2_restore_3 ++ []
def dkwX2_restore_2 : List UInt8 := [180, 0, 19, 17, 1, 68, 27, 104, 28, 96, 46, 79, 132, 2, 1, 167, 255, 228, 42, 180, 0, 7, 8, 46]
abbrev dktX2_restore_2 : List UInt8 := dkwX2_restore_2 ++ dktX2_restore_3
def dkwX2_restore_1 : List UInt8 := [42, 182, 0, 156, 42, 182, 0, 163, 3, 61, 28, 17, 1, 68, 162, 0, 27, 42, 180, 0, 7, 28, 42]
abbrev dktX2_restore_1 : List UInt8 := dkwX2_restore_1 ++ dktX2_restore_2
def dkwX2_restore_0 : List UInt8 := [27, 3, 4, 184, 0, 39, 154, 0, 6, 16, 254, 172, 42, 180, 0, 22, 27, 51, 154, 0, 6, 16, 251, 172]
abbrev dktX2_restore_0 : List UInt8 := dkwX2_restore_0 ++ dktX2_restore_1
theorem dksX2_restore_0 : cX2_restore.data.toList.drop 0 = dktX2_restore_0 := by decide +kernel
theorem dksX2_restore_1 : cX2_restore.data.toList.drop 24 = dktX2_restore_1 := dk_seg dksX2_restore_0 24 rfl rfl
theorem dksX2_restore_2 : cX2_restore.data.toList.drop 47 = dktX2_restore_2 := dk_seg dksX2_restore_1 23 rfl rfl
theorem dksX2_restore_3 : cX2_restore.data.toList.drop 71 = dktX2_restore_3 := dk_seg dksX2_restore_2 24 rfl rfl
theorem dX2_restore_0 : decode cX2_restore 0 = .ok (.iload_n 1, 1) := dk_27 (dk_at dksX2_restore_0 0 rfl rfl)
theorem dX2_restore_1 : decode cX2_restore 1 = .ok (.iconst 0, 1) := dk_3 (dk_at dksX2_restore_0 1 rfl rfl)
theorem dX2_restore_2 : decode cX2_restore 2 = .ok (.iconst 1, 1) := dk_4 (dk_at dksX2_restore_0 2 rfl rfl)
theorem dX2_restore_3 : decode cX2_restore 3 = .ok (.invokestatic 39, 3) := dk_184 0 39 (dk_at dksX2_restore_0 3 rfl rfl)
theorem dX2_restore_6 : decode cX2_restore 6 = .ok (.ifCond .ne 6, 3) := dk_154 0 6 (dk_at dksX2_restore_0 6 rfl rfl)
theorem dX2_restore_9 : decode cX2_restore 9 = .ok (.bipush (-2), 2) := dk_16 254 (dk_at dksX2_restore_0 9 rfl rfl)
theorem dX2_restore_11 : decode cX2_restore 11 = .ok (.ireturn, 1) := dk_172 (dk_at dksX2_restore_0 11 rfl rfl)
theorem dX2_restore_12 : decode cX2_restore 12 = .ok (.aload_n 0, 1) := dk_42 (dk_at dksX2_restore_0 12 rfl rfl)
theorem dX2_restore_13 : decode cX2_restore 13 = .ok (.getfield 22, 3) := dk_180 0 22 (dk_at dksX2_restore_0 13 rfl rfl)
theorem dX2_restore_16 : decode cX2_restore 16 = .ok (.iload_n 1, 1) := dk_27 (dk_at dksX2_restore_0 16 rfl rfl)
theorem dX2_restore_17 : decode cX2_restore 17 = .ok (.baload, 1) := dk_51 (dk_at dksX2_restore_0 17 rfl rfl)
theorem dX2_restore_18 : decode cX2_restore 18 = .ok (.ifCond .ne 6, 3) := dk_154 0 6 (dk_at dksX2_restore_0 18 rfl rfl)
theorem dX2_restore_21 : decode cX2_restore 21 = .ok (.bipush (-5), 2) := dk_16 251 (dk_at dksX2_restore_0 21 rfl rfl)
theorem dX2_restore_23 : decode cX2_restore 23 = .ok (.ireturn, 1) := dk_172 (dk_at dksX2_restore_0 23 rfl rfl)
theorem dX2_restore_24 : decode cX2_restore 24 = .ok (.aload_n 0, 1) := dk_42 (dk_at dksX2_restore_1 0 rfl rfl)
theorem dX2_restore_25 : decode cX2_restore 25 = .ok (.invokevirtual 156, 3) := dk_182 0 156 (dk_at dksX2_restore_1 1 rfl rfl)
theorem dX2_restore_28 : decode cX2_restore 28 = .ok (.aload_n 0, 1) := dk_42 (dk_at dksX2_restore_1 4 rfl rfl)
theorem dX2_restore_29 : decode cX2_restore 29 = .ok (.invokevirtual 163, 3) := dk_182 0 163 (dk_at dksX2_restore_1 5 rfl rfl)
theorem dX2_restore_32 : decode cX2_restore 32 = .ok (.iconst 0, 1) := dk_3 (dk_at dksX2_restore_1 8 rfl rfl)
theorem dX2_restore_33 : decode cX2_restore 33 = .ok (.istore_n 2, 1) := dk_61 (dk_at dksX2_restore_1 9 rfl rfl)
theorem dX2_restore_34 : decode cX2_restore 34 = .ok (.iload_n 2, 1) := dk_28 (dk_at dksX2_restore_1 10 rfl rfl)
theorem dX2_restore_35 : decode cX2_restore 35 = .ok (.sipush 324, 3) := dk_17 1 68 (dk_at dksX2_restore_1 11 rfl rfl)
theorem dX2_restore_38 : decode cX2_restore 38 = .ok (.if_icmp .ge 27, 3) := dk_162 0 27 (dk_at dksX2_restore_1 14 rfl rfl)
theorem dX2_restore_41 : decode cX2_restore 41 = .ok (.aload_n 0, 1) := dk_42 (dk_at dksX2_restore_1 17 rfl rfl)
theorem dX2_restore_42 : decode cX2_restore 42 = .ok (.getfield 7, 3) := dk_180 0 7 (dk_at dksX2_restore_1 18 rfl rfl)
theorem dX2_restore_45 : decode cX2_restore 45 = .ok (.iload_n 2, 1) := dk_28 (dk_at dksX2_restore_1 21 rfl rfl)
theorem dX2_restore_46 : decode cX2_restore 46 = .ok (.aload_n 0, 1) := dk_42 (dk_at dksX2_restore_1 22 rfl rfl)
theorem dX2_restore_47 : decode cX2_restore 47 = .ok (.getfield 19, 3) := dk_180 0 19 (dk_at dksX2_restore_2 0 rfl rfl)
theorem dX2_restore_50 : decode cX2_restore 50 = .ok (.sipush 324, 3) := dk_17 1 68 (dk_at dksX2_restore_2 3 rfl rfl)
theorem dX2_restore_53 : decode cX2_restore 53 = .ok (.iload_n 1, 1) := dk_27 (dk_at dksX2_restore_2 6 rfl rfl)
theorem dX2_restore_54 : decode cX2_restore 54 = .ok (.imul, 1) := dk_104 (dk_at dksX2_restore_2 7 rfl rfl)
theorem dX2_restore_55 : decode cX2_restore 55 = .ok (.iload_n 2, 1) := dk_28 (dk_at dksX2_restore_2 8 rfl rfl)
theorem dX2_restore_56 : decode cX2_restore 56 = .ok (.iadd, 1) := dk_96 (dk_at dksX2_restore_2 9 rfl rfl)
theorem dX2_restore_57 : decode cX2_restore 57 = .ok (.iaload, 1) := dk_46 (dk_at dksX2_restore_2 10 rfl rfl)
theorem dX2_restore_58 : decode cX2_restore 58 = .ok (.iastore, 1) := dk_79 (dk_at dksX2_restore_2 11 rfl rfl)
theorem dX2_restore_59 : decode cX2_restore 59 = .ok (.iinc 2 1, 3) := dk_132 2 1 (dk_at dksX2_restore_2 12 rfl rfl)
theorem dX2_restore_62 : decode cX2_restore 62 = .ok (.goto (-28), 3) := dk_167 255 228 (dk_at dksX2_restore_2 15 rfl rfl)
theorem dX2_restore_65 : decode cX2_restore 65 = .ok (.aload_n 0, 1) := dk_42 (dk_at dksX2_restore_2 18 rfl rfl)
theorem dX2_restore_66 : decode cX2_restore 66 = .ok (.getfield 7, 3) := dk_180 0 7 (dk_at dksX2_restore_2 19 rfl rfl)
theorem dX2_restore_69 : decode cX2_restore 69 = .ok (.iconst 5, 1) := dk_8 (dk_at dksX2_restore_2 22 rfl rfl)
theorem dX2_restore_70 : decode cX2_restore 70 = .ok (.iaload, 1) := dk_46 (dk_at dksX2_restore_2 23 rfl rfl)
theorem dX2_restore_71 : decode cX2_restore 71 = .ok (.ireturn, 1) := dk_172 (dk_at dksX2_restore_3 0 rfl rfl)
theorem q98 : (Jvm.Cond.initialized "QuarryOrdersModel") ∈ lw_all := lw_g (lw_at lw_m1 10 rfl) rfl
theorem q480 : (Jvm.Cond.selects "QuarryOrdersModel" ({ cls := "java/lang/Object", name := "getClass", desc := "()Ljava/lang/Class;" } : Jvm.MethodName) ({ cls := "java/lang/Object", name := "getClass", desc := "()Ljava/lang/Class;" } : Jvm.MethodName)) ∈ lw_all := lw_g (lw_at lw_m2 152 rfl) rfl
theorem q1222 : (Jvm.Cond.instantiable "QuarryOrdersModel" (12 : Nat)) ∈ lw_all := lw_g (lw_at lw_m5 174 rfl) rfl
theorem q1224 : (Jvm.Cond.instanceMethod ({ cls := "QuarryOrdersModel", name := "<init>", desc := "()V" } : Jvm.MethodName)) ∈ lw_all := lw_g (lw_at lw_m5 176 rfl) rfl
theorem q1225 : (Jvm.Cond.code ({ cls := "QuarryOrdersModel", name := "<init>", desc := "()V" } : Jvm.MethodName) prog_8_method_1_code (2 : Nat) (Option.none : Option Jvm.ClassFile.FieldType)) ∈ lw_all := lw_g (lw_at lw_m5 177 rfl) rfl
theorem q1226 : (Jvm.Cond.methodLink "QuarryOrdersModel" (1 : Nat) ({ cls := "java/lang/Object", name := "<init>", desc := "()V" } : Jvm.MethodName)) ∈ lw_all := lw_g (lw_at lw_m5 178 rfl) rfl
theorem q1227 : (Jvm.Cond.methodLink "QuarryOrdersModel" (35 : Nat) ({ cls := "QuarryOrdersModel", name := "ofLorryAt", desc := "(II)I" } : Jvm.MethodName)) ∈ lw_all := lw_g (lw_at lw_m5 179 rfl) rfl
theorem q1228 : (Jvm.Cond.static ({ cls := "QuarryOrdersModel", name := "ofLorryAt", desc := "(II)I" } : Jvm.MethodName)) ∈ lw_all := lw_g (lw_at lw_m5 180 rfl) rfl
theorem q1229 : (Jvm.Cond.code ({ cls := "QuarryOrdersModel", name := "ofLorryAt", desc := "(II)I" } : Jvm.MethodName) prog_8_method_9_code (2 : Nat) (Option.some Jvm.ClassFile.FieldType.int)) ∈ lw_all := lw_g (lw_at lw_m5 181 rfl) rfl
theorem q1230 : (Jvm.Cond.fieldLink "QuarryOrdersModel" (7 : Nat) "QuarryOrdersModel" "s" "[I") ∈ lw_all := lw_g (lw_at lw_m5 182 rfl) rfl
theorem q1231 : (Jvm.Cond.fieldLink "QuarryOrdersModel" (13 : Nat) "QuarryOrdersModel" "ahead" "[I") ∈ lw_all := lw_g (lw_at lw_m5 183 rfl) rfl
theorem q1232 : (Jvm.Cond.fieldLink "QuarryOrdersModel" (16 : Nat) "QuarryOrdersModel" "history" "[I") ∈ lw_all := lw_g (lw_at lw_m5 184 rfl) rfl
theorem q1233 : (Jvm.Cond.fieldLink "QuarryOrdersModel" (43 : Nat) "QuarryOrdersModel" "kept" "I") ∈ lw_all := lw_g (lw_at lw_m5 185 rfl) rfl
theorem q1234 : (Jvm.Cond.fieldLink "QuarryOrdersModel" (19 : Nat) "QuarryOrdersModel" "slots" "[I") ∈ lw_all := lw_g (lw_at lw_m5 186 rfl) rfl
theorem q1235 : (Jvm.Cond.fieldLink "QuarryOrdersModel" (22 : Nat) "QuarryOrdersModel" "isSaved" "[Z") ∈ lw_all := lw_g (lw_at lw_m5 187 rfl) rfl
theorem q1236 : (Jvm.Cond.fieldLink "QuarryOrdersModel" (26 : Nat) "QuarryOrdersModel" "pad" "[I") ∈ lw_all := lw_g (lw_at lw_m5 188 rfl) rfl
theorem q1237 : (Jvm.Cond.fieldLink "QuarryOrdersModel" (189 : Nat) "QuarryOrdersModel" "length" "I") ∈ lw_all := lw_g (lw_at lw_m5 189 rfl) rfl
theorem q1238 : (Jvm.Cond.fieldLink "QuarryOrdersModel" (29 : Nat) "QuarryOrdersModel" "sorted" "[I") ∈ lw_all := lw_g (lw_at lw_m5 190 rfl) rfl
theorem q1239 : (Jvm.Cond.fieldLink "QuarryOrdersModel" (220 : Nat) "QuarryOrdersModel" "position" "I") ∈ lw_all := lw_g (lw_at lw_m5 191 rfl) rfl
theorem q1240 : (Jvm.Cond.fieldLink "QuarryOrdersModel" (216 : Nat) "QuarryOrdersModel" "isWrong" "Z") ∈ lw_all := lw_g (lw_at lw_m5 192 rfl) rfl
theorem q1241 : (Jvm.Cond.fieldLink "QuarryOrdersModel" (32 : Nat) "QuarryOrdersModel" "told" "[I") ∈ lw_all := lw_g (lw_at lw_m5 193 rfl) rfl
theorem q1242 : (Jvm.Cond.laysFinal "QuarryOrdersModel" "QuarryOrdersModel" "s" "[I") ∈ lw_all := lw_g (lw_at lw_m5 194 rfl) rfl
theorem q1243 : (Jvm.Cond.soleField "QuarryOrdersModel" "s") ∈ lw_all := lw_g (lw_at lw_m5 195 rfl) rfl
theorem q1244 : (Jvm.Cond.laysFinal "QuarryOrdersModel" "QuarryOrdersModel" "ahead" "[I") ∈ lw_all := lw_g (lw_at lw_m5 196 rfl) rfl
theorem q1245 : (Jvm.Cond.soleField "QuarryOrdersModel" "ahead") ∈ lw_all := lw_g (lw_at lw_m5 197 rfl) rfl
theorem q1246 : (Jvm.Cond.laysFinal "QuarryOrdersModel" "QuarryOrdersModel" "history" "[I") ∈ lw_all := lw_g (lw_at lw_m5 198 rfl) rfl
theorem q1247 : (Jvm.Cond.soleField "QuarryOrdersModel" "history") ∈ lw_all := lw_g (lw_at lw_m5 199 rfl) rfl
theorem q1248 : (Jvm.Cond.lays "QuarryOrdersModel" "QuarryOrdersModel" "kept" "I") ∈ lw_all := lw_g (lw_at lw_m5 200 rfl) rfl
theorem q1249 : (Jvm.Cond.soleField "QuarryOrdersModel" "kept") ∈ lw_all := lw_g (lw_at lw_m5 201 rfl) rfl
theorem q1250 : (Jvm.Cond.laysFinal "QuarryOrdersModel" "QuarryOrdersModel" "slots" "[I") ∈ lw_all := lw_g (lw_at lw_m5 202 rfl) rfl
theorem q1251 : (Jvm.Cond.soleField "QuarryOrdersModel" "slots") ∈ lw_all := lw_g (lw_at lw_m5 203 rfl) rfl
theorem q1252 : (Jvm.Cond.laysFinal "QuarryOrdersModel" "QuarryOrdersModel" "isSaved" "[Z") ∈ lw_all := lw_g (lw_at lw_m5 204 rfl) rfl
theorem q1253 : (Jvm.Cond.soleField "QuarryOrdersModel" "isSaved") ∈ lw_all := lw_g (lw_at lw_m5 205 rfl) rfl
theorem q1254 : (Jvm.Cond.laysFinal "QuarryOrdersModel" "QuarryOrdersModel" "pad" "[I") ∈ lw_all := lw_g (lw_at lw_m5 206 rfl) rfl
theorem q1255 : (Jvm.Cond.soleField "QuarryOrdersModel" "pad") ∈ lw_all := lw_g (lw_at lw_m5 207 rfl) rfl
theorem q1256 : (Jvm.Cond.lays "QuarryOrdersModel" "QuarryOrdersModel" "length" "I") ∈ lw_all := lw_g (lw_at lw_m5 208 rfl) rfl
theorem q1257 : (Jvm.Cond.soleField "QuarryOrdersModel" "length") ∈ lw_all := lw_g (lw_at lw_m5 209 rfl) rfl
theorem q1258 : (Jvm.Cond.laysFinal "QuarryOrdersModel" "QuarryOrdersModel" "sorted" "[I") ∈ lw_all := lw_g (lw_at lw_m5 210 rfl) rfl
theorem q1259 : (Jvm.Cond.soleField "QuarryOrdersModel" "sorted") ∈ lw_all := lw_g (lw_at lw_m5 211 rfl) rfl
theorem q1260 : (Jvm.Cond.lays "QuarryOrdersModel" "QuarryOrdersModel" "position" "I") ∈ lw_all := lw_g (lw_at lw_m5 212 rfl) rfl
theorem q1261 : (Jvm.Cond.soleField "QuarryOrdersModel" "position") ∈ lw_all := lw_g (lw_at lw_m5 213 rfl) rfl
theorem q1262 : (Jvm.Cond.lays "QuarryOrdersModel" "QuarryOrdersModel" "isWrong" "Z") ∈ lw_all := lw_g (lw_at lw_m5 214 rfl) rfl
theorem q1263 : (Jvm.Cond.soleField "QuarryOrdersModel" "isWrong") ∈ lw_all := lw_g (lw_at lw_m5 215 rfl) rfl
theorem q1264 : (Jvm.Cond.laysFinal "QuarryOrdersModel" "QuarryOrdersModel" "told" "[I") ∈ lw_all := lw_g (lw_at lw_m5 216 rfl) rfl
theorem q1265 : (Jvm.Cond.soleField "QuarryOrdersModel" "told") ∈ lw_all := lw_g (lw_at lw_m5 217 rfl) rfl
theorem q1266 : (Jvm.Cond.superclass "QuarryOrdersModel" "java/lang/Object") ∈ lw_all := lw_g (lw_at lw_m5 218 rfl) rfl
theorem q1269 : (Jvm.Cond.instanceMethod ({ cls := "QuarryOrdersModel", name := "set", desc := "(II)I" } : Jvm.MethodName)) ∈ lw_all := lw_g (lw_at lw_m5 221 rfl) rfl
theorem q1270 : (Jvm.Cond.selects "QuarryOrdersModel" ({ cls := "QuarryOrdersModel", name := "set", desc := "(II)I" } : Jvm.MethodName) ({ cls := "QuarryOrdersModel", name := "set", desc := "(II)I" } : Jvm.MethodName)) ∈ lw_all := lw_g (lw_at lw_m5 222 rfl) rfl
theorem q1271 : (Jvm.Cond.code ({ cls := "QuarryOrdersModel", name := "set", desc := "(II)I" } : Jvm.MethodName) prog_8_method_43_code (4 : Nat) (Option.some Jvm.ClassFile.FieldType.int)) ∈ lw_all := lw_g (lw_at lw_m5 223 rfl) rfl
theorem q1272 : (Jvm.Cond.methodLink "QuarryOrdersModel" (39 : Nat) ({ cls := "QuarryOrdersModel", name := "in", desc := "(III)Z" } : Jvm.MethodName)) ∈ lw_all := lw_g (lw_at lw_m5 224 rfl) rfl
theorem q1273 : (Jvm.Cond.static ({ cls := "QuarryOrdersModel", name := "in", desc := "(III)Z" } : Jvm.MethodName)) ∈ lw_all := lw_g (lw_at lw_m5 225 rfl) rfl
theorem q1274 : (Jvm.Cond.code ({ cls := "QuarryOrdersModel", name := "in", desc := "(III)Z" } : Jvm.MethodName) prog_8_method_3_code (3 : Nat) (Option.some Jvm.ClassFile.FieldType.boolean)) ∈ lw_all := lw_g (lw_at lw_m5 226 rfl) rfl
theorem q1275 : (Jvm.Cond.methodLink "QuarryOrdersModel" (166 : Nat) ({ cls := "QuarryOrdersModel", name := "lays", desc := "(II)I" } : Jvm.MethodName)) ∈ lw_all := lw_g (lw_at lw_m5 227 rfl) rfl
theorem q1276 : (Jvm.Cond.privateMethod ({ cls := "QuarryOrdersModel", name := "lays", desc := "(II)I" } : Jvm.MethodName)) ∈ lw_tbl := lw_at lw_m5 228 rfl
theorem q1277 : (Jvm.Cond.instanceMethod ({ cls := "QuarryOrdersModel", name := "lays", desc := "(II)I" } : Jvm.MethodName)) ∈ lw_all := lw_g (lw_at lw_m5 229 rfl) rfl
theorem q1278 : (Jvm.Cond.code ({ cls := "QuarryOrdersModel", name := "lays", desc := "(II)I" } : Jvm.MethodName) prog_8_method_42_code (4 : Nat) (Option.some Jvm.ClassFile.FieldType.int)) ∈ lw_all := lw_g (lw_at lw_m5 230 rfl) rfl
theorem q1279 : (Jvm.Cond.methodLink "QuarryOrdersModel" (156 : Nat) ({ cls := "QuarryOrdersModel", name := "looks", desc := "()V" } : Jvm.MethodName)) ∈ lw_all := lw_g (lw_at lw_m5 231 rfl) rfl
theorem q1280 : (Jvm.Cond.privateMethod ({ cls := "QuarryOrdersModel", name := "looks", desc := "()V" } : Jvm.MethodName)) ∈ lw_tbl := lw_at lw_m5 232 rfl
theorem q1281 : (Jvm.Cond.instanceMethod ({ cls := "QuarryOrdersModel", name := "looks", desc := "()V" } : Jvm.MethodName)) ∈ lw_all := lw_g (lw_at lw_m5 233 rfl) rfl
theorem q1282 : (Jvm.Cond.code ({ cls := "QuarryOrdersModel", name := "looks", desc := "()V" } : Jvm.MethodName) prog_8_method_10_code (2 : Nat) (Option.none : Option Jvm.ClassFile.FieldType)) ∈ lw_all := lw_g (lw_at lw_m5 234 rfl) rfl
theorem q1283 : (Jvm.Cond.methodLink "QuarryOrdersModel" (163 : Nat) ({ cls := "QuarryOrdersModel", name := "records", desc := "()V" } : Jvm.MethodName)) ∈ lw_all := lw_g (lw_at lw_m5 235 rfl) rfl
theorem q1284 : (Jvm.Cond.privateMethod ({ cls := "QuarryOrdersModel", name := "records", desc := "()V" } : Jvm.MethodName)) ∈ lw_tbl := lw_at lw_m5 236 rfl
theorem q1285 : (Jvm.Cond.instanceMethod ({ cls := "QuarryOrdersModel", name := "records", desc := "()V" } : Jvm.MethodName)) ∈ lw_all := lw_g (lw_at lw_m5 237 rfl) rfl
theorem q1286 : (Jvm.Cond.code ({ cls := "QuarryOrdersModel", name := "records", desc := "()V" } : Jvm.MethodName) prog_8_method_11_code (2 : Nat) (Option.none : Option Jvm.ClassFile.FieldType)) ∈ lw_all := lw_g (lw_at lw_m5 238 rfl) rfl
theorem q1288 : (Jvm.Cond.instanceMethod ({ cls := "QuarryOrdersModel", name := "quarry", desc := "(IIII)I" } : Jvm.MethodName)) ∈ lw_all := lw_g (lw_at lw_m6 0 rfl) rfl
theorem q1289 : (Jvm.Cond.selects "QuarryOrdersModel" ({ cls := "QuarryOrdersModel", name := "quarry", desc := "(IIII)I" } : Jvm.MethodName) ({ cls := "QuarryOrdersModel", name := "quarry", desc := "(IIII)I" } : Jvm.MethodName)) ∈ lw_all := lw_g (lw_at lw_m6 1 rfl) rfl
theorem q1290 : (Jvm.Cond.code ({ cls := "QuarryOrdersModel", name := "quarry", desc := "(IIII)I" } : Jvm.MethodName) prog_8_method_44_code (5 : Nat) (Option.some Jvm.ClassFile.FieldType.int)) ∈ lw_all := lw_g (lw_at lw_m6 2 rfl) rfl
theorem q1291 : (Jvm.Cond.methodLink "QuarryOrdersModel" (169 : Nat) ({ cls := "QuarryOrdersModel", name := "tries", desc := "(IIIII)I" } : Jvm.MethodName)) ∈ lw_all := lw_g (lw_at lw_m6 3 rfl) rfl
theorem q1292 : (Jvm.Cond.privateMethod ({ cls := "QuarryOrdersModel", name := "tries", desc := "(IIIII)I" } : Jvm.MethodName)) ∈ lw_tbl := lw_at lw_m6 4 rfl
theorem q1293 : (Jvm.Cond.instanceMethod ({ cls := "QuarryOrdersModel", name := "tries", desc := "(IIIII)I" } : Jvm.MethodName)) ∈ lw_all := lw_g (lw_at lw_m6 5 rfl) rfl
theorem q1294 : (Jvm.Cond.code ({ cls := "QuarryOrdersModel", name := "tries", desc := "(IIIII)I" } : Jvm.MethodName) prog_8_method_41_code (7 : Nat) (Option.some Jvm.ClassFile.FieldType.int)) ∈ lw_all := lw_g (lw_at lw_m6 6 rfl) rfl
theorem q1295 : (Jvm.Cond.methodLink "QuarryOrdersModel" (159 : Nat) ({ cls := "QuarryOrdersModel", name := "does", desc := "(IIIII)I" } : Jvm.MethodName)) ∈ lw_all := lw_g (lw_at lw_m6 7 rfl) rfl
theorem q1296 : (Jvm.Cond.privateMethod ({ cls := "QuarryOrdersModel", name := "does", desc := "(IIIII)I" } : Jvm.MethodName)) ∈ lw_tbl := lw_at lw_m6 8 rfl
theorem q1297 : (Jvm.Cond.instanceMethod ({ cls := "QuarryOrdersModel", name := "does", desc := "(IIIII)I" } : Jvm.MethodName)) ∈ lw_all := lw_g (lw_at lw_m6 9 rfl) rfl
theorem q1298 : (Jvm.Cond.code ({ cls := "QuarryOrdersModel", name := "does", desc := "(IIIII)I" } : Jvm.MethodName) prog_8_method_40_code (6 : Nat) (Option.some Jvm.ClassFile.FieldType.int)) ∈ lw_all := lw_g (lw_at lw_m6 10 rfl) rfl
theorem q1299 : (Jvm.Cond.methodLink "QuarryOrdersModel" (134 : Nat) ({ cls := "QuarryOrdersModel", name := "quarries", desc := "(IIII)I" } : Jvm.MethodName)) ∈ lw_all := lw_g (lw_at lw_m6 11 rfl) rfl
theorem q1300 : (Jvm.Cond.privateMethod ({ cls := "QuarryOrdersModel", name := "quarries", desc := "(IIII)I" } : Jvm.MethodName)) ∈ lw_tbl := lw_at lw_m6 12 rfl
theorem q1301 : (Jvm.Cond.instanceMethod ({ cls := "QuarryOrdersModel", name := "quarries", desc := "(IIII)I" } : Jvm.MethodName)) ∈ lw_all := lw_g (lw_at lw_m6 13 rfl) rfl
theorem q1302 : (Jvm.Cond.code ({ cls := "QuarryOrdersModel", name := "quarries", desc := "(IIII)I" } : Jvm.MethodName) prog_8_method_31_code (6 : Nat) (Option.some Jvm.ClassFile.FieldType.int)) ∈ lw_all := lw_g (lw_at lw_m6 14 rfl) rfl
theorem q1303 : (Jvm.Cond.methodLink "QuarryOrdersModel" (97 : Nat) ({ cls := "QuarryOrdersModel", name := "isSize", desc := "(I)Z" } : Jvm.MethodName)) ∈ lw_all := lw_g (lw_at lw_m6 15 rfl) rfl
theorem q1304 : (Jvm.Cond.static ({ cls := "QuarryOrdersModel", name := "isSize", desc := "(I)Z" } : Jvm.MethodName)) ∈ lw_all := lw_g (lw_at lw_m6 16 rfl) rfl
theorem q1305 : (Jvm.Cond.code ({ cls := "QuarryOrdersModel", name := "isSize", desc := "(I)Z" } : Jvm.MethodName) prog_8_method_16_code (1 : Nat) (Option.some Jvm.ClassFile.FieldType.boolean)) ∈ lw_all := lw_g (lw_at lw_m6 17 rfl) rfl
theorem q1306 : (Jvm.Cond.methodLink "QuarryOrdersModel" (54 : Nat) ({ cls := "QuarryOrdersModel", name := "newBlock", desc := "(IIII)I" } : Jvm.MethodName)) ∈ lw_all := lw_g (lw_at lw_m6 18 rfl) rfl
theorem q1307 : (Jvm.Cond.privateMethod ({ cls := "QuarryOrdersModel", name := "newBlock", desc := "(IIII)I" } : Jvm.MethodName)) ∈ lw_tbl := lw_at lw_m6 19 rfl
theorem q1308 : (Jvm.Cond.instanceMethod ({ cls := "QuarryOrdersModel", name := "newBlock", desc := "(IIII)I" } : Jvm.MethodName)) ∈ lw_all := lw_g (lw_at lw_m6 20 rfl) rfl
theorem q1309 : (Jvm.Cond.code ({ cls := "QuarryOrdersModel", name := "newBlock", desc := "(IIII)I" } : Jvm.MethodName) prog_8_method_17_code (7 : Nat) (Option.some Jvm.ClassFile.FieldType.int)) ∈ lw_all := lw_g (lw_at lw_m6 21 rfl) rfl
theorem q1310 : (Jvm.Cond.methodLink "QuarryOrdersModel" (47 : Nat) ({ cls := "QuarryOrdersModel", name := "at", desc := "(II)I" } : Jvm.MethodName)) ∈ lw_all := lw_g (lw_at lw_m6 22 rfl) rfl
theorem q1311 : (Jvm.Cond.static ({ cls := "QuarryOrdersModel", name := "at", desc := "(II)I" } : Jvm.MethodName)) ∈ lw_all := lw_g (lw_at lw_m6 23 rfl) rfl
theorem q1312 : (Jvm.Cond.code ({ cls := "QuarryOrdersModel", name := "at", desc := "(II)I" } : Jvm.MethodName) prog_8_method_7_code (2 : Nat) (Option.some Jvm.ClassFile.FieldType.int)) ∈ lw_all := lw_g (lw_at lw_m6 24 rfl) rfl
theorem q1313 : (Jvm.Cond.methodLink "QuarryOrdersModel" (58 : Nat) ({ cls := "QuarryOrdersModel", name := "weight", desc := "(I)I" } : Jvm.MethodName)) ∈ lw_all := lw_g (lw_at lw_m6 25 rfl) rfl
theorem q1314 : (Jvm.Cond.privateMethod ({ cls := "QuarryOrdersModel", name := "weight", desc := "(I)I" } : Jvm.MethodName)) ∈ lw_tbl := lw_at lw_m6 26 rfl
theorem q1315 : (Jvm.Cond.instanceMethod ({ cls := "QuarryOrdersModel", name := "weight", desc := "(I)I" } : Jvm.MethodName)) ∈ lw_all := lw_g (lw_at lw_m6 27 rfl) rfl
theorem q1316 : (Jvm.Cond.code ({ cls := "QuarryOrdersModel", name := "weight", desc := "(I)I" } : Jvm.MethodName) prog_8_method_12_code (2 : Nat) (Option.some Jvm.ClassFile.FieldType.int)) ∈ lw_all := lw_g (lw_at lw_m6 28 rfl) rfl
theorem q1317 : (Jvm.Cond.methodLink "QuarryOrdersModel" (137 : Nat) ({ cls := "QuarryOrdersModel", name := "cuts", desc := "(III)I" } : Jvm.MethodName)) ∈ lw_all := lw_g (lw_at lw_m6 29 rfl) rfl
theorem q1318 : (Jvm.Cond.privateMethod ({ cls := "QuarryOrdersModel", name := "cuts", desc := "(III)I" } : Jvm.MethodName)) ∈ lw_tbl := lw_at lw_m6 30 rfl
theorem q1319 : (Jvm.Cond.instanceMethod ({ cls := "QuarryOrdersModel", name := "cuts", desc := "(III)I" } : Jvm.MethodName)) ∈ lw_all := lw_g (lw_at lw_m6 31 rfl) rfl
theorem q1320 : (Jvm.Cond.code ({ cls := "QuarryOrdersModel", name := "cuts", desc := "(III)I" } : Jvm.MethodName) prog_8_method_33_code (8 : Nat) (Option.some Jvm.ClassFile.FieldType.int)) ∈ lw_all := lw_g (lw_at lw_m6 32 rfl) rfl
theorem q1321 : (Jvm.Cond.methodLink "QuarryOrdersModel" (103 : Nat) ({ cls := "QuarryOrdersModel", name := "isBlock", desc := "(I)Z" } : Jvm.MethodName)) ∈ lw_all := lw_g (lw_at lw_m6 33 rfl) rfl
theorem q1322 : (Jvm.Cond.privateMethod ({ cls := "QuarryOrdersModel", name := "isBlock", desc := "(I)Z" } : Jvm.MethodName)) ∈ lw_tbl := lw_at lw_m6 34 rfl
theorem q1323 : (Jvm.Cond.instanceMethod ({ cls := "QuarryOrdersModel", name := "isBlock", desc := "(I)Z" } : Jvm.MethodName)) ∈ lw_all := lw_g (lw_at lw_m6 35 rfl) rfl
theorem q1324 : (Jvm.Cond.code ({ cls := "QuarryOrdersModel", name := "isBlock", desc := "(I)Z" } : Jvm.MethodName) prog_8_method_4_code (2 : Nat) (Option.some Jvm.ClassFile.FieldType.boolean)) ∈ lw_all := lw_g (lw_at lw_m6 36 rfl) rfl
theorem q1325 : (Jvm.Cond.methodLink "QuarryOrdersModel" (106 : Nat) ({ cls := "QuarryOrdersModel", name := "canBeCut", desc := "(I)Z" } : Jvm.MethodName)) ∈ lw_all := lw_g (lw_at lw_m6 37 rfl) rfl
theorem q1326 : (Jvm.Cond.privateMethod ({ cls := "QuarryOrdersModel", name := "canBeCut", desc := "(I)Z" } : Jvm.MethodName)) ∈ lw_tbl := lw_at lw_m6 38 rfl
theorem q1327 : (Jvm.Cond.instanceMethod ({ cls := "QuarryOrdersModel", name := "canBeCut", desc := "(I)Z" } : Jvm.MethodName)) ∈ lw_all := lw_g (lw_at lw_m6 39 rfl) rfl
theorem q1328 : (Jvm.Cond.code ({ cls := "QuarryOrdersModel", name := "canBeCut", desc := "(I)Z" } : Jvm.MethodName) prog_8_method_32_code (2 : Nat) (Option.some Jvm.ClassFile.FieldType.boolean)) ∈ lw_all := lw_g (lw_at lw_m6 40 rfl) rfl
theorem q1329 : (Jvm.Cond.methodLink "QuarryOrdersModel" (100 : Nat) ({ cls := "QuarryOrdersModel", name := "isHere", desc := "(I)Z" } : Jvm.MethodName)) ∈ lw_all := lw_g (lw_at lw_m6 41 rfl) rfl
theorem q1330 : (Jvm.Cond.privateMethod ({ cls := "QuarryOrdersModel", name := "isHere", desc := "(I)Z" } : Jvm.MethodName)) ∈ lw_tbl := lw_at lw_m6 42 rfl
theorem q1331 : (Jvm.Cond.instanceMethod ({ cls := "QuarryOrdersModel", name := "isHere", desc := "(I)Z" } : Jvm.MethodName)) ∈ lw_all := lw_g (lw_at lw_m6 43 rfl) rfl
theorem q1332 : (Jvm.Cond.code ({ cls := "QuarryOrdersModel", name := "isHere", desc := "(I)Z" } : Jvm.MethodName) prog_8_method_14_code (2 : Nat) (Option.some Jvm.ClassFile.FieldType.boolean)) ∈ lw_all := lw_g (lw_at lw_m6 44 rfl) rfl
theorem q1333 : (Jvm.Cond.methodLink "QuarryOrdersModel" (50 : Nat) ({ cls := "QuarryOrdersModel", name := "isAt", desc := "(II)Z" } : Jvm.MethodName)) ∈ lw_all := lw_g (lw_at lw_m6 45 rfl) rfl
theorem q1334 : (Jvm.Cond.privateMethod ({ cls := "QuarryOrdersModel", name := "isAt", desc := "(II)Z" } : Jvm.MethodName)) ∈ lw_tbl := lw_at lw_m6 46 rfl
theorem q1335 : (Jvm.Cond.instanceMethod ({ cls := "QuarryOrdersModel", name := "isAt", desc := "(II)Z" } : Jvm.MethodName)) ∈ lw_all := lw_g (lw_at lw_m6 47 rfl) rfl
theorem q1336 : (Jvm.Cond.code ({ cls := "QuarryOrdersModel", name := "isAt", desc := "(II)Z" } : Jvm.MethodName) prog_8_method_13_code (3 : Nat) (Option.some Jvm.ClassFile.FieldType.boolean)) ∈ lw_all := lw_g (lw_at lw_m6 48 rfl) rfl
theorem q1337 : (Jvm.Cond.methodLink "QuarryOrdersModel" (109 : Nat) ({ cls := "QuarryOrdersModel", name := "part", desc := "(III)V" } : Jvm.MethodName)) ∈ lw_all := lw_g (lw_at lw_m6 49 rfl) rfl
theorem q1338 : (Jvm.Cond.privateMethod ({ cls := "QuarryOrdersModel", name := "part", desc := "(III)V" } : Jvm.MethodName)) ∈ lw_tbl := lw_at lw_m6 50 rfl
theorem q1339 : (Jvm.Cond.instanceMethod ({ cls := "QuarryOrdersModel", name := "part", desc := "(III)V" } : Jvm.MethodName)) ∈ lw_all := lw_g (lw_at lw_m6 51 rfl) rfl
theorem q1340 : (Jvm.Cond.code ({ cls := "QuarryOrdersModel", name := "part", desc := "(III)V" } : Jvm.MethodName) prog_8_method_18_code (5 : Nat) (Option.none : Option Jvm.ClassFile.FieldType)) ∈ lw_all := lw_g (lw_at lw_m6 52 rfl) rfl
theorem q1341 : (Jvm.Cond.methodLink "QuarryOrdersModel" (112 : Nat) ({ cls := "QuarryOrdersModel", name := "underRoof", desc := "()I" } : Jvm.MethodName)) ∈ lw_all := lw_g (lw_at lw_m6 53 rfl) rfl
theorem q1342 : (Jvm.Cond.privateMethod ({ cls := "QuarryOrdersModel", name := "underRoof", desc := "()I" } : Jvm.MethodName)) ∈ lw_tbl := lw_at lw_m6 54 rfl
theorem q1343 : (Jvm.Cond.instanceMethod ({ cls := "QuarryOrdersModel", name := "underRoof", desc := "()I" } : Jvm.MethodName)) ∈ lw_all := lw_g (lw_at lw_m6 55 rfl) rfl
theorem q1344 : (Jvm.Cond.code ({ cls := "QuarryOrdersModel", name := "underRoof", desc := "()I" } : Jvm.MethodName) prog_8_method_15_code (3 : Nat) (Option.some Jvm.ClassFile.FieldType.int)) ∈ lw_all := lw_g (lw_at lw_m6 56 rfl) rfl
theorem q1345 : (Jvm.Cond.methodLink "QuarryOrdersModel" (141 : Nat) ({ cls := "QuarryOrdersModel", name := "orders", desc := "(III)I" } : Jvm.MethodName)) ∈ lw_all := lw_g (lw_at lw_m6 57 rfl) rfl
theorem q1346 : (Jvm.Cond.privateMethod ({ cls := "QuarryOrdersModel", name := "orders", desc := "(III)I" } : Jvm.MethodName)) ∈ lw_tbl := lw_at lw_m6 58 rfl
theorem q1347 : (Jvm.Cond.instanceMethod ({ cls := "QuarryOrdersModel", name := "orders", desc := "(III)I" } : Jvm.MethodName)) ∈ lw_all := lw_g (lw_at lw_m6 59 rfl) rfl
theorem q1348 : (Jvm.Cond.code ({ cls := "QuarryOrdersModel", name := "orders", desc := "(III)I" } : Jvm.MethodName) prog_8_method_34_code (6 : Nat) (Option.some Jvm.ClassFile.FieldType.int)) ∈ lw_all := lw_g (lw_at lw_m6 60 rfl) rfl
theorem q1349 : (Jvm.Cond.methodLink "QuarryOrdersModel" (62 : Nat) ({ cls := "QuarryOrdersModel", name := "sorts", desc := "(III)V" } : Jvm.MethodName)) ∈ lw_all := lw_g (lw_at lw_m6 61 rfl) rfl
theorem q1350 : (Jvm.Cond.privateMethod ({ cls := "QuarryOrdersModel", name := "sorts", desc := "(III)V" } : Jvm.MethodName)) ∈ lw_tbl := lw_at lw_m6 62 rfl
theorem q1351 : (Jvm.Cond.instanceMethod ({ cls := "QuarryOrdersModel", name := "sorts", desc := "(III)V" } : Jvm.MethodName)) ∈ lw_all := lw_g (lw_at lw_m6 63 rfl) rfl
theorem q1352 : (Jvm.Cond.code ({ cls := "QuarryOrdersModel", name := "sorts", desc := "(III)V" } : Jvm.MethodName) prog_8_method_19_code (6 : Nat) (Option.none : Option Jvm.ClassFile.FieldType)) ∈ lw_all := lw_g (lw_at lw_m6 64 rfl) rfl
theorem q1353 : (Jvm.Cond.methodLink "QuarryOrdersModel" (66 : Nat) ({ cls := "QuarryOrdersModel", name := "ofOrderAt", desc := "(II)I" } : Jvm.MethodName)) ∈ lw_all := lw_g (lw_at lw_m6 65 rfl) rfl
theorem q1354 : (Jvm.Cond.static ({ cls := "QuarryOrdersModel", name := "ofOrderAt", desc := "(II)I" } : Jvm.MethodName)) ∈ lw_all := lw_g (lw_at lw_m6 66 rfl) rfl
theorem q1355 : (Jvm.Cond.code ({ cls := "QuarryOrdersModel", name := "ofOrderAt", desc := "(II)I" } : Jvm.MethodName) prog_8_method_8_code (2 : Nat) (Option.some Jvm.ClassFile.FieldType.int)) ∈ lw_all := lw_g (lw_at lw_m6 67 rfl) rfl
theorem q1356 : (Jvm.Cond.methodLink "QuarryOrdersModel" (144 : Nat) ({ cls := "QuarryOrdersModel", name := "gives", desc := "(II)I" } : Jvm.MethodName)) ∈ lw_all := lw_g (lw_at lw_m6 68 rfl) rfl
theorem q1357 : (Jvm.Cond.privateMethod ({ cls := "QuarryOrdersModel", name := "gives", desc := "(II)I" } : Jvm.MethodName)) ∈ lw_tbl := lw_at lw_m6 69 rfl
theorem q1358 : (Jvm.Cond.instanceMethod ({ cls := "QuarryOrdersModel", name := "gives", desc := "(II)I" } : Jvm.MethodName)) ∈ lw_all := lw_g (lw_at lw_m6 70 rfl) rfl
theorem q1359 : (Jvm.Cond.code ({ cls := "QuarryOrdersModel", name := "gives", desc := "(II)I" } : Jvm.MethodName) prog_8_method_35_code (3 : Nat) (Option.some Jvm.ClassFile.FieldType.int)) ∈ lw_all := lw_g (lw_at lw_m6 71 rfl) rfl
theorem q1360 : (Jvm.Cond.methodLink "QuarryOrdersModel" (116 : Nat) ({ cls := "QuarryOrdersModel", name := "isOrder", desc := "(I)Z" } : Jvm.MethodName)) ∈ lw_all := lw_g (lw_at lw_m6 72 rfl) rfl
theorem q1361 : (Jvm.Cond.privateMethod ({ cls := "QuarryOrdersModel", name := "isOrder", desc := "(I)Z" } : Jvm.MethodName)) ∈ lw_tbl := lw_at lw_m6 73 rfl
theorem q1362 : (Jvm.Cond.instanceMethod ({ cls := "QuarryOrdersModel", name := "isOrder", desc := "(I)Z" } : Jvm.MethodName)) ∈ lw_all := lw_g (lw_at lw_m6 74 rfl) rfl
theorem q1363 : (Jvm.Cond.code ({ cls := "QuarryOrdersModel", name := "isOrder", desc := "(I)Z" } : Jvm.MethodName) prog_8_method_5_code (2 : Nat) (Option.some Jvm.ClassFile.FieldType.boolean)) ∈ lw_all := lw_g (lw_at lw_m6 75 rfl) rfl
theorem q1364 : (Jvm.Cond.methodLink "QuarryOrdersModel" (119 : Nat) ({ cls := "QuarryOrdersModel", name := "canGive", desc := "(II)Z" } : Jvm.MethodName)) ∈ lw_all := lw_g (lw_at lw_m6 76 rfl) rfl
theorem q1365 : (Jvm.Cond.privateMethod ({ cls := "QuarryOrdersModel", name := "canGive", desc := "(II)Z" } : Jvm.MethodName)) ∈ lw_tbl := lw_at lw_m6 77 rfl
theorem q1366 : (Jvm.Cond.instanceMethod ({ cls := "QuarryOrdersModel", name := "canGive", desc := "(II)Z" } : Jvm.MethodName)) ∈ lw_all := lw_g (lw_at lw_m6 78 rfl) rfl
theorem q1367 : (Jvm.Cond.code ({ cls := "QuarryOrdersModel", name := "canGive", desc := "(II)Z" } : Jvm.MethodName) prog_8_method_22_code (4 : Nat) (Option.some Jvm.ClassFile.FieldType.boolean)) ∈ lw_all := lw_g (lw_at lw_m6 79 rfl) rfl
theorem q1368 : (Jvm.Cond.methodLink "QuarryOrdersModel" (72 : Nat) ({ cls := "QuarryOrdersModel", name := "excessOf", desc := "(II)I" } : Jvm.MethodName)) ∈ lw_all := lw_g (lw_at lw_m6 80 rfl) rfl
theorem q1369 : (Jvm.Cond.privateMethod ({ cls := "QuarryOrdersModel", name := "excessOf", desc := "(II)I" } : Jvm.MethodName)) ∈ lw_tbl := lw_at lw_m6 81 rfl
theorem q1370 : (Jvm.Cond.instanceMethod ({ cls := "QuarryOrdersModel", name := "excessOf", desc := "(II)I" } : Jvm.MethodName)) ∈ lw_all := lw_g (lw_at lw_m6 82 rfl) rfl
theorem q1371 : (Jvm.Cond.code ({ cls := "QuarryOrdersModel", name := "excessOf", desc := "(II)I" } : Jvm.MethodName) prog_8_method_21_code (3 : Nat) (Option.some Jvm.ClassFile.FieldType.int)) ∈ lw_all := lw_g (lw_at lw_m6 83 rfl) rfl
theorem q1372 : (Jvm.Cond.methodLink "QuarryOrdersModel" (69 : Nat) ({ cls := "QuarryOrdersModel", name := "excess", desc := "(IIII)I" } : Jvm.MethodName)) ∈ lw_all := lw_g (lw_at lw_m6 84 rfl) rfl
theorem q1373 : (Jvm.Cond.privateMethod ({ cls := "QuarryOrdersModel", name := "excess", desc := "(IIII)I" } : Jvm.MethodName)) ∈ lw_tbl := lw_at lw_m6 85 rfl
theorem q1374 : (Jvm.Cond.instanceMethod ({ cls := "QuarryOrdersModel", name := "excess", desc := "(IIII)I" } : Jvm.MethodName)) ∈ lw_all := lw_g (lw_at lw_m6 86 rfl) rfl
theorem q1375 : (Jvm.Cond.code ({ cls := "QuarryOrdersModel", name := "excess", desc := "(IIII)I" } : Jvm.MethodName) prog_8_method_20_code (9 : Nat) (Option.some Jvm.ClassFile.FieldType.int)) ∈ lw_all := lw_g (lw_at lw_m6 87 rfl) rfl
theorem q1376 : (Jvm.Cond.methodLink "QuarryOrdersModel" (147 : Nat) ({ cls := "QuarryOrdersModel", name := "loads", desc := "(III)I" } : Jvm.MethodName)) ∈ lw_all := lw_g (lw_at lw_m6 88 rfl) rfl
theorem q1377 : (Jvm.Cond.privateMethod ({ cls := "QuarryOrdersModel", name := "loads", desc := "(III)I" } : Jvm.MethodName)) ∈ lw_tbl := lw_at lw_m6 89 rfl
theorem q1378 : (Jvm.Cond.instanceMethod ({ cls := "QuarryOrdersModel", name := "loads", desc := "(III)I" } : Jvm.MethodName)) ∈ lw_all := lw_g (lw_at lw_m6 90 rfl) rfl
theorem q1379 : (Jvm.Cond.code ({ cls := "QuarryOrdersModel", name := "loads", desc := "(III)I" } : Jvm.MethodName) prog_8_method_36_code (4 : Nat) (Option.some Jvm.ClassFile.FieldType.int)) ∈ lw_all := lw_g (lw_at lw_m6 91 rfl) rfl
theorem q1380 : (Jvm.Cond.methodLink "QuarryOrdersModel" (122 : Nat) ({ cls := "QuarryOrdersModel", name := "isLorry", desc := "(I)Z" } : Jvm.MethodName)) ∈ lw_all := lw_g (lw_at lw_m6 92 rfl) rfl
theorem q1381 : (Jvm.Cond.static ({ cls := "QuarryOrdersModel", name := "isLorry", desc := "(I)Z" } : Jvm.MethodName)) ∈ lw_all := lw_g (lw_at lw_m6 93 rfl) rfl
theorem q1382 : (Jvm.Cond.code ({ cls := "QuarryOrdersModel", name := "isLorry", desc := "(I)Z" } : Jvm.MethodName) prog_8_method_6_code (1 : Nat) (Option.some Jvm.ClassFile.FieldType.boolean)) ∈ lw_all := lw_g (lw_at lw_m6 94 rfl) rfl
theorem q1383 : (Jvm.Cond.methodLink "QuarryOrdersModel" (75 : Nat) ({ cls := "QuarryOrdersModel", name := "blockAt", desc := "(II)I" } : Jvm.MethodName)) ∈ lw_all := lw_g (lw_at lw_m6 95 rfl) rfl
theorem q1384 : (Jvm.Cond.privateMethod ({ cls := "QuarryOrdersModel", name := "blockAt", desc := "(II)I" } : Jvm.MethodName)) ∈ lw_tbl := lw_at lw_m6 96 rfl
theorem q1385 : (Jvm.Cond.instanceMethod ({ cls := "QuarryOrdersModel", name := "blockAt", desc := "(II)I" } : Jvm.MethodName)) ∈ lw_all := lw_g (lw_at lw_m6 97 rfl) rfl
theorem q1386 : (Jvm.Cond.code ({ cls := "QuarryOrdersModel", name := "blockAt", desc := "(II)I" } : Jvm.MethodName) prog_8_method_23_code (5 : Nat) (Option.some Jvm.ClassFile.FieldType.int)) ∈ lw_all := lw_g (lw_at lw_m6 98 rfl) rfl
theorem q1387 : (Jvm.Cond.methodLink "QuarryOrdersModel" (90 : Nat) ({ cls := "QuarryOrdersModel", name := "loadOf", desc := "(I)I" } : Jvm.MethodName)) ∈ lw_all := lw_g (lw_at lw_m6 99 rfl) rfl
theorem q1388 : (Jvm.Cond.privateMethod ({ cls := "QuarryOrdersModel", name := "loadOf", desc := "(I)I" } : Jvm.MethodName)) ∈ lw_tbl := lw_at lw_m6 100 rfl
theorem q1389 : (Jvm.Cond.instanceMethod ({ cls := "QuarryOrdersModel", name := "loadOf", desc := "(I)I" } : Jvm.MethodName)) ∈ lw_all := lw_g (lw_at lw_m6 101 rfl) rfl
theorem q1390 : (Jvm.Cond.code ({ cls := "QuarryOrdersModel", name := "loadOf", desc := "(I)I" } : Jvm.MethodName) prog_8_method_24_code (4 : Nat) (Option.some Jvm.ClassFile.FieldType.int)) ∈ lw_all := lw_g (lw_at lw_m6 102 rfl) rfl
theorem q1391 : (Jvm.Cond.methodLink "QuarryOrdersModel" (150 : Nat) ({ cls := "QuarryOrdersModel", name := "nights", desc := "(I)I" } : Jvm.MethodName)) ∈ lw_all := lw_g (lw_at lw_m6 103 rfl) rfl
theorem q1392 : (Jvm.Cond.privateMethod ({ cls := "QuarryOrdersModel", name := "nights", desc := "(I)I" } : Jvm.MethodName)) ∈ lw_tbl := lw_at lw_m6 104 rfl
theorem q1393 : (Jvm.Cond.instanceMethod ({ cls := "QuarryOrdersModel", name := "nights", desc := "(I)I" } : Jvm.MethodName)) ∈ lw_all := lw_g (lw_at lw_m6 105 rfl) rfl
theorem q1394 : (Jvm.Cond.code ({ cls := "QuarryOrdersModel", name := "nights", desc := "(I)I" } : Jvm.MethodName) prog_8_method_39_code (5 : Nat) (Option.some Jvm.ClassFile.FieldType.int)) ∈ lw_all := lw_g (lw_at lw_m6 106 rfl) rfl
theorem q1395 : (Jvm.Cond.methodLink "QuarryOrdersModel" (131 : Nat) ({ cls := "QuarryOrdersModel", name := "wouldCrack", desc := "(I)Z" } : Jvm.MethodName)) ∈ lw_all := lw_g (lw_at lw_m6 107 rfl) rfl
theorem q1396 : (Jvm.Cond.privateMethod ({ cls := "QuarryOrdersModel", name := "wouldCrack", desc := "(I)Z" } : Jvm.MethodName)) ∈ lw_tbl := lw_at lw_m6 108 rfl
theorem q1397 : (Jvm.Cond.instanceMethod ({ cls := "QuarryOrdersModel", name := "wouldCrack", desc := "(I)Z" } : Jvm.MethodName)) ∈ lw_all := lw_g (lw_at lw_m6 109 rfl) rfl
theorem q1398 : (Jvm.Cond.code ({ cls := "QuarryOrdersModel", name := "wouldCrack", desc := "(I)Z" } : Jvm.MethodName) prog_8_method_38_code (2 : Nat) (Option.some Jvm.ClassFile.FieldType.boolean)) ∈ lw_all := lw_g (lw_at lw_m6 110 rfl) rfl
theorem q1399 : (Jvm.Cond.methodLink "QuarryOrdersModel" (153 : Nat) ({ cls := "QuarryOrdersModel", name := "leaves", desc := "(I)I" } : Jvm.MethodName)) ∈ lw_all := lw_g (lw_at lw_m6 111 rfl) rfl
theorem q1400 : (Jvm.Cond.privateMethod ({ cls := "QuarryOrdersModel", name := "leaves", desc := "(I)I" } : Jvm.MethodName)) ∈ lw_tbl := lw_at lw_m6 112 rfl
theorem q1401 : (Jvm.Cond.instanceMethod ({ cls := "QuarryOrdersModel", name := "leaves", desc := "(I)I" } : Jvm.MethodName)) ∈ lw_all := lw_g (lw_at lw_m6 113 rfl) rfl
theorem q1402 : (Jvm.Cond.code ({ cls := "QuarryOrdersModel", name := "leaves", desc := "(I)I" } : Jvm.MethodName) prog_8_method_37_code (5 : Nat) (Option.some Jvm.ClassFile.FieldType.int)) ∈ lw_all := lw_g (lw_at lw_m6 114 rfl) rfl
theorem q1403 : (Jvm.Cond.methodLink "QuarryOrdersModel" (125 : Nat) ({ cls := "QuarryOrdersModel", name := "whyNot", desc := "(I)I" } : Jvm.MethodName)) ∈ lw_all := lw_g (lw_at lw_m6 115 rfl) rfl
theorem q1404 : (Jvm.Cond.privateMethod ({ cls := "QuarryOrdersModel", name := "whyNot", desc := "(I)I" } : Jvm.MethodName)) ∈ lw_tbl := lw_at lw_m6 116 rfl
theorem q1405 : (Jvm.Cond.instanceMethod ({ cls := "QuarryOrdersModel", name := "whyNot", desc := "(I)I" } : Jvm.MethodName)) ∈ lw_all := lw_g (lw_at lw_m6 117 rfl) rfl
theorem q1406 : (Jvm.Cond.code ({ cls := "QuarryOrdersModel", name := "whyNot", desc := "(I)I" } : Jvm.MethodName) prog_8_method_29_code (2 : Nat) (Option.some Jvm.ClassFile.FieldType.int)) ∈ lw_all := lw_g (lw_at lw_m6 118 rfl) rfl
theorem q1407 : (Jvm.Cond.methodLink "QuarryOrdersModel" (83 : Nat) ({ cls := "QuarryOrdersModel", name := "blocksOn", desc := "(I)I" } : Jvm.MethodName)) ∈ lw_all := lw_g (lw_at lw_m6 119 rfl) rfl
theorem q1408 : (Jvm.Cond.privateMethod ({ cls := "QuarryOrdersModel", name := "blocksOn", desc := "(I)I" } : Jvm.MethodName)) ∈ lw_tbl := lw_at lw_m6 120 rfl
theorem q1409 : (Jvm.Cond.instanceMethod ({ cls := "QuarryOrdersModel", name := "blocksOn", desc := "(I)I" } : Jvm.MethodName)) ∈ lw_all := lw_g (lw_at lw_m6 121 rfl) rfl
theorem q1410 : (Jvm.Cond.code ({ cls := "QuarryOrdersModel", name := "blocksOn", desc := "(I)I" } : Jvm.MethodName) prog_8_method_28_code (4 : Nat) (Option.some Jvm.ClassFile.FieldType.int)) ∈ lw_all := lw_g (lw_at lw_m6 122 rfl) rfl
theorem q1411 : (Jvm.Cond.methodLink "QuarryOrdersModel" (86 : Nat) ({ cls := "QuarryOrdersModel", name := "hasCracked", desc := "(I)Z" } : Jvm.MethodName)) ∈ lw_all := lw_g (lw_at lw_m6 123 rfl) rfl
theorem q1412 : (Jvm.Cond.privateMethod ({ cls := "QuarryOrdersModel", name := "hasCracked", desc := "(I)Z" } : Jvm.MethodName)) ∈ lw_tbl := lw_at lw_m6 124 rfl
theorem q1413 : (Jvm.Cond.instanceMethod ({ cls := "QuarryOrdersModel", name := "hasCracked", desc := "(I)Z" } : Jvm.MethodName)) ∈ lw_all := lw_g (lw_at lw_m6 125 rfl) rfl
theorem q1414 : (Jvm.Cond.code ({ cls := "QuarryOrdersModel", name := "hasCracked", desc := "(I)Z" } : Jvm.MethodName) prog_8_method_27_code (5 : Nat) (Option.some Jvm.ClassFile.FieldType.boolean)) ∈ lw_all := lw_g (lw_at lw_m6 126 rfl) rfl
theorem q1415 : (Jvm.Cond.methodLink "QuarryOrdersModel" (93 : Nat) ({ cls := "QuarryOrdersModel", name := "axleNow", desc := "(IZ)F" } : Jvm.MethodName)) ∈ lw_all := lw_g (lw_at lw_m6 127 rfl) rfl
theorem q1416 : (Jvm.Cond.privateMethod ({ cls := "QuarryOrdersModel", name := "axleNow", desc := "(IZ)F" } : Jvm.MethodName)) ∈ lw_tbl := lw_at lw_m6 128 rfl
theorem q1417 : (Jvm.Cond.instanceMethod ({ cls := "QuarryOrdersModel", name := "axleNow", desc := "(IZ)F" } : Jvm.MethodName)) ∈ lw_all := lw_g (lw_at lw_m6 129 rfl) rfl
theorem q1418 : (Jvm.Cond.code ({ cls := "QuarryOrdersModel", name := "axleNow", desc := "(IZ)F" } : Jvm.MethodName) prog_8_method_26_code (3 : Nat) (Option.some Jvm.ClassFile.FieldType.float)) ∈ lw_all := lw_g (lw_at lw_m6 130 rfl) rfl
theorem q1419 : (Jvm.Cond.methodLink "QuarryOrdersModel" (79 : Nat) ({ cls := "QuarryOrdersModel", name := "axle", desc := "(IZII)F" } : Jvm.MethodName)) ∈ lw_all := lw_g (lw_at lw_m6 131 rfl) rfl
theorem q1420 : (Jvm.Cond.privateMethod ({ cls := "QuarryOrdersModel", name := "axle", desc := "(IZII)F" } : Jvm.MethodName)) ∈ lw_tbl := lw_at lw_m6 132 rfl
theorem q1421 : (Jvm.Cond.instanceMethod ({ cls := "QuarryOrdersModel", name := "axle", desc := "(IZII)F" } : Jvm.MethodName)) ∈ lw_all := lw_g (lw_at lw_m6 133 rfl) rfl
theorem q1422 : (Jvm.Cond.code ({ cls := "QuarryOrdersModel", name := "axle", desc := "(IZII)F" } : Jvm.MethodName) prog_8_method_25_code (8 : Nat) (Option.some Jvm.ClassFile.FieldType.float)) ∈ lw_all := lw_g (lw_at lw_m6 134 rfl) rfl
theorem q1423 : (Jvm.Cond.constantFloat "QuarryOrdersModel" (78 : Nat) (1082130432 : UInt32)) ∈ lw_all := lw_g (lw_at lw_m6 135 rfl) rfl
theorem q1424 : (Jvm.Cond.methodLink "QuarryOrdersModel" (128 : Nat) ({ cls := "QuarryOrdersModel", name := "delivers", desc := "(I)I" } : Jvm.MethodName)) ∈ lw_all := lw_g (lw_at lw_m6 136 rfl) rfl
theorem q1425 : (Jvm.Cond.privateMethod ({ cls := "QuarryOrdersModel", name := "delivers", desc := "(I)I" } : Jvm.MethodName)) ∈ lw_tbl := lw_at lw_m6 137 rfl
theorem q1426 : (Jvm.Cond.instanceMethod ({ cls := "QuarryOrdersModel", name := "delivers", desc := "(I)I" } : Jvm.MethodName)) ∈ lw_all := lw_g (lw_at lw_m6 138 rfl) rfl
theorem q1427 : (Jvm.Cond.code ({ cls := "QuarryOrdersModel", name := "delivers", desc := "(I)I" } : Jvm.MethodName) prog_8_method_30_code (4 : Nat) (Option.some Jvm.ClassFile.FieldType.int)) ∈ lw_all := lw_g (lw_at lw_m6 139 rfl) rfl
theorem q1429 : (Jvm.Cond.instanceMethod ({ cls := "QuarryOrdersModel", name := "cut", desc := "(III)I" } : Jvm.MethodName)) ∈ lw_all := lw_g (lw_at lw_m6 141 rfl) rfl
theorem q1430 : (Jvm.Cond.selects "QuarryOrdersModel" ({ cls := "QuarryOrdersModel", name := "cut", desc := "(III)I" } : Jvm.MethodName) ({ cls := "QuarryOrdersModel", name := "cut", desc := "(III)I" } : Jvm.MethodName)) ∈ lw_all := lw_g (lw_at lw_m6 142 rfl) rfl
theorem q1431 : (Jvm.Cond.code ({ cls := "QuarryOrdersModel", name := "cut", desc := "(III)I" } : Jvm.MethodName) prog_8_method_45_code (4 : Nat) (Option.some Jvm.ClassFile.FieldType.int)) ∈ lw_all := lw_g (lw_at lw_m6 143 rfl) rfl
theorem q1433 : (Jvm.Cond.instanceMethod ({ cls := "QuarryOrdersModel", name := "shelter", desc := "(I)I" } : Jvm.MethodName)) ∈ lw_all := lw_g (lw_at lw_m6 145 rfl) rfl
theorem q1434 : (Jvm.Cond.selects "QuarryOrdersModel" ({ cls := "QuarryOrdersModel", name := "shelter", desc := "(I)I" } : Jvm.MethodName) ({ cls := "QuarryOrdersModel", name := "shelter", desc := "(I)I" } : Jvm.MethodName)) ∈ lw_all := lw_g (lw_at lw_m6 146 rfl) rfl
theorem q1435 : (Jvm.Cond.code ({ cls := "QuarryOrdersModel", name := "shelter", desc := "(I)I" } : Jvm.MethodName) prog_8_method_46_code (4 : Nat) (Option.some Jvm.ClassFile.FieldType.int)) ∈ lw_all := lw_g (lw_at lw_m6 147 rfl) rfl
theorem q1437 : (Jvm.Cond.instanceMethod ({ cls := "QuarryOrdersModel", name := "order", desc := "(III)I" } : Jvm.MethodName)) ∈ lw_all := lw_g (lw_at lw_m6 149 rfl) rfl
theorem q1438 : (Jvm.Cond.selects "QuarryOrdersModel" ({ cls := "QuarryOrdersModel", name := "order", desc := "(III)I" } : Jvm.MethodName) ({ cls := "QuarryOrdersModel", name := "order", desc := "(III)I" } : Jvm.MethodName)) ∈ lw_all := lw_g (lw_at lw_m6 150 rfl) rfl
theorem q1439 : (Jvm.Cond.code ({ cls := "QuarryOrdersModel", name := "order", desc := "(III)I" } : Jvm.MethodName) prog_8_method_47_code (4 : Nat) (Option.some Jvm.ClassFile.FieldType.int)) ∈ lw_all := lw_g (lw_at lw_m6 151 rfl) rfl
theorem q1441 : (Jvm.Cond.instanceMethod ({ cls := "QuarryOrdersModel", name := "give", desc := "(II)I" } : Jvm.MethodName)) ∈ lw_all := lw_g (lw_at lw_m6 153 rfl) rfl
theorem q1442 : (Jvm.Cond.selects "QuarryOrdersModel" ({ cls := "QuarryOrdersModel", name := "give", desc := "(II)I" } : Jvm.MethodName) ({ cls := "QuarryOrdersModel", name := "give", desc := "(II)I" } : Jvm.MethodName)) ∈ lw_all := lw_g (lw_at lw_m6 154 rfl) rfl
theorem q1443 : (Jvm.Cond.code ({ cls := "QuarryOrdersModel", name := "give", desc := "(II)I" } : Jvm.MethodName) prog_8_method_48_code (3 : Nat) (Option.some Jvm.ClassFile.FieldType.int)) ∈ lw_all := lw_g (lw_at lw_m6 155 rfl) rfl
theorem q1445 : (Jvm.Cond.instanceMethod ({ cls := "QuarryOrdersModel", name := "takeBack", desc := "(I)I" } : Jvm.MethodName)) ∈ lw_all := lw_g (lw_at lw_m6 157 rfl) rfl
theorem q1446 : (Jvm.Cond.selects "QuarryOrdersModel" ({ cls := "QuarryOrdersModel", name := "takeBack", desc := "(I)I" } : Jvm.MethodName) ({ cls := "QuarryOrdersModel", name := "takeBack", desc := "(I)I" } : Jvm.MethodName)) ∈ lw_all := lw_g (lw_at lw_m6 158 rfl) rfl
theorem q1447 : (Jvm.Cond.code ({ cls := "QuarryOrdersModel", name := "takeBack", desc := "(I)I" } : Jvm.MethodName) prog_8_method_49_code (4 : Nat) (Option.some Jvm.ClassFile.FieldType.int)) ∈ lw_all := lw_g (lw_at lw_m6 159 rfl) rfl
theorem q1449 : (Jvm.Cond.instanceMethod ({ cls := "QuarryOrdersModel", name := "limits", desc := "(IIII)I" } : Jvm.MethodName)) ∈ lw_all := lw_g (lw_at lw_m6 161 rfl) rfl
theorem q1450 : (Jvm.Cond.selects "QuarryOrdersModel" ({ cls := "QuarryOrdersModel", name := "limits", desc := "(IIII)I" } : Jvm.MethodName) ({ cls := "QuarryOrdersModel", name := "limits", desc := "(IIII)I" } : Jvm.MethodName)) ∈ lw_all := lw_g (lw_at lw_m6 162 rfl) rfl
theorem q1451 : (Jvm.Cond.code ({ cls := "QuarryOrdersModel", name := "limits", desc := "(IIII)I" } : Jvm.MethodName) prog_8_method_50_code (6 : Nat) (Option.some Jvm.ClassFile.FieldType.int)) ∈ lw_all := lw_g (lw_at lw_m6 163 rfl) rfl
theorem q1453 : (Jvm.Cond.instanceMethod ({ cls := "QuarryOrdersModel", name := "load", desc := "(III)I" } : Jvm.MethodName)) ∈ lw_all := lw_g (lw_at lw_m6 165 rfl) rfl
theorem q1454 : (Jvm.Cond.selects "QuarryOrdersModel" ({ cls := "QuarryOrdersModel", name := "load", desc := "(III)I" } : Jvm.MethodName) ({ cls := "QuarryOrdersModel", name := "load", desc := "(III)I" } : Jvm.MethodName)) ∈ lw_all := lw_g (lw_at lw_m6 166 rfl) rfl
theorem q1455 : (Jvm.Cond.code ({ cls := "QuarryOrdersModel", name := "load", desc := "(III)I" } : Jvm.MethodName) prog_8_method_51_code (4 : Nat) (Option.some Jvm.ClassFile.FieldType.int)) ∈ lw_all := lw_g (lw_at lw_m6 167 rfl) rfl
theorem q1457 : (Jvm.Cond.instanceMethod ({ cls := "QuarryOrdersModel", name := "unload", desc := "(I)I" } : Jvm.MethodName)) ∈ lw_all := lw_g (lw_at lw_m6 169 rfl) rfl
theorem q1458 : (Jvm.Cond.selects "QuarryOrdersModel" ({ cls := "QuarryOrdersModel", name := "unload", desc := "(I)I" } : Jvm.MethodName) ({ cls := "QuarryOrdersModel", name := "unload", desc := "(I)I" } : Jvm.MethodName)) ∈ lw_all := lw_g (lw_at lw_m6 170 rfl) rfl
theorem q1459 : (Jvm.Cond.code ({ cls := "QuarryOrdersModel", name := "unload", desc := "(I)I" } : Jvm.MethodName) prog_8_method_52_code (3 : Nat) (Option.some Jvm.ClassFile.FieldType.int)) ∈ lw_all := lw_g (lw_at lw_m6 171 rfl) rfl
theorem q1461 : (Jvm.Cond.instanceMethod ({ cls := "QuarryOrdersModel", name := "leave", desc := "(I)I" } : Jvm.MethodName)) ∈ lw_all := lw_g (lw_at lw_m6 173 rfl) rfl
theorem q1462 : (Jvm.Cond.selects "QuarryOrdersModel" ({ cls := "QuarryOrdersModel", name := "leave", desc := "(I)I" } : Jvm.MethodName) ({ cls := "QuarryOrdersModel", name := "leave", desc := "(I)I" } : Jvm.MethodName)) ∈ lw_all := lw_g (lw_at lw_m6 174 rfl) rfl
theorem q1463 : (Jvm.Cond.code ({ cls := "QuarryOrdersModel", name := "leave", desc := "(I)I" } : Jvm.MethodName) prog_8_method_53_code (2 : Nat) (Option.some Jvm.ClassFile.FieldType.int)) ∈ lw_all := lw_g (lw_at lw_m6 175 rfl) rfl
theorem q1465 : (Jvm.Cond.instanceMethod ({ cls := "QuarryOrdersModel", name := "night", desc := "(I)I" } : Jvm.MethodName)) ∈ lw_all := lw_g (lw_at lw_m6 177 rfl) rfl
theorem q1466 : (Jvm.Cond.selects "QuarryOrdersModel" ({ cls := "QuarryOrdersModel", name := "night", desc := "(I)I" } : Jvm.MethodName) ({ cls := "QuarryOrdersModel", name := "night", desc := "(I)I" } : Jvm.MethodName)) ∈ lw_all := lw_g (lw_at lw_m6 178 rfl) rfl
theorem q1467 : (Jvm.Cond.code ({ cls := "QuarryOrdersModel", name := "night", desc := "(I)I" } : Jvm.MethodName) prog_8_method_54_code (2 : Nat) (Option.some Jvm.ClassFile.FieldType.int)) ∈ lw_all := lw_g (lw_at lw_m6 179 rfl) rfl
theorem q1469 : (Jvm.Cond.instanceMethod ({ cls := "QuarryOrdersModel", name := "of", desc := "(II)I" } : Jvm.MethodName)) ∈ lw_all := lw_g (lw_at lw_m6 181 rfl) rfl
theorem q1470 : (Jvm.Cond.selects "QuarryOrdersModel" ({ cls := "QuarryOrdersModel", name := "of", desc := "(II)I" } : Jvm.MethodName) ({ cls := "QuarryOrdersModel", name := "of", desc := "(II)I" } : Jvm.MethodName)) ∈ lw_all := lw_g (lw_at lw_m6 182 rfl) rfl
theorem q1471 : (Jvm.Cond.code ({ cls := "QuarryOrdersModel", name := "of", desc := "(II)I" } : Jvm.MethodName) prog_8_method_55_code (3 : Nat) (Option.some Jvm.ClassFile.FieldType.int)) ∈ lw_all := lw_g (lw_at lw_m6 183 rfl) rfl
theorem q1473 : (Jvm.Cond.instanceMethod ({ cls := "QuarryOrdersModel", name := "ofOrder", desc := "(II)I" } : Jvm.MethodName)) ∈ lw_all := lw_g (lw_at lw_m6 185 rfl) rfl
theorem q1474 : (Jvm.Cond.selects "QuarryOrdersModel" ({ cls := "QuarryOrdersModel", name := "ofOrder", desc := "(II)I" } : Jvm.MethodName) ({ cls := "QuarryOrdersModel", name := "ofOrder", desc := "(II)I" } : Jvm.MethodName)) ∈ lw_all := lw_g (lw_at lw_m6 186 rfl) rfl
theorem q1475 : (Jvm.Cond.code ({ cls := "QuarryOrdersModel", name := "ofOrder", desc := "(II)I" } : Jvm.MethodName) prog_8_method_57_code (3 : Nat) (Option.some Jvm.ClassFile.FieldType.int)) ∈ lw_all := lw_g (lw_at lw_m6 187 rfl) rfl
theorem q1476 : (Jvm.Cond.methodLink "QuarryOrdersModel" (172 : Nat) ({ cls := "QuarryOrdersModel", name := "couldBeGiven", desc := "(I)I" } : Jvm.MethodName)) ∈ lw_all := lw_g (lw_at lw_m6 188 rfl) rfl
theorem q1477 : (Jvm.Cond.privateMethod ({ cls := "QuarryOrdersModel", name := "couldBeGiven", desc := "(I)I" } : Jvm.MethodName)) ∈ lw_tbl := lw_at lw_m6 189 rfl
theorem q1478 : (Jvm.Cond.instanceMethod ({ cls := "QuarryOrdersModel", name := "couldBeGiven", desc := "(I)I" } : Jvm.MethodName)) ∈ lw_all := lw_g (lw_at lw_m6 190 rfl) rfl
theorem q1479 : (Jvm.Cond.code ({ cls := "QuarryOrdersModel", name := "couldBeGiven", desc := "(I)I" } : Jvm.MethodName) prog_8_method_56_code (4 : Nat) (Option.some Jvm.ClassFile.FieldType.int)) ∈ lw_all := lw_g (lw_at lw_m6 191 rfl) rfl
theorem q1481 : (Jvm.Cond.instanceMethod ({ cls := "QuarryOrdersModel", name := "ofLorry", desc := "(II)I" } : Jvm.MethodName)) ∈ lw_all := lw_g (lw_at lw_m6 193 rfl) rfl
theorem q1482 : (Jvm.Cond.selects "QuarryOrdersModel" ({ cls := "QuarryOrdersModel", name := "ofLorry", desc := "(II)I" } : Jvm.MethodName) ({ cls := "QuarryOrdersModel", name := "ofLorry", desc := "(II)I" } : Jvm.MethodName)) ∈ lw_all := lw_g (lw_at lw_m6 194 rfl) rfl
theorem q1483 : (Jvm.Cond.code ({ cls := "QuarryOrdersModel", name := "ofLorry", desc := "(II)I" } : Jvm.MethodName) prog_8_method_59_code (3 : Nat) (Option.some Jvm.ClassFile.FieldType.int)) ∈ lw_all := lw_g (lw_at lw_m6 195 rfl) rfl
theorem q1484 : (Jvm.Cond.methodLink "QuarryOrdersModel" (178 : Nat) ({ cls := "QuarryOrdersModel", name := "floatBits", desc := "(F)I" } : Jvm.MethodName)) ∈ lw_all := lw_g (lw_at lw_m6 196 rfl) rfl
theorem q1485 : (Jvm.Cond.static ({ cls := "QuarryOrdersModel", name := "floatBits", desc := "(F)I" } : Jvm.MethodName)) ∈ lw_all := lw_g (lw_at lw_m6 197 rfl) rfl
theorem q1486 : (Jvm.Cond.code ({ cls := "QuarryOrdersModel", name := "floatBits", desc := "(F)I" } : Jvm.MethodName) prog_8_method_58_code (3 : Nat) (Option.some Jvm.ClassFile.FieldType.int)) ∈ lw_all := lw_g (lw_at lw_m6 198 rfl) rfl
theorem q1487 : (Jvm.Cond.constantFloat "QuarryOrdersModel" (175 : Nat) (1056964608 : UInt32)) ∈ lw_all := lw_g (lw_at lw_m6 199 rfl) rfl
theorem q1488 : (Jvm.Cond.constant "QuarryOrdersModel" (176 : Nat) (8388608 : Int32)) ∈ lw_all := lw_g (lw_at lw_m6 200 rfl) rfl
theorem q1489 : (Jvm.Cond.constantFloat "QuarryOrdersModel" (177 : Nat) (1258291200 : UInt32)) ∈ lw_all := lw_g (lw_at lw_m6 201 rfl) rfl
theorem q1491 : (Jvm.Cond.instanceMethod ({ cls := "QuarryOrdersModel", name := "count", desc := "(I)I" } : Jvm.MethodName)) ∈ lw_all := lw_g (lw_at lw_m6 203 rfl) rfl
theorem q1492 : (Jvm.Cond.selects "QuarryOrdersModel" ({ cls := "QuarryOrdersModel", name := "count", desc := "(I)I" } : Jvm.MethodName) ({ cls := "QuarryOrdersModel", name := "count", desc := "(I)I" } : Jvm.MethodName)) ∈ lw_all := lw_g (lw_at lw_m6 204 rfl) rfl
theorem q1493 : (Jvm.Cond.code ({ cls := "QuarryOrdersModel", name := "count", desc := "(I)I" } : Jvm.MethodName) prog_8_method_62_code (2 : Nat) (Option.some Jvm.ClassFile.FieldType.int)) ∈ lw_all := lw_g (lw_at lw_m6 205 rfl) rfl
theorem q1494 : (Jvm.Cond.methodLink "QuarryOrdersModel" (182 : Nat) ({ cls := "QuarryOrdersModel", name := "setOf", desc := "(Z)I" } : Jvm.MethodName)) ∈ lw_all := lw_g (lw_at lw_m6 206 rfl) rfl
theorem q1495 : (Jvm.Cond.privateMethod ({ cls := "QuarryOrdersModel", name := "setOf", desc := "(Z)I" } : Jvm.MethodName)) ∈ lw_tbl := lw_at lw_m6 207 rfl
theorem q1496 : (Jvm.Cond.instanceMethod ({ cls := "QuarryOrdersModel", name := "setOf", desc := "(Z)I" } : Jvm.MethodName)) ∈ lw_all := lw_g (lw_at lw_m6 208 rfl) rfl
theorem q1497 : (Jvm.Cond.code ({ cls := "QuarryOrdersModel", name := "setOf", desc := "(Z)I" } : Jvm.MethodName) prog_8_method_60_code (5 : Nat) (Option.some Jvm.ClassFile.FieldType.int)) ∈ lw_all := lw_g (lw_at lw_m6 209 rfl) rfl
theorem q1498 : (Jvm.Cond.methodLink "QuarryOrdersModel" (186 : Nat) ({ cls := "QuarryOrdersModel", name := "notCut", desc := "(Z)I" } : Jvm.MethodName)) ∈ lw_all := lw_g (lw_at lw_m6 210 rfl) rfl
theorem q1499 : (Jvm.Cond.privateMethod ({ cls := "QuarryOrdersModel", name := "notCut", desc := "(Z)I" } : Jvm.MethodName)) ∈ lw_tbl := lw_at lw_m6 211 rfl
theorem q1500 : (Jvm.Cond.instanceMethod ({ cls := "QuarryOrdersModel", name := "notCut", desc := "(Z)I" } : Jvm.MethodName)) ∈ lw_all := lw_g (lw_at lw_m6 212 rfl) rfl
theorem q1501 : (Jvm.Cond.code ({ cls := "QuarryOrdersModel", name := "notCut", desc := "(Z)I" } : Jvm.MethodName) prog_8_method_61_code (4 : Nat) (Option.some Jvm.ClassFile.FieldType.int)) ∈ lw_all := lw_g (lw_at lw_m6 213 rfl) rfl
theorem q1503 : (Jvm.Cond.instanceMethod ({ cls := "QuarryOrdersModel", name := "meanWeight", desc := "()J" } : Jvm.MethodName)) ∈ lw_all := lw_g (lw_at lw_m6 215 rfl) rfl
theorem q1504 : (Jvm.Cond.selects "QuarryOrdersModel" ({ cls := "QuarryOrdersModel", name := "meanWeight", desc := "()J" } : Jvm.MethodName) ({ cls := "QuarryOrdersModel", name := "meanWeight", desc := "()J" } : Jvm.MethodName)) ∈ lw_all := lw_g (lw_at lw_m6 216 rfl) rfl
theorem q1505 : (Jvm.Cond.code ({ cls := "QuarryOrdersModel", name := "meanWeight", desc := "()J" } : Jvm.MethodName) prog_8_method_64_code (2 : Nat) (Option.some Jvm.ClassFile.FieldType.long)) ∈ lw_all := lw_g (lw_at lw_m6 217 rfl) rfl
theorem q1506 : (Jvm.Cond.methodLink "QuarryOrdersModel" (202 : Nat) ({ cls := "QuarryOrdersModel", name := "bitsOf", desc := "(D)J" } : Jvm.MethodName)) ∈ lw_all := lw_g (lw_at lw_m6 218 rfl) rfl
theorem q1507 : (Jvm.Cond.static ({ cls := "QuarryOrdersModel", name := "bitsOf", desc := "(D)J" } : Jvm.MethodName)) ∈ lw_all := lw_g (lw_at lw_m6 219 rfl) rfl
theorem q1508 : (Jvm.Cond.code ({ cls := "QuarryOrdersModel", name := "bitsOf", desc := "(D)J" } : Jvm.MethodName) prog_8_method_63_code (6 : Nat) (Option.some Jvm.ClassFile.FieldType.long)) ∈ lw_all := lw_g (lw_at lw_m6 220 rfl) rfl
theorem q1509 : (Jvm.Cond.constantLong "QuarryOrdersModel" (192 : Nat) (1023 : Int64)) ∈ lw_all := lw_g (lw_at lw_m6 221 rfl) rfl
theorem q1510 : (Jvm.Cond.constantDouble "QuarryOrdersModel" (194 : Nat) (4611686018427387904 : UInt64)) ∈ lw_all := lw_g (lw_at lw_m6 222 rfl) rfl
theorem q1511 : (Jvm.Cond.constantDouble "QuarryOrdersModel" (196 : Nat) (4602678819172646912 : UInt64)) ∈ lw_all := lw_g (lw_at lw_m6 223 rfl) rfl
theorem q1512 : (Jvm.Cond.constantLong "QuarryOrdersModel" (198 : Nat) (4503599627370496 : Int64)) ∈ lw_all := lw_g (lw_at lw_m6 224 rfl) rfl
theorem q1513 : (Jvm.Cond.constantDouble "QuarryOrdersModel" (200 : Nat) (4841369599423283200 : UInt64)) ∈ lw_all := lw_g (lw_at lw_m6 225 rfl) rfl
theorem q1515 : (Jvm.Cond.instanceMethod ({ cls := "QuarryOrdersModel", name := "why", desc := "(I)I" } : Jvm.MethodName)) ∈ lw_all := lw_g (lw_at lw_m6 227 rfl) rfl
theorem q1516 : (Jvm.Cond.selects "QuarryOrdersModel" ({ cls := "QuarryOrdersModel", name := "why", desc := "(I)I" } : Jvm.MethodName) ({ cls := "QuarryOrdersModel", name := "why", desc := "(I)I" } : Jvm.MethodName)) ∈ lw_all := lw_g (lw_at lw_m6 228 rfl) rfl
theorem q1517 : (Jvm.Cond.code ({ cls := "QuarryOrdersModel", name := "why", desc := "(I)I" } : Jvm.MethodName) prog_8_method_65_code (2 : Nat) (Option.some Jvm.ClassFile.FieldType.int)) ∈ lw_all := lw_g (lw_at lw_m6 229 rfl) rfl
theorem q1519 : (Jvm.Cond.instanceMethod ({ cls := "QuarryOrdersModel", name := "bestBlock", desc := "(I)I" } : Jvm.MethodName)) ∈ lw_all := lw_g (lw_at lw_m6 231 rfl) rfl
theorem q1520 : (Jvm.Cond.selects "QuarryOrdersModel" ({ cls := "QuarryOrdersModel", name := "bestBlock", desc := "(I)I" } : Jvm.MethodName) ({ cls := "QuarryOrdersModel", name := "bestBlock", desc := "(I)I" } : Jvm.MethodName)) ∈ lw_all := lw_g (lw_at lw_m6 232 rfl) rfl
theorem q1521 : (Jvm.Cond.code ({ cls := "QuarryOrdersModel", name := "bestBlock", desc := "(I)I" } : Jvm.MethodName) prog_8_method_66_code (4 : Nat) (Option.some Jvm.ClassFile.FieldType.int)) ∈ lw_all := lw_g (lw_at lw_m6 233 rfl) rfl
theorem q1523 : (Jvm.Cond.instanceMethod ({ cls := "QuarryOrdersModel", name := "fittingCut", desc := "(III)I" } : Jvm.MethodName)) ∈ lw_all := lw_g (lw_at lw_m6 235 rfl) rfl
theorem q1524 : (Jvm.Cond.selects "QuarryOrdersModel" ({ cls := "QuarryOrdersModel", name := "fittingCut", desc := "(III)I" } : Jvm.MethodName) ({ cls := "QuarryOrdersModel", name := "fittingCut", desc := "(III)I" } : Jvm.MethodName)) ∈ lw_all := lw_g (lw_at lw_m6 236 rfl) rfl
theorem q1525 : (Jvm.Cond.code ({ cls := "QuarryOrdersModel", name := "fittingCut", desc := "(III)I" } : Jvm.MethodName) prog_8_method_68_code (5 : Nat) (Option.some Jvm.ClassFile.FieldType.int)) ∈ lw_all := lw_g (lw_at lw_m6 237 rfl) rfl
theorem q1526 : (Jvm.Cond.methodLink "QuarryOrdersModel" (206 : Nat) ({ cls := "QuarryOrdersModel", name := "isFitting", desc := "(IIII)Z" } : Jvm.MethodName)) ∈ lw_all := lw_g (lw_at lw_m6 238 rfl) rfl
theorem q1527 : (Jvm.Cond.privateMethod ({ cls := "QuarryOrdersModel", name := "isFitting", desc := "(IIII)Z" } : Jvm.MethodName)) ∈ lw_tbl := lw_at lw_m6 239 rfl
theorem q1528 : (Jvm.Cond.instanceMethod ({ cls := "QuarryOrdersModel", name := "isFitting", desc := "(IIII)Z" } : Jvm.MethodName)) ∈ lw_all := lw_g (lw_at lw_m7 0 rfl) rfl
theorem q1529 : (Jvm.Cond.code ({ cls := "QuarryOrdersModel", name := "isFitting", desc := "(IIII)Z" } : Jvm.MethodName) prog_8_method_67_code (9 : Nat) (Option.some Jvm.ClassFile.FieldType.boolean)) ∈ lw_all := lw_g (lw_at lw_m7 1 rfl) rfl
theorem q1531 : (Jvm.Cond.instanceMethod ({ cls := "QuarryOrdersModel", name := "ifFrost", desc := "()I" } : Jvm.MethodName)) ∈ lw_all := lw_g (lw_at lw_m7 3 rfl) rfl
theorem q1532 : (Jvm.Cond.selects "QuarryOrdersModel" ({ cls := "QuarryOrdersModel", name := "ifFrost", desc := "()I" } : Jvm.MethodName) ({ cls := "QuarryOrdersModel", name := "ifFrost", desc := "()I" } : Jvm.MethodName)) ∈ lw_all := lw_g (lw_at lw_m7 4 rfl) rfl
theorem q1533 : (Jvm.Cond.code ({ cls := "QuarryOrdersModel", name := "ifFrost", desc := "()I" } : Jvm.MethodName) prog_8_method_69_code (3 : Nat) (Option.some Jvm.ClassFile.FieldType.int)) ∈ lw_all := lw_g (lw_at lw_m7 5 rfl) rfl
theorem q1535 : (Jvm.Cond.instanceMethod ({ cls := "QuarryOrdersModel", name := "bestPlace", desc := "(II)I" } : Jvm.MethodName)) ∈ lw_all := lw_g (lw_at lw_m7 7 rfl) rfl
theorem q1536 : (Jvm.Cond.selects "QuarryOrdersModel" ({ cls := "QuarryOrdersModel", name := "bestPlace", desc := "(II)I" } : Jvm.MethodName) ({ cls := "QuarryOrdersModel", name := "bestPlace", desc := "(II)I" } : Jvm.MethodName)) ∈ lw_all := lw_g (lw_at lw_m7 8 rfl) rfl
theorem q1537 : (Jvm.Cond.code ({ cls := "QuarryOrdersModel", name := "bestPlace", desc := "(II)I" } : Jvm.MethodName) prog_8_method_71_code (6 : Nat) (Option.some Jvm.ClassFile.FieldType.int)) ∈ lw_all := lw_g (lw_at lw_m7 9 rfl) rfl
theorem q1538 : (Jvm.Cond.methodLink "QuarryOrdersModel" (210 : Nat) ({ cls := "QuarryOrdersModel", name := "share", desc := "(III)F" } : Jvm.MethodName)) ∈ lw_all := lw_g (lw_at lw_m7 10 rfl) rfl
theorem q1539 : (Jvm.Cond.privateMethod ({ cls := "QuarryOrdersModel", name := "share", desc := "(III)F" } : Jvm.MethodName)) ∈ lw_tbl := lw_at lw_m7 11 rfl
theorem q1540 : (Jvm.Cond.instanceMethod ({ cls := "QuarryOrdersModel", name := "share", desc := "(III)F" } : Jvm.MethodName)) ∈ lw_all := lw_g (lw_at lw_m7 12 rfl) rfl
theorem q1541 : (Jvm.Cond.code ({ cls := "QuarryOrdersModel", name := "share", desc := "(III)F" } : Jvm.MethodName) prog_8_method_70_code (6 : Nat) (Option.some Jvm.ClassFile.FieldType.float)) ∈ lw_all := lw_g (lw_at lw_m7 13 rfl) rfl
theorem q1543 : (Jvm.Cond.instanceMethod ({ cls := "QuarryOrdersModel", name := "put", desc := "(J)I" } : Jvm.MethodName)) ∈ lw_all := lw_g (lw_at lw_m7 15 rfl) rfl
theorem q1544 : (Jvm.Cond.selects "QuarryOrdersModel" ({ cls := "QuarryOrdersModel", name := "put", desc := "(J)I" } : Jvm.MethodName) ({ cls := "QuarryOrdersModel", name := "put", desc := "(J)I" } : Jvm.MethodName)) ∈ lw_all := lw_g (lw_at lw_m7 16 rfl) rfl
theorem q1545 : (Jvm.Cond.code ({ cls := "QuarryOrdersModel", name := "put", desc := "(J)I" } : Jvm.MethodName) prog_8_method_72_code (8 : Nat) (Option.some Jvm.ClassFile.FieldType.int)) ∈ lw_all := lw_g (lw_at lw_m7 17 rfl) rfl
theorem q1546 : (Jvm.Cond.constantLong "QuarryOrdersModel" (214 : Nat) (255 : Int64)) ∈ lw_all := lw_g (lw_at lw_m7 18 rfl) rfl
theorem q1548 : (Jvm.Cond.instanceMethod ({ cls := "QuarryOrdersModel", name := "wipe", desc := "()I" } : Jvm.MethodName)) ∈ lw_all := lw_g (lw_at lw_m7 20 rfl) rfl
theorem q1549 : (Jvm.Cond.selects "QuarryOrdersModel" ({ cls := "QuarryOrdersModel", name := "wipe", desc := "()I" } : Jvm.MethodName) ({ cls := "QuarryOrdersModel", name := "wipe", desc := "()I" } : Jvm.MethodName)) ∈ lw_all := lw_g (lw_at lw_m7 21 rfl) rfl
theorem q1550 : (Jvm.Cond.code ({ cls := "QuarryOrdersModel", name := "wipe", desc := "()I" } : Jvm.MethodName) prog_8_method_73_code (2 : Nat) (Option.some Jvm.ClassFile.FieldType.int)) ∈ lw_all := lw_g (lw_at lw_m7 22 rfl) rfl
theorem q1552 : (Jvm.Cond.instanceMethod ({ cls := "QuarryOrdersModel", name := "fault", desc := "()I" } : Jvm.MethodName)) ∈ lw_all := lw_g (lw_at lw_m7 24 rfl) rfl
theorem q1553 : (Jvm.Cond.selects "QuarryOrdersModel" ({ cls := "QuarryOrdersModel", name := "fault", desc := "()I" } : Jvm.MethodName) ({ cls := "QuarryOrdersModel", name := "fault", desc := "()I" } : Jvm.MethodName)) ∈ lw_all := lw_g (lw_at lw_m7 25 rfl) rfl
theorem q1554 : (Jvm.Cond.code ({ cls := "QuarryOrdersModel", name := "fault", desc := "()I" } : Jvm.MethodName) prog_8_method_80_code (2 : Nat) (Option.some Jvm.ClassFile.FieldType.int)) ∈ lw_all := lw_g (lw_at lw_m7 26 rfl) rfl
theorem q1555 : (Jvm.Cond.methodLink "QuarryOrdersModel" (238 : Nat) ({ cls := "QuarryOrdersModel", name := "goes", desc := "(Z)I" } : Jvm.MethodName)) ∈ lw_all := lw_g (lw_at lw_m7 27 rfl) rfl
theorem q1556 : (Jvm.Cond.privateMethod ({ cls := "QuarryOrdersModel", name := "goes", desc := "(Z)I" } : Jvm.MethodName)) ∈ lw_tbl := lw_at lw_m7 28 rfl
theorem q1557 : (Jvm.Cond.instanceMethod ({ cls := "QuarryOrdersModel", name := "goes", desc := "(Z)I" } : Jvm.MethodName)) ∈ lw_all := lw_g (lw_at lw_m7 29 rfl) rfl
theorem q1558 : (Jvm.Cond.code ({ cls := "QuarryOrdersModel", name := "goes", desc := "(Z)I" } : Jvm.MethodName) prog_8_method_79_code (6 : Nat) (Option.some Jvm.ClassFile.FieldType.int)) ∈ lw_all := lw_g (lw_at lw_m7 30 rfl) rfl
theorem q1559 : (Jvm.Cond.methodLink "QuarryOrdersModel" (235 : Nat) ({ cls := "QuarryOrdersModel", name := "readOrder", desc := "()V" } : Jvm.MethodName)) ∈ lw_all := lw_g (lw_at lw_m7 31 rfl) rfl
theorem q1560 : (Jvm.Cond.privateMethod ({ cls := "QuarryOrdersModel", name := "readOrder", desc := "()V" } : Jvm.MethodName)) ∈ lw_tbl := lw_at lw_m7 32 rfl
theorem q1561 : (Jvm.Cond.instanceMethod ({ cls := "QuarryOrdersModel", name := "readOrder", desc := "()V" } : Jvm.MethodName)) ∈ lw_all := lw_g (lw_at lw_m7 33 rfl) rfl
theorem q1562 : (Jvm.Cond.code ({ cls := "QuarryOrdersModel", name := "readOrder", desc := "()V" } : Jvm.MethodName) prog_8_method_78_code (5 : Nat) (Option.none : Option Jvm.ClassFile.FieldType)) ∈ lw_all := lw_g (lw_at lw_m7 34 rfl) rfl
theorem q1563 : (Jvm.Cond.methodLink "QuarryOrdersModel" (226 : Nat) ({ cls := "QuarryOrdersModel", name := "isNext", desc := "(II)Z" } : Jvm.MethodName)) ∈ lw_all := lw_g (lw_at lw_m7 35 rfl) rfl
theorem q1564 : (Jvm.Cond.privateMethod ({ cls := "QuarryOrdersModel", name := "isNext", desc := "(II)Z" } : Jvm.MethodName)) ∈ lw_tbl := lw_at lw_m7 36 rfl
theorem q1565 : (Jvm.Cond.instanceMethod ({ cls := "QuarryOrdersModel", name := "isNext", desc := "(II)Z" } : Jvm.MethodName)) ∈ lw_all := lw_g (lw_at lw_m7 37 rfl) rfl
theorem q1566 : (Jvm.Cond.code ({ cls := "QuarryOrdersModel", name := "isNext", desc := "(II)Z" } : Jvm.MethodName) prog_8_method_74_code (3 : Nat) (Option.some Jvm.ClassFile.FieldType.boolean)) ∈ lw_all := lw_g (lw_at lw_m7 38 rfl) rfl
theorem q1567 : (Jvm.Cond.methodLink "QuarryOrdersModel" (223 : Nat) ({ cls := "QuarryOrdersModel", name := "takes", desc := "(II)I" } : Jvm.MethodName)) ∈ lw_all := lw_g (lw_at lw_m7 39 rfl) rfl
theorem q1568 : (Jvm.Cond.privateMethod ({ cls := "QuarryOrdersModel", name := "takes", desc := "(II)I" } : Jvm.MethodName)) ∈ lw_tbl := lw_at lw_m7 40 rfl
theorem q1569 : (Jvm.Cond.instanceMethod ({ cls := "QuarryOrdersModel", name := "takes", desc := "(II)I" } : Jvm.MethodName)) ∈ lw_all := lw_g (lw_at lw_m7 41 rfl) rfl
theorem q1570 : (Jvm.Cond.code ({ cls := "QuarryOrdersModel", name := "takes", desc := "(II)I" } : Jvm.MethodName) prog_8_method_75_code (4 : Nat) (Option.some Jvm.ClassFile.FieldType.int)) ∈ lw_all := lw_g (lw_at lw_m7 42 rfl) rfl
theorem q1571 : (Jvm.Cond.methodLink "QuarryOrdersModel" (229 : Nat) ({ cls := "QuarryOrdersModel", name := "takesNumber", desc := "()I" } : Jvm.MethodName)) ∈ lw_all := lw_g (lw_at lw_m7 43 rfl) rfl
theorem q1572 : (Jvm.Cond.privateMethod ({ cls := "QuarryOrdersModel", name := "takesNumber", desc := "()I" } : Jvm.MethodName)) ∈ lw_tbl := lw_at lw_m7 44 rfl
theorem q1573 : (Jvm.Cond.instanceMethod ({ cls := "QuarryOrdersModel", name := "takesNumber", desc := "()I" } : Jvm.MethodName)) ∈ lw_all := lw_g (lw_at lw_m7 45 rfl) rfl
theorem q1574 : (Jvm.Cond.code ({ cls := "QuarryOrdersModel", name := "takesNumber", desc := "()I" } : Jvm.MethodName) prog_8_method_76_code (3 : Nat) (Option.some Jvm.ClassFile.FieldType.int)) ∈ lw_all := lw_g (lw_at lw_m7 46 rfl) rfl
theorem q1575 : (Jvm.Cond.methodLink "QuarryOrdersModel" (232 : Nat) ({ cls := "QuarryOrdersModel", name := "takesBehind", desc := "(I)I" } : Jvm.MethodName)) ∈ lw_all := lw_g (lw_at lw_m7 47 rfl) rfl
theorem q1576 : (Jvm.Cond.privateMethod ({ cls := "QuarryOrdersModel", name := "takesBehind", desc := "(I)I" } : Jvm.MethodName)) ∈ lw_tbl := lw_at lw_m7 48 rfl
theorem q1577 : (Jvm.Cond.instanceMethod ({ cls := "QuarryOrdersModel", name := "takesBehind", desc := "(I)I" } : Jvm.MethodName)) ∈ lw_all := lw_g (lw_at lw_m7 49 rfl) rfl
theorem q1578 : (Jvm.Cond.code ({ cls := "QuarryOrdersModel", name := "takesBehind", desc := "(I)I" } : Jvm.MethodName) prog_8_method_77_code (3 : Nat) (Option.some Jvm.ClassFile.FieldType.int)) ∈ lw_all := lw_g (lw_at lw_m7 50 rfl) rfl
theorem q1580 : (Jvm.Cond.instanceMethod ({ cls := "QuarryOrdersModel", name := "carryOut", desc := "()I" } : Jvm.MethodName)) ∈ lw_all := lw_g (lw_at lw_m7 52 rfl) rfl
theorem q1581 : (Jvm.Cond.selects "QuarryOrdersModel" ({ cls := "QuarryOrdersModel", name := "carryOut", desc := "()I" } : Jvm.MethodName) ({ cls := "QuarryOrdersModel", name := "carryOut", desc := "()I" } : Jvm.MethodName)) ∈ lw_all := lw_g (lw_at lw_m7 53 rfl) rfl
theorem q1582 : (Jvm.Cond.code ({ cls := "QuarryOrdersModel", name := "carryOut", desc := "()I" } : Jvm.MethodName) prog_8_method_81_code (3 : Nat) (Option.some Jvm.ClassFile.FieldType.int)) ∈ lw_all := lw_g (lw_at lw_m7 54 rfl) rfl
theorem q1584 : (Jvm.Cond.instanceMethod ({ cls := "QuarryOrdersModel", name := "undo", desc := "()I" } : Jvm.MethodName)) ∈ lw_all := lw_g (lw_at lw_m7 56 rfl) rfl
theorem q1585 : (Jvm.Cond.selects "QuarryOrdersModel" ({ cls := "QuarryOrdersModel", name := "undo", desc := "()I" } : Jvm.MethodName) ({ cls := "QuarryOrdersModel", name := "undo", desc := "()I" } : Jvm.MethodName)) ∈ lw_all := lw_g (lw_at lw_m7 57 rfl) rfl
theorem q1586 : (Jvm.Cond.code ({ cls := "QuarryOrdersModel", name := "undo", desc := "()I" } : Jvm.MethodName) prog_8_method_82_code (2 : Nat) (Option.some Jvm.ClassFile.FieldType.int)) ∈ lw_all := lw_g (lw_at lw_m7 58 rfl) rfl
theorem q1588 : (Jvm.Cond.instanceMethod ({ cls := "QuarryOrdersModel", name := "save", desc := "(I)I" } : Jvm.MethodName)) ∈ lw_all := lw_g (lw_at lw_m7 60 rfl) rfl
theorem q1589 : (Jvm.Cond.selects "QuarryOrdersModel" ({ cls := "QuarryOrdersModel", name := "save", desc := "(I)I" } : Jvm.MethodName) ({ cls := "QuarryOrdersModel", name := "save", desc := "(I)I" } : Jvm.MethodName)) ∈ lw_all := lw_g (lw_at lw_m7 61 rfl) rfl
theorem q1590 : (Jvm.Cond.code ({ cls := "QuarryOrdersModel", name := "save", desc := "(I)I" } : Jvm.MethodName) prog_8_method_83_code (3 : Nat) (Option.some Jvm.ClassFile.FieldType.int)) ∈ lw_all := lw_g (lw_at lw_m7 62 rfl) rfl
theorem q1592 : (Jvm.Cond.instanceMethod ({ cls := "QuarryOrdersModel", name := "restore", desc := "(I)I" } : Jvm.MethodName)) ∈ lw_all := lw_g (lw_at lw_m7 64 rfl) rfl
theorem q1593 : (Jvm.Cond.selects "QuarryOrdersModel" ({ cls := "QuarryOrdersModel", name := "restore", desc := "(I)I" } : Jvm.MethodName) ({ cls := "QuarryOrdersModel", name := "restore", desc := "(I)I" } : Jvm.MethodName)) ∈ lw_all := lw_g (lw_at lw_m7 65 rfl) rfl
theorem q1594 : (Jvm.Cond.code ({ cls := "QuarryOrdersModel", name := "restore", desc := "(I)I" } : Jvm.MethodName) prog_8_method_84_code (3 : Nat) (Option.some Jvm.ClassFile.FieldType.int)) ∈ lw_all := lw_g (lw_at lw_m7 66 rfl) rfl
theorem q1608 : (Jvm.Cond.castable "QuarryOrdersModel" "java/lang/Object") ∈ lw_tbl := lw_at lw_m7 80 rfl
theorem in_X2 : ∀ w ∈ wsX20, w ∈ lw_all := lw_in wsX20 [1242, 1244, 1246, 1248, 1250, 1252, 1254, 1256, 1258, 1260, 1262, 1264] (by decide +kernel) (by decide +kernel)
